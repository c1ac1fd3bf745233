/-! THE CORE, third: the rules of the judgement gV, a row an instruction -/
set_option maxRecDepth 100000
section GR
variable {z : gZ} {l : Launch} {cc : ByteArray} {nL : Nat} {own : String} {ret : Option FieldType} {fr mc ms lc : Nat} {g : gWM} {kc ks pc q : Nat} {lo : List (Option Value)} {st : List Value}
theorem g_iadd (E : gEv z l cc nL own ret fr mc ms lc) {x y : Int32} (d : decode cc pc = .ok (.iadd, 1))  (hq : pc + 1 = q) (k : gV z g kc ks q lo (.int (x + y) :: st)) : gV z g kc ks pc lo (.int y :: .int x :: st) := by
  obtain ⟨p, l', e, R, s, m, args, below, meth, c, Q, D, dA, xad, ad0, g0⟩ := z
  obtain ⟨rfl, hx, hb, hml, hown, hts, hF, hr, hlk, rfl⟩ := E
  subst hq
  intro hst hlo ad H locs ls hW hl
  exact lv_iadd hx hb d  (k ⟨trivial, hst.2.2⟩ hlo ad H locs ls hW hl)
theorem g_isub (E : gEv z l cc nL own ret fr mc ms lc) {x y : Int32} (d : decode cc pc = .ok (.isub, 1))  (hq : pc + 1 = q) (k : gV z g kc ks q lo (.int (x - y) :: st)) : gV z g kc ks pc lo (.int y :: .int x :: st) := by
  obtain ⟨p, l', e, R, s, m, args, below, meth, c, Q, D, dA, xad, ad0, g0⟩ := z
  obtain ⟨rfl, hx, hb, hml, hown, hts, hF, hr, hlk, rfl⟩ := E
  subst hq
  intro hst hlo ad H locs ls hW hl
  exact lv_isub hx hb d  (k ⟨trivial, hst.2.2⟩ hlo ad H locs ls hW hl)
theorem g_imul (E : gEv z l cc nL own ret fr mc ms lc) {x y : Int32} (d : decode cc pc = .ok (.imul, 1))  (hq : pc + 1 = q) (k : gV z g kc ks q lo (.int (x * y) :: st)) : gV z g kc ks pc lo (.int y :: .int x :: st) := by
  obtain ⟨p, l', e, R, s, m, args, below, meth, c, Q, D, dA, xad, ad0, g0⟩ := z
  obtain ⟨rfl, hx, hb, hml, hown, hts, hF, hr, hlk, rfl⟩ := E
  subst hq
  intro hst hlo ad H locs ls hW hl
  exact lv_imul hx hb d  (k ⟨trivial, hst.2.2⟩ hlo ad H locs ls hW hl)
theorem g_iand (E : gEv z l cc nL own ret fr mc ms lc) {x y : Int32} (d : decode cc pc = .ok (.iand, 1))  (hq : pc + 1 = q) (k : gV z g kc ks q lo (.int (x &&& y) :: st)) : gV z g kc ks pc lo (.int y :: .int x :: st) := by
  obtain ⟨p, l', e, R, s, m, args, below, meth, c, Q, D, dA, xad, ad0, g0⟩ := z
  obtain ⟨rfl, hx, hb, hml, hown, hts, hF, hr, hlk, rfl⟩ := E
  subst hq
  intro hst hlo ad H locs ls hW hl
  exact lv_iand hx hb d  (k ⟨trivial, hst.2.2⟩ hlo ad H locs ls hW hl)
theorem g_ior (E : gEv z l cc nL own ret fr mc ms lc) {x y : Int32} (d : decode cc pc = .ok (.ior, 1))  (hq : pc + 1 = q) (k : gV z g kc ks q lo (.int (x ||| y) :: st)) : gV z g kc ks pc lo (.int y :: .int x :: st) := by
  obtain ⟨p, l', e, R, s, m, args, below, meth, c, Q, D, dA, xad, ad0, g0⟩ := z
  obtain ⟨rfl, hx, hb, hml, hown, hts, hF, hr, hlk, rfl⟩ := E
  subst hq
  intro hst hlo ad H locs ls hW hl
  exact lv_ior hx hb d  (k ⟨trivial, hst.2.2⟩ hlo ad H locs ls hW hl)
theorem g_ixor (E : gEv z l cc nL own ret fr mc ms lc) {x y : Int32} (d : decode cc pc = .ok (.ixor, 1))  (hq : pc + 1 = q) (k : gV z g kc ks q lo (.int (x ^^^ y) :: st)) : gV z g kc ks pc lo (.int y :: .int x :: st) := by
  obtain ⟨p, l', e, R, s, m, args, below, meth, c, Q, D, dA, xad, ad0, g0⟩ := z
  obtain ⟨rfl, hx, hb, hml, hown, hts, hF, hr, hlk, rfl⟩ := E
  subst hq
  intro hst hlo ad H locs ls hW hl
  exact lv_ixor hx hb d  (k ⟨trivial, hst.2.2⟩ hlo ad H locs ls hW hl)
theorem g_ishl (E : gEv z l cc nL own ret fr mc ms lc) {x y : Int32} (d : decode cc pc = .ok (.ishl, 1))  (hq : pc + 1 = q) (k : gV z g kc ks q lo (.int (x <<< (y &&& 31)) :: st)) : gV z g kc ks pc lo (.int y :: .int x :: st) := by
  obtain ⟨p, l', e, R, s, m, args, below, meth, c, Q, D, dA, xad, ad0, g0⟩ := z
  obtain ⟨rfl, hx, hb, hml, hown, hts, hF, hr, hlk, rfl⟩ := E
  subst hq
  intro hst hlo ad H locs ls hW hl
  exact lv_ishl hx hb d  (k ⟨trivial, hst.2.2⟩ hlo ad H locs ls hW hl)
theorem g_ishr (E : gEv z l cc nL own ret fr mc ms lc) {x y : Int32} (d : decode cc pc = .ok (.ishr, 1))  (hq : pc + 1 = q) (k : gV z g kc ks q lo (.int (x >>> (y &&& 31)) :: st)) : gV z g kc ks pc lo (.int y :: .int x :: st) := by
  obtain ⟨p, l', e, R, s, m, args, below, meth, c, Q, D, dA, xad, ad0, g0⟩ := z
  obtain ⟨rfl, hx, hb, hml, hown, hts, hF, hr, hlk, rfl⟩ := E
  subst hq
  intro hst hlo ad H locs ls hW hl
  exact lv_ishr hx hb d  (k ⟨trivial, hst.2.2⟩ hlo ad H locs ls hW hl)
theorem g_iushr (E : gEv z l cc nL own ret fr mc ms lc) {x y : Int32} (d : decode cc pc = .ok (.iushr, 1))  (hq : pc + 1 = q) (k : gV z g kc ks q lo (.int ((x.toUInt32 >>> (y.toUInt32 &&& Int32.toUInt32 31)).toInt32) :: st)) : gV z g kc ks pc lo (.int y :: .int x :: st) := by
  obtain ⟨p, l', e, R, s, m, args, below, meth, c, Q, D, dA, xad, ad0, g0⟩ := z
  obtain ⟨rfl, hx, hb, hml, hown, hts, hF, hr, hlk, rfl⟩ := E
  subst hq
  intro hst hlo ad H locs ls hW hl
  exact lv_iushr hx hb d rfl (k ⟨trivial, hst.2.2⟩ hlo ad H locs ls hW hl)
theorem g_idiv (E : gEv z l cc nL own ret fr mc ms lc) {x y : Int32} (d : decode cc pc = .ok (.idiv, 1)) (hne : ¬ y = 0) (hq : pc + 1 = q) (k : gV z g kc ks q lo (.int (x / y) :: st)) : gV z g kc ks pc lo (.int y :: .int x :: st) := by
  obtain ⟨p, l', e, R, s, m, args, below, meth, c, Q, D, dA, xad, ad0, g0⟩ := z
  obtain ⟨rfl, hx, hb, hml, hown, hts, hF, hr, hlk, rfl⟩ := E
  subst hq
  intro hst hlo ad H locs ls hW hl
  exact lv_idiv hx hb d hne (k ⟨trivial, hst.2.2⟩ hlo ad H locs ls hW hl)
theorem g_irem (E : gEv z l cc nL own ret fr mc ms lc) {x y : Int32} (d : decode cc pc = .ok (.irem, 1)) (hne : ¬ y = 0) (hq : pc + 1 = q) (k : gV z g kc ks q lo (.int (x - x / y * y) :: st)) : gV z g kc ks pc lo (.int y :: .int x :: st) := by
  obtain ⟨p, l', e, R, s, m, args, below, meth, c, Q, D, dA, xad, ad0, g0⟩ := z
  obtain ⟨rfl, hx, hb, hml, hown, hts, hF, hr, hlk, rfl⟩ := E
  subst hq
  intro hst hlo ad H locs ls hW hl
  exact lv_irem hx hb d hne (k ⟨trivial, hst.2.2⟩ hlo ad H locs ls hW hl)
theorem g_ladd (E : gEv z l cc nL own ret fr mc ms lc) {x y : Int64} (d : decode cc pc = .ok (.ladd, 1))  (hq : pc + 1 = q) (k : gV z g kc ks q lo (.long (x + y) :: st)) : gV z g kc ks pc lo (.long y :: .long x :: st) := by
  obtain ⟨p, l', e, R, s, m, args, below, meth, c, Q, D, dA, xad, ad0, g0⟩ := z
  obtain ⟨rfl, hx, hb, hml, hown, hts, hF, hr, hlk, rfl⟩ := E
  subst hq
  intro hst hlo ad H locs ls hW hl
  exact lv_ladd hx hb d  (k ⟨trivial, hst.2.2⟩ hlo ad H locs ls hW hl)
theorem g_lsub (E : gEv z l cc nL own ret fr mc ms lc) {x y : Int64} (d : decode cc pc = .ok (.lsub, 1))  (hq : pc + 1 = q) (k : gV z g kc ks q lo (.long (x - y) :: st)) : gV z g kc ks pc lo (.long y :: .long x :: st) := by
  obtain ⟨p, l', e, R, s, m, args, below, meth, c, Q, D, dA, xad, ad0, g0⟩ := z
  obtain ⟨rfl, hx, hb, hml, hown, hts, hF, hr, hlk, rfl⟩ := E
  subst hq
  intro hst hlo ad H locs ls hW hl
  exact lv_lsub hx hb d  (k ⟨trivial, hst.2.2⟩ hlo ad H locs ls hW hl)
theorem g_lmul (E : gEv z l cc nL own ret fr mc ms lc) {x y : Int64} (d : decode cc pc = .ok (.lmul, 1))  (hq : pc + 1 = q) (k : gV z g kc ks q lo (.long (x * y) :: st)) : gV z g kc ks pc lo (.long y :: .long x :: st) := by
  obtain ⟨p, l', e, R, s, m, args, below, meth, c, Q, D, dA, xad, ad0, g0⟩ := z
  obtain ⟨rfl, hx, hb, hml, hown, hts, hF, hr, hlk, rfl⟩ := E
  subst hq
  intro hst hlo ad H locs ls hW hl
  exact lv_lmul hx hb d  (k ⟨trivial, hst.2.2⟩ hlo ad H locs ls hW hl)
theorem g_ldiv (E : gEv z l cc nL own ret fr mc ms lc) {x y : Int64} (d : decode cc pc = .ok (.ldiv, 1)) (hne : ¬ y = 0) (hq : pc + 1 = q) (k : gV z g kc ks q lo (.long (x / y) :: st)) : gV z g kc ks pc lo (.long y :: .long x :: st) := by
  obtain ⟨p, l', e, R, s, m, args, below, meth, c, Q, D, dA, xad, ad0, g0⟩ := z
  obtain ⟨rfl, hx, hb, hml, hown, hts, hF, hr, hlk, rfl⟩ := E
  subst hq
  intro hst hlo ad H locs ls hW hl
  exact lv_ldiv hx hb d hne (k ⟨trivial, hst.2.2⟩ hlo ad H locs ls hW hl)
theorem g_lrem (E : gEv z l cc nL own ret fr mc ms lc) {x y : Int64} (d : decode cc pc = .ok (.lrem, 1)) (hne : ¬ y = 0) (hq : pc + 1 = q) (k : gV z g kc ks q lo (.long (x - x / y * y) :: st)) : gV z g kc ks pc lo (.long y :: .long x :: st) := by
  obtain ⟨p, l', e, R, s, m, args, below, meth, c, Q, D, dA, xad, ad0, g0⟩ := z
  obtain ⟨rfl, hx, hb, hml, hown, hts, hF, hr, hlk, rfl⟩ := E
  subst hq
  intro hst hlo ad H locs ls hW hl
  exact lv_lrem hx hb d hne (k ⟨trivial, hst.2.2⟩ hlo ad H locs ls hW hl)
theorem g_ineg (E : gEv z l cc nL own ret fr mc ms lc) {x : Int32} (d : decode cc pc = .ok (.ineg, 1))  (hq : pc + 1 = q) (k : gV z g kc ks q lo (.int (-x) :: st)) : gV z g kc ks pc lo (.int x :: st) := by
  obtain ⟨p, l', e, R, s, m, args, below, meth, c, Q, D, dA, xad, ad0, g0⟩ := z
  obtain ⟨rfl, hx, hb, hml, hown, hts, hF, hr, hlk, rfl⟩ := E
  subst hq
  intro hst hlo ad H locs ls hW hl
  exact lv_ineg hx hb d  (k hst hlo ad H locs ls hW hl)
theorem g_i2l (E : gEv z l cc nL own ret fr mc ms lc) {x : Int32} (d : decode cc pc = .ok (.i2l, 1))  (hq : pc + 1 = q) (k : gV z g kc ks q lo (.long x.toInt64 :: st)) : gV z g kc ks pc lo (.int x :: st) := by
  obtain ⟨p, l', e, R, s, m, args, below, meth, c, Q, D, dA, xad, ad0, g0⟩ := z
  obtain ⟨rfl, hx, hb, hml, hown, hts, hF, hr, hlk, rfl⟩ := E
  subst hq
  intro hst hlo ad H locs ls hW hl
  exact lv_i2l hx hb d rfl (k ⟨trivial, hst.2⟩ hlo ad H locs ls hW hl)
theorem g_l2i (E : gEv z l cc nL own ret fr mc ms lc) {x : Int64} (d : decode cc pc = .ok (.l2i, 1))  (hq : pc + 1 = q) (k : gV z g kc ks q lo (.int x.toInt32 :: st)) : gV z g kc ks pc lo (.long x :: st) := by
  obtain ⟨p, l', e, R, s, m, args, below, meth, c, Q, D, dA, xad, ad0, g0⟩ := z
  obtain ⟨rfl, hx, hb, hml, hown, hts, hF, hr, hlk, rfl⟩ := E
  subst hq
  intro hst hlo ad H locs ls hW hl
  exact lv_l2i hx hb d rfl (k ⟨trivial, hst.2⟩ hlo ad H locs ls hW hl)
theorem g_i2b (E : gEv z l cc nL own ret fr mc ms lc) {x : Int32} (d : decode cc pc = .ok (.i2b, 1))  (hq : pc + 1 = q) (k : gV z g kc ks q lo (.int x.toInt8.toInt32 :: st)) : gV z g kc ks pc lo (.int x :: st) := by
  obtain ⟨p, l', e, R, s, m, args, below, meth, c, Q, D, dA, xad, ad0, g0⟩ := z
  obtain ⟨rfl, hx, hb, hml, hown, hts, hF, hr, hlk, rfl⟩ := E
  subst hq
  intro hst hlo ad H locs ls hW hl
  exact lv_i2b hx hb d rfl (k ⟨trivial, hst.2⟩ hlo ad H locs ls hW hl)
theorem g_i2c (E : gEv z l cc nL own ret fr mc ms lc) {x : Int32} (d : decode cc pc = .ok (.i2c, 1))  (hq : pc + 1 = q) (k : gV z g kc ks q lo (.int (x.toUInt32 % 65536).toInt32 :: st)) : gV z g kc ks pc lo (.int x :: st) := by
  obtain ⟨p, l', e, R, s, m, args, below, meth, c, Q, D, dA, xad, ad0, g0⟩ := z
  obtain ⟨rfl, hx, hb, hml, hown, hts, hF, hr, hlk, rfl⟩ := E
  subst hq
  intro hst hlo ad H locs ls hW hl
  exact lv_i2c hx hb d rfl (k ⟨trivial, hst.2⟩ hlo ad H locs ls hW hl)
theorem g_iconst (E : gEv z l cc nL own ret fr mc ms lc) {n : Int} (v : Int32) (d : decode cc pc = .ok (.iconst n, 1)) (hv : Int32.ofInt n = v) (hq : pc + 1 = q) (k : gV z g kc ks q lo (.int v :: st)) : gV z g kc ks pc lo (st) := by
  obtain ⟨p, l', e, R, s, m, args, below, meth, c, Q, D, dA, xad, ad0, g0⟩ := z
  obtain ⟨rfl, hx, hb, hml, hown, hts, hF, hr, hlk, rfl⟩ := E
  subst hq
  intro hst hlo ad H locs ls hW hl
  exact lv_iconst hx hb d hv (k ⟨trivial, hst⟩ hlo ad H locs ls hW hl)
theorem g_bipush (E : gEv z l cc nL own ret fr mc ms lc) {n : Int} (v : Int32) (d : decode cc pc = .ok (.bipush n, 2)) (hv : (Int8.ofInt n).toInt32 = v) (hq : pc + 2 = q) (k : gV z g kc ks q lo (.int v :: st)) : gV z g kc ks pc lo (st) := by
  obtain ⟨p, l', e, R, s, m, args, below, meth, c, Q, D, dA, xad, ad0, g0⟩ := z
  obtain ⟨rfl, hx, hb, hml, hown, hts, hF, hr, hlk, rfl⟩ := E
  subst hq
  intro hst hlo ad H locs ls hW hl
  exact lv_bipush hx hb d hv (k ⟨trivial, hst⟩ hlo ad H locs ls hW hl)
theorem g_sipush (E : gEv z l cc nL own ret fr mc ms lc) {n : Int} (v : Int32) (d : decode cc pc = .ok (.sipush n, 3)) (hv : (Int16.ofInt n).toInt32 = v) (hq : pc + 3 = q) (k : gV z g kc ks q lo (.int v :: st)) : gV z g kc ks pc lo (st) := by
  obtain ⟨p, l', e, R, s, m, args, below, meth, c, Q, D, dA, xad, ad0, g0⟩ := z
  obtain ⟨rfl, hx, hb, hml, hown, hts, hF, hr, hlk, rfl⟩ := E
  subst hq
  intro hst hlo ad H locs ls hW hl
  exact lv_sipush hx hb d hv (k ⟨trivial, hst⟩ hlo ad H locs ls hW hl)
theorem g_lconst (E : gEv z l cc nL own ret fr mc ms lc) {n : Fin 2} (v : Int64) (d : decode cc pc = .ok (.lconst n, 1)) (hv : Int64.ofNat (n : Nat) = v) (hq : pc + 1 = q) (k : gV z g kc ks q lo (.long v :: st)) : gV z g kc ks pc lo (st) := by
  obtain ⟨p, l', e, R, s, m, args, below, meth, c, Q, D, dA, xad, ad0, g0⟩ := z
  obtain ⟨rfl, hx, hb, hml, hown, hts, hF, hr, hlk, rfl⟩ := E
  subst hq
  intro hst hlo ad H locs ls hW hl
  exact lv_lconst hx hb d hv (k ⟨trivial, hst⟩ hlo ad H locs ls hW hl)
theorem g_null (E : gEv z l cc nL own ret fr mc ms lc)  (d : decode cc pc = .ok (.aconst_null, 1))  (hq : pc + 1 = q) (k : gV z g kc ks q lo (.null :: st)) : gV z g kc ks pc lo (st) := by
  obtain ⟨p, l', e, R, s, m, args, below, meth, c, Q, D, dA, xad, ad0, g0⟩ := z
  obtain ⟨rfl, hx, hb, hml, hown, hts, hF, hr, hlk, rfl⟩ := E
  subst hq
  intro hst hlo ad H locs ls hW hl
  exact lv_null hx hb d  (k ⟨trivial, hst⟩ hlo ad H locs ls hW hl)
theorem g_ldc (E : gEv z l cc nL own ret fr mc ms lc) {i : Nat} (v : Int32) (d : decode cc pc = .ok (.ldc i, 2)) (hc : Cond.constant own i v ∈ lw_all) (hq : pc + 2 = q) (k : gV z g kc ks q lo (.int v :: st)) : gV z g kc ks pc lo (st) := by
  obtain ⟨p, l', e, R, s, m, args, below, meth, c, Q, D, dA, xad, ad0, g0⟩ := z
  obtain ⟨rfl, hx, hb, hml, hown, hts, hF, hr, hlk, rfl⟩ := E
  subst hq
  intro hst hlo ad H locs ls hW hl
  exact lv_ldc hx hb hown (hts _ hc) d (k ⟨trivial, hst⟩ hlo ad H locs ls hW hl)
theorem g_ldcw (E : gEv z l cc nL own ret fr mc ms lc) {i : Nat} (v : Int32) (d : decode cc pc = .ok (.ldc_w i, 3)) (hc : Cond.constant own i v ∈ lw_all) (hq : pc + 3 = q) (k : gV z g kc ks q lo (.int v :: st)) : gV z g kc ks pc lo (st) := by
  obtain ⟨p, l', e, R, s, m, args, below, meth, c, Q, D, dA, xad, ad0, g0⟩ := z
  obtain ⟨rfl, hx, hb, hml, hown, hts, hF, hr, hlk, rfl⟩ := E
  subst hq
  intro hst hlo ad H locs ls hW hl
  exact lv_ldcw hx hb hown (hts _ hc) d (k ⟨trivial, hst⟩ hlo ad H locs ls hW hl)
theorem g_ldc2 (E : gEv z l cc nL own ret fr mc ms lc) {i : Nat} (v : Int64) (d : decode cc pc = .ok (.ldc2_w i, 3)) (hc : Cond.constantLong own i v ∈ lw_all) (hq : pc + 3 = q) (k : gV z g kc ks q lo (.long v :: st)) : gV z g kc ks pc lo (st) := by
  obtain ⟨p, l', e, R, s, m, args, below, meth, c, Q, D, dA, xad, ad0, g0⟩ := z
  obtain ⟨rfl, hx, hb, hml, hown, hts, hF, hr, hlk, rfl⟩ := E
  subst hq
  intro hst hlo ad H locs ls hW hl
  exact lv_ldc2 hx hb hown (hts _ hc) d (k ⟨trivial, hst⟩ hlo ad H locs ls hW hl)
theorem g_iload_n (E : gEv z l cc nL own ret fr mc ms lc) {k9 : Fin 4} {i : Nat} {x : Int32} (d : decode cc pc = .ok (.iload_n k9, 1)) (hi : (k9 : Nat) = i) (hx1 : lo[i]? = some (some (.int x))) (hq : pc + 1 = q) (k : gV z g kc ks q lo (.int x :: st)) : gV z g kc ks pc lo (st) := by
  obtain ⟨p, l', e, R, s, m, args, below, meth, c, Q, D, dA, xad, ad0, g0⟩ := z
  obtain ⟨rfl, hx, hb, hml, hown, hts, hF, hr, hlk, rfl⟩ := E
  subst hq
  intro hst hlo ad H locs ls hW hl
  exact lv_iload_n hx hb d hi (hl.2.2 _ _ hx1) (k ⟨trivial, hst⟩ hlo ad H locs ls hW hl)
theorem g_iload (E : gEv z l cc nL own ret fr mc ms lc) {i : Nat} {x : Int32} (d : decode cc pc = .ok (.iload i, 2)) (hx1 : lo[i]? = some (some (.int x))) (hq : pc + 2 = q) (k : gV z g kc ks q lo (.int x :: st)) : gV z g kc ks pc lo (st) := by
  obtain ⟨p, l', e, R, s, m, args, below, meth, c, Q, D, dA, xad, ad0, g0⟩ := z
  obtain ⟨rfl, hx, hb, hml, hown, hts, hF, hr, hlk, rfl⟩ := E
  subst hq
  intro hst hlo ad H locs ls hW hl
  exact lv_iload hx hb d (hl.2.2 _ _ hx1) (k ⟨trivial, hst⟩ hlo ad H locs ls hW hl)
theorem g_lload_n (E : gEv z l cc nL own ret fr mc ms lc) {k9 : Fin 4} {i : Nat} {x : Int64} (d : decode cc pc = .ok (.lload_n k9, 1)) (hi : (k9 : Nat) = i) (hx1 : lo[i]? = some (some (.long x))) (hq : pc + 1 = q) (k : gV z g kc ks q lo (.long x :: st)) : gV z g kc ks pc lo (st) := by
  obtain ⟨p, l', e, R, s, m, args, below, meth, c, Q, D, dA, xad, ad0, g0⟩ := z
  obtain ⟨rfl, hx, hb, hml, hown, hts, hF, hr, hlk, rfl⟩ := E
  subst hq
  intro hst hlo ad H locs ls hW hl
  exact lv_lload_n hx hb d hi (hl.2.2 _ _ hx1) (k ⟨trivial, hst⟩ hlo ad H locs ls hW hl)
theorem g_lload (E : gEv z l cc nL own ret fr mc ms lc) {i : Nat} {x : Int64} (d : decode cc pc = .ok (.lload i, 2)) (hx1 : lo[i]? = some (some (.long x))) (hq : pc + 2 = q) (k : gV z g kc ks q lo (.long x :: st)) : gV z g kc ks pc lo (st) := by
  obtain ⟨p, l', e, R, s, m, args, below, meth, c, Q, D, dA, xad, ad0, g0⟩ := z
  obtain ⟨rfl, hx, hb, hml, hown, hts, hF, hr, hlk, rfl⟩ := E
  subst hq
  intro hst hlo ad H locs ls hW hl
  exact lv_lload hx hb d (hl.2.2 _ _ hx1) (k ⟨trivial, hst⟩ hlo ad H locs ls hW hl)
theorem g_aload_n (E : gEv z l cc nL own ret fr mc ms lc) {k9 : Fin 4} {i : Nat} {x : Nat} (d : decode cc pc = .ok (.aload_n k9, 1)) (hi : (k9 : Nat) = i) (hx1 : lo[i]? = some (some (.ref x))) (hq : pc + 1 = q) (k : gV z g kc ks q lo (.ref x :: st)) : gV z g kc ks pc lo (st) := by
  obtain ⟨p, l', e, R, s, m, args, below, meth, c, Q, D, dA, xad, ad0, g0⟩ := z
  obtain ⟨rfl, hx, hb, hml, hown, hts, hF, hr, hlk, rfl⟩ := E
  subst hq
  intro hst hlo ad H locs ls hW hl
  exact lv_aload_n hx hb d hi (hl.2.2 _ _ hx1) (k ⟨gcO_at hlo hx1, hst⟩ hlo ad H locs ls hW hl)
theorem g_aload (E : gEv z l cc nL own ret fr mc ms lc) {i : Nat} {x : Nat} (d : decode cc pc = .ok (.aload i, 2)) (hx1 : lo[i]? = some (some (.ref x))) (hq : pc + 2 = q) (k : gV z g kc ks q lo (.ref x :: st)) : gV z g kc ks pc lo (st) := by
  obtain ⟨p, l', e, R, s, m, args, below, meth, c, Q, D, dA, xad, ad0, g0⟩ := z
  obtain ⟨rfl, hx, hb, hml, hown, hts, hF, hr, hlk, rfl⟩ := E
  subst hq
  intro hst hlo ad H locs ls hW hl
  exact lv_aload hx hb d (hl.2.2 _ _ hx1) (k ⟨gcO_at hlo hx1, hst⟩ hlo ad H locs ls hW hl)
theorem g_aload_nN (E : gEv z l cc nL own ret fr mc ms lc) {k9 : Fin 4} {i : Nat} (d : decode cc pc = .ok (.aload_n k9, 1)) (hi : (k9 : Nat) = i) (hx1 : lo[i]? = some (some .null)) (hq : pc + 1 = q) (k : gV z g kc ks q lo (.null :: st)) : gV z g kc ks pc lo (st) := by
  obtain ⟨p, l', e, R, s, m, args, below, meth, c, Q, D, dA, xad, ad0, g0⟩ := z
  obtain ⟨rfl, hx, hb, hml, hown, hts, hF, hr, hlk, rfl⟩ := E
  subst hq
  intro hst hlo ad H locs ls hW hl
  exact lv_aload_nN hx hb d hi (hl.2.2 _ _ hx1) (k ⟨trivial, hst⟩ hlo ad H locs ls hW hl)
theorem g_aloadN (E : gEv z l cc nL own ret fr mc ms lc) {i : Nat} (d : decode cc pc = .ok (.aload i, 2)) (hx1 : lo[i]? = some (some .null)) (hq : pc + 2 = q) (k : gV z g kc ks q lo (.null :: st)) : gV z g kc ks pc lo (st) := by
  obtain ⟨p, l', e, R, s, m, args, below, meth, c, Q, D, dA, xad, ad0, g0⟩ := z
  obtain ⟨rfl, hx, hb, hml, hown, hts, hF, hr, hlk, rfl⟩ := E
  subst hq
  intro hst hlo ad H locs ls hW hl
  exact lv_aloadN hx hb d (hl.2.2 _ _ hx1) (k ⟨trivial, hst⟩ hlo ad H locs ls hW hl)
theorem g_istore_n (E : gEv z l cc nL own ret fr mc ms lc) {k9 : Fin 4} {i : Nat} {x : Int32} (d : decode cc pc = .ok (.istore_n k9, 1)) (hi : (k9 : Nat) = i) (hn : i < nL) (h2 : gno2 lo i = true) {lo1 : List (Option Value)} (h3 : lo.set i (some (.int x)) = lo1) (hq : pc + 1 = q) (k : gV z g kc ks q lo1 st) : gV z g kc ks pc lo (.int x :: st) := by
  obtain ⟨p, l', e, R, s, m, args, below, meth, c, Q, D, dA, xad, ad0, g0⟩ := z
  obtain ⟨rfl, hx, hb, hml, hown, hts, hF, hr, hlk, rfl⟩ := E
  subst hq
  subst h3
  intro hst hlo ad H locs ls hW hl
  refine lv_istore_n (nL := c.maxLocals) hx hb d hi hl.has (by rw [hml]; exact hn) rfl (fun ls1 hl1 => ?_)
  exact k hst.2 (gcO_set hlo (fun v h => by cases h; trivial)) ad H locs ls1 hW (gst1 (x := .int x) hl1 h2)
theorem g_istore (E : gEv z l cc nL own ret fr mc ms lc) {i : Nat} {x : Int32} (d : decode cc pc = .ok (.istore i, 2))  (hn : i < nL) (h2 : gno2 lo i = true) {lo1 : List (Option Value)} (h3 : lo.set i (some (.int x)) = lo1) (hq : pc + 2 = q) (k : gV z g kc ks q lo1 st) : gV z g kc ks pc lo (.int x :: st) := by
  obtain ⟨p, l', e, R, s, m, args, below, meth, c, Q, D, dA, xad, ad0, g0⟩ := z
  obtain ⟨rfl, hx, hb, hml, hown, hts, hF, hr, hlk, rfl⟩ := E
  subst hq
  subst h3
  intro hst hlo ad H locs ls hW hl
  refine lv_istore (nL := c.maxLocals) hx hb d hl.has (by rw [hml]; exact hn) rfl (fun ls1 hl1 => ?_)
  exact k hst.2 (gcO_set hlo (fun v h => by cases h; trivial)) ad H locs ls1 hW (gst1 (x := .int x) hl1 h2)
theorem g_lstore_n (E : gEv z l cc nL own ret fr mc ms lc) {k9 : Fin 4} {i : Nat} {x : Int64} (d : decode cc pc = .ok (.lstore_n k9, 1)) (hi : (k9 : Nat) = i) (hn : i + 1 < nL) (h2 : gno2 lo i = true) {lo1 : List (Option Value)} (h3 : (lo.set i (some (.long x))).set (i + 1) none = lo1) (hq : pc + 1 = q) (k : gV z g kc ks q lo1 st) : gV z g kc ks pc lo (.long x :: st) := by
  obtain ⟨p, l', e, R, s, m, args, below, meth, c, Q, D, dA, xad, ad0, g0⟩ := z
  obtain ⟨rfl, hx, hb, hml, hown, hts, hF, hr, hlk, rfl⟩ := E
  subst hq
  subst h3
  intro hst hlo ad H locs ls hW hl
  refine lv_lstore_n (nL := c.maxLocals) hx hb d hi hl.has (by rw [hml]; exact hn) rfl (fun ls1 hl1 => ?_)
  exact k hst.2 (gcO_set (gcO_set hlo (fun v h => by cases h; trivial)) (fun v h => by cases h)) ad H locs ls1 hW (gst2 (x := .long x) hl1 h2)
theorem g_lstore (E : gEv z l cc nL own ret fr mc ms lc) {i : Nat} {x : Int64} (d : decode cc pc = .ok (.lstore i, 2))  (hn : i + 1 < nL) (h2 : gno2 lo i = true) {lo1 : List (Option Value)} (h3 : (lo.set i (some (.long x))).set (i + 1) none = lo1) (hq : pc + 2 = q) (k : gV z g kc ks q lo1 st) : gV z g kc ks pc lo (.long x :: st) := by
  obtain ⟨p, l', e, R, s, m, args, below, meth, c, Q, D, dA, xad, ad0, g0⟩ := z
  obtain ⟨rfl, hx, hb, hml, hown, hts, hF, hr, hlk, rfl⟩ := E
  subst hq
  subst h3
  intro hst hlo ad H locs ls hW hl
  refine lv_lstore (nL := c.maxLocals) hx hb d hl.has (by rw [hml]; exact hn) rfl (fun ls1 hl1 => ?_)
  exact k hst.2 (gcO_set (gcO_set hlo (fun v h => by cases h; trivial)) (fun v h => by cases h)) ad H locs ls1 hW (gst2 (x := .long x) hl1 h2)
theorem g_astore_n (E : gEv z l cc nL own ret fr mc ms lc) {k9 : Fin 4} {i : Nat} {x : Nat} (d : decode cc pc = .ok (.astore_n k9, 1)) (hi : (k9 : Nat) = i) (hn : i < nL) (h2 : gno2 lo i = true) {lo1 : List (Option Value)} (h3 : lo.set i (some (.ref x)) = lo1) (hq : pc + 1 = q) (k : gV z g kc ks q lo1 st) : gV z g kc ks pc lo (.ref x :: st) := by
  obtain ⟨p, l', e, R, s, m, args, below, meth, c, Q, D, dA, xad, ad0, g0⟩ := z
  obtain ⟨rfl, hx, hb, hml, hown, hts, hF, hr, hlk, rfl⟩ := E
  subst hq
  subst h3
  intro hst hlo ad H locs ls hW hl
  refine lv_astore_n (nL := c.maxLocals) hx hb d hi hl.has (by rw [hml]; exact hn) rfl (fun ls1 hl1 => ?_)
  exact k hst.2 (gcO_set hlo (fun v h => by cases h; exact hst.1)) ad H locs ls1 hW (gst1 (x := .ref x) hl1 h2)
theorem g_astore (E : gEv z l cc nL own ret fr mc ms lc) {i : Nat} {x : Nat} (d : decode cc pc = .ok (.astore i, 2))  (hn : i < nL) (h2 : gno2 lo i = true) {lo1 : List (Option Value)} (h3 : lo.set i (some (.ref x)) = lo1) (hq : pc + 2 = q) (k : gV z g kc ks q lo1 st) : gV z g kc ks pc lo (.ref x :: st) := by
  obtain ⟨p, l', e, R, s, m, args, below, meth, c, Q, D, dA, xad, ad0, g0⟩ := z
  obtain ⟨rfl, hx, hb, hml, hown, hts, hF, hr, hlk, rfl⟩ := E
  subst hq
  subst h3
  intro hst hlo ad H locs ls hW hl
  refine lv_astore (nL := c.maxLocals) hx hb d hl.has (by rw [hml]; exact hn) rfl (fun ls1 hl1 => ?_)
  exact k hst.2 (gcO_set hlo (fun v h => by cases h; exact hst.1)) ad H locs ls1 hW (gst1 (x := .ref x) hl1 h2)
theorem g_astore_nN (E : gEv z l cc nL own ret fr mc ms lc) {k9 : Fin 4} {i : Nat} (d : decode cc pc = .ok (.astore_n k9, 1)) (hi : (k9 : Nat) = i) (hn : i < nL) (h2 : gno2 lo i = true) {lo1 : List (Option Value)} (h3 : lo.set i (some (.null)) = lo1) (hq : pc + 1 = q) (k : gV z g kc ks q lo1 st) : gV z g kc ks pc lo (.null :: st) := by
  obtain ⟨p, l', e, R, s, m, args, below, meth, c, Q, D, dA, xad, ad0, g0⟩ := z
  obtain ⟨rfl, hx, hb, hml, hown, hts, hF, hr, hlk, rfl⟩ := E
  subst hq
  subst h3
  intro hst hlo ad H locs ls hW hl
  refine lv_astore_nN (nL := c.maxLocals) hx hb d hi hl.has (by rw [hml]; exact hn) rfl (fun ls1 hl1 => ?_)
  exact k hst.2 (gcO_set hlo (fun v h => by cases h; trivial)) ad H locs ls1 hW (gst1 (x := .null) hl1 h2)
theorem g_astoreN (E : gEv z l cc nL own ret fr mc ms lc) {i : Nat} (d : decode cc pc = .ok (.astore i, 2))  (hn : i < nL) (h2 : gno2 lo i = true) {lo1 : List (Option Value)} (h3 : lo.set i (some (.null)) = lo1) (hq : pc + 2 = q) (k : gV z g kc ks q lo1 st) : gV z g kc ks pc lo (.null :: st) := by
  obtain ⟨p, l', e, R, s, m, args, below, meth, c, Q, D, dA, xad, ad0, g0⟩ := z
  obtain ⟨rfl, hx, hb, hml, hown, hts, hF, hr, hlk, rfl⟩ := E
  subst hq
  subst h3
  intro hst hlo ad H locs ls hW hl
  refine lv_astoreN (nL := c.maxLocals) hx hb d hl.has (by rw [hml]; exact hn) rfl (fun ls1 hl1 => ?_)
  exact k hst.2 (gcO_set hlo (fun v h => by cases h; trivial)) ad H locs ls1 hW (gst1 (x := .null) hl1 h2)
theorem g_iinc (E : gEv z l cc nL own ret fr mc ms lc) {i : Nat} {n : Int} {x v : Int32} (d : decode cc pc = .ok (.iinc i n, 3)) (hx1 : lo[i]? = some (some (.int x))) (hv : x + Int32.ofInt n = v) (hn : i < nL) (h2 : gno2 lo i = true) {lo1 : List (Option Value)} (h3 : lo.set i (some (.int v)) = lo1) (hq : pc + 3 = q) (k : gV z g kc ks q lo1 st) : gV z g kc ks pc lo st := by
  obtain ⟨p, l', e, R, s, m, args, below, meth, c, Q, D, dA, xad, ad0, g0⟩ := z
  obtain ⟨rfl, hx, hb, hml, hown, hts, hF, hr, hlk, rfl⟩ := E
  subst hq
  subst h3
  intro hst hlo ad H locs ls hW hl
  obtain ⟨k0, hk0⟩ := List.getElem?_of_mem (gpr_mem (ad := ad).mpr ⟨_, hx1, rfl⟩)
  refine lv_iinc (nL := c.maxLocals) hx hb d hl.has hk0 hv (by rw [hml]; exact hn) rfl (fun ls1 hl1 => ?_)
  exact k hst (gcO_set hlo (fun v h => by cases h; trivial)) ad H locs ls1 hW (gst1 (x := .int v) hl1 h2)
theorem g_if_eq (E : gEv z l cc nL own ret fr mc ms lc) {x : Int32} {off : Int} (d : decode cc pc = .ok (.ifCond .eq off, 3)) {tgt : Nat} (ht : (pc : Int) + off = (tgt : Int)) (hq : pc + 3 = q) (kt : x = 0 → gV z g kc ks tgt lo st) (kf : ¬ x = 0 → gV z g kc ks q lo st) : gV z g kc ks pc lo (.int x :: st) := by
  obtain ⟨p, l', e, R, s, m, args, below, meth, c, Q, D, dA, xad, ad0, g0⟩ := z
  obtain ⟨rfl, hx, hb, hml, hown, hts, hF, hr, hlk, rfl⟩ := E
  subst hq
  intro hst hlo ad H locs ls hW hl
  exact lv_if_eq hx hb d ht (fun h9 => kt h9 hst.2 hlo ad H locs ls hW hl) (fun h9 => kf h9 hst.2 hlo ad H locs ls hW hl)
theorem g_icmp_eq (E : gEv z l cc nL own ret fr mc ms lc) {x y : Int32} {off : Int} (d : decode cc pc = .ok (.if_icmp .eq off, 3)) {tgt : Nat} (ht : (pc : Int) + off = (tgt : Int)) (hq : pc + 3 = q) (kt : x = y → gV z g kc ks tgt lo st) (kf : ¬ x = y → gV z g kc ks q lo st) : gV z g kc ks pc lo (.int y :: .int x :: st) := by
  obtain ⟨p, l', e, R, s, m, args, below, meth, c, Q, D, dA, xad, ad0, g0⟩ := z
  obtain ⟨rfl, hx, hb, hml, hown, hts, hF, hr, hlk, rfl⟩ := E
  subst hq
  intro hst hlo ad H locs ls hW hl
  exact lv_icmp_eq hx hb d ht (fun h9 => kt h9 hst.2.2 hlo ad H locs ls hW hl) (fun h9 => kf h9 hst.2.2 hlo ad H locs ls hW hl)
theorem g_if_ne (E : gEv z l cc nL own ret fr mc ms lc) {x : Int32} {off : Int} (d : decode cc pc = .ok (.ifCond .ne off, 3)) {tgt : Nat} (ht : (pc : Int) + off = (tgt : Int)) (hq : pc + 3 = q) (kt : ¬ x = 0 → gV z g kc ks tgt lo st) (kf : x = 0 → gV z g kc ks q lo st) : gV z g kc ks pc lo (.int x :: st) := by
  obtain ⟨p, l', e, R, s, m, args, below, meth, c, Q, D, dA, xad, ad0, g0⟩ := z
  obtain ⟨rfl, hx, hb, hml, hown, hts, hF, hr, hlk, rfl⟩ := E
  subst hq
  intro hst hlo ad H locs ls hW hl
  exact lv_if_ne hx hb d ht (fun h9 => kt h9 hst.2 hlo ad H locs ls hW hl) (fun h9 => kf h9 hst.2 hlo ad H locs ls hW hl)
theorem g_icmp_ne (E : gEv z l cc nL own ret fr mc ms lc) {x y : Int32} {off : Int} (d : decode cc pc = .ok (.if_icmp .ne off, 3)) {tgt : Nat} (ht : (pc : Int) + off = (tgt : Int)) (hq : pc + 3 = q) (kt : ¬ x = y → gV z g kc ks tgt lo st) (kf : x = y → gV z g kc ks q lo st) : gV z g kc ks pc lo (.int y :: .int x :: st) := by
  obtain ⟨p, l', e, R, s, m, args, below, meth, c, Q, D, dA, xad, ad0, g0⟩ := z
  obtain ⟨rfl, hx, hb, hml, hown, hts, hF, hr, hlk, rfl⟩ := E
  subst hq
  intro hst hlo ad H locs ls hW hl
  exact lv_icmp_ne hx hb d ht (fun h9 => kt h9 hst.2.2 hlo ad H locs ls hW hl) (fun h9 => kf h9 hst.2.2 hlo ad H locs ls hW hl)
theorem g_if_lt (E : gEv z l cc nL own ret fr mc ms lc) {x : Int32} {off : Int} (d : decode cc pc = .ok (.ifCond .lt off, 3)) {tgt : Nat} (ht : (pc : Int) + off = (tgt : Int)) (hq : pc + 3 = q) (kt : x < 0 → gV z g kc ks tgt lo st) (kf : ¬ x < 0 → gV z g kc ks q lo st) : gV z g kc ks pc lo (.int x :: st) := by
  obtain ⟨p, l', e, R, s, m, args, below, meth, c, Q, D, dA, xad, ad0, g0⟩ := z
  obtain ⟨rfl, hx, hb, hml, hown, hts, hF, hr, hlk, rfl⟩ := E
  subst hq
  intro hst hlo ad H locs ls hW hl
  exact lv_if_lt hx hb d ht (fun h9 => kt h9 hst.2 hlo ad H locs ls hW hl) (fun h9 => kf h9 hst.2 hlo ad H locs ls hW hl)
theorem g_icmp_lt (E : gEv z l cc nL own ret fr mc ms lc) {x y : Int32} {off : Int} (d : decode cc pc = .ok (.if_icmp .lt off, 3)) {tgt : Nat} (ht : (pc : Int) + off = (tgt : Int)) (hq : pc + 3 = q) (kt : x < y → gV z g kc ks tgt lo st) (kf : ¬ x < y → gV z g kc ks q lo st) : gV z g kc ks pc lo (.int y :: .int x :: st) := by
  obtain ⟨p, l', e, R, s, m, args, below, meth, c, Q, D, dA, xad, ad0, g0⟩ := z
  obtain ⟨rfl, hx, hb, hml, hown, hts, hF, hr, hlk, rfl⟩ := E
  subst hq
  intro hst hlo ad H locs ls hW hl
  exact lv_icmp_lt hx hb d ht (fun h9 => kt h9 hst.2.2 hlo ad H locs ls hW hl) (fun h9 => kf h9 hst.2.2 hlo ad H locs ls hW hl)
theorem g_if_ge (E : gEv z l cc nL own ret fr mc ms lc) {x : Int32} {off : Int} (d : decode cc pc = .ok (.ifCond .ge off, 3)) {tgt : Nat} (ht : (pc : Int) + off = (tgt : Int)) (hq : pc + 3 = q) (kt : 0 ≤ x → gV z g kc ks tgt lo st) (kf : ¬ 0 ≤ x → gV z g kc ks q lo st) : gV z g kc ks pc lo (.int x :: st) := by
  obtain ⟨p, l', e, R, s, m, args, below, meth, c, Q, D, dA, xad, ad0, g0⟩ := z
  obtain ⟨rfl, hx, hb, hml, hown, hts, hF, hr, hlk, rfl⟩ := E
  subst hq
  intro hst hlo ad H locs ls hW hl
  exact lv_if_ge hx hb d ht (fun h9 => kt h9 hst.2 hlo ad H locs ls hW hl) (fun h9 => kf h9 hst.2 hlo ad H locs ls hW hl)
theorem g_icmp_ge (E : gEv z l cc nL own ret fr mc ms lc) {x y : Int32} {off : Int} (d : decode cc pc = .ok (.if_icmp .ge off, 3)) {tgt : Nat} (ht : (pc : Int) + off = (tgt : Int)) (hq : pc + 3 = q) (kt : y ≤ x → gV z g kc ks tgt lo st) (kf : ¬ y ≤ x → gV z g kc ks q lo st) : gV z g kc ks pc lo (.int y :: .int x :: st) := by
  obtain ⟨p, l', e, R, s, m, args, below, meth, c, Q, D, dA, xad, ad0, g0⟩ := z
  obtain ⟨rfl, hx, hb, hml, hown, hts, hF, hr, hlk, rfl⟩ := E
  subst hq
  intro hst hlo ad H locs ls hW hl
  exact lv_icmp_ge hx hb d ht (fun h9 => kt h9 hst.2.2 hlo ad H locs ls hW hl) (fun h9 => kf h9 hst.2.2 hlo ad H locs ls hW hl)
theorem g_if_gt (E : gEv z l cc nL own ret fr mc ms lc) {x : Int32} {off : Int} (d : decode cc pc = .ok (.ifCond .gt off, 3)) {tgt : Nat} (ht : (pc : Int) + off = (tgt : Int)) (hq : pc + 3 = q) (kt : 0 < x → gV z g kc ks tgt lo st) (kf : ¬ 0 < x → gV z g kc ks q lo st) : gV z g kc ks pc lo (.int x :: st) := by
  obtain ⟨p, l', e, R, s, m, args, below, meth, c, Q, D, dA, xad, ad0, g0⟩ := z
  obtain ⟨rfl, hx, hb, hml, hown, hts, hF, hr, hlk, rfl⟩ := E
  subst hq
  intro hst hlo ad H locs ls hW hl
  exact lv_if_gt hx hb d ht (fun h9 => kt h9 hst.2 hlo ad H locs ls hW hl) (fun h9 => kf h9 hst.2 hlo ad H locs ls hW hl)
theorem g_icmp_gt (E : gEv z l cc nL own ret fr mc ms lc) {x y : Int32} {off : Int} (d : decode cc pc = .ok (.if_icmp .gt off, 3)) {tgt : Nat} (ht : (pc : Int) + off = (tgt : Int)) (hq : pc + 3 = q) (kt : y < x → gV z g kc ks tgt lo st) (kf : ¬ y < x → gV z g kc ks q lo st) : gV z g kc ks pc lo (.int y :: .int x :: st) := by
  obtain ⟨p, l', e, R, s, m, args, below, meth, c, Q, D, dA, xad, ad0, g0⟩ := z
  obtain ⟨rfl, hx, hb, hml, hown, hts, hF, hr, hlk, rfl⟩ := E
  subst hq
  intro hst hlo ad H locs ls hW hl
  exact lv_icmp_gt hx hb d ht (fun h9 => kt h9 hst.2.2 hlo ad H locs ls hW hl) (fun h9 => kf h9 hst.2.2 hlo ad H locs ls hW hl)
theorem g_if_le (E : gEv z l cc nL own ret fr mc ms lc) {x : Int32} {off : Int} (d : decode cc pc = .ok (.ifCond .le off, 3)) {tgt : Nat} (ht : (pc : Int) + off = (tgt : Int)) (hq : pc + 3 = q) (kt : x ≤ 0 → gV z g kc ks tgt lo st) (kf : ¬ x ≤ 0 → gV z g kc ks q lo st) : gV z g kc ks pc lo (.int x :: st) := by
  obtain ⟨p, l', e, R, s, m, args, below, meth, c, Q, D, dA, xad, ad0, g0⟩ := z
  obtain ⟨rfl, hx, hb, hml, hown, hts, hF, hr, hlk, rfl⟩ := E
  subst hq
  intro hst hlo ad H locs ls hW hl
  exact lv_if_le hx hb d ht (fun h9 => kt h9 hst.2 hlo ad H locs ls hW hl) (fun h9 => kf h9 hst.2 hlo ad H locs ls hW hl)
theorem g_icmp_le (E : gEv z l cc nL own ret fr mc ms lc) {x y : Int32} {off : Int} (d : decode cc pc = .ok (.if_icmp .le off, 3)) {tgt : Nat} (ht : (pc : Int) + off = (tgt : Int)) (hq : pc + 3 = q) (kt : x ≤ y → gV z g kc ks tgt lo st) (kf : ¬ x ≤ y → gV z g kc ks q lo st) : gV z g kc ks pc lo (.int y :: .int x :: st) := by
  obtain ⟨p, l', e, R, s, m, args, below, meth, c, Q, D, dA, xad, ad0, g0⟩ := z
  obtain ⟨rfl, hx, hb, hml, hown, hts, hF, hr, hlk, rfl⟩ := E
  subst hq
  intro hst hlo ad H locs ls hW hl
  exact lv_icmp_le hx hb d ht (fun h9 => kt h9 hst.2.2 hlo ad H locs ls hW hl) (fun h9 => kf h9 hst.2.2 hlo ad H locs ls hW hl)
theorem g_goto (E : gEv z l cc nL own ret fr mc ms lc) {off : Int} (d : decode cc pc = .ok (.goto off, 3)) {tgt : Nat} (ht : (pc : Int) + off = (tgt : Int)) (k : gV z g kc ks tgt lo st) : gV z g kc ks pc lo st := by
  obtain ⟨p, l', e, R, s, m, args, below, meth, c, Q, D, dA, xad, ad0, g0⟩ := z
  obtain ⟨rfl, hx, hb, hml, hown, hts, hF, hr, hlk, rfl⟩ := E
  intro hst hlo ad H locs ls hW hl
  exact lv_goto hx hb d ht (k hst hlo ad H locs ls hW hl)
theorem g_ifnullY (E : gEv z l cc nL own ret fr mc ms lc) {off : Int} (d : decode cc pc = .ok (.ifnull off, 3)) {tgt : Nat} (ht : (pc : Int) + off = (tgt : Int)) (k : gV z g kc ks tgt lo st) : gV z g kc ks pc lo (.null :: st) := by
  obtain ⟨p, l', e, R, s, m, args, below, meth, c, Q, D, dA, xad, ad0, g0⟩ := z
  obtain ⟨rfl, hx, hb, hml, hown, hts, hF, hr, hlk, rfl⟩ := E
  intro hst hlo ad H locs ls hW hl
  exact lv_ifnullN hx hb d ht (k hst.2 hlo ad H locs ls hW hl)
theorem g_ifnullN (E : gEv z l cc nL own ret fr mc ms lc) {x : Nat} {off : Int} (d : decode cc pc = .ok (.ifnull off, 3)) (hq : pc + 3 = q) (k : gV z g kc ks q lo st) : gV z g kc ks pc lo (.ref x :: st) := by
  obtain ⟨p, l', e, R, s, m, args, below, meth, c, Q, D, dA, xad, ad0, g0⟩ := z
  obtain ⟨rfl, hx, hb, hml, hown, hts, hF, hr, hlk, rfl⟩ := E
  subst hq
  intro hst hlo ad H locs ls hW hl
  exact lv_ifnull hx hb d (k hst.2 hlo ad H locs ls hW hl)
theorem g_ifnonnullY (E : gEv z l cc nL own ret fr mc ms lc) {x : Nat} {off : Int} (d : decode cc pc = .ok (.ifnonnull off, 3)) {tgt : Nat} (ht : (pc : Int) + off = (tgt : Int)) (k : gV z g kc ks tgt lo st) : gV z g kc ks pc lo (.ref x :: st) := by
  obtain ⟨p, l', e, R, s, m, args, below, meth, c, Q, D, dA, xad, ad0, g0⟩ := z
  obtain ⟨rfl, hx, hb, hml, hown, hts, hF, hr, hlk, rfl⟩ := E
  intro hst hlo ad H locs ls hW hl
  exact lv_ifnonnull hx hb d ht (k hst.2 hlo ad H locs ls hW hl)
theorem g_ifnonnullN (E : gEv z l cc nL own ret fr mc ms lc) {off : Int} (d : decode cc pc = .ok (.ifnonnull off, 3)) (hq : pc + 3 = q) (k : gV z g kc ks q lo st) : gV z g kc ks pc lo (.null :: st) := by
  obtain ⟨p, l', e, R, s, m, args, below, meth, c, Q, D, dA, xad, ad0, g0⟩ := z
  obtain ⟨rfl, hx, hb, hml, hown, hts, hF, hr, hlk, rfl⟩ := E
  subst hq
  intro hst hlo ad H locs ls hW hl
  exact lv_ifnonnullN hx hb d (k hst.2 hlo ad H locs ls hW hl)
theorem g_dup (E : gEv z l cc nL own ret fr mc ms lc) {v : Value} (d : decode cc pc = .ok (.dup, 1)) (hv : v.category = 1) (hq : pc + 1 = q) (k : gV z g kc ks q lo (v :: v :: st)) : gV z g kc ks pc lo (v :: st) := by
  obtain ⟨p, l', e, R, s, m, args, below, meth, c, Q, D, dA, xad, ad0, g0⟩ := z
  obtain ⟨rfl, hx, hb, hml, hown, hts, hF, hr, hlk, rfl⟩ := E
  subst hq
  intro hst hlo ad H locs ls hW hl
  exact lv_dup hx hb d ((gmv_cat ad v).trans hv) (k ⟨hst.1, hst⟩ hlo ad H locs ls hW hl)
theorem g_pop (E : gEv z l cc nL own ret fr mc ms lc) {v : Value} (d : decode cc pc = .ok (.pop, 1)) (hv : v.category = 1) (hq : pc + 1 = q) (k : gV z g kc ks q lo st) : gV z g kc ks pc lo (v :: st) := by
  obtain ⟨p, l', e, R, s, m, args, below, meth, c, Q, D, dA, xad, ad0, g0⟩ := z
  obtain ⟨rfl, hx, hb, hml, hown, hts, hF, hr, hlk, rfl⟩ := E
  subst hq
  intro hst hlo ad H locs ls hW hl
  exact lv_pop hx hb d ((gmv_cat ad v).trans hv) (k hst.2 hlo ad H locs ls hW hl)
theorem g_dup_x1 (E : gEv z l cc nL own ret fr mc ms lc) {v w : Value} (d : decode cc pc = .ok (.dup_x1, 1)) (hv : v.category = 1) (hw : w.category = 1) (hq : pc + 1 = q) (k : gV z g kc ks q lo (v :: w :: v :: st)) : gV z g kc ks pc lo (v :: w :: st) := by
  obtain ⟨p, l', e, R, s, m, args, below, meth, c, Q, D, dA, xad, ad0, g0⟩ := z
  obtain ⟨rfl, hx, hb, hml, hown, hts, hF, hr, hlk, rfl⟩ := E
  subst hq
  intro hst hlo ad H locs ls hW hl
  exact lv_dup_x1 hx hb d ((gmv_cat ad v).trans hv) ((gmv_cat ad w).trans hw) (k ⟨hst.1, hst.2.1, hst.1, hst.2.2⟩ hlo ad H locs ls hW hl)
theorem g_dup2 (E : gEv z l cc nL own ret fr mc ms lc) {v w : Value} (d : decode cc pc = .ok (.dup2, 1)) (hv : v.category = 1) (hw : w.category = 1) (hq : pc + 1 = q) (k : gV z g kc ks q lo (v :: w :: v :: w :: st)) : gV z g kc ks pc lo (v :: w :: st) := by
  obtain ⟨p, l', e, R, s, m, args, below, meth, c, Q, D, dA, xad, ad0, g0⟩ := z
  obtain ⟨rfl, hx, hb, hml, hown, hts, hF, hr, hlk, rfl⟩ := E
  subst hq
  intro hst hlo ad H locs ls hW hl
  exact lv_dup2_11 hx hb d ((gmv_cat ad v).trans hv) ((gmv_cat ad w).trans hw) (k ⟨hst.1, hst.2.1, hst⟩ hlo ad H locs ls hW hl)
theorem g_tabIn (E : gEv z l cc nL own ret fr mc ms lc) {dflt lo9 hi9 : Int} {offs : Array Int} {len : Nat} {x : Int32} {off : Int} (d : decode cc pc = .ok (.tableswitch dflt lo9 hi9 offs, len)) (h1 : ¬ x.toInt < lo9) (h2 : ¬ hi9 < x.toInt) (ho : offs[(x.toInt - lo9).toNat]? = some off) {tgt : Nat} (ht : (pc : Int) + off = (tgt : Int)) (k : gV z g kc ks tgt lo st) : gV z g kc ks pc lo (.int x :: st) := by
  obtain ⟨p, l', e, R, s, m, args, below, meth, c, Q, D, dA, xad, ad0, g0⟩ := z
  obtain ⟨rfl, hx, hb, hml, hown, hts, hF, hr, hlk, rfl⟩ := E
  intro hst hlo ad H locs ls hW hl
  exact lv_tableIn hx hb d h1 h2 ho ht (k hst.2 hlo ad H locs ls hW hl)
theorem g_tabOut (E : gEv z l cc nL own ret fr mc ms lc) {dflt lo9 hi9 : Int} {offs : Array Int} {len : Nat} {x : Int32} (d : decode cc pc = .ok (.tableswitch dflt lo9 hi9 offs, len)) (h : x.toInt < lo9 ∨ hi9 < x.toInt) {tgt : Nat} (ht : (pc : Int) + dflt = (tgt : Int)) (k : gV z g kc ks tgt lo st) : gV z g kc ks pc lo (.int x :: st) := by
  obtain ⟨p, l', e, R, s, m, args, below, meth, c, Q, D, dA, xad, ad0, g0⟩ := z
  obtain ⟨rfl, hx, hb, hml, hown, hts, hF, hr, hlk, rfl⟩ := E
  intro hst hlo ad H locs ls hW hl
  exact lv_tableOut hx hb d h ht (k hst.2 hlo ad H locs ls hW hl)
theorem g_lookup (E : gEv z l cc nL own ret fr mc ms lc) {dflt : Int} {ps : Array (Int × Int)} {len : Nat} {x : Int32} {off : Int} (d : decode cc pc = .ok (.lookupswitch dflt ps, len)) (hp : (ps.toList.zip (ps.toList.drop 1)).all (fun (a, next) => a.1 < next.1) = true) (ho : Op.lookupswitch.offset ps.toList dflt x.toInt = off) {tgt : Nat} (ht : (pc : Int) + off = (tgt : Int)) (k : gV z g kc ks tgt lo st) : gV z g kc ks pc lo (.int x :: st) := by
  obtain ⟨p, l', e, R, s, m, args, below, meth, c, Q, D, dA, xad, ad0, g0⟩ := z
  obtain ⟨rfl, hx, hb, hml, hown, hts, hF, hr, hlk, rfl⟩ := E
  intro hst hlo ad H locs ls hW hl
  exact lv_lookup hx hb d hp ho ht (k hst.2 hlo ad H locs ls hW hl)
/-- a number on the stack gets a name -/
theorem g_top {x : Int32} (k : ∀ y : Int32, y = x → gV z g kc ks pc lo (.int y :: st)) : gV z g kc ks pc lo (.int x :: st) := k x rfl
theorem g_to {g1 : gWM} {kc1 ks1 pc1 : Nat} {lo1 : List (Option Value)} {st1 : List Value} (k : gV z g1 kc1 ks1 pc1 lo1 st1) (h1 : g1 = g) (h2 : kc1 = kc) (h3 : ks1 = ks) (h4 : pc1 = pc) (h5 : lo1 = lo) (h6 : st1 = st) : gV z g kc ks pc lo st := by subst h1 h2 h3 h4 h5 h6; exact k
/-- fewer places told -/
theorem g_less {lo1 : List (Option Value)} (h : ∀ (i : Nat) (v : Value), lo1[i]? = some (some v) → lo[i]? = some (some v)) (k : gV z g kc ks pc lo1 st) : gV z g kc ks pc lo st := by
  obtain ⟨p, l', e, R, s, m, args, below, meth, c, Q, D, dA, xad, ad0, g0⟩ := z
  intro hst hlo ad H locs ls hW hl
  exact k hst (gcO_of fun i v hv => gcO_at hlo (h i v hv)) ad H locs ls hW ⟨hl.1, hl.2.1, fun i v hv => hl.2.2 i v (h i v hv)⟩
theorem g_widen {kc1 ks1 : Nat} (h1 : kc ≤ kc1) (h2 : ks ≤ ks1) (k : gV z g kc1 ks1 pc lo st) : gV z g kc ks pc lo st := by
  obtain ⟨p, l', e, R, s, m, args, below, meth, c, Q, D, dA, xad, ad0, g0⟩ := z
  intro hst hlo ad H locs ls hW hl
  exact W.widen h1 h2 (k hst hlo ad H locs ls hW hl)
end GR
