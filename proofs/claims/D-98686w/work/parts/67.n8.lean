/-! THE MODEL, walks, eighth: sums, what is told, the tape, constructors -/
set_option maxRecDepth 100000
set_option maxHeartbeats 400000 in
theorem ct_X13_common (l : Launch) {g : gWM} (a b : Nat) (ha : a < 2 ^ 60) (hb : b < 2 ^ 60) : gCt l yX13_common cX13_common 10 (some .long) 0 0 0 0 [.long (lN a), .long (lN b)] g (gPu (.long (lN (Nat.gcd a b))) g) := by
  refine gCt.of RX13 (by decide) rfl (lo := [some (.long (lN a)), none, some (.long (lN b)), none, none, none, none, none, none, none]) 6 rfl (Nat.le_of_ble_eq_true rfl) (fun z E Rt => ?_)
  refine g_lload_n E dX13_common_0 rfl rfl rfl ?_
  refine g_lstore E dX13_common_1 (by decide) rfl (lo1 := [some (.long (lN a)), none, some (.long (lN b)), none, some (.long (lN a)), none, none, none, none, none]) rfl rfl ?_
  refine g_lload_n E dX13_common_3 rfl rfl rfl ?_
  refine g_lstore E dX13_common_4 (by decide) rfl (lo1 := [some (.long (lN a)), none, some (.long (lN b)), none, some (.long (lN a)), none, some (.long (lN b)), none, none, none]) rfl rfl ?_
  have lp6 : ∀ (r9 : Nat) (x y : Nat), (x < 2 ^ 60) → (y < 2 ^ 60) → (Nat.gcd x y = Nat.gcd a b) → (y < r9) → gV z g 0 0 6 [some (.long (lN a)), none, some (.long (lN b)), none, some (.long (lN x)), none, some (.long (lN y)), none, none, none] [] := by
    intro r9
    induction r9 with
    | zero => intro x y hx hy hg hm; exact absurd hm (Nat.not_lt_zero _)
    | succ r9 ih6 =>
      intro x y hx hy hg hm
      refine g_lload E dX13_common_6 rfl rfl ?_
      refine g_lconst E (v := 0) dX13_common_8 (by decide) rfl ?_
      refine g_lcmp E dX13_common_9 rfl ?_
      refine g_if_eq E dX13_common_10 (tgt := 31) (by decide) rfl (fun c10 => ?_) (fun c10 => ?_)
      · have c10 : y = 0 := (pk_lEQ (b := 0) (by omega) (by decide)).mp (lg_cmp_0.mp c10)
        refine g_lload E dX13_common_31 rfl rfl ?_
        exact g_lret E Rt dX13_common_33 rfl (by decide) (by decide) (⟨congrArg (fun x => some (Value.long (lN x))) (by rw [c10, Nat.gcd_zero_right] at hg; exact hg), rfl⟩)
      · have c10 : ¬ y = 0 := fun h9 => c10 (lg_cmp_0.mpr (congrArg lN h9))
        refine g_lload E dX13_common_13 rfl rfl ?_
        refine g_lload E dX13_common_15 rfl rfl ?_
        refine g_lrem E dX13_common_17 (fun h9 => c10 ((pk_lEQ (b := 0) (by omega) (by decide)).mp h9)) rfl ?_
        refine g_asl (y := lN (x % y)) (pk_lRem (by omega) (by omega) (by omega)) ?_
        refine g_lstore E dX13_common_18 (by decide) rfl (lo1 := [some (.long (lN a)), none, some (.long (lN b)), none, some (.long (lN x)), none, some (.long (lN y)), none, some (.long (lN (x % y))), none]) rfl rfl ?_
        refine g_lload E dX13_common_20 rfl rfl ?_
        refine g_lstore E dX13_common_22 (by decide) rfl (lo1 := [some (.long (lN a)), none, some (.long (lN b)), none, some (.long (lN y)), none, some (.long (lN y)), none, some (.long (lN (x % y))), none]) rfl rfl ?_
        refine g_lload E dX13_common_24 rfl rfl ?_
        refine g_lstore E dX13_common_26 (by decide) rfl (lo1 := [some (.long (lN a)), none, some (.long (lN b)), none, some (.long (lN y)), none, some (.long (lN (x % y))), none, some (.long (lN (x % y))), none]) rfl rfl ?_
        refine g_goto E dX13_common_28 (tgt := 6) (by decide) ?_
        exact g_les (lo1 := [some (.long (lN a)), none, some (.long (lN b)), none, some (.long (lN y)), none, some (.long (lN (x % y))), none, none, none]) (⟨rfl, rfl, rfl, rfl, trivial⟩) (ih6 y (x % y) hy (by have := Nat.mod_lt x (show 0 < y by omega); omega) (gcd_s hg) (by have := Nat.mod_lt x (show 0 < y by omega); omega))
  exact lp6 (b + 1) a b ha hb rfl (by omega)
set_option maxHeartbeats 400000 in
theorem ct_X13_fraction (l : Launch) {g : gWM} {bar : Value} {th tr wh fa : Int32} {tp ac mk : Nat} (a b : Nat) (c : Bool) (hM : pMq g bar th tr wh tp fa ac mk []) (ha : a < 2 ^ 60) (hb : b < 2 ^ 60) (hb0 : 0 < b) : gCt l yX13_fraction cX13_fraction 6 (some .long) 1 0 0 29 [.ref 2000, .long (lN a), .long (lN b), .int (zb c)] g (gPj (lN ((if c then b else a) / Nat.gcd a b)) (fun g1 => pMq g1 bar th 0 (-1) tp fa ac mk [] ∧ ∀ j, j ≠ 2000 → g1 j = g j)) := by
  refine gCt.of RX13 (by decide) rfl (lo := [some (.ref 2000), some (.long (lN a)), none, some (.long (lN b)), none, some (.int (zb c))]) 0 rfl (Nat.le_of_ble_eq_true rfl) (fun z E Rt => ?_)
  have hM_o := hM
  obtain ⟨hM_F, hM_a, hM_0, hM_1, hM_2, hM_3, hM_5, hM_6, hM_12, hM_15, hM_16, hM_17, hM_18, hM_19, hM_20, hM_26, hM_28, hM_29, -⟩ := hM_o
  have hg0 : 0 < Nat.gcd a b := Nat.gcd_pos_of_pos_right _ hb0
  have hgl : Nat.gcd a b ≤ b := Nat.gcd_le_right _ hb0
  refine g_aload_n E dX13_fraction_0 rfl rfl rfl ?_
  refine g_iconst E (v := 0) dX13_fraction_1 (by decide) rfl ?_
  have hM1 : pMq g bar th tr wh tp fa ac mk [] := ⟨_, hM_a, hM_0, hM_1, hM_2, hM_3, hM_5, hM_6, hM_12, hM_15, hM_16, hM_17, hM_18, hM_19, hM_20, hM_26, hM_28, hM_29, trivial⟩
  refine g_callV (k := 2000) (n9 := 1) (av := [.int 0]) (st := []) E (ct_X13_fine l 0 hM1) gciX13 dX13_fraction_2 hM_a q2181 q2183 qs80 q135 q2184 (by decide +kernel) rfl rfl ⟨by decide, by decide⟩ ⟨by decide, by decide⟩ (Nat.le_of_ble_eq_true rfl) rfl (gPi.k (fun g2 h2 => ?_))
  obtain ⟨hm2, f2⟩ := h2
  have hm2_o := hm2
  obtain ⟨hm2_F, hm2_a, hm2_0, hm2_1, hm2_2, hm2_3, hm2_5, hm2_6, hm2_12, hm2_15, hm2_16, hm2_17, hm2_18, hm2_19, hm2_20, hm2_26, hm2_28, hm2_29, -⟩ := hm2_o
  refine g_pop E dX13_fraction_5 rfl rfl ?_
  refine g_iload E dX13_fraction_6 rfl rfl ?_
  refine g_if_eq E dX13_fraction_8 (tgt := 15) (by decide) rfl (fun c8 => ?_) (fun c8 => ?_)
  · have c8 := zb_0.mp c8
    refine g_lload_n E dX13_fraction_15 rfl rfl rfl ?_
    refine g_lload_n E dX13_fraction_16 rfl rfl rfl ?_
    refine g_lload_n E dX13_fraction_17 rfl rfl rfl ?_
    refine g_callS (n9 := 2) (av := [.long (lN a), .long (lN b)]) (st := [.long (lN a)]) E (ct_X13_common l a b (by omega) (by omega)) dX13_fraction_18 q2480 q2481 q135 q2482 (by decide +kernel) rfl rfl ⟨by decide, by decide⟩ ⟨by decide, by decide⟩ (Nat.le_of_ble_eq_true rfl) rfl (gPu.k ?_)
    refine g_ldiv E dX13_fraction_21 (fun h9 => absurd ((pk_lEQ (b := 0) (by omega) (by decide)).mp h9) (by omega)) rfl ?_
    refine g_asl (y := lN ((if c then b else a) / Nat.gcd a b)) (by rw [pk_lDiv (by omega) hg0 (by omega)]; simp [c8]) ?_
    exact g_lret E Rt dX13_fraction_22 rfl (by decide) (by decide) (⟨rfl, ⟨_, hm2_a, hm2_0, hm2_1, hm2_2, hm2_3, hm2_5, hm2_6, hm2_12, hm2_15, hm2_16, hm2_17, hm2_18, hm2_19, hm2_20, hm2_26, hm2_28, hm2_29, trivial⟩, fun j9 h9 => f2 j9 (by omega)⟩)
  · have c8 := zb_n0.mp c8
    refine g_lload_n E dX13_fraction_11 rfl rfl rfl ?_
    refine g_goto E dX13_fraction_12 (tgt := 16) (by decide) ?_
    refine g_lload_n E dX13_fraction_16 rfl rfl rfl ?_
    refine g_lload_n E dX13_fraction_17 rfl rfl rfl ?_
    refine g_callS (n9 := 2) (av := [.long (lN a), .long (lN b)]) (st := [.long (lN b)]) E (ct_X13_common l a b (by omega) (by omega)) dX13_fraction_18 q2480 q2481 q135 q2482 (by decide +kernel) rfl rfl ⟨by decide, by decide⟩ ⟨by decide, by decide⟩ (Nat.le_of_ble_eq_true rfl) rfl (gPu.k ?_)
    refine g_ldiv E dX13_fraction_21 (fun h9 => absurd ((pk_lEQ (b := 0) (by omega) (by decide)).mp h9) (by omega)) rfl ?_
    refine g_asl (y := lN ((if c then b else a) / Nat.gcd a b)) (by rw [pk_lDiv (by omega) hg0 (by omega)]; simp [c8]) ?_
    exact g_lret E Rt dX13_fraction_22 rfl (by decide) (by decide) (⟨rfl, ⟨_, hm2_a, hm2_0, hm2_1, hm2_2, hm2_3, hm2_5, hm2_6, hm2_12, hm2_15, hm2_16, hm2_17, hm2_18, hm2_19, hm2_20, hm2_26, hm2_28, hm2_29, trivial⟩, fun j9 h9 => f2 j9 (by omega)⟩)
set_option maxHeartbeats 1000000 in
theorem ct_X13_owed (l : Launch) {g : gWM} {mb : Nat} {B : gBar} {R : Nat → Int32} {d : Int32} {th tr wh fa : Int32} {tp ac mk : Nat} (s t : Int32) (b : Bool) (hw : wfB B) (hM : pMq g (.ref mb) th tr wh tp fa ac mk []) (hMb : pMb g mb B) (h9 : 10000 ≤ mb) : gCt l yX13_owed cX13_owed 9 (some .long) 2 0 0 54 [.ref 2000, .int s, .int t, .int (zb b)] g (gPj (sOwe true B s t b).1 (fun g1 => pMq g1 (.ref mb) 0 ((sOwe true B s t b).2) (-1) tp fa ac mk [] ∧ ∀ j, j ≠ 2000 → g1 j = g j)) := by
  refine gCt.of RX13 (by decide) rfl (lo := [some (.ref 2000), some (.int s), some (.int t), some (.int (zb b)), none, none, none, none, none]) 5 rfl (Nat.le_of_ble_eq_true rfl) (fun z E Rt => ?_)
  have hw_n := hw.1
  have hM_o := hM
  obtain ⟨hM_F, hM_a, hM_0, hM_1, hM_2, hM_3, hM_5, hM_6, hM_12, hM_15, hM_16, hM_17, hM_18, hM_19, hM_20, hM_26, hM_28, hM_29, -⟩ := hM_o
  have hMb_o := hMb
  obtain ⟨⟨hMb_F, hMb_a, hMb_0, hMb_1, hMb_2, hMb_3, hMb_4, hMb_5, hMb_6, hMb_7, hMb_8, hMb_9, hMb_11, hMb_12, hMb_13, hMb_14, hMb_15, hMb_16, hMb_17, hMb_18, hMb_19, hMb_20, hMb_21, hMb_22, hMb_23, hMb_24, hMb_25, hMb_26, hMb_27, hMb_28, hMb_29, hMb_30, hMb_31⟩, ⟨hMb_f1, hMb_a1, hMb_b1⟩, ⟨hMb_f2, hMb_a2, hMb_b2⟩, ⟨hMb_f3, hMb_a3, hMb_b3⟩, ⟨hMb_f4, hMb_a4, hMb_b4⟩, ⟨hMb_f5, hMb_a5, hMb_b5⟩, ⟨hMb_f6, hMb_a6, hMb_b6⟩, ⟨hMb_f7, hMb_a7, hMb_b7⟩, ⟨hMb_f8, hMb_a8, hMb_b8⟩, ⟨hMb_f9, hMb_a9, hMb_b9⟩, ⟨hMb_f10, hMb_a10, hMb_b10⟩, ⟨hMb_f11, hMb_a11, hMb_b11⟩, ⟨hMb_f12, hMb_a12, hMb_b12⟩, ⟨hMb_f13, hMb_a13, hMb_b13⟩, ⟨hMb_f14, hMb_a14, hMb_b14⟩, ⟨hMb_f15, hMb_a15, hMb_b15⟩, ⟨hMb_f16, hMb_a16, hMb_b16⟩, ⟨hMb_f17, hMb_a17, hMb_b17⟩, ⟨hMb_f18, hMb_a18, hMb_b18⟩, ⟨hMb_f19, hMb_a19, hMb_b19⟩, ⟨hMb_f20, hMb_a20, hMb_b20⟩, ⟨hMb_f21, hMb_a21, hMb_b21⟩⟩ := hMb_o
  refine g_aload_n E dX13_owed_0 rfl rfl rfl ?_
  refine g_iconst E (v := 0) dX13_owed_1 (by decide) rfl ?_
  refine g_putf E gciX13 (v := .int 0) dX13_owed_2 hM_a 0 rfl (by decide) q1740 (.inl rfl) rfl (fun _ => rfl) (fun _ => rfl) rfl (g_upk (fun g1 h1 f1 => ?_))
  refine g_aload_n E dX13_owed_5 rfl rfl rfl ?_
  refine g_getf E gciX13 dX13_owed_6 h1 3 rfl (by decide) q1743 (.inl rfl) (.ref mb) (hM_3) rfl ?_
  refine g_ifnonnullY E dX13_owed_9 (tgt := 19) (by decide) ?_
  refine g_iload_n E dX13_owed_19 rfl rfl rfl ?_
  refine g_iconst E (v := 0) dX13_owed_20 (by decide) rfl ?_
  refine g_sipush E (v := 999) dX13_owed_21 (by decide) rfl ?_
  refine g_callS (n9 := 3) (av := [.int s, .int 0, .int 999]) (st := []) E (ct_X13_in l s 0 999) dX13_owed_24 q2069 q2070 q135 q2071 (by decide +kernel) rfl rfl ⟨by decide, by decide⟩ ⟨by decide, by decide⟩ (Nat.le_of_ble_eq_true rfl) rfl (gPu.k ?_)
  refine g_if_eq E dX13_owed_27 (tgt := 39) (by decide) rfl (fun c27 => ?_) (fun c27 => ?_)
  · have c27 := zb_0.mp c27
    refine g_aload_n E dX13_owed_39 rfl rfl rfl ?_
    refine g_iconst E (v := 2) dX13_owed_40 (by decide) rfl ?_
    have hM2 : pMq g1 (.ref mb) 0 tr wh tp fa ac mk [] := ⟨_, h1, rfl, hM_1, hM_2, hM_3, hM_5, hM_6, hM_12, hM_15, hM_16, hM_17, hM_18, hM_19, hM_20, hM_26, hM_28, hM_29, trivial⟩
    refine g_callV (k := 2000) (n9 := 1) (av := [.int 2]) (st := []) E (ct_X13_refused l 2 hM2) gciX13 dX13_owed_41 h1 q1846 q1848 qs52 q135 q1849 (by decide +kernel) rfl rfl ⟨by decide, by decide⟩ ⟨by decide, by decide⟩ (Nat.le_of_ble_eq_true rfl) rfl (gPi.k (fun g3 h3 => ?_))
    obtain ⟨hm3, f3⟩ := h3
    have hm3_o := hm3
    obtain ⟨hm3_F, hm3_a, hm3_0, hm3_1, hm3_2, hm3_3, hm3_5, hm3_6, hm3_12, hm3_15, hm3_16, hm3_17, hm3_18, hm3_19, hm3_20, hm3_26, hm3_28, hm3_29, -⟩ := hm3_o
    refine g_i2l E dX13_owed_44 rfl ?_
    refine g_asl (y := (-1)) (rfl) ?_
    have hs4 : sOwe true B s t b = ((-1), 2) := by simp [sOwe, c27]
    exact g_lret E Rt dX13_owed_45 rfl (by decide) (by decide) (by rw [hs4]; exact ⟨rfl, ⟨_, hm3_a, hm3_0, hm3_1, hm3_2, hm3_3, hm3_5, hm3_6, hm3_12, hm3_15, hm3_16, hm3_17, hm3_18, hm3_19, hm3_20, hm3_26, hm3_28, hm3_29, trivial⟩, fun j9 h9 => (f3 j9 (by omega)).trans (f1 j9 (by omega))⟩)
  · have c27 := zb_n0.mp c27
    refine g_iload_n E dX13_owed_30 rfl rfl rfl ?_
    refine g_iconst E (v := 0) dX13_owed_31 (by decide) rfl ?_
    refine g_iconst E (v := 5) dX13_owed_32 (by decide) rfl ?_
    refine g_callS (n9 := 3) (av := [.int t, .int 0, .int 5]) (st := []) E (ct_X13_in l t 0 5) dX13_owed_33 q2069 q2070 q135 q2071 (by decide +kernel) rfl rfl ⟨by decide, by decide⟩ ⟨by decide, by decide⟩ (Nat.le_of_ble_eq_true rfl) rfl (gPu.k ?_)
    refine g_if_ne E dX13_owed_36 (tgt := 46) (by decide) rfl (fun c36 => ?_) (fun c36 => ?_)
    · have c36 := zb_n0.mp c36
      have h27 := c27
      obtain ⟨sn, rfl, z5, z5_c⟩ := zIn_nI (a := 0) (m := 999) (by decide) (by decide) h27
      have h36 := c36
      obtain ⟨m, rfl, z6, z6_c⟩ := zIn_nI (a := 0) (m := 5) (by decide) (by decide) h36
      refine g_iload_n E dX13_owed_46 rfl rfl rfl ?_
      refine g_i2l E dX13_owed_47 rfl ?_
      refine g_asl (y := lN (zUp B sn 0)) (by rw [nI_l (by omega)]; simp [zUp]) ?_
      refine g_lstore E dX13_owed_48 (by decide) rfl (lo1 := [some (.ref 2000), some (.int (nI sn)), some (.int (nI m)), some (.int (zb b)), some (.long (lN (zUp B sn 0))), none, none, none, none]) rfl rfl ?_
      refine g_lconst E (v := 1) dX13_owed_50 (by decide) rfl ?_
      refine g_lstore E dX13_owed_51 (by decide) rfl (lo1 := [some (.ref 2000), some (.int (nI sn)), some (.int (nI m)), some (.int (zb b)), some (.long (lN (zUp B sn 0))), none, some (.long 1), none, none]) rfl rfl ?_
      refine g_iconst E (v := 0) dX13_owed_53 (by decide) rfl ?_
      refine g_istore E dX13_owed_54 (by decide) rfl (lo1 := [some (.ref 2000), some (.int (nI sn)), some (.int (nI m)), some (.int (zb b)), some (.long (lN (zUp B sn 0))), none, some (.long 1), none, some (.int 0)]) rfl rfl ?_
      have lp56 : ∀ (r9 : Nat) (k : Nat), (k ≤ m) → (m - k < r9) → gV z g1 0 0 56 [some (.ref 2000), some (.int (nI sn)), some (.int (nI m)), some (.int (zb b)), some (.long (lN (zUp B sn k))), none, some (.long (lN (100 ^ k))), none, some (.int (nI k))] [] := by
        intro r9
        induction r9 with
        | zero => intro k hk hm; exact absurd hm (Nat.not_lt_zero _)
        | succ r9 ih56 =>
          intro k hk hm
          refine g_iload E dX13_owed_56 rfl rfl ?_
          refine g_iload_n E dX13_owed_58 rfl rfl rfl ?_
          refine g_icmp_ge E dX13_owed_59 (tgt := 92) (by decide) rfl (fun c59 => ?_) (fun c59 => ?_)
          · have c59 := (nI_leI (a := m) (b := k) (by omega) (by omega)).mp c59
            obtain rfl : m = k := by omega
            have h100 := z100_le (k := m) (by omega)
            have hup := zUp_le (B := B) (s := sn) (k := m) (by omega) (by omega) (by omega)
            have h10 : 0 < 100 ^ m := Nat.pow_pos (by decide)
            refine g_aload_n E dX13_owed_92 rfl rfl rfl ?_
            refine g_lload E dX13_owed_93 rfl rfl ?_
            refine g_lload E dX13_owed_95 rfl rfl ?_
            refine g_iload_n E dX13_owed_97 rfl rfl rfl ?_
            have hM7 : pMq g1 (.ref mb) 0 tr wh tp fa ac mk [] := ⟨_, h1, rfl, hM_1, hM_2, hM_3, hM_5, hM_6, hM_12, hM_15, hM_16, hM_17, hM_18, hM_19, hM_20, hM_26, hM_28, hM_29, trivial⟩
            refine g_callV (k := 2000) (n9 := 3) (av := [.long (lN (zUp B sn m)), .long (lN (100 ^ m)), .int (zb b)]) (st := []) E (ct_X13_fraction l (zUp B sn m) (100 ^ m) b hM7 (by omega) (by omega) (by omega)) gciX13 dX13_owed_98 h1 q2476 q2478 qs115 q135 q2479 (by decide +kernel) rfl rfl ⟨by decide, by decide⟩ ⟨by decide, by decide⟩ (Nat.le_of_ble_eq_true rfl) rfl (gPj.k9 (fun g8 h8 => ?_))
            obtain ⟨hm8, f8⟩ := h8
            have hm8_o := hm8
            obtain ⟨hm8_F, hm8_a, hm8_0, hm8_1, hm8_2, hm8_3, hm8_5, hm8_6, hm8_12, hm8_15, hm8_16, hm8_17, hm8_18, hm8_19, hm8_20, hm8_26, hm8_28, hm8_29, -⟩ := hm8_o
            refine g_asl (y := lN (zOw B b sn m)) (by unfold zOw; rw [Nat.gcd_comm (100 ^ m)]) ?_
            have hs9 : sOwe true B (nI sn) (nI m) b = (lN (zOw B b sn m), 0) := by simp [sOwe, h27, h36, z5_c, z6_c, c59]
            exact g_lret E Rt dX13_owed_101 rfl (by decide) (by decide) (by rw [hs9]; exact ⟨rfl, ⟨_, hm8_a, hm8_0, hm8_1, hm8_2, hm8_3, hm8_5, hm8_6, hm8_12, hm8_15, hm8_16, hm8_17, hm8_18, hm8_19, hm8_20, hm8_26, hm8_28, hm8_29, trivial⟩, fun j9 h9 => (f8 j9 (by omega)).trans (f1 j9 (by omega))⟩)
          · have c59 := mt (nI_leI (a := m) (b := k) (by omega) (by omega)).mpr c59
            refine g_lload E dX13_owed_62 rfl rfl ?_
            refine g_bipush E (v := 100) dX13_owed_64 (by decide) rfl ?_
            refine g_aload_n E dX13_owed_66 rfl rfl rfl ?_
            refine g_getf E gciX13 dX13_owed_67 h1 3 rfl (by decide) q1743 (.inl rfl) (.ref mb) (hM_3) rfl ?_
            have x10 := (f1 (mb) (by omega)).trans (hMb_a)
            refine g_getfN E gciX27 dX13_owed_70 x10 1 rfl (by decide) q1858 (.inl rfl) (.int (nI (B 0 8))) (hMb_1) rfl ?_
            refine g_iadd E dX13_owed_73 rfl ?_
            refine g_as (y := nI (100 + B 0 8)) (nI_add 100 _) ?_
            refine g_i2l E dX13_owed_74 rfl ?_
            refine g_asl (y := lN (100 + B 0 8)) (nI_l (by omega)) ?_
            refine g_lmul E dX13_owed_75 rfl ?_
            refine g_asl (y := lN (zUp B sn (k + 1))) (by rw [lN_mul, zUp, zUp, Nat.pow_succ, Nat.mul_assoc]) ?_
            refine g_lstore E dX13_owed_76 (by decide) rfl (lo1 := [some (.ref 2000), some (.int (nI sn)), some (.int (nI m)), some (.int (zb b)), some (.long (lN (zUp B sn (k + 1)))), none, some (.long (lN (100 ^ k))), none, some (.int (nI k))]) rfl rfl ?_
            refine g_lload E dX13_owed_78 rfl rfl ?_
            refine g_ldc2 E 100 dX13_owed_80 q2475 rfl ?_
            refine g_lmul E dX13_owed_83 rfl ?_
            refine g_asl (y := lN (100 ^ (k + 1))) (by rw [show (100 : Int64) = lN 100 from rfl, lN_mul, Nat.pow_succ]) ?_
            refine g_lstore E dX13_owed_84 (by decide) rfl (lo1 := [some (.ref 2000), some (.int (nI sn)), some (.int (nI m)), some (.int (zb b)), some (.long (lN (zUp B sn (k + 1)))), none, some (.long (lN (100 ^ (k + 1)))), none, some (.int (nI k))]) rfl rfl ?_
            refine g_iinc E dX13_owed_86 rfl (v := nI (k + 1)) (nI_c _) (by decide) rfl (lo1 := [some (.ref 2000), some (.int (nI sn)), some (.int (nI m)), some (.int (zb b)), some (.long (lN (zUp B sn (k + 1)))), none, some (.long (lN (100 ^ (k + 1)))), none, some (.int (nI (k + 1)))]) rfl rfl ?_
            refine g_goto E dX13_owed_89 (tgt := 56) (by decide) ?_
            exact ih56 (k + 1) (by omega) (by omega)
      exact lp56 (m + 1) 0 (Nat.zero_le _) (by omega)
    · have c36 := zb_0.mp c36
      refine g_aload_n E dX13_owed_39 rfl rfl rfl ?_
      refine g_iconst E (v := 2) dX13_owed_40 (by decide) rfl ?_
      have hM11 : pMq g1 (.ref mb) 0 tr wh tp fa ac mk [] := ⟨_, h1, rfl, hM_1, hM_2, hM_3, hM_5, hM_6, hM_12, hM_15, hM_16, hM_17, hM_18, hM_19, hM_20, hM_26, hM_28, hM_29, trivial⟩
      refine g_callV (k := 2000) (n9 := 1) (av := [.int 2]) (st := []) E (ct_X13_refused l 2 hM11) gciX13 dX13_owed_41 h1 q1846 q1848 qs52 q135 q1849 (by decide +kernel) rfl rfl ⟨by decide, by decide⟩ ⟨by decide, by decide⟩ (Nat.le_of_ble_eq_true rfl) rfl (gPi.k (fun g12 h12 => ?_))
      obtain ⟨hm12, f12⟩ := h12
      have hm12_o := hm12
      obtain ⟨hm12_F, hm12_a, hm12_0, hm12_1, hm12_2, hm12_3, hm12_5, hm12_6, hm12_12, hm12_15, hm12_16, hm12_17, hm12_18, hm12_19, hm12_20, hm12_26, hm12_28, hm12_29, -⟩ := hm12_o
      refine g_i2l E dX13_owed_44 rfl ?_
      refine g_asl (y := (-1)) (rfl) ?_
      have hs13 : sOwe true B s t b = ((-1), 2) := by simp [sOwe, c27, c36]
      exact g_lret E Rt dX13_owed_45 rfl (by decide) (by decide) (by rw [hs13]; exact ⟨rfl, ⟨_, hm12_a, hm12_0, hm12_1, hm12_2, hm12_3, hm12_5, hm12_6, hm12_12, hm12_15, hm12_16, hm12_17, hm12_18, hm12_19, hm12_20, hm12_26, hm12_28, hm12_29, trivial⟩, fun j9 h9 => (f12 j9 (by omega)).trans (f1 j9 (by omega))⟩)
set_option maxHeartbeats 1000000 in
theorem ct_X13_owed_N (l : Launch) {g : gWM} {th tr wh fa : Int32} {tp ac mk : Nat} (s t : Int32) (b : Bool) (hM : pMq g .null th tr wh tp fa ac mk []) : gCt l yX13_owed cX13_owed 9 (some .long) 1 0 0 21 [.ref 2000, .int s, .int t, .int (zb b)] g (gPj (sOwe false zB0 s t b).1 (fun g1 => pMq g1 .null 0 ((sOwe false zB0 s t b).2) (-1) tp fa ac mk [] ∧ ∀ j, j ≠ 2000 → g1 j = g j)) := by
  refine gCt.of RX13 (by decide) rfl (lo := [some (.ref 2000), some (.int s), some (.int t), some (.int (zb b)), none, none, none, none, none]) 5 rfl (Nat.le_of_ble_eq_true rfl) (fun z E Rt => ?_)
  have hM_o := hM
  obtain ⟨hM_F, hM_a, hM_0, hM_1, hM_2, hM_3, hM_5, hM_6, hM_12, hM_15, hM_16, hM_17, hM_18, hM_19, hM_20, hM_26, hM_28, hM_29, -⟩ := hM_o
  refine g_aload_n E dX13_owed_0 rfl rfl rfl ?_
  refine g_iconst E (v := 0) dX13_owed_1 (by decide) rfl ?_
  refine g_putf E gciX13 (v := .int 0) dX13_owed_2 hM_a 0 rfl (by decide) q1740 (.inl rfl) rfl (fun _ => rfl) (fun _ => rfl) rfl (g_upk (fun g1 h1 f1 => ?_))
  refine g_aload_n E dX13_owed_5 rfl rfl rfl ?_
  refine g_getf E gciX13 dX13_owed_6 h1 3 rfl (by decide) q1743 (.inl rfl) (.null) (hM_3) rfl ?_
  refine g_ifnonnullN E dX13_owed_9 rfl ?_
  refine g_aload_n E dX13_owed_12 rfl rfl rfl ?_
  refine g_iconst E (v := 1) dX13_owed_13 (by decide) rfl ?_
  have hM2 : pMq g1 .null 0 tr wh tp fa ac mk [] := ⟨_, h1, rfl, hM_1, hM_2, hM_3, hM_5, hM_6, hM_12, hM_15, hM_16, hM_17, hM_18, hM_19, hM_20, hM_26, hM_28, hM_29, trivial⟩
  refine g_callV (k := 2000) (n9 := 1) (av := [.int 1]) (st := []) E (ct_X13_refused l 1 hM2) gciX13 dX13_owed_14 h1 q1846 q1848 qs52 q135 q1849 (by decide +kernel) rfl rfl ⟨by decide, by decide⟩ ⟨by decide, by decide⟩ (Nat.le_of_ble_eq_true rfl) rfl (gPi.k (fun g3 h3 => ?_))
  obtain ⟨hm3, f3⟩ := h3
  have hm3_o := hm3
  obtain ⟨hm3_F, hm3_a, hm3_0, hm3_1, hm3_2, hm3_3, hm3_5, hm3_6, hm3_12, hm3_15, hm3_16, hm3_17, hm3_18, hm3_19, hm3_20, hm3_26, hm3_28, hm3_29, -⟩ := hm3_o
  refine g_i2l E dX13_owed_17 rfl ?_
  refine g_asl (y := (-1)) (rfl) ?_
  have hs4 : sOwe false zB0 s t b = ((-1), 1) := by simp [sOwe, ]
  exact g_lret E Rt dX13_owed_18 rfl (by decide) (by decide) (by rw [hs4]; exact ⟨rfl, ⟨_, hm3_a, hm3_0, hm3_1, hm3_2, hm3_3, hm3_5, hm3_6, hm3_12, hm3_15, hm3_16, hm3_17, hm3_18, hm3_19, hm3_20, hm3_26, hm3_28, hm3_29, trivial⟩, fun j9 h9 => (f3 j9 (by omega)).trans (f1 j9 (by omega))⟩)
set_option maxHeartbeats 1000000 in
theorem ct_X13_led (l : Launch) {g : gWM} {mb : Nat} {B : gBar} {R : Nat → Int32} {d : Int32} {th tr wh fa : Int32} {tp ac mk : Nat} (p : Int32) (hw : wfB B) (hM : pMq g (.ref mb) th tr wh tp fa ac mk []) (hMb : pMb g mb B) (hV : pRw g 2002 B R d) (h9 : 10000 ≤ mb) : gCt l yX13_led cX13_led 4 (some .int) 2 0 0 44 [.ref 2000, .int p] g (gPi (oV (sLed B d p)) (fun g1 => pMq g1 (.ref mb) (oT (sLed B d p)) tr wh tp fa ac mk [] ∧ ∀ j, j ≠ 2000 → g1 j = g j)) := by
  refine gCt.of RX13 (by decide) rfl (lo := [some (.ref 2000), some (.int p), none, none]) 2 rfl (Nat.le_of_ble_eq_true rfl) (fun z E Rt => ?_)
  have hw_n := hw.1
  have hM_o := hM
  obtain ⟨hM_F, hM_a, hM_0, hM_1, hM_2, hM_3, hM_5, hM_6, hM_12, hM_15, hM_16, hM_17, hM_18, hM_19, hM_20, hM_26, hM_28, hM_29, -⟩ := hM_o
  have hMb_o := hMb
  obtain ⟨⟨hMb_F, hMb_a, hMb_0, hMb_1, hMb_2, hMb_3, hMb_4, hMb_5, hMb_6, hMb_7, hMb_8, hMb_9, hMb_11, hMb_12, hMb_13, hMb_14, hMb_15, hMb_16, hMb_17, hMb_18, hMb_19, hMb_20, hMb_21, hMb_22, hMb_23, hMb_24, hMb_25, hMb_26, hMb_27, hMb_28, hMb_29, hMb_30, hMb_31⟩, ⟨hMb_f1, hMb_a1, hMb_b1⟩, ⟨hMb_f2, hMb_a2, hMb_b2⟩, ⟨hMb_f3, hMb_a3, hMb_b3⟩, ⟨hMb_f4, hMb_a4, hMb_b4⟩, ⟨hMb_f5, hMb_a5, hMb_b5⟩, ⟨hMb_f6, hMb_a6, hMb_b6⟩, ⟨hMb_f7, hMb_a7, hMb_b7⟩, ⟨hMb_f8, hMb_a8, hMb_b8⟩, ⟨hMb_f9, hMb_a9, hMb_b9⟩, ⟨hMb_f10, hMb_a10, hMb_b10⟩, ⟨hMb_f11, hMb_a11, hMb_b11⟩, ⟨hMb_f12, hMb_a12, hMb_b12⟩, ⟨hMb_f13, hMb_a13, hMb_b13⟩, ⟨hMb_f14, hMb_a14, hMb_b14⟩, ⟨hMb_f15, hMb_a15, hMb_b15⟩, ⟨hMb_f16, hMb_a16, hMb_b16⟩, ⟨hMb_f17, hMb_a17, hMb_b17⟩, ⟨hMb_f18, hMb_a18, hMb_b18⟩, ⟨hMb_f19, hMb_a19, hMb_b19⟩, ⟨hMb_f20, hMb_a20, hMb_b20⟩, ⟨hMb_f21, hMb_a21, hMb_b21⟩⟩ := hMb_o
  have hV_o := hV
  obtain ⟨hV_f, hV_a, hV_r, hV_d⟩ := hV_o
  refine g_aload_n E dX13_led_0 rfl rfl rfl ?_
  refine g_iconst E (v := 0) dX13_led_1 (by decide) rfl ?_
  refine g_putf E gciX13 (v := .int 0) dX13_led_2 hM_a 0 rfl (by decide) q1740 (.inl rfl) rfl (fun _ => rfl) (fun _ => rfl) rfl (g_upk (fun g1 h1 f1 => ?_))
  refine g_iconst E (v := 0) dX13_led_5 (by decide) rfl ?_
  refine g_istore_n E dX13_led_6 rfl (by decide) rfl (lo1 := [some (.ref 2000), some (.int p), some (.int 0), none]) rfl rfl ?_
  refine g_iconst E (v := 0) dX13_led_7 (by decide) rfl ?_
  refine g_istore_n E dX13_led_8 rfl (by decide) rfl (lo1 := [some (.ref 2000), some (.int p), some (.int 0), some (.int 0)]) rfl rfl ?_
  have lp9 : ∀ (r9 : Nat) (k n : Nat), (k ≤ B 0 3) → (n ≤ k) → (sLed B d p = zLe B d p (B 0 3 - k) k n) → (B 0 3 - k < r9) → gV z g1 0 0 9 [some (.ref 2000), some (.int p), some (.int (nI n)), some (.int (nI k))] [] := by
    intro r9
    induction r9 with
    | zero => intro k n hk hn hz hm; exact absurd hm (Nat.not_lt_zero _)
    | succ r9 ih9 =>
      intro k n hk hn hz hm
      refine g_aload_n E dX13_led_9 rfl rfl rfl ?_
      refine g_getf E gciX13 dX13_led_10 h1 3 rfl (by decide) q1743 (.inl rfl) (.ref mb) (hM_3) rfl ?_
      refine g_ifnullN E dX13_led_13 rfl ?_
      refine g_iload_n E dX13_led_16 rfl rfl rfl ?_
      refine g_aload_n E dX13_led_17 rfl rfl rfl ?_
      refine g_getf E gciX13 dX13_led_18 h1 3 rfl (by decide) q1743 (.inl rfl) (.ref mb) (hM_3) rfl ?_
      have x2 := (f1 (mb) (by omega)).trans (hMb_a)
      refine g_getfN E gciX27 dX13_led_21 x2 5 rfl (by decide) q1862 (.inl rfl) (.int (nI (B 0 3))) (hMb_5) rfl ?_
      refine g_icmp_ge E dX13_led_24 (tgt := 58) (by decide) rfl (fun c24 => ?_) (fun c24 => ?_)
      · have c24 := (nI_leI (a := B 0 3) (b := k) (by omega) (by omega)).mp c24
        refine g_aload_n E dX13_led_58 rfl rfl rfl ?_
        refine g_iconst E (v := 1) dX13_led_59 (by decide) rfl ?_
        refine g_putf E gciX13 (v := .int 1) dX13_led_60 h1 0 rfl (by decide) q1740 (.inl rfl) rfl (fun _ => rfl) (fun _ => rfl) rfl (g_upk (fun g3 h3 f3 => ?_))
        refine g_iconst E (v := 0) dX13_led_63 (by decide) rfl ?_
        have hs4 : sLed B d p = none := by rw [hz, show B 0 3 - k = 0 by omega]; rfl
        exact g_iret E Rt dX13_led_64 rfl (by decide) (by decide) (by rw [hs4]; exact ⟨rfl, ⟨_, h3, rfl, hM_1, hM_2, hM_3, hM_5, hM_6, hM_12, hM_15, hM_16, hM_17, hM_18, hM_19, hM_20, hM_26, hM_28, hM_29, trivial⟩, fun j9 h9 => (f3 j9 (by omega)).trans (f1 j9 (by omega))⟩)
      · have c24 := mt (nI_leI (a := B 0 3) (b := k) (by omega) (by omega)).mpr c24
        refine g_aload_n E dX13_led_27 rfl rfl rfl ?_
        refine g_aload_n E dX13_led_28 rfl rfl rfl ?_
        refine g_getf E gciX13 dX13_led_29 h1 15 rfl (by decide) q1755 (.inl rfl) (.ref 2002) (hM_15) rfl ?_
        refine g_iload_n E dX13_led_32 rfl rfl rfl ?_
        have hM5 : pMq g1 (.ref mb) 0 tr wh tp fa ac mk [] := ⟨_, h1, rfl, hM_1, hM_2, hM_3, hM_5, hM_6, hM_12, hM_15, hM_16, hM_17, hM_18, hM_19, hM_20, hM_26, hM_28, hM_29, trivial⟩
        have y6 := (hMb.fr  (fun j9 a9 b9 => f1 j9 (by omega)))
        have y7 := (hV.fr  (fun j9 a9 b9 => f1 j9 (by omega)))
        refine g_callV (k := 2000) (n9 := 2) (av := [.ref 2002, .int (nI k)]) (st := []) E (ct_X13_isTurnedIn l k hw hM5 y6 y7 (by omega)) gciX13 dX13_led_33 h1 q2253 q2255 qs91 q135 q2256 (by decide +kernel) rfl rfl ⟨by decide, by decide⟩ ⟨by decide, by decide⟩ (Nat.le_of_ble_eq_true rfl) rfl (gPu.k ?_)
        refine g_if_ne E dX13_led_36 (tgt := 42) (by decide) rfl (fun c36 => ?_) (fun c36 => ?_)
        · have c36 := zb_n0.mp c36
          refine g_iload_n E dX13_led_42 rfl rfl rfl ?_
          refine g_iload_n E dX13_led_43 rfl rfl rfl ?_
          refine g_icmp_ne E dX13_led_44 (tgt := 49) (by decide) rfl (fun c44 => ?_) (fun c44 => ?_)
          · refine g_iinc E dX13_led_49 rfl (v := nI (n + 1)) (nI_c _) (by decide) rfl (lo1 := [some (.ref 2000), some (.int p), some (.int (nI (n + 1))), some (.int (nI k))]) rfl rfl ?_
            refine g_iinc E dX13_led_52 rfl (v := nI (k + 1)) (nI_c _) (by decide) rfl (lo1 := [some (.ref 2000), some (.int p), some (.int (nI (n + 1))), some (.int (nI (k + 1)))]) rfl rfl ?_
            refine g_goto E dX13_led_55 (tgt := 9) (by decide) ?_
            exact ih9 (k + 1) (n + 1) (by omega) (by omega) (hz.trans (zLe_n (by omega) c36 c44)) (by omega)
          · refine g_iload_n E dX13_led_47 rfl rfl rfl ?_
            have hs8 : sLed B d p = some k := hz.trans (zLe_t (by omega) c36 c44)
            exact g_iret E Rt dX13_led_48 rfl (by decide) (by decide) (by rw [hs8]; exact ⟨rfl, ⟨_, h1, rfl, hM_1, hM_2, hM_3, hM_5, hM_6, hM_12, hM_15, hM_16, hM_17, hM_18, hM_19, hM_20, hM_26, hM_28, hM_29, trivial⟩, fun j9 h9 => f1 j9 (by omega)⟩)
        · have c36 := zb_0.mp c36
          refine g_goto E dX13_led_39 (tgt := 52) (by decide) ?_
          refine g_iinc E dX13_led_52 rfl (v := nI (k + 1)) (nI_c _) (by decide) rfl (lo1 := [some (.ref 2000), some (.int p), some (.int (nI n)), some (.int (nI (k + 1)))]) rfl rfl ?_
          refine g_goto E dX13_led_55 (tgt := 9) (by decide) ?_
          exact ih9 (k + 1) n (by omega) (by omega) (hz.trans (zLe_f (by omega) c36)) (by omega)
  exact lp9 (B 0 3 + 1) 0 0 (Nat.zero_le _) (Nat.zero_le _) rfl (by omega)
set_option maxHeartbeats 1000000 in
theorem ct_X13_led_N (l : Launch) {g : gWM} {th tr wh fa : Int32} {tp ac mk : Nat} (p : Int32) (hM : pMq g .null th tr wh tp fa ac mk []) : gCt l yX13_led cX13_led 4 (some .int) 0 0 0 0 [.ref 2000, .int p] g (gPi (oV (sLed zB0 0 p)) (fun g1 => pMq g1 .null (oT (sLed zB0 0 p)) tr wh tp fa ac mk [] ∧ ∀ j, j ≠ 2000 → g1 j = g j)) := by
  refine gCt.of RX13 (by decide) rfl (lo := [some (.ref 2000), some (.int p), none, none]) 2 rfl (Nat.le_of_ble_eq_true rfl) (fun z E Rt => ?_)
  have hM_o := hM
  obtain ⟨hM_F, hM_a, hM_0, hM_1, hM_2, hM_3, hM_5, hM_6, hM_12, hM_15, hM_16, hM_17, hM_18, hM_19, hM_20, hM_26, hM_28, hM_29, -⟩ := hM_o
  refine g_aload_n E dX13_led_0 rfl rfl rfl ?_
  refine g_iconst E (v := 0) dX13_led_1 (by decide) rfl ?_
  refine g_putf E gciX13 (v := .int 0) dX13_led_2 hM_a 0 rfl (by decide) q1740 (.inl rfl) rfl (fun _ => rfl) (fun _ => rfl) rfl (g_upk (fun g1 h1 f1 => ?_))
  refine g_iconst E (v := 0) dX13_led_5 (by decide) rfl ?_
  refine g_istore_n E dX13_led_6 rfl (by decide) rfl (lo1 := [some (.ref 2000), some (.int p), some (.int 0), none]) rfl rfl ?_
  refine g_iconst E (v := 0) dX13_led_7 (by decide) rfl ?_
  refine g_istore_n E dX13_led_8 rfl (by decide) rfl (lo1 := [some (.ref 2000), some (.int p), some (.int 0), some (.int 0)]) rfl rfl ?_
  refine g_aload_n E dX13_led_9 rfl rfl rfl ?_
  refine g_getf E gciX13 dX13_led_10 h1 3 rfl (by decide) q1743 (.inl rfl) (.null) (hM_3) rfl ?_
  refine g_ifnullY E dX13_led_13 (tgt := 58) (by decide) ?_
  refine g_aload_n E dX13_led_58 rfl rfl rfl ?_
  refine g_iconst E (v := 1) dX13_led_59 (by decide) rfl ?_
  refine g_putf E gciX13 (v := .int 1) dX13_led_60 h1 0 rfl (by decide) q1740 (.inl rfl) rfl (fun _ => rfl) (fun _ => rfl) rfl (g_upk (fun g2 h2 f2 => ?_))
  refine g_iconst E (v := 0) dX13_led_63 (by decide) rfl ?_
  have hs3 : sLed zB0 0 p = none := rfl
  exact g_iret E Rt dX13_led_64 rfl (by decide) (by decide) (by rw [hs3]; exact ⟨rfl, ⟨_, h2, rfl, hM_1, hM_2, hM_3, hM_5, hM_6, hM_12, hM_15, hM_16, hM_17, hM_18, hM_19, hM_20, hM_26, hM_28, hM_29, trivial⟩, fun j9 h9 => (f2 j9 (by omega)).trans (f1 j9 (by omega))⟩)
set_option maxHeartbeats 2000000 in
theorem ct_X13_size (l : Launch) {g : gWM} {mb : Nat} {B : gBar} {R : Nat → Int32} {d : Int32} {th tr wh fa : Int32} {tp ac mk : Nat} (w : Int32) (hw : wfB B) (hM : pMq g (.ref mb) th tr wh tp fa ac mk []) (hMb : pMb g mb B) (hV : pRw g 2002 B R d) (h9 : 10000 ≤ mb) : gCt l yX13_size cX13_size 2 (some .int) 1 0 0 22 [.ref 2000, .int w] g (gPi (sSiz true B d tp ac mk w) (fun g1 => pMq g1 (.ref mb) 0 tr wh tp fa ac mk [] ∧ ∀ j, j ≠ 2000 → g1 j = g j)) := by
  refine gCt.of RX13 (by decide) rfl (lo := [some (.ref 2000), some (.int w)]) 0 rfl (Nat.le_of_ble_eq_true rfl) (fun z E Rt => ?_)
  have hw_n := hw.1
  have hM_o := hM
  obtain ⟨hM_F, hM_a, hM_0, hM_1, hM_2, hM_3, hM_5, hM_6, hM_12, hM_15, hM_16, hM_17, hM_18, hM_19, hM_20, hM_26, hM_28, hM_29, -⟩ := hM_o
  have hMb_o := hMb
  obtain ⟨⟨hMb_F, hMb_a, hMb_0, hMb_1, hMb_2, hMb_3, hMb_4, hMb_5, hMb_6, hMb_7, hMb_8, hMb_9, hMb_11, hMb_12, hMb_13, hMb_14, hMb_15, hMb_16, hMb_17, hMb_18, hMb_19, hMb_20, hMb_21, hMb_22, hMb_23, hMb_24, hMb_25, hMb_26, hMb_27, hMb_28, hMb_29, hMb_30, hMb_31⟩, ⟨hMb_f1, hMb_a1, hMb_b1⟩, ⟨hMb_f2, hMb_a2, hMb_b2⟩, ⟨hMb_f3, hMb_a3, hMb_b3⟩, ⟨hMb_f4, hMb_a4, hMb_b4⟩, ⟨hMb_f5, hMb_a5, hMb_b5⟩, ⟨hMb_f6, hMb_a6, hMb_b6⟩, ⟨hMb_f7, hMb_a7, hMb_b7⟩, ⟨hMb_f8, hMb_a8, hMb_b8⟩, ⟨hMb_f9, hMb_a9, hMb_b9⟩, ⟨hMb_f10, hMb_a10, hMb_b10⟩, ⟨hMb_f11, hMb_a11, hMb_b11⟩, ⟨hMb_f12, hMb_a12, hMb_b12⟩, ⟨hMb_f13, hMb_a13, hMb_b13⟩, ⟨hMb_f14, hMb_a14, hMb_b14⟩, ⟨hMb_f15, hMb_a15, hMb_b15⟩, ⟨hMb_f16, hMb_a16, hMb_b16⟩, ⟨hMb_f17, hMb_a17, hMb_b17⟩, ⟨hMb_f18, hMb_a18, hMb_b18⟩, ⟨hMb_f19, hMb_a19, hMb_b19⟩, ⟨hMb_f20, hMb_a20, hMb_b20⟩, ⟨hMb_f21, hMb_a21, hMb_b21⟩⟩ := hMb_o
  have hV_o := hV
  obtain ⟨hV_f, hV_a, hV_r, hV_d⟩ := hV_o
  refine g_aload_n E dX13_size_0 rfl rfl rfl ?_
  refine g_iconst E (v := 0) dX13_size_1 (by decide) rfl ?_
  refine g_putf E gciX13 (v := .int 0) dX13_size_2 hM_a 0 rfl (by decide) q1740 (.inl rfl) rfl (fun _ => rfl) (fun _ => rfl) rfl (g_upk (fun g1 h1 f1 => ?_))
  refine g_iload_n E dX13_size_5 rfl rfl rfl ?_
  refine g_bipush E (v := 12) dX13_size_6 (by decide) rfl ?_
  refine g_icmp_ne E dX13_size_8 (tgt := 16) (by decide) rfl (fun c8 => ?_) (fun c8 => ?_)
  · refine g_iload_n E dX13_size_16 rfl rfl rfl ?_
    refine g_iconst E (v := 0) dX13_size_17 (by decide) rfl ?_
    refine g_bipush E (v := 11) dX13_size_18 (by decide) rfl ?_
    refine g_callS (n9 := 3) (av := [.int w, .int 0, .int 11]) (st := []) E (ct_X13_in l w 0 11) dX13_size_20 q2069 q2070 q135 q2071 (by decide +kernel) rfl rfl ⟨by decide, by decide⟩ ⟨by decide, by decide⟩ (Nat.le_of_ble_eq_true rfl) rfl (gPu.k ?_)
    refine g_if_ne E dX13_size_23 (tgt := 28) (by decide) rfl (fun c23 => ?_) (fun c23 => ?_)
    · have c23 := zb_n0.mp c23
      have hz23 := c23
      refine g_aload_n E dX13_size_28 rfl rfl rfl ?_
      refine g_getf E gciX13 dX13_size_29 h1 3 rfl (by decide) q1743 (.inl rfl) (.ref mb) (hM_3) rfl ?_
      refine g_ifnonnullY E dX13_size_32 (tgt := 37) (by decide) ?_
      refine g_iload_n E dX13_size_37 rfl rfl rfl ?_
      rcases g_cases w (a := 0) (n := 11) (by decide) with c38 | ⟨j9, hj9, c38⟩
      · refine g_tabOut E dX13_size_38 (by have := c38; omega) (tgt := 181) (by decide) ?_
        have h11_ : w = 11 := zIn11 c23 c38
        refine g_aload_n E dX13_size_181 rfl rfl rfl ?_
        refine g_getf E gciX13 dX13_size_182 h1 20 rfl (by decide) q1760 (.inl rfl) (.int (nI mk)) (hM_20) rfl ?_
        have hs2 : sSiz true B d tp ac mk w = nI mk := by simp [sSiz, h11_]
        exact g_iret E Rt dX13_size_185 rfl (by decide) (by decide) (by rw [hs2]; exact ⟨rfl, ⟨_, h1, rfl, hM_1, hM_2, hM_3, hM_5, hM_6, hM_12, hM_15, hM_16, hM_17, hM_18, hM_19, hM_20, hM_26, hM_28, hM_29, trivial⟩, fun j9 h9 => f1 j9 (by omega)⟩)
      · match j9, hj9, c38 with
        | 0, _, c38 =>
          have c38 : w = 0 := c38
          refine g_tabIn E dX13_size_38 (by rw [c38]; decide) (by rw [c38]; decide) (off := 58) (by rw [c38]; rfl) (tgt := 96) (by decide) ?_
          refine g_aload_n E dX13_size_96 rfl rfl rfl ?_
          refine g_getf E gciX13 dX13_size_97 h1 3 rfl (by decide) q1743 (.inl rfl) (.ref mb) (hM_3) rfl ?_
          have x3 := (f1 (mb) (by omega)).trans (hMb_a)
          refine g_getfN E gciX27 dX13_size_100 x3 0 rfl (by decide) q1857 (.inl rfl) (.int (nI (B 0 7))) (hMb_0) rfl ?_
          have hs4 : sSiz true B d tp ac mk w = nI (B 0 7) := by simp [sSiz, c8, c38]
          exact g_iret E Rt dX13_size_103 rfl (by decide) (by decide) (by rw [hs4]; exact ⟨rfl, ⟨_, h1, rfl, hM_1, hM_2, hM_3, hM_5, hM_6, hM_12, hM_15, hM_16, hM_17, hM_18, hM_19, hM_20, hM_26, hM_28, hM_29, trivial⟩, fun j9 h9 => f1 j9 (by omega)⟩)
        | 1, _, c38 =>
          have c38 : w = 1 := c38
          refine g_tabIn E dX13_size_38 (by rw [c38]; decide) (by rw [c38]; decide) (off := 66) (by rw [c38]; rfl) (tgt := 104) (by decide) ?_
          refine g_aload_n E dX13_size_104 rfl rfl rfl ?_
          refine g_getf E gciX13 dX13_size_105 h1 3 rfl (by decide) q1743 (.inl rfl) (.ref mb) (hM_3) rfl ?_
          have x5 := (f1 (mb) (by omega)).trans (hMb_a)
          refine g_getfN E gciX27 dX13_size_108 x5 1 rfl (by decide) q1858 (.inl rfl) (.int (nI (B 0 8))) (hMb_1) rfl ?_
          have hs6 : sSiz true B d tp ac mk w = nI (B 0 8) := by simp [sSiz, c8, c38]
          exact g_iret E Rt dX13_size_111 rfl (by decide) (by decide) (by rw [hs6]; exact ⟨rfl, ⟨_, h1, rfl, hM_1, hM_2, hM_3, hM_5, hM_6, hM_12, hM_15, hM_16, hM_17, hM_18, hM_19, hM_20, hM_26, hM_28, hM_29, trivial⟩, fun j9 h9 => f1 j9 (by omega)⟩)
        | 2, _, c38 =>
          have c38 : w = 2 := c38
          refine g_tabIn E dX13_size_38 (by rw [c38]; decide) (by rw [c38]; decide) (off := 74) (by rw [c38]; rfl) (tgt := 112) (by decide) ?_
          refine g_aload_n E dX13_size_112 rfl rfl rfl ?_
          refine g_getf E gciX13 dX13_size_113 h1 3 rfl (by decide) q1743 (.inl rfl) (.ref mb) (hM_3) rfl ?_
          have x7 := (f1 (mb) (by omega)).trans (hMb_a)
          refine g_getfN E gciX27 dX13_size_116 x7 2 rfl (by decide) q1859 (.inl rfl) (.int (nI (B 0 0))) (hMb_2) rfl ?_
          have hs8 : sSiz true B d tp ac mk w = nI (B 0 0) := by simp [sSiz, c8, c38]
          exact g_iret E Rt dX13_size_119 rfl (by decide) (by decide) (by rw [hs8]; exact ⟨rfl, ⟨_, h1, rfl, hM_1, hM_2, hM_3, hM_5, hM_6, hM_12, hM_15, hM_16, hM_17, hM_18, hM_19, hM_20, hM_26, hM_28, hM_29, trivial⟩, fun j9 h9 => f1 j9 (by omega)⟩)
        | 3, _, c38 =>
          have c38 : w = 3 := c38
          refine g_tabIn E dX13_size_38 (by rw [c38]; decide) (by rw [c38]; decide) (off := 82) (by rw [c38]; rfl) (tgt := 120) (by decide) ?_
          refine g_aload_n E dX13_size_120 rfl rfl rfl ?_
          refine g_getf E gciX13 dX13_size_121 h1 3 rfl (by decide) q1743 (.inl rfl) (.ref mb) (hM_3) rfl ?_
          have x9 := (f1 (mb) (by omega)).trans (hMb_a)
          refine g_getfN E gciX27 dX13_size_124 x9 3 rfl (by decide) q1860 (.inl rfl) (.int (nI (B 0 1))) (hMb_3) rfl ?_
          have hs10 : sSiz true B d tp ac mk w = nI (B 0 1) := by simp [sSiz, c8, c38]
          exact g_iret E Rt dX13_size_127 rfl (by decide) (by decide) (by rw [hs10]; exact ⟨rfl, ⟨_, h1, rfl, hM_1, hM_2, hM_3, hM_5, hM_6, hM_12, hM_15, hM_16, hM_17, hM_18, hM_19, hM_20, hM_26, hM_28, hM_29, trivial⟩, fun j9 h9 => f1 j9 (by omega)⟩)
        | 4, _, c38 =>
          have c38 : w = 4 := c38
          refine g_tabIn E dX13_size_38 (by rw [c38]; decide) (by rw [c38]; decide) (off := 90) (by rw [c38]; rfl) (tgt := 128) (by decide) ?_
          refine g_aload_n E dX13_size_128 rfl rfl rfl ?_
          refine g_getf E gciX13 dX13_size_129 h1 3 rfl (by decide) q1743 (.inl rfl) (.ref mb) (hM_3) rfl ?_
          have x11 := (f1 (mb) (by omega)).trans (hMb_a)
          refine g_getfN E gciX27 dX13_size_132 x11 4 rfl (by decide) q1861 (.inl rfl) (.int (nI (B 0 2))) (hMb_4) rfl ?_
          have hs12 : sSiz true B d tp ac mk w = nI (B 0 2) := by simp [sSiz, c8, c38]
          exact g_iret E Rt dX13_size_135 rfl (by decide) (by decide) (by rw [hs12]; exact ⟨rfl, ⟨_, h1, rfl, hM_1, hM_2, hM_3, hM_5, hM_6, hM_12, hM_15, hM_16, hM_17, hM_18, hM_19, hM_20, hM_26, hM_28, hM_29, trivial⟩, fun j9 h9 => f1 j9 (by omega)⟩)
        | 5, _, c38 =>
          have c38 : w = 5 := c38
          refine g_tabIn E dX13_size_38 (by rw [c38]; decide) (by rw [c38]; decide) (off := 98) (by rw [c38]; rfl) (tgt := 136) (by decide) ?_
          refine g_aload_n E dX13_size_136 rfl rfl rfl ?_
          refine g_getf E gciX13 dX13_size_137 h1 3 rfl (by decide) q1743 (.inl rfl) (.ref mb) (hM_3) rfl ?_
          have x13 := (f1 (mb) (by omega)).trans (hMb_a)
          refine g_getfN E gciX27 dX13_size_140 x13 5 rfl (by decide) q1862 (.inl rfl) (.int (nI (B 0 3))) (hMb_5) rfl ?_
          have hs14 : sSiz true B d tp ac mk w = nI (B 0 3) := by simp [sSiz, c8, c38]
          exact g_iret E Rt dX13_size_143 rfl (by decide) (by decide) (by rw [hs14]; exact ⟨rfl, ⟨_, h1, rfl, hM_1, hM_2, hM_3, hM_5, hM_6, hM_12, hM_15, hM_16, hM_17, hM_18, hM_19, hM_20, hM_26, hM_28, hM_29, trivial⟩, fun j9 h9 => f1 j9 (by omega)⟩)
        | 6, _, c38 =>
          have c38 : w = 6 := c38
          refine g_tabIn E dX13_size_38 (by rw [c38]; decide) (by rw [c38]; decide) (off := 106) (by rw [c38]; rfl) (tgt := 144) (by decide) ?_
          refine g_aload_n E dX13_size_144 rfl rfl rfl ?_
          refine g_getf E gciX13 dX13_size_145 h1 3 rfl (by decide) q1743 (.inl rfl) (.ref mb) (hM_3) rfl ?_
          have x15 := (f1 (mb) (by omega)).trans (hMb_a)
          refine g_getfN E gciX27 dX13_size_148 x15 6 rfl (by decide) q1863 (.inl rfl) (.int (nI (B 0 4))) (hMb_6) rfl ?_
          have hs16 : sSiz true B d tp ac mk w = nI (B 0 4) := by simp [sSiz, c8, c38]
          exact g_iret E Rt dX13_size_151 rfl (by decide) (by decide) (by rw [hs16]; exact ⟨rfl, ⟨_, h1, rfl, hM_1, hM_2, hM_3, hM_5, hM_6, hM_12, hM_15, hM_16, hM_17, hM_18, hM_19, hM_20, hM_26, hM_28, hM_29, trivial⟩, fun j9 h9 => f1 j9 (by omega)⟩)
        | 7, _, c38 =>
          have c38 : w = 7 := c38
          refine g_tabIn E dX13_size_38 (by rw [c38]; decide) (by rw [c38]; decide) (off := 114) (by rw [c38]; rfl) (tgt := 152) (by decide) ?_
          refine g_aload_n E dX13_size_152 rfl rfl rfl ?_
          refine g_getf E gciX13 dX13_size_153 h1 3 rfl (by decide) q1743 (.inl rfl) (.ref mb) (hM_3) rfl ?_
          have x17 := (f1 (mb) (by omega)).trans (hMb_a)
          refine g_getfN E gciX27 dX13_size_156 x17 7 rfl (by decide) q1864 (.inl rfl) (.int (nI (B 0 5))) (hMb_7) rfl ?_
          have hs18 : sSiz true B d tp ac mk w = nI (B 0 5) := by simp [sSiz, c8, c38]
          exact g_iret E Rt dX13_size_159 rfl (by decide) (by decide) (by rw [hs18]; exact ⟨rfl, ⟨_, h1, rfl, hM_1, hM_2, hM_3, hM_5, hM_6, hM_12, hM_15, hM_16, hM_17, hM_18, hM_19, hM_20, hM_26, hM_28, hM_29, trivial⟩, fun j9 h9 => f1 j9 (by omega)⟩)
        | 8, _, c38 =>
          have c38 : w = 8 := c38
          refine g_tabIn E dX13_size_38 (by rw [c38]; decide) (by rw [c38]; decide) (off := 122) (by rw [c38]; rfl) (tgt := 160) (by decide) ?_
          refine g_aload_n E dX13_size_160 rfl rfl rfl ?_
          refine g_getf E gciX13 dX13_size_161 h1 3 rfl (by decide) q1743 (.inl rfl) (.ref mb) (hM_3) rfl ?_
          have x19 := (f1 (mb) (by omega)).trans (hMb_a)
          refine g_getfN E gciX27 dX13_size_164 x19 8 rfl (by decide) q1865 (.inl rfl) (.int (nI (B 0 6))) (hMb_8) rfl ?_
          have hs20 : sSiz true B d tp ac mk w = nI (B 0 6) := by simp [sSiz, c8, c38]
          exact g_iret E Rt dX13_size_167 rfl (by decide) (by decide) (by rw [hs20]; exact ⟨rfl, ⟨_, h1, rfl, hM_1, hM_2, hM_3, hM_5, hM_6, hM_12, hM_15, hM_16, hM_17, hM_18, hM_19, hM_20, hM_26, hM_28, hM_29, trivial⟩, fun j9 h9 => f1 j9 (by omega)⟩)
        | 9, _, c38 =>
          have c38 : w = 9 := c38
          refine g_tabIn E dX13_size_38 (by rw [c38]; decide) (by rw [c38]; decide) (off := 130) (by rw [c38]; rfl) (tgt := 168) (by decide) ?_
          refine g_aload_n E dX13_size_168 rfl rfl rfl ?_
          refine g_getf E gciX13 dX13_size_169 h1 15 rfl (by decide) q1755 (.inl rfl) (.ref 2002) (hM_15) rfl ?_
          refine g_bipush E (v := 17) dX13_size_172 (by decide) rfl ?_
          have x21 := (f1 (2002) (by omega)).trans (hV_a)
          refine g_iald E dX13_size_174 (j := 17) x21 (rfl) (by omega) (by decide) (v := d) (hV_d) rfl ?_
          have hs22 : sSiz true B d tp ac mk w = d := by simp [sSiz, c8, c38]
          exact g_iret E Rt dX13_size_175 rfl (by decide) (by decide) (by rw [hs22]; exact ⟨rfl, ⟨_, h1, rfl, hM_1, hM_2, hM_3, hM_5, hM_6, hM_12, hM_15, hM_16, hM_17, hM_18, hM_19, hM_20, hM_26, hM_28, hM_29, trivial⟩, fun j9 h9 => f1 j9 (by omega)⟩)
        | 10, _, c38 =>
          have c38 : w = 10 := c38
          refine g_tabIn E dX13_size_38 (by rw [c38]; decide) (by rw [c38]; decide) (off := 138) (by rw [c38]; rfl) (tgt := 176) (by decide) ?_
          refine g_aload_n E dX13_size_176 rfl rfl rfl ?_
          refine g_getf E gciX13 dX13_size_177 h1 19 rfl (by decide) q1759 (.inl rfl) (.int (nI ac)) (hM_19) rfl ?_
          have hs23 : sSiz true B d tp ac mk w = nI ac := by simp [sSiz, c8, c38]
          exact g_iret E Rt dX13_size_180 rfl (by decide) (by decide) (by rw [hs23]; exact ⟨rfl, ⟨_, h1, rfl, hM_1, hM_2, hM_3, hM_5, hM_6, hM_12, hM_15, hM_16, hM_17, hM_18, hM_19, hM_20, hM_26, hM_28, hM_29, trivial⟩, fun j9 h9 => f1 j9 (by omega)⟩)
    · have c23 := zb_0.mp c23
      have w0_ : ¬ w = 0 := by intro h9; rw [h9] at c23; revert c23; decide
      have w1_ : ¬ w = 1 := by intro h9; rw [h9] at c23; revert c23; decide
      have w2_ : ¬ w = 2 := by intro h9; rw [h9] at c23; revert c23; decide
      have w3_ : ¬ w = 3 := by intro h9; rw [h9] at c23; revert c23; decide
      have w4_ : ¬ w = 4 := by intro h9; rw [h9] at c23; revert c23; decide
      have w5_ : ¬ w = 5 := by intro h9; rw [h9] at c23; revert c23; decide
      have w6_ : ¬ w = 6 := by intro h9; rw [h9] at c23; revert c23; decide
      have w7_ : ¬ w = 7 := by intro h9; rw [h9] at c23; revert c23; decide
      have w8_ : ¬ w = 8 := by intro h9; rw [h9] at c23; revert c23; decide
      have w9_ : ¬ w = 9 := by intro h9; rw [h9] at c23; revert c23; decide
      have w10_ : ¬ w = 10 := by intro h9; rw [h9] at c23; revert c23; decide
      have w11_ : ¬ w = 11 := by intro h9; rw [h9] at c23; revert c23; decide
      refine g_iconst E (v := (-1)) dX13_size_26 (by decide) rfl ?_
      have hs24 : sSiz true B d tp ac mk w = (-1) := by simp [sSiz, c8, w0_, w1_, w2_, w3_, w4_, w5_, w6_, w7_, w8_, w9_, w10_, w11_]
      exact g_iret E Rt dX13_size_27 rfl (by decide) (by decide) (by rw [hs24]; exact ⟨rfl, ⟨_, h1, rfl, hM_1, hM_2, hM_3, hM_5, hM_6, hM_12, hM_15, hM_16, hM_17, hM_18, hM_19, hM_20, hM_26, hM_28, hM_29, trivial⟩, fun j9 h9 => f1 j9 (by omega)⟩)
  · refine g_aload_n E dX13_size_11 rfl rfl rfl ?_
    refine g_getf E gciX13 dX13_size_12 h1 6 rfl (by decide) q1746 (.inl rfl) (.int (nI tp)) (hM_6) rfl ?_
    have hs25 : sSiz true B d tp ac mk w = nI tp := by simp [sSiz, c8]
    exact g_iret E Rt dX13_size_15 rfl (by decide) (by decide) (by rw [hs25]; exact ⟨rfl, ⟨_, h1, rfl, hM_1, hM_2, hM_3, hM_5, hM_6, hM_12, hM_15, hM_16, hM_17, hM_18, hM_19, hM_20, hM_26, hM_28, hM_29, trivial⟩, fun j9 h9 => f1 j9 (by omega)⟩)
set_option maxHeartbeats 2000000 in
theorem ct_X13_size_N (l : Launch) {g : gWM} {th tr wh fa : Int32} {tp ac mk : Nat} (w : Int32) (hM : pMq g .null th tr wh tp fa ac mk []) : gCt l yX13_size cX13_size 2 (some .int) 1 0 0 22 [.ref 2000, .int w] g (gPi (sSiz false zB0 0 tp ac mk w) (fun g1 => pMq g1 .null 0 tr wh tp fa ac mk [] ∧ ∀ j, j ≠ 2000 → g1 j = g j)) := by
  refine gCt.of RX13 (by decide) rfl (lo := [some (.ref 2000), some (.int w)]) 0 rfl (Nat.le_of_ble_eq_true rfl) (fun z E Rt => ?_)
  have hM_o := hM
  obtain ⟨hM_F, hM_a, hM_0, hM_1, hM_2, hM_3, hM_5, hM_6, hM_12, hM_15, hM_16, hM_17, hM_18, hM_19, hM_20, hM_26, hM_28, hM_29, -⟩ := hM_o
  refine g_aload_n E dX13_size_0 rfl rfl rfl ?_
  refine g_iconst E (v := 0) dX13_size_1 (by decide) rfl ?_
  refine g_putf E gciX13 (v := .int 0) dX13_size_2 hM_a 0 rfl (by decide) q1740 (.inl rfl) rfl (fun _ => rfl) (fun _ => rfl) rfl (g_upk (fun g1 h1 f1 => ?_))
  refine g_iload_n E dX13_size_5 rfl rfl rfl ?_
  refine g_bipush E (v := 12) dX13_size_6 (by decide) rfl ?_
  refine g_icmp_ne E dX13_size_8 (tgt := 16) (by decide) rfl (fun c8 => ?_) (fun c8 => ?_)
  · refine g_iload_n E dX13_size_16 rfl rfl rfl ?_
    refine g_iconst E (v := 0) dX13_size_17 (by decide) rfl ?_
    refine g_bipush E (v := 11) dX13_size_18 (by decide) rfl ?_
    refine g_callS (n9 := 3) (av := [.int w, .int 0, .int 11]) (st := []) E (ct_X13_in l w 0 11) dX13_size_20 q2069 q2070 q135 q2071 (by decide +kernel) rfl rfl ⟨by decide, by decide⟩ ⟨by decide, by decide⟩ (Nat.le_of_ble_eq_true rfl) rfl (gPu.k ?_)
    refine g_if_ne E dX13_size_23 (tgt := 28) (by decide) rfl (fun c23 => ?_) (fun c23 => ?_)
    · have c23 := zb_n0.mp c23
      have hz23 := c23
      refine g_aload_n E dX13_size_28 rfl rfl rfl ?_
      refine g_getf E gciX13 dX13_size_29 h1 3 rfl (by decide) q1743 (.inl rfl) (.null) (hM_3) rfl ?_
      refine g_ifnonnullN E dX13_size_32 rfl ?_
      refine g_iconst E (v := 0) dX13_size_35 (by decide) rfl ?_
      have hs2 : sSiz false zB0 0 tp ac mk w = 0 := by simp [sSiz, c8, hz23]
      exact g_iret E Rt dX13_size_36 rfl (by decide) (by decide) (by rw [hs2]; exact ⟨rfl, ⟨_, h1, rfl, hM_1, hM_2, hM_3, hM_5, hM_6, hM_12, hM_15, hM_16, hM_17, hM_18, hM_19, hM_20, hM_26, hM_28, hM_29, trivial⟩, fun j9 h9 => f1 j9 (by omega)⟩)
    · have c23 := zb_0.mp c23
      have hz23 := c23
      refine g_iconst E (v := (-1)) dX13_size_26 (by decide) rfl ?_
      have hs3 : sSiz false zB0 0 tp ac mk w = (-1) := by simp [sSiz, c8, hz23]
      exact g_iret E Rt dX13_size_27 rfl (by decide) (by decide) (by rw [hs3]; exact ⟨rfl, ⟨_, h1, rfl, hM_1, hM_2, hM_3, hM_5, hM_6, hM_12, hM_15, hM_16, hM_17, hM_18, hM_19, hM_20, hM_26, hM_28, hM_29, trivial⟩, fun j9 h9 => f1 j9 (by omega)⟩)
  · refine g_aload_n E dX13_size_11 rfl rfl rfl ?_
    refine g_getf E gciX13 dX13_size_12 h1 6 rfl (by decide) q1746 (.inl rfl) (.int (nI tp)) (hM_6) rfl ?_
    have hs4 : sSiz false zB0 0 tp ac mk w = nI tp := by simp [sSiz, c8]
    exact g_iret E Rt dX13_size_15 rfl (by decide) (by decide) (by rw [hs4]; exact ⟨rfl, ⟨_, h1, rfl, hM_1, hM_2, hM_3, hM_5, hM_6, hM_12, hM_15, hM_16, hM_17, hM_18, hM_19, hM_20, hM_26, hM_28, hM_29, trivial⟩, fun j9 h9 => f1 j9 (by omega)⟩)
set_option maxHeartbeats 400000 in
theorem ct_X13_trouble (l : Launch) {g : gWM} {bar : Value} {th tr wh fa : Int32} {tp ac mk : Nat} (hM : pMq g bar th tr wh tp fa ac mk []) : gCt l yX13_trouble cX13_trouble 1 (some .int) 0 0 0 0 [.ref 2000] g (gPi tr (fun g1 => pMq g1 bar 0 tr wh tp fa ac mk [] ∧ ∀ j, j ≠ 2000 → g1 j = g j)) := by
  refine gCt.of RX13 (by decide) rfl (lo := [some (.ref 2000)]) 0 rfl (Nat.le_of_ble_eq_true rfl) (fun z E Rt => ?_)
  have hM_o := hM
  obtain ⟨hM_F, hM_a, hM_0, hM_1, hM_2, hM_3, hM_5, hM_6, hM_12, hM_15, hM_16, hM_17, hM_18, hM_19, hM_20, hM_26, hM_28, hM_29, -⟩ := hM_o
  refine g_aload_n E dX13_trouble_0 rfl rfl rfl ?_
  refine g_iconst E (v := 0) dX13_trouble_1 (by decide) rfl ?_
  refine g_putf E gciX13 (v := .int 0) dX13_trouble_2 hM_a 0 rfl (by decide) q1740 (.inl rfl) rfl (fun _ => rfl) (fun _ => rfl) rfl (g_upk (fun g1 h1 f1 => ?_))
  refine g_aload_n E dX13_trouble_5 rfl rfl rfl ?_
  refine g_getf E gciX13 dX13_trouble_6 h1 1 rfl (by decide) q1741 (.inl rfl) (.int tr) (hM_1) rfl ?_
  exact g_iret E Rt dX13_trouble_9 rfl (by decide) (by decide) (⟨rfl, ⟨_, h1, rfl, hM_1, hM_2, hM_3, hM_5, hM_6, hM_12, hM_15, hM_16, hM_17, hM_18, hM_19, hM_20, hM_26, hM_28, hM_29, trivial⟩, fun j9 h9 => f1 j9 (by omega)⟩)
set_option maxHeartbeats 400000 in
theorem ct_X13_fault (l : Launch) {g : gWM} {bar : Value} {th tr wh fa : Int32} {tp ac mk : Nat} (hM : pMq g bar th tr wh tp fa ac mk []) : gCt l yX13_fault cX13_fault 1 (some .int) 0 0 0 0 [.ref 2000] g (gPi fa (fun g1 => pMq g1 bar 0 tr wh tp fa ac mk [] ∧ ∀ j, j ≠ 2000 → g1 j = g j)) := by
  refine gCt.of RX13 (by decide) rfl (lo := [some (.ref 2000)]) 0 rfl (Nat.le_of_ble_eq_true rfl) (fun z E Rt => ?_)
  have hM_o := hM
  obtain ⟨hM_F, hM_a, hM_0, hM_1, hM_2, hM_3, hM_5, hM_6, hM_12, hM_15, hM_16, hM_17, hM_18, hM_19, hM_20, hM_26, hM_28, hM_29, -⟩ := hM_o
  refine g_aload_n E dX13_fault_0 rfl rfl rfl ?_
  refine g_iconst E (v := 0) dX13_fault_1 (by decide) rfl ?_
  refine g_putf E gciX13 (v := .int 0) dX13_fault_2 hM_a 0 rfl (by decide) q1740 (.inl rfl) rfl (fun _ => rfl) (fun _ => rfl) rfl (g_upk (fun g1 h1 f1 => ?_))
  refine g_aload_n E dX13_fault_5 rfl rfl rfl ?_
  refine g_getf E gciX13 dX13_fault_6 h1 12 rfl (by decide) q1752 (.inl rfl) (.int fa) (hM_12) rfl ?_
  exact g_iret E Rt dX13_fault_9 rfl (by decide) (by decide) (⟨rfl, ⟨_, h1, rfl, hM_1, hM_2, hM_3, hM_5, hM_6, hM_12, hM_15, hM_16, hM_17, hM_18, hM_19, hM_20, hM_26, hM_28, hM_29, trivial⟩, fun j9 h9 => f1 j9 (by omega)⟩)
set_option maxHeartbeats 400000 in
theorem ct_X13_where (l : Launch) {g : gWM} {bar : Value} {th tr wh fa : Int32} {tp ac mk : Nat} (hM : pMq g bar th tr wh tp fa ac mk []) : gCt l yX13_where cX13_where 1 (some .int) 0 0 0 0 [.ref 2000] g (gPi wh (fun g1 => pMq g1 bar 0 tr wh tp fa ac mk [] ∧ ∀ j, j ≠ 2000 → g1 j = g j)) := by
  refine gCt.of RX13 (by decide) rfl (lo := [some (.ref 2000)]) 0 rfl (Nat.le_of_ble_eq_true rfl) (fun z E Rt => ?_)
  have hM_o := hM
  obtain ⟨hM_F, hM_a, hM_0, hM_1, hM_2, hM_3, hM_5, hM_6, hM_12, hM_15, hM_16, hM_17, hM_18, hM_19, hM_20, hM_26, hM_28, hM_29, -⟩ := hM_o
  refine g_aload_n E dX13_where_0 rfl rfl rfl ?_
  refine g_iconst E (v := 0) dX13_where_1 (by decide) rfl ?_
  refine g_putf E gciX13 (v := .int 0) dX13_where_2 hM_a 0 rfl (by decide) q1740 (.inl rfl) rfl (fun _ => rfl) (fun _ => rfl) rfl (g_upk (fun g1 h1 f1 => ?_))
  refine g_aload_n E dX13_where_5 rfl rfl rfl ?_
  refine g_getf E gciX13 dX13_where_6 h1 2 rfl (by decide) q1742 (.inl rfl) (.int wh) (hM_2) rfl ?_
  exact g_iret E Rt dX13_where_9 rfl (by decide) (by decide) (⟨rfl, ⟨_, h1, rfl, hM_1, hM_2, hM_3, hM_5, hM_6, hM_12, hM_15, hM_16, hM_17, hM_18, hM_19, hM_20, hM_26, hM_28, hM_29, trivial⟩, fun j9 h9 => f1 j9 (by omega)⟩)
set_option maxHeartbeats 400000 in
theorem ct_X13_thrown (l : Launch) {g : gWM} {bar : Value} {th tr wh fa : Int32} {tp ac mk : Nat} (hM : pMq g bar th tr wh tp fa ac mk []) : gCt l yX13_thrown cX13_thrown 1 (some .int) 0 0 0 0 [.ref 2000] g (gPu (.int th) g) := by
  refine gCt.of RX13 (by decide) rfl (lo := [some (.ref 2000)]) 0 rfl (Nat.le_of_ble_eq_true rfl) (fun z E Rt => ?_)
  have hM_o := hM
  obtain ⟨hM_F, hM_a, hM_0, hM_1, hM_2, hM_3, hM_5, hM_6, hM_12, hM_15, hM_16, hM_17, hM_18, hM_19, hM_20, hM_26, hM_28, hM_29, -⟩ := hM_o
  refine g_aload_n E dX13_thrown_0 rfl rfl rfl ?_
  refine g_getf E gciX13 dX13_thrown_1 hM_a 0 rfl (by decide) q1740 (.inl rfl) (.int th) (hM_0) rfl ?_
  exact g_iret E Rt dX13_thrown_4 rfl (by decide) (by decide) (⟨rfl, rfl⟩)
set_option maxHeartbeats 4000000 in
theorem ct_X13_feed (l : Launch) {g : gWM} {bar : Value} {th tr wh fa : Int32} {tp ac mk : Nat} {T : Nat → Int32} (a b c d e : Int32) (hM : pMq g bar th tr wh tp fa ac mk []) (hTp : pTp g 2001 T tp) (htp : tp ≤ 1100) : gCt l yX13_feed cX13_feed 8 (some .int) 0 0 0 0 [.ref 2000, .int a, .int b, .int c, .int d, .int e] g (gPi (if tp + 20 ≤ 1100 then nI (tp + 20) else -1) (fun g1 => pMq g1 bar 0 tr wh (if tp + 20 ≤ 1100 then tp + 20 else tp) fa ac mk [] ∧ pTp g1 2001 (if tp + 20 ≤ 1100 then zFed T tp a b c d e else T) (if tp + 20 ≤ 1100 then tp + 20 else tp) ∧ ∀ j, (j ≠ 2000 ∧ j ≠ 2001) → g1 j = g j)) := by
  refine gCt.of RX13 (by decide) rfl (lo := [some (.ref 2000), some (.int a), some (.int b), some (.int c), some (.int d), some (.int e), none, none]) 2 rfl (Nat.le_of_ble_eq_true rfl) (fun z E Rt => ?_)
  have hM_o := hM
  obtain ⟨hM_F, hM_a, hM_0, hM_1, hM_2, hM_3, hM_5, hM_6, hM_12, hM_15, hM_16, hM_17, hM_18, hM_19, hM_20, hM_26, hM_28, hM_29, -⟩ := hM_o
  have hTp_o := hTp
  obtain ⟨hTp_f, hTp_a, hTp_b⟩ := hTp_o
  refine g_aload_n E dX13_feed_0 rfl rfl rfl ?_
  refine g_iconst E (v := 0) dX13_feed_1 (by decide) rfl ?_
  refine g_putf E gciX13 (v := .int 0) dX13_feed_2 hM_a 0 rfl (by decide) q1740 (.inl rfl) rfl (fun _ => rfl) (fun _ => rfl) rfl (g_upk (fun g1 h1 f1 => ?_))
  refine g_aload_n E dX13_feed_5 rfl rfl rfl ?_
  refine g_getf E gciX13 dX13_feed_6 h1 6 rfl (by decide) q1746 (.inl rfl) (.int (nI tp)) (hM_6) rfl ?_
  refine g_bipush E (v := 20) dX13_feed_9 (by decide) rfl ?_
  refine g_iadd E dX13_feed_11 rfl ?_
  refine g_as (y := nI (tp + 20)) (nI_add tp 20) ?_
  refine g_sipush E (v := 1100) dX13_feed_12 (by decide) rfl ?_
  refine g_icmp_le E dX13_feed_15 (tgt := 20) (by decide) rfl (fun c15 => ?_) (fun c15 => ?_)
  · have c15 := (nI_leI (a := tp + 20) (b := 1100) (by omega) (by omega)).mp c15
    refine g_iconst E (v := 0) dX13_feed_20 (by decide) rfl ?_
    refine g_istore E dX13_feed_21 (by decide) rfl (lo1 := [some (.ref 2000), some (.int a), some (.int b), some (.int c), some (.int d), some (.int e), some (.int 0), none]) rfl rfl ?_
    refine g_iload E dX13_feed_23 rfl rfl ?_
    refine g_bipush E (v := 20) dX13_feed_25 (by decide) rfl ?_
    refine g_icmp_ge E dX13_feed_27 (tgt := 117) (by decide) rfl (fun h9 => absurd h9 (by decide)) (fun _ => ?_)
    refine g_iload E dX13_feed_30 rfl rfl ?_
    refine g_iconst E (v := 4) dX13_feed_32 (by decide) rfl ?_
    refine g_icmp_ge E dX13_feed_33 (tgt := 40) (by decide) rfl (fun h9 => absurd h9 (by decide)) (fun _ => ?_)
    refine g_iload_n E dX13_feed_36 rfl rfl rfl ?_
    refine g_goto E dX13_feed_37 (tgt := 76) (by decide) ?_
    refine g_istore E dX13_feed_76 (by decide) rfl (lo1 := [some (.ref 2000), some (.int a), some (.int b), some (.int c), some (.int d), some (.int e), some (.int 0), some (.int a)]) rfl rfl ?_
    refine g_aload_n E dX13_feed_78 rfl rfl rfl ?_
    refine g_getf E gciX13 dX13_feed_79 h1 5 rfl (by decide) q1745 (.inl rfl) (.ref 2001) (hM_5) rfl ?_
    refine g_aload_n E dX13_feed_82 rfl rfl rfl ?_
    refine g_getf E gciX13 dX13_feed_83 h1 6 rfl (by decide) q1746 (.inl rfl) (.int (nI tp)) (hM_6) rfl ?_
    refine g_iload E dX13_feed_86 rfl rfl ?_
    refine g_bipush E (v := 24) dX13_feed_88 (by decide) rfl ?_
    refine g_bipush E (v := 8) dX13_feed_90 (by decide) rfl ?_
    refine g_iload E dX13_feed_92 rfl rfl ?_
    refine g_iconst E (v := 4) dX13_feed_94 (by decide) rfl ?_
    refine g_irem E dX13_feed_95 (by decide) rfl ?_
    refine g_as (y := 0) (by decide) ?_
    refine g_imul E dX13_feed_96 rfl ?_
    refine g_as (y := 0) (by decide) ?_
    refine g_isub E dX13_feed_97 rfl ?_
    refine g_as (y := 24) (by decide) ?_
    refine g_ishr E dX13_feed_98 rfl ?_
    refine g_i2b E dX13_feed_99 rfl ?_
    have x2 := (f1 (2001) (by omega)).trans (hTp_a)
    refine g_bast E dX13_feed_100 (j := tp) x2 (rfl) (by omega) (by decide) rfl (g_upk (fun g3 h3 f3 => ?_))
    refine g_aload_n E dX13_feed_101 rfl rfl rfl ?_
    refine g_dup E dX13_feed_102 rfl rfl ?_
    have x4 := (f3 (2000) (by omega)).trans (h1)
    refine g_getf E gciX13 dX13_feed_103 x4 6 rfl (by decide) q1746 (.inl rfl) (.int (nI tp)) (hM_6) rfl ?_
    refine g_iconst E (v := 1) dX13_feed_106 (by decide) rfl ?_
    refine g_iadd E dX13_feed_107 rfl ?_
    refine g_as (y := nI (tp + 1)) ((nI_succ _).symm) ?_
    refine g_putf E gciX13 (v := .int (nI (tp + 1))) dX13_feed_108 x4 6 rfl (by decide) q1746 (.inl rfl) rfl (fun _ => rfl) (fun _ => rfl) rfl (g_upk (fun g5 h5 f5 => ?_))
    refine g_iinc E dX13_feed_111 rfl (v := 1) (rfl) (by decide) rfl (lo1 := [some (.ref 2000), some (.int a), some (.int b), some (.int c), some (.int d), some (.int e), some (.int 1), some (.int a)]) rfl rfl ?_
    refine g_goto E dX13_feed_114 (tgt := 23) (by decide) ?_
    refine g_iload E dX13_feed_23 rfl rfl ?_
    refine g_bipush E (v := 20) dX13_feed_25 (by decide) rfl ?_
    refine g_icmp_ge E dX13_feed_27 (tgt := 117) (by decide) rfl (fun h9 => absurd h9 (by decide)) (fun _ => ?_)
    refine g_iload E dX13_feed_30 rfl rfl ?_
    refine g_iconst E (v := 4) dX13_feed_32 (by decide) rfl ?_
    refine g_icmp_ge E dX13_feed_33 (tgt := 40) (by decide) rfl (fun h9 => absurd h9 (by decide)) (fun _ => ?_)
    refine g_iload_n E dX13_feed_36 rfl rfl rfl ?_
    refine g_goto E dX13_feed_37 (tgt := 76) (by decide) ?_
    refine g_istore E dX13_feed_76 (by decide) rfl (lo1 := [some (.ref 2000), some (.int a), some (.int b), some (.int c), some (.int d), some (.int e), some (.int 1), some (.int a)]) rfl rfl ?_
    refine g_aload_n E dX13_feed_78 rfl rfl rfl ?_
    refine g_getf E gciX13 dX13_feed_79 h5 5 rfl (by decide) q1745 (.inl rfl) (.ref 2001) (hM_5) rfl ?_
    refine g_aload_n E dX13_feed_82 rfl rfl rfl ?_
    refine g_getf E gciX13 dX13_feed_83 h5 6 rfl (by decide) q1746 (.inl rfl) (.int (nI (tp + 1))) (rfl) rfl ?_
    refine g_iload E dX13_feed_86 rfl rfl ?_
    refine g_bipush E (v := 24) dX13_feed_88 (by decide) rfl ?_
    refine g_bipush E (v := 8) dX13_feed_90 (by decide) rfl ?_
    refine g_iload E dX13_feed_92 rfl rfl ?_
    refine g_iconst E (v := 4) dX13_feed_94 (by decide) rfl ?_
    refine g_irem E dX13_feed_95 (by decide) rfl ?_
    refine g_as (y := 1) (by decide) ?_
    refine g_imul E dX13_feed_96 rfl ?_
    refine g_as (y := 8) (by decide) ?_
    refine g_isub E dX13_feed_97 rfl ?_
    refine g_as (y := 16) (by decide) ?_
    refine g_ishr E dX13_feed_98 rfl ?_
    refine g_i2b E dX13_feed_99 rfl ?_
    have x6 := (f5 (2001) (by omega)).trans (h3)
    refine g_bast E dX13_feed_100 (j := tp + 1) x6 (rfl) (by omega) (by decide) rfl (g_upk (fun g7 h7 f7 => ?_))
    refine g_aload_n E dX13_feed_101 rfl rfl rfl ?_
    refine g_dup E dX13_feed_102 rfl rfl ?_
    have x8 := (f7 (2000) (by omega)).trans (h5)
    refine g_getf E gciX13 dX13_feed_103 x8 6 rfl (by decide) q1746 (.inl rfl) (.int (nI (tp + 1))) (rfl) rfl ?_
    refine g_iconst E (v := 1) dX13_feed_106 (by decide) rfl ?_
    refine g_iadd E dX13_feed_107 rfl ?_
    refine g_as (y := nI (tp + 2)) ((nI_succ _).symm) ?_
    refine g_putf E gciX13 (v := .int (nI (tp + 2))) dX13_feed_108 x8 6 rfl (by decide) q1746 (.inl rfl) rfl (fun _ => rfl) (fun _ => rfl) rfl (g_upk (fun g9 h9 f9 => ?_))
    refine g_iinc E dX13_feed_111 rfl (v := 2) (rfl) (by decide) rfl (lo1 := [some (.ref 2000), some (.int a), some (.int b), some (.int c), some (.int d), some (.int e), some (.int 2), some (.int a)]) rfl rfl ?_
    refine g_goto E dX13_feed_114 (tgt := 23) (by decide) ?_
    refine g_iload E dX13_feed_23 rfl rfl ?_
    refine g_bipush E (v := 20) dX13_feed_25 (by decide) rfl ?_
    refine g_icmp_ge E dX13_feed_27 (tgt := 117) (by decide) rfl (fun h9 => absurd h9 (by decide)) (fun _ => ?_)
    refine g_iload E dX13_feed_30 rfl rfl ?_
    refine g_iconst E (v := 4) dX13_feed_32 (by decide) rfl ?_
    refine g_icmp_ge E dX13_feed_33 (tgt := 40) (by decide) rfl (fun h9 => absurd h9 (by decide)) (fun _ => ?_)
    refine g_iload_n E dX13_feed_36 rfl rfl rfl ?_
    refine g_goto E dX13_feed_37 (tgt := 76) (by decide) ?_
    refine g_istore E dX13_feed_76 (by decide) rfl (lo1 := [some (.ref 2000), some (.int a), some (.int b), some (.int c), some (.int d), some (.int e), some (.int 2), some (.int a)]) rfl rfl ?_
    refine g_aload_n E dX13_feed_78 rfl rfl rfl ?_
    refine g_getf E gciX13 dX13_feed_79 h9 5 rfl (by decide) q1745 (.inl rfl) (.ref 2001) (hM_5) rfl ?_
    refine g_aload_n E dX13_feed_82 rfl rfl rfl ?_
    refine g_getf E gciX13 dX13_feed_83 h9 6 rfl (by decide) q1746 (.inl rfl) (.int (nI (tp + 2))) (rfl) rfl ?_
    refine g_iload E dX13_feed_86 rfl rfl ?_
    refine g_bipush E (v := 24) dX13_feed_88 (by decide) rfl ?_
    refine g_bipush E (v := 8) dX13_feed_90 (by decide) rfl ?_
    refine g_iload E dX13_feed_92 rfl rfl ?_
    refine g_iconst E (v := 4) dX13_feed_94 (by decide) rfl ?_
    refine g_irem E dX13_feed_95 (by decide) rfl ?_
    refine g_as (y := 2) (by decide) ?_
    refine g_imul E dX13_feed_96 rfl ?_
    refine g_as (y := 16) (by decide) ?_
    refine g_isub E dX13_feed_97 rfl ?_
    refine g_as (y := 8) (by decide) ?_
    refine g_ishr E dX13_feed_98 rfl ?_
    refine g_i2b E dX13_feed_99 rfl ?_
    have x10 := (f9 (2001) (by omega)).trans (h7)
    refine g_bast E dX13_feed_100 (j := tp + 2) x10 (rfl) (by omega) (by decide) rfl (g_upk (fun g11 h11 f11 => ?_))
    refine g_aload_n E dX13_feed_101 rfl rfl rfl ?_
    refine g_dup E dX13_feed_102 rfl rfl ?_
    have x12 := (f11 (2000) (by omega)).trans (h9)
    refine g_getf E gciX13 dX13_feed_103 x12 6 rfl (by decide) q1746 (.inl rfl) (.int (nI (tp + 2))) (rfl) rfl ?_
    refine g_iconst E (v := 1) dX13_feed_106 (by decide) rfl ?_
    refine g_iadd E dX13_feed_107 rfl ?_
    refine g_as (y := nI (tp + 3)) ((nI_succ _).symm) ?_
    refine g_putf E gciX13 (v := .int (nI (tp + 3))) dX13_feed_108 x12 6 rfl (by decide) q1746 (.inl rfl) rfl (fun _ => rfl) (fun _ => rfl) rfl (g_upk (fun g13 h13 f13 => ?_))
    refine g_iinc E dX13_feed_111 rfl (v := 3) (rfl) (by decide) rfl (lo1 := [some (.ref 2000), some (.int a), some (.int b), some (.int c), some (.int d), some (.int e), some (.int 3), some (.int a)]) rfl rfl ?_
    refine g_goto E dX13_feed_114 (tgt := 23) (by decide) ?_
    refine g_iload E dX13_feed_23 rfl rfl ?_
    refine g_bipush E (v := 20) dX13_feed_25 (by decide) rfl ?_
    refine g_icmp_ge E dX13_feed_27 (tgt := 117) (by decide) rfl (fun h9 => absurd h9 (by decide)) (fun _ => ?_)
    refine g_iload E dX13_feed_30 rfl rfl ?_
    refine g_iconst E (v := 4) dX13_feed_32 (by decide) rfl ?_
    refine g_icmp_ge E dX13_feed_33 (tgt := 40) (by decide) rfl (fun h9 => absurd h9 (by decide)) (fun _ => ?_)
    refine g_iload_n E dX13_feed_36 rfl rfl rfl ?_
    refine g_goto E dX13_feed_37 (tgt := 76) (by decide) ?_
    refine g_istore E dX13_feed_76 (by decide) rfl (lo1 := [some (.ref 2000), some (.int a), some (.int b), some (.int c), some (.int d), some (.int e), some (.int 3), some (.int a)]) rfl rfl ?_
    refine g_aload_n E dX13_feed_78 rfl rfl rfl ?_
    refine g_getf E gciX13 dX13_feed_79 h13 5 rfl (by decide) q1745 (.inl rfl) (.ref 2001) (hM_5) rfl ?_
    refine g_aload_n E dX13_feed_82 rfl rfl rfl ?_
    refine g_getf E gciX13 dX13_feed_83 h13 6 rfl (by decide) q1746 (.inl rfl) (.int (nI (tp + 3))) (rfl) rfl ?_
    refine g_iload E dX13_feed_86 rfl rfl ?_
    refine g_bipush E (v := 24) dX13_feed_88 (by decide) rfl ?_
    refine g_bipush E (v := 8) dX13_feed_90 (by decide) rfl ?_
    refine g_iload E dX13_feed_92 rfl rfl ?_
    refine g_iconst E (v := 4) dX13_feed_94 (by decide) rfl ?_
    refine g_irem E dX13_feed_95 (by decide) rfl ?_
    refine g_as (y := 3) (by decide) ?_
    refine g_imul E dX13_feed_96 rfl ?_
    refine g_as (y := 24) (by decide) ?_
    refine g_isub E dX13_feed_97 rfl ?_
    refine g_as (y := 0) (by decide) ?_
    refine g_ishr E dX13_feed_98 rfl ?_
    refine g_i2b E dX13_feed_99 rfl ?_
    have x14 := (f13 (2001) (by omega)).trans (h11)
    refine g_bast E dX13_feed_100 (j := tp + 3) x14 (rfl) (by omega) (by decide) rfl (g_upk (fun g15 h15 f15 => ?_))
    refine g_aload_n E dX13_feed_101 rfl rfl rfl ?_
    refine g_dup E dX13_feed_102 rfl rfl ?_
    have x16 := (f15 (2000) (by omega)).trans (h13)
    refine g_getf E gciX13 dX13_feed_103 x16 6 rfl (by decide) q1746 (.inl rfl) (.int (nI (tp + 3))) (rfl) rfl ?_
    refine g_iconst E (v := 1) dX13_feed_106 (by decide) rfl ?_
    refine g_iadd E dX13_feed_107 rfl ?_
    refine g_as (y := nI (tp + 4)) ((nI_succ _).symm) ?_
    refine g_putf E gciX13 (v := .int (nI (tp + 4))) dX13_feed_108 x16 6 rfl (by decide) q1746 (.inl rfl) rfl (fun _ => rfl) (fun _ => rfl) rfl (g_upk (fun g17 h17 f17 => ?_))
    refine g_iinc E dX13_feed_111 rfl (v := 4) (rfl) (by decide) rfl (lo1 := [some (.ref 2000), some (.int a), some (.int b), some (.int c), some (.int d), some (.int e), some (.int 4), some (.int a)]) rfl rfl ?_
    refine g_goto E dX13_feed_114 (tgt := 23) (by decide) ?_
    refine g_iload E dX13_feed_23 rfl rfl ?_
    refine g_bipush E (v := 20) dX13_feed_25 (by decide) rfl ?_
    refine g_icmp_ge E dX13_feed_27 (tgt := 117) (by decide) rfl (fun h9 => absurd h9 (by decide)) (fun _ => ?_)
    refine g_iload E dX13_feed_30 rfl rfl ?_
    refine g_iconst E (v := 4) dX13_feed_32 (by decide) rfl ?_
    refine g_icmp_ge E dX13_feed_33 (tgt := 40) (by decide) rfl (fun _ => ?_) (fun h9 => absurd h9 (by decide))
    refine g_iload E dX13_feed_40 rfl rfl ?_
    refine g_bipush E (v := 8) dX13_feed_42 (by decide) rfl ?_
    refine g_icmp_ge E dX13_feed_44 (tgt := 51) (by decide) rfl (fun h9 => absurd h9 (by decide)) (fun _ => ?_)
    refine g_iload_n E dX13_feed_47 rfl rfl rfl ?_
    refine g_goto E dX13_feed_48 (tgt := 76) (by decide) ?_
    refine g_istore E dX13_feed_76 (by decide) rfl (lo1 := [some (.ref 2000), some (.int a), some (.int b), some (.int c), some (.int d), some (.int e), some (.int 4), some (.int b)]) rfl rfl ?_
    refine g_aload_n E dX13_feed_78 rfl rfl rfl ?_
    refine g_getf E gciX13 dX13_feed_79 h17 5 rfl (by decide) q1745 (.inl rfl) (.ref 2001) (hM_5) rfl ?_
    refine g_aload_n E dX13_feed_82 rfl rfl rfl ?_
    refine g_getf E gciX13 dX13_feed_83 h17 6 rfl (by decide) q1746 (.inl rfl) (.int (nI (tp + 4))) (rfl) rfl ?_
    refine g_iload E dX13_feed_86 rfl rfl ?_
    refine g_bipush E (v := 24) dX13_feed_88 (by decide) rfl ?_
    refine g_bipush E (v := 8) dX13_feed_90 (by decide) rfl ?_
    refine g_iload E dX13_feed_92 rfl rfl ?_
    refine g_iconst E (v := 4) dX13_feed_94 (by decide) rfl ?_
    refine g_irem E dX13_feed_95 (by decide) rfl ?_
    refine g_as (y := 0) (by decide) ?_
    refine g_imul E dX13_feed_96 rfl ?_
    refine g_as (y := 0) (by decide) ?_
    refine g_isub E dX13_feed_97 rfl ?_
    refine g_as (y := 24) (by decide) ?_
    refine g_ishr E dX13_feed_98 rfl ?_
    refine g_i2b E dX13_feed_99 rfl ?_
    have x18 := (f17 (2001) (by omega)).trans (h15)
    refine g_bast E dX13_feed_100 (j := tp + 4) x18 (rfl) (by omega) (by decide) rfl (g_upk (fun g19 h19 f19 => ?_))
    refine g_aload_n E dX13_feed_101 rfl rfl rfl ?_
    refine g_dup E dX13_feed_102 rfl rfl ?_
    have x20 := (f19 (2000) (by omega)).trans (h17)
    refine g_getf E gciX13 dX13_feed_103 x20 6 rfl (by decide) q1746 (.inl rfl) (.int (nI (tp + 4))) (rfl) rfl ?_
    refine g_iconst E (v := 1) dX13_feed_106 (by decide) rfl ?_
    refine g_iadd E dX13_feed_107 rfl ?_
    refine g_as (y := nI (tp + 5)) ((nI_succ _).symm) ?_
    refine g_putf E gciX13 (v := .int (nI (tp + 5))) dX13_feed_108 x20 6 rfl (by decide) q1746 (.inl rfl) rfl (fun _ => rfl) (fun _ => rfl) rfl (g_upk (fun g21 h21 f21 => ?_))
    refine g_iinc E dX13_feed_111 rfl (v := 5) (rfl) (by decide) rfl (lo1 := [some (.ref 2000), some (.int a), some (.int b), some (.int c), some (.int d), some (.int e), some (.int 5), some (.int b)]) rfl rfl ?_
    refine g_goto E dX13_feed_114 (tgt := 23) (by decide) ?_
    refine g_iload E dX13_feed_23 rfl rfl ?_
    refine g_bipush E (v := 20) dX13_feed_25 (by decide) rfl ?_
    refine g_icmp_ge E dX13_feed_27 (tgt := 117) (by decide) rfl (fun h9 => absurd h9 (by decide)) (fun _ => ?_)
    refine g_iload E dX13_feed_30 rfl rfl ?_
    refine g_iconst E (v := 4) dX13_feed_32 (by decide) rfl ?_
    refine g_icmp_ge E dX13_feed_33 (tgt := 40) (by decide) rfl (fun _ => ?_) (fun h9 => absurd h9 (by decide))
    refine g_iload E dX13_feed_40 rfl rfl ?_
    refine g_bipush E (v := 8) dX13_feed_42 (by decide) rfl ?_
    refine g_icmp_ge E dX13_feed_44 (tgt := 51) (by decide) rfl (fun h9 => absurd h9 (by decide)) (fun _ => ?_)
    refine g_iload_n E dX13_feed_47 rfl rfl rfl ?_
    refine g_goto E dX13_feed_48 (tgt := 76) (by decide) ?_
    refine g_istore E dX13_feed_76 (by decide) rfl (lo1 := [some (.ref 2000), some (.int a), some (.int b), some (.int c), some (.int d), some (.int e), some (.int 5), some (.int b)]) rfl rfl ?_
    refine g_aload_n E dX13_feed_78 rfl rfl rfl ?_
    refine g_getf E gciX13 dX13_feed_79 h21 5 rfl (by decide) q1745 (.inl rfl) (.ref 2001) (hM_5) rfl ?_
    refine g_aload_n E dX13_feed_82 rfl rfl rfl ?_
    refine g_getf E gciX13 dX13_feed_83 h21 6 rfl (by decide) q1746 (.inl rfl) (.int (nI (tp + 5))) (rfl) rfl ?_
    refine g_iload E dX13_feed_86 rfl rfl ?_
    refine g_bipush E (v := 24) dX13_feed_88 (by decide) rfl ?_
    refine g_bipush E (v := 8) dX13_feed_90 (by decide) rfl ?_
    refine g_iload E dX13_feed_92 rfl rfl ?_
    refine g_iconst E (v := 4) dX13_feed_94 (by decide) rfl ?_
    refine g_irem E dX13_feed_95 (by decide) rfl ?_
    refine g_as (y := 1) (by decide) ?_
    refine g_imul E dX13_feed_96 rfl ?_
    refine g_as (y := 8) (by decide) ?_
    refine g_isub E dX13_feed_97 rfl ?_
    refine g_as (y := 16) (by decide) ?_
    refine g_ishr E dX13_feed_98 rfl ?_
    refine g_i2b E dX13_feed_99 rfl ?_
    have x22 := (f21 (2001) (by omega)).trans (h19)
    refine g_bast E dX13_feed_100 (j := tp + 5) x22 (rfl) (by omega) (by decide) rfl (g_upk (fun g23 h23 f23 => ?_))
    refine g_aload_n E dX13_feed_101 rfl rfl rfl ?_
    refine g_dup E dX13_feed_102 rfl rfl ?_
    have x24 := (f23 (2000) (by omega)).trans (h21)
    refine g_getf E gciX13 dX13_feed_103 x24 6 rfl (by decide) q1746 (.inl rfl) (.int (nI (tp + 5))) (rfl) rfl ?_
    refine g_iconst E (v := 1) dX13_feed_106 (by decide) rfl ?_
    refine g_iadd E dX13_feed_107 rfl ?_
    refine g_as (y := nI (tp + 6)) ((nI_succ _).symm) ?_
    refine g_putf E gciX13 (v := .int (nI (tp + 6))) dX13_feed_108 x24 6 rfl (by decide) q1746 (.inl rfl) rfl (fun _ => rfl) (fun _ => rfl) rfl (g_upk (fun g25 h25 f25 => ?_))
    refine g_iinc E dX13_feed_111 rfl (v := 6) (rfl) (by decide) rfl (lo1 := [some (.ref 2000), some (.int a), some (.int b), some (.int c), some (.int d), some (.int e), some (.int 6), some (.int b)]) rfl rfl ?_
    refine g_goto E dX13_feed_114 (tgt := 23) (by decide) ?_
    refine g_iload E dX13_feed_23 rfl rfl ?_
    refine g_bipush E (v := 20) dX13_feed_25 (by decide) rfl ?_
    refine g_icmp_ge E dX13_feed_27 (tgt := 117) (by decide) rfl (fun h9 => absurd h9 (by decide)) (fun _ => ?_)
    refine g_iload E dX13_feed_30 rfl rfl ?_
    refine g_iconst E (v := 4) dX13_feed_32 (by decide) rfl ?_
    refine g_icmp_ge E dX13_feed_33 (tgt := 40) (by decide) rfl (fun _ => ?_) (fun h9 => absurd h9 (by decide))
    refine g_iload E dX13_feed_40 rfl rfl ?_
    refine g_bipush E (v := 8) dX13_feed_42 (by decide) rfl ?_
    refine g_icmp_ge E dX13_feed_44 (tgt := 51) (by decide) rfl (fun h9 => absurd h9 (by decide)) (fun _ => ?_)
    refine g_iload_n E dX13_feed_47 rfl rfl rfl ?_
    refine g_goto E dX13_feed_48 (tgt := 76) (by decide) ?_
    refine g_istore E dX13_feed_76 (by decide) rfl (lo1 := [some (.ref 2000), some (.int a), some (.int b), some (.int c), some (.int d), some (.int e), some (.int 6), some (.int b)]) rfl rfl ?_
    refine g_aload_n E dX13_feed_78 rfl rfl rfl ?_
    refine g_getf E gciX13 dX13_feed_79 h25 5 rfl (by decide) q1745 (.inl rfl) (.ref 2001) (hM_5) rfl ?_
    refine g_aload_n E dX13_feed_82 rfl rfl rfl ?_
    refine g_getf E gciX13 dX13_feed_83 h25 6 rfl (by decide) q1746 (.inl rfl) (.int (nI (tp + 6))) (rfl) rfl ?_
    refine g_iload E dX13_feed_86 rfl rfl ?_
    refine g_bipush E (v := 24) dX13_feed_88 (by decide) rfl ?_
    refine g_bipush E (v := 8) dX13_feed_90 (by decide) rfl ?_
    refine g_iload E dX13_feed_92 rfl rfl ?_
    refine g_iconst E (v := 4) dX13_feed_94 (by decide) rfl ?_
    refine g_irem E dX13_feed_95 (by decide) rfl ?_
    refine g_as (y := 2) (by decide) ?_
    refine g_imul E dX13_feed_96 rfl ?_
    refine g_as (y := 16) (by decide) ?_
    refine g_isub E dX13_feed_97 rfl ?_
    refine g_as (y := 8) (by decide) ?_
    refine g_ishr E dX13_feed_98 rfl ?_
    refine g_i2b E dX13_feed_99 rfl ?_
    have x26 := (f25 (2001) (by omega)).trans (h23)
    refine g_bast E dX13_feed_100 (j := tp + 6) x26 (rfl) (by omega) (by decide) rfl (g_upk (fun g27 h27 f27 => ?_))
    refine g_aload_n E dX13_feed_101 rfl rfl rfl ?_
    refine g_dup E dX13_feed_102 rfl rfl ?_
    have x28 := (f27 (2000) (by omega)).trans (h25)
    refine g_getf E gciX13 dX13_feed_103 x28 6 rfl (by decide) q1746 (.inl rfl) (.int (nI (tp + 6))) (rfl) rfl ?_
    refine g_iconst E (v := 1) dX13_feed_106 (by decide) rfl ?_
    refine g_iadd E dX13_feed_107 rfl ?_
    refine g_as (y := nI (tp + 7)) ((nI_succ _).symm) ?_
    refine g_putf E gciX13 (v := .int (nI (tp + 7))) dX13_feed_108 x28 6 rfl (by decide) q1746 (.inl rfl) rfl (fun _ => rfl) (fun _ => rfl) rfl (g_upk (fun g29 h29 f29 => ?_))
    refine g_iinc E dX13_feed_111 rfl (v := 7) (rfl) (by decide) rfl (lo1 := [some (.ref 2000), some (.int a), some (.int b), some (.int c), some (.int d), some (.int e), some (.int 7), some (.int b)]) rfl rfl ?_
    refine g_goto E dX13_feed_114 (tgt := 23) (by decide) ?_
    refine g_iload E dX13_feed_23 rfl rfl ?_
    refine g_bipush E (v := 20) dX13_feed_25 (by decide) rfl ?_
    refine g_icmp_ge E dX13_feed_27 (tgt := 117) (by decide) rfl (fun h9 => absurd h9 (by decide)) (fun _ => ?_)
    refine g_iload E dX13_feed_30 rfl rfl ?_
    refine g_iconst E (v := 4) dX13_feed_32 (by decide) rfl ?_
    refine g_icmp_ge E dX13_feed_33 (tgt := 40) (by decide) rfl (fun _ => ?_) (fun h9 => absurd h9 (by decide))
    refine g_iload E dX13_feed_40 rfl rfl ?_
    refine g_bipush E (v := 8) dX13_feed_42 (by decide) rfl ?_
    refine g_icmp_ge E dX13_feed_44 (tgt := 51) (by decide) rfl (fun h9 => absurd h9 (by decide)) (fun _ => ?_)
    refine g_iload_n E dX13_feed_47 rfl rfl rfl ?_
    refine g_goto E dX13_feed_48 (tgt := 76) (by decide) ?_
    refine g_istore E dX13_feed_76 (by decide) rfl (lo1 := [some (.ref 2000), some (.int a), some (.int b), some (.int c), some (.int d), some (.int e), some (.int 7), some (.int b)]) rfl rfl ?_
    refine g_aload_n E dX13_feed_78 rfl rfl rfl ?_
    refine g_getf E gciX13 dX13_feed_79 h29 5 rfl (by decide) q1745 (.inl rfl) (.ref 2001) (hM_5) rfl ?_
    refine g_aload_n E dX13_feed_82 rfl rfl rfl ?_
    refine g_getf E gciX13 dX13_feed_83 h29 6 rfl (by decide) q1746 (.inl rfl) (.int (nI (tp + 7))) (rfl) rfl ?_
    refine g_iload E dX13_feed_86 rfl rfl ?_
    refine g_bipush E (v := 24) dX13_feed_88 (by decide) rfl ?_
    refine g_bipush E (v := 8) dX13_feed_90 (by decide) rfl ?_
    refine g_iload E dX13_feed_92 rfl rfl ?_
    refine g_iconst E (v := 4) dX13_feed_94 (by decide) rfl ?_
    refine g_irem E dX13_feed_95 (by decide) rfl ?_
    refine g_as (y := 3) (by decide) ?_
    refine g_imul E dX13_feed_96 rfl ?_
    refine g_as (y := 24) (by decide) ?_
    refine g_isub E dX13_feed_97 rfl ?_
    refine g_as (y := 0) (by decide) ?_
    refine g_ishr E dX13_feed_98 rfl ?_
    refine g_i2b E dX13_feed_99 rfl ?_
    have x30 := (f29 (2001) (by omega)).trans (h27)
    refine g_bast E dX13_feed_100 (j := tp + 7) x30 (rfl) (by omega) (by decide) rfl (g_upk (fun g31 h31 f31 => ?_))
    refine g_aload_n E dX13_feed_101 rfl rfl rfl ?_
    refine g_dup E dX13_feed_102 rfl rfl ?_
    have x32 := (f31 (2000) (by omega)).trans (h29)
    refine g_getf E gciX13 dX13_feed_103 x32 6 rfl (by decide) q1746 (.inl rfl) (.int (nI (tp + 7))) (rfl) rfl ?_
    refine g_iconst E (v := 1) dX13_feed_106 (by decide) rfl ?_
    refine g_iadd E dX13_feed_107 rfl ?_
    refine g_as (y := nI (tp + 8)) ((nI_succ _).symm) ?_
    refine g_putf E gciX13 (v := .int (nI (tp + 8))) dX13_feed_108 x32 6 rfl (by decide) q1746 (.inl rfl) rfl (fun _ => rfl) (fun _ => rfl) rfl (g_upk (fun g33 h33 f33 => ?_))
    refine g_iinc E dX13_feed_111 rfl (v := 8) (rfl) (by decide) rfl (lo1 := [some (.ref 2000), some (.int a), some (.int b), some (.int c), some (.int d), some (.int e), some (.int 8), some (.int b)]) rfl rfl ?_
    refine g_goto E dX13_feed_114 (tgt := 23) (by decide) ?_
    refine g_iload E dX13_feed_23 rfl rfl ?_
    refine g_bipush E (v := 20) dX13_feed_25 (by decide) rfl ?_
    refine g_icmp_ge E dX13_feed_27 (tgt := 117) (by decide) rfl (fun h9 => absurd h9 (by decide)) (fun _ => ?_)
    refine g_iload E dX13_feed_30 rfl rfl ?_
    refine g_iconst E (v := 4) dX13_feed_32 (by decide) rfl ?_
    refine g_icmp_ge E dX13_feed_33 (tgt := 40) (by decide) rfl (fun _ => ?_) (fun h9 => absurd h9 (by decide))
    refine g_iload E dX13_feed_40 rfl rfl ?_
    refine g_bipush E (v := 8) dX13_feed_42 (by decide) rfl ?_
    refine g_icmp_ge E dX13_feed_44 (tgt := 51) (by decide) rfl (fun _ => ?_) (fun h9 => absurd h9 (by decide))
    refine g_iload E dX13_feed_51 rfl rfl ?_
    refine g_bipush E (v := 12) dX13_feed_53 (by decide) rfl ?_
    refine g_icmp_ge E dX13_feed_55 (tgt := 62) (by decide) rfl (fun h9 => absurd h9 (by decide)) (fun _ => ?_)
    refine g_iload_n E dX13_feed_58 rfl rfl rfl ?_
    refine g_goto E dX13_feed_59 (tgt := 76) (by decide) ?_
    refine g_istore E dX13_feed_76 (by decide) rfl (lo1 := [some (.ref 2000), some (.int a), some (.int b), some (.int c), some (.int d), some (.int e), some (.int 8), some (.int c)]) rfl rfl ?_
    refine g_aload_n E dX13_feed_78 rfl rfl rfl ?_
    refine g_getf E gciX13 dX13_feed_79 h33 5 rfl (by decide) q1745 (.inl rfl) (.ref 2001) (hM_5) rfl ?_
    refine g_aload_n E dX13_feed_82 rfl rfl rfl ?_
    refine g_getf E gciX13 dX13_feed_83 h33 6 rfl (by decide) q1746 (.inl rfl) (.int (nI (tp + 8))) (rfl) rfl ?_
    refine g_iload E dX13_feed_86 rfl rfl ?_
    refine g_bipush E (v := 24) dX13_feed_88 (by decide) rfl ?_
    refine g_bipush E (v := 8) dX13_feed_90 (by decide) rfl ?_
    refine g_iload E dX13_feed_92 rfl rfl ?_
    refine g_iconst E (v := 4) dX13_feed_94 (by decide) rfl ?_
    refine g_irem E dX13_feed_95 (by decide) rfl ?_
    refine g_as (y := 0) (by decide) ?_
    refine g_imul E dX13_feed_96 rfl ?_
    refine g_as (y := 0) (by decide) ?_
    refine g_isub E dX13_feed_97 rfl ?_
    refine g_as (y := 24) (by decide) ?_
    refine g_ishr E dX13_feed_98 rfl ?_
    refine g_i2b E dX13_feed_99 rfl ?_
    have x34 := (f33 (2001) (by omega)).trans (h31)
    refine g_bast E dX13_feed_100 (j := tp + 8) x34 (rfl) (by omega) (by decide) rfl (g_upk (fun g35 h35 f35 => ?_))
    refine g_aload_n E dX13_feed_101 rfl rfl rfl ?_
    refine g_dup E dX13_feed_102 rfl rfl ?_
    have x36 := (f35 (2000) (by omega)).trans (h33)
    refine g_getf E gciX13 dX13_feed_103 x36 6 rfl (by decide) q1746 (.inl rfl) (.int (nI (tp + 8))) (rfl) rfl ?_
    refine g_iconst E (v := 1) dX13_feed_106 (by decide) rfl ?_
    refine g_iadd E dX13_feed_107 rfl ?_
    refine g_as (y := nI (tp + 9)) ((nI_succ _).symm) ?_
    refine g_putf E gciX13 (v := .int (nI (tp + 9))) dX13_feed_108 x36 6 rfl (by decide) q1746 (.inl rfl) rfl (fun _ => rfl) (fun _ => rfl) rfl (g_upk (fun g37 h37 f37 => ?_))
    refine g_iinc E dX13_feed_111 rfl (v := 9) (rfl) (by decide) rfl (lo1 := [some (.ref 2000), some (.int a), some (.int b), some (.int c), some (.int d), some (.int e), some (.int 9), some (.int c)]) rfl rfl ?_
    refine g_goto E dX13_feed_114 (tgt := 23) (by decide) ?_
    refine g_iload E dX13_feed_23 rfl rfl ?_
    refine g_bipush E (v := 20) dX13_feed_25 (by decide) rfl ?_
    refine g_icmp_ge E dX13_feed_27 (tgt := 117) (by decide) rfl (fun h9 => absurd h9 (by decide)) (fun _ => ?_)
    refine g_iload E dX13_feed_30 rfl rfl ?_
    refine g_iconst E (v := 4) dX13_feed_32 (by decide) rfl ?_
    refine g_icmp_ge E dX13_feed_33 (tgt := 40) (by decide) rfl (fun _ => ?_) (fun h9 => absurd h9 (by decide))
    refine g_iload E dX13_feed_40 rfl rfl ?_
    refine g_bipush E (v := 8) dX13_feed_42 (by decide) rfl ?_
    refine g_icmp_ge E dX13_feed_44 (tgt := 51) (by decide) rfl (fun _ => ?_) (fun h9 => absurd h9 (by decide))
    refine g_iload E dX13_feed_51 rfl rfl ?_
    refine g_bipush E (v := 12) dX13_feed_53 (by decide) rfl ?_
    refine g_icmp_ge E dX13_feed_55 (tgt := 62) (by decide) rfl (fun h9 => absurd h9 (by decide)) (fun _ => ?_)
    refine g_iload_n E dX13_feed_58 rfl rfl rfl ?_
    refine g_goto E dX13_feed_59 (tgt := 76) (by decide) ?_
    refine g_istore E dX13_feed_76 (by decide) rfl (lo1 := [some (.ref 2000), some (.int a), some (.int b), some (.int c), some (.int d), some (.int e), some (.int 9), some (.int c)]) rfl rfl ?_
    refine g_aload_n E dX13_feed_78 rfl rfl rfl ?_
    refine g_getf E gciX13 dX13_feed_79 h37 5 rfl (by decide) q1745 (.inl rfl) (.ref 2001) (hM_5) rfl ?_
    refine g_aload_n E dX13_feed_82 rfl rfl rfl ?_
    refine g_getf E gciX13 dX13_feed_83 h37 6 rfl (by decide) q1746 (.inl rfl) (.int (nI (tp + 9))) (rfl) rfl ?_
    refine g_iload E dX13_feed_86 rfl rfl ?_
    refine g_bipush E (v := 24) dX13_feed_88 (by decide) rfl ?_
    refine g_bipush E (v := 8) dX13_feed_90 (by decide) rfl ?_
    refine g_iload E dX13_feed_92 rfl rfl ?_
    refine g_iconst E (v := 4) dX13_feed_94 (by decide) rfl ?_
    refine g_irem E dX13_feed_95 (by decide) rfl ?_
    refine g_as (y := 1) (by decide) ?_
    refine g_imul E dX13_feed_96 rfl ?_
    refine g_as (y := 8) (by decide) ?_
    refine g_isub E dX13_feed_97 rfl ?_
    refine g_as (y := 16) (by decide) ?_
    refine g_ishr E dX13_feed_98 rfl ?_
    refine g_i2b E dX13_feed_99 rfl ?_
    have x38 := (f37 (2001) (by omega)).trans (h35)
    refine g_bast E dX13_feed_100 (j := tp + 9) x38 (rfl) (by omega) (by decide) rfl (g_upk (fun g39 h39 f39 => ?_))
    refine g_aload_n E dX13_feed_101 rfl rfl rfl ?_
    refine g_dup E dX13_feed_102 rfl rfl ?_
    have x40 := (f39 (2000) (by omega)).trans (h37)
    refine g_getf E gciX13 dX13_feed_103 x40 6 rfl (by decide) q1746 (.inl rfl) (.int (nI (tp + 9))) (rfl) rfl ?_
    refine g_iconst E (v := 1) dX13_feed_106 (by decide) rfl ?_
    refine g_iadd E dX13_feed_107 rfl ?_
    refine g_as (y := nI (tp + 10)) ((nI_succ _).symm) ?_
    refine g_putf E gciX13 (v := .int (nI (tp + 10))) dX13_feed_108 x40 6 rfl (by decide) q1746 (.inl rfl) rfl (fun _ => rfl) (fun _ => rfl) rfl (g_upk (fun g41 h41 f41 => ?_))
    refine g_iinc E dX13_feed_111 rfl (v := 10) (rfl) (by decide) rfl (lo1 := [some (.ref 2000), some (.int a), some (.int b), some (.int c), some (.int d), some (.int e), some (.int 10), some (.int c)]) rfl rfl ?_
    refine g_goto E dX13_feed_114 (tgt := 23) (by decide) ?_
    refine g_iload E dX13_feed_23 rfl rfl ?_
    refine g_bipush E (v := 20) dX13_feed_25 (by decide) rfl ?_
    refine g_icmp_ge E dX13_feed_27 (tgt := 117) (by decide) rfl (fun h9 => absurd h9 (by decide)) (fun _ => ?_)
    refine g_iload E dX13_feed_30 rfl rfl ?_
    refine g_iconst E (v := 4) dX13_feed_32 (by decide) rfl ?_
    refine g_icmp_ge E dX13_feed_33 (tgt := 40) (by decide) rfl (fun _ => ?_) (fun h9 => absurd h9 (by decide))
    refine g_iload E dX13_feed_40 rfl rfl ?_
    refine g_bipush E (v := 8) dX13_feed_42 (by decide) rfl ?_
    refine g_icmp_ge E dX13_feed_44 (tgt := 51) (by decide) rfl (fun _ => ?_) (fun h9 => absurd h9 (by decide))
    refine g_iload E dX13_feed_51 rfl rfl ?_
    refine g_bipush E (v := 12) dX13_feed_53 (by decide) rfl ?_
    refine g_icmp_ge E dX13_feed_55 (tgt := 62) (by decide) rfl (fun h9 => absurd h9 (by decide)) (fun _ => ?_)
    refine g_iload_n E dX13_feed_58 rfl rfl rfl ?_
    refine g_goto E dX13_feed_59 (tgt := 76) (by decide) ?_
    refine g_istore E dX13_feed_76 (by decide) rfl (lo1 := [some (.ref 2000), some (.int a), some (.int b), some (.int c), some (.int d), some (.int e), some (.int 10), some (.int c)]) rfl rfl ?_
    refine g_aload_n E dX13_feed_78 rfl rfl rfl ?_
    refine g_getf E gciX13 dX13_feed_79 h41 5 rfl (by decide) q1745 (.inl rfl) (.ref 2001) (hM_5) rfl ?_
    refine g_aload_n E dX13_feed_82 rfl rfl rfl ?_
    refine g_getf E gciX13 dX13_feed_83 h41 6 rfl (by decide) q1746 (.inl rfl) (.int (nI (tp + 10))) (rfl) rfl ?_
    refine g_iload E dX13_feed_86 rfl rfl ?_
    refine g_bipush E (v := 24) dX13_feed_88 (by decide) rfl ?_
    refine g_bipush E (v := 8) dX13_feed_90 (by decide) rfl ?_
    refine g_iload E dX13_feed_92 rfl rfl ?_
    refine g_iconst E (v := 4) dX13_feed_94 (by decide) rfl ?_
    refine g_irem E dX13_feed_95 (by decide) rfl ?_
    refine g_as (y := 2) (by decide) ?_
    refine g_imul E dX13_feed_96 rfl ?_
    refine g_as (y := 16) (by decide) ?_
    refine g_isub E dX13_feed_97 rfl ?_
    refine g_as (y := 8) (by decide) ?_
    refine g_ishr E dX13_feed_98 rfl ?_
    refine g_i2b E dX13_feed_99 rfl ?_
    have x42 := (f41 (2001) (by omega)).trans (h39)
    refine g_bast E dX13_feed_100 (j := tp + 10) x42 (rfl) (by omega) (by decide) rfl (g_upk (fun g43 h43 f43 => ?_))
    refine g_aload_n E dX13_feed_101 rfl rfl rfl ?_
    refine g_dup E dX13_feed_102 rfl rfl ?_
    have x44 := (f43 (2000) (by omega)).trans (h41)
    refine g_getf E gciX13 dX13_feed_103 x44 6 rfl (by decide) q1746 (.inl rfl) (.int (nI (tp + 10))) (rfl) rfl ?_
    refine g_iconst E (v := 1) dX13_feed_106 (by decide) rfl ?_
    refine g_iadd E dX13_feed_107 rfl ?_
    refine g_as (y := nI (tp + 11)) ((nI_succ _).symm) ?_
    refine g_putf E gciX13 (v := .int (nI (tp + 11))) dX13_feed_108 x44 6 rfl (by decide) q1746 (.inl rfl) rfl (fun _ => rfl) (fun _ => rfl) rfl (g_upk (fun g45 h45 f45 => ?_))
    refine g_iinc E dX13_feed_111 rfl (v := 11) (rfl) (by decide) rfl (lo1 := [some (.ref 2000), some (.int a), some (.int b), some (.int c), some (.int d), some (.int e), some (.int 11), some (.int c)]) rfl rfl ?_
    refine g_goto E dX13_feed_114 (tgt := 23) (by decide) ?_
    refine g_iload E dX13_feed_23 rfl rfl ?_
    refine g_bipush E (v := 20) dX13_feed_25 (by decide) rfl ?_
    refine g_icmp_ge E dX13_feed_27 (tgt := 117) (by decide) rfl (fun h9 => absurd h9 (by decide)) (fun _ => ?_)
    refine g_iload E dX13_feed_30 rfl rfl ?_
    refine g_iconst E (v := 4) dX13_feed_32 (by decide) rfl ?_
    refine g_icmp_ge E dX13_feed_33 (tgt := 40) (by decide) rfl (fun _ => ?_) (fun h9 => absurd h9 (by decide))
    refine g_iload E dX13_feed_40 rfl rfl ?_
    refine g_bipush E (v := 8) dX13_feed_42 (by decide) rfl ?_
    refine g_icmp_ge E dX13_feed_44 (tgt := 51) (by decide) rfl (fun _ => ?_) (fun h9 => absurd h9 (by decide))
    refine g_iload E dX13_feed_51 rfl rfl ?_
    refine g_bipush E (v := 12) dX13_feed_53 (by decide) rfl ?_
    refine g_icmp_ge E dX13_feed_55 (tgt := 62) (by decide) rfl (fun h9 => absurd h9 (by decide)) (fun _ => ?_)
    refine g_iload_n E dX13_feed_58 rfl rfl rfl ?_
    refine g_goto E dX13_feed_59 (tgt := 76) (by decide) ?_
    refine g_istore E dX13_feed_76 (by decide) rfl (lo1 := [some (.ref 2000), some (.int a), some (.int b), some (.int c), some (.int d), some (.int e), some (.int 11), some (.int c)]) rfl rfl ?_
    refine g_aload_n E dX13_feed_78 rfl rfl rfl ?_
    refine g_getf E gciX13 dX13_feed_79 h45 5 rfl (by decide) q1745 (.inl rfl) (.ref 2001) (hM_5) rfl ?_
    refine g_aload_n E dX13_feed_82 rfl rfl rfl ?_
    refine g_getf E gciX13 dX13_feed_83 h45 6 rfl (by decide) q1746 (.inl rfl) (.int (nI (tp + 11))) (rfl) rfl ?_
    refine g_iload E dX13_feed_86 rfl rfl ?_
    refine g_bipush E (v := 24) dX13_feed_88 (by decide) rfl ?_
    refine g_bipush E (v := 8) dX13_feed_90 (by decide) rfl ?_
    refine g_iload E dX13_feed_92 rfl rfl ?_
    refine g_iconst E (v := 4) dX13_feed_94 (by decide) rfl ?_
    refine g_irem E dX13_feed_95 (by decide) rfl ?_
    refine g_as (y := 3) (by decide) ?_
    refine g_imul E dX13_feed_96 rfl ?_
    refine g_as (y := 24) (by decide) ?_
    refine g_isub E dX13_feed_97 rfl ?_
    refine g_as (y := 0) (by decide) ?_
    refine g_ishr E dX13_feed_98 rfl ?_
    refine g_i2b E dX13_feed_99 rfl ?_
    have x46 := (f45 (2001) (by omega)).trans (h43)
    refine g_bast E dX13_feed_100 (j := tp + 11) x46 (rfl) (by omega) (by decide) rfl (g_upk (fun g47 h47 f47 => ?_))
    refine g_aload_n E dX13_feed_101 rfl rfl rfl ?_
    refine g_dup E dX13_feed_102 rfl rfl ?_
    have x48 := (f47 (2000) (by omega)).trans (h45)
    refine g_getf E gciX13 dX13_feed_103 x48 6 rfl (by decide) q1746 (.inl rfl) (.int (nI (tp + 11))) (rfl) rfl ?_
    refine g_iconst E (v := 1) dX13_feed_106 (by decide) rfl ?_
    refine g_iadd E dX13_feed_107 rfl ?_
    refine g_as (y := nI (tp + 12)) ((nI_succ _).symm) ?_
    refine g_putf E gciX13 (v := .int (nI (tp + 12))) dX13_feed_108 x48 6 rfl (by decide) q1746 (.inl rfl) rfl (fun _ => rfl) (fun _ => rfl) rfl (g_upk (fun g49 h49 f49 => ?_))
    refine g_iinc E dX13_feed_111 rfl (v := 12) (rfl) (by decide) rfl (lo1 := [some (.ref 2000), some (.int a), some (.int b), some (.int c), some (.int d), some (.int e), some (.int 12), some (.int c)]) rfl rfl ?_
    refine g_goto E dX13_feed_114 (tgt := 23) (by decide) ?_
    refine g_iload E dX13_feed_23 rfl rfl ?_
    refine g_bipush E (v := 20) dX13_feed_25 (by decide) rfl ?_
    refine g_icmp_ge E dX13_feed_27 (tgt := 117) (by decide) rfl (fun h9 => absurd h9 (by decide)) (fun _ => ?_)
    refine g_iload E dX13_feed_30 rfl rfl ?_
    refine g_iconst E (v := 4) dX13_feed_32 (by decide) rfl ?_
    refine g_icmp_ge E dX13_feed_33 (tgt := 40) (by decide) rfl (fun _ => ?_) (fun h9 => absurd h9 (by decide))
    refine g_iload E dX13_feed_40 rfl rfl ?_
    refine g_bipush E (v := 8) dX13_feed_42 (by decide) rfl ?_
    refine g_icmp_ge E dX13_feed_44 (tgt := 51) (by decide) rfl (fun _ => ?_) (fun h9 => absurd h9 (by decide))
    refine g_iload E dX13_feed_51 rfl rfl ?_
    refine g_bipush E (v := 12) dX13_feed_53 (by decide) rfl ?_
    refine g_icmp_ge E dX13_feed_55 (tgt := 62) (by decide) rfl (fun _ => ?_) (fun h9 => absurd h9 (by decide))
    refine g_iload E dX13_feed_62 rfl rfl ?_
    refine g_bipush E (v := 16) dX13_feed_64 (by decide) rfl ?_
    refine g_icmp_ge E dX13_feed_66 (tgt := 74) (by decide) rfl (fun h9 => absurd h9 (by decide)) (fun _ => ?_)
    refine g_iload E dX13_feed_69 rfl rfl ?_
    refine g_goto E dX13_feed_71 (tgt := 76) (by decide) ?_
    refine g_istore E dX13_feed_76 (by decide) rfl (lo1 := [some (.ref 2000), some (.int a), some (.int b), some (.int c), some (.int d), some (.int e), some (.int 12), some (.int d)]) rfl rfl ?_
    refine g_aload_n E dX13_feed_78 rfl rfl rfl ?_
    refine g_getf E gciX13 dX13_feed_79 h49 5 rfl (by decide) q1745 (.inl rfl) (.ref 2001) (hM_5) rfl ?_
    refine g_aload_n E dX13_feed_82 rfl rfl rfl ?_
    refine g_getf E gciX13 dX13_feed_83 h49 6 rfl (by decide) q1746 (.inl rfl) (.int (nI (tp + 12))) (rfl) rfl ?_
    refine g_iload E dX13_feed_86 rfl rfl ?_
    refine g_bipush E (v := 24) dX13_feed_88 (by decide) rfl ?_
    refine g_bipush E (v := 8) dX13_feed_90 (by decide) rfl ?_
    refine g_iload E dX13_feed_92 rfl rfl ?_
    refine g_iconst E (v := 4) dX13_feed_94 (by decide) rfl ?_
    refine g_irem E dX13_feed_95 (by decide) rfl ?_
    refine g_as (y := 0) (by decide) ?_
    refine g_imul E dX13_feed_96 rfl ?_
    refine g_as (y := 0) (by decide) ?_
    refine g_isub E dX13_feed_97 rfl ?_
    refine g_as (y := 24) (by decide) ?_
    refine g_ishr E dX13_feed_98 rfl ?_
    refine g_i2b E dX13_feed_99 rfl ?_
    have x50 := (f49 (2001) (by omega)).trans (h47)
    refine g_bast E dX13_feed_100 (j := tp + 12) x50 (rfl) (by omega) (by decide) rfl (g_upk (fun g51 h51 f51 => ?_))
    refine g_aload_n E dX13_feed_101 rfl rfl rfl ?_
    refine g_dup E dX13_feed_102 rfl rfl ?_
    have x52 := (f51 (2000) (by omega)).trans (h49)
    refine g_getf E gciX13 dX13_feed_103 x52 6 rfl (by decide) q1746 (.inl rfl) (.int (nI (tp + 12))) (rfl) rfl ?_
    refine g_iconst E (v := 1) dX13_feed_106 (by decide) rfl ?_
    refine g_iadd E dX13_feed_107 rfl ?_
    refine g_as (y := nI (tp + 13)) ((nI_succ _).symm) ?_
    refine g_putf E gciX13 (v := .int (nI (tp + 13))) dX13_feed_108 x52 6 rfl (by decide) q1746 (.inl rfl) rfl (fun _ => rfl) (fun _ => rfl) rfl (g_upk (fun g53 h53 f53 => ?_))
    refine g_iinc E dX13_feed_111 rfl (v := 13) (rfl) (by decide) rfl (lo1 := [some (.ref 2000), some (.int a), some (.int b), some (.int c), some (.int d), some (.int e), some (.int 13), some (.int d)]) rfl rfl ?_
    refine g_goto E dX13_feed_114 (tgt := 23) (by decide) ?_
    refine g_iload E dX13_feed_23 rfl rfl ?_
    refine g_bipush E (v := 20) dX13_feed_25 (by decide) rfl ?_
    refine g_icmp_ge E dX13_feed_27 (tgt := 117) (by decide) rfl (fun h9 => absurd h9 (by decide)) (fun _ => ?_)
    refine g_iload E dX13_feed_30 rfl rfl ?_
    refine g_iconst E (v := 4) dX13_feed_32 (by decide) rfl ?_
    refine g_icmp_ge E dX13_feed_33 (tgt := 40) (by decide) rfl (fun _ => ?_) (fun h9 => absurd h9 (by decide))
    refine g_iload E dX13_feed_40 rfl rfl ?_
    refine g_bipush E (v := 8) dX13_feed_42 (by decide) rfl ?_
    refine g_icmp_ge E dX13_feed_44 (tgt := 51) (by decide) rfl (fun _ => ?_) (fun h9 => absurd h9 (by decide))
    refine g_iload E dX13_feed_51 rfl rfl ?_
    refine g_bipush E (v := 12) dX13_feed_53 (by decide) rfl ?_
    refine g_icmp_ge E dX13_feed_55 (tgt := 62) (by decide) rfl (fun _ => ?_) (fun h9 => absurd h9 (by decide))
    refine g_iload E dX13_feed_62 rfl rfl ?_
    refine g_bipush E (v := 16) dX13_feed_64 (by decide) rfl ?_
    refine g_icmp_ge E dX13_feed_66 (tgt := 74) (by decide) rfl (fun h9 => absurd h9 (by decide)) (fun _ => ?_)
    refine g_iload E dX13_feed_69 rfl rfl ?_
    refine g_goto E dX13_feed_71 (tgt := 76) (by decide) ?_
    refine g_istore E dX13_feed_76 (by decide) rfl (lo1 := [some (.ref 2000), some (.int a), some (.int b), some (.int c), some (.int d), some (.int e), some (.int 13), some (.int d)]) rfl rfl ?_
    refine g_aload_n E dX13_feed_78 rfl rfl rfl ?_
    refine g_getf E gciX13 dX13_feed_79 h53 5 rfl (by decide) q1745 (.inl rfl) (.ref 2001) (hM_5) rfl ?_
    refine g_aload_n E dX13_feed_82 rfl rfl rfl ?_
    refine g_getf E gciX13 dX13_feed_83 h53 6 rfl (by decide) q1746 (.inl rfl) (.int (nI (tp + 13))) (rfl) rfl ?_
    refine g_iload E dX13_feed_86 rfl rfl ?_
    refine g_bipush E (v := 24) dX13_feed_88 (by decide) rfl ?_
    refine g_bipush E (v := 8) dX13_feed_90 (by decide) rfl ?_
    refine g_iload E dX13_feed_92 rfl rfl ?_
    refine g_iconst E (v := 4) dX13_feed_94 (by decide) rfl ?_
    refine g_irem E dX13_feed_95 (by decide) rfl ?_
    refine g_as (y := 1) (by decide) ?_
    refine g_imul E dX13_feed_96 rfl ?_
    refine g_as (y := 8) (by decide) ?_
    refine g_isub E dX13_feed_97 rfl ?_
    refine g_as (y := 16) (by decide) ?_
    refine g_ishr E dX13_feed_98 rfl ?_
    refine g_i2b E dX13_feed_99 rfl ?_
    have x54 := (f53 (2001) (by omega)).trans (h51)
    refine g_bast E dX13_feed_100 (j := tp + 13) x54 (rfl) (by omega) (by decide) rfl (g_upk (fun g55 h55 f55 => ?_))
    refine g_aload_n E dX13_feed_101 rfl rfl rfl ?_
    refine g_dup E dX13_feed_102 rfl rfl ?_
    have x56 := (f55 (2000) (by omega)).trans (h53)
    refine g_getf E gciX13 dX13_feed_103 x56 6 rfl (by decide) q1746 (.inl rfl) (.int (nI (tp + 13))) (rfl) rfl ?_
    refine g_iconst E (v := 1) dX13_feed_106 (by decide) rfl ?_
    refine g_iadd E dX13_feed_107 rfl ?_
    refine g_as (y := nI (tp + 14)) ((nI_succ _).symm) ?_
    refine g_putf E gciX13 (v := .int (nI (tp + 14))) dX13_feed_108 x56 6 rfl (by decide) q1746 (.inl rfl) rfl (fun _ => rfl) (fun _ => rfl) rfl (g_upk (fun g57 h57 f57 => ?_))
    refine g_iinc E dX13_feed_111 rfl (v := 14) (rfl) (by decide) rfl (lo1 := [some (.ref 2000), some (.int a), some (.int b), some (.int c), some (.int d), some (.int e), some (.int 14), some (.int d)]) rfl rfl ?_
    refine g_goto E dX13_feed_114 (tgt := 23) (by decide) ?_
    refine g_iload E dX13_feed_23 rfl rfl ?_
    refine g_bipush E (v := 20) dX13_feed_25 (by decide) rfl ?_
    refine g_icmp_ge E dX13_feed_27 (tgt := 117) (by decide) rfl (fun h9 => absurd h9 (by decide)) (fun _ => ?_)
    refine g_iload E dX13_feed_30 rfl rfl ?_
    refine g_iconst E (v := 4) dX13_feed_32 (by decide) rfl ?_
    refine g_icmp_ge E dX13_feed_33 (tgt := 40) (by decide) rfl (fun _ => ?_) (fun h9 => absurd h9 (by decide))
    refine g_iload E dX13_feed_40 rfl rfl ?_
    refine g_bipush E (v := 8) dX13_feed_42 (by decide) rfl ?_
    refine g_icmp_ge E dX13_feed_44 (tgt := 51) (by decide) rfl (fun _ => ?_) (fun h9 => absurd h9 (by decide))
    refine g_iload E dX13_feed_51 rfl rfl ?_
    refine g_bipush E (v := 12) dX13_feed_53 (by decide) rfl ?_
    refine g_icmp_ge E dX13_feed_55 (tgt := 62) (by decide) rfl (fun _ => ?_) (fun h9 => absurd h9 (by decide))
    refine g_iload E dX13_feed_62 rfl rfl ?_
    refine g_bipush E (v := 16) dX13_feed_64 (by decide) rfl ?_
    refine g_icmp_ge E dX13_feed_66 (tgt := 74) (by decide) rfl (fun h9 => absurd h9 (by decide)) (fun _ => ?_)
    refine g_iload E dX13_feed_69 rfl rfl ?_
    refine g_goto E dX13_feed_71 (tgt := 76) (by decide) ?_
    refine g_istore E dX13_feed_76 (by decide) rfl (lo1 := [some (.ref 2000), some (.int a), some (.int b), some (.int c), some (.int d), some (.int e), some (.int 14), some (.int d)]) rfl rfl ?_
    refine g_aload_n E dX13_feed_78 rfl rfl rfl ?_
    refine g_getf E gciX13 dX13_feed_79 h57 5 rfl (by decide) q1745 (.inl rfl) (.ref 2001) (hM_5) rfl ?_
    refine g_aload_n E dX13_feed_82 rfl rfl rfl ?_
    refine g_getf E gciX13 dX13_feed_83 h57 6 rfl (by decide) q1746 (.inl rfl) (.int (nI (tp + 14))) (rfl) rfl ?_
    refine g_iload E dX13_feed_86 rfl rfl ?_
    refine g_bipush E (v := 24) dX13_feed_88 (by decide) rfl ?_
    refine g_bipush E (v := 8) dX13_feed_90 (by decide) rfl ?_
    refine g_iload E dX13_feed_92 rfl rfl ?_
    refine g_iconst E (v := 4) dX13_feed_94 (by decide) rfl ?_
    refine g_irem E dX13_feed_95 (by decide) rfl ?_
    refine g_as (y := 2) (by decide) ?_
    refine g_imul E dX13_feed_96 rfl ?_
    refine g_as (y := 16) (by decide) ?_
    refine g_isub E dX13_feed_97 rfl ?_
    refine g_as (y := 8) (by decide) ?_
    refine g_ishr E dX13_feed_98 rfl ?_
    refine g_i2b E dX13_feed_99 rfl ?_
    have x58 := (f57 (2001) (by omega)).trans (h55)
    refine g_bast E dX13_feed_100 (j := tp + 14) x58 (rfl) (by omega) (by decide) rfl (g_upk (fun g59 h59 f59 => ?_))
    refine g_aload_n E dX13_feed_101 rfl rfl rfl ?_
    refine g_dup E dX13_feed_102 rfl rfl ?_
    have x60 := (f59 (2000) (by omega)).trans (h57)
    refine g_getf E gciX13 dX13_feed_103 x60 6 rfl (by decide) q1746 (.inl rfl) (.int (nI (tp + 14))) (rfl) rfl ?_
    refine g_iconst E (v := 1) dX13_feed_106 (by decide) rfl ?_
    refine g_iadd E dX13_feed_107 rfl ?_
    refine g_as (y := nI (tp + 15)) ((nI_succ _).symm) ?_
    refine g_putf E gciX13 (v := .int (nI (tp + 15))) dX13_feed_108 x60 6 rfl (by decide) q1746 (.inl rfl) rfl (fun _ => rfl) (fun _ => rfl) rfl (g_upk (fun g61 h61 f61 => ?_))
    refine g_iinc E dX13_feed_111 rfl (v := 15) (rfl) (by decide) rfl (lo1 := [some (.ref 2000), some (.int a), some (.int b), some (.int c), some (.int d), some (.int e), some (.int 15), some (.int d)]) rfl rfl ?_
    refine g_goto E dX13_feed_114 (tgt := 23) (by decide) ?_
    refine g_iload E dX13_feed_23 rfl rfl ?_
    refine g_bipush E (v := 20) dX13_feed_25 (by decide) rfl ?_
    refine g_icmp_ge E dX13_feed_27 (tgt := 117) (by decide) rfl (fun h9 => absurd h9 (by decide)) (fun _ => ?_)
    refine g_iload E dX13_feed_30 rfl rfl ?_
    refine g_iconst E (v := 4) dX13_feed_32 (by decide) rfl ?_
    refine g_icmp_ge E dX13_feed_33 (tgt := 40) (by decide) rfl (fun _ => ?_) (fun h9 => absurd h9 (by decide))
    refine g_iload E dX13_feed_40 rfl rfl ?_
    refine g_bipush E (v := 8) dX13_feed_42 (by decide) rfl ?_
    refine g_icmp_ge E dX13_feed_44 (tgt := 51) (by decide) rfl (fun _ => ?_) (fun h9 => absurd h9 (by decide))
    refine g_iload E dX13_feed_51 rfl rfl ?_
    refine g_bipush E (v := 12) dX13_feed_53 (by decide) rfl ?_
    refine g_icmp_ge E dX13_feed_55 (tgt := 62) (by decide) rfl (fun _ => ?_) (fun h9 => absurd h9 (by decide))
    refine g_iload E dX13_feed_62 rfl rfl ?_
    refine g_bipush E (v := 16) dX13_feed_64 (by decide) rfl ?_
    refine g_icmp_ge E dX13_feed_66 (tgt := 74) (by decide) rfl (fun h9 => absurd h9 (by decide)) (fun _ => ?_)
    refine g_iload E dX13_feed_69 rfl rfl ?_
    refine g_goto E dX13_feed_71 (tgt := 76) (by decide) ?_
    refine g_istore E dX13_feed_76 (by decide) rfl (lo1 := [some (.ref 2000), some (.int a), some (.int b), some (.int c), some (.int d), some (.int e), some (.int 15), some (.int d)]) rfl rfl ?_
    refine g_aload_n E dX13_feed_78 rfl rfl rfl ?_
    refine g_getf E gciX13 dX13_feed_79 h61 5 rfl (by decide) q1745 (.inl rfl) (.ref 2001) (hM_5) rfl ?_
    refine g_aload_n E dX13_feed_82 rfl rfl rfl ?_
    refine g_getf E gciX13 dX13_feed_83 h61 6 rfl (by decide) q1746 (.inl rfl) (.int (nI (tp + 15))) (rfl) rfl ?_
    refine g_iload E dX13_feed_86 rfl rfl ?_
    refine g_bipush E (v := 24) dX13_feed_88 (by decide) rfl ?_
    refine g_bipush E (v := 8) dX13_feed_90 (by decide) rfl ?_
    refine g_iload E dX13_feed_92 rfl rfl ?_
    refine g_iconst E (v := 4) dX13_feed_94 (by decide) rfl ?_
    refine g_irem E dX13_feed_95 (by decide) rfl ?_
    refine g_as (y := 3) (by decide) ?_
    refine g_imul E dX13_feed_96 rfl ?_
    refine g_as (y := 24) (by decide) ?_
    refine g_isub E dX13_feed_97 rfl ?_
    refine g_as (y := 0) (by decide) ?_
    refine g_ishr E dX13_feed_98 rfl ?_
    refine g_i2b E dX13_feed_99 rfl ?_
    have x62 := (f61 (2001) (by omega)).trans (h59)
    refine g_bast E dX13_feed_100 (j := tp + 15) x62 (rfl) (by omega) (by decide) rfl (g_upk (fun g63 h63 f63 => ?_))
    refine g_aload_n E dX13_feed_101 rfl rfl rfl ?_
    refine g_dup E dX13_feed_102 rfl rfl ?_
    have x64 := (f63 (2000) (by omega)).trans (h61)
    refine g_getf E gciX13 dX13_feed_103 x64 6 rfl (by decide) q1746 (.inl rfl) (.int (nI (tp + 15))) (rfl) rfl ?_
    refine g_iconst E (v := 1) dX13_feed_106 (by decide) rfl ?_
    refine g_iadd E dX13_feed_107 rfl ?_
    refine g_as (y := nI (tp + 16)) ((nI_succ _).symm) ?_
    refine g_putf E gciX13 (v := .int (nI (tp + 16))) dX13_feed_108 x64 6 rfl (by decide) q1746 (.inl rfl) rfl (fun _ => rfl) (fun _ => rfl) rfl (g_upk (fun g65 h65 f65 => ?_))
    refine g_iinc E dX13_feed_111 rfl (v := 16) (rfl) (by decide) rfl (lo1 := [some (.ref 2000), some (.int a), some (.int b), some (.int c), some (.int d), some (.int e), some (.int 16), some (.int d)]) rfl rfl ?_
    refine g_goto E dX13_feed_114 (tgt := 23) (by decide) ?_
    refine g_iload E dX13_feed_23 rfl rfl ?_
    refine g_bipush E (v := 20) dX13_feed_25 (by decide) rfl ?_
    refine g_icmp_ge E dX13_feed_27 (tgt := 117) (by decide) rfl (fun h9 => absurd h9 (by decide)) (fun _ => ?_)
    refine g_iload E dX13_feed_30 rfl rfl ?_
    refine g_iconst E (v := 4) dX13_feed_32 (by decide) rfl ?_
    refine g_icmp_ge E dX13_feed_33 (tgt := 40) (by decide) rfl (fun _ => ?_) (fun h9 => absurd h9 (by decide))
    refine g_iload E dX13_feed_40 rfl rfl ?_
    refine g_bipush E (v := 8) dX13_feed_42 (by decide) rfl ?_
    refine g_icmp_ge E dX13_feed_44 (tgt := 51) (by decide) rfl (fun _ => ?_) (fun h9 => absurd h9 (by decide))
    refine g_iload E dX13_feed_51 rfl rfl ?_
    refine g_bipush E (v := 12) dX13_feed_53 (by decide) rfl ?_
    refine g_icmp_ge E dX13_feed_55 (tgt := 62) (by decide) rfl (fun _ => ?_) (fun h9 => absurd h9 (by decide))
    refine g_iload E dX13_feed_62 rfl rfl ?_
    refine g_bipush E (v := 16) dX13_feed_64 (by decide) rfl ?_
    refine g_icmp_ge E dX13_feed_66 (tgt := 74) (by decide) rfl (fun _ => ?_) (fun h9 => absurd h9 (by decide))
    refine g_iload E dX13_feed_74 rfl rfl ?_
    refine g_istore E dX13_feed_76 (by decide) rfl (lo1 := [some (.ref 2000), some (.int a), some (.int b), some (.int c), some (.int d), some (.int e), some (.int 16), some (.int e)]) rfl rfl ?_
    refine g_aload_n E dX13_feed_78 rfl rfl rfl ?_
    refine g_getf E gciX13 dX13_feed_79 h65 5 rfl (by decide) q1745 (.inl rfl) (.ref 2001) (hM_5) rfl ?_
    refine g_aload_n E dX13_feed_82 rfl rfl rfl ?_
    refine g_getf E gciX13 dX13_feed_83 h65 6 rfl (by decide) q1746 (.inl rfl) (.int (nI (tp + 16))) (rfl) rfl ?_
    refine g_iload E dX13_feed_86 rfl rfl ?_
    refine g_bipush E (v := 24) dX13_feed_88 (by decide) rfl ?_
    refine g_bipush E (v := 8) dX13_feed_90 (by decide) rfl ?_
    refine g_iload E dX13_feed_92 rfl rfl ?_
    refine g_iconst E (v := 4) dX13_feed_94 (by decide) rfl ?_
    refine g_irem E dX13_feed_95 (by decide) rfl ?_
    refine g_as (y := 0) (by decide) ?_
    refine g_imul E dX13_feed_96 rfl ?_
    refine g_as (y := 0) (by decide) ?_
    refine g_isub E dX13_feed_97 rfl ?_
    refine g_as (y := 24) (by decide) ?_
    refine g_ishr E dX13_feed_98 rfl ?_
    refine g_i2b E dX13_feed_99 rfl ?_
    have x66 := (f65 (2001) (by omega)).trans (h63)
    refine g_bast E dX13_feed_100 (j := tp + 16) x66 (rfl) (by omega) (by decide) rfl (g_upk (fun g67 h67 f67 => ?_))
    refine g_aload_n E dX13_feed_101 rfl rfl rfl ?_
    refine g_dup E dX13_feed_102 rfl rfl ?_
    have x68 := (f67 (2000) (by omega)).trans (h65)
    refine g_getf E gciX13 dX13_feed_103 x68 6 rfl (by decide) q1746 (.inl rfl) (.int (nI (tp + 16))) (rfl) rfl ?_
    refine g_iconst E (v := 1) dX13_feed_106 (by decide) rfl ?_
    refine g_iadd E dX13_feed_107 rfl ?_
    refine g_as (y := nI (tp + 17)) ((nI_succ _).symm) ?_
    refine g_putf E gciX13 (v := .int (nI (tp + 17))) dX13_feed_108 x68 6 rfl (by decide) q1746 (.inl rfl) rfl (fun _ => rfl) (fun _ => rfl) rfl (g_upk (fun g69 h69 f69 => ?_))
    refine g_iinc E dX13_feed_111 rfl (v := 17) (rfl) (by decide) rfl (lo1 := [some (.ref 2000), some (.int a), some (.int b), some (.int c), some (.int d), some (.int e), some (.int 17), some (.int e)]) rfl rfl ?_
    refine g_goto E dX13_feed_114 (tgt := 23) (by decide) ?_
    refine g_iload E dX13_feed_23 rfl rfl ?_
    refine g_bipush E (v := 20) dX13_feed_25 (by decide) rfl ?_
    refine g_icmp_ge E dX13_feed_27 (tgt := 117) (by decide) rfl (fun h9 => absurd h9 (by decide)) (fun _ => ?_)
    refine g_iload E dX13_feed_30 rfl rfl ?_
    refine g_iconst E (v := 4) dX13_feed_32 (by decide) rfl ?_
    refine g_icmp_ge E dX13_feed_33 (tgt := 40) (by decide) rfl (fun _ => ?_) (fun h9 => absurd h9 (by decide))
    refine g_iload E dX13_feed_40 rfl rfl ?_
    refine g_bipush E (v := 8) dX13_feed_42 (by decide) rfl ?_
    refine g_icmp_ge E dX13_feed_44 (tgt := 51) (by decide) rfl (fun _ => ?_) (fun h9 => absurd h9 (by decide))
    refine g_iload E dX13_feed_51 rfl rfl ?_
    refine g_bipush E (v := 12) dX13_feed_53 (by decide) rfl ?_
    refine g_icmp_ge E dX13_feed_55 (tgt := 62) (by decide) rfl (fun _ => ?_) (fun h9 => absurd h9 (by decide))
    refine g_iload E dX13_feed_62 rfl rfl ?_
    refine g_bipush E (v := 16) dX13_feed_64 (by decide) rfl ?_
    refine g_icmp_ge E dX13_feed_66 (tgt := 74) (by decide) rfl (fun _ => ?_) (fun h9 => absurd h9 (by decide))
    refine g_iload E dX13_feed_74 rfl rfl ?_
    refine g_istore E dX13_feed_76 (by decide) rfl (lo1 := [some (.ref 2000), some (.int a), some (.int b), some (.int c), some (.int d), some (.int e), some (.int 17), some (.int e)]) rfl rfl ?_
    refine g_aload_n E dX13_feed_78 rfl rfl rfl ?_
    refine g_getf E gciX13 dX13_feed_79 h69 5 rfl (by decide) q1745 (.inl rfl) (.ref 2001) (hM_5) rfl ?_
    refine g_aload_n E dX13_feed_82 rfl rfl rfl ?_
    refine g_getf E gciX13 dX13_feed_83 h69 6 rfl (by decide) q1746 (.inl rfl) (.int (nI (tp + 17))) (rfl) rfl ?_
    refine g_iload E dX13_feed_86 rfl rfl ?_
    refine g_bipush E (v := 24) dX13_feed_88 (by decide) rfl ?_
    refine g_bipush E (v := 8) dX13_feed_90 (by decide) rfl ?_
    refine g_iload E dX13_feed_92 rfl rfl ?_
    refine g_iconst E (v := 4) dX13_feed_94 (by decide) rfl ?_
    refine g_irem E dX13_feed_95 (by decide) rfl ?_
    refine g_as (y := 1) (by decide) ?_
    refine g_imul E dX13_feed_96 rfl ?_
    refine g_as (y := 8) (by decide) ?_
    refine g_isub E dX13_feed_97 rfl ?_
    refine g_as (y := 16) (by decide) ?_
    refine g_ishr E dX13_feed_98 rfl ?_
    refine g_i2b E dX13_feed_99 rfl ?_
    have x70 := (f69 (2001) (by omega)).trans (h67)
    refine g_bast E dX13_feed_100 (j := tp + 17) x70 (rfl) (by omega) (by decide) rfl (g_upk (fun g71 h71 f71 => ?_))
    refine g_aload_n E dX13_feed_101 rfl rfl rfl ?_
    refine g_dup E dX13_feed_102 rfl rfl ?_
    have x72 := (f71 (2000) (by omega)).trans (h69)
    refine g_getf E gciX13 dX13_feed_103 x72 6 rfl (by decide) q1746 (.inl rfl) (.int (nI (tp + 17))) (rfl) rfl ?_
    refine g_iconst E (v := 1) dX13_feed_106 (by decide) rfl ?_
    refine g_iadd E dX13_feed_107 rfl ?_
    refine g_as (y := nI (tp + 18)) ((nI_succ _).symm) ?_
    refine g_putf E gciX13 (v := .int (nI (tp + 18))) dX13_feed_108 x72 6 rfl (by decide) q1746 (.inl rfl) rfl (fun _ => rfl) (fun _ => rfl) rfl (g_upk (fun g73 h73 f73 => ?_))
    refine g_iinc E dX13_feed_111 rfl (v := 18) (rfl) (by decide) rfl (lo1 := [some (.ref 2000), some (.int a), some (.int b), some (.int c), some (.int d), some (.int e), some (.int 18), some (.int e)]) rfl rfl ?_
    refine g_goto E dX13_feed_114 (tgt := 23) (by decide) ?_
    refine g_iload E dX13_feed_23 rfl rfl ?_
    refine g_bipush E (v := 20) dX13_feed_25 (by decide) rfl ?_
    refine g_icmp_ge E dX13_feed_27 (tgt := 117) (by decide) rfl (fun h9 => absurd h9 (by decide)) (fun _ => ?_)
    refine g_iload E dX13_feed_30 rfl rfl ?_
    refine g_iconst E (v := 4) dX13_feed_32 (by decide) rfl ?_
    refine g_icmp_ge E dX13_feed_33 (tgt := 40) (by decide) rfl (fun _ => ?_) (fun h9 => absurd h9 (by decide))
    refine g_iload E dX13_feed_40 rfl rfl ?_
    refine g_bipush E (v := 8) dX13_feed_42 (by decide) rfl ?_
    refine g_icmp_ge E dX13_feed_44 (tgt := 51) (by decide) rfl (fun _ => ?_) (fun h9 => absurd h9 (by decide))
    refine g_iload E dX13_feed_51 rfl rfl ?_
    refine g_bipush E (v := 12) dX13_feed_53 (by decide) rfl ?_
    refine g_icmp_ge E dX13_feed_55 (tgt := 62) (by decide) rfl (fun _ => ?_) (fun h9 => absurd h9 (by decide))
    refine g_iload E dX13_feed_62 rfl rfl ?_
    refine g_bipush E (v := 16) dX13_feed_64 (by decide) rfl ?_
    refine g_icmp_ge E dX13_feed_66 (tgt := 74) (by decide) rfl (fun _ => ?_) (fun h9 => absurd h9 (by decide))
    refine g_iload E dX13_feed_74 rfl rfl ?_
    refine g_istore E dX13_feed_76 (by decide) rfl (lo1 := [some (.ref 2000), some (.int a), some (.int b), some (.int c), some (.int d), some (.int e), some (.int 18), some (.int e)]) rfl rfl ?_
    refine g_aload_n E dX13_feed_78 rfl rfl rfl ?_
    refine g_getf E gciX13 dX13_feed_79 h73 5 rfl (by decide) q1745 (.inl rfl) (.ref 2001) (hM_5) rfl ?_
    refine g_aload_n E dX13_feed_82 rfl rfl rfl ?_
    refine g_getf E gciX13 dX13_feed_83 h73 6 rfl (by decide) q1746 (.inl rfl) (.int (nI (tp + 18))) (rfl) rfl ?_
    refine g_iload E dX13_feed_86 rfl rfl ?_
    refine g_bipush E (v := 24) dX13_feed_88 (by decide) rfl ?_
    refine g_bipush E (v := 8) dX13_feed_90 (by decide) rfl ?_
    refine g_iload E dX13_feed_92 rfl rfl ?_
    refine g_iconst E (v := 4) dX13_feed_94 (by decide) rfl ?_
    refine g_irem E dX13_feed_95 (by decide) rfl ?_
    refine g_as (y := 2) (by decide) ?_
    refine g_imul E dX13_feed_96 rfl ?_
    refine g_as (y := 16) (by decide) ?_
    refine g_isub E dX13_feed_97 rfl ?_
    refine g_as (y := 8) (by decide) ?_
    refine g_ishr E dX13_feed_98 rfl ?_
    refine g_i2b E dX13_feed_99 rfl ?_
    have x74 := (f73 (2001) (by omega)).trans (h71)
    refine g_bast E dX13_feed_100 (j := tp + 18) x74 (rfl) (by omega) (by decide) rfl (g_upk (fun g75 h75 f75 => ?_))
    refine g_aload_n E dX13_feed_101 rfl rfl rfl ?_
    refine g_dup E dX13_feed_102 rfl rfl ?_
    have x76 := (f75 (2000) (by omega)).trans (h73)
    refine g_getf E gciX13 dX13_feed_103 x76 6 rfl (by decide) q1746 (.inl rfl) (.int (nI (tp + 18))) (rfl) rfl ?_
    refine g_iconst E (v := 1) dX13_feed_106 (by decide) rfl ?_
    refine g_iadd E dX13_feed_107 rfl ?_
    refine g_as (y := nI (tp + 19)) ((nI_succ _).symm) ?_
    refine g_putf E gciX13 (v := .int (nI (tp + 19))) dX13_feed_108 x76 6 rfl (by decide) q1746 (.inl rfl) rfl (fun _ => rfl) (fun _ => rfl) rfl (g_upk (fun g77 h77 f77 => ?_))
    refine g_iinc E dX13_feed_111 rfl (v := 19) (rfl) (by decide) rfl (lo1 := [some (.ref 2000), some (.int a), some (.int b), some (.int c), some (.int d), some (.int e), some (.int 19), some (.int e)]) rfl rfl ?_
    refine g_goto E dX13_feed_114 (tgt := 23) (by decide) ?_
    refine g_iload E dX13_feed_23 rfl rfl ?_
    refine g_bipush E (v := 20) dX13_feed_25 (by decide) rfl ?_
    refine g_icmp_ge E dX13_feed_27 (tgt := 117) (by decide) rfl (fun h9 => absurd h9 (by decide)) (fun _ => ?_)
    refine g_iload E dX13_feed_30 rfl rfl ?_
    refine g_iconst E (v := 4) dX13_feed_32 (by decide) rfl ?_
    refine g_icmp_ge E dX13_feed_33 (tgt := 40) (by decide) rfl (fun _ => ?_) (fun h9 => absurd h9 (by decide))
    refine g_iload E dX13_feed_40 rfl rfl ?_
    refine g_bipush E (v := 8) dX13_feed_42 (by decide) rfl ?_
    refine g_icmp_ge E dX13_feed_44 (tgt := 51) (by decide) rfl (fun _ => ?_) (fun h9 => absurd h9 (by decide))
    refine g_iload E dX13_feed_51 rfl rfl ?_
    refine g_bipush E (v := 12) dX13_feed_53 (by decide) rfl ?_
    refine g_icmp_ge E dX13_feed_55 (tgt := 62) (by decide) rfl (fun _ => ?_) (fun h9 => absurd h9 (by decide))
    refine g_iload E dX13_feed_62 rfl rfl ?_
    refine g_bipush E (v := 16) dX13_feed_64 (by decide) rfl ?_
    refine g_icmp_ge E dX13_feed_66 (tgt := 74) (by decide) rfl (fun _ => ?_) (fun h9 => absurd h9 (by decide))
    refine g_iload E dX13_feed_74 rfl rfl ?_
    refine g_istore E dX13_feed_76 (by decide) rfl (lo1 := [some (.ref 2000), some (.int a), some (.int b), some (.int c), some (.int d), some (.int e), some (.int 19), some (.int e)]) rfl rfl ?_
    refine g_aload_n E dX13_feed_78 rfl rfl rfl ?_
    refine g_getf E gciX13 dX13_feed_79 h77 5 rfl (by decide) q1745 (.inl rfl) (.ref 2001) (hM_5) rfl ?_
    refine g_aload_n E dX13_feed_82 rfl rfl rfl ?_
    refine g_getf E gciX13 dX13_feed_83 h77 6 rfl (by decide) q1746 (.inl rfl) (.int (nI (tp + 19))) (rfl) rfl ?_
    refine g_iload E dX13_feed_86 rfl rfl ?_
    refine g_bipush E (v := 24) dX13_feed_88 (by decide) rfl ?_
    refine g_bipush E (v := 8) dX13_feed_90 (by decide) rfl ?_
    refine g_iload E dX13_feed_92 rfl rfl ?_
    refine g_iconst E (v := 4) dX13_feed_94 (by decide) rfl ?_
    refine g_irem E dX13_feed_95 (by decide) rfl ?_
    refine g_as (y := 3) (by decide) ?_
    refine g_imul E dX13_feed_96 rfl ?_
    refine g_as (y := 24) (by decide) ?_
    refine g_isub E dX13_feed_97 rfl ?_
    refine g_as (y := 0) (by decide) ?_
    refine g_ishr E dX13_feed_98 rfl ?_
    refine g_i2b E dX13_feed_99 rfl ?_
    have x78 := (f77 (2001) (by omega)).trans (h75)
    refine g_bast E dX13_feed_100 (j := tp + 19) x78 (rfl) (by omega) (by decide) rfl (g_upk (fun g79 h79 f79 => ?_))
    refine g_aload_n E dX13_feed_101 rfl rfl rfl ?_
    refine g_dup E dX13_feed_102 rfl rfl ?_
    have x80 := (f79 (2000) (by omega)).trans (h77)
    refine g_getf E gciX13 dX13_feed_103 x80 6 rfl (by decide) q1746 (.inl rfl) (.int (nI (tp + 19))) (rfl) rfl ?_
    refine g_iconst E (v := 1) dX13_feed_106 (by decide) rfl ?_
    refine g_iadd E dX13_feed_107 rfl ?_
    refine g_as (y := nI (tp + 20)) ((nI_succ _).symm) ?_
    refine g_putf E gciX13 (v := .int (nI (tp + 20))) dX13_feed_108 x80 6 rfl (by decide) q1746 (.inl rfl) rfl (fun _ => rfl) (fun _ => rfl) rfl (g_upk (fun g81 h81 f81 => ?_))
    refine g_iinc E dX13_feed_111 rfl (v := 20) (rfl) (by decide) rfl (lo1 := [some (.ref 2000), some (.int a), some (.int b), some (.int c), some (.int d), some (.int e), some (.int 20), some (.int e)]) rfl rfl ?_
    refine g_goto E dX13_feed_114 (tgt := 23) (by decide) ?_
    refine g_iload E dX13_feed_23 rfl rfl ?_
    refine g_bipush E (v := 20) dX13_feed_25 (by decide) rfl ?_
    refine g_icmp_ge E dX13_feed_27 (tgt := 117) (by decide) rfl (fun _ => ?_) (fun h9 => absurd h9 (by decide))
    refine g_aload_n E dX13_feed_117 rfl rfl rfl ?_
    refine g_getf E gciX13 dX13_feed_118 h81 6 rfl (by decide) q1746 (.inl rfl) (.int (nI (tp + 20))) (rfl) rfl ?_
    have x82 := (f81 (2001) (by omega)).trans (h79)
    exact g_iret E Rt dX13_feed_121 rfl (by decide) (by decide) (by rw [if_pos (show tp + 20 ≤ 1100 by omega), if_pos (show tp + 20 ≤ 1100 by omega), if_pos (show tp + 20 ≤ 1100 by omega)]; exact ⟨rfl, ⟨_, h81, rfl, hM_1, hM_2, hM_3, hM_5, rfl, hM_12, hM_15, hM_16, hM_17, hM_18, hM_19, hM_20, hM_26, hM_28, hM_29, trivial⟩, ⟨_, x82, (updT (updT (updT (updT (updT (updT (updT (updT (updT (updT (updT (updT (updT (updT (updT (updT (updT (updT (updT (updT hTp_b))))))))))))))))))))⟩, fun j9 h9 => ((((((((((((((((((((((((((((((((((((((((f81 j9 (by omega)).trans (f79 j9 (by omega))).trans (f77 j9 (by omega))).trans (f75 j9 (by omega))).trans (f73 j9 (by omega))).trans (f71 j9 (by omega))).trans (f69 j9 (by omega))).trans (f67 j9 (by omega))).trans (f65 j9 (by omega))).trans (f63 j9 (by omega))).trans (f61 j9 (by omega))).trans (f59 j9 (by omega))).trans (f57 j9 (by omega))).trans (f55 j9 (by omega))).trans (f53 j9 (by omega))).trans (f51 j9 (by omega))).trans (f49 j9 (by omega))).trans (f47 j9 (by omega))).trans (f45 j9 (by omega))).trans (f43 j9 (by omega))).trans (f41 j9 (by omega))).trans (f39 j9 (by omega))).trans (f37 j9 (by omega))).trans (f35 j9 (by omega))).trans (f33 j9 (by omega))).trans (f31 j9 (by omega))).trans (f29 j9 (by omega))).trans (f27 j9 (by omega))).trans (f25 j9 (by omega))).trans (f23 j9 (by omega))).trans (f21 j9 (by omega))).trans (f19 j9 (by omega))).trans (f17 j9 (by omega))).trans (f15 j9 (by omega))).trans (f13 j9 (by omega))).trans (f11 j9 (by omega))).trans (f9 j9 (by omega))).trans (f7 j9 (by omega))).trans (f5 j9 (by omega))).trans (f3 j9 (by omega))).trans (f1 j9 (by omega))⟩)
  · have c15 := mt (nI_leI (a := tp + 20) (b := 1100) (by omega) (by omega)).mpr c15
    refine g_iconst E (v := (-1)) dX13_feed_18 (by decide) rfl ?_
    have y83 := (hTp.fr  (fun j9 a9 b9 => f1 j9 (by omega)))
    exact g_iret E Rt dX13_feed_19 rfl (by decide) (by decide) (by rw [if_neg (show ¬ tp + 20 ≤ 1100 by omega), if_neg (show ¬ tp + 20 ≤ 1100 by omega), if_neg (show ¬ tp + 20 ≤ 1100 by omega)]; exact ⟨rfl, ⟨_, h1, rfl, hM_1, hM_2, hM_3, hM_5, hM_6, hM_12, hM_15, hM_16, hM_17, hM_18, hM_19, hM_20, hM_26, hM_28, hM_29, trivial⟩, y83, fun j9 h9 => f1 j9 (by omega)⟩)
set_option maxHeartbeats 2000000 in
theorem ct_X13_init (l : Launch) {g : gWM}  (hO : g 2000 = some (.inr (10, fun j => defaultValue (tyX13 j)))) (hz : ∀ j, (2000 < j ∧ j < 2009) → g j = none) : gCt l yX13_init cX13_init 1 none 1 8 1494 20 [.ref 2000] g (gPn (fun g1 => pM0 g1 ∧ ∀ j, (j < 2000 ∨ 2009 ≤ j) → g1 j = g j)) := by
  refine gCt.ofI RX13 (by decide) rfl (lo := [some (.ref 2000)]) 0 rfl (Nat.le_of_ble_eq_true rfl) rfl (fun z E Rt Hin => ?_)
  refine g_aload_n E dX13_init_0 rfl rfl rfl ?_
  refine g_objInit E dX13_init_1 q1739 q164 q165 ⟨by decide, by decide⟩ (Nat.le_of_ble_eq_true rfl) rfl ?_
  refine g_aload_n E dX13_init_4 rfl rfl rfl ?_
  refine g_iconst E (v := (-1)) dX13_init_5 (by decide) rfl ?_
  refine g_putf E gciX13 (v := .int (-1)) dX13_init_6 hO 2 rfl (by decide) q1742 (.inl rfl) rfl (fun _ => rfl) (fun _ => rfl) rfl (g_upk (fun g1 h1 f1 => ?_))
  refine g_aload_n E dX13_init_9 rfl rfl rfl ?_
  refine g_sipush E (v := 1100) dX13_init_10 (by decide) rfl ?_
  refine g_newaB E dX13_init_13 q245 (n := 1100) rfl (by decide) (2001) ((f1 (2001) (by omega)).trans (hz (2001) (by omega))) (by omega) (by decide) (by decide) rfl (g_upk (fun g2 h2 f2 => ?_))
  have x3 := (f2 (2000) (by omega)).trans (h1)
  refine g_putfF E gciX13 (v := .ref 2001) dX13_init_15 x3 5 rfl (by decide) q1745 (.inl rfl) rfl Hin rfl (fun _ => rfl) (fun _ => rfl) rfl (g_upk (fun g4 h4 f4 => ?_))
  refine g_aload_n E dX13_init_18 rfl rfl rfl ?_
  refine g_bipush E (v := 18) dX13_init_19 (by decide) rfl ?_
  refine g_newaI E dX13_init_21 q311 (n := 18) rfl (by decide) (2002) ((f4 (2002) (by omega)).trans ((f2 (2002) (by omega)).trans ((f1 (2002) (by omega)).trans (hz (2002) (by omega))))) (by omega) (by decide) (by decide) rfl (g_upk (fun g5 h5 f5 => ?_))
  have x6 := (f5 (2000) (by omega)).trans (h4)
  refine g_putfF E gciX13 (v := .ref 2002) dX13_init_23 x6 15 rfl (by decide) q1755 (.inl rfl) rfl Hin rfl (fun _ => rfl) (fun _ => rfl) rfl (g_upk (fun g7 h7 f7 => ?_))
  refine g_aload_n E dX13_init_26 rfl rfl rfl ?_
  refine g_bipush E (v := 18) dX13_init_27 (by decide) rfl ?_
  refine g_newaI E dX13_init_29 q311 (n := 18) rfl (by decide) (2003) ((f7 (2003) (by omega)).trans ((f5 (2003) (by omega)).trans ((f4 (2003) (by omega)).trans ((f2 (2003) (by omega)).trans ((f1 (2003) (by omega)).trans (hz (2003) (by omega))))))) (by omega) (by decide) (by decide) rfl (g_upk (fun g8 h8 f8 => ?_))
  have x9 := (f8 (2000) (by omega)).trans (h7)
  refine g_putfF E gciX13 (v := .ref 2003) dX13_init_31 x9 16 rfl (by decide) q1756 (.inl rfl) rfl Hin rfl (fun _ => rfl) (fun _ => rfl) rfl (g_upk (fun g10 h10 f10 => ?_))
  refine g_aload_n E dX13_init_34 rfl rfl rfl ?_
  refine g_sipush E (v := 288) dX13_init_35 (by decide) rfl ?_
  refine g_newaI E dX13_init_38 q311 (n := 288) rfl (by decide) (2004) ((f10 (2004) (by omega)).trans ((f8 (2004) (by omega)).trans ((f7 (2004) (by omega)).trans ((f5 (2004) (by omega)).trans ((f4 (2004) (by omega)).trans ((f2 (2004) (by omega)).trans ((f1 (2004) (by omega)).trans (hz (2004) (by omega))))))))) (by omega) (by decide) (by decide) rfl (g_upk (fun g11 h11 f11 => ?_))
  have x12 := (f11 (2000) (by omega)).trans (h10)
  refine g_putfF E gciX13 (v := .ref 2004) dX13_init_40 x12 17 rfl (by decide) q1757 (.inl rfl) rfl Hin rfl (fun _ => rfl) (fun _ => rfl) rfl (g_upk (fun g13 h13 f13 => ?_))
  refine g_aload_n E dX13_init_43 rfl rfl rfl ?_
  refine g_bipush E (v := 54) dX13_init_44 (by decide) rfl ?_
  refine g_newaI E dX13_init_46 q311 (n := 54) rfl (by decide) (2005) ((f13 (2005) (by omega)).trans ((f11 (2005) (by omega)).trans ((f10 (2005) (by omega)).trans ((f8 (2005) (by omega)).trans ((f7 (2005) (by omega)).trans ((f5 (2005) (by omega)).trans ((f4 (2005) (by omega)).trans ((f2 (2005) (by omega)).trans ((f1 (2005) (by omega)).trans (hz (2005) (by omega))))))))))) (by omega) (by decide) (by decide) rfl (g_upk (fun g14 h14 f14 => ?_))
  have x15 := (f14 (2000) (by omega)).trans (h13)
  refine g_putfF E gciX13 (v := .ref 2005) dX13_init_48 x15 18 rfl (by decide) q1758 (.inl rfl) rfl Hin rfl (fun _ => rfl) (fun _ => rfl) rfl (g_upk (fun g16 h16 f16 => ?_))
  refine g_aload_n E dX13_init_51 rfl rfl rfl ?_
  refine g_bipush E (v := 6) dX13_init_52 (by decide) rfl ?_
  refine g_newaI E dX13_init_54 q311 (n := 6) rfl (by decide) (2006) ((f16 (2006) (by omega)).trans ((f14 (2006) (by omega)).trans ((f13 (2006) (by omega)).trans ((f11 (2006) (by omega)).trans ((f10 (2006) (by omega)).trans ((f8 (2006) (by omega)).trans ((f7 (2006) (by omega)).trans ((f5 (2006) (by omega)).trans ((f4 (2006) (by omega)).trans ((f2 (2006) (by omega)).trans ((f1 (2006) (by omega)).trans (hz (2006) (by omega))))))))))))) (by omega) (by decide) (by decide) rfl (g_upk (fun g17 h17 f17 => ?_))
  have x18 := (f17 (2000) (by omega)).trans (h16)
  refine g_putfF E gciX13 (v := .ref 2006) dX13_init_56 x18 26 rfl (by decide) q1766 (.inl rfl) rfl Hin rfl (fun _ => rfl) (fun _ => rfl) rfl (g_upk (fun g19 h19 f19 => ?_))
  refine g_aload_n E dX13_init_59 rfl rfl rfl ?_
  refine g_iconst E (v := 5) dX13_init_60 (by decide) rfl ?_
  refine g_newaI E dX13_init_61 q311 (n := 5) rfl (by decide) (2007) ((f19 (2007) (by omega)).trans ((f17 (2007) (by omega)).trans ((f16 (2007) (by omega)).trans ((f14 (2007) (by omega)).trans ((f13 (2007) (by omega)).trans ((f11 (2007) (by omega)).trans ((f10 (2007) (by omega)).trans ((f8 (2007) (by omega)).trans ((f7 (2007) (by omega)).trans ((f5 (2007) (by omega)).trans ((f4 (2007) (by omega)).trans ((f2 (2007) (by omega)).trans ((f1 (2007) (by omega)).trans (hz (2007) (by omega))))))))))))))) (by omega) (by decide) (by decide) rfl (g_upk (fun g20 h20 f20 => ?_))
  have x21 := (f20 (2000) (by omega)).trans (h19)
  refine g_putfF E gciX13 (v := .ref 2007) dX13_init_63 x21 28 rfl (by decide) q1768 (.inl rfl) rfl Hin rfl (fun _ => rfl) (fun _ => rfl) rfl (g_upk (fun g22 h22 f22 => ?_))
  refine g_aload_n E dX13_init_66 rfl rfl rfl ?_
  refine g_iconst E (v := 5) dX13_init_67 (by decide) rfl ?_
  refine g_newaI E dX13_init_68 q311 (n := 5) rfl (by decide) (2008) ((f22 (2008) (by omega)).trans ((f20 (2008) (by omega)).trans ((f19 (2008) (by omega)).trans ((f17 (2008) (by omega)).trans ((f16 (2008) (by omega)).trans ((f14 (2008) (by omega)).trans ((f13 (2008) (by omega)).trans ((f11 (2008) (by omega)).trans ((f10 (2008) (by omega)).trans ((f8 (2008) (by omega)).trans ((f7 (2008) (by omega)).trans ((f5 (2008) (by omega)).trans ((f4 (2008) (by omega)).trans ((f2 (2008) (by omega)).trans ((f1 (2008) (by omega)).trans (hz (2008) (by omega))))))))))))))))) (by omega) (by decide) (by decide) rfl (g_upk (fun g23 h23 f23 => ?_))
  have x24 := (f23 (2000) (by omega)).trans (h22)
  refine g_putfF E gciX13 (v := .ref 2008) dX13_init_70 x24 29 rfl (by decide) q1769 (.inl rfl) rfl Hin rfl (fun _ => rfl) (fun _ => rfl) rfl (g_upk (fun g25 h25 f25 => ?_))
  have x26 := (f25 (2001) (by omega)).trans ((f23 (2001) (by omega)).trans ((f22 (2001) (by omega)).trans ((f20 (2001) (by omega)).trans ((f19 (2001) (by omega)).trans ((f17 (2001) (by omega)).trans ((f16 (2001) (by omega)).trans ((f14 (2001) (by omega)).trans ((f13 (2001) (by omega)).trans ((f11 (2001) (by omega)).trans ((f10 (2001) (by omega)).trans ((f8 (2001) (by omega)).trans ((f7 (2001) (by omega)).trans ((f5 (2001) (by omega)).trans ((f4 (2001) (by omega)).trans (h2)))))))))))))))
  have x27 := (f25 (2002) (by omega)).trans ((f23 (2002) (by omega)).trans ((f22 (2002) (by omega)).trans ((f20 (2002) (by omega)).trans ((f19 (2002) (by omega)).trans ((f17 (2002) (by omega)).trans ((f16 (2002) (by omega)).trans ((f14 (2002) (by omega)).trans ((f13 (2002) (by omega)).trans ((f11 (2002) (by omega)).trans ((f10 (2002) (by omega)).trans ((f8 (2002) (by omega)).trans ((f7 (2002) (by omega)).trans (h5)))))))))))))
  have x28 := (f25 (2003) (by omega)).trans ((f23 (2003) (by omega)).trans ((f22 (2003) (by omega)).trans ((f20 (2003) (by omega)).trans ((f19 (2003) (by omega)).trans ((f17 (2003) (by omega)).trans ((f16 (2003) (by omega)).trans ((f14 (2003) (by omega)).trans ((f13 (2003) (by omega)).trans ((f11 (2003) (by omega)).trans ((f10 (2003) (by omega)).trans (h8)))))))))))
  have x29 := (f25 (2004) (by omega)).trans ((f23 (2004) (by omega)).trans ((f22 (2004) (by omega)).trans ((f20 (2004) (by omega)).trans ((f19 (2004) (by omega)).trans ((f17 (2004) (by omega)).trans ((f16 (2004) (by omega)).trans ((f14 (2004) (by omega)).trans ((f13 (2004) (by omega)).trans (h11)))))))))
  have x30 := (f25 (2005) (by omega)).trans ((f23 (2005) (by omega)).trans ((f22 (2005) (by omega)).trans ((f20 (2005) (by omega)).trans ((f19 (2005) (by omega)).trans ((f17 (2005) (by omega)).trans ((f16 (2005) (by omega)).trans (h14)))))))
  have x31 := (f25 (2006) (by omega)).trans ((f23 (2006) (by omega)).trans ((f22 (2006) (by omega)).trans ((f20 (2006) (by omega)).trans ((f19 (2006) (by omega)).trans (h17)))))
  have x32 := (f25 (2007) (by omega)).trans ((f23 (2007) (by omega)).trans ((f22 (2007) (by omega)).trans (h20)))
  have x33 := (f25 (2008) (by omega)).trans (h23)
  exact g_vret E Rt dX13_init_73 rfl (by decide) (by decide) (⟨rfl, ⟨⟨_, h25, rfl, rfl, rfl, rfl, rfl, rfl, rfl, rfl, rfl, rfl, rfl, rfl, rfl, rfl, rfl, rfl, trivial⟩, ⟨_, x26⟩, ⟨_, x27, fun _ => rfl⟩, ⟨_, x28⟩, ⟨_, x29⟩, ⟨_, x30⟩, ⟨_, x31⟩, ⟨_, x32⟩, ⟨_, x33⟩⟩, fun j9 h9 => ((((((((((((((((f25 j9 (by omega)).trans (f23 j9 (by omega))).trans (f22 j9 (by omega))).trans (f20 j9 (by omega))).trans (f19 j9 (by omega))).trans (f17 j9 (by omega))).trans (f16 j9 (by omega))).trans (f14 j9 (by omega))).trans (f13 j9 (by omega))).trans (f11 j9 (by omega))).trans (f10 j9 (by omega))).trans (f8 j9 (by omega))).trans (f7 j9 (by omega))).trans (f5 j9 (by omega))).trans (f4 j9 (by omega))).trans (f2 j9 (by omega))).trans (f1 j9 (by omega))⟩)
