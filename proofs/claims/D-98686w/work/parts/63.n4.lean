/-! THE MODEL, walks, fourth: sets that are best, covers -/
set_option maxRecDepth 100000
set_option maxHeartbeats 400000 in
theorem ct_X13_takesSet_0 (l : Launch) {g : gWM} {bar : Value} {th tr wh fa : Int32} {tp ac mk : Nat} (s : Nat) (a : Int32) (hM : pMq g bar th tr wh tp fa ac mk [(22, -1)]) : gCt l yX13_takesSet cX13_takesSet 3 none 0 0 0 0 [.ref 2000, .int (nI s), .int a] g (gPn (fun g1 => pMq g1 bar th tr wh tp fa ac mk [(22, a), (23, nI s)] ∧ ∀ j, j ≠ 2000 → g1 j = g j)) := by
  refine gCt.of RX13 (by decide) rfl (lo := [some (.ref 2000), some (.int (nI s)), some (.int a)]) 0 rfl (Nat.le_of_ble_eq_true rfl) (fun z E Rt => ?_)
  have hM_o := hM
  obtain ⟨hM_F, hM_a, hM_0, hM_1, hM_2, hM_3, hM_5, hM_6, hM_12, hM_15, hM_16, hM_17, hM_18, hM_19, hM_20, hM_26, hM_28, hM_29, hM_22, -⟩ := hM_o
  refine g_aload_n E dX13_takesSet_0 rfl rfl rfl ?_
  refine g_getf E gciX13 dX13_takesSet_1 hM_a 22 rfl (by decide) q1762 (.inl rfl) (.int (-1)) (hM_22) rfl ?_
  refine g_iconst E (v := (-1)) dX13_takesSet_4 (by decide) rfl ?_
  refine g_icmp_eq E dX13_takesSet_5 (tgt := 39) (by decide) rfl (fun _ => ?_) (fun h9 => absurd h9 (by decide))
  refine g_aload_n E dX13_takesSet_39 rfl rfl rfl ?_
  refine g_iload_n E dX13_takesSet_40 rfl rfl rfl ?_
  refine g_putf E gciX13 (v := .int a) dX13_takesSet_41 hM_a 22 rfl (by decide) q1762 (.inl rfl) rfl (fun _ => rfl) (fun _ => rfl) rfl (g_upk (fun g1 h1 f1 => ?_))
  refine g_aload_n E dX13_takesSet_44 rfl rfl rfl ?_
  refine g_iload_n E dX13_takesSet_45 rfl rfl rfl ?_
  refine g_putf E gciX13 (v := .int (nI s)) dX13_takesSet_46 h1 23 rfl (by decide) q1763 (.inl rfl) rfl (fun _ => rfl) (fun _ => rfl) rfl (g_upk (fun g2 h2 f2 => ?_))
  exact g_vret E Rt dX13_takesSet_49 rfl (by decide) (by decide) (⟨rfl, ⟨_, h2, hM_0, hM_1, hM_2, hM_3, hM_5, hM_6, hM_12, hM_15, hM_16, hM_17, hM_18, hM_19, hM_20, hM_26, hM_28, hM_29, rfl, rfl, trivial⟩, fun j9 h9 => (f2 j9 (by omega)).trans (f1 j9 (by omega))⟩)
set_option maxHeartbeats 400000 in
theorem ct_X13_takesSet (l : Launch) {g : gWM} {bar : Value} {th tr wh fa : Int32} {tp ac mk : Nat} (s bs : Nat) (a ba : Int32) (hM : pMq g bar th tr wh tp fa ac mk [(22, ba), (23, nI bs)]) (hs : s < 256) (hbs : bs < 256) : gCt l yX13_takesSet cX13_takesSet 3 none 1 0 0 22 [.ref 2000, .int (nI s), .int a] g (gPn (fun g1 => pMq g1 bar th tr wh tp fa ac mk [(22, (zTks (bs, ba) s a).2), (23, nI (zTks (bs, ba) s a).1)] ∧ ∀ j, j ≠ 2000 → g1 j = g j)) := by
  refine gCt.of RX13 (by decide) rfl (lo := [some (.ref 2000), some (.int (nI s)), some (.int a)]) 0 rfl (Nat.le_of_ble_eq_true rfl) (fun z E Rt => ?_)
  have hM_o := hM
  obtain ⟨hM_F, hM_a, hM_0, hM_1, hM_2, hM_3, hM_5, hM_6, hM_12, hM_15, hM_16, hM_17, hM_18, hM_19, hM_20, hM_26, hM_28, hM_29, hM_22, hM_23, -⟩ := hM_o
  have hz1 := zOn_le s hs
  have hz2 := zOn_le bs hbs
  refine g_aload_n E dX13_takesSet_0 rfl rfl rfl ?_
  refine g_getf E gciX13 dX13_takesSet_1 hM_a 22 rfl (by decide) q1762 (.inl rfl) (.int ba) (hM_22) rfl ?_
  refine g_iconst E (v := (-1)) dX13_takesSet_4 (by decide) rfl ?_
  refine g_icmp_eq E dX13_takesSet_5 (tgt := 39) (by decide) rfl (fun c5 => ?_) (fun c5 => ?_)
  · refine g_aload_n E dX13_takesSet_39 rfl rfl rfl ?_
    refine g_iload_n E dX13_takesSet_40 rfl rfl rfl ?_
    refine g_putf E gciX13 (v := .int a) dX13_takesSet_41 hM_a 22 rfl (by decide) q1762 (.inl rfl) rfl (fun _ => rfl) (fun _ => rfl) rfl (g_upk (fun g1 h1 f1 => ?_))
    refine g_aload_n E dX13_takesSet_44 rfl rfl rfl ?_
    refine g_iload_n E dX13_takesSet_45 rfl rfl rfl ?_
    refine g_putf E gciX13 (v := .int (nI s)) dX13_takesSet_46 h1 23 rfl (by decide) q1763 (.inl rfl) rfl (fun _ => rfl) (fun _ => rfl) rfl (g_upk (fun g2 h2 f2 => ?_))
    have e3 : zTks (bs, ba) s a = (s, a) := by simp [zTks, c5]
    exact g_vret E Rt dX13_takesSet_49 rfl (by decide) (by decide) (by rw [e3]; exact ⟨rfl, ⟨_, h2, hM_0, hM_1, hM_2, hM_3, hM_5, hM_6, hM_12, hM_15, hM_16, hM_17, hM_18, hM_19, hM_20, hM_26, hM_28, hM_29, rfl, rfl, trivial⟩, fun j9 h9 => (f2 j9 (by omega)).trans (f1 j9 (by omega))⟩)
  · refine g_iload_n E dX13_takesSet_8 rfl rfl rfl ?_
    refine g_aload_n E dX13_takesSet_9 rfl rfl rfl ?_
    refine g_getf E gciX13 dX13_takesSet_10 hM_a 22 rfl (by decide) q1762 (.inl rfl) (.int ba) (hM_22) rfl ?_
    refine g_icmp_gt E dX13_takesSet_13 (tgt := 38) (by decide) rfl (fun c13 => ?_) (fun c13 => ?_)
    · have e4 : zTks (bs, ba) s a = (bs, ba) := by simp [zTks, c5, c13]
      exact g_vret E Rt dX13_takesSet_38 rfl (by decide) (by decide) (by rw [e4]; exact ⟨rfl, ⟨_, hM_a, hM_0, hM_1, hM_2, hM_3, hM_5, hM_6, hM_12, hM_15, hM_16, hM_17, hM_18, hM_19, hM_20, hM_26, hM_28, hM_29, hM_22, hM_23, trivial⟩, fun j9 h9 => rfl⟩)
    · refine g_iload_n E dX13_takesSet_16 rfl rfl rfl ?_
      refine g_aload_n E dX13_takesSet_17 rfl rfl rfl ?_
      refine g_getf E gciX13 dX13_takesSet_18 hM_a 22 rfl (by decide) q1762 (.inl rfl) (.int ba) (hM_22) rfl ?_
      refine g_icmp_ne E dX13_takesSet_21 (tgt := 39) (by decide) rfl (fun c21 => ?_) (fun c21 => ?_)
      · refine g_aload_n E dX13_takesSet_39 rfl rfl rfl ?_
        refine g_iload_n E dX13_takesSet_40 rfl rfl rfl ?_
        refine g_putf E gciX13 (v := .int a) dX13_takesSet_41 hM_a 22 rfl (by decide) q1762 (.inl rfl) rfl (fun _ => rfl) (fun _ => rfl) rfl (g_upk (fun g5 h5 f5 => ?_))
        refine g_aload_n E dX13_takesSet_44 rfl rfl rfl ?_
        refine g_iload_n E dX13_takesSet_45 rfl rfl rfl ?_
        refine g_putf E gciX13 (v := .int (nI s)) dX13_takesSet_46 h5 23 rfl (by decide) q1763 (.inl rfl) rfl (fun _ => rfl) (fun _ => rfl) rfl (g_upk (fun g6 h6 f6 => ?_))
        have e7 : zTks (bs, ba) s a = (s, a) := by simp [zTks, c5, c13, c21]
        exact g_vret E Rt dX13_takesSet_49 rfl (by decide) (by decide) (by rw [e7]; exact ⟨rfl, ⟨_, h6, hM_0, hM_1, hM_2, hM_3, hM_5, hM_6, hM_12, hM_15, hM_16, hM_17, hM_18, hM_19, hM_20, hM_26, hM_28, hM_29, rfl, rfl, trivial⟩, fun j9 h9 => (f6 j9 (by omega)).trans (f5 j9 (by omega))⟩)
      · refine g_iload_n E dX13_takesSet_24 rfl rfl rfl ?_
        refine g_callS (n9 := 1) (av := [.int (nI s)]) (st := []) E (ct_X13_bits l s (by omega)) dX13_takesSet_25 q2349 q2350 q135 q2351 (by decide +kernel) rfl rfl ⟨by decide, by decide⟩ ⟨by decide, by decide⟩ (Nat.le_of_ble_eq_true rfl) rfl (gPu.k ?_)
        refine g_aload_n E dX13_takesSet_28 rfl rfl rfl ?_
        refine g_getf E gciX13 dX13_takesSet_29 hM_a 23 rfl (by decide) q1763 (.inl rfl) (.int (nI bs)) (hM_23) rfl ?_
        refine g_callS (n9 := 1) (av := [.int (nI bs)]) (st := [.int (nI (zOn s))]) E (ct_X13_bits l bs (by omega)) dX13_takesSet_32 q2349 q2350 q135 q2351 (by decide +kernel) rfl rfl ⟨by decide, by decide⟩ ⟨by decide, by decide⟩ (Nat.le_of_ble_eq_true rfl) rfl (gPu.k ?_)
        refine g_icmp_lt E dX13_takesSet_35 (tgt := 39) (by decide) rfl (fun c35 => ?_) (fun c35 => ?_)
        · have c35 := (nI_ltI (a := zOn s) (b := zOn bs) (by omega) (by omega)).mp c35
          refine g_aload_n E dX13_takesSet_39 rfl rfl rfl ?_
          refine g_iload_n E dX13_takesSet_40 rfl rfl rfl ?_
          refine g_putf E gciX13 (v := .int a) dX13_takesSet_41 hM_a 22 rfl (by decide) q1762 (.inl rfl) rfl (fun _ => rfl) (fun _ => rfl) rfl (g_upk (fun g8 h8 f8 => ?_))
          refine g_aload_n E dX13_takesSet_44 rfl rfl rfl ?_
          refine g_iload_n E dX13_takesSet_45 rfl rfl rfl ?_
          refine g_putf E gciX13 (v := .int (nI s)) dX13_takesSet_46 h8 23 rfl (by decide) q1763 (.inl rfl) rfl (fun _ => rfl) (fun _ => rfl) rfl (g_upk (fun g9 h9 f9 => ?_))
          have e10 : zTks (bs, ba) s a = (s, a) := by simp [zTks, c5, c13, c21, Nat.not_le.mpr c35]
          exact g_vret E Rt dX13_takesSet_49 rfl (by decide) (by decide) (by rw [e10]; exact ⟨rfl, ⟨_, h9, hM_0, hM_1, hM_2, hM_3, hM_5, hM_6, hM_12, hM_15, hM_16, hM_17, hM_18, hM_19, hM_20, hM_26, hM_28, hM_29, rfl, rfl, trivial⟩, fun j9 h9 => (f9 j9 (by omega)).trans (f8 j9 (by omega))⟩)
        · have c35 := mt (nI_ltI (a := zOn s) (b := zOn bs) (by omega) (by omega)).mpr c35
          have e11 : zTks (bs, ba) s a = (bs, ba) := by simp [zTks, c5, c13, c21, c35]
          exact g_vret E Rt dX13_takesSet_38 rfl (by decide) (by decide) (by rw [e11]; exact ⟨rfl, ⟨_, hM_a, hM_0, hM_1, hM_2, hM_3, hM_5, hM_6, hM_12, hM_15, hM_16, hM_17, hM_18, hM_19, hM_20, hM_26, hM_28, hM_29, hM_22, hM_23, trivial⟩, fun j9 h9 => rfl⟩)
set_option maxHeartbeats 2000000 in
theorem ct_X13_eatsBest (l : Launch) {g : gWM} {mb : Nat} {B : gBar} {R : Nat → Int32} {d : Int32} {th tr wh fa : Int32} {tp ac mk : Nat} (t k9 : Nat) (dy : Int32) (hw : wfB B) (hM : pMq g (.ref mb) th tr wh tp fa ac mk []) (hMb : pMb g mb B) (hV : pRw g 2002 B R d) (hX : pIx g 2003 18) (h9 : 10000 ≤ mb) (ht : t < B 0 1) (hk9 : k9 < B 0 2) (hd6 : zIn dy 0 60 = true) (hH : zHok B R) : gCt l yX13_eatsBest cX13_eatsBest 7 none 6 0 0 141 [.ref 2000, .int (nI t), .int (nI k9), .int dy] g (gPn (fun g1 => pMq g1 (.ref mb) th tr wh tp fa ac mk [(22, (zChs true B R t k9 (d + dy) (2 ^ B 0 3)).2), (23, nI (zChs true B R t k9 (d + dy) (2 ^ B 0 3)).1)] ∧ pIx g1 2003 18 ∧ ∀ j, (j ≠ 2000 ∧ j ≠ 2003) → g1 j = g j)) := by
  refine gCt.of RX13 (by decide) rfl (lo := [some (.ref 2000), some (.int (nI t)), some (.int (nI k9)), some (.int dy), none, none, none]) 3 rfl (Nat.le_of_ble_eq_true rfl) (fun z E Rt => ?_)
  have hw_n := hw.1
  have hM_o := hM
  obtain ⟨hM_F, hM_a, hM_0, hM_1, hM_2, hM_3, hM_5, hM_6, hM_12, hM_15, hM_16, hM_17, hM_18, hM_19, hM_20, hM_26, hM_28, hM_29, -⟩ := hM_o
  have hMb_o := hMb
  obtain ⟨⟨hMb_F, hMb_a, hMb_0, hMb_1, hMb_2, hMb_3, hMb_4, hMb_5, hMb_6, hMb_7, hMb_8, hMb_9, hMb_11, hMb_12, hMb_13, hMb_14, hMb_15, hMb_16, hMb_17, hMb_18, hMb_19, hMb_20, hMb_21, hMb_22, hMb_23, hMb_24, hMb_25, hMb_26, hMb_27, hMb_28, hMb_29, hMb_30, hMb_31⟩, ⟨hMb_f1, hMb_a1, hMb_b1⟩, ⟨hMb_f2, hMb_a2, hMb_b2⟩, ⟨hMb_f3, hMb_a3, hMb_b3⟩, ⟨hMb_f4, hMb_a4, hMb_b4⟩, ⟨hMb_f5, hMb_a5, hMb_b5⟩, ⟨hMb_f6, hMb_a6, hMb_b6⟩, ⟨hMb_f7, hMb_a7, hMb_b7⟩, ⟨hMb_f8, hMb_a8, hMb_b8⟩, ⟨hMb_f9, hMb_a9, hMb_b9⟩, ⟨hMb_f10, hMb_a10, hMb_b10⟩, ⟨hMb_f11, hMb_a11, hMb_b11⟩, ⟨hMb_f12, hMb_a12, hMb_b12⟩, ⟨hMb_f13, hMb_a13, hMb_b13⟩, ⟨hMb_f14, hMb_a14, hMb_b14⟩, ⟨hMb_f15, hMb_a15, hMb_b15⟩, ⟨hMb_f16, hMb_a16, hMb_b16⟩, ⟨hMb_f17, hMb_a17, hMb_b17⟩, ⟨hMb_f18, hMb_a18, hMb_b18⟩, ⟨hMb_f19, hMb_a19, hMb_b19⟩, ⟨hMb_f20, hMb_a20, hMb_b20⟩, ⟨hMb_f21, hMb_a21, hMb_b21⟩⟩ := hMb_o
  have hV_o := hV
  obtain ⟨hV_f, hV_a, hV_r, hV_d⟩ := hV_o
  have hX_o := hX
  obtain ⟨hX_f, hX_a⟩ := hX_o
  refine g_aload_n E dX13_eatsBest_0 rfl rfl rfl ?_
  refine g_iconst E (v := (-1)) dX13_eatsBest_1 (by decide) rfl ?_
  refine g_putf E gciX13 (v := .int (-1)) dX13_eatsBest_2 hM_a 22 rfl (by decide) q1762 (.inl rfl) rfl (fun _ => rfl) (fun _ => rfl) rfl (g_upk (fun g1 h1 f1 => ?_))
  refine g_aload_n E dX13_eatsBest_5 rfl rfl rfl ?_
  refine g_iload_n E dX13_eatsBest_6 rfl rfl rfl ?_
  have hM2 : pMq g1 (.ref mb) th tr wh tp fa ac mk [] := ⟨_, h1, hM_0, hM_1, hM_2, hM_3, hM_5, hM_6, hM_12, hM_15, hM_16, hM_17, hM_18, hM_19, hM_20, hM_26, hM_28, hM_29, trivial⟩
  have y3 := (hMb.fr  (fun j9 a9 b9 => f1 j9 (by omega)))
  have y4 := (hV.fr  (fun j9 a9 b9 => f1 j9 (by omega)))
  refine g_callV (k := 2000) (n9 := 1) (av := [.int (nI t)]) (st := []) E (ct_X13_setOf l t hw hM2 y3 y4 (by omega)) gciX13 dX13_eatsBest_7 h1 q2213 q2215 qs84 q135 q2216 (by decide +kernel) rfl rfl ⟨by decide, by decide⟩ ⟨by decide, by decide⟩ (Nat.le_of_ble_eq_true rfl) rfl (gPu.k ?_)
  refine g_istore E dX13_eatsBest_10 (by decide) rfl (lo1 := [some (.ref 2000), some (.int (nI t)), some (.int (nI k9)), some (.int dy), some (.int (zHas B R t)), none, none]) rfl rfl ?_
  obtain ⟨a9, ha9, ha8, ha7⟩ := zHas_N hw (R := R) (t := t)
  refine g_lo (lo1 := [some (.ref 2000), some (.int (nI t)), some (.int (nI k9)), some (.int dy), some (.int (nI a9)), none, none]) (by rw [ha9]) ?_
  refine g_iconst E (v := 0) dX13_eatsBest_12 (by decide) rfl ?_
  refine g_istore E dX13_eatsBest_13 (by decide) rfl (lo1 := [some (.ref 2000), some (.int (nI t)), some (.int (nI k9)), some (.int dy), some (.int (nI a9)), some (.int 0), none]) rfl rfl ?_
  refine g_iload E dX13_eatsBest_15 rfl rfl ?_
  refine g_iload E dX13_eatsBest_17 rfl rfl ?_
  refine g_icmp_gt E dX13_eatsBest_19 (tgt := 122) (by decide) rfl (fun c19 => ?_) (fun c19 => ?_)
  · have c19 := (nI_ltI (a := a9) (b := 0) (by omega) (by omega)).mp c19
    exact absurd c19 (by omega)
  · have c19 := mt (nI_ltI (a := a9) (b := 0) (by omega) (by omega)).mpr c19
    refine g_iload E dX13_eatsBest_22 rfl rfl ?_
    refine g_iload E dX13_eatsBest_24 rfl rfl ?_
    refine g_iconst E (v := (-1)) dX13_eatsBest_26 (by decide) rfl ?_
    refine g_ixor E dX13_eatsBest_27 rfl ?_
    refine g_iand E dX13_eatsBest_28 rfl ?_
    refine g_if_ne E dX13_eatsBest_29 (tgt := 116) (by decide) rfl (fun c29 => ?_) (fun c29 => ?_)
    · exact absurd z0_and c29
    · refine g_iload E dX13_eatsBest_32 rfl rfl ?_
      refine g_callS (n9 := 1) (av := [.int 0]) (st := []) E (ct_X13_bits l 0 (by omega)) dX13_eatsBest_34 q2349 q2350 q135 q2351 (by decide +kernel) rfl rfl ⟨by decide, by decide⟩ ⟨by decide, by decide⟩ (Nat.le_of_ble_eq_true rfl) rfl (gPu.k ?_)
      refine g_aload_n E dX13_eatsBest_37 rfl rfl rfl ?_
      refine g_getf E gciX13 dX13_eatsBest_38 h1 15 rfl (by decide) q1755 (.inl rfl) (.ref 2002) (hM_15) rfl ?_
      refine g_bipush E (v := 8) dX13_eatsBest_41 (by decide) rfl ?_
      refine g_iload_n E dX13_eatsBest_43 rfl rfl rfl ?_
      refine g_iadd E dX13_eatsBest_44 rfl ?_
      refine g_as (y := nI (8 + t)) (by rw [show (8 : Int32) = nI 8 from rfl, nI_add]) ?_
      have x5 := (f1 (2002) (by omega)).trans (hV_a)
      refine g_iald E dX13_eatsBest_45 (j := 8 + t) x5 (rfl) (by omega) (by decide) (v := R (8 + t)) (hV_r (8 + t) (by unfold zRel; omega)) rfl ?_
      refine g_icmp_le E dX13_eatsBest_46 (tgt := 52) (by decide) rfl (fun c46 => ?_) (fun c46 => ?_)
      · have hmay := zMay_0 (k := k9) (e := d + dy) hH ht
        refine g_aload_n E dX13_eatsBest_52 rfl rfl rfl ?_
        refine g_iconst E (v := 1) dX13_eatsBest_53 (by decide) rfl ?_
        refine g_iload_n E dX13_eatsBest_54 rfl rfl rfl ?_
        have x6 := (f1 (2003) (by omega)).trans (hX_a)
        refine g_callV (k := 2000) (n9 := 2) (av := [.int 1, .int dy]) (st := []) E (ct_X13_asks_Y l dy hw hM2 y4 (⟨_, x6⟩) hd6) gciX13 dX13_eatsBest_55 h1 q2233 q2235 qs87 q135 q2236 (by decide +kernel) rfl rfl ⟨by decide, by decide⟩ ⟨by decide, by decide⟩ (Nat.le_of_ble_eq_true rfl) rfl (gPi.k (fun g7 h7 => ?_))
        obtain ⟨hr7, f7⟩ := h7
        have hr7_o := hr7
        obtain ⟨hr7_f, hr7_a, hr7_r, hr7_d⟩ := hr7_o
        refine g_pop E dX13_eatsBest_58 rfl rfl ?_
        refine g_iconst E (v := 0) dX13_eatsBest_59 (by decide) rfl ?_
        refine g_istore E dX13_eatsBest_60 (by decide) rfl (lo1 := [some (.ref 2000), some (.int (nI t)), some (.int (nI k9)), some (.int dy), some (.int (nI a9)), some (.int 0), some (.int 0)]) rfl rfl ?_
        have lp62 : ∀ (r9 : Nat) (k : Nat) (gx : gWM), (k ≤ B 0 3) → (B 0 3 - k < r9) → (pMq gx (.ref mb) th tr wh tp fa ac mk [(22, -1)]) → (pRw gx 2003 B (zRk R 0 k) (d + dy)) → (∀ j, (j ≠ 2000 ∧ j ≠ 2003) → gx j = g j) → gV z gx 0 0 62 [some (.ref 2000), some (.int (nI t)), some (.int (nI k9)), some (.int dy), some (.int (nI a9)), some (.int 0), some (.int (nI k))] [] := by
          intro r9
          induction r9 with
          | zero => intro k gx hk2 hm hMx hXr hfx; exact absurd hm (Nat.not_lt_zero _)
          | succ r9 ih62 =>
            intro k gx hk2 hm hMx hXr hfx
            have hMx_o := hMx
            obtain ⟨hMx_F, hMx_a, hMx_0, hMx_1, hMx_2, hMx_3, hMx_5, hMx_6, hMx_12, hMx_15, hMx_16, hMx_17, hMx_18, hMx_19, hMx_20, hMx_26, hMx_28, hMx_29, hMx_22, -⟩ := hMx_o
            have hXr_o := hXr
            obtain ⟨hXr_f, hXr_a, hXr_r, hXr_d⟩ := hXr_o
            refine g_iload E dX13_eatsBest_62 rfl rfl ?_
            refine g_aload_n E dX13_eatsBest_64 rfl rfl rfl ?_
            refine g_getf E gciX13 dX13_eatsBest_65 hMx_a 3 rfl (by decide) q1743 (.inl rfl) (.ref mb) (hMx_3) rfl ?_
            have x8 := (hfx (mb) (by omega)).trans (hMb_a)
            refine g_getfN E gciX27 dX13_eatsBest_68 x8 5 rfl (by decide) q1862 (.inl rfl) (.int (nI (B 0 3))) (hMb_5) rfl ?_
            refine g_icmp_ge E dX13_eatsBest_71 (tgt := 100) (by decide) rfl (fun c71 => ?_) (fun c71 => ?_)
            · have c71 := (nI_leI (a := B 0 3) (b := k) (by omega) (by omega)).mp c71
              obtain rfl : k = B 0 3 := by omega
              have hXr_o := hXr
              obtain ⟨hXr_f, hXr_a, hXr_r, hXr_d⟩ := hXr_o
              refine g_aload_n E dX13_eatsBest_100 rfl rfl rfl ?_
              refine g_iload E dX13_eatsBest_101 rfl rfl ?_
              refine g_aload_n E dX13_eatsBest_103 rfl rfl rfl ?_
              refine g_aload_n E dX13_eatsBest_104 rfl rfl rfl ?_
              refine g_getf E gciX13 dX13_eatsBest_105 hMx_a 16 rfl (by decide) q1756 (.inl rfl) (.ref 2003) (hMx_16) rfl ?_
              refine g_iload_n E dX13_eatsBest_108 rfl rfl rfl ?_
              refine g_iload_n E dX13_eatsBest_109 rfl rfl rfl ?_
              have hM9 : pMq gx (.ref mb) th tr wh tp fa ac mk [] := ⟨_, hMx_a, hMx_0, hMx_1, hMx_2, hMx_3, hMx_5, hMx_6, hMx_12, hMx_15, hMx_16, hMx_17, hMx_18, hMx_19, hMx_20, hMx_26, hMx_28, hMx_29, trivial⟩
              have y10 := (hMb.fr  (fun j9 a9 b9 => hfx j9 (by omega)))
              refine g_callV (k := 2000) (n9 := 3) (av := [.ref 2003, .int (nI t), .int (nI k9)]) (st := [.int 0, .ref 2000]) E (ct_X13_askedIn l t k9 hw hM9 y10 hXr (by omega) (by omega)) gciX13 dX13_eatsBest_110 hMx_a q2289 q2291 qs95 q135 q2292 (by decide +kernel) rfl rfl ⟨by decide, by decide⟩ ⟨by decide, by decide⟩ (Nat.le_of_ble_eq_true rfl) rfl (gPu.k ?_)
              refine g_as (y := zChA true B R t k9 (d + dy) 0) (rfl) ?_
              have hM11 : pMq gx (.ref mb) th tr wh tp fa ac mk [(22, -1)] := ⟨_, hMx_a, hMx_0, hMx_1, hMx_2, hMx_3, hMx_5, hMx_6, hMx_12, hMx_15, hMx_16, hMx_17, hMx_18, hMx_19, hMx_20, hMx_26, hMx_28, hMx_29, hMx_22, trivial⟩
              refine g_callV (k := 2000) (n9 := 2) (av := [.int 0, .int (zChA true B R t k9 (d + dy) 0)]) (st := []) E (ct_X13_takesSet_0 l 0 (zChA true B R t k9 (d + dy) 0) hM11) gciX13 dX13_eatsBest_113 hMx_a q2352 q2354 qs101 q135 q2355 (by decide +kernel) rfl rfl ⟨by decide, by decide⟩ ⟨by decide, by decide⟩ (Nat.le_of_ble_eq_true rfl) rfl (gPn.k (fun g12 h12 => ?_))
              obtain ⟨hm12, f12⟩ := h12
              have hm12_o := hm12
              obtain ⟨hm12_F, hm12_a, hm12_0, hm12_1, hm12_2, hm12_3, hm12_5, hm12_6, hm12_12, hm12_15, hm12_16, hm12_17, hm12_18, hm12_19, hm12_20, hm12_26, hm12_28, hm12_29, hm12_22, hm12_23, -⟩ := hm12_o
              refine g_iinc E dX13_eatsBest_116 rfl (v := 1) (rfl) (by decide) rfl (lo1 := [some (.ref 2000), some (.int (nI t)), some (.int (nI k9)), some (.int dy), some (.int (nI a9)), some (.int 1), some (.int (nI (B 0 3)))]) rfl rfl ?_
              refine g_goto E dX13_eatsBest_119 (tgt := 15) (by decide) ?_
              have lp15 : ∀ (r9 : Nat) (s : Nat) (gw : gWM), (1 ≤ s) → (s ≤ a9 + 1) → (a9 + 1 - s < r9) → (pMq gw (.ref mb) th tr wh tp fa ac mk [(22, (zChs true B R t k9 (d + dy) s).2), (23, nI (zChs true B R t k9 (d + dy) s).1)]) → (pIx gw 2003 18) → (∀ j, (j ≠ 2000 ∧ j ≠ 2003) → gw j = g j) → gV z gw 0 0 15 [some (.ref 2000), some (.int (nI t)), some (.int (nI k9)), some (.int dy), some (.int (nI a9)), some (.int (nI s)), none] [] := by
                intro r9
                induction r9 with
                | zero => intro s gw h1s hk hm hMw hXw hfw; exact absurd hm (Nat.not_lt_zero _)
                | succ r9 ih15 =>
                  intro s gw h1s hk hm hMw hXw hfw
                  have hMw_o := hMw
                  obtain ⟨hMw_F, hMw_a, hMw_0, hMw_1, hMw_2, hMw_3, hMw_5, hMw_6, hMw_12, hMw_15, hMw_16, hMw_17, hMw_18, hMw_19, hMw_20, hMw_26, hMw_28, hMw_29, hMw_22, hMw_23, -⟩ := hMw_o
                  have hXw_o := hXw
                  obtain ⟨hXw_f, hXw_a⟩ := hXw_o
                  have hle := zChs_le (m := true) (B := B) (R := R) (t := t) (k := k9) (e := d + dy) s
                  refine g_iload E dX13_eatsBest_15 rfl rfl ?_
                  refine g_iload E dX13_eatsBest_17 rfl rfl ?_
                  refine g_icmp_gt E dX13_eatsBest_19 (tgt := 122) (by decide) rfl (fun c19 => ?_) (fun c19 => ?_)
                  · have c19 := (nI_ltI (a := a9) (b := s) (by omega) (by omega)).mp c19
                    obtain rfl : s = a9 + 1 := by omega
                    have htop := zChs_top (m := true) (k := k9) (e := d + dy) ha9 (2 ^ B 0 3) ha7 (by have := pow8 (n := B 0 3) (by omega); omega)
                    exact g_vret E Rt dX13_eatsBest_122 rfl (by decide) (by decide) (by rw [htop]; exact ⟨rfl, ⟨_, hMw_a, hMw_0, hMw_1, hMw_2, hMw_3, hMw_5, hMw_6, hMw_12, hMw_15, hMw_16, hMw_17, hMw_18, hMw_19, hMw_20, hMw_26, hMw_28, hMw_29, hMw_22, hMw_23, trivial⟩, ⟨_, hXw_a⟩, fun j9 h9 => hfw j9 (by omega)⟩)
                  · have c19 := mt (nI_ltI (a := a9) (b := s) (by omega) (by omega)).mpr c19
                    refine g_iload E dX13_eatsBest_22 rfl rfl ?_
                    refine g_iload E dX13_eatsBest_24 rfl rfl ?_
                    refine g_iconst E (v := (-1)) dX13_eatsBest_26 (by decide) rfl ?_
                    refine g_ixor E dX13_eatsBest_27 rfl ?_
                    refine g_iand E dX13_eatsBest_28 rfl ?_
                    refine g_if_ne E dX13_eatsBest_29 (tgt := 116) (by decide) rfl (fun c29 => ?_) (fun c29 => ?_)
                    · have c29 : ¬ nI s &&& (zHas B R t ^^^ (-1)) = 0 := by rw [ha9]; exact c29
                      refine g_iinc E dX13_eatsBest_116 rfl (v := nI (s + 1)) (nI_c _) (by decide) rfl (lo1 := [some (.ref 2000), some (.int (nI t)), some (.int (nI k9)), some (.int dy), some (.int (nI a9)), some (.int (nI (s + 1))), none]) rfl rfl ?_
                      refine g_goto E dX13_eatsBest_119 (tgt := 15) (by decide) ?_
                      exact ih15 (s + 1) gw (by omega) (by omega) (by omega) (by rw [zTks_1 c29]; exact ⟨_, hMw_a, hMw_0, hMw_1, hMw_2, hMw_3, hMw_5, hMw_6, hMw_12, hMw_15, hMw_16, hMw_17, hMw_18, hMw_19, hMw_20, hMw_26, hMw_28, hMw_29, hMw_22, hMw_23, trivial⟩) (⟨_, hXw_a⟩) (fun j9 h9 => hfw j9 (by omega))
                    · have c29 : nI s &&& (zHas B R t ^^^ (-1)) = 0 := by rw [ha9]; exact c29
                      refine g_iload E dX13_eatsBest_32 rfl rfl ?_
                      refine g_callS (n9 := 1) (av := [.int (nI s)]) (st := []) E (ct_X13_bits l s (by omega)) dX13_eatsBest_34 q2349 q2350 q135 q2351 (by decide +kernel) rfl rfl ⟨by decide, by decide⟩ ⟨by decide, by decide⟩ (Nat.le_of_ble_eq_true rfl) rfl (gPu.k ?_)
                      refine g_aload_n E dX13_eatsBest_37 rfl rfl rfl ?_
                      refine g_getf E gciX13 dX13_eatsBest_38 hMw_a 15 rfl (by decide) q1755 (.inl rfl) (.ref 2002) (hMw_15) rfl ?_
                      refine g_bipush E (v := 8) dX13_eatsBest_41 (by decide) rfl ?_
                      refine g_iload_n E dX13_eatsBest_43 rfl rfl rfl ?_
                      refine g_iadd E dX13_eatsBest_44 rfl ?_
                      refine g_as (y := nI (8 + t)) (by rw [show (8 : Int32) = nI 8 from rfl, nI_add]) ?_
                      have x13 := (hfw (2002) (by omega)).trans (hV_a)
                      refine g_iald E dX13_eatsBest_45 (j := 8 + t) x13 (rfl) (by omega) (by decide) (v := R (8 + t)) (hV_r (8 + t) (by unfold zRel; omega)) rfl ?_
                      refine g_icmp_le E dX13_eatsBest_46 (tgt := 52) (by decide) rfl (fun c46 => ?_) (fun c46 => ?_)
                      · have hmay : zMay true B R t k9 (d + dy) s = true := by simp [zMay, Int32.not_lt.mpr c46]
                        refine g_aload_n E dX13_eatsBest_52 rfl rfl rfl ?_
                        refine g_iconst E (v := 1) dX13_eatsBest_53 (by decide) rfl ?_
                        refine g_iload_n E dX13_eatsBest_54 rfl rfl rfl ?_
                        have hM14 : pMq gw (.ref mb) th tr wh tp fa ac mk [] := ⟨_, hMw_a, hMw_0, hMw_1, hMw_2, hMw_3, hMw_5, hMw_6, hMw_12, hMw_15, hMw_16, hMw_17, hMw_18, hMw_19, hMw_20, hMw_26, hMw_28, hMw_29, trivial⟩
                        have y15 := (hV.fr  (fun j9 a9 b9 => hfw j9 (by omega)))
                        refine g_callV (k := 2000) (n9 := 2) (av := [.int 1, .int dy]) (st := []) E (ct_X13_asks_Y l dy hw hM14 y15 (⟨_, hXw_a⟩) hd6) gciX13 dX13_eatsBest_55 hMw_a q2233 q2235 qs87 q135 q2236 (by decide +kernel) rfl rfl ⟨by decide, by decide⟩ ⟨by decide, by decide⟩ (Nat.le_of_ble_eq_true rfl) rfl (gPi.k (fun g16 h16 => ?_))
                        obtain ⟨hr16, f16⟩ := h16
                        have hr16_o := hr16
                        obtain ⟨hr16_f, hr16_a, hr16_r, hr16_d⟩ := hr16_o
                        refine g_pop E dX13_eatsBest_58 rfl rfl ?_
                        refine g_iconst E (v := 0) dX13_eatsBest_59 (by decide) rfl ?_
                        refine g_istore E dX13_eatsBest_60 (by decide) rfl (lo1 := [some (.ref 2000), some (.int (nI t)), some (.int (nI k9)), some (.int dy), some (.int (nI a9)), some (.int (nI s)), some (.int 0)]) rfl rfl ?_
                        have lp62 : ∀ (r9 : Nat) (k : Nat) (gx : gWM), (k ≤ B 0 3) → (B 0 3 - k < r9) → (pMq gx (.ref mb) th tr wh tp fa ac mk [(22, (zChs true B R t k9 (d + dy) s).2), (23, nI (zChs true B R t k9 (d + dy) s).1)]) → (pRw gx 2003 B (zRk R s k) (d + dy)) → (∀ j, (j ≠ 2000 ∧ j ≠ 2003) → gx j = g j) → gV z gx 0 0 62 [some (.ref 2000), some (.int (nI t)), some (.int (nI k9)), some (.int dy), some (.int (nI a9)), some (.int (nI s)), some (.int (nI k))] [] := by
                          intro r9
                          induction r9 with
                          | zero => intro k gx hk2 hm hMx hXr hfx; exact absurd hm (Nat.not_lt_zero _)
                          | succ r9 ih62 =>
                            intro k gx hk2 hm hMx hXr hfx
                            have hMx_o := hMx
                            obtain ⟨hMx_F, hMx_a, hMx_0, hMx_1, hMx_2, hMx_3, hMx_5, hMx_6, hMx_12, hMx_15, hMx_16, hMx_17, hMx_18, hMx_19, hMx_20, hMx_26, hMx_28, hMx_29, hMx_22, hMx_23, -⟩ := hMx_o
                            have hXr_o := hXr
                            obtain ⟨hXr_f, hXr_a, hXr_r, hXr_d⟩ := hXr_o
                            refine g_iload E dX13_eatsBest_62 rfl rfl ?_
                            refine g_aload_n E dX13_eatsBest_64 rfl rfl rfl ?_
                            refine g_getf E gciX13 dX13_eatsBest_65 hMx_a 3 rfl (by decide) q1743 (.inl rfl) (.ref mb) (hMx_3) rfl ?_
                            have x17 := (hfx (mb) (by omega)).trans (hMb_a)
                            refine g_getfN E gciX27 dX13_eatsBest_68 x17 5 rfl (by decide) q1862 (.inl rfl) (.int (nI (B 0 3))) (hMb_5) rfl ?_
                            refine g_icmp_ge E dX13_eatsBest_71 (tgt := 100) (by decide) rfl (fun c71 => ?_) (fun c71 => ?_)
                            · have c71 := (nI_leI (a := B 0 3) (b := k) (by omega) (by omega)).mp c71
                              obtain rfl : k = B 0 3 := by omega
                              have hXr_o := hXr
                              obtain ⟨hXr_f, hXr_a, hXr_r, hXr_d⟩ := hXr_o
                              refine g_aload_n E dX13_eatsBest_100 rfl rfl rfl ?_
                              refine g_iload E dX13_eatsBest_101 rfl rfl ?_
                              refine g_aload_n E dX13_eatsBest_103 rfl rfl rfl ?_
                              refine g_aload_n E dX13_eatsBest_104 rfl rfl rfl ?_
                              refine g_getf E gciX13 dX13_eatsBest_105 hMx_a 16 rfl (by decide) q1756 (.inl rfl) (.ref 2003) (hMx_16) rfl ?_
                              refine g_iload_n E dX13_eatsBest_108 rfl rfl rfl ?_
                              refine g_iload_n E dX13_eatsBest_109 rfl rfl rfl ?_
                              have hM18 : pMq gx (.ref mb) th tr wh tp fa ac mk [] := ⟨_, hMx_a, hMx_0, hMx_1, hMx_2, hMx_3, hMx_5, hMx_6, hMx_12, hMx_15, hMx_16, hMx_17, hMx_18, hMx_19, hMx_20, hMx_26, hMx_28, hMx_29, trivial⟩
                              have y19 := (hMb.fr  (fun j9 a9 b9 => hfx j9 (by omega)))
                              refine g_callV (k := 2000) (n9 := 3) (av := [.ref 2003, .int (nI t), .int (nI k9)]) (st := [.int (nI s), .ref 2000]) E (ct_X13_askedIn l t k9 hw hM18 y19 hXr (by omega) (by omega)) gciX13 dX13_eatsBest_110 hMx_a q2289 q2291 qs95 q135 q2292 (by decide +kernel) rfl rfl ⟨by decide, by decide⟩ ⟨by decide, by decide⟩ (Nat.le_of_ble_eq_true rfl) rfl (gPu.k ?_)
                              refine g_as (y := zChA true B R t k9 (d + dy) s) (rfl) ?_
                              have hM20 : pMq gx (.ref mb) th tr wh tp fa ac mk [(22, (zChs true B R t k9 (d + dy) s).2), (23, nI (zChs true B R t k9 (d + dy) s).1)] := ⟨_, hMx_a, hMx_0, hMx_1, hMx_2, hMx_3, hMx_5, hMx_6, hMx_12, hMx_15, hMx_16, hMx_17, hMx_18, hMx_19, hMx_20, hMx_26, hMx_28, hMx_29, hMx_22, hMx_23, trivial⟩
                              refine g_callV (k := 2000) (n9 := 2) (av := [.int (nI s), .int (zChA true B R t k9 (d + dy) s)]) (st := []) E (ct_X13_takesSet l s ((zChs true B R t k9 (d + dy) s).1) (zChA true B R t k9 (d + dy) s) ((zChs true B R t k9 (d + dy) s).2) hM20 (by omega) (by omega)) gciX13 dX13_eatsBest_113 hMx_a q2352 q2354 qs101 q135 q2355 (by decide +kernel) rfl rfl ⟨by decide, by decide⟩ ⟨by decide, by decide⟩ (Nat.le_of_ble_eq_true rfl) rfl (gPn.k (fun g21 h21 => ?_))
                              obtain ⟨hm21, f21⟩ := h21
                              have hm21_o := hm21
                              obtain ⟨hm21_F, hm21_a, hm21_0, hm21_1, hm21_2, hm21_3, hm21_5, hm21_6, hm21_12, hm21_15, hm21_16, hm21_17, hm21_18, hm21_19, hm21_20, hm21_26, hm21_28, hm21_29, hm21_22, hm21_23, -⟩ := hm21_o
                              refine g_iinc E dX13_eatsBest_116 rfl (v := nI (s + 1)) (nI_c _) (by decide) rfl (lo1 := [some (.ref 2000), some (.int (nI t)), some (.int (nI k9)), some (.int dy), some (.int (nI a9)), some (.int (nI (s + 1))), some (.int (nI (B 0 3)))]) rfl rfl ?_
                              refine g_goto E dX13_eatsBest_119 (tgt := 15) (by decide) ?_
                              have x22 := (f21 (2003) (by omega)).trans (hXr_a)
                              exact g_les (lo1 := [some (.ref 2000), some (.int (nI t)), some (.int (nI k9)), some (.int dy), some (.int (nI a9)), some (.int (nI (s + 1))), none]) (⟨rfl, rfl, rfl, rfl, rfl, rfl, trivial⟩) (ih15 (s + 1) g21 (by omega) (by omega) (by omega) (by rw [zTks_t c29 hmay]; exact ⟨_, hm21_a, hm21_0, hm21_1, hm21_2, hm21_3, hm21_5, hm21_6, hm21_12, hm21_15, hm21_16, hm21_17, hm21_18, hm21_19, hm21_20, hm21_26, hm21_28, hm21_29, hm21_22, hm21_23, trivial⟩) (⟨_, x22⟩) (fun j9 h9 => (f21 j9 (by omega)).trans (hfx j9 (by omega))))
                            · have c71 := mt (nI_leI (a := B 0 3) (b := k) (by omega) (by omega)).mpr c71
                              refine g_iload E dX13_eatsBest_74 rfl rfl ?_
                              refine g_iload E dX13_eatsBest_76 rfl rfl ?_
                              refine g_callS (n9 := 2) (av := [.int (nI s), .int (nI k)]) (st := []) E (ct_X13_bit l (nI s) k) dX13_eatsBest_78 q2150 q2151 q135 q2152 (by decide +kernel) rfl rfl ⟨by decide, by decide⟩ ⟨by decide, by decide⟩ (Nat.le_of_ble_eq_true rfl) rfl (gPu.k ?_)
                              refine g_if_eq E dX13_eatsBest_81 (tgt := 94) (by decide) rfl (fun c81 => ?_) (fun c81 => ?_)
                              · have c81 := zb_0.mp c81
                                refine g_iinc E dX13_eatsBest_94 rfl (v := nI (k + 1)) (nI_c _) (by decide) rfl (lo1 := [some (.ref 2000), some (.int (nI t)), some (.int (nI k9)), some (.int dy), some (.int (nI a9)), some (.int (nI s)), some (.int (nI (k + 1)))]) rfl rfl ?_
                                refine g_goto E dX13_eatsBest_97 (tgt := 62) (by decide) ?_
                                exact ih62 (k + 1) gx (by omega) (by omega) (⟨_, hMx_a, hMx_0, hMx_1, hMx_2, hMx_3, hMx_5, hMx_6, hMx_12, hMx_15, hMx_16, hMx_17, hMx_18, hMx_19, hMx_20, hMx_26, hMx_28, hMx_29, hMx_22, hMx_23, trivial⟩) (by rw [zRk_f c81]; exact hXr) (fun j9 h9 => hfx j9 (by omega))
                              · have c81 := zb_n0.mp c81
                                refine g_aload_n E dX13_eatsBest_84 rfl rfl rfl ?_
                                refine g_getf E gciX13 dX13_eatsBest_85 hMx_a 16 rfl (by decide) q1756 (.inl rfl) (.ref 2003) (hMx_16) rfl ?_
                                refine g_iconst E (v := 0) dX13_eatsBest_88 (by decide) rfl ?_
                                refine g_iload E dX13_eatsBest_89 rfl rfl ?_
                                refine g_iadd E dX13_eatsBest_91 rfl ?_
                                refine g_as (y := nI k) (Int32.zero_add _) ?_
                                refine g_iconst E (v := 1) dX13_eatsBest_92 (by decide) rfl ?_
                                refine g_iast E dX13_eatsBest_93 (j := k) hXr_a (rfl) (by omega) (by decide) rfl (g_upk (fun g23 h23 f23 => ?_))
                                refine g_iinc E dX13_eatsBest_94 rfl (v := nI (k + 1)) (nI_c _) (by decide) rfl (lo1 := [some (.ref 2000), some (.int (nI t)), some (.int (nI k9)), some (.int dy), some (.int (nI a9)), some (.int (nI s)), some (.int (nI (k + 1)))]) rfl rfl ?_
                                refine g_goto E dX13_eatsBest_97 (tgt := 62) (by decide) ?_
                                have x24 := (f23 (2000) (by omega)).trans (hMx_a)
                                exact ih62 (k + 1) g23 (by omega) (by omega) (⟨_, x24, hMx_0, hMx_1, hMx_2, hMx_3, hMx_5, hMx_6, hMx_12, hMx_15, hMx_16, hMx_17, hMx_18, hMx_19, hMx_20, hMx_26, hMx_28, hMx_29, hMx_22, hMx_23, trivial⟩) (by rw [zRk_t c81]; exact ⟨_, h23, updR ⟨hXr_r, hXr_d⟩ (by omega)⟩) (fun j9 h9 => (f23 j9 (by omega)).trans (hfx j9 (by omega)))
                        have x25 := (f16 (2000) (by omega)).trans (hMw_a)
                        exact lp62 (B 0 3 + 1) 0 g16 (Nat.zero_le _) (by omega) (⟨_, x25, hMw_0, hMw_1, hMw_2, hMw_3, hMw_5, hMw_6, hMw_12, hMw_15, hMw_16, hMw_17, hMw_18, hMw_19, hMw_20, hMw_26, hMw_28, hMw_29, hMw_22, hMw_23, trivial⟩) (by rw [zRk_0]; exact hr16) (fun j9 h9 => (f16 j9 (by omega)).trans (hfw j9 (by omega)))
                      · have hmay : zMay true B R t k9 (d + dy) s = false := by simp [zMay, Int32.not_le.mp c46]
                        refine g_goto E dX13_eatsBest_49 (tgt := 116) (by decide) ?_
                        refine g_iinc E dX13_eatsBest_116 rfl (v := nI (s + 1)) (nI_c _) (by decide) rfl (lo1 := [some (.ref 2000), some (.int (nI t)), some (.int (nI k9)), some (.int dy), some (.int (nI a9)), some (.int (nI (s + 1))), none]) rfl rfl ?_
                        refine g_goto E dX13_eatsBest_119 (tgt := 15) (by decide) ?_
                        exact ih15 (s + 1) gw (by omega) (by omega) (by omega) (by rw [zTks_2 c29 hmay]; exact ⟨_, hMw_a, hMw_0, hMw_1, hMw_2, hMw_3, hMw_5, hMw_6, hMw_12, hMw_15, hMw_16, hMw_17, hMw_18, hMw_19, hMw_20, hMw_26, hMw_28, hMw_29, hMw_22, hMw_23, trivial⟩) (⟨_, hXw_a⟩) (fun j9 h9 => hfw j9 (by omega))
              have x26 := (f12 (2003) (by omega)).trans (hXr_a)
              exact g_les (lo1 := [some (.ref 2000), some (.int (nI t)), some (.int (nI k9)), some (.int dy), some (.int (nI a9)), some (.int 1), none]) (⟨rfl, rfl, rfl, rfl, rfl, rfl, trivial⟩) (lp15 (a9 + 2) 1 g12 (Nat.le_refl _) (by omega) (by omega) (by rw [zChs_1 hmay]; exact ⟨_, hm12_a, hm12_0, hm12_1, hm12_2, hm12_3, hm12_5, hm12_6, hm12_12, hm12_15, hm12_16, hm12_17, hm12_18, hm12_19, hm12_20, hm12_26, hm12_28, hm12_29, hm12_22, hm12_23, trivial⟩) (⟨_, x26⟩) (fun j9 h9 => (f12 j9 (by omega)).trans (hfx j9 (by omega))))
            · have c71 := mt (nI_leI (a := B 0 3) (b := k) (by omega) (by omega)).mpr c71
              refine g_iload E dX13_eatsBest_74 rfl rfl ?_
              refine g_iload E dX13_eatsBest_76 rfl rfl ?_
              refine g_callS (n9 := 2) (av := [.int 0, .int (nI k)]) (st := []) E (ct_X13_bit l 0 k) dX13_eatsBest_78 q2150 q2151 q135 q2152 (by decide +kernel) rfl rfl ⟨by decide, by decide⟩ ⟨by decide, by decide⟩ (Nat.le_of_ble_eq_true rfl) rfl (gPu.k ?_)
              refine g_if_eq E dX13_eatsBest_81 (tgt := 94) (by decide) rfl (fun c81 => ?_) (fun c81 => ?_)
              · have c81 := zb_0.mp c81
                refine g_iinc E dX13_eatsBest_94 rfl (v := nI (k + 1)) (nI_c _) (by decide) rfl (lo1 := [some (.ref 2000), some (.int (nI t)), some (.int (nI k9)), some (.int dy), some (.int (nI a9)), some (.int 0), some (.int (nI (k + 1)))]) rfl rfl ?_
                refine g_goto E dX13_eatsBest_97 (tgt := 62) (by decide) ?_
                exact ih62 (k + 1) gx (by omega) (by omega) (⟨_, hMx_a, hMx_0, hMx_1, hMx_2, hMx_3, hMx_5, hMx_6, hMx_12, hMx_15, hMx_16, hMx_17, hMx_18, hMx_19, hMx_20, hMx_26, hMx_28, hMx_29, hMx_22, trivial⟩) (by rw [zRk_f c81]; exact hXr) (fun j9 h9 => hfx j9 (by omega))
              · have c81 := zb_n0.mp c81
                refine g_aload_n E dX13_eatsBest_84 rfl rfl rfl ?_
                refine g_getf E gciX13 dX13_eatsBest_85 hMx_a 16 rfl (by decide) q1756 (.inl rfl) (.ref 2003) (hMx_16) rfl ?_
                refine g_iconst E (v := 0) dX13_eatsBest_88 (by decide) rfl ?_
                refine g_iload E dX13_eatsBest_89 rfl rfl ?_
                refine g_iadd E dX13_eatsBest_91 rfl ?_
                refine g_as (y := nI k) (Int32.zero_add _) ?_
                refine g_iconst E (v := 1) dX13_eatsBest_92 (by decide) rfl ?_
                refine g_iast E dX13_eatsBest_93 (j := k) hXr_a (rfl) (by omega) (by decide) rfl (g_upk (fun g27 h27 f27 => ?_))
                refine g_iinc E dX13_eatsBest_94 rfl (v := nI (k + 1)) (nI_c _) (by decide) rfl (lo1 := [some (.ref 2000), some (.int (nI t)), some (.int (nI k9)), some (.int dy), some (.int (nI a9)), some (.int 0), some (.int (nI (k + 1)))]) rfl rfl ?_
                refine g_goto E dX13_eatsBest_97 (tgt := 62) (by decide) ?_
                have x28 := (f27 (2000) (by omega)).trans (hMx_a)
                exact ih62 (k + 1) g27 (by omega) (by omega) (⟨_, x28, hMx_0, hMx_1, hMx_2, hMx_3, hMx_5, hMx_6, hMx_12, hMx_15, hMx_16, hMx_17, hMx_18, hMx_19, hMx_20, hMx_26, hMx_28, hMx_29, hMx_22, trivial⟩) (by rw [zRk_t c81]; exact ⟨_, h27, updR ⟨hXr_r, hXr_d⟩ (by omega)⟩) (fun j9 h9 => (f27 j9 (by omega)).trans (hfx j9 (by omega)))
        have x29 := (f7 (2000) (by omega)).trans (h1)
        exact lp62 (B 0 3 + 1) 0 g7 (Nat.zero_le _) (by omega) (⟨_, x29, hM_0, hM_1, hM_2, hM_3, hM_5, hM_6, hM_12, hM_15, hM_16, hM_17, hM_18, hM_19, hM_20, hM_26, hM_28, hM_29, rfl, trivial⟩) (by rw [zRk_0]; exact hr7) (fun j9 h9 => (f7 j9 (by omega)).trans (f1 j9 (by omega)))
      · obtain ⟨h8, h7, h6⟩ := hH t ht
        exact absurd (by rw [h6]; exact nI_pos' (by omega)) c46
set_option maxHeartbeats 2000000 in
theorem ct_X13_hidesBest (l : Launch) {g : gWM} {mb : Nat} {B : gBar} {R : Nat → Int32} {d : Int32} {th tr wh fa : Int32} {tp ac mk : Nat} (t k9 : Nat) (dy : Int32) (hw : wfB B) (hM : pMq g (.ref mb) th tr wh tp fa ac mk []) (hMb : pMb g mb B) (hV : pRw g 2002 B R d) (hX : pIx g 2003 18) (h9 : 10000 ≤ mb) (ht : t < B 0 1) (hk9 : k9 < B 0 2) (hd6 : zIn dy 0 60 = true) : gCt l yX13_hidesBest cX13_hidesBest 6 none 6 0 0 141 [.ref 2000, .int (nI t), .int (nI k9), .int dy] g (gPn (fun g1 => pMq g1 (.ref mb) th tr wh tp fa ac mk [(22, (zChs false B R t k9 (d + dy) (2 ^ B 0 3)).2), (23, nI (zChs false B R t k9 (d + dy) (2 ^ B 0 3)).1)] ∧ pIx g1 2003 18 ∧ ∀ j, (j ≠ 2000 ∧ j ≠ 2003) → g1 j = g j)) := by
  refine gCt.of RX13 (by decide) rfl (lo := [some (.ref 2000), some (.int (nI t)), some (.int (nI k9)), some (.int dy), none, none]) 2 rfl (Nat.le_of_ble_eq_true rfl) (fun z E Rt => ?_)
  have hw_n := hw.1
  have hM_o := hM
  obtain ⟨hM_F, hM_a, hM_0, hM_1, hM_2, hM_3, hM_5, hM_6, hM_12, hM_15, hM_16, hM_17, hM_18, hM_19, hM_20, hM_26, hM_28, hM_29, -⟩ := hM_o
  have hMb_o := hMb
  obtain ⟨⟨hMb_F, hMb_a, hMb_0, hMb_1, hMb_2, hMb_3, hMb_4, hMb_5, hMb_6, hMb_7, hMb_8, hMb_9, hMb_11, hMb_12, hMb_13, hMb_14, hMb_15, hMb_16, hMb_17, hMb_18, hMb_19, hMb_20, hMb_21, hMb_22, hMb_23, hMb_24, hMb_25, hMb_26, hMb_27, hMb_28, hMb_29, hMb_30, hMb_31⟩, ⟨hMb_f1, hMb_a1, hMb_b1⟩, ⟨hMb_f2, hMb_a2, hMb_b2⟩, ⟨hMb_f3, hMb_a3, hMb_b3⟩, ⟨hMb_f4, hMb_a4, hMb_b4⟩, ⟨hMb_f5, hMb_a5, hMb_b5⟩, ⟨hMb_f6, hMb_a6, hMb_b6⟩, ⟨hMb_f7, hMb_a7, hMb_b7⟩, ⟨hMb_f8, hMb_a8, hMb_b8⟩, ⟨hMb_f9, hMb_a9, hMb_b9⟩, ⟨hMb_f10, hMb_a10, hMb_b10⟩, ⟨hMb_f11, hMb_a11, hMb_b11⟩, ⟨hMb_f12, hMb_a12, hMb_b12⟩, ⟨hMb_f13, hMb_a13, hMb_b13⟩, ⟨hMb_f14, hMb_a14, hMb_b14⟩, ⟨hMb_f15, hMb_a15, hMb_b15⟩, ⟨hMb_f16, hMb_a16, hMb_b16⟩, ⟨hMb_f17, hMb_a17, hMb_b17⟩, ⟨hMb_f18, hMb_a18, hMb_b18⟩, ⟨hMb_f19, hMb_a19, hMb_b19⟩, ⟨hMb_f20, hMb_a20, hMb_b20⟩, ⟨hMb_f21, hMb_a21, hMb_b21⟩⟩ := hMb_o
  have hV_o := hV
  obtain ⟨hV_f, hV_a, hV_r, hV_d⟩ := hV_o
  have hX_o := hX
  obtain ⟨hX_f, hX_a⟩ := hX_o
  refine g_aload_n E dX13_hidesBest_0 rfl rfl rfl ?_
  refine g_iconst E (v := (-1)) dX13_hidesBest_1 (by decide) rfl ?_
  refine g_putf E gciX13 (v := .int (-1)) dX13_hidesBest_2 hM_a 22 rfl (by decide) q1762 (.inl rfl) rfl (fun _ => rfl) (fun _ => rfl) rfl (g_upk (fun g1 h1 f1 => ?_))
  refine g_aload_n E dX13_hidesBest_5 rfl rfl rfl ?_
  refine g_iload_n E dX13_hidesBest_6 rfl rfl rfl ?_
  have hM2 : pMq g1 (.ref mb) th tr wh tp fa ac mk [] := ⟨_, h1, hM_0, hM_1, hM_2, hM_3, hM_5, hM_6, hM_12, hM_15, hM_16, hM_17, hM_18, hM_19, hM_20, hM_26, hM_28, hM_29, trivial⟩
  have y3 := (hMb.fr  (fun j9 a9 b9 => f1 j9 (by omega)))
  have y4 := (hV.fr  (fun j9 a9 b9 => f1 j9 (by omega)))
  refine g_callV (k := 2000) (n9 := 1) (av := [.int (nI t)]) (st := []) E (ct_X13_setOf l t hw hM2 y3 y4 (by omega)) gciX13 dX13_hidesBest_7 h1 q2213 q2215 qs84 q135 q2216 (by decide +kernel) rfl rfl ⟨by decide, by decide⟩ ⟨by decide, by decide⟩ (Nat.le_of_ble_eq_true rfl) rfl (gPu.k ?_)
  refine g_istore E dX13_hidesBest_10 (by decide) rfl (lo1 := [some (.ref 2000), some (.int (nI t)), some (.int (nI k9)), some (.int dy), some (.int (zHas B R t)), none]) rfl rfl ?_
  obtain ⟨a9, ha9, ha8, ha7⟩ := zHas_N hw (R := R) (t := t)
  refine g_lo (lo1 := [some (.ref 2000), some (.int (nI t)), some (.int (nI k9)), some (.int dy), some (.int (nI a9)), none]) (by rw [ha9]) ?_
  refine g_iconst E (v := 0) dX13_hidesBest_12 (by decide) rfl ?_
  refine g_istore E dX13_hidesBest_13 (by decide) rfl (lo1 := [some (.ref 2000), some (.int (nI t)), some (.int (nI k9)), some (.int dy), some (.int (nI a9)), some (.int 0)]) rfl rfl ?_
  refine g_iload E dX13_hidesBest_15 rfl rfl ?_
  refine g_iload E dX13_hidesBest_17 rfl rfl ?_
  refine g_icmp_gt E dX13_hidesBest_19 (tgt := 87) (by decide) rfl (fun c19 => ?_) (fun c19 => ?_)
  · have c19 := (nI_ltI (a := a9) (b := 0) (by omega) (by omega)).mp c19
    exact absurd c19 (by omega)
  · have c19 := mt (nI_ltI (a := a9) (b := 0) (by omega) (by omega)).mpr c19
    refine g_iload E dX13_hidesBest_22 rfl rfl ?_
    refine g_iload E dX13_hidesBest_24 rfl rfl ?_
    refine g_iconst E (v := (-1)) dX13_hidesBest_26 (by decide) rfl ?_
    refine g_ixor E dX13_hidesBest_27 rfl ?_
    refine g_iand E dX13_hidesBest_28 rfl ?_
    refine g_if_eq E dX13_hidesBest_29 (tgt := 35) (by decide) rfl (fun c29 => ?_) (fun c29 => ?_)
    · refine g_aload_n E dX13_hidesBest_35 rfl rfl rfl ?_
      refine g_iconst E (v := 1) dX13_hidesBest_36 (by decide) rfl ?_
      refine g_iload_n E dX13_hidesBest_37 rfl rfl rfl ?_
      have x5 := (f1 (2003) (by omega)).trans (hX_a)
      refine g_callV (k := 2000) (n9 := 2) (av := [.int 1, .int dy]) (st := []) E (ct_X13_asks_Y l dy hw hM2 y4 (⟨_, x5⟩) hd6) gciX13 dX13_hidesBest_38 h1 q2233 q2235 qs87 q135 q2236 (by decide +kernel) rfl rfl ⟨by decide, by decide⟩ ⟨by decide, by decide⟩ (Nat.le_of_ble_eq_true rfl) rfl (gPi.k (fun g6 h6 => ?_))
      obtain ⟨hr6, f6⟩ := h6
      have hr6_o := hr6
      obtain ⟨hr6_f, hr6_a, hr6_r, hr6_d⟩ := hr6_o
      refine g_pop E dX13_hidesBest_41 rfl rfl ?_
      refine g_aload_n E dX13_hidesBest_42 rfl rfl rfl ?_
      have x7 := (f6 (2000) (by omega)).trans (h1)
      refine g_getf E gciX13 dX13_hidesBest_43 x7 16 rfl (by decide) q1756 (.inl rfl) (.ref 2003) (hM_16) rfl ?_
      refine g_bipush E (v := 16) dX13_hidesBest_46 (by decide) rfl ?_
      refine g_iload E dX13_hidesBest_48 rfl rfl ?_
      refine g_iast E dX13_hidesBest_50 (j := 16) hr6_a (rfl) (by omega) (by decide) rfl (g_upk (fun g8 h8 f8 => ?_))
      have hx9 : pRw g8 2003 B (upd R 16 (nI 0)) (d + dy) := ⟨_, h8, updR ⟨hr6_r, hr6_d⟩ (by decide)⟩
      have hx9_o := hx9
      obtain ⟨hx9_f, hx9_a, hx9_r, hx9_d⟩ := hx9_o
      refine g_aload_n E dX13_hidesBest_51 rfl rfl rfl ?_
      refine g_aload_n E dX13_hidesBest_52 rfl rfl rfl ?_
      have x10 := (f8 (2000) (by omega)).trans (x7)
      refine g_getf E gciX13 dX13_hidesBest_53 x10 16 rfl (by decide) q1756 (.inl rfl) (.ref 2003) (hM_16) rfl ?_
      refine g_iload_n E dX13_hidesBest_56 rfl rfl rfl ?_
      refine g_iload_n E dX13_hidesBest_57 rfl rfl rfl ?_
      refine g_iconst E (v := 0) dX13_hidesBest_58 (by decide) rfl ?_
      have hM11 : pMq g8 (.ref mb) th tr wh tp fa ac mk [] := ⟨_, x10, hM_0, hM_1, hM_2, hM_3, hM_5, hM_6, hM_12, hM_15, hM_16, hM_17, hM_18, hM_19, hM_20, hM_26, hM_28, hM_29, trivial⟩
      have y12 := ((y3.fr  (fun j9 a9 b9 => f6 j9 (by omega))).fr  (fun j9 a9 b9 => f8 j9 (by omega)))
      refine g_callV (k := 2000) (n9 := 4) (av := [.ref 2003, .int (nI t), .int (nI k9), .int 0]) (st := []) E (ct_X13_foundIn l t k9 0 hw hM11 y12 hx9 (by omega) (by omega)) gciX13 dX13_hidesBest_59 x10 q2293 q2295 qs96 q135 q2296 (by decide +kernel) rfl rfl ⟨by decide, by decide⟩ ⟨by decide, by decide⟩ (Nat.le_of_ble_eq_true rfl) rfl (gPu.k ?_)
      refine g_if_ne E dX13_hidesBest_62 (tgt := 81) (by decide) rfl (fun c62 => ?_) (fun c62 => ?_)
      · exact absurd (zFou_z hw) c62
      · have hmay : zMay false B R t k9 (d + dy) 0 = true := by unfold zMay; rw [if_neg (by decide), ← hid_fou hw]; exact decide_eq_true c62
        refine g_aload_n E dX13_hidesBest_65 rfl rfl rfl ?_
        refine g_iload E dX13_hidesBest_66 rfl rfl ?_
        refine g_aload_n E dX13_hidesBest_68 rfl rfl rfl ?_
        refine g_aload_n E dX13_hidesBest_69 rfl rfl rfl ?_
        refine g_getf E gciX13 dX13_hidesBest_70 x10 16 rfl (by decide) q1756 (.inl rfl) (.ref 2003) (hM_16) rfl ?_
        refine g_iload_n E dX13_hidesBest_73 rfl rfl rfl ?_
        refine g_iload_n E dX13_hidesBest_74 rfl rfl rfl ?_
        refine g_callV (k := 2000) (n9 := 3) (av := [.ref 2003, .int (nI t), .int (nI k9)]) (st := [.int 0, .ref 2000]) E (ct_X13_askedIn l t k9 hw hM11 y12 hx9 (by omega) (by omega)) gciX13 dX13_hidesBest_75 x10 q2289 q2291 qs95 q135 q2292 (by decide +kernel) rfl rfl ⟨by decide, by decide⟩ ⟨by decide, by decide⟩ (Nat.le_of_ble_eq_true rfl) rfl (gPu.k ?_)
        refine g_as (y := zChA false B R t k9 (d + dy) 0) (hid_ask hw) ?_
        have hM13 : pMq g8 (.ref mb) th tr wh tp fa ac mk [(22, (-1))] := ⟨_, x10, hM_0, hM_1, hM_2, hM_3, hM_5, hM_6, hM_12, hM_15, hM_16, hM_17, hM_18, hM_19, hM_20, hM_26, hM_28, hM_29, rfl, trivial⟩
        refine g_callV (k := 2000) (n9 := 2) (av := [.int 0, .int (zChA false B R t k9 (d + dy) 0)]) (st := []) E (ct_X13_takesSet_0 l 0 (zChA false B R t k9 (d + dy) 0) hM13) gciX13 dX13_hidesBest_78 x10 q2352 q2354 qs101 q135 q2355 (by decide +kernel) rfl rfl ⟨by decide, by decide⟩ ⟨by decide, by decide⟩ (Nat.le_of_ble_eq_true rfl) rfl (gPn.k (fun g14 h14 => ?_))
        obtain ⟨hm14, f14⟩ := h14
        have hm14_o := hm14
        obtain ⟨hm14_F, hm14_a, hm14_0, hm14_1, hm14_2, hm14_3, hm14_5, hm14_6, hm14_12, hm14_15, hm14_16, hm14_17, hm14_18, hm14_19, hm14_20, hm14_26, hm14_28, hm14_29, hm14_22, hm14_23, -⟩ := hm14_o
        refine g_iinc E dX13_hidesBest_81 rfl (v := 1) (rfl) (by decide) rfl (lo1 := [some (.ref 2000), some (.int (nI t)), some (.int (nI k9)), some (.int dy), some (.int (nI a9)), some (.int 1)]) rfl rfl ?_
        refine g_goto E dX13_hidesBest_84 (tgt := 15) (by decide) ?_
        have lp15 : ∀ (r9 : Nat) (s : Nat) (gw : gWM), (1 ≤ s) → (s ≤ a9 + 1) → (a9 + 1 - s < r9) → (pMq gw (.ref mb) th tr wh tp fa ac mk [(22, (zChs false B R t k9 (d + dy) s).2), (23, nI (zChs false B R t k9 (d + dy) s).1)]) → (pIx gw 2003 18) → (∀ j, (j ≠ 2000 ∧ j ≠ 2003) → gw j = g j) → gV z gw 0 0 15 [some (.ref 2000), some (.int (nI t)), some (.int (nI k9)), some (.int dy), some (.int (nI a9)), some (.int (nI s))] [] := by
          intro r9
          induction r9 with
          | zero => intro s gw h1s hk hm hMw hXw hfw; exact absurd hm (Nat.not_lt_zero _)
          | succ r9 ih15 =>
            intro s gw h1s hk hm hMw hXw hfw
            have hMw_o := hMw
            obtain ⟨hMw_F, hMw_a, hMw_0, hMw_1, hMw_2, hMw_3, hMw_5, hMw_6, hMw_12, hMw_15, hMw_16, hMw_17, hMw_18, hMw_19, hMw_20, hMw_26, hMw_28, hMw_29, hMw_22, hMw_23, -⟩ := hMw_o
            have hXw_o := hXw
            obtain ⟨hXw_f, hXw_a⟩ := hXw_o
            have hle := zChs_le (m := false) (B := B) (R := R) (t := t) (k := k9) (e := d + dy) s
            refine g_iload E dX13_hidesBest_15 rfl rfl ?_
            refine g_iload E dX13_hidesBest_17 rfl rfl ?_
            refine g_icmp_gt E dX13_hidesBest_19 (tgt := 87) (by decide) rfl (fun c19 => ?_) (fun c19 => ?_)
            · have c19 := (nI_ltI (a := a9) (b := s) (by omega) (by omega)).mp c19
              obtain rfl : s = a9 + 1 := by omega
              have htop := zChs_top (m := false) (k := k9) (e := d + dy) ha9 (2 ^ B 0 3) ha7 (by have := pow8 (n := B 0 3) (by omega); omega)
              exact g_vret E Rt dX13_hidesBest_87 rfl (by decide) (by decide) (by rw [htop]; exact ⟨rfl, ⟨_, hMw_a, hMw_0, hMw_1, hMw_2, hMw_3, hMw_5, hMw_6, hMw_12, hMw_15, hMw_16, hMw_17, hMw_18, hMw_19, hMw_20, hMw_26, hMw_28, hMw_29, hMw_22, hMw_23, trivial⟩, ⟨_, hXw_a⟩, fun j9 h9 => hfw j9 (by omega)⟩)
            · have c19 := mt (nI_ltI (a := a9) (b := s) (by omega) (by omega)).mpr c19
              refine g_iload E dX13_hidesBest_22 rfl rfl ?_
              refine g_iload E dX13_hidesBest_24 rfl rfl ?_
              refine g_iconst E (v := (-1)) dX13_hidesBest_26 (by decide) rfl ?_
              refine g_ixor E dX13_hidesBest_27 rfl ?_
              refine g_iand E dX13_hidesBest_28 rfl ?_
              refine g_if_eq E dX13_hidesBest_29 (tgt := 35) (by decide) rfl (fun c29 => ?_) (fun c29 => ?_)
              · have c29 : nI s &&& (zHas B R t ^^^ (-1)) = 0 := by rw [ha9]; exact c29
                refine g_aload_n E dX13_hidesBest_35 rfl rfl rfl ?_
                refine g_iconst E (v := 1) dX13_hidesBest_36 (by decide) rfl ?_
                refine g_iload_n E dX13_hidesBest_37 rfl rfl rfl ?_
                have hM15 : pMq gw (.ref mb) th tr wh tp fa ac mk [] := ⟨_, hMw_a, hMw_0, hMw_1, hMw_2, hMw_3, hMw_5, hMw_6, hMw_12, hMw_15, hMw_16, hMw_17, hMw_18, hMw_19, hMw_20, hMw_26, hMw_28, hMw_29, trivial⟩
                have y16 := (hV.fr  (fun j9 a9 b9 => hfw j9 (by omega)))
                refine g_callV (k := 2000) (n9 := 2) (av := [.int 1, .int dy]) (st := []) E (ct_X13_asks_Y l dy hw hM15 y16 (⟨_, hXw_a⟩) hd6) gciX13 dX13_hidesBest_38 hMw_a q2233 q2235 qs87 q135 q2236 (by decide +kernel) rfl rfl ⟨by decide, by decide⟩ ⟨by decide, by decide⟩ (Nat.le_of_ble_eq_true rfl) rfl (gPi.k (fun g17 h17 => ?_))
                obtain ⟨hr17, f17⟩ := h17
                have hr17_o := hr17
                obtain ⟨hr17_f, hr17_a, hr17_r, hr17_d⟩ := hr17_o
                refine g_pop E dX13_hidesBest_41 rfl rfl ?_
                refine g_aload_n E dX13_hidesBest_42 rfl rfl rfl ?_
                have x18 := (f17 (2000) (by omega)).trans (hMw_a)
                refine g_getf E gciX13 dX13_hidesBest_43 x18 16 rfl (by decide) q1756 (.inl rfl) (.ref 2003) (hMw_16) rfl ?_
                refine g_bipush E (v := 16) dX13_hidesBest_46 (by decide) rfl ?_
                refine g_iload E dX13_hidesBest_48 rfl rfl ?_
                refine g_iast E dX13_hidesBest_50 (j := 16) hr17_a (rfl) (by omega) (by decide) rfl (g_upk (fun g19 h19 f19 => ?_))
                have hx20 : pRw g19 2003 B (upd R 16 (nI s)) (d + dy) := ⟨_, h19, updR ⟨hr17_r, hr17_d⟩ (by decide)⟩
                have hx20_o := hx20
                obtain ⟨hx20_f, hx20_a, hx20_r, hx20_d⟩ := hx20_o
                refine g_aload_n E dX13_hidesBest_51 rfl rfl rfl ?_
                refine g_aload_n E dX13_hidesBest_52 rfl rfl rfl ?_
                have x21 := (f19 (2000) (by omega)).trans (x18)
                refine g_getf E gciX13 dX13_hidesBest_53 x21 16 rfl (by decide) q1756 (.inl rfl) (.ref 2003) (hMw_16) rfl ?_
                refine g_iload_n E dX13_hidesBest_56 rfl rfl rfl ?_
                refine g_iload_n E dX13_hidesBest_57 rfl rfl rfl ?_
                refine g_iconst E (v := 0) dX13_hidesBest_58 (by decide) rfl ?_
                have hM22 : pMq g19 (.ref mb) th tr wh tp fa ac mk [] := ⟨_, x21, hMw_0, hMw_1, hMw_2, hMw_3, hMw_5, hMw_6, hMw_12, hMw_15, hMw_16, hMw_17, hMw_18, hMw_19, hMw_20, hMw_26, hMw_28, hMw_29, trivial⟩
                have y23 := (((hMb.fr  (fun j9 a9 b9 => hfw j9 (by omega))).fr  (fun j9 a9 b9 => f17 j9 (by omega))).fr  (fun j9 a9 b9 => f19 j9 (by omega)))
                refine g_callV (k := 2000) (n9 := 4) (av := [.ref 2003, .int (nI t), .int (nI k9), .int 0]) (st := []) E (ct_X13_foundIn l t k9 0 hw hM22 y23 hx20 (by omega) (by omega)) gciX13 dX13_hidesBest_59 x21 q2293 q2295 qs96 q135 q2296 (by decide +kernel) rfl rfl ⟨by decide, by decide⟩ ⟨by decide, by decide⟩ (Nat.le_of_ble_eq_true rfl) rfl (gPu.k ?_)
                refine g_if_ne E dX13_hidesBest_62 (tgt := 81) (by decide) rfl (fun c62 => ?_) (fun c62 => ?_)
                · have hmay : zMay false B R t k9 (d + dy) s = false := by unfold zMay; rw [if_neg (by decide), ← hid_fou hw]; exact decide_eq_false c62
                  refine g_iinc E dX13_hidesBest_81 rfl (v := nI (s + 1)) (nI_c _) (by decide) rfl (lo1 := [some (.ref 2000), some (.int (nI t)), some (.int (nI k9)), some (.int dy), some (.int (nI a9)), some (.int (nI (s + 1)))]) rfl rfl ?_
                  refine g_goto E dX13_hidesBest_84 (tgt := 15) (by decide) ?_
                  exact ih15 (s + 1) g19 (by omega) (by omega) (by omega) (by rw [zTks_2 c29 hmay]; exact ⟨_, x21, hMw_0, hMw_1, hMw_2, hMw_3, hMw_5, hMw_6, hMw_12, hMw_15, hMw_16, hMw_17, hMw_18, hMw_19, hMw_20, hMw_26, hMw_28, hMw_29, hMw_22, hMw_23, trivial⟩) (⟨_, hx20_a⟩) (fun j9 h9 => ((f19 j9 (by omega)).trans (f17 j9 (by omega))).trans (hfw j9 (by omega)))
                · have hmay : zMay false B R t k9 (d + dy) s = true := by unfold zMay; rw [if_neg (by decide), ← hid_fou hw]; exact decide_eq_true c62
                  refine g_aload_n E dX13_hidesBest_65 rfl rfl rfl ?_
                  refine g_iload E dX13_hidesBest_66 rfl rfl ?_
                  refine g_aload_n E dX13_hidesBest_68 rfl rfl rfl ?_
                  refine g_aload_n E dX13_hidesBest_69 rfl rfl rfl ?_
                  refine g_getf E gciX13 dX13_hidesBest_70 x21 16 rfl (by decide) q1756 (.inl rfl) (.ref 2003) (hMw_16) rfl ?_
                  refine g_iload_n E dX13_hidesBest_73 rfl rfl rfl ?_
                  refine g_iload_n E dX13_hidesBest_74 rfl rfl rfl ?_
                  refine g_callV (k := 2000) (n9 := 3) (av := [.ref 2003, .int (nI t), .int (nI k9)]) (st := [.int (nI s), .ref 2000]) E (ct_X13_askedIn l t k9 hw hM22 y23 hx20 (by omega) (by omega)) gciX13 dX13_hidesBest_75 x21 q2289 q2291 qs95 q135 q2292 (by decide +kernel) rfl rfl ⟨by decide, by decide⟩ ⟨by decide, by decide⟩ (Nat.le_of_ble_eq_true rfl) rfl (gPu.k ?_)
                  refine g_as (y := zChA false B R t k9 (d + dy) s) (hid_ask hw) ?_
                  have hM24 : pMq g19 (.ref mb) th tr wh tp fa ac mk [(22, (zChs false B R t k9 (d + dy) s).2), (23, nI (zChs false B R t k9 (d + dy) s).1)] := ⟨_, x21, hMw_0, hMw_1, hMw_2, hMw_3, hMw_5, hMw_6, hMw_12, hMw_15, hMw_16, hMw_17, hMw_18, hMw_19, hMw_20, hMw_26, hMw_28, hMw_29, hMw_22, hMw_23, trivial⟩
                  refine g_callV (k := 2000) (n9 := 2) (av := [.int (nI s), .int (zChA false B R t k9 (d + dy) s)]) (st := []) E (ct_X13_takesSet l s ((zChs false B R t k9 (d + dy) s).1) (zChA false B R t k9 (d + dy) s) ((zChs false B R t k9 (d + dy) s).2) hM24 (by omega) (by omega)) gciX13 dX13_hidesBest_78 x21 q2352 q2354 qs101 q135 q2355 (by decide +kernel) rfl rfl ⟨by decide, by decide⟩ ⟨by decide, by decide⟩ (Nat.le_of_ble_eq_true rfl) rfl (gPn.k (fun g25 h25 => ?_))
                  obtain ⟨hm25, f25⟩ := h25
                  have hm25_o := hm25
                  obtain ⟨hm25_F, hm25_a, hm25_0, hm25_1, hm25_2, hm25_3, hm25_5, hm25_6, hm25_12, hm25_15, hm25_16, hm25_17, hm25_18, hm25_19, hm25_20, hm25_26, hm25_28, hm25_29, hm25_22, hm25_23, -⟩ := hm25_o
                  refine g_iinc E dX13_hidesBest_81 rfl (v := nI (s + 1)) (nI_c _) (by decide) rfl (lo1 := [some (.ref 2000), some (.int (nI t)), some (.int (nI k9)), some (.int dy), some (.int (nI a9)), some (.int (nI (s + 1)))]) rfl rfl ?_
                  refine g_goto E dX13_hidesBest_84 (tgt := 15) (by decide) ?_
                  have x26 := (f25 (2003) (by omega)).trans (hx20_a)
                  exact ih15 (s + 1) g25 (by omega) (by omega) (by omega) (by rw [zTks_t c29 hmay]; exact ⟨_, hm25_a, hm25_0, hm25_1, hm25_2, hm25_3, hm25_5, hm25_6, hm25_12, hm25_15, hm25_16, hm25_17, hm25_18, hm25_19, hm25_20, hm25_26, hm25_28, hm25_29, hm25_22, hm25_23, trivial⟩) (⟨_, x26⟩) (fun j9 h9 => (((f25 j9 (by omega)).trans (f19 j9 (by omega))).trans (f17 j9 (by omega))).trans (hfw j9 (by omega)))
              · have c29 : ¬ nI s &&& (zHas B R t ^^^ (-1)) = 0 := by rw [ha9]; exact c29
                refine g_goto E dX13_hidesBest_32 (tgt := 81) (by decide) ?_
                refine g_iinc E dX13_hidesBest_81 rfl (v := nI (s + 1)) (nI_c _) (by decide) rfl (lo1 := [some (.ref 2000), some (.int (nI t)), some (.int (nI k9)), some (.int dy), some (.int (nI a9)), some (.int (nI (s + 1)))]) rfl rfl ?_
                refine g_goto E dX13_hidesBest_84 (tgt := 15) (by decide) ?_
                exact ih15 (s + 1) gw (by omega) (by omega) (by omega) (by rw [zTks_1 c29]; exact ⟨_, hMw_a, hMw_0, hMw_1, hMw_2, hMw_3, hMw_5, hMw_6, hMw_12, hMw_15, hMw_16, hMw_17, hMw_18, hMw_19, hMw_20, hMw_26, hMw_28, hMw_29, hMw_22, hMw_23, trivial⟩) (⟨_, hXw_a⟩) (fun j9 h9 => hfw j9 (by omega))
        have x27 := (f14 (2003) (by omega)).trans (hx9_a)
        exact lp15 (a9 + 2) 1 g14 (Nat.le_refl _) (by omega) (by omega) (by rw [zChs_1 hmay]; exact ⟨_, hm14_a, hm14_0, hm14_1, hm14_2, hm14_3, hm14_5, hm14_6, hm14_12, hm14_15, hm14_16, hm14_17, hm14_18, hm14_19, hm14_20, hm14_26, hm14_28, hm14_29, hm14_22, hm14_23, trivial⟩) (⟨_, x27⟩) (fun j9 h9 => (((f14 j9 (by omega)).trans (f8 j9 (by omega))).trans (f6 j9 (by omega))).trans (f1 j9 (by omega)))
    · exact absurd z0_and c29
set_option maxHeartbeats 1000000 in
theorem ct_X13_eats (l : Launch) {g : gWM} {mb : Nat} {B : gBar} {R : Nat → Int32} {d : Int32} {th tr wh fa : Int32} {tp ac mk : Nat} (p : Int32) (q : Int32) (dy : Int32) (hw : wfB B) (hM : pMq g (.ref mb) th tr wh tp fa ac mk []) (hMb : pMb g mb B) (hV : pRw g 2002 B R d) (hX : pIx g 2003 18) (h9 : 10000 ≤ mb) (hH : zHok B R) : gCt l yX13_eats cX13_eats 5 (some .int) 7 0 0 167 [.ref 2000, .int p, .int q, .int dy] g (gPi (sCh true B R d p q dy (fun s => nI s.1)).1 (fun g1 => pMq g1 (.ref mb) 0 ((sCh true B R d p q dy (fun s => nI s.1)).2) (-1) tp fa ac mk [] ∧ pIx g1 2003 18 ∧ ∀ j, (j ≠ 2000 ∧ j ≠ 2003) → g1 j = g j)) := by
  refine gCt.of RX13 (by decide) rfl (lo := [some (.ref 2000), some (.int p), some (.int q), some (.int dy), none]) 1 rfl (Nat.le_of_ble_eq_true rfl) (fun z E Rt => ?_)
  have hw_n := hw.1
  have hM_o := hM
  obtain ⟨hM_F, hM_a, hM_0, hM_1, hM_2, hM_3, hM_5, hM_6, hM_12, hM_15, hM_16, hM_17, hM_18, hM_19, hM_20, hM_26, hM_28, hM_29, -⟩ := hM_o
  have hMb_o := hMb
  obtain ⟨⟨hMb_F, hMb_a, hMb_0, hMb_1, hMb_2, hMb_3, hMb_4, hMb_5, hMb_6, hMb_7, hMb_8, hMb_9, hMb_11, hMb_12, hMb_13, hMb_14, hMb_15, hMb_16, hMb_17, hMb_18, hMb_19, hMb_20, hMb_21, hMb_22, hMb_23, hMb_24, hMb_25, hMb_26, hMb_27, hMb_28, hMb_29, hMb_30, hMb_31⟩, ⟨hMb_f1, hMb_a1, hMb_b1⟩, ⟨hMb_f2, hMb_a2, hMb_b2⟩, ⟨hMb_f3, hMb_a3, hMb_b3⟩, ⟨hMb_f4, hMb_a4, hMb_b4⟩, ⟨hMb_f5, hMb_a5, hMb_b5⟩, ⟨hMb_f6, hMb_a6, hMb_b6⟩, ⟨hMb_f7, hMb_a7, hMb_b7⟩, ⟨hMb_f8, hMb_a8, hMb_b8⟩, ⟨hMb_f9, hMb_a9, hMb_b9⟩, ⟨hMb_f10, hMb_a10, hMb_b10⟩, ⟨hMb_f11, hMb_a11, hMb_b11⟩, ⟨hMb_f12, hMb_a12, hMb_b12⟩, ⟨hMb_f13, hMb_a13, hMb_b13⟩, ⟨hMb_f14, hMb_a14, hMb_b14⟩, ⟨hMb_f15, hMb_a15, hMb_b15⟩, ⟨hMb_f16, hMb_a16, hMb_b16⟩, ⟨hMb_f17, hMb_a17, hMb_b17⟩, ⟨hMb_f18, hMb_a18, hMb_b18⟩, ⟨hMb_f19, hMb_a19, hMb_b19⟩, ⟨hMb_f20, hMb_a20, hMb_b20⟩, ⟨hMb_f21, hMb_a21, hMb_b21⟩⟩ := hMb_o
  have hV_o := hV
  obtain ⟨hV_f, hV_a, hV_r, hV_d⟩ := hV_o
  have hX_o := hX
  obtain ⟨hX_f, hX_a⟩ := hX_o
  refine g_aload_n E dX13_eats_0 rfl rfl rfl ?_
  refine g_iconst E (v := 0) dX13_eats_1 (by decide) rfl ?_
  refine g_putf E gciX13 (v := .int 0) dX13_eats_2 hM_a 0 rfl (by decide) q1740 (.inl rfl) rfl (fun _ => rfl) (fun _ => rfl) rfl (g_upk (fun g1 h1 f1 => ?_))
  refine g_aload_n E dX13_eats_5 rfl rfl rfl ?_
  refine g_aload_n E dX13_eats_6 rfl rfl rfl ?_
  refine g_iload_n E dX13_eats_7 rfl rfl rfl ?_
  have hM2 : pMq g1 (.ref mb) 0 tr wh tp fa ac mk [] := ⟨_, h1, rfl, hM_1, hM_2, hM_3, hM_5, hM_6, hM_12, hM_15, hM_16, hM_17, hM_18, hM_19, hM_20, hM_26, hM_28, hM_29, trivial⟩
  have y3 := (hMb.fr  (fun j9 a9 b9 => f1 j9 (by omega)))
  refine g_callV (k := 2000) (n9 := 1) (av := [.int p]) (st := [.ref 2000]) E (ct_X13_isTraveller l p hw hM2 y3) gciX13 dX13_eats_8 h1 q2209 q2211 qs83 q135 q2212 (by decide +kernel) rfl rfl ⟨by decide, by decide⟩ ⟨by decide, by decide⟩ (Nat.le_of_ble_eq_true rfl) rfl (gPu.k ?_)
  refine g_if_eq E dX13_eats_11 (tgt := 26) (by decide) rfl (fun c11 => ?_) (fun c11 => ?_)
  · have c11 := zb_0.mp c11
    have q4 := isNone_of c11
    refine g_iconst E (v := 0) dX13_eats_26 (by decide) rfl ?_
    refine g_iload_n E dX13_eats_27 rfl rfl rfl ?_
    refine g_callV (k := 2000) (n9 := 2) (av := [.int 0, .int dy]) (st := []) E (ct_X13_asks_F l dy hM2) gciX13 dX13_eats_28 h1 q2233 q2235 qs87 q135 q2236 (by decide +kernel) rfl rfl ⟨by decide, by decide⟩ ⟨by decide, by decide⟩ (Nat.le_of_ble_eq_true rfl) rfl (gPu.k ?_)
    refine g_istore E dX13_eats_31 (by decide) rfl (lo1 := [some (.ref 2000), some (.int p), some (.int q), some (.int dy), some (.int 1)]) rfl rfl ?_
    refine g_iload E dX13_eats_33 rfl rfl ?_
    refine g_if_le E dX13_eats_35 (tgt := 45) (by decide) rfl (fun h9 => absurd h9 (by decide)) (fun _ => ?_)
    refine g_aload_n E dX13_eats_38 rfl rfl rfl ?_
    refine g_iload E dX13_eats_39 rfl rfl ?_
    refine g_callV (k := 2000) (n9 := 1) (av := [.int 1]) (st := []) E (ct_X13_refused l 1 hM2) gciX13 dX13_eats_41 h1 q1846 q1848 qs52 q135 q1849 (by decide +kernel) rfl rfl ⟨by decide, by decide⟩ ⟨by decide, by decide⟩ (Nat.le_of_ble_eq_true rfl) rfl (gPi.k (fun g5 h5 => ?_))
    obtain ⟨hm5, f5⟩ := h5
    have hm5_o := hm5
    obtain ⟨hm5_F, hm5_a, hm5_0, hm5_1, hm5_2, hm5_3, hm5_5, hm5_6, hm5_12, hm5_15, hm5_16, hm5_17, hm5_18, hm5_19, hm5_20, hm5_26, hm5_28, hm5_29, -⟩ := hm5_o
    have hs6 : sCh true B R d p q dy (fun s => nI s.1) = ((-1), 1) := by first | (simp [sCh, sX, c11, q4]; done) | (simp [sCh, sX, c11, q4, qWy]; done)
    have x7 := (f5 (2003) (by omega)).trans ((f1 (2003) (by omega)).trans (hX_a))
    exact g_iret E Rt dX13_eats_44 rfl (by decide) (by decide) (by rw [hs6]; exact ⟨rfl, ⟨_, hm5_a, hm5_0, hm5_1, hm5_2, hm5_3, hm5_5, hm5_6, hm5_12, hm5_15, hm5_16, hm5_17, hm5_18, hm5_19, hm5_20, hm5_26, hm5_28, hm5_29, trivial⟩, ⟨_, x7⟩, fun j9 h9 => (f5 j9 (by omega)).trans (f1 j9 (by omega))⟩)
  · have c11 := zb_n0.mp c11
    obtain ⟨t, q8⟩ := isSome_of c11
    obtain ⟨rfl, q8_l⟩ := qI_some (by omega) q8
    refine g_aload_n E dX13_eats_14 rfl rfl rfl ?_
    refine g_iload_n E dX13_eats_15 rfl rfl rfl ?_
    refine g_callV (k := 2000) (n9 := 1) (av := [.int q]) (st := [.ref 2000]) E (ct_X13_isGate l q hw hM2 y3) gciX13 dX13_eats_16 h1 q2225 q2227 qs86 q135 q2228 (by decide +kernel) rfl rfl ⟨by decide, by decide⟩ ⟨by decide, by decide⟩ (Nat.le_of_ble_eq_true rfl) rfl (gPu.k ?_)
    refine g_if_eq E dX13_eats_19 (tgt := 26) (by decide) rfl (fun c19 => ?_) (fun c19 => ?_)
    · have c19 := zb_0.mp c19
      have q9 := isNone_of c19
      refine g_iconst E (v := 0) dX13_eats_26 (by decide) rfl ?_
      refine g_iload_n E dX13_eats_27 rfl rfl rfl ?_
      refine g_callV (k := 2000) (n9 := 2) (av := [.int 0, .int dy]) (st := []) E (ct_X13_asks_F l dy hM2) gciX13 dX13_eats_28 h1 q2233 q2235 qs87 q135 q2236 (by decide +kernel) rfl rfl ⟨by decide, by decide⟩ ⟨by decide, by decide⟩ (Nat.le_of_ble_eq_true rfl) rfl (gPu.k ?_)
      refine g_istore E dX13_eats_31 (by decide) rfl (lo1 := [some (.ref 2000), some (.int (nI t)), some (.int q), some (.int dy), some (.int 1)]) rfl rfl ?_
      refine g_iload E dX13_eats_33 rfl rfl ?_
      refine g_if_le E dX13_eats_35 (tgt := 45) (by decide) rfl (fun h9 => absurd h9 (by decide)) (fun _ => ?_)
      refine g_aload_n E dX13_eats_38 rfl rfl rfl ?_
      refine g_iload E dX13_eats_39 rfl rfl ?_
      refine g_callV (k := 2000) (n9 := 1) (av := [.int 1]) (st := []) E (ct_X13_refused l 1 hM2) gciX13 dX13_eats_41 h1 q1846 q1848 qs52 q135 q1849 (by decide +kernel) rfl rfl ⟨by decide, by decide⟩ ⟨by decide, by decide⟩ (Nat.le_of_ble_eq_true rfl) rfl (gPi.k (fun g10 h10 => ?_))
      obtain ⟨hm10, f10⟩ := h10
      have hm10_o := hm10
      obtain ⟨hm10_F, hm10_a, hm10_0, hm10_1, hm10_2, hm10_3, hm10_5, hm10_6, hm10_12, hm10_15, hm10_16, hm10_17, hm10_18, hm10_19, hm10_20, hm10_26, hm10_28, hm10_29, -⟩ := hm10_o
      have hs11 : sCh true B R d (nI t) q dy (fun s => nI s.1) = ((-1), 1) := by first | (simp [sCh, sX, c11, q8, c19, q9]; done) | (simp [sCh, sX, c11, q8, c19, q9, qWy]; done)
      have x12 := (f10 (2003) (by omega)).trans ((f1 (2003) (by omega)).trans (hX_a))
      exact g_iret E Rt dX13_eats_44 rfl (by decide) (by decide) (by rw [hs11]; exact ⟨rfl, ⟨_, hm10_a, hm10_0, hm10_1, hm10_2, hm10_3, hm10_5, hm10_6, hm10_12, hm10_15, hm10_16, hm10_17, hm10_18, hm10_19, hm10_20, hm10_26, hm10_28, hm10_29, trivial⟩, ⟨_, x12⟩, fun j9 h9 => (f10 j9 (by omega)).trans (f1 j9 (by omega))⟩)
    · have c19 := zb_n0.mp c19
      obtain ⟨k9, q13⟩ := isSome_of c19
      obtain ⟨rfl, q13_l⟩ := qI_some (by omega) q13
      refine g_iconst E (v := 1) dX13_eats_22 (by decide) rfl ?_
      refine g_goto E dX13_eats_23 (tgt := 27) (by decide) ?_
      refine g_iload_n E dX13_eats_27 rfl rfl rfl ?_
      have y14 := (hV.fr  (fun j9 a9 b9 => f1 j9 (by omega)))
      have x15 := (f1 (2003) (by omega)).trans (hX_a)
      refine g_callV (k := 2000) (n9 := 2) (av := [.int 1, .int dy]) (st := []) E (ct_X13_asks l true dy hw hM2 y14 (⟨_, x15⟩)) gciX13 dX13_eats_28 h1 q2233 q2235 qs87 q135 q2236 (by decide +kernel) rfl rfl ⟨by decide, by decide⟩ ⟨by decide, by decide⟩ (Nat.le_of_ble_eq_true rfl) rfl (gPi.k (fun g16 h16 => ?_))
      obtain ⟨ha16, hx16, f16⟩ := h16
      have hx16_o := hx16
      obtain ⟨hx16_f, hx16_a⟩ := hx16_o
      refine g_istore E dX13_eats_31 (by decide) rfl (lo1 := [some (.ref 2000), some (.int (nI t)), some (.int (nI k9)), some (.int dy), some (.int (qWy true dy))]) rfl rfl ?_
      refine g_iload E dX13_eats_33 rfl rfl ?_
      refine g_if_le E dX13_eats_35 (tgt := 45) (by decide) rfl (fun c35 => ?_) (fun c35 => ?_)
      · have c35 := qWy_le (c35)
        have hr17 := ha16 c35
        have q18 := (qWy_0.mp c35).1
        have q18_z := (qWy_0.mp c35).2
        have hr17_o := hr17
        obtain ⟨hr17_f, hr17_a, hr17_r, hr17_d⟩ := hr17_o
        refine g_aload_n E dX13_eats_45 rfl rfl rfl ?_
        refine g_iload_n E dX13_eats_46 rfl rfl rfl ?_
        refine g_iload_n E dX13_eats_47 rfl rfl rfl ?_
        refine g_iload_n E dX13_eats_48 rfl rfl rfl ?_
        have x19 := (f16 (2000) (by omega)).trans (h1)
        have hM20 : pMq g16 (.ref mb) 0 tr wh tp fa ac mk [] := ⟨_, x19, rfl, hM_1, hM_2, hM_3, hM_5, hM_6, hM_12, hM_15, hM_16, hM_17, hM_18, hM_19, hM_20, hM_26, hM_28, hM_29, trivial⟩
        have y21 := (y3.fr  (fun j9 a9 b9 => f16 j9 (by omega)))
        have y22 := (y14.fr  (fun j9 a9 b9 => f16 j9 (by omega)))
        refine g_callV (k := 2000) (n9 := 3) (av := [.int (nI t), .int (nI k9), .int dy]) (st := []) E (ct_X13_eatsBest l t k9 dy hw hM20 y21 y22 (⟨_, hr17_a⟩) (by omega) (by omega) (by omega) q18_z hH) gciX13 dX13_eats_49 x19 q2345 q2347 qs100 q135 q2348 (by decide +kernel) rfl rfl ⟨by decide, by decide⟩ ⟨by decide, by decide⟩ (Nat.le_of_ble_eq_true rfl) rfl (gPn.k (fun g23 h23 => ?_))
        obtain ⟨hm23, hx23, f23⟩ := h23
        have hm23_o := hm23
        obtain ⟨hm23_F, hm23_a, hm23_0, hm23_1, hm23_2, hm23_3, hm23_5, hm23_6, hm23_12, hm23_15, hm23_16, hm23_17, hm23_18, hm23_19, hm23_20, hm23_26, hm23_28, hm23_29, hm23_22, hm23_23, -⟩ := hm23_o
        have hx23_o := hx23
        obtain ⟨hx23_f, hx23_a⟩ := hx23_o
        refine g_aload_n E dX13_eats_52 rfl rfl rfl ?_
        refine g_aload_n E dX13_eats_53 rfl rfl rfl ?_
        refine g_getf E gciX13 dX13_eats_54 hm23_a 23 rfl (by decide) q1763 (.inl rfl) (.int (nI (zChs true B R t k9 (d + dy) (2 ^ B 0 3)).1)) (hm23_23) rfl ?_
        have hM24 : pMq g23 (.ref mb) 0 tr wh tp fa ac mk [] := ⟨_, hm23_a, hm23_0, hm23_1, hm23_2, hm23_3, hm23_5, hm23_6, hm23_12, hm23_15, hm23_16, hm23_17, hm23_18, hm23_19, hm23_20, hm23_26, hm23_28, hm23_29, trivial⟩
        refine g_callV (k := 2000) (n9 := 1) (av := [.int (nI (zChs true B R t k9 (d + dy) (2 ^ B 0 3)).1)]) (st := []) E (ct_X13_fine l (nI (zChs true B R t k9 (d + dy) (2 ^ B 0 3)).1) hM24) gciX13 dX13_eats_57 hm23_a q2181 q2183 qs80 q135 q2184 (by decide +kernel) rfl rfl ⟨by decide, by decide⟩ ⟨by decide, by decide⟩ (Nat.le_of_ble_eq_true rfl) rfl (gPi.k (fun g25 h25 => ?_))
        obtain ⟨hm25, f25⟩ := h25
        have hm25_o := hm25
        obtain ⟨hm25_F, hm25_a, hm25_0, hm25_1, hm25_2, hm25_3, hm25_5, hm25_6, hm25_12, hm25_15, hm25_16, hm25_17, hm25_18, hm25_19, hm25_20, hm25_26, hm25_28, hm25_29, -⟩ := hm25_o
        have hs26 : sCh true B R d (nI t) (nI k9) dy (fun s => nI s.1) = (nI (zChs true B R t k9 (d + dy) (2 ^ B 0 3)).1, 0) := by first | (simp [sCh, sX, c11, q8, c19, q13, c35, q18_z]; done) | (simp [sCh, sX, c11, q8, c19, q13, c35, q18_z, qWy]; done)
        have x27 := (f25 (2003) (by omega)).trans (hx23_a)
        exact g_iret E Rt dX13_eats_60 rfl (by decide) (by decide) (by rw [hs26]; exact ⟨rfl, ⟨_, hm25_a, hm25_0, hm25_1, hm25_2, hm25_3, hm25_5, hm25_6, hm25_12, hm25_15, hm25_16, hm25_17, hm25_18, hm25_19, hm25_20, hm25_26, hm25_28, hm25_29, trivial⟩, ⟨_, x27⟩, fun j9 h9 => (((f25 j9 (by omega)).trans (f23 j9 (by omega))).trans (f16 j9 (by omega))).trans (f1 j9 (by omega))⟩)
      · have c35 := qWy_gt (c35)
        refine g_aload_n E dX13_eats_38 rfl rfl rfl ?_
        refine g_iload E dX13_eats_39 rfl rfl ?_
        have x28 := (f16 (2000) (by omega)).trans (h1)
        have hM29 : pMq g16 (.ref mb) 0 tr wh tp fa ac mk [] := ⟨_, x28, rfl, hM_1, hM_2, hM_3, hM_5, hM_6, hM_12, hM_15, hM_16, hM_17, hM_18, hM_19, hM_20, hM_26, hM_28, hM_29, trivial⟩
        refine g_callV (k := 2000) (n9 := 1) (av := [.int (qWy true dy)]) (st := []) E (ct_X13_refused l (qWy true dy) hM29) gciX13 dX13_eats_41 x28 q1846 q1848 qs52 q135 q1849 (by decide +kernel) rfl rfl ⟨by decide, by decide⟩ ⟨by decide, by decide⟩ (Nat.le_of_ble_eq_true rfl) rfl (gPi.k (fun g30 h30 => ?_))
        obtain ⟨hm30, f30⟩ := h30
        have hm30_o := hm30
        obtain ⟨hm30_F, hm30_a, hm30_0, hm30_1, hm30_2, hm30_3, hm30_5, hm30_6, hm30_12, hm30_15, hm30_16, hm30_17, hm30_18, hm30_19, hm30_20, hm30_26, hm30_28, hm30_29, -⟩ := hm30_o
        have hs31 : sCh true B R d (nI t) (nI k9) dy (fun s => nI s.1) = ((-1), qWy true dy) := by first | (simp [sCh, sX, c11, q8, c19, q13, c35]; done) | (simp [sCh, sX, c11, q8, c19, q13, c35, qWy]; done)
        have x32 := (f30 (2003) (by omega)).trans (hx16_a)
        exact g_iret E Rt dX13_eats_44 rfl (by decide) (by decide) (by rw [hs31]; exact ⟨rfl, ⟨_, hm30_a, hm30_0, hm30_1, hm30_2, hm30_3, hm30_5, hm30_6, hm30_12, hm30_15, hm30_16, hm30_17, hm30_18, hm30_19, hm30_20, hm30_26, hm30_28, hm30_29, trivial⟩, ⟨_, x32⟩, fun j9 h9 => ((f30 j9 (by omega)).trans (f16 j9 (by omega))).trans (f1 j9 (by omega))⟩)
set_option maxHeartbeats 1000000 in
theorem ct_X13_eats_N (l : Launch) {g : gWM} {th tr wh fa : Int32} {tp ac mk : Nat} (p : Int32) (q : Int32) (dy : Int32) (hM : pMq g .null th tr wh tp fa ac mk []) : gCt l yX13_eats cX13_eats 5 (some .int) 1 0 0 22 [.ref 2000, .int p, .int q, .int dy] g (gPi (sCh true zB0 (fun _ => 0) 0 p q dy (fun s => nI s.1)).1 (fun g1 => pMq g1 .null 0 ((sCh true zB0 (fun _ => 0) 0 p q dy (fun s => nI s.1)).2) (-1) tp fa ac mk [] ∧ ∀ j, j ≠ 2000 → g1 j = g j)) := by
  refine gCt.of RX13 (by decide) rfl (lo := [some (.ref 2000), some (.int p), some (.int q), some (.int dy), none]) 1 rfl (Nat.le_of_ble_eq_true rfl) (fun z E Rt => ?_)
  have hM_o := hM
  obtain ⟨hM_F, hM_a, hM_0, hM_1, hM_2, hM_3, hM_5, hM_6, hM_12, hM_15, hM_16, hM_17, hM_18, hM_19, hM_20, hM_26, hM_28, hM_29, -⟩ := hM_o
  refine g_aload_n E dX13_eats_0 rfl rfl rfl ?_
  refine g_iconst E (v := 0) dX13_eats_1 (by decide) rfl ?_
  refine g_putf E gciX13 (v := .int 0) dX13_eats_2 hM_a 0 rfl (by decide) q1740 (.inl rfl) rfl (fun _ => rfl) (fun _ => rfl) rfl (g_upk (fun g1 h1 f1 => ?_))
  refine g_aload_n E dX13_eats_5 rfl rfl rfl ?_
  refine g_aload_n E dX13_eats_6 rfl rfl rfl ?_
  refine g_iload_n E dX13_eats_7 rfl rfl rfl ?_
  have hM2 : pMq g1 .null 0 tr wh tp fa ac mk [] := ⟨_, h1, rfl, hM_1, hM_2, hM_3, hM_5, hM_6, hM_12, hM_15, hM_16, hM_17, hM_18, hM_19, hM_20, hM_26, hM_28, hM_29, trivial⟩
  refine g_callV (k := 2000) (n9 := 1) (av := [.int p]) (st := [.ref 2000]) E (ct_X13_isTraveller_N l p hM2) gciX13 dX13_eats_8 h1 q2209 q2211 qs83 q135 q2212 (by decide +kernel) rfl rfl ⟨by decide, by decide⟩ ⟨by decide, by decide⟩ (Nat.le_of_ble_eq_true rfl) rfl (gPu.k ?_)
  refine g_if_eq E dX13_eats_11 (tgt := 26) (by decide) rfl (fun _ => ?_) (fun h9 => absurd h9 (by decide))
  refine g_iconst E (v := 0) dX13_eats_26 (by decide) rfl ?_
  refine g_iload_n E dX13_eats_27 rfl rfl rfl ?_
  refine g_callV (k := 2000) (n9 := 2) (av := [.int 0, .int dy]) (st := []) E (ct_X13_asks_F l dy hM2) gciX13 dX13_eats_28 h1 q2233 q2235 qs87 q135 q2236 (by decide +kernel) rfl rfl ⟨by decide, by decide⟩ ⟨by decide, by decide⟩ (Nat.le_of_ble_eq_true rfl) rfl (gPu.k ?_)
  refine g_istore E dX13_eats_31 (by decide) rfl (lo1 := [some (.ref 2000), some (.int p), some (.int q), some (.int dy), some (.int 1)]) rfl rfl ?_
  refine g_iload E dX13_eats_33 rfl rfl ?_
  refine g_if_le E dX13_eats_35 (tgt := 45) (by decide) rfl (fun h9 => absurd h9 (by decide)) (fun _ => ?_)
  refine g_aload_n E dX13_eats_38 rfl rfl rfl ?_
  refine g_iload E dX13_eats_39 rfl rfl ?_
  refine g_callV (k := 2000) (n9 := 1) (av := [.int 1]) (st := []) E (ct_X13_refused l 1 hM2) gciX13 dX13_eats_41 h1 q1846 q1848 qs52 q135 q1849 (by decide +kernel) rfl rfl ⟨by decide, by decide⟩ ⟨by decide, by decide⟩ (Nat.le_of_ble_eq_true rfl) rfl (gPi.k (fun g3 h3 => ?_))
  obtain ⟨hm3, f3⟩ := h3
  have hm3_o := hm3
  obtain ⟨hm3_F, hm3_a, hm3_0, hm3_1, hm3_2, hm3_3, hm3_5, hm3_6, hm3_12, hm3_15, hm3_16, hm3_17, hm3_18, hm3_19, hm3_20, hm3_26, hm3_28, hm3_29, -⟩ := hm3_o
  have hs4 : sCh true zB0 (fun _ => 0) 0 p q dy (fun s => nI s.1) = ((-1), 1) := by first | (simp [sCh, sX, qI_z, qWy]; done) | (simp [sCh, sX, qI_z, qWy, qWy]; done)
  exact g_iret E Rt dX13_eats_44 rfl (by decide) (by decide) (by rw [hs4]; exact ⟨rfl, ⟨_, hm3_a, hm3_0, hm3_1, hm3_2, hm3_3, hm3_5, hm3_6, hm3_12, hm3_15, hm3_16, hm3_17, hm3_18, hm3_19, hm3_20, hm3_26, hm3_28, hm3_29, trivial⟩, fun j9 h9 => (f3 j9 (by omega)).trans (f1 j9 (by omega))⟩)
set_option maxHeartbeats 1000000 in
theorem ct_X13_eatsAsked (l : Launch) {g : gWM} {mb : Nat} {B : gBar} {R : Nat → Int32} {d : Int32} {th tr wh fa : Int32} {tp ac mk : Nat} (p : Int32) (q : Int32) (dy : Int32) (hw : wfB B) (hM : pMq g (.ref mb) th tr wh tp fa ac mk []) (hMb : pMb g mb B) (hV : pRw g 2002 B R d) (hX : pIx g 2003 18) (h9 : 10000 ≤ mb) (hH : zHok B R) : gCt l yX13_eatsAsked cX13_eatsAsked 5 (some .int) 7 0 0 167 [.ref 2000, .int p, .int q, .int dy] g (gPi (sCh true B R d p q dy (fun s => s.2)).1 (fun g1 => pMq g1 (.ref mb) 0 ((sCh true B R d p q dy (fun s => s.2)).2) (-1) tp fa ac mk [] ∧ pIx g1 2003 18 ∧ ∀ j, (j ≠ 2000 ∧ j ≠ 2003) → g1 j = g j)) := by
  refine gCt.of RX13 (by decide) rfl (lo := [some (.ref 2000), some (.int p), some (.int q), some (.int dy), none]) 1 rfl (Nat.le_of_ble_eq_true rfl) (fun z E Rt => ?_)
  have hw_n := hw.1
  have hM_o := hM
  obtain ⟨hM_F, hM_a, hM_0, hM_1, hM_2, hM_3, hM_5, hM_6, hM_12, hM_15, hM_16, hM_17, hM_18, hM_19, hM_20, hM_26, hM_28, hM_29, -⟩ := hM_o
  have hMb_o := hMb
  obtain ⟨⟨hMb_F, hMb_a, hMb_0, hMb_1, hMb_2, hMb_3, hMb_4, hMb_5, hMb_6, hMb_7, hMb_8, hMb_9, hMb_11, hMb_12, hMb_13, hMb_14, hMb_15, hMb_16, hMb_17, hMb_18, hMb_19, hMb_20, hMb_21, hMb_22, hMb_23, hMb_24, hMb_25, hMb_26, hMb_27, hMb_28, hMb_29, hMb_30, hMb_31⟩, ⟨hMb_f1, hMb_a1, hMb_b1⟩, ⟨hMb_f2, hMb_a2, hMb_b2⟩, ⟨hMb_f3, hMb_a3, hMb_b3⟩, ⟨hMb_f4, hMb_a4, hMb_b4⟩, ⟨hMb_f5, hMb_a5, hMb_b5⟩, ⟨hMb_f6, hMb_a6, hMb_b6⟩, ⟨hMb_f7, hMb_a7, hMb_b7⟩, ⟨hMb_f8, hMb_a8, hMb_b8⟩, ⟨hMb_f9, hMb_a9, hMb_b9⟩, ⟨hMb_f10, hMb_a10, hMb_b10⟩, ⟨hMb_f11, hMb_a11, hMb_b11⟩, ⟨hMb_f12, hMb_a12, hMb_b12⟩, ⟨hMb_f13, hMb_a13, hMb_b13⟩, ⟨hMb_f14, hMb_a14, hMb_b14⟩, ⟨hMb_f15, hMb_a15, hMb_b15⟩, ⟨hMb_f16, hMb_a16, hMb_b16⟩, ⟨hMb_f17, hMb_a17, hMb_b17⟩, ⟨hMb_f18, hMb_a18, hMb_b18⟩, ⟨hMb_f19, hMb_a19, hMb_b19⟩, ⟨hMb_f20, hMb_a20, hMb_b20⟩, ⟨hMb_f21, hMb_a21, hMb_b21⟩⟩ := hMb_o
  have hV_o := hV
  obtain ⟨hV_f, hV_a, hV_r, hV_d⟩ := hV_o
  have hX_o := hX
  obtain ⟨hX_f, hX_a⟩ := hX_o
  refine g_aload_n E dX13_eatsAsked_0 rfl rfl rfl ?_
  refine g_iconst E (v := 0) dX13_eatsAsked_1 (by decide) rfl ?_
  refine g_putf E gciX13 (v := .int 0) dX13_eatsAsked_2 hM_a 0 rfl (by decide) q1740 (.inl rfl) rfl (fun _ => rfl) (fun _ => rfl) rfl (g_upk (fun g1 h1 f1 => ?_))
  refine g_aload_n E dX13_eatsAsked_5 rfl rfl rfl ?_
  refine g_aload_n E dX13_eatsAsked_6 rfl rfl rfl ?_
  refine g_iload_n E dX13_eatsAsked_7 rfl rfl rfl ?_
  have hM2 : pMq g1 (.ref mb) 0 tr wh tp fa ac mk [] := ⟨_, h1, rfl, hM_1, hM_2, hM_3, hM_5, hM_6, hM_12, hM_15, hM_16, hM_17, hM_18, hM_19, hM_20, hM_26, hM_28, hM_29, trivial⟩
  have y3 := (hMb.fr  (fun j9 a9 b9 => f1 j9 (by omega)))
  refine g_callV (k := 2000) (n9 := 1) (av := [.int p]) (st := [.ref 2000]) E (ct_X13_isTraveller l p hw hM2 y3) gciX13 dX13_eatsAsked_8 h1 q2209 q2211 qs83 q135 q2212 (by decide +kernel) rfl rfl ⟨by decide, by decide⟩ ⟨by decide, by decide⟩ (Nat.le_of_ble_eq_true rfl) rfl (gPu.k ?_)
  refine g_if_eq E dX13_eatsAsked_11 (tgt := 26) (by decide) rfl (fun c11 => ?_) (fun c11 => ?_)
  · have c11 := zb_0.mp c11
    have q4 := isNone_of c11
    refine g_iconst E (v := 0) dX13_eatsAsked_26 (by decide) rfl ?_
    refine g_iload_n E dX13_eatsAsked_27 rfl rfl rfl ?_
    refine g_callV (k := 2000) (n9 := 2) (av := [.int 0, .int dy]) (st := []) E (ct_X13_asks_F l dy hM2) gciX13 dX13_eatsAsked_28 h1 q2233 q2235 qs87 q135 q2236 (by decide +kernel) rfl rfl ⟨by decide, by decide⟩ ⟨by decide, by decide⟩ (Nat.le_of_ble_eq_true rfl) rfl (gPu.k ?_)
    refine g_istore E dX13_eatsAsked_31 (by decide) rfl (lo1 := [some (.ref 2000), some (.int p), some (.int q), some (.int dy), some (.int 1)]) rfl rfl ?_
    refine g_iload E dX13_eatsAsked_33 rfl rfl ?_
    refine g_if_le E dX13_eatsAsked_35 (tgt := 45) (by decide) rfl (fun h9 => absurd h9 (by decide)) (fun _ => ?_)
    refine g_aload_n E dX13_eatsAsked_38 rfl rfl rfl ?_
    refine g_iload E dX13_eatsAsked_39 rfl rfl ?_
    refine g_callV (k := 2000) (n9 := 1) (av := [.int 1]) (st := []) E (ct_X13_refused l 1 hM2) gciX13 dX13_eatsAsked_41 h1 q1846 q1848 qs52 q135 q1849 (by decide +kernel) rfl rfl ⟨by decide, by decide⟩ ⟨by decide, by decide⟩ (Nat.le_of_ble_eq_true rfl) rfl (gPi.k (fun g5 h5 => ?_))
    obtain ⟨hm5, f5⟩ := h5
    have hm5_o := hm5
    obtain ⟨hm5_F, hm5_a, hm5_0, hm5_1, hm5_2, hm5_3, hm5_5, hm5_6, hm5_12, hm5_15, hm5_16, hm5_17, hm5_18, hm5_19, hm5_20, hm5_26, hm5_28, hm5_29, -⟩ := hm5_o
    have hs6 : sCh true B R d p q dy (fun s => s.2) = ((-1), 1) := by first | (simp [sCh, sX, c11, q4]; done) | (simp [sCh, sX, c11, q4, qWy]; done)
    have x7 := (f5 (2003) (by omega)).trans ((f1 (2003) (by omega)).trans (hX_a))
    exact g_iret E Rt dX13_eatsAsked_44 rfl (by decide) (by decide) (by rw [hs6]; exact ⟨rfl, ⟨_, hm5_a, hm5_0, hm5_1, hm5_2, hm5_3, hm5_5, hm5_6, hm5_12, hm5_15, hm5_16, hm5_17, hm5_18, hm5_19, hm5_20, hm5_26, hm5_28, hm5_29, trivial⟩, ⟨_, x7⟩, fun j9 h9 => (f5 j9 (by omega)).trans (f1 j9 (by omega))⟩)
  · have c11 := zb_n0.mp c11
    obtain ⟨t, q8⟩ := isSome_of c11
    obtain ⟨rfl, q8_l⟩ := qI_some (by omega) q8
    refine g_aload_n E dX13_eatsAsked_14 rfl rfl rfl ?_
    refine g_iload_n E dX13_eatsAsked_15 rfl rfl rfl ?_
    refine g_callV (k := 2000) (n9 := 1) (av := [.int q]) (st := [.ref 2000]) E (ct_X13_isGate l q hw hM2 y3) gciX13 dX13_eatsAsked_16 h1 q2225 q2227 qs86 q135 q2228 (by decide +kernel) rfl rfl ⟨by decide, by decide⟩ ⟨by decide, by decide⟩ (Nat.le_of_ble_eq_true rfl) rfl (gPu.k ?_)
    refine g_if_eq E dX13_eatsAsked_19 (tgt := 26) (by decide) rfl (fun c19 => ?_) (fun c19 => ?_)
    · have c19 := zb_0.mp c19
      have q9 := isNone_of c19
      refine g_iconst E (v := 0) dX13_eatsAsked_26 (by decide) rfl ?_
      refine g_iload_n E dX13_eatsAsked_27 rfl rfl rfl ?_
      refine g_callV (k := 2000) (n9 := 2) (av := [.int 0, .int dy]) (st := []) E (ct_X13_asks_F l dy hM2) gciX13 dX13_eatsAsked_28 h1 q2233 q2235 qs87 q135 q2236 (by decide +kernel) rfl rfl ⟨by decide, by decide⟩ ⟨by decide, by decide⟩ (Nat.le_of_ble_eq_true rfl) rfl (gPu.k ?_)
      refine g_istore E dX13_eatsAsked_31 (by decide) rfl (lo1 := [some (.ref 2000), some (.int (nI t)), some (.int q), some (.int dy), some (.int 1)]) rfl rfl ?_
      refine g_iload E dX13_eatsAsked_33 rfl rfl ?_
      refine g_if_le E dX13_eatsAsked_35 (tgt := 45) (by decide) rfl (fun h9 => absurd h9 (by decide)) (fun _ => ?_)
      refine g_aload_n E dX13_eatsAsked_38 rfl rfl rfl ?_
      refine g_iload E dX13_eatsAsked_39 rfl rfl ?_
      refine g_callV (k := 2000) (n9 := 1) (av := [.int 1]) (st := []) E (ct_X13_refused l 1 hM2) gciX13 dX13_eatsAsked_41 h1 q1846 q1848 qs52 q135 q1849 (by decide +kernel) rfl rfl ⟨by decide, by decide⟩ ⟨by decide, by decide⟩ (Nat.le_of_ble_eq_true rfl) rfl (gPi.k (fun g10 h10 => ?_))
      obtain ⟨hm10, f10⟩ := h10
      have hm10_o := hm10
      obtain ⟨hm10_F, hm10_a, hm10_0, hm10_1, hm10_2, hm10_3, hm10_5, hm10_6, hm10_12, hm10_15, hm10_16, hm10_17, hm10_18, hm10_19, hm10_20, hm10_26, hm10_28, hm10_29, -⟩ := hm10_o
      have hs11 : sCh true B R d (nI t) q dy (fun s => s.2) = ((-1), 1) := by first | (simp [sCh, sX, c11, q8, c19, q9]; done) | (simp [sCh, sX, c11, q8, c19, q9, qWy]; done)
      have x12 := (f10 (2003) (by omega)).trans ((f1 (2003) (by omega)).trans (hX_a))
      exact g_iret E Rt dX13_eatsAsked_44 rfl (by decide) (by decide) (by rw [hs11]; exact ⟨rfl, ⟨_, hm10_a, hm10_0, hm10_1, hm10_2, hm10_3, hm10_5, hm10_6, hm10_12, hm10_15, hm10_16, hm10_17, hm10_18, hm10_19, hm10_20, hm10_26, hm10_28, hm10_29, trivial⟩, ⟨_, x12⟩, fun j9 h9 => (f10 j9 (by omega)).trans (f1 j9 (by omega))⟩)
    · have c19 := zb_n0.mp c19
      obtain ⟨k9, q13⟩ := isSome_of c19
      obtain ⟨rfl, q13_l⟩ := qI_some (by omega) q13
      refine g_iconst E (v := 1) dX13_eatsAsked_22 (by decide) rfl ?_
      refine g_goto E dX13_eatsAsked_23 (tgt := 27) (by decide) ?_
      refine g_iload_n E dX13_eatsAsked_27 rfl rfl rfl ?_
      have y14 := (hV.fr  (fun j9 a9 b9 => f1 j9 (by omega)))
      have x15 := (f1 (2003) (by omega)).trans (hX_a)
      refine g_callV (k := 2000) (n9 := 2) (av := [.int 1, .int dy]) (st := []) E (ct_X13_asks l true dy hw hM2 y14 (⟨_, x15⟩)) gciX13 dX13_eatsAsked_28 h1 q2233 q2235 qs87 q135 q2236 (by decide +kernel) rfl rfl ⟨by decide, by decide⟩ ⟨by decide, by decide⟩ (Nat.le_of_ble_eq_true rfl) rfl (gPi.k (fun g16 h16 => ?_))
      obtain ⟨ha16, hx16, f16⟩ := h16
      have hx16_o := hx16
      obtain ⟨hx16_f, hx16_a⟩ := hx16_o
      refine g_istore E dX13_eatsAsked_31 (by decide) rfl (lo1 := [some (.ref 2000), some (.int (nI t)), some (.int (nI k9)), some (.int dy), some (.int (qWy true dy))]) rfl rfl ?_
      refine g_iload E dX13_eatsAsked_33 rfl rfl ?_
      refine g_if_le E dX13_eatsAsked_35 (tgt := 45) (by decide) rfl (fun c35 => ?_) (fun c35 => ?_)
      · have c35 := qWy_le (c35)
        have hr17 := ha16 c35
        have q18 := (qWy_0.mp c35).1
        have q18_z := (qWy_0.mp c35).2
        have hr17_o := hr17
        obtain ⟨hr17_f, hr17_a, hr17_r, hr17_d⟩ := hr17_o
        refine g_aload_n E dX13_eatsAsked_45 rfl rfl rfl ?_
        refine g_iload_n E dX13_eatsAsked_46 rfl rfl rfl ?_
        refine g_iload_n E dX13_eatsAsked_47 rfl rfl rfl ?_
        refine g_iload_n E dX13_eatsAsked_48 rfl rfl rfl ?_
        have x19 := (f16 (2000) (by omega)).trans (h1)
        have hM20 : pMq g16 (.ref mb) 0 tr wh tp fa ac mk [] := ⟨_, x19, rfl, hM_1, hM_2, hM_3, hM_5, hM_6, hM_12, hM_15, hM_16, hM_17, hM_18, hM_19, hM_20, hM_26, hM_28, hM_29, trivial⟩
        have y21 := (y3.fr  (fun j9 a9 b9 => f16 j9 (by omega)))
        have y22 := (y14.fr  (fun j9 a9 b9 => f16 j9 (by omega)))
        refine g_callV (k := 2000) (n9 := 3) (av := [.int (nI t), .int (nI k9), .int dy]) (st := []) E (ct_X13_eatsBest l t k9 dy hw hM20 y21 y22 (⟨_, hr17_a⟩) (by omega) (by omega) (by omega) q18_z hH) gciX13 dX13_eatsAsked_49 x19 q2345 q2347 qs100 q135 q2348 (by decide +kernel) rfl rfl ⟨by decide, by decide⟩ ⟨by decide, by decide⟩ (Nat.le_of_ble_eq_true rfl) rfl (gPn.k (fun g23 h23 => ?_))
        obtain ⟨hm23, hx23, f23⟩ := h23
        have hm23_o := hm23
        obtain ⟨hm23_F, hm23_a, hm23_0, hm23_1, hm23_2, hm23_3, hm23_5, hm23_6, hm23_12, hm23_15, hm23_16, hm23_17, hm23_18, hm23_19, hm23_20, hm23_26, hm23_28, hm23_29, hm23_22, hm23_23, -⟩ := hm23_o
        have hx23_o := hx23
        obtain ⟨hx23_f, hx23_a⟩ := hx23_o
        refine g_aload_n E dX13_eatsAsked_52 rfl rfl rfl ?_
        refine g_aload_n E dX13_eatsAsked_53 rfl rfl rfl ?_
        refine g_getf E gciX13 dX13_eatsAsked_54 hm23_a 22 rfl (by decide) q1762 (.inl rfl) (.int ((zChs true B R t k9 (d + dy) (2 ^ B 0 3)).2)) (hm23_22) rfl ?_
        have hM24 : pMq g23 (.ref mb) 0 tr wh tp fa ac mk [] := ⟨_, hm23_a, hm23_0, hm23_1, hm23_2, hm23_3, hm23_5, hm23_6, hm23_12, hm23_15, hm23_16, hm23_17, hm23_18, hm23_19, hm23_20, hm23_26, hm23_28, hm23_29, trivial⟩
        refine g_callV (k := 2000) (n9 := 1) (av := [.int ((zChs true B R t k9 (d + dy) (2 ^ B 0 3)).2)]) (st := []) E (ct_X13_fine l ((zChs true B R t k9 (d + dy) (2 ^ B 0 3)).2) hM24) gciX13 dX13_eatsAsked_57 hm23_a q2181 q2183 qs80 q135 q2184 (by decide +kernel) rfl rfl ⟨by decide, by decide⟩ ⟨by decide, by decide⟩ (Nat.le_of_ble_eq_true rfl) rfl (gPi.k (fun g25 h25 => ?_))
        obtain ⟨hm25, f25⟩ := h25
        have hm25_o := hm25
        obtain ⟨hm25_F, hm25_a, hm25_0, hm25_1, hm25_2, hm25_3, hm25_5, hm25_6, hm25_12, hm25_15, hm25_16, hm25_17, hm25_18, hm25_19, hm25_20, hm25_26, hm25_28, hm25_29, -⟩ := hm25_o
        have hs26 : sCh true B R d (nI t) (nI k9) dy (fun s => s.2) = ((zChs true B R t k9 (d + dy) (2 ^ B 0 3)).2, 0) := by first | (simp [sCh, sX, c11, q8, c19, q13, c35, q18_z]; done) | (simp [sCh, sX, c11, q8, c19, q13, c35, q18_z, qWy]; done)
        have x27 := (f25 (2003) (by omega)).trans (hx23_a)
        exact g_iret E Rt dX13_eatsAsked_60 rfl (by decide) (by decide) (by rw [hs26]; exact ⟨rfl, ⟨_, hm25_a, hm25_0, hm25_1, hm25_2, hm25_3, hm25_5, hm25_6, hm25_12, hm25_15, hm25_16, hm25_17, hm25_18, hm25_19, hm25_20, hm25_26, hm25_28, hm25_29, trivial⟩, ⟨_, x27⟩, fun j9 h9 => (((f25 j9 (by omega)).trans (f23 j9 (by omega))).trans (f16 j9 (by omega))).trans (f1 j9 (by omega))⟩)
      · have c35 := qWy_gt (c35)
        refine g_aload_n E dX13_eatsAsked_38 rfl rfl rfl ?_
        refine g_iload E dX13_eatsAsked_39 rfl rfl ?_
        have x28 := (f16 (2000) (by omega)).trans (h1)
        have hM29 : pMq g16 (.ref mb) 0 tr wh tp fa ac mk [] := ⟨_, x28, rfl, hM_1, hM_2, hM_3, hM_5, hM_6, hM_12, hM_15, hM_16, hM_17, hM_18, hM_19, hM_20, hM_26, hM_28, hM_29, trivial⟩
        refine g_callV (k := 2000) (n9 := 1) (av := [.int (qWy true dy)]) (st := []) E (ct_X13_refused l (qWy true dy) hM29) gciX13 dX13_eatsAsked_41 x28 q1846 q1848 qs52 q135 q1849 (by decide +kernel) rfl rfl ⟨by decide, by decide⟩ ⟨by decide, by decide⟩ (Nat.le_of_ble_eq_true rfl) rfl (gPi.k (fun g30 h30 => ?_))
        obtain ⟨hm30, f30⟩ := h30
        have hm30_o := hm30
        obtain ⟨hm30_F, hm30_a, hm30_0, hm30_1, hm30_2, hm30_3, hm30_5, hm30_6, hm30_12, hm30_15, hm30_16, hm30_17, hm30_18, hm30_19, hm30_20, hm30_26, hm30_28, hm30_29, -⟩ := hm30_o
        have hs31 : sCh true B R d (nI t) (nI k9) dy (fun s => s.2) = ((-1), qWy true dy) := by first | (simp [sCh, sX, c11, q8, c19, q13, c35]; done) | (simp [sCh, sX, c11, q8, c19, q13, c35, qWy]; done)
        have x32 := (f30 (2003) (by omega)).trans (hx16_a)
        exact g_iret E Rt dX13_eatsAsked_44 rfl (by decide) (by decide) (by rw [hs31]; exact ⟨rfl, ⟨_, hm30_a, hm30_0, hm30_1, hm30_2, hm30_3, hm30_5, hm30_6, hm30_12, hm30_15, hm30_16, hm30_17, hm30_18, hm30_19, hm30_20, hm30_26, hm30_28, hm30_29, trivial⟩, ⟨_, x32⟩, fun j9 h9 => ((f30 j9 (by omega)).trans (f16 j9 (by omega))).trans (f1 j9 (by omega))⟩)
set_option maxHeartbeats 1000000 in
theorem ct_X13_eatsAsked_N (l : Launch) {g : gWM} {th tr wh fa : Int32} {tp ac mk : Nat} (p : Int32) (q : Int32) (dy : Int32) (hM : pMq g .null th tr wh tp fa ac mk []) : gCt l yX13_eatsAsked cX13_eatsAsked 5 (some .int) 1 0 0 22 [.ref 2000, .int p, .int q, .int dy] g (gPi (sCh true zB0 (fun _ => 0) 0 p q dy (fun s => s.2)).1 (fun g1 => pMq g1 .null 0 ((sCh true zB0 (fun _ => 0) 0 p q dy (fun s => s.2)).2) (-1) tp fa ac mk [] ∧ ∀ j, j ≠ 2000 → g1 j = g j)) := by
  refine gCt.of RX13 (by decide) rfl (lo := [some (.ref 2000), some (.int p), some (.int q), some (.int dy), none]) 1 rfl (Nat.le_of_ble_eq_true rfl) (fun z E Rt => ?_)
  have hM_o := hM
  obtain ⟨hM_F, hM_a, hM_0, hM_1, hM_2, hM_3, hM_5, hM_6, hM_12, hM_15, hM_16, hM_17, hM_18, hM_19, hM_20, hM_26, hM_28, hM_29, -⟩ := hM_o
  refine g_aload_n E dX13_eatsAsked_0 rfl rfl rfl ?_
  refine g_iconst E (v := 0) dX13_eatsAsked_1 (by decide) rfl ?_
  refine g_putf E gciX13 (v := .int 0) dX13_eatsAsked_2 hM_a 0 rfl (by decide) q1740 (.inl rfl) rfl (fun _ => rfl) (fun _ => rfl) rfl (g_upk (fun g1 h1 f1 => ?_))
  refine g_aload_n E dX13_eatsAsked_5 rfl rfl rfl ?_
  refine g_aload_n E dX13_eatsAsked_6 rfl rfl rfl ?_
  refine g_iload_n E dX13_eatsAsked_7 rfl rfl rfl ?_
  have hM2 : pMq g1 .null 0 tr wh tp fa ac mk [] := ⟨_, h1, rfl, hM_1, hM_2, hM_3, hM_5, hM_6, hM_12, hM_15, hM_16, hM_17, hM_18, hM_19, hM_20, hM_26, hM_28, hM_29, trivial⟩
  refine g_callV (k := 2000) (n9 := 1) (av := [.int p]) (st := [.ref 2000]) E (ct_X13_isTraveller_N l p hM2) gciX13 dX13_eatsAsked_8 h1 q2209 q2211 qs83 q135 q2212 (by decide +kernel) rfl rfl ⟨by decide, by decide⟩ ⟨by decide, by decide⟩ (Nat.le_of_ble_eq_true rfl) rfl (gPu.k ?_)
  refine g_if_eq E dX13_eatsAsked_11 (tgt := 26) (by decide) rfl (fun _ => ?_) (fun h9 => absurd h9 (by decide))
  refine g_iconst E (v := 0) dX13_eatsAsked_26 (by decide) rfl ?_
  refine g_iload_n E dX13_eatsAsked_27 rfl rfl rfl ?_
  refine g_callV (k := 2000) (n9 := 2) (av := [.int 0, .int dy]) (st := []) E (ct_X13_asks_F l dy hM2) gciX13 dX13_eatsAsked_28 h1 q2233 q2235 qs87 q135 q2236 (by decide +kernel) rfl rfl ⟨by decide, by decide⟩ ⟨by decide, by decide⟩ (Nat.le_of_ble_eq_true rfl) rfl (gPu.k ?_)
  refine g_istore E dX13_eatsAsked_31 (by decide) rfl (lo1 := [some (.ref 2000), some (.int p), some (.int q), some (.int dy), some (.int 1)]) rfl rfl ?_
  refine g_iload E dX13_eatsAsked_33 rfl rfl ?_
  refine g_if_le E dX13_eatsAsked_35 (tgt := 45) (by decide) rfl (fun h9 => absurd h9 (by decide)) (fun _ => ?_)
  refine g_aload_n E dX13_eatsAsked_38 rfl rfl rfl ?_
  refine g_iload E dX13_eatsAsked_39 rfl rfl ?_
  refine g_callV (k := 2000) (n9 := 1) (av := [.int 1]) (st := []) E (ct_X13_refused l 1 hM2) gciX13 dX13_eatsAsked_41 h1 q1846 q1848 qs52 q135 q1849 (by decide +kernel) rfl rfl ⟨by decide, by decide⟩ ⟨by decide, by decide⟩ (Nat.le_of_ble_eq_true rfl) rfl (gPi.k (fun g3 h3 => ?_))
  obtain ⟨hm3, f3⟩ := h3
  have hm3_o := hm3
  obtain ⟨hm3_F, hm3_a, hm3_0, hm3_1, hm3_2, hm3_3, hm3_5, hm3_6, hm3_12, hm3_15, hm3_16, hm3_17, hm3_18, hm3_19, hm3_20, hm3_26, hm3_28, hm3_29, -⟩ := hm3_o
  have hs4 : sCh true zB0 (fun _ => 0) 0 p q dy (fun s => s.2) = ((-1), 1) := by first | (simp [sCh, sX, qI_z, qWy]; done) | (simp [sCh, sX, qI_z, qWy, qWy]; done)
  exact g_iret E Rt dX13_eatsAsked_44 rfl (by decide) (by decide) (by rw [hs4]; exact ⟨rfl, ⟨_, hm3_a, hm3_0, hm3_1, hm3_2, hm3_3, hm3_5, hm3_6, hm3_12, hm3_15, hm3_16, hm3_17, hm3_18, hm3_19, hm3_20, hm3_26, hm3_28, hm3_29, trivial⟩, fun j9 h9 => (f3 j9 (by omega)).trans (f1 j9 (by omega))⟩)
set_option maxHeartbeats 1000000 in
theorem ct_X13_hideBest (l : Launch) {g : gWM} {mb : Nat} {B : gBar} {R : Nat → Int32} {d : Int32} {th tr wh fa : Int32} {tp ac mk : Nat} (p : Int32) (q : Int32) (dy : Int32) (hw : wfB B) (hM : pMq g (.ref mb) th tr wh tp fa ac mk []) (hMb : pMb g mb B) (hV : pRw g 2002 B R d) (hX : pIx g 2003 18) (h9 : 10000 ≤ mb) : gCt l yX13_hideBest cX13_hideBest 5 (some .int) 7 0 0 166 [.ref 2000, .int p, .int q, .int dy] g (gPi (sCh false B R d p q dy (fun s => nI s.1)).1 (fun g1 => pMq g1 (.ref mb) 0 ((sCh false B R d p q dy (fun s => nI s.1)).2) (-1) tp fa ac mk [] ∧ pIx g1 2003 18 ∧ ∀ j, (j ≠ 2000 ∧ j ≠ 2003) → g1 j = g j)) := by
  refine gCt.of RX13 (by decide) rfl (lo := [some (.ref 2000), some (.int p), some (.int q), some (.int dy), none]) 1 rfl (Nat.le_of_ble_eq_true rfl) (fun z E Rt => ?_)
  have hw_n := hw.1
  have hM_o := hM
  obtain ⟨hM_F, hM_a, hM_0, hM_1, hM_2, hM_3, hM_5, hM_6, hM_12, hM_15, hM_16, hM_17, hM_18, hM_19, hM_20, hM_26, hM_28, hM_29, -⟩ := hM_o
  have hMb_o := hMb
  obtain ⟨⟨hMb_F, hMb_a, hMb_0, hMb_1, hMb_2, hMb_3, hMb_4, hMb_5, hMb_6, hMb_7, hMb_8, hMb_9, hMb_11, hMb_12, hMb_13, hMb_14, hMb_15, hMb_16, hMb_17, hMb_18, hMb_19, hMb_20, hMb_21, hMb_22, hMb_23, hMb_24, hMb_25, hMb_26, hMb_27, hMb_28, hMb_29, hMb_30, hMb_31⟩, ⟨hMb_f1, hMb_a1, hMb_b1⟩, ⟨hMb_f2, hMb_a2, hMb_b2⟩, ⟨hMb_f3, hMb_a3, hMb_b3⟩, ⟨hMb_f4, hMb_a4, hMb_b4⟩, ⟨hMb_f5, hMb_a5, hMb_b5⟩, ⟨hMb_f6, hMb_a6, hMb_b6⟩, ⟨hMb_f7, hMb_a7, hMb_b7⟩, ⟨hMb_f8, hMb_a8, hMb_b8⟩, ⟨hMb_f9, hMb_a9, hMb_b9⟩, ⟨hMb_f10, hMb_a10, hMb_b10⟩, ⟨hMb_f11, hMb_a11, hMb_b11⟩, ⟨hMb_f12, hMb_a12, hMb_b12⟩, ⟨hMb_f13, hMb_a13, hMb_b13⟩, ⟨hMb_f14, hMb_a14, hMb_b14⟩, ⟨hMb_f15, hMb_a15, hMb_b15⟩, ⟨hMb_f16, hMb_a16, hMb_b16⟩, ⟨hMb_f17, hMb_a17, hMb_b17⟩, ⟨hMb_f18, hMb_a18, hMb_b18⟩, ⟨hMb_f19, hMb_a19, hMb_b19⟩, ⟨hMb_f20, hMb_a20, hMb_b20⟩, ⟨hMb_f21, hMb_a21, hMb_b21⟩⟩ := hMb_o
  have hV_o := hV
  obtain ⟨hV_f, hV_a, hV_r, hV_d⟩ := hV_o
  have hX_o := hX
  obtain ⟨hX_f, hX_a⟩ := hX_o
  refine g_aload_n E dX13_hideBest_0 rfl rfl rfl ?_
  refine g_iconst E (v := 0) dX13_hideBest_1 (by decide) rfl ?_
  refine g_putf E gciX13 (v := .int 0) dX13_hideBest_2 hM_a 0 rfl (by decide) q1740 (.inl rfl) rfl (fun _ => rfl) (fun _ => rfl) rfl (g_upk (fun g1 h1 f1 => ?_))
  refine g_aload_n E dX13_hideBest_5 rfl rfl rfl ?_
  refine g_aload_n E dX13_hideBest_6 rfl rfl rfl ?_
  refine g_iload_n E dX13_hideBest_7 rfl rfl rfl ?_
  have hM2 : pMq g1 (.ref mb) 0 tr wh tp fa ac mk [] := ⟨_, h1, rfl, hM_1, hM_2, hM_3, hM_5, hM_6, hM_12, hM_15, hM_16, hM_17, hM_18, hM_19, hM_20, hM_26, hM_28, hM_29, trivial⟩
  have y3 := (hMb.fr  (fun j9 a9 b9 => f1 j9 (by omega)))
  refine g_callV (k := 2000) (n9 := 1) (av := [.int p]) (st := [.ref 2000]) E (ct_X13_isTraveller l p hw hM2 y3) gciX13 dX13_hideBest_8 h1 q2209 q2211 qs83 q135 q2212 (by decide +kernel) rfl rfl ⟨by decide, by decide⟩ ⟨by decide, by decide⟩ (Nat.le_of_ble_eq_true rfl) rfl (gPu.k ?_)
  refine g_if_eq E dX13_hideBest_11 (tgt := 26) (by decide) rfl (fun c11 => ?_) (fun c11 => ?_)
  · have c11 := zb_0.mp c11
    have q4 := isNone_of c11
    refine g_iconst E (v := 0) dX13_hideBest_26 (by decide) rfl ?_
    refine g_iload_n E dX13_hideBest_27 rfl rfl rfl ?_
    refine g_callV (k := 2000) (n9 := 2) (av := [.int 0, .int dy]) (st := []) E (ct_X13_asks_F l dy hM2) gciX13 dX13_hideBest_28 h1 q2233 q2235 qs87 q135 q2236 (by decide +kernel) rfl rfl ⟨by decide, by decide⟩ ⟨by decide, by decide⟩ (Nat.le_of_ble_eq_true rfl) rfl (gPu.k ?_)
    refine g_istore E dX13_hideBest_31 (by decide) rfl (lo1 := [some (.ref 2000), some (.int p), some (.int q), some (.int dy), some (.int 1)]) rfl rfl ?_
    refine g_iload E dX13_hideBest_33 rfl rfl ?_
    refine g_if_le E dX13_hideBest_35 (tgt := 45) (by decide) rfl (fun h9 => absurd h9 (by decide)) (fun _ => ?_)
    refine g_aload_n E dX13_hideBest_38 rfl rfl rfl ?_
    refine g_iload E dX13_hideBest_39 rfl rfl ?_
    refine g_callV (k := 2000) (n9 := 1) (av := [.int 1]) (st := []) E (ct_X13_refused l 1 hM2) gciX13 dX13_hideBest_41 h1 q1846 q1848 qs52 q135 q1849 (by decide +kernel) rfl rfl ⟨by decide, by decide⟩ ⟨by decide, by decide⟩ (Nat.le_of_ble_eq_true rfl) rfl (gPi.k (fun g5 h5 => ?_))
    obtain ⟨hm5, f5⟩ := h5
    have hm5_o := hm5
    obtain ⟨hm5_F, hm5_a, hm5_0, hm5_1, hm5_2, hm5_3, hm5_5, hm5_6, hm5_12, hm5_15, hm5_16, hm5_17, hm5_18, hm5_19, hm5_20, hm5_26, hm5_28, hm5_29, -⟩ := hm5_o
    have hs6 : sCh false B R d p q dy (fun s => nI s.1) = ((-1), 1) := by first | (simp [sCh, sX, c11, q4]; done) | (simp [sCh, sX, c11, q4, qWy]; done)
    have x7 := (f5 (2003) (by omega)).trans ((f1 (2003) (by omega)).trans (hX_a))
    exact g_iret E Rt dX13_hideBest_44 rfl (by decide) (by decide) (by rw [hs6]; exact ⟨rfl, ⟨_, hm5_a, hm5_0, hm5_1, hm5_2, hm5_3, hm5_5, hm5_6, hm5_12, hm5_15, hm5_16, hm5_17, hm5_18, hm5_19, hm5_20, hm5_26, hm5_28, hm5_29, trivial⟩, ⟨_, x7⟩, fun j9 h9 => (f5 j9 (by omega)).trans (f1 j9 (by omega))⟩)
  · have c11 := zb_n0.mp c11
    obtain ⟨t, q8⟩ := isSome_of c11
    obtain ⟨rfl, q8_l⟩ := qI_some (by omega) q8
    refine g_aload_n E dX13_hideBest_14 rfl rfl rfl ?_
    refine g_iload_n E dX13_hideBest_15 rfl rfl rfl ?_
    refine g_callV (k := 2000) (n9 := 1) (av := [.int q]) (st := [.ref 2000]) E (ct_X13_isGate l q hw hM2 y3) gciX13 dX13_hideBest_16 h1 q2225 q2227 qs86 q135 q2228 (by decide +kernel) rfl rfl ⟨by decide, by decide⟩ ⟨by decide, by decide⟩ (Nat.le_of_ble_eq_true rfl) rfl (gPu.k ?_)
    refine g_if_eq E dX13_hideBest_19 (tgt := 26) (by decide) rfl (fun c19 => ?_) (fun c19 => ?_)
    · have c19 := zb_0.mp c19
      have q9 := isNone_of c19
      refine g_iconst E (v := 0) dX13_hideBest_26 (by decide) rfl ?_
      refine g_iload_n E dX13_hideBest_27 rfl rfl rfl ?_
      refine g_callV (k := 2000) (n9 := 2) (av := [.int 0, .int dy]) (st := []) E (ct_X13_asks_F l dy hM2) gciX13 dX13_hideBest_28 h1 q2233 q2235 qs87 q135 q2236 (by decide +kernel) rfl rfl ⟨by decide, by decide⟩ ⟨by decide, by decide⟩ (Nat.le_of_ble_eq_true rfl) rfl (gPu.k ?_)
      refine g_istore E dX13_hideBest_31 (by decide) rfl (lo1 := [some (.ref 2000), some (.int (nI t)), some (.int q), some (.int dy), some (.int 1)]) rfl rfl ?_
      refine g_iload E dX13_hideBest_33 rfl rfl ?_
      refine g_if_le E dX13_hideBest_35 (tgt := 45) (by decide) rfl (fun h9 => absurd h9 (by decide)) (fun _ => ?_)
      refine g_aload_n E dX13_hideBest_38 rfl rfl rfl ?_
      refine g_iload E dX13_hideBest_39 rfl rfl ?_
      refine g_callV (k := 2000) (n9 := 1) (av := [.int 1]) (st := []) E (ct_X13_refused l 1 hM2) gciX13 dX13_hideBest_41 h1 q1846 q1848 qs52 q135 q1849 (by decide +kernel) rfl rfl ⟨by decide, by decide⟩ ⟨by decide, by decide⟩ (Nat.le_of_ble_eq_true rfl) rfl (gPi.k (fun g10 h10 => ?_))
      obtain ⟨hm10, f10⟩ := h10
      have hm10_o := hm10
      obtain ⟨hm10_F, hm10_a, hm10_0, hm10_1, hm10_2, hm10_3, hm10_5, hm10_6, hm10_12, hm10_15, hm10_16, hm10_17, hm10_18, hm10_19, hm10_20, hm10_26, hm10_28, hm10_29, -⟩ := hm10_o
      have hs11 : sCh false B R d (nI t) q dy (fun s => nI s.1) = ((-1), 1) := by first | (simp [sCh, sX, c11, q8, c19, q9]; done) | (simp [sCh, sX, c11, q8, c19, q9, qWy]; done)
      have x12 := (f10 (2003) (by omega)).trans ((f1 (2003) (by omega)).trans (hX_a))
      exact g_iret E Rt dX13_hideBest_44 rfl (by decide) (by decide) (by rw [hs11]; exact ⟨rfl, ⟨_, hm10_a, hm10_0, hm10_1, hm10_2, hm10_3, hm10_5, hm10_6, hm10_12, hm10_15, hm10_16, hm10_17, hm10_18, hm10_19, hm10_20, hm10_26, hm10_28, hm10_29, trivial⟩, ⟨_, x12⟩, fun j9 h9 => (f10 j9 (by omega)).trans (f1 j9 (by omega))⟩)
    · have c19 := zb_n0.mp c19
      obtain ⟨k9, q13⟩ := isSome_of c19
      obtain ⟨rfl, q13_l⟩ := qI_some (by omega) q13
      refine g_iconst E (v := 1) dX13_hideBest_22 (by decide) rfl ?_
      refine g_goto E dX13_hideBest_23 (tgt := 27) (by decide) ?_
      refine g_iload_n E dX13_hideBest_27 rfl rfl rfl ?_
      have y14 := (hV.fr  (fun j9 a9 b9 => f1 j9 (by omega)))
      have x15 := (f1 (2003) (by omega)).trans (hX_a)
      refine g_callV (k := 2000) (n9 := 2) (av := [.int 1, .int dy]) (st := []) E (ct_X13_asks l true dy hw hM2 y14 (⟨_, x15⟩)) gciX13 dX13_hideBest_28 h1 q2233 q2235 qs87 q135 q2236 (by decide +kernel) rfl rfl ⟨by decide, by decide⟩ ⟨by decide, by decide⟩ (Nat.le_of_ble_eq_true rfl) rfl (gPi.k (fun g16 h16 => ?_))
      obtain ⟨ha16, hx16, f16⟩ := h16
      have hx16_o := hx16
      obtain ⟨hx16_f, hx16_a⟩ := hx16_o
      refine g_istore E dX13_hideBest_31 (by decide) rfl (lo1 := [some (.ref 2000), some (.int (nI t)), some (.int (nI k9)), some (.int dy), some (.int (qWy true dy))]) rfl rfl ?_
      refine g_iload E dX13_hideBest_33 rfl rfl ?_
      refine g_if_le E dX13_hideBest_35 (tgt := 45) (by decide) rfl (fun c35 => ?_) (fun c35 => ?_)
      · have c35 := qWy_le (c35)
        have hr17 := ha16 c35
        have q18 := (qWy_0.mp c35).1
        have q18_z := (qWy_0.mp c35).2
        have hr17_o := hr17
        obtain ⟨hr17_f, hr17_a, hr17_r, hr17_d⟩ := hr17_o
        refine g_aload_n E dX13_hideBest_45 rfl rfl rfl ?_
        refine g_iload_n E dX13_hideBest_46 rfl rfl rfl ?_
        refine g_iload_n E dX13_hideBest_47 rfl rfl rfl ?_
        refine g_iload_n E dX13_hideBest_48 rfl rfl rfl ?_
        have x19 := (f16 (2000) (by omega)).trans (h1)
        have hM20 : pMq g16 (.ref mb) 0 tr wh tp fa ac mk [] := ⟨_, x19, rfl, hM_1, hM_2, hM_3, hM_5, hM_6, hM_12, hM_15, hM_16, hM_17, hM_18, hM_19, hM_20, hM_26, hM_28, hM_29, trivial⟩
        have y21 := (y3.fr  (fun j9 a9 b9 => f16 j9 (by omega)))
        have y22 := (y14.fr  (fun j9 a9 b9 => f16 j9 (by omega)))
        refine g_callV (k := 2000) (n9 := 3) (av := [.int (nI t), .int (nI k9), .int dy]) (st := []) E (ct_X13_hidesBest l t k9 dy hw hM20 y21 y22 (⟨_, hr17_a⟩) (by omega) (by omega) (by omega) q18_z) gciX13 dX13_hideBest_49 x19 q2364 q2366 qs102 q135 q2367 (by decide +kernel) rfl rfl ⟨by decide, by decide⟩ ⟨by decide, by decide⟩ (Nat.le_of_ble_eq_true rfl) rfl (gPn.k (fun g23 h23 => ?_))
        obtain ⟨hm23, hx23, f23⟩ := h23
        have hm23_o := hm23
        obtain ⟨hm23_F, hm23_a, hm23_0, hm23_1, hm23_2, hm23_3, hm23_5, hm23_6, hm23_12, hm23_15, hm23_16, hm23_17, hm23_18, hm23_19, hm23_20, hm23_26, hm23_28, hm23_29, hm23_22, hm23_23, -⟩ := hm23_o
        have hx23_o := hx23
        obtain ⟨hx23_f, hx23_a⟩ := hx23_o
        refine g_aload_n E dX13_hideBest_52 rfl rfl rfl ?_
        refine g_aload_n E dX13_hideBest_53 rfl rfl rfl ?_
        refine g_getf E gciX13 dX13_hideBest_54 hm23_a 23 rfl (by decide) q1763 (.inl rfl) (.int (nI (zChs false B R t k9 (d + dy) (2 ^ B 0 3)).1)) (hm23_23) rfl ?_
        have hM24 : pMq g23 (.ref mb) 0 tr wh tp fa ac mk [] := ⟨_, hm23_a, hm23_0, hm23_1, hm23_2, hm23_3, hm23_5, hm23_6, hm23_12, hm23_15, hm23_16, hm23_17, hm23_18, hm23_19, hm23_20, hm23_26, hm23_28, hm23_29, trivial⟩
        refine g_callV (k := 2000) (n9 := 1) (av := [.int (nI (zChs false B R t k9 (d + dy) (2 ^ B 0 3)).1)]) (st := []) E (ct_X13_fine l (nI (zChs false B R t k9 (d + dy) (2 ^ B 0 3)).1) hM24) gciX13 dX13_hideBest_57 hm23_a q2181 q2183 qs80 q135 q2184 (by decide +kernel) rfl rfl ⟨by decide, by decide⟩ ⟨by decide, by decide⟩ (Nat.le_of_ble_eq_true rfl) rfl (gPi.k (fun g25 h25 => ?_))
        obtain ⟨hm25, f25⟩ := h25
        have hm25_o := hm25
        obtain ⟨hm25_F, hm25_a, hm25_0, hm25_1, hm25_2, hm25_3, hm25_5, hm25_6, hm25_12, hm25_15, hm25_16, hm25_17, hm25_18, hm25_19, hm25_20, hm25_26, hm25_28, hm25_29, -⟩ := hm25_o
        have hs26 : sCh false B R d (nI t) (nI k9) dy (fun s => nI s.1) = (nI (zChs false B R t k9 (d + dy) (2 ^ B 0 3)).1, 0) := by first | (simp [sCh, sX, c11, q8, c19, q13, c35, q18_z]; done) | (simp [sCh, sX, c11, q8, c19, q13, c35, q18_z, qWy]; done)
        have x27 := (f25 (2003) (by omega)).trans (hx23_a)
        exact g_iret E Rt dX13_hideBest_60 rfl (by decide) (by decide) (by rw [hs26]; exact ⟨rfl, ⟨_, hm25_a, hm25_0, hm25_1, hm25_2, hm25_3, hm25_5, hm25_6, hm25_12, hm25_15, hm25_16, hm25_17, hm25_18, hm25_19, hm25_20, hm25_26, hm25_28, hm25_29, trivial⟩, ⟨_, x27⟩, fun j9 h9 => (((f25 j9 (by omega)).trans (f23 j9 (by omega))).trans (f16 j9 (by omega))).trans (f1 j9 (by omega))⟩)
      · have c35 := qWy_gt (c35)
        refine g_aload_n E dX13_hideBest_38 rfl rfl rfl ?_
        refine g_iload E dX13_hideBest_39 rfl rfl ?_
        have x28 := (f16 (2000) (by omega)).trans (h1)
        have hM29 : pMq g16 (.ref mb) 0 tr wh tp fa ac mk [] := ⟨_, x28, rfl, hM_1, hM_2, hM_3, hM_5, hM_6, hM_12, hM_15, hM_16, hM_17, hM_18, hM_19, hM_20, hM_26, hM_28, hM_29, trivial⟩
        refine g_callV (k := 2000) (n9 := 1) (av := [.int (qWy true dy)]) (st := []) E (ct_X13_refused l (qWy true dy) hM29) gciX13 dX13_hideBest_41 x28 q1846 q1848 qs52 q135 q1849 (by decide +kernel) rfl rfl ⟨by decide, by decide⟩ ⟨by decide, by decide⟩ (Nat.le_of_ble_eq_true rfl) rfl (gPi.k (fun g30 h30 => ?_))
        obtain ⟨hm30, f30⟩ := h30
        have hm30_o := hm30
        obtain ⟨hm30_F, hm30_a, hm30_0, hm30_1, hm30_2, hm30_3, hm30_5, hm30_6, hm30_12, hm30_15, hm30_16, hm30_17, hm30_18, hm30_19, hm30_20, hm30_26, hm30_28, hm30_29, -⟩ := hm30_o
        have hs31 : sCh false B R d (nI t) (nI k9) dy (fun s => nI s.1) = ((-1), qWy true dy) := by first | (simp [sCh, sX, c11, q8, c19, q13, c35]; done) | (simp [sCh, sX, c11, q8, c19, q13, c35, qWy]; done)
        have x32 := (f30 (2003) (by omega)).trans (hx16_a)
        exact g_iret E Rt dX13_hideBest_44 rfl (by decide) (by decide) (by rw [hs31]; exact ⟨rfl, ⟨_, hm30_a, hm30_0, hm30_1, hm30_2, hm30_3, hm30_5, hm30_6, hm30_12, hm30_15, hm30_16, hm30_17, hm30_18, hm30_19, hm30_20, hm30_26, hm30_28, hm30_29, trivial⟩, ⟨_, x32⟩, fun j9 h9 => ((f30 j9 (by omega)).trans (f16 j9 (by omega))).trans (f1 j9 (by omega))⟩)
set_option maxHeartbeats 1000000 in
theorem ct_X13_hideBest_N (l : Launch) {g : gWM} {th tr wh fa : Int32} {tp ac mk : Nat} (p : Int32) (q : Int32) (dy : Int32) (hM : pMq g .null th tr wh tp fa ac mk []) : gCt l yX13_hideBest cX13_hideBest 5 (some .int) 1 0 0 22 [.ref 2000, .int p, .int q, .int dy] g (gPi (sCh false zB0 (fun _ => 0) 0 p q dy (fun s => nI s.1)).1 (fun g1 => pMq g1 .null 0 ((sCh false zB0 (fun _ => 0) 0 p q dy (fun s => nI s.1)).2) (-1) tp fa ac mk [] ∧ ∀ j, j ≠ 2000 → g1 j = g j)) := by
  refine gCt.of RX13 (by decide) rfl (lo := [some (.ref 2000), some (.int p), some (.int q), some (.int dy), none]) 1 rfl (Nat.le_of_ble_eq_true rfl) (fun z E Rt => ?_)
  have hM_o := hM
  obtain ⟨hM_F, hM_a, hM_0, hM_1, hM_2, hM_3, hM_5, hM_6, hM_12, hM_15, hM_16, hM_17, hM_18, hM_19, hM_20, hM_26, hM_28, hM_29, -⟩ := hM_o
  refine g_aload_n E dX13_hideBest_0 rfl rfl rfl ?_
  refine g_iconst E (v := 0) dX13_hideBest_1 (by decide) rfl ?_
  refine g_putf E gciX13 (v := .int 0) dX13_hideBest_2 hM_a 0 rfl (by decide) q1740 (.inl rfl) rfl (fun _ => rfl) (fun _ => rfl) rfl (g_upk (fun g1 h1 f1 => ?_))
  refine g_aload_n E dX13_hideBest_5 rfl rfl rfl ?_
  refine g_aload_n E dX13_hideBest_6 rfl rfl rfl ?_
  refine g_iload_n E dX13_hideBest_7 rfl rfl rfl ?_
  have hM2 : pMq g1 .null 0 tr wh tp fa ac mk [] := ⟨_, h1, rfl, hM_1, hM_2, hM_3, hM_5, hM_6, hM_12, hM_15, hM_16, hM_17, hM_18, hM_19, hM_20, hM_26, hM_28, hM_29, trivial⟩
  refine g_callV (k := 2000) (n9 := 1) (av := [.int p]) (st := [.ref 2000]) E (ct_X13_isTraveller_N l p hM2) gciX13 dX13_hideBest_8 h1 q2209 q2211 qs83 q135 q2212 (by decide +kernel) rfl rfl ⟨by decide, by decide⟩ ⟨by decide, by decide⟩ (Nat.le_of_ble_eq_true rfl) rfl (gPu.k ?_)
  refine g_if_eq E dX13_hideBest_11 (tgt := 26) (by decide) rfl (fun _ => ?_) (fun h9 => absurd h9 (by decide))
  refine g_iconst E (v := 0) dX13_hideBest_26 (by decide) rfl ?_
  refine g_iload_n E dX13_hideBest_27 rfl rfl rfl ?_
  refine g_callV (k := 2000) (n9 := 2) (av := [.int 0, .int dy]) (st := []) E (ct_X13_asks_F l dy hM2) gciX13 dX13_hideBest_28 h1 q2233 q2235 qs87 q135 q2236 (by decide +kernel) rfl rfl ⟨by decide, by decide⟩ ⟨by decide, by decide⟩ (Nat.le_of_ble_eq_true rfl) rfl (gPu.k ?_)
  refine g_istore E dX13_hideBest_31 (by decide) rfl (lo1 := [some (.ref 2000), some (.int p), some (.int q), some (.int dy), some (.int 1)]) rfl rfl ?_
  refine g_iload E dX13_hideBest_33 rfl rfl ?_
  refine g_if_le E dX13_hideBest_35 (tgt := 45) (by decide) rfl (fun h9 => absurd h9 (by decide)) (fun _ => ?_)
  refine g_aload_n E dX13_hideBest_38 rfl rfl rfl ?_
  refine g_iload E dX13_hideBest_39 rfl rfl ?_
  refine g_callV (k := 2000) (n9 := 1) (av := [.int 1]) (st := []) E (ct_X13_refused l 1 hM2) gciX13 dX13_hideBest_41 h1 q1846 q1848 qs52 q135 q1849 (by decide +kernel) rfl rfl ⟨by decide, by decide⟩ ⟨by decide, by decide⟩ (Nat.le_of_ble_eq_true rfl) rfl (gPi.k (fun g3 h3 => ?_))
  obtain ⟨hm3, f3⟩ := h3
  have hm3_o := hm3
  obtain ⟨hm3_F, hm3_a, hm3_0, hm3_1, hm3_2, hm3_3, hm3_5, hm3_6, hm3_12, hm3_15, hm3_16, hm3_17, hm3_18, hm3_19, hm3_20, hm3_26, hm3_28, hm3_29, -⟩ := hm3_o
  have hs4 : sCh false zB0 (fun _ => 0) 0 p q dy (fun s => nI s.1) = ((-1), 1) := by first | (simp [sCh, sX, qI_z, qWy]; done) | (simp [sCh, sX, qI_z, qWy, qWy]; done)
  exact g_iret E Rt dX13_hideBest_44 rfl (by decide) (by decide) (by rw [hs4]; exact ⟨rfl, ⟨_, hm3_a, hm3_0, hm3_1, hm3_2, hm3_3, hm3_5, hm3_6, hm3_12, hm3_15, hm3_16, hm3_17, hm3_18, hm3_19, hm3_20, hm3_26, hm3_28, hm3_29, trivial⟩, fun j9 h9 => (f3 j9 (by omega)).trans (f1 j9 (by omega))⟩)
set_option maxHeartbeats 1000000 in
theorem ct_X13_hideAsked (l : Launch) {g : gWM} {mb : Nat} {B : gBar} {R : Nat → Int32} {d : Int32} {th tr wh fa : Int32} {tp ac mk : Nat} (p : Int32) (q : Int32) (dy : Int32) (hw : wfB B) (hM : pMq g (.ref mb) th tr wh tp fa ac mk []) (hMb : pMb g mb B) (hV : pRw g 2002 B R d) (hX : pIx g 2003 18) (h9 : 10000 ≤ mb) : gCt l yX13_hideAsked cX13_hideAsked 5 (some .int) 7 0 0 166 [.ref 2000, .int p, .int q, .int dy] g (gPi (sCh false B R d p q dy (fun s => s.2)).1 (fun g1 => pMq g1 (.ref mb) 0 ((sCh false B R d p q dy (fun s => s.2)).2) (-1) tp fa ac mk [] ∧ pIx g1 2003 18 ∧ ∀ j, (j ≠ 2000 ∧ j ≠ 2003) → g1 j = g j)) := by
  refine gCt.of RX13 (by decide) rfl (lo := [some (.ref 2000), some (.int p), some (.int q), some (.int dy), none]) 1 rfl (Nat.le_of_ble_eq_true rfl) (fun z E Rt => ?_)
  have hw_n := hw.1
  have hM_o := hM
  obtain ⟨hM_F, hM_a, hM_0, hM_1, hM_2, hM_3, hM_5, hM_6, hM_12, hM_15, hM_16, hM_17, hM_18, hM_19, hM_20, hM_26, hM_28, hM_29, -⟩ := hM_o
  have hMb_o := hMb
  obtain ⟨⟨hMb_F, hMb_a, hMb_0, hMb_1, hMb_2, hMb_3, hMb_4, hMb_5, hMb_6, hMb_7, hMb_8, hMb_9, hMb_11, hMb_12, hMb_13, hMb_14, hMb_15, hMb_16, hMb_17, hMb_18, hMb_19, hMb_20, hMb_21, hMb_22, hMb_23, hMb_24, hMb_25, hMb_26, hMb_27, hMb_28, hMb_29, hMb_30, hMb_31⟩, ⟨hMb_f1, hMb_a1, hMb_b1⟩, ⟨hMb_f2, hMb_a2, hMb_b2⟩, ⟨hMb_f3, hMb_a3, hMb_b3⟩, ⟨hMb_f4, hMb_a4, hMb_b4⟩, ⟨hMb_f5, hMb_a5, hMb_b5⟩, ⟨hMb_f6, hMb_a6, hMb_b6⟩, ⟨hMb_f7, hMb_a7, hMb_b7⟩, ⟨hMb_f8, hMb_a8, hMb_b8⟩, ⟨hMb_f9, hMb_a9, hMb_b9⟩, ⟨hMb_f10, hMb_a10, hMb_b10⟩, ⟨hMb_f11, hMb_a11, hMb_b11⟩, ⟨hMb_f12, hMb_a12, hMb_b12⟩, ⟨hMb_f13, hMb_a13, hMb_b13⟩, ⟨hMb_f14, hMb_a14, hMb_b14⟩, ⟨hMb_f15, hMb_a15, hMb_b15⟩, ⟨hMb_f16, hMb_a16, hMb_b16⟩, ⟨hMb_f17, hMb_a17, hMb_b17⟩, ⟨hMb_f18, hMb_a18, hMb_b18⟩, ⟨hMb_f19, hMb_a19, hMb_b19⟩, ⟨hMb_f20, hMb_a20, hMb_b20⟩, ⟨hMb_f21, hMb_a21, hMb_b21⟩⟩ := hMb_o
  have hV_o := hV
  obtain ⟨hV_f, hV_a, hV_r, hV_d⟩ := hV_o
  have hX_o := hX
  obtain ⟨hX_f, hX_a⟩ := hX_o
  refine g_aload_n E dX13_hideAsked_0 rfl rfl rfl ?_
  refine g_iconst E (v := 0) dX13_hideAsked_1 (by decide) rfl ?_
  refine g_putf E gciX13 (v := .int 0) dX13_hideAsked_2 hM_a 0 rfl (by decide) q1740 (.inl rfl) rfl (fun _ => rfl) (fun _ => rfl) rfl (g_upk (fun g1 h1 f1 => ?_))
  refine g_aload_n E dX13_hideAsked_5 rfl rfl rfl ?_
  refine g_aload_n E dX13_hideAsked_6 rfl rfl rfl ?_
  refine g_iload_n E dX13_hideAsked_7 rfl rfl rfl ?_
  have hM2 : pMq g1 (.ref mb) 0 tr wh tp fa ac mk [] := ⟨_, h1, rfl, hM_1, hM_2, hM_3, hM_5, hM_6, hM_12, hM_15, hM_16, hM_17, hM_18, hM_19, hM_20, hM_26, hM_28, hM_29, trivial⟩
  have y3 := (hMb.fr  (fun j9 a9 b9 => f1 j9 (by omega)))
  refine g_callV (k := 2000) (n9 := 1) (av := [.int p]) (st := [.ref 2000]) E (ct_X13_isTraveller l p hw hM2 y3) gciX13 dX13_hideAsked_8 h1 q2209 q2211 qs83 q135 q2212 (by decide +kernel) rfl rfl ⟨by decide, by decide⟩ ⟨by decide, by decide⟩ (Nat.le_of_ble_eq_true rfl) rfl (gPu.k ?_)
  refine g_if_eq E dX13_hideAsked_11 (tgt := 26) (by decide) rfl (fun c11 => ?_) (fun c11 => ?_)
  · have c11 := zb_0.mp c11
    have q4 := isNone_of c11
    refine g_iconst E (v := 0) dX13_hideAsked_26 (by decide) rfl ?_
    refine g_iload_n E dX13_hideAsked_27 rfl rfl rfl ?_
    refine g_callV (k := 2000) (n9 := 2) (av := [.int 0, .int dy]) (st := []) E (ct_X13_asks_F l dy hM2) gciX13 dX13_hideAsked_28 h1 q2233 q2235 qs87 q135 q2236 (by decide +kernel) rfl rfl ⟨by decide, by decide⟩ ⟨by decide, by decide⟩ (Nat.le_of_ble_eq_true rfl) rfl (gPu.k ?_)
    refine g_istore E dX13_hideAsked_31 (by decide) rfl (lo1 := [some (.ref 2000), some (.int p), some (.int q), some (.int dy), some (.int 1)]) rfl rfl ?_
    refine g_iload E dX13_hideAsked_33 rfl rfl ?_
    refine g_if_le E dX13_hideAsked_35 (tgt := 45) (by decide) rfl (fun h9 => absurd h9 (by decide)) (fun _ => ?_)
    refine g_aload_n E dX13_hideAsked_38 rfl rfl rfl ?_
    refine g_iload E dX13_hideAsked_39 rfl rfl ?_
    refine g_callV (k := 2000) (n9 := 1) (av := [.int 1]) (st := []) E (ct_X13_refused l 1 hM2) gciX13 dX13_hideAsked_41 h1 q1846 q1848 qs52 q135 q1849 (by decide +kernel) rfl rfl ⟨by decide, by decide⟩ ⟨by decide, by decide⟩ (Nat.le_of_ble_eq_true rfl) rfl (gPi.k (fun g5 h5 => ?_))
    obtain ⟨hm5, f5⟩ := h5
    have hm5_o := hm5
    obtain ⟨hm5_F, hm5_a, hm5_0, hm5_1, hm5_2, hm5_3, hm5_5, hm5_6, hm5_12, hm5_15, hm5_16, hm5_17, hm5_18, hm5_19, hm5_20, hm5_26, hm5_28, hm5_29, -⟩ := hm5_o
    have hs6 : sCh false B R d p q dy (fun s => s.2) = ((-1), 1) := by first | (simp [sCh, sX, c11, q4]; done) | (simp [sCh, sX, c11, q4, qWy]; done)
    have x7 := (f5 (2003) (by omega)).trans ((f1 (2003) (by omega)).trans (hX_a))
    exact g_iret E Rt dX13_hideAsked_44 rfl (by decide) (by decide) (by rw [hs6]; exact ⟨rfl, ⟨_, hm5_a, hm5_0, hm5_1, hm5_2, hm5_3, hm5_5, hm5_6, hm5_12, hm5_15, hm5_16, hm5_17, hm5_18, hm5_19, hm5_20, hm5_26, hm5_28, hm5_29, trivial⟩, ⟨_, x7⟩, fun j9 h9 => (f5 j9 (by omega)).trans (f1 j9 (by omega))⟩)
  · have c11 := zb_n0.mp c11
    obtain ⟨t, q8⟩ := isSome_of c11
    obtain ⟨rfl, q8_l⟩ := qI_some (by omega) q8
    refine g_aload_n E dX13_hideAsked_14 rfl rfl rfl ?_
    refine g_iload_n E dX13_hideAsked_15 rfl rfl rfl ?_
    refine g_callV (k := 2000) (n9 := 1) (av := [.int q]) (st := [.ref 2000]) E (ct_X13_isGate l q hw hM2 y3) gciX13 dX13_hideAsked_16 h1 q2225 q2227 qs86 q135 q2228 (by decide +kernel) rfl rfl ⟨by decide, by decide⟩ ⟨by decide, by decide⟩ (Nat.le_of_ble_eq_true rfl) rfl (gPu.k ?_)
    refine g_if_eq E dX13_hideAsked_19 (tgt := 26) (by decide) rfl (fun c19 => ?_) (fun c19 => ?_)
    · have c19 := zb_0.mp c19
      have q9 := isNone_of c19
      refine g_iconst E (v := 0) dX13_hideAsked_26 (by decide) rfl ?_
      refine g_iload_n E dX13_hideAsked_27 rfl rfl rfl ?_
      refine g_callV (k := 2000) (n9 := 2) (av := [.int 0, .int dy]) (st := []) E (ct_X13_asks_F l dy hM2) gciX13 dX13_hideAsked_28 h1 q2233 q2235 qs87 q135 q2236 (by decide +kernel) rfl rfl ⟨by decide, by decide⟩ ⟨by decide, by decide⟩ (Nat.le_of_ble_eq_true rfl) rfl (gPu.k ?_)
      refine g_istore E dX13_hideAsked_31 (by decide) rfl (lo1 := [some (.ref 2000), some (.int (nI t)), some (.int q), some (.int dy), some (.int 1)]) rfl rfl ?_
      refine g_iload E dX13_hideAsked_33 rfl rfl ?_
      refine g_if_le E dX13_hideAsked_35 (tgt := 45) (by decide) rfl (fun h9 => absurd h9 (by decide)) (fun _ => ?_)
      refine g_aload_n E dX13_hideAsked_38 rfl rfl rfl ?_
      refine g_iload E dX13_hideAsked_39 rfl rfl ?_
      refine g_callV (k := 2000) (n9 := 1) (av := [.int 1]) (st := []) E (ct_X13_refused l 1 hM2) gciX13 dX13_hideAsked_41 h1 q1846 q1848 qs52 q135 q1849 (by decide +kernel) rfl rfl ⟨by decide, by decide⟩ ⟨by decide, by decide⟩ (Nat.le_of_ble_eq_true rfl) rfl (gPi.k (fun g10 h10 => ?_))
      obtain ⟨hm10, f10⟩ := h10
      have hm10_o := hm10
      obtain ⟨hm10_F, hm10_a, hm10_0, hm10_1, hm10_2, hm10_3, hm10_5, hm10_6, hm10_12, hm10_15, hm10_16, hm10_17, hm10_18, hm10_19, hm10_20, hm10_26, hm10_28, hm10_29, -⟩ := hm10_o
      have hs11 : sCh false B R d (nI t) q dy (fun s => s.2) = ((-1), 1) := by first | (simp [sCh, sX, c11, q8, c19, q9]; done) | (simp [sCh, sX, c11, q8, c19, q9, qWy]; done)
      have x12 := (f10 (2003) (by omega)).trans ((f1 (2003) (by omega)).trans (hX_a))
      exact g_iret E Rt dX13_hideAsked_44 rfl (by decide) (by decide) (by rw [hs11]; exact ⟨rfl, ⟨_, hm10_a, hm10_0, hm10_1, hm10_2, hm10_3, hm10_5, hm10_6, hm10_12, hm10_15, hm10_16, hm10_17, hm10_18, hm10_19, hm10_20, hm10_26, hm10_28, hm10_29, trivial⟩, ⟨_, x12⟩, fun j9 h9 => (f10 j9 (by omega)).trans (f1 j9 (by omega))⟩)
    · have c19 := zb_n0.mp c19
      obtain ⟨k9, q13⟩ := isSome_of c19
      obtain ⟨rfl, q13_l⟩ := qI_some (by omega) q13
      refine g_iconst E (v := 1) dX13_hideAsked_22 (by decide) rfl ?_
      refine g_goto E dX13_hideAsked_23 (tgt := 27) (by decide) ?_
      refine g_iload_n E dX13_hideAsked_27 rfl rfl rfl ?_
      have y14 := (hV.fr  (fun j9 a9 b9 => f1 j9 (by omega)))
      have x15 := (f1 (2003) (by omega)).trans (hX_a)
      refine g_callV (k := 2000) (n9 := 2) (av := [.int 1, .int dy]) (st := []) E (ct_X13_asks l true dy hw hM2 y14 (⟨_, x15⟩)) gciX13 dX13_hideAsked_28 h1 q2233 q2235 qs87 q135 q2236 (by decide +kernel) rfl rfl ⟨by decide, by decide⟩ ⟨by decide, by decide⟩ (Nat.le_of_ble_eq_true rfl) rfl (gPi.k (fun g16 h16 => ?_))
      obtain ⟨ha16, hx16, f16⟩ := h16
      have hx16_o := hx16
      obtain ⟨hx16_f, hx16_a⟩ := hx16_o
      refine g_istore E dX13_hideAsked_31 (by decide) rfl (lo1 := [some (.ref 2000), some (.int (nI t)), some (.int (nI k9)), some (.int dy), some (.int (qWy true dy))]) rfl rfl ?_
      refine g_iload E dX13_hideAsked_33 rfl rfl ?_
      refine g_if_le E dX13_hideAsked_35 (tgt := 45) (by decide) rfl (fun c35 => ?_) (fun c35 => ?_)
      · have c35 := qWy_le (c35)
        have hr17 := ha16 c35
        have q18 := (qWy_0.mp c35).1
        have q18_z := (qWy_0.mp c35).2
        have hr17_o := hr17
        obtain ⟨hr17_f, hr17_a, hr17_r, hr17_d⟩ := hr17_o
        refine g_aload_n E dX13_hideAsked_45 rfl rfl rfl ?_
        refine g_iload_n E dX13_hideAsked_46 rfl rfl rfl ?_
        refine g_iload_n E dX13_hideAsked_47 rfl rfl rfl ?_
        refine g_iload_n E dX13_hideAsked_48 rfl rfl rfl ?_
        have x19 := (f16 (2000) (by omega)).trans (h1)
        have hM20 : pMq g16 (.ref mb) 0 tr wh tp fa ac mk [] := ⟨_, x19, rfl, hM_1, hM_2, hM_3, hM_5, hM_6, hM_12, hM_15, hM_16, hM_17, hM_18, hM_19, hM_20, hM_26, hM_28, hM_29, trivial⟩
        have y21 := (y3.fr  (fun j9 a9 b9 => f16 j9 (by omega)))
        have y22 := (y14.fr  (fun j9 a9 b9 => f16 j9 (by omega)))
        refine g_callV (k := 2000) (n9 := 3) (av := [.int (nI t), .int (nI k9), .int dy]) (st := []) E (ct_X13_hidesBest l t k9 dy hw hM20 y21 y22 (⟨_, hr17_a⟩) (by omega) (by omega) (by omega) q18_z) gciX13 dX13_hideAsked_49 x19 q2364 q2366 qs102 q135 q2367 (by decide +kernel) rfl rfl ⟨by decide, by decide⟩ ⟨by decide, by decide⟩ (Nat.le_of_ble_eq_true rfl) rfl (gPn.k (fun g23 h23 => ?_))
        obtain ⟨hm23, hx23, f23⟩ := h23
        have hm23_o := hm23
        obtain ⟨hm23_F, hm23_a, hm23_0, hm23_1, hm23_2, hm23_3, hm23_5, hm23_6, hm23_12, hm23_15, hm23_16, hm23_17, hm23_18, hm23_19, hm23_20, hm23_26, hm23_28, hm23_29, hm23_22, hm23_23, -⟩ := hm23_o
        have hx23_o := hx23
        obtain ⟨hx23_f, hx23_a⟩ := hx23_o
        refine g_aload_n E dX13_hideAsked_52 rfl rfl rfl ?_
        refine g_aload_n E dX13_hideAsked_53 rfl rfl rfl ?_
        refine g_getf E gciX13 dX13_hideAsked_54 hm23_a 22 rfl (by decide) q1762 (.inl rfl) (.int ((zChs false B R t k9 (d + dy) (2 ^ B 0 3)).2)) (hm23_22) rfl ?_
        have hM24 : pMq g23 (.ref mb) 0 tr wh tp fa ac mk [] := ⟨_, hm23_a, hm23_0, hm23_1, hm23_2, hm23_3, hm23_5, hm23_6, hm23_12, hm23_15, hm23_16, hm23_17, hm23_18, hm23_19, hm23_20, hm23_26, hm23_28, hm23_29, trivial⟩
        refine g_callV (k := 2000) (n9 := 1) (av := [.int ((zChs false B R t k9 (d + dy) (2 ^ B 0 3)).2)]) (st := []) E (ct_X13_fine l ((zChs false B R t k9 (d + dy) (2 ^ B 0 3)).2) hM24) gciX13 dX13_hideAsked_57 hm23_a q2181 q2183 qs80 q135 q2184 (by decide +kernel) rfl rfl ⟨by decide, by decide⟩ ⟨by decide, by decide⟩ (Nat.le_of_ble_eq_true rfl) rfl (gPi.k (fun g25 h25 => ?_))
        obtain ⟨hm25, f25⟩ := h25
        have hm25_o := hm25
        obtain ⟨hm25_F, hm25_a, hm25_0, hm25_1, hm25_2, hm25_3, hm25_5, hm25_6, hm25_12, hm25_15, hm25_16, hm25_17, hm25_18, hm25_19, hm25_20, hm25_26, hm25_28, hm25_29, -⟩ := hm25_o
        have hs26 : sCh false B R d (nI t) (nI k9) dy (fun s => s.2) = ((zChs false B R t k9 (d + dy) (2 ^ B 0 3)).2, 0) := by first | (simp [sCh, sX, c11, q8, c19, q13, c35, q18_z]; done) | (simp [sCh, sX, c11, q8, c19, q13, c35, q18_z, qWy]; done)
        have x27 := (f25 (2003) (by omega)).trans (hx23_a)
        exact g_iret E Rt dX13_hideAsked_60 rfl (by decide) (by decide) (by rw [hs26]; exact ⟨rfl, ⟨_, hm25_a, hm25_0, hm25_1, hm25_2, hm25_3, hm25_5, hm25_6, hm25_12, hm25_15, hm25_16, hm25_17, hm25_18, hm25_19, hm25_20, hm25_26, hm25_28, hm25_29, trivial⟩, ⟨_, x27⟩, fun j9 h9 => (((f25 j9 (by omega)).trans (f23 j9 (by omega))).trans (f16 j9 (by omega))).trans (f1 j9 (by omega))⟩)
      · have c35 := qWy_gt (c35)
        refine g_aload_n E dX13_hideAsked_38 rfl rfl rfl ?_
        refine g_iload E dX13_hideAsked_39 rfl rfl ?_
        have x28 := (f16 (2000) (by omega)).trans (h1)
        have hM29 : pMq g16 (.ref mb) 0 tr wh tp fa ac mk [] := ⟨_, x28, rfl, hM_1, hM_2, hM_3, hM_5, hM_6, hM_12, hM_15, hM_16, hM_17, hM_18, hM_19, hM_20, hM_26, hM_28, hM_29, trivial⟩
        refine g_callV (k := 2000) (n9 := 1) (av := [.int (qWy true dy)]) (st := []) E (ct_X13_refused l (qWy true dy) hM29) gciX13 dX13_hideAsked_41 x28 q1846 q1848 qs52 q135 q1849 (by decide +kernel) rfl rfl ⟨by decide, by decide⟩ ⟨by decide, by decide⟩ (Nat.le_of_ble_eq_true rfl) rfl (gPi.k (fun g30 h30 => ?_))
        obtain ⟨hm30, f30⟩ := h30
        have hm30_o := hm30
        obtain ⟨hm30_F, hm30_a, hm30_0, hm30_1, hm30_2, hm30_3, hm30_5, hm30_6, hm30_12, hm30_15, hm30_16, hm30_17, hm30_18, hm30_19, hm30_20, hm30_26, hm30_28, hm30_29, -⟩ := hm30_o
        have hs31 : sCh false B R d (nI t) (nI k9) dy (fun s => s.2) = ((-1), qWy true dy) := by first | (simp [sCh, sX, c11, q8, c19, q13, c35]; done) | (simp [sCh, sX, c11, q8, c19, q13, c35, qWy]; done)
        have x32 := (f30 (2003) (by omega)).trans (hx16_a)
        exact g_iret E Rt dX13_hideAsked_44 rfl (by decide) (by decide) (by rw [hs31]; exact ⟨rfl, ⟨_, hm30_a, hm30_0, hm30_1, hm30_2, hm30_3, hm30_5, hm30_6, hm30_12, hm30_15, hm30_16, hm30_17, hm30_18, hm30_19, hm30_20, hm30_26, hm30_28, hm30_29, trivial⟩, ⟨_, x32⟩, fun j9 h9 => ((f30 j9 (by omega)).trans (f16 j9 (by omega))).trans (f1 j9 (by omega))⟩)
set_option maxHeartbeats 1000000 in
theorem ct_X13_hideAsked_N (l : Launch) {g : gWM} {th tr wh fa : Int32} {tp ac mk : Nat} (p : Int32) (q : Int32) (dy : Int32) (hM : pMq g .null th tr wh tp fa ac mk []) : gCt l yX13_hideAsked cX13_hideAsked 5 (some .int) 1 0 0 22 [.ref 2000, .int p, .int q, .int dy] g (gPi (sCh false zB0 (fun _ => 0) 0 p q dy (fun s => s.2)).1 (fun g1 => pMq g1 .null 0 ((sCh false zB0 (fun _ => 0) 0 p q dy (fun s => s.2)).2) (-1) tp fa ac mk [] ∧ ∀ j, j ≠ 2000 → g1 j = g j)) := by
  refine gCt.of RX13 (by decide) rfl (lo := [some (.ref 2000), some (.int p), some (.int q), some (.int dy), none]) 1 rfl (Nat.le_of_ble_eq_true rfl) (fun z E Rt => ?_)
  have hM_o := hM
  obtain ⟨hM_F, hM_a, hM_0, hM_1, hM_2, hM_3, hM_5, hM_6, hM_12, hM_15, hM_16, hM_17, hM_18, hM_19, hM_20, hM_26, hM_28, hM_29, -⟩ := hM_o
  refine g_aload_n E dX13_hideAsked_0 rfl rfl rfl ?_
  refine g_iconst E (v := 0) dX13_hideAsked_1 (by decide) rfl ?_
  refine g_putf E gciX13 (v := .int 0) dX13_hideAsked_2 hM_a 0 rfl (by decide) q1740 (.inl rfl) rfl (fun _ => rfl) (fun _ => rfl) rfl (g_upk (fun g1 h1 f1 => ?_))
  refine g_aload_n E dX13_hideAsked_5 rfl rfl rfl ?_
  refine g_aload_n E dX13_hideAsked_6 rfl rfl rfl ?_
  refine g_iload_n E dX13_hideAsked_7 rfl rfl rfl ?_
  have hM2 : pMq g1 .null 0 tr wh tp fa ac mk [] := ⟨_, h1, rfl, hM_1, hM_2, hM_3, hM_5, hM_6, hM_12, hM_15, hM_16, hM_17, hM_18, hM_19, hM_20, hM_26, hM_28, hM_29, trivial⟩
  refine g_callV (k := 2000) (n9 := 1) (av := [.int p]) (st := [.ref 2000]) E (ct_X13_isTraveller_N l p hM2) gciX13 dX13_hideAsked_8 h1 q2209 q2211 qs83 q135 q2212 (by decide +kernel) rfl rfl ⟨by decide, by decide⟩ ⟨by decide, by decide⟩ (Nat.le_of_ble_eq_true rfl) rfl (gPu.k ?_)
  refine g_if_eq E dX13_hideAsked_11 (tgt := 26) (by decide) rfl (fun _ => ?_) (fun h9 => absurd h9 (by decide))
  refine g_iconst E (v := 0) dX13_hideAsked_26 (by decide) rfl ?_
  refine g_iload_n E dX13_hideAsked_27 rfl rfl rfl ?_
  refine g_callV (k := 2000) (n9 := 2) (av := [.int 0, .int dy]) (st := []) E (ct_X13_asks_F l dy hM2) gciX13 dX13_hideAsked_28 h1 q2233 q2235 qs87 q135 q2236 (by decide +kernel) rfl rfl ⟨by decide, by decide⟩ ⟨by decide, by decide⟩ (Nat.le_of_ble_eq_true rfl) rfl (gPu.k ?_)
  refine g_istore E dX13_hideAsked_31 (by decide) rfl (lo1 := [some (.ref 2000), some (.int p), some (.int q), some (.int dy), some (.int 1)]) rfl rfl ?_
  refine g_iload E dX13_hideAsked_33 rfl rfl ?_
  refine g_if_le E dX13_hideAsked_35 (tgt := 45) (by decide) rfl (fun h9 => absurd h9 (by decide)) (fun _ => ?_)
  refine g_aload_n E dX13_hideAsked_38 rfl rfl rfl ?_
  refine g_iload E dX13_hideAsked_39 rfl rfl ?_
  refine g_callV (k := 2000) (n9 := 1) (av := [.int 1]) (st := []) E (ct_X13_refused l 1 hM2) gciX13 dX13_hideAsked_41 h1 q1846 q1848 qs52 q135 q1849 (by decide +kernel) rfl rfl ⟨by decide, by decide⟩ ⟨by decide, by decide⟩ (Nat.le_of_ble_eq_true rfl) rfl (gPi.k (fun g3 h3 => ?_))
  obtain ⟨hm3, f3⟩ := h3
  have hm3_o := hm3
  obtain ⟨hm3_F, hm3_a, hm3_0, hm3_1, hm3_2, hm3_3, hm3_5, hm3_6, hm3_12, hm3_15, hm3_16, hm3_17, hm3_18, hm3_19, hm3_20, hm3_26, hm3_28, hm3_29, -⟩ := hm3_o
  have hs4 : sCh false zB0 (fun _ => 0) 0 p q dy (fun s => s.2) = ((-1), 1) := by first | (simp [sCh, sX, qI_z, qWy]; done) | (simp [sCh, sX, qI_z, qWy, qWy]; done)
  exact g_iret E Rt dX13_hideAsked_44 rfl (by decide) (by decide) (by rw [hs4]; exact ⟨rfl, ⟨_, hm3_a, hm3_0, hm3_1, hm3_2, hm3_3, hm3_5, hm3_6, hm3_12, hm3_15, hm3_16, hm3_17, hm3_18, hm3_19, hm3_20, hm3_26, hm3_28, hm3_29, trivial⟩, fun j9 h9 => (f3 j9 (by omega)).trans (f1 j9 (by omega))⟩)
set_option maxHeartbeats 1000000 in
theorem ct_X13_cover (l : Launch) {g : gWM} {mb : Nat} {B : gBar} {R : Nat → Int32} {dn : Nat} {th tr wh fa : Int32} {tp ac mk : Nat} (p : Int32) (q : Int32) (dy : Int32) (hw : wfB B) (hM : pMq g (.ref mb) th tr wh tp fa ac mk []) (hMb : pMb g mb B) (hV : pRw g 2002 B R (nI dn)) (hX : pIx g 2003 18) (h9 : 10000 ≤ mb) (hdn : dn ≤ 300) : gCt l yX13_cover cX13_cover 6 (some .int) 5 0 0 118 [.ref 2000, .int p, .int q, .int dy] g (gPi (sCov B R (nI dn) p q dy).1 (fun g1 => pMq g1 (.ref mb) 0 ((sCov B R (nI dn) p q dy).2) (-1) tp fa ac mk [] ∧ pIx g1 2003 18 ∧ ∀ j, (j ≠ 2000 ∧ j ≠ 2003) → g1 j = g j)) := by
  refine gCt.of RX13 (by decide) rfl (lo := [some (.ref 2000), some (.int p), some (.int q), some (.int dy), none, none]) 2 rfl (Nat.le_of_ble_eq_true rfl) (fun z E Rt => ?_)
  have hw_n := hw.1
  have hM_o := hM
  obtain ⟨hM_F, hM_a, hM_0, hM_1, hM_2, hM_3, hM_5, hM_6, hM_12, hM_15, hM_16, hM_17, hM_18, hM_19, hM_20, hM_26, hM_28, hM_29, -⟩ := hM_o
  have hMb_o := hMb
  obtain ⟨⟨hMb_F, hMb_a, hMb_0, hMb_1, hMb_2, hMb_3, hMb_4, hMb_5, hMb_6, hMb_7, hMb_8, hMb_9, hMb_11, hMb_12, hMb_13, hMb_14, hMb_15, hMb_16, hMb_17, hMb_18, hMb_19, hMb_20, hMb_21, hMb_22, hMb_23, hMb_24, hMb_25, hMb_26, hMb_27, hMb_28, hMb_29, hMb_30, hMb_31⟩, ⟨hMb_f1, hMb_a1, hMb_b1⟩, ⟨hMb_f2, hMb_a2, hMb_b2⟩, ⟨hMb_f3, hMb_a3, hMb_b3⟩, ⟨hMb_f4, hMb_a4, hMb_b4⟩, ⟨hMb_f5, hMb_a5, hMb_b5⟩, ⟨hMb_f6, hMb_a6, hMb_b6⟩, ⟨hMb_f7, hMb_a7, hMb_b7⟩, ⟨hMb_f8, hMb_a8, hMb_b8⟩, ⟨hMb_f9, hMb_a9, hMb_b9⟩, ⟨hMb_f10, hMb_a10, hMb_b10⟩, ⟨hMb_f11, hMb_a11, hMb_b11⟩, ⟨hMb_f12, hMb_a12, hMb_b12⟩, ⟨hMb_f13, hMb_a13, hMb_b13⟩, ⟨hMb_f14, hMb_a14, hMb_b14⟩, ⟨hMb_f15, hMb_a15, hMb_b15⟩, ⟨hMb_f16, hMb_a16, hMb_b16⟩, ⟨hMb_f17, hMb_a17, hMb_b17⟩, ⟨hMb_f18, hMb_a18, hMb_b18⟩, ⟨hMb_f19, hMb_a19, hMb_b19⟩, ⟨hMb_f20, hMb_a20, hMb_b20⟩, ⟨hMb_f21, hMb_a21, hMb_b21⟩⟩ := hMb_o
  have hV_o := hV
  obtain ⟨hV_f, hV_a, hV_r, hV_d⟩ := hV_o
  have hX_o := hX
  obtain ⟨hX_f, hX_a⟩ := hX_o
  refine g_aload_n E dX13_cover_0 rfl rfl rfl ?_
  refine g_iconst E (v := 0) dX13_cover_1 (by decide) rfl ?_
  refine g_putf E gciX13 (v := .int 0) dX13_cover_2 hM_a 0 rfl (by decide) q1740 (.inl rfl) rfl (fun _ => rfl) (fun _ => rfl) rfl (g_upk (fun g1 h1 f1 => ?_))
  refine g_aload_n E dX13_cover_5 rfl rfl rfl ?_
  refine g_aload_n E dX13_cover_6 rfl rfl rfl ?_
  refine g_iload_n E dX13_cover_7 rfl rfl rfl ?_
  have hM2 : pMq g1 (.ref mb) 0 tr wh tp fa ac mk [] := ⟨_, h1, rfl, hM_1, hM_2, hM_3, hM_5, hM_6, hM_12, hM_15, hM_16, hM_17, hM_18, hM_19, hM_20, hM_26, hM_28, hM_29, trivial⟩
  have y3 := (hMb.fr  (fun j9 a9 b9 => f1 j9 (by omega)))
  refine g_callV (k := 2000) (n9 := 1) (av := [.int p]) (st := [.ref 2000]) E (ct_X13_isTraveller l p hw hM2 y3) gciX13 dX13_cover_8 h1 q2209 q2211 qs83 q135 q2212 (by decide +kernel) rfl rfl ⟨by decide, by decide⟩ ⟨by decide, by decide⟩ (Nat.le_of_ble_eq_true rfl) rfl (gPu.k ?_)
  refine g_if_eq E dX13_cover_11 (tgt := 26) (by decide) rfl (fun c11 => ?_) (fun c11 => ?_)
  · have c11 := zb_0.mp c11
    have q4 := isNone_of c11
    refine g_iconst E (v := 0) dX13_cover_26 (by decide) rfl ?_
    refine g_iload_n E dX13_cover_27 rfl rfl rfl ?_
    refine g_callV (k := 2000) (n9 := 2) (av := [.int 0, .int dy]) (st := []) E (ct_X13_asks_F l dy hM2) gciX13 dX13_cover_28 h1 q2233 q2235 qs87 q135 q2236 (by decide +kernel) rfl rfl ⟨by decide, by decide⟩ ⟨by decide, by decide⟩ (Nat.le_of_ble_eq_true rfl) rfl (gPu.k ?_)
    refine g_istore E dX13_cover_31 (by decide) rfl (lo1 := [some (.ref 2000), some (.int p), some (.int q), some (.int dy), some (.int 1), none]) rfl rfl ?_
    refine g_iload E dX13_cover_33 rfl rfl ?_
    refine g_if_le E dX13_cover_35 (tgt := 45) (by decide) rfl (fun h9 => absurd h9 (by decide)) (fun _ => ?_)
    refine g_aload_n E dX13_cover_38 rfl rfl rfl ?_
    refine g_iload E dX13_cover_39 rfl rfl ?_
    refine g_callV (k := 2000) (n9 := 1) (av := [.int 1]) (st := []) E (ct_X13_refused l 1 hM2) gciX13 dX13_cover_41 h1 q1846 q1848 qs52 q135 q1849 (by decide +kernel) rfl rfl ⟨by decide, by decide⟩ ⟨by decide, by decide⟩ (Nat.le_of_ble_eq_true rfl) rfl (gPi.k (fun g5 h5 => ?_))
    obtain ⟨hm5, f5⟩ := h5
    have hm5_o := hm5
    obtain ⟨hm5_F, hm5_a, hm5_0, hm5_1, hm5_2, hm5_3, hm5_5, hm5_6, hm5_12, hm5_15, hm5_16, hm5_17, hm5_18, hm5_19, hm5_20, hm5_26, hm5_28, hm5_29, -⟩ := hm5_o
    have hs6 : sCov B R (nI dn) p q dy = ((-1), 1) := by first | (simp [sCov, sX, c11, q4]; done) | (simp [sCov, sX, c11, q4, qWy]; done)
    have x7 := (f5 (2003) (by omega)).trans ((f1 (2003) (by omega)).trans (hX_a))
    exact g_iret E Rt dX13_cover_44 rfl (by decide) (by decide) (by rw [hs6]; exact ⟨rfl, ⟨_, hm5_a, hm5_0, hm5_1, hm5_2, hm5_3, hm5_5, hm5_6, hm5_12, hm5_15, hm5_16, hm5_17, hm5_18, hm5_19, hm5_20, hm5_26, hm5_28, hm5_29, trivial⟩, ⟨_, x7⟩, fun j9 h9 => (f5 j9 (by omega)).trans (f1 j9 (by omega))⟩)
  · have c11 := zb_n0.mp c11
    obtain ⟨t, q8⟩ := isSome_of c11
    obtain ⟨rfl, q8_l⟩ := qI_some (by omega) q8
    refine g_aload_n E dX13_cover_14 rfl rfl rfl ?_
    refine g_iload_n E dX13_cover_15 rfl rfl rfl ?_
    refine g_callV (k := 2000) (n9 := 1) (av := [.int q]) (st := [.ref 2000]) E (ct_X13_isGate l q hw hM2 y3) gciX13 dX13_cover_16 h1 q2225 q2227 qs86 q135 q2228 (by decide +kernel) rfl rfl ⟨by decide, by decide⟩ ⟨by decide, by decide⟩ (Nat.le_of_ble_eq_true rfl) rfl (gPu.k ?_)
    refine g_if_eq E dX13_cover_19 (tgt := 26) (by decide) rfl (fun c19 => ?_) (fun c19 => ?_)
    · have c19 := zb_0.mp c19
      have q9 := isNone_of c19
      refine g_iconst E (v := 0) dX13_cover_26 (by decide) rfl ?_
      refine g_iload_n E dX13_cover_27 rfl rfl rfl ?_
      refine g_callV (k := 2000) (n9 := 2) (av := [.int 0, .int dy]) (st := []) E (ct_X13_asks_F l dy hM2) gciX13 dX13_cover_28 h1 q2233 q2235 qs87 q135 q2236 (by decide +kernel) rfl rfl ⟨by decide, by decide⟩ ⟨by decide, by decide⟩ (Nat.le_of_ble_eq_true rfl) rfl (gPu.k ?_)
      refine g_istore E dX13_cover_31 (by decide) rfl (lo1 := [some (.ref 2000), some (.int (nI t)), some (.int q), some (.int dy), some (.int 1), none]) rfl rfl ?_
      refine g_iload E dX13_cover_33 rfl rfl ?_
      refine g_if_le E dX13_cover_35 (tgt := 45) (by decide) rfl (fun h9 => absurd h9 (by decide)) (fun _ => ?_)
      refine g_aload_n E dX13_cover_38 rfl rfl rfl ?_
      refine g_iload E dX13_cover_39 rfl rfl ?_
      refine g_callV (k := 2000) (n9 := 1) (av := [.int 1]) (st := []) E (ct_X13_refused l 1 hM2) gciX13 dX13_cover_41 h1 q1846 q1848 qs52 q135 q1849 (by decide +kernel) rfl rfl ⟨by decide, by decide⟩ ⟨by decide, by decide⟩ (Nat.le_of_ble_eq_true rfl) rfl (gPi.k (fun g10 h10 => ?_))
      obtain ⟨hm10, f10⟩ := h10
      have hm10_o := hm10
      obtain ⟨hm10_F, hm10_a, hm10_0, hm10_1, hm10_2, hm10_3, hm10_5, hm10_6, hm10_12, hm10_15, hm10_16, hm10_17, hm10_18, hm10_19, hm10_20, hm10_26, hm10_28, hm10_29, -⟩ := hm10_o
      have hs11 : sCov B R (nI dn) (nI t) q dy = ((-1), 1) := by first | (simp [sCov, sX, c11, q8, c19, q9]; done) | (simp [sCov, sX, c11, q8, c19, q9, qWy]; done)
      have x12 := (f10 (2003) (by omega)).trans ((f1 (2003) (by omega)).trans (hX_a))
      exact g_iret E Rt dX13_cover_44 rfl (by decide) (by decide) (by rw [hs11]; exact ⟨rfl, ⟨_, hm10_a, hm10_0, hm10_1, hm10_2, hm10_3, hm10_5, hm10_6, hm10_12, hm10_15, hm10_16, hm10_17, hm10_18, hm10_19, hm10_20, hm10_26, hm10_28, hm10_29, trivial⟩, ⟨_, x12⟩, fun j9 h9 => (f10 j9 (by omega)).trans (f1 j9 (by omega))⟩)
    · have c19 := zb_n0.mp c19
      obtain ⟨k9, q13⟩ := isSome_of c19
      obtain ⟨rfl, q13_l⟩ := qI_some (by omega) q13
      refine g_iconst E (v := 1) dX13_cover_22 (by decide) rfl ?_
      refine g_goto E dX13_cover_23 (tgt := 27) (by decide) ?_
      refine g_iload_n E dX13_cover_27 rfl rfl rfl ?_
      have y14 := (hV.fr  (fun j9 a9 b9 => f1 j9 (by omega)))
      have x15 := (f1 (2003) (by omega)).trans (hX_a)
      refine g_callV (k := 2000) (n9 := 2) (av := [.int 1, .int dy]) (st := []) E (ct_X13_asks l true dy hw hM2 y14 (⟨_, x15⟩)) gciX13 dX13_cover_28 h1 q2233 q2235 qs87 q135 q2236 (by decide +kernel) rfl rfl ⟨by decide, by decide⟩ ⟨by decide, by decide⟩ (Nat.le_of_ble_eq_true rfl) rfl (gPi.k (fun g16 h16 => ?_))
      obtain ⟨ha16, hx16, f16⟩ := h16
      have hx16_o := hx16
      obtain ⟨hx16_f, hx16_a⟩ := hx16_o
      refine g_istore E dX13_cover_31 (by decide) rfl (lo1 := [some (.ref 2000), some (.int (nI t)), some (.int (nI k9)), some (.int dy), some (.int (qWy true dy)), none]) rfl rfl ?_
      refine g_iload E dX13_cover_33 rfl rfl ?_
      refine g_if_le E dX13_cover_35 (tgt := 45) (by decide) rfl (fun c35 => ?_) (fun c35 => ?_)
      · have c35 := qWy_le (c35)
        have hr17 := ha16 c35
        have q18 := (qWy_0.mp c35).1
        have q18_z := (qWy_0.mp c35).2
        have hr17_o := hr17
        obtain ⟨hr17_f, hr17_a, hr17_r, hr17_d⟩ := hr17_o
        have hzz := q18_z
        obtain ⟨m, rfl, z19, z19_c⟩ := zIn_nI (a := 0) (m := 60) (by decide) (by decide) hzz
        have hMM : (nI dn + nI m).toNatClampNeg = dn + m := by rw [nI_add, nI_clamp (by omega)]
        refine g_iconst E (v := 0) dX13_cover_45 (by decide) rfl ?_
        refine g_istore E dX13_cover_46 (by decide) rfl (lo1 := [some (.ref 2000), some (.int (nI t)), some (.int (nI k9)), some (.int (nI m)), some (.int (qWy true (nI m))), some (.int 0)]) rfl rfl ?_
        have lp48 : ∀ (r9 : Nat) (n : Nat), (n ≤ 31) → (n ≤ zCv (zMo B R t (dn + m) (B 0 3)) (B 9 k9)) → (31 - n < r9) → gV z g16 0 0 48 [some (.ref 2000), some (.int (nI t)), some (.int (nI k9)), some (.int (nI m)), some (.int (qWy true (nI m))), some (.int (nI n))] [] := by
          intro r9
          induction r9 with
          | zero => intro n hn hc hm; exact absurd hm (Nat.not_lt_zero _)
          | succ r9 ih48 =>
            intro n hn hc hm
            refine g_iload E dX13_cover_48 rfl rfl ?_
            refine g_bipush E (v := 30) dX13_cover_50 (by decide) rfl ?_
            refine g_icmp_gt E dX13_cover_52 (tgt := 83) (by decide) rfl (fun c52 => ?_) (fun c52 => ?_)
            · have c52 := (nI_ltI (a := 30) (b := n) (by omega) (by omega)).mp c52
              refine g_aload_n E dX13_cover_83 rfl rfl rfl ?_
              refine g_bipush E (v := (-2)) dX13_cover_84 (by decide) rfl ?_
              have x20 := (f16 (2000) (by omega)).trans (h1)
              have hM21 : pMq g16 (.ref mb) 0 tr wh tp fa ac mk [] := ⟨_, x20, rfl, hM_1, hM_2, hM_3, hM_5, hM_6, hM_12, hM_15, hM_16, hM_17, hM_18, hM_19, hM_20, hM_26, hM_28, hM_29, trivial⟩
              refine g_callV (k := 2000) (n9 := 1) (av := [.int (-2)]) (st := []) E (ct_X13_fine l (-2) hM21) gciX13 dX13_cover_86 x20 q2181 q2183 qs80 q135 q2184 (by decide +kernel) rfl rfl ⟨by decide, by decide⟩ ⟨by decide, by decide⟩ (Nat.le_of_ble_eq_true rfl) rfl (gPi.k (fun g22 h22 => ?_))
              obtain ⟨hm22, f22⟩ := h22
              have hm22_o := hm22
              obtain ⟨hm22_F, hm22_a, hm22_0, hm22_1, hm22_2, hm22_3, hm22_5, hm22_6, hm22_12, hm22_15, hm22_16, hm22_17, hm22_18, hm22_19, hm22_20, hm22_26, hm22_28, hm22_29, -⟩ := hm22_o
              have hs23 : sCov B R (nI dn) (nI t) (nI k9) (nI m) = ((-2), 0) := by simp [sCov, sX, qWy, c11, q8, c19, q13, c35, hzz, hMM]; omega
              have x24 := (f22 (2003) (by omega)).trans (hr17_a)
              exact g_iret E Rt dX13_cover_89 rfl (by decide) (by decide) (by rw [hs23]; exact ⟨rfl, ⟨_, hm22_a, hm22_0, hm22_1, hm22_2, hm22_3, hm22_5, hm22_6, hm22_12, hm22_15, hm22_16, hm22_17, hm22_18, hm22_19, hm22_20, hm22_26, hm22_28, hm22_29, trivial⟩, ⟨_, x24⟩, fun j9 h9 => ((f22 j9 (by omega)).trans (f16 j9 (by omega))).trans (f1 j9 (by omega))⟩)
            · have c52 := mt (nI_ltI (a := 30) (b := n) (by omega) (by omega)).mpr c52
              refine g_aload_n E dX13_cover_55 rfl rfl rfl ?_
              refine g_aload_n E dX13_cover_56 rfl rfl rfl ?_
              have x25 := (f16 (2000) (by omega)).trans (h1)
              refine g_getf E gciX13 dX13_cover_57 x25 16 rfl (by decide) q1756 (.inl rfl) (.ref 2003) (hM_16) rfl ?_
              refine g_iload_n E dX13_cover_60 rfl rfl rfl ?_
              refine g_iload_n E dX13_cover_61 rfl rfl rfl ?_
              refine g_iload E dX13_cover_62 rfl rfl ?_
              have hM26 : pMq g16 (.ref mb) 0 tr wh tp fa ac mk [] := ⟨_, x25, rfl, hM_1, hM_2, hM_3, hM_5, hM_6, hM_12, hM_15, hM_16, hM_17, hM_18, hM_19, hM_20, hM_26, hM_28, hM_29, trivial⟩
              have y27 := (y3.fr  (fun j9 a9 b9 => f16 j9 (by omega)))
              refine g_callV (k := 2000) (n9 := 4) (av := [.ref 2003, .int (nI t), .int (nI k9), .int (nI n)]) (st := []) E (ct_X13_foundIn l t k9 (nI n) hw hM26 y27 hr17 (by omega) (by omega)) gciX13 dX13_cover_64 x25 q2293 q2295 qs96 q135 q2296 (by decide +kernel) rfl rfl ⟨by decide, by decide⟩ ⟨by decide, by decide⟩ (Nat.le_of_ble_eq_true rfl) rfl (gPu.k ?_)
              refine g_if_ne E dX13_cover_67 (tgt := 77) (by decide) rfl (fun c67 => ?_) (fun c67 => ?_)
              · rw [nI_add, zFou_cv hw (by omega) (by omega) (by omega)] at c67
                refine g_iinc E dX13_cover_77 rfl (v := nI (n + 1)) (nI_c _) (by decide) rfl (lo1 := [some (.ref 2000), some (.int (nI t)), some (.int (nI k9)), some (.int (nI m)), some (.int (qWy true (nI m))), some (.int (nI (n + 1)))]) rfl rfl ?_
                refine g_goto E dX13_cover_80 (tgt := 48) (by decide) ?_
                exact ih48 (n + 1) (by omega) (by omega) (by omega)
              · rw [nI_add, zFou_cv hw (by omega) (by omega) (by omega)] at c67
                have hcv : zCv (zMo B R t (dn + m) (B 0 3)) (B 9 k9) = n := by omega
                refine g_aload_n E dX13_cover_70 rfl rfl rfl ?_
                refine g_iload E dX13_cover_71 rfl rfl ?_
                refine g_callV (k := 2000) (n9 := 1) (av := [.int (nI n)]) (st := []) E (ct_X13_fine l (nI n) hM26) gciX13 dX13_cover_73 x25 q2181 q2183 qs80 q135 q2184 (by decide +kernel) rfl rfl ⟨by decide, by decide⟩ ⟨by decide, by decide⟩ (Nat.le_of_ble_eq_true rfl) rfl (gPi.k (fun g28 h28 => ?_))
                obtain ⟨hm28, f28⟩ := h28
                have hm28_o := hm28
                obtain ⟨hm28_F, hm28_a, hm28_0, hm28_1, hm28_2, hm28_3, hm28_5, hm28_6, hm28_12, hm28_15, hm28_16, hm28_17, hm28_18, hm28_19, hm28_20, hm28_26, hm28_28, hm28_29, -⟩ := hm28_o
                have hs29 : sCov B R (nI dn) (nI t) (nI k9) (nI m) = (nI n, 0) := by simp [sCov, sX, qWy, c11, q8, c19, q13, c35, hzz, hMM, hcv]; intro h9; omega
                have x30 := (f28 (2003) (by omega)).trans (hr17_a)
                exact g_iret E Rt dX13_cover_76 rfl (by decide) (by decide) (by rw [hs29]; exact ⟨rfl, ⟨_, hm28_a, hm28_0, hm28_1, hm28_2, hm28_3, hm28_5, hm28_6, hm28_12, hm28_15, hm28_16, hm28_17, hm28_18, hm28_19, hm28_20, hm28_26, hm28_28, hm28_29, trivial⟩, ⟨_, x30⟩, fun j9 h9 => ((f28 j9 (by omega)).trans (f16 j9 (by omega))).trans (f1 j9 (by omega))⟩)
        exact lp48 32 0 (Nat.zero_le _) (Nat.zero_le _) (by omega)
      · have c35 := qWy_gt (c35)
        refine g_aload_n E dX13_cover_38 rfl rfl rfl ?_
        refine g_iload E dX13_cover_39 rfl rfl ?_
        have x31 := (f16 (2000) (by omega)).trans (h1)
        have hM32 : pMq g16 (.ref mb) 0 tr wh tp fa ac mk [] := ⟨_, x31, rfl, hM_1, hM_2, hM_3, hM_5, hM_6, hM_12, hM_15, hM_16, hM_17, hM_18, hM_19, hM_20, hM_26, hM_28, hM_29, trivial⟩
        refine g_callV (k := 2000) (n9 := 1) (av := [.int (qWy true dy)]) (st := []) E (ct_X13_refused l (qWy true dy) hM32) gciX13 dX13_cover_41 x31 q1846 q1848 qs52 q135 q1849 (by decide +kernel) rfl rfl ⟨by decide, by decide⟩ ⟨by decide, by decide⟩ (Nat.le_of_ble_eq_true rfl) rfl (gPi.k (fun g33 h33 => ?_))
        obtain ⟨hm33, f33⟩ := h33
        have hm33_o := hm33
        obtain ⟨hm33_F, hm33_a, hm33_0, hm33_1, hm33_2, hm33_3, hm33_5, hm33_6, hm33_12, hm33_15, hm33_16, hm33_17, hm33_18, hm33_19, hm33_20, hm33_26, hm33_28, hm33_29, -⟩ := hm33_o
        have hs34 : sCov B R (nI dn) (nI t) (nI k9) dy = ((-1), qWy true dy) := by first | (simp [sCov, sX, c11, q8, c19, q13, c35]; done) | (simp [sCov, sX, c11, q8, c19, q13, c35, qWy]; done)
        have x35 := (f33 (2003) (by omega)).trans (hx16_a)
        exact g_iret E Rt dX13_cover_44 rfl (by decide) (by decide) (by rw [hs34]; exact ⟨rfl, ⟨_, hm33_a, hm33_0, hm33_1, hm33_2, hm33_3, hm33_5, hm33_6, hm33_12, hm33_15, hm33_16, hm33_17, hm33_18, hm33_19, hm33_20, hm33_26, hm33_28, hm33_29, trivial⟩, ⟨_, x35⟩, fun j9 h9 => ((f33 j9 (by omega)).trans (f16 j9 (by omega))).trans (f1 j9 (by omega))⟩)
set_option maxHeartbeats 1000000 in
theorem ct_X13_cover_N (l : Launch) {g : gWM} {th tr wh fa : Int32} {tp ac mk : Nat} (p : Int32) (q : Int32) (dy : Int32) (hM : pMq g .null th tr wh tp fa ac mk []) : gCt l yX13_cover cX13_cover 6 (some .int) 1 0 0 22 [.ref 2000, .int p, .int q, .int dy] g (gPi (sCov zB0 (fun _ => 0) (0) p q dy).1 (fun g1 => pMq g1 .null 0 ((sCov zB0 (fun _ => 0) (0) p q dy).2) (-1) tp fa ac mk [] ∧ ∀ j, j ≠ 2000 → g1 j = g j)) := by
  refine gCt.of RX13 (by decide) rfl (lo := [some (.ref 2000), some (.int p), some (.int q), some (.int dy), none, none]) 2 rfl (Nat.le_of_ble_eq_true rfl) (fun z E Rt => ?_)
  have hM_o := hM
  obtain ⟨hM_F, hM_a, hM_0, hM_1, hM_2, hM_3, hM_5, hM_6, hM_12, hM_15, hM_16, hM_17, hM_18, hM_19, hM_20, hM_26, hM_28, hM_29, -⟩ := hM_o
  refine g_aload_n E dX13_cover_0 rfl rfl rfl ?_
  refine g_iconst E (v := 0) dX13_cover_1 (by decide) rfl ?_
  refine g_putf E gciX13 (v := .int 0) dX13_cover_2 hM_a 0 rfl (by decide) q1740 (.inl rfl) rfl (fun _ => rfl) (fun _ => rfl) rfl (g_upk (fun g1 h1 f1 => ?_))
  refine g_aload_n E dX13_cover_5 rfl rfl rfl ?_
  refine g_aload_n E dX13_cover_6 rfl rfl rfl ?_
  refine g_iload_n E dX13_cover_7 rfl rfl rfl ?_
  have hM2 : pMq g1 .null 0 tr wh tp fa ac mk [] := ⟨_, h1, rfl, hM_1, hM_2, hM_3, hM_5, hM_6, hM_12, hM_15, hM_16, hM_17, hM_18, hM_19, hM_20, hM_26, hM_28, hM_29, trivial⟩
  refine g_callV (k := 2000) (n9 := 1) (av := [.int p]) (st := [.ref 2000]) E (ct_X13_isTraveller_N l p hM2) gciX13 dX13_cover_8 h1 q2209 q2211 qs83 q135 q2212 (by decide +kernel) rfl rfl ⟨by decide, by decide⟩ ⟨by decide, by decide⟩ (Nat.le_of_ble_eq_true rfl) rfl (gPu.k ?_)
  refine g_if_eq E dX13_cover_11 (tgt := 26) (by decide) rfl (fun _ => ?_) (fun h9 => absurd h9 (by decide))
  refine g_iconst E (v := 0) dX13_cover_26 (by decide) rfl ?_
  refine g_iload_n E dX13_cover_27 rfl rfl rfl ?_
  refine g_callV (k := 2000) (n9 := 2) (av := [.int 0, .int dy]) (st := []) E (ct_X13_asks_F l dy hM2) gciX13 dX13_cover_28 h1 q2233 q2235 qs87 q135 q2236 (by decide +kernel) rfl rfl ⟨by decide, by decide⟩ ⟨by decide, by decide⟩ (Nat.le_of_ble_eq_true rfl) rfl (gPu.k ?_)
  refine g_istore E dX13_cover_31 (by decide) rfl (lo1 := [some (.ref 2000), some (.int p), some (.int q), some (.int dy), some (.int 1), none]) rfl rfl ?_
  refine g_iload E dX13_cover_33 rfl rfl ?_
  refine g_if_le E dX13_cover_35 (tgt := 45) (by decide) rfl (fun h9 => absurd h9 (by decide)) (fun _ => ?_)
  refine g_aload_n E dX13_cover_38 rfl rfl rfl ?_
  refine g_iload E dX13_cover_39 rfl rfl ?_
  refine g_callV (k := 2000) (n9 := 1) (av := [.int 1]) (st := []) E (ct_X13_refused l 1 hM2) gciX13 dX13_cover_41 h1 q1846 q1848 qs52 q135 q1849 (by decide +kernel) rfl rfl ⟨by decide, by decide⟩ ⟨by decide, by decide⟩ (Nat.le_of_ble_eq_true rfl) rfl (gPi.k (fun g3 h3 => ?_))
  obtain ⟨hm3, f3⟩ := h3
  have hm3_o := hm3
  obtain ⟨hm3_F, hm3_a, hm3_0, hm3_1, hm3_2, hm3_3, hm3_5, hm3_6, hm3_12, hm3_15, hm3_16, hm3_17, hm3_18, hm3_19, hm3_20, hm3_26, hm3_28, hm3_29, -⟩ := hm3_o
  have hs4 : sCov zB0 (fun _ => 0) (0) p q dy = ((-1), 1) := by first | (simp [sCov, sX, qI_z, qWy]; done) | (simp [sCov, sX, qI_z, qWy, qWy]; done)
  exact g_iret E Rt dX13_cover_44 rfl (by decide) (by decide) (by rw [hs4]; exact ⟨rfl, ⟨_, hm3_a, hm3_0, hm3_1, hm3_2, hm3_3, hm3_5, hm3_6, hm3_12, hm3_15, hm3_16, hm3_17, hm3_18, hm3_19, hm3_20, hm3_26, hm3_28, hm3_29, trivial⟩, fun j9 h9 => (f3 j9 (by omega)).trans (f1 j9 (by omega))⟩)
