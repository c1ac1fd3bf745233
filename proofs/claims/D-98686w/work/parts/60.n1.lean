/-! THE MODEL, walks, first: helpers, goods on a row -/
set_option maxRecDepth 100000
set_option maxHeartbeats 400000 in
theorem ct_X13_refused (l : Launch) {g : gWM} {bar : Value} {th tr wh fa : Int32} {tp ac mk : Nat} (c : Int32) (hM : pMq g bar th tr wh tp fa ac mk []) : gCt l yX13_refused cX13_refused 2 (some .int) 0 0 0 0 [.ref 2000, .int c] g (gPi (-1) (fun g1 => pMq g1 bar th c (-1) tp fa ac mk [] ∧ ∀ j, j ≠ 2000 → g1 j = g j)) := by
  refine gCt.of RX13 (by decide) rfl (lo := [some (.ref 2000), some (.int c)]) 0 rfl (Nat.le_of_ble_eq_true rfl) (fun z E Rt => ?_)
  have hM_o := hM
  obtain ⟨hM_F, hM_a, hM_0, hM_1, hM_2, hM_3, hM_5, hM_6, hM_12, hM_15, hM_16, hM_17, hM_18, hM_19, hM_20, hM_26, hM_28, hM_29, -⟩ := hM_o
  refine g_aload_n E dX13_refused_0 rfl rfl rfl ?_
  refine g_iload_n E dX13_refused_1 rfl rfl rfl ?_
  refine g_putf E gciX13 (v := .int c) dX13_refused_2 hM_a 1 rfl (by decide) q1741 (.inl rfl) rfl (fun _ => rfl) (fun _ => rfl) rfl (g_upk (fun g1 h1 f1 => ?_))
  refine g_aload_n E dX13_refused_5 rfl rfl rfl ?_
  refine g_iconst E (v := (-1)) dX13_refused_6 (by decide) rfl ?_
  refine g_putf E gciX13 (v := .int (-1)) dX13_refused_7 h1 2 rfl (by decide) q1742 (.inl rfl) rfl (fun _ => rfl) (fun _ => rfl) rfl (g_upk (fun g2 h2 f2 => ?_))
  refine g_iconst E (v := (-1)) dX13_refused_10 (by decide) rfl ?_
  exact g_iret E Rt dX13_refused_11 rfl (by decide) (by decide) (⟨rfl, ⟨_, h2, hM_0, rfl, rfl, hM_3, hM_5, hM_6, hM_12, hM_15, hM_16, hM_17, hM_18, hM_19, hM_20, hM_26, hM_28, hM_29, trivial⟩, fun j9 h9 => (f2 j9 (by omega)).trans (f1 j9 (by omega))⟩)
set_option maxHeartbeats 400000 in
theorem ct_X13_fine (l : Launch) {g : gWM} {bar : Value} {th tr wh fa : Int32} {tp ac mk : Nat} (c : Int32) (hM : pMq g bar th tr wh tp fa ac mk []) : gCt l yX13_fine cX13_fine 2 (some .int) 0 0 0 0 [.ref 2000, .int c] g (gPi c (fun g1 => pMq g1 bar th 0 (-1) tp fa ac mk [] ∧ ∀ j, j ≠ 2000 → g1 j = g j)) := by
  refine gCt.of RX13 (by decide) rfl (lo := [some (.ref 2000), some (.int c)]) 0 rfl (Nat.le_of_ble_eq_true rfl) (fun z E Rt => ?_)
  have hM_o := hM
  obtain ⟨hM_F, hM_a, hM_0, hM_1, hM_2, hM_3, hM_5, hM_6, hM_12, hM_15, hM_16, hM_17, hM_18, hM_19, hM_20, hM_26, hM_28, hM_29, -⟩ := hM_o
  refine g_aload_n E dX13_fine_0 rfl rfl rfl ?_
  refine g_iconst E (v := 0) dX13_fine_1 (by decide) rfl ?_
  refine g_putf E gciX13 (v := .int 0) dX13_fine_2 hM_a 1 rfl (by decide) q1741 (.inl rfl) rfl (fun _ => rfl) (fun _ => rfl) rfl (g_upk (fun g1 h1 f1 => ?_))
  refine g_aload_n E dX13_fine_5 rfl rfl rfl ?_
  refine g_iconst E (v := (-1)) dX13_fine_6 (by decide) rfl ?_
  refine g_putf E gciX13 (v := .int (-1)) dX13_fine_7 h1 2 rfl (by decide) q1742 (.inl rfl) rfl (fun _ => rfl) (fun _ => rfl) rfl (g_upk (fun g2 h2 f2 => ?_))
  refine g_iload_n E dX13_fine_10 rfl rfl rfl ?_
  exact g_iret E Rt dX13_fine_11 rfl (by decide) (by decide) (⟨rfl, ⟨_, h2, hM_0, rfl, rfl, hM_3, hM_5, hM_6, hM_12, hM_15, hM_16, hM_17, hM_18, hM_19, hM_20, hM_26, hM_28, hM_29, trivial⟩, fun j9 h9 => (f2 j9 (by omega)).trans (f1 j9 (by omega))⟩)
set_option maxHeartbeats 400000 in
theorem ct_X13_lost (l : Launch) {g : gWM} {bar : Value} {th tr wh fa : Int32} {tp ac mk : Nat} (c : Int32) (hM : pMq g bar th tr wh tp fa ac mk []) : gCt l yX13_lost cX13_lost 2 (some .int) 1 0 0 21 [.ref 2000, .int c] g (gPi (-10000) (fun g1 => pMq g1 bar th c (-1) tp fa ac mk [] ∧ ∀ j, j ≠ 2000 → g1 j = g j)) := by
  refine gCt.of RX13 (by decide) rfl (lo := [some (.ref 2000), some (.int c)]) 0 rfl (Nat.le_of_ble_eq_true rfl) (fun z E Rt => ?_)
  have hM_o := hM
  obtain ⟨hM_F, hM_a, hM_0, hM_1, hM_2, hM_3, hM_5, hM_6, hM_12, hM_15, hM_16, hM_17, hM_18, hM_19, hM_20, hM_26, hM_28, hM_29, -⟩ := hM_o
  refine g_aload_n E dX13_lost_0 rfl rfl rfl ?_
  refine g_iload_n E dX13_lost_1 rfl rfl rfl ?_
  have hM1 : pMq g bar th tr wh tp fa ac mk [] := ⟨_, hM_a, hM_0, hM_1, hM_2, hM_3, hM_5, hM_6, hM_12, hM_15, hM_16, hM_17, hM_18, hM_19, hM_20, hM_26, hM_28, hM_29, trivial⟩
  refine g_callV (k := 2000) (n9 := 1) (av := [.int c]) (st := []) E (ct_X13_refused l c hM1) gciX13 dX13_lost_2 hM_a q1846 q1848 qs52 q135 q1849 (by decide +kernel) rfl rfl ⟨by decide, by decide⟩ ⟨by decide, by decide⟩ (Nat.le_of_ble_eq_true rfl) rfl (gPi.k (fun g2 h2 => ?_))
  obtain ⟨hm2, f2⟩ := h2
  have hm2_o := hm2
  obtain ⟨hm2_F, hm2_a, hm2_0, hm2_1, hm2_2, hm2_3, hm2_5, hm2_6, hm2_12, hm2_15, hm2_16, hm2_17, hm2_18, hm2_19, hm2_20, hm2_26, hm2_28, hm2_29, -⟩ := hm2_o
  refine g_pop E dX13_lost_5 rfl rfl ?_
  refine g_sipush E (v := (-10000)) dX13_lost_6 (by decide) rfl ?_
  exact g_iret E Rt dX13_lost_9 rfl (by decide) (by decide) (⟨rfl, ⟨_, hm2_a, hm2_0, hm2_1, hm2_2, hm2_3, hm2_5, hm2_6, hm2_12, hm2_15, hm2_16, hm2_17, hm2_18, hm2_19, hm2_20, hm2_26, hm2_28, hm2_29, trivial⟩, fun j9 h9 => f2 j9 (by omega)⟩)
set_option maxHeartbeats 400000 in
theorem ct_X13_denied (l : Launch) {g : gWM} {bar : Value} {th tr wh fa : Int32} {tp ac mk : Nat} (c : Int32) (hM : pMq g bar th tr wh tp fa ac mk []) : gCt l yX13_denied cX13_denied 2 (some .boolean) 1 0 0 21 [.ref 2000, .int c] g (gPi 0 (fun g1 => pMq g1 bar th c (-1) tp fa ac mk [] ∧ ∀ j, j ≠ 2000 → g1 j = g j)) := by
  refine gCt.of RX13 (by decide) rfl (lo := [some (.ref 2000), some (.int c)]) 0 rfl (Nat.le_of_ble_eq_true rfl) (fun z E Rt => ?_)
  have hM_o := hM
  obtain ⟨hM_F, hM_a, hM_0, hM_1, hM_2, hM_3, hM_5, hM_6, hM_12, hM_15, hM_16, hM_17, hM_18, hM_19, hM_20, hM_26, hM_28, hM_29, -⟩ := hM_o
  refine g_aload_n E dX13_denied_0 rfl rfl rfl ?_
  refine g_iload_n E dX13_denied_1 rfl rfl rfl ?_
  have hM1 : pMq g bar th tr wh tp fa ac mk [] := ⟨_, hM_a, hM_0, hM_1, hM_2, hM_3, hM_5, hM_6, hM_12, hM_15, hM_16, hM_17, hM_18, hM_19, hM_20, hM_26, hM_28, hM_29, trivial⟩
  refine g_callV (k := 2000) (n9 := 1) (av := [.int c]) (st := []) E (ct_X13_refused l c hM1) gciX13 dX13_denied_2 hM_a q1846 q1848 qs52 q135 q1849 (by decide +kernel) rfl rfl ⟨by decide, by decide⟩ ⟨by decide, by decide⟩ (Nat.le_of_ble_eq_true rfl) rfl (gPi.k (fun g2 h2 => ?_))
  obtain ⟨hm2, f2⟩ := h2
  have hm2_o := hm2
  obtain ⟨hm2_F, hm2_a, hm2_0, hm2_1, hm2_2, hm2_3, hm2_5, hm2_6, hm2_12, hm2_15, hm2_16, hm2_17, hm2_18, hm2_19, hm2_20, hm2_26, hm2_28, hm2_29, -⟩ := hm2_o
  refine g_pop E dX13_denied_5 rfl rfl ?_
  refine g_iconst E (v := 0) dX13_denied_6 (by decide) rfl ?_
  exact g_zret E Rt dX13_denied_7 rfl (by decide) (by decide) (by decide) (⟨rfl, ⟨_, hm2_a, hm2_0, hm2_1, hm2_2, hm2_3, hm2_5, hm2_6, hm2_12, hm2_15, hm2_16, hm2_17, hm2_18, hm2_19, hm2_20, hm2_26, hm2_28, hm2_29, trivial⟩, fun j9 h9 => f2 j9 (by omega)⟩)
set_option maxHeartbeats 400000 in
theorem ct_X13_granted (l : Launch) {g : gWM} {bar : Value} {th tr wh fa : Int32} {tp ac mk : Nat} (hM : pMq g bar th tr wh tp fa ac mk []) : gCt l yX13_granted cX13_granted 1 (some .boolean) 1 0 0 21 [.ref 2000] g (gPi 1 (fun g1 => pMq g1 bar th 0 (-1) tp fa ac mk [] ∧ ∀ j, j ≠ 2000 → g1 j = g j)) := by
  refine gCt.of RX13 (by decide) rfl (lo := [some (.ref 2000)]) 0 rfl (Nat.le_of_ble_eq_true rfl) (fun z E Rt => ?_)
  have hM_o := hM
  obtain ⟨hM_F, hM_a, hM_0, hM_1, hM_2, hM_3, hM_5, hM_6, hM_12, hM_15, hM_16, hM_17, hM_18, hM_19, hM_20, hM_26, hM_28, hM_29, -⟩ := hM_o
  refine g_aload_n E dX13_granted_0 rfl rfl rfl ?_
  refine g_iconst E (v := 0) dX13_granted_1 (by decide) rfl ?_
  have hM1 : pMq g bar th tr wh tp fa ac mk [] := ⟨_, hM_a, hM_0, hM_1, hM_2, hM_3, hM_5, hM_6, hM_12, hM_15, hM_16, hM_17, hM_18, hM_19, hM_20, hM_26, hM_28, hM_29, trivial⟩
  refine g_callV (k := 2000) (n9 := 1) (av := [.int 0]) (st := []) E (ct_X13_fine l 0 hM1) gciX13 dX13_granted_2 hM_a q2181 q2183 qs80 q135 q2184 (by decide +kernel) rfl rfl ⟨by decide, by decide⟩ ⟨by decide, by decide⟩ (Nat.le_of_ble_eq_true rfl) rfl (gPi.k (fun g2 h2 => ?_))
  obtain ⟨hm2, f2⟩ := h2
  have hm2_o := hm2
  obtain ⟨hm2_F, hm2_a, hm2_0, hm2_1, hm2_2, hm2_3, hm2_5, hm2_6, hm2_12, hm2_15, hm2_16, hm2_17, hm2_18, hm2_19, hm2_20, hm2_26, hm2_28, hm2_29, -⟩ := hm2_o
  refine g_pop E dX13_granted_5 rfl rfl ?_
  refine g_iconst E (v := 1) dX13_granted_6 (by decide) rfl ?_
  exact g_zret E Rt dX13_granted_7 rfl (by decide) (by decide) (by decide) (⟨rfl, ⟨_, hm2_a, hm2_0, hm2_1, hm2_2, hm2_3, hm2_5, hm2_6, hm2_12, hm2_15, hm2_16, hm2_17, hm2_18, hm2_19, hm2_20, hm2_26, hm2_28, hm2_29, trivial⟩, fun j9 h9 => f2 j9 (by omega)⟩)
set_option maxHeartbeats 400000 in
theorem ct_X13_in (l : Launch) {g : gWM} (v lo hi : Int32)  : gCt l yX13_in cX13_in 3 (some .boolean) 0 0 0 0 [.int v, .int lo, .int hi] g (gPu (.int (zb (zIn v lo hi))) g) := by
  refine gCt.of RX13 (by decide) rfl (lo := [some (.int v), some (.int lo), some (.int hi)]) 0 rfl (Nat.le_of_ble_eq_true rfl) (fun z E Rt => ?_)
  refine g_iload_n E dX13_in_0 rfl rfl rfl ?_
  refine g_iload_n E dX13_in_1 rfl rfl rfl ?_
  refine g_icmp_lt E dX13_in_2 (tgt := 14) (by decide) rfl (fun c2 => ?_) (fun c2 => ?_)
  · refine g_iconst E (v := 0) dX13_in_14 (by decide) rfl ?_
    exact g_zret E Rt dX13_in_15 rfl (by decide) (by decide) (by decide) (⟨congrArg (fun x => some (Value.int x)) (by simp [zIn, zb, c2]), rfl⟩)
  · refine g_iload_n E dX13_in_5 rfl rfl rfl ?_
    refine g_iload_n E dX13_in_6 rfl rfl rfl ?_
    refine g_icmp_gt E dX13_in_7 (tgt := 14) (by decide) rfl (fun c7 => ?_) (fun c7 => ?_)
    · refine g_iconst E (v := 0) dX13_in_14 (by decide) rfl ?_
      exact g_zret E Rt dX13_in_15 rfl (by decide) (by decide) (by decide) (⟨congrArg (fun x => some (Value.int x)) (by simp [zIn, zb, c2, c7]), rfl⟩)
    · refine g_iconst E (v := 1) dX13_in_10 (by decide) rfl ?_
      refine g_goto E dX13_in_11 (tgt := 15) (by decide) ?_
      exact g_zret E Rt dX13_in_15 rfl (by decide) (by decide) (by decide) (⟨congrArg (fun x => some (Value.int x)) (by simp [zIn, zb, c2, c7]), rfl⟩)
set_option maxHeartbeats 400000 in
theorem ct_X13_bit (l : Launch) {g : gWM} (s : Int32) (k : Nat)  : gCt l yX13_bit cX13_bit 2 (some .boolean) 0 0 0 0 [.int s, .int (nI k)] g (gPu (.int (zb (zBit s k))) g) := by
  refine gCt.of RX13 (by decide) rfl (lo := [some (.int s), some (.int (nI k))]) 0 rfl (Nat.le_of_ble_eq_true rfl) (fun z E Rt => ?_)
  refine g_iload_n E dX13_bit_0 rfl rfl rfl ?_
  refine g_iload_n E dX13_bit_1 rfl rfl rfl ?_
  refine g_ishr E dX13_bit_2 rfl ?_
  refine g_iconst E (v := 1) dX13_bit_3 (by decide) rfl ?_
  refine g_iand E dX13_bit_4 rfl ?_
  refine g_iconst E (v := 1) dX13_bit_5 (by decide) rfl ?_
  refine g_icmp_ne E dX13_bit_6 (tgt := 13) (by decide) rfl (fun c6 => ?_) (fun c6 => ?_)
  · refine g_iconst E (v := 0) dX13_bit_13 (by decide) rfl ?_
    exact g_zret E Rt dX13_bit_14 rfl (by decide) (by decide) (by decide) (⟨congrArg (fun x => some (Value.int x)) (by simp [zBit, zb, c6]), rfl⟩)
  · refine g_iconst E (v := 1) dX13_bit_9 (by decide) rfl ?_
    refine g_goto E dX13_bit_10 (tgt := 14) (by decide) ?_
    exact g_zret E Rt dX13_bit_14 rfl (by decide) (by decide) (by decide) (⟨congrArg (fun x => some (Value.int x)) (by simp [zBit, zb, c6]), rfl⟩)
set_option maxHeartbeats 400000 in
theorem ct_X13_bits (l : Launch) {g : gWM} (a : Nat) (ha : a < 256) : gCt l yX13_bits cX13_bits 3 (some .int) 0 0 0 0 [.int (nI a)] g (gPu (.int (nI (zOn a))) g) := by
  refine gCt.of RX13 (by decide) rfl (lo := [some (.int (nI a)), none, none]) 2 rfl (Nat.le_of_ble_eq_true rfl) (fun z E Rt => ?_)
  have hz := zOn_step
  refine g_iconst E (v := 0) dX13_bits_0 (by decide) rfl ?_
  refine g_istore_n E dX13_bits_1 rfl (by decide) rfl (lo1 := [some (.int (nI a)), some (.int 0), none]) rfl rfl ?_
  refine g_iload_n E dX13_bits_2 rfl rfl rfl ?_
  refine g_istore_n E dX13_bits_3 rfl (by decide) rfl (lo1 := [some (.int (nI a)), some (.int 0), some (.int (nI a))]) rfl rfl ?_
  have lp4 : ∀ (r9 : Nat) (b c : Nat), (b < 256) → (c + zOn b = zOn a) → (b < r9) → gV z g 0 0 4 [some (.int (nI a)), some (.int (nI c)), some (.int (nI b))] [] := by
    intro r9
    induction r9 with
    | zero => intro b c hb hc hm; exact absurd hm (Nat.not_lt_zero _)
    | succ r9 ih4 =>
      intro b c hb hc hm
      refine g_iload_n E dX13_bits_4 rfl rfl rfl ?_
      refine g_if_eq E dX13_bits_5 (tgt := 20) (by decide) rfl (fun c5 => ?_) (fun c5 => ?_)
      · have c5 := (nI_eq (a := b) (b := 0) (by omega) (by omega)).mp c5
        refine g_iload_n E dX13_bits_20 rfl rfl rfl ?_
        exact g_iret E Rt dX13_bits_21 rfl (by decide) (by decide) (⟨congrArg (fun x => some (Value.int x)) (by rw [show b = 0 by omega, zOn_0] at hc; rw [show c = zOn a by omega]), rfl⟩)
      · have c5 := mt (nI_eq (a := b) (b := 0) (by omega) (by omega)).mpr c5
        have hs := zOn_step b hb (by omega)
        refine g_iinc E dX13_bits_8 rfl (v := nI (c + 1)) (nI_c _) (by decide) rfl (lo1 := [some (.int (nI a)), some (.int (nI (c + 1))), some (.int (nI b))]) rfl rfl ?_
        refine g_iload_n E dX13_bits_11 rfl rfl rfl ?_
        refine g_iload_n E dX13_bits_12 rfl rfl rfl ?_
        refine g_iconst E (v := 1) dX13_bits_13 (by decide) rfl ?_
        refine g_isub E dX13_bits_14 rfl ?_
        refine g_iand E dX13_bits_15 rfl ?_
        refine g_as (y := nI (b &&& (b - 1))) (zOn_and (by omega)) ?_
        refine g_istore_n E dX13_bits_16 rfl (by decide) rfl (lo1 := [some (.int (nI a)), some (.int (nI (c + 1))), some (.int (nI (b &&& (b - 1))))]) rfl rfl ?_
        refine g_goto E dX13_bits_17 (tgt := 4) (by decide) ?_
        exact ih4 (b &&& (b - 1)) (c + 1) (by omega) (by omega) (by omega)
  exact lp4 (a + 1) a 0 ha (by omega) (by omega)
set_option maxHeartbeats 400000 in
theorem ct_X13_isGood (l : Launch) {g : gWM} {mb : Nat} {B : gBar} {th tr wh fa : Int32} {tp ac mk : Nat} (p : Int32) (hw : wfB B) (hM : pMq g (.ref mb) th tr wh tp fa ac mk []) (hMb : pMb g mb B) : gCt l yX13_isGood cX13_isGood 2 (some .boolean) 0 0 0 0 [.ref 2000, .int p] g (gPu (.int (zb (qI (B 0 3) p).isSome)) g) := by
  refine gCt.of RX13 (by decide) rfl (lo := [some (.ref 2000), some (.int p)]) 0 rfl (Nat.le_of_ble_eq_true rfl) (fun z E Rt => ?_)
  have hw_n := hw.1
  have hM_o := hM
  obtain ⟨hM_F, hM_a, hM_0, hM_1, hM_2, hM_3, hM_5, hM_6, hM_12, hM_15, hM_16, hM_17, hM_18, hM_19, hM_20, hM_26, hM_28, hM_29, -⟩ := hM_o
  have hMb_o := hMb
  obtain ⟨⟨hMb_F, hMb_a, hMb_0, hMb_1, hMb_2, hMb_3, hMb_4, hMb_5, hMb_6, hMb_7, hMb_8, hMb_9, hMb_11, hMb_12, hMb_13, hMb_14, hMb_15, hMb_16, hMb_17, hMb_18, hMb_19, hMb_20, hMb_21, hMb_22, hMb_23, hMb_24, hMb_25, hMb_26, hMb_27, hMb_28, hMb_29, hMb_30, hMb_31⟩, ⟨hMb_f1, hMb_a1, hMb_b1⟩, ⟨hMb_f2, hMb_a2, hMb_b2⟩, ⟨hMb_f3, hMb_a3, hMb_b3⟩, ⟨hMb_f4, hMb_a4, hMb_b4⟩, ⟨hMb_f5, hMb_a5, hMb_b5⟩, ⟨hMb_f6, hMb_a6, hMb_b6⟩, ⟨hMb_f7, hMb_a7, hMb_b7⟩, ⟨hMb_f8, hMb_a8, hMb_b8⟩, ⟨hMb_f9, hMb_a9, hMb_b9⟩, ⟨hMb_f10, hMb_a10, hMb_b10⟩, ⟨hMb_f11, hMb_a11, hMb_b11⟩, ⟨hMb_f12, hMb_a12, hMb_b12⟩, ⟨hMb_f13, hMb_a13, hMb_b13⟩, ⟨hMb_f14, hMb_a14, hMb_b14⟩, ⟨hMb_f15, hMb_a15, hMb_b15⟩, ⟨hMb_f16, hMb_a16, hMb_b16⟩, ⟨hMb_f17, hMb_a17, hMb_b17⟩, ⟨hMb_f18, hMb_a18, hMb_b18⟩, ⟨hMb_f19, hMb_a19, hMb_b19⟩, ⟨hMb_f20, hMb_a20, hMb_b20⟩, ⟨hMb_f21, hMb_a21, hMb_b21⟩⟩ := hMb_o
  refine g_aload_n E dX13_isGood_0 rfl rfl rfl ?_
  refine g_getf E gciX13 dX13_isGood_1 hM_a 3 rfl (by decide) q1743 (.inl rfl) (.ref mb) (hM_3) rfl ?_
  refine g_ifnullN E dX13_isGood_4 rfl ?_
  refine g_iload_n E dX13_isGood_7 rfl rfl rfl ?_
  refine g_if_lt E dX13_isGood_8 (tgt := 26) (by decide) rfl (fun c8 => ?_) (fun c8 => ?_)
  · refine g_iconst E (v := 0) dX13_isGood_26 (by decide) rfl ?_
    exact g_zret E Rt dX13_isGood_27 rfl (by decide) (by decide) (by decide) (⟨congrArg (fun x => some (Value.int x)) (by rw [qI_neg c8]; rfl), rfl⟩)
  · refine g_iload_n E dX13_isGood_11 rfl rfl rfl ?_
    refine g_aload_n E dX13_isGood_12 rfl rfl rfl ?_
    refine g_getf E gciX13 dX13_isGood_13 hM_a 3 rfl (by decide) q1743 (.inl rfl) (.ref mb) (hM_3) rfl ?_
    refine g_getfN E gciX27 dX13_isGood_16 hMb_a 5 rfl (by decide) q1862 (.inl rfl) (.int (nI (B 0 3))) (hMb_5) rfl ?_
    refine g_icmp_ge E dX13_isGood_19 (tgt := 26) (by decide) rfl (fun c19 => ?_) (fun c19 => ?_)
    · refine g_iconst E (v := 0) dX13_isGood_26 (by decide) rfl ?_
      exact g_zret E Rt dX13_isGood_27 rfl (by decide) (by decide) (by decide) (⟨congrArg (fun x => some (Value.int x)) (by rw [qI_ge (by omega) c19]; rfl), rfl⟩)
    · refine g_iconst E (v := 1) dX13_isGood_22 (by decide) rfl ?_
      refine g_goto E dX13_isGood_23 (tgt := 27) (by decide) ?_
      exact g_zret E Rt dX13_isGood_27 rfl (by decide) (by decide) (by decide) (⟨congrArg (fun x => some (Value.int x)) (by rw [qI_ok (by omega) c8 c19]; rfl), rfl⟩)
set_option maxHeartbeats 400000 in
theorem ct_X13_isGood_N (l : Launch) {g : gWM} {th tr wh fa : Int32} {tp ac mk : Nat} (p : Int32) (hM : pMq g .null th tr wh tp fa ac mk []) : gCt l yX13_isGood cX13_isGood 2 (some .boolean) 0 0 0 0 [.ref 2000, .int p] g (gPu (.int 0) g) := by
  refine gCt.of RX13 (by decide) rfl (lo := [some (.ref 2000), some (.int p)]) 0 rfl (Nat.le_of_ble_eq_true rfl) (fun z E Rt => ?_)
  have hM_o := hM
  obtain ⟨hM_F, hM_a, hM_0, hM_1, hM_2, hM_3, hM_5, hM_6, hM_12, hM_15, hM_16, hM_17, hM_18, hM_19, hM_20, hM_26, hM_28, hM_29, -⟩ := hM_o
  refine g_aload_n E dX13_isGood_0 rfl rfl rfl ?_
  refine g_getf E gciX13 dX13_isGood_1 hM_a 3 rfl (by decide) q1743 (.inl rfl) (.null) (hM_3) rfl ?_
  refine g_ifnullY E dX13_isGood_4 (tgt := 26) (by decide) ?_
  refine g_iconst E (v := 0) dX13_isGood_26 (by decide) rfl ?_
  exact g_zret E Rt dX13_isGood_27 rfl (by decide) (by decide) (by decide) (⟨rfl, rfl⟩)
set_option maxHeartbeats 400000 in
theorem ct_X13_isTraveller (l : Launch) {g : gWM} {mb : Nat} {B : gBar} {th tr wh fa : Int32} {tp ac mk : Nat} (p : Int32) (hw : wfB B) (hM : pMq g (.ref mb) th tr wh tp fa ac mk []) (hMb : pMb g mb B) : gCt l yX13_isTraveller cX13_isTraveller 2 (some .boolean) 0 0 0 0 [.ref 2000, .int p] g (gPu (.int (zb (qI (B 0 1) p).isSome)) g) := by
  refine gCt.of RX13 (by decide) rfl (lo := [some (.ref 2000), some (.int p)]) 0 rfl (Nat.le_of_ble_eq_true rfl) (fun z E Rt => ?_)
  have hw_n := hw.1
  have hM_o := hM
  obtain ⟨hM_F, hM_a, hM_0, hM_1, hM_2, hM_3, hM_5, hM_6, hM_12, hM_15, hM_16, hM_17, hM_18, hM_19, hM_20, hM_26, hM_28, hM_29, -⟩ := hM_o
  have hMb_o := hMb
  obtain ⟨⟨hMb_F, hMb_a, hMb_0, hMb_1, hMb_2, hMb_3, hMb_4, hMb_5, hMb_6, hMb_7, hMb_8, hMb_9, hMb_11, hMb_12, hMb_13, hMb_14, hMb_15, hMb_16, hMb_17, hMb_18, hMb_19, hMb_20, hMb_21, hMb_22, hMb_23, hMb_24, hMb_25, hMb_26, hMb_27, hMb_28, hMb_29, hMb_30, hMb_31⟩, ⟨hMb_f1, hMb_a1, hMb_b1⟩, ⟨hMb_f2, hMb_a2, hMb_b2⟩, ⟨hMb_f3, hMb_a3, hMb_b3⟩, ⟨hMb_f4, hMb_a4, hMb_b4⟩, ⟨hMb_f5, hMb_a5, hMb_b5⟩, ⟨hMb_f6, hMb_a6, hMb_b6⟩, ⟨hMb_f7, hMb_a7, hMb_b7⟩, ⟨hMb_f8, hMb_a8, hMb_b8⟩, ⟨hMb_f9, hMb_a9, hMb_b9⟩, ⟨hMb_f10, hMb_a10, hMb_b10⟩, ⟨hMb_f11, hMb_a11, hMb_b11⟩, ⟨hMb_f12, hMb_a12, hMb_b12⟩, ⟨hMb_f13, hMb_a13, hMb_b13⟩, ⟨hMb_f14, hMb_a14, hMb_b14⟩, ⟨hMb_f15, hMb_a15, hMb_b15⟩, ⟨hMb_f16, hMb_a16, hMb_b16⟩, ⟨hMb_f17, hMb_a17, hMb_b17⟩, ⟨hMb_f18, hMb_a18, hMb_b18⟩, ⟨hMb_f19, hMb_a19, hMb_b19⟩, ⟨hMb_f20, hMb_a20, hMb_b20⟩, ⟨hMb_f21, hMb_a21, hMb_b21⟩⟩ := hMb_o
  refine g_aload_n E dX13_isTraveller_0 rfl rfl rfl ?_
  refine g_getf E gciX13 dX13_isTraveller_1 hM_a 3 rfl (by decide) q1743 (.inl rfl) (.ref mb) (hM_3) rfl ?_
  refine g_ifnullN E dX13_isTraveller_4 rfl ?_
  refine g_iload_n E dX13_isTraveller_7 rfl rfl rfl ?_
  refine g_if_lt E dX13_isTraveller_8 (tgt := 26) (by decide) rfl (fun c8 => ?_) (fun c8 => ?_)
  · refine g_iconst E (v := 0) dX13_isTraveller_26 (by decide) rfl ?_
    exact g_zret E Rt dX13_isTraveller_27 rfl (by decide) (by decide) (by decide) (⟨congrArg (fun x => some (Value.int x)) (by rw [qI_neg c8]; rfl), rfl⟩)
  · refine g_iload_n E dX13_isTraveller_11 rfl rfl rfl ?_
    refine g_aload_n E dX13_isTraveller_12 rfl rfl rfl ?_
    refine g_getf E gciX13 dX13_isTraveller_13 hM_a 3 rfl (by decide) q1743 (.inl rfl) (.ref mb) (hM_3) rfl ?_
    refine g_getfN E gciX27 dX13_isTraveller_16 hMb_a 3 rfl (by decide) q1860 (.inl rfl) (.int (nI (B 0 1))) (hMb_3) rfl ?_
    refine g_icmp_ge E dX13_isTraveller_19 (tgt := 26) (by decide) rfl (fun c19 => ?_) (fun c19 => ?_)
    · refine g_iconst E (v := 0) dX13_isTraveller_26 (by decide) rfl ?_
      exact g_zret E Rt dX13_isTraveller_27 rfl (by decide) (by decide) (by decide) (⟨congrArg (fun x => some (Value.int x)) (by rw [qI_ge (by omega) c19]; rfl), rfl⟩)
    · refine g_iconst E (v := 1) dX13_isTraveller_22 (by decide) rfl ?_
      refine g_goto E dX13_isTraveller_23 (tgt := 27) (by decide) ?_
      exact g_zret E Rt dX13_isTraveller_27 rfl (by decide) (by decide) (by decide) (⟨congrArg (fun x => some (Value.int x)) (by rw [qI_ok (by omega) c8 c19]; rfl), rfl⟩)
set_option maxHeartbeats 400000 in
theorem ct_X13_isTraveller_N (l : Launch) {g : gWM} {th tr wh fa : Int32} {tp ac mk : Nat} (p : Int32) (hM : pMq g .null th tr wh tp fa ac mk []) : gCt l yX13_isTraveller cX13_isTraveller 2 (some .boolean) 0 0 0 0 [.ref 2000, .int p] g (gPu (.int 0) g) := by
  refine gCt.of RX13 (by decide) rfl (lo := [some (.ref 2000), some (.int p)]) 0 rfl (Nat.le_of_ble_eq_true rfl) (fun z E Rt => ?_)
  have hM_o := hM
  obtain ⟨hM_F, hM_a, hM_0, hM_1, hM_2, hM_3, hM_5, hM_6, hM_12, hM_15, hM_16, hM_17, hM_18, hM_19, hM_20, hM_26, hM_28, hM_29, -⟩ := hM_o
  refine g_aload_n E dX13_isTraveller_0 rfl rfl rfl ?_
  refine g_getf E gciX13 dX13_isTraveller_1 hM_a 3 rfl (by decide) q1743 (.inl rfl) (.null) (hM_3) rfl ?_
  refine g_ifnullY E dX13_isTraveller_4 (tgt := 26) (by decide) ?_
  refine g_iconst E (v := 0) dX13_isTraveller_26 (by decide) rfl ?_
  exact g_zret E Rt dX13_isTraveller_27 rfl (by decide) (by decide) (by decide) (⟨rfl, rfl⟩)
set_option maxHeartbeats 400000 in
theorem ct_X13_isMeans (l : Launch) {g : gWM} {mb : Nat} {B : gBar} {th tr wh fa : Int32} {tp ac mk : Nat} (p : Int32) (hw : wfB B) (hM : pMq g (.ref mb) th tr wh tp fa ac mk []) (hMb : pMb g mb B) : gCt l yX13_isMeans cX13_isMeans 2 (some .boolean) 0 0 0 0 [.ref 2000, .int p] g (gPu (.int (zb (qI (B 0 0) p).isSome)) g) := by
  refine gCt.of RX13 (by decide) rfl (lo := [some (.ref 2000), some (.int p)]) 0 rfl (Nat.le_of_ble_eq_true rfl) (fun z E Rt => ?_)
  have hw_n := hw.1
  have hM_o := hM
  obtain ⟨hM_F, hM_a, hM_0, hM_1, hM_2, hM_3, hM_5, hM_6, hM_12, hM_15, hM_16, hM_17, hM_18, hM_19, hM_20, hM_26, hM_28, hM_29, -⟩ := hM_o
  have hMb_o := hMb
  obtain ⟨⟨hMb_F, hMb_a, hMb_0, hMb_1, hMb_2, hMb_3, hMb_4, hMb_5, hMb_6, hMb_7, hMb_8, hMb_9, hMb_11, hMb_12, hMb_13, hMb_14, hMb_15, hMb_16, hMb_17, hMb_18, hMb_19, hMb_20, hMb_21, hMb_22, hMb_23, hMb_24, hMb_25, hMb_26, hMb_27, hMb_28, hMb_29, hMb_30, hMb_31⟩, ⟨hMb_f1, hMb_a1, hMb_b1⟩, ⟨hMb_f2, hMb_a2, hMb_b2⟩, ⟨hMb_f3, hMb_a3, hMb_b3⟩, ⟨hMb_f4, hMb_a4, hMb_b4⟩, ⟨hMb_f5, hMb_a5, hMb_b5⟩, ⟨hMb_f6, hMb_a6, hMb_b6⟩, ⟨hMb_f7, hMb_a7, hMb_b7⟩, ⟨hMb_f8, hMb_a8, hMb_b8⟩, ⟨hMb_f9, hMb_a9, hMb_b9⟩, ⟨hMb_f10, hMb_a10, hMb_b10⟩, ⟨hMb_f11, hMb_a11, hMb_b11⟩, ⟨hMb_f12, hMb_a12, hMb_b12⟩, ⟨hMb_f13, hMb_a13, hMb_b13⟩, ⟨hMb_f14, hMb_a14, hMb_b14⟩, ⟨hMb_f15, hMb_a15, hMb_b15⟩, ⟨hMb_f16, hMb_a16, hMb_b16⟩, ⟨hMb_f17, hMb_a17, hMb_b17⟩, ⟨hMb_f18, hMb_a18, hMb_b18⟩, ⟨hMb_f19, hMb_a19, hMb_b19⟩, ⟨hMb_f20, hMb_a20, hMb_b20⟩, ⟨hMb_f21, hMb_a21, hMb_b21⟩⟩ := hMb_o
  refine g_aload_n E dX13_isMeans_0 rfl rfl rfl ?_
  refine g_getf E gciX13 dX13_isMeans_1 hM_a 3 rfl (by decide) q1743 (.inl rfl) (.ref mb) (hM_3) rfl ?_
  refine g_ifnullN E dX13_isMeans_4 rfl ?_
  refine g_iload_n E dX13_isMeans_7 rfl rfl rfl ?_
  refine g_if_lt E dX13_isMeans_8 (tgt := 26) (by decide) rfl (fun c8 => ?_) (fun c8 => ?_)
  · refine g_iconst E (v := 0) dX13_isMeans_26 (by decide) rfl ?_
    exact g_zret E Rt dX13_isMeans_27 rfl (by decide) (by decide) (by decide) (⟨congrArg (fun x => some (Value.int x)) (by rw [qI_neg c8]; rfl), rfl⟩)
  · refine g_iload_n E dX13_isMeans_11 rfl rfl rfl ?_
    refine g_aload_n E dX13_isMeans_12 rfl rfl rfl ?_
    refine g_getf E gciX13 dX13_isMeans_13 hM_a 3 rfl (by decide) q1743 (.inl rfl) (.ref mb) (hM_3) rfl ?_
    refine g_getfN E gciX27 dX13_isMeans_16 hMb_a 2 rfl (by decide) q1859 (.inl rfl) (.int (nI (B 0 0))) (hMb_2) rfl ?_
    refine g_icmp_ge E dX13_isMeans_19 (tgt := 26) (by decide) rfl (fun c19 => ?_) (fun c19 => ?_)
    · refine g_iconst E (v := 0) dX13_isMeans_26 (by decide) rfl ?_
      exact g_zret E Rt dX13_isMeans_27 rfl (by decide) (by decide) (by decide) (⟨congrArg (fun x => some (Value.int x)) (by rw [qI_ge (by omega) c19]; rfl), rfl⟩)
    · refine g_iconst E (v := 1) dX13_isMeans_22 (by decide) rfl ?_
      refine g_goto E dX13_isMeans_23 (tgt := 27) (by decide) ?_
      exact g_zret E Rt dX13_isMeans_27 rfl (by decide) (by decide) (by decide) (⟨congrArg (fun x => some (Value.int x)) (by rw [qI_ok (by omega) c8 c19]; rfl), rfl⟩)
set_option maxHeartbeats 400000 in
theorem ct_X13_isMeans_N (l : Launch) {g : gWM} {th tr wh fa : Int32} {tp ac mk : Nat} (p : Int32) (hM : pMq g .null th tr wh tp fa ac mk []) : gCt l yX13_isMeans cX13_isMeans 2 (some .boolean) 0 0 0 0 [.ref 2000, .int p] g (gPu (.int 0) g) := by
  refine gCt.of RX13 (by decide) rfl (lo := [some (.ref 2000), some (.int p)]) 0 rfl (Nat.le_of_ble_eq_true rfl) (fun z E Rt => ?_)
  have hM_o := hM
  obtain ⟨hM_F, hM_a, hM_0, hM_1, hM_2, hM_3, hM_5, hM_6, hM_12, hM_15, hM_16, hM_17, hM_18, hM_19, hM_20, hM_26, hM_28, hM_29, -⟩ := hM_o
  refine g_aload_n E dX13_isMeans_0 rfl rfl rfl ?_
  refine g_getf E gciX13 dX13_isMeans_1 hM_a 3 rfl (by decide) q1743 (.inl rfl) (.null) (hM_3) rfl ?_
  refine g_ifnullY E dX13_isMeans_4 (tgt := 26) (by decide) ?_
  refine g_iconst E (v := 0) dX13_isMeans_26 (by decide) rfl ?_
  exact g_zret E Rt dX13_isMeans_27 rfl (by decide) (by decide) (by decide) (⟨rfl, rfl⟩)
set_option maxHeartbeats 400000 in
theorem ct_X13_isGate (l : Launch) {g : gWM} {mb : Nat} {B : gBar} {th tr wh fa : Int32} {tp ac mk : Nat} (p : Int32) (hw : wfB B) (hM : pMq g (.ref mb) th tr wh tp fa ac mk []) (hMb : pMb g mb B) : gCt l yX13_isGate cX13_isGate 2 (some .boolean) 0 0 0 0 [.ref 2000, .int p] g (gPu (.int (zb (qI (B 0 2) p).isSome)) g) := by
  refine gCt.of RX13 (by decide) rfl (lo := [some (.ref 2000), some (.int p)]) 0 rfl (Nat.le_of_ble_eq_true rfl) (fun z E Rt => ?_)
  have hw_n := hw.1
  have hM_o := hM
  obtain ⟨hM_F, hM_a, hM_0, hM_1, hM_2, hM_3, hM_5, hM_6, hM_12, hM_15, hM_16, hM_17, hM_18, hM_19, hM_20, hM_26, hM_28, hM_29, -⟩ := hM_o
  have hMb_o := hMb
  obtain ⟨⟨hMb_F, hMb_a, hMb_0, hMb_1, hMb_2, hMb_3, hMb_4, hMb_5, hMb_6, hMb_7, hMb_8, hMb_9, hMb_11, hMb_12, hMb_13, hMb_14, hMb_15, hMb_16, hMb_17, hMb_18, hMb_19, hMb_20, hMb_21, hMb_22, hMb_23, hMb_24, hMb_25, hMb_26, hMb_27, hMb_28, hMb_29, hMb_30, hMb_31⟩, ⟨hMb_f1, hMb_a1, hMb_b1⟩, ⟨hMb_f2, hMb_a2, hMb_b2⟩, ⟨hMb_f3, hMb_a3, hMb_b3⟩, ⟨hMb_f4, hMb_a4, hMb_b4⟩, ⟨hMb_f5, hMb_a5, hMb_b5⟩, ⟨hMb_f6, hMb_a6, hMb_b6⟩, ⟨hMb_f7, hMb_a7, hMb_b7⟩, ⟨hMb_f8, hMb_a8, hMb_b8⟩, ⟨hMb_f9, hMb_a9, hMb_b9⟩, ⟨hMb_f10, hMb_a10, hMb_b10⟩, ⟨hMb_f11, hMb_a11, hMb_b11⟩, ⟨hMb_f12, hMb_a12, hMb_b12⟩, ⟨hMb_f13, hMb_a13, hMb_b13⟩, ⟨hMb_f14, hMb_a14, hMb_b14⟩, ⟨hMb_f15, hMb_a15, hMb_b15⟩, ⟨hMb_f16, hMb_a16, hMb_b16⟩, ⟨hMb_f17, hMb_a17, hMb_b17⟩, ⟨hMb_f18, hMb_a18, hMb_b18⟩, ⟨hMb_f19, hMb_a19, hMb_b19⟩, ⟨hMb_f20, hMb_a20, hMb_b20⟩, ⟨hMb_f21, hMb_a21, hMb_b21⟩⟩ := hMb_o
  refine g_aload_n E dX13_isGate_0 rfl rfl rfl ?_
  refine g_getf E gciX13 dX13_isGate_1 hM_a 3 rfl (by decide) q1743 (.inl rfl) (.ref mb) (hM_3) rfl ?_
  refine g_ifnullN E dX13_isGate_4 rfl ?_
  refine g_iload_n E dX13_isGate_7 rfl rfl rfl ?_
  refine g_if_lt E dX13_isGate_8 (tgt := 26) (by decide) rfl (fun c8 => ?_) (fun c8 => ?_)
  · refine g_iconst E (v := 0) dX13_isGate_26 (by decide) rfl ?_
    exact g_zret E Rt dX13_isGate_27 rfl (by decide) (by decide) (by decide) (⟨congrArg (fun x => some (Value.int x)) (by rw [qI_neg c8]; rfl), rfl⟩)
  · refine g_iload_n E dX13_isGate_11 rfl rfl rfl ?_
    refine g_aload_n E dX13_isGate_12 rfl rfl rfl ?_
    refine g_getf E gciX13 dX13_isGate_13 hM_a 3 rfl (by decide) q1743 (.inl rfl) (.ref mb) (hM_3) rfl ?_
    refine g_getfN E gciX27 dX13_isGate_16 hMb_a 4 rfl (by decide) q1861 (.inl rfl) (.int (nI (B 0 2))) (hMb_4) rfl ?_
    refine g_icmp_ge E dX13_isGate_19 (tgt := 26) (by decide) rfl (fun c19 => ?_) (fun c19 => ?_)
    · refine g_iconst E (v := 0) dX13_isGate_26 (by decide) rfl ?_
      exact g_zret E Rt dX13_isGate_27 rfl (by decide) (by decide) (by decide) (⟨congrArg (fun x => some (Value.int x)) (by rw [qI_ge (by omega) c19]; rfl), rfl⟩)
    · refine g_iconst E (v := 1) dX13_isGate_22 (by decide) rfl ?_
      refine g_goto E dX13_isGate_23 (tgt := 27) (by decide) ?_
      exact g_zret E Rt dX13_isGate_27 rfl (by decide) (by decide) (by decide) (⟨congrArg (fun x => some (Value.int x)) (by rw [qI_ok (by omega) c8 c19]; rfl), rfl⟩)
set_option maxHeartbeats 400000 in
theorem ct_X13_isGate_N (l : Launch) {g : gWM} {th tr wh fa : Int32} {tp ac mk : Nat} (p : Int32) (hM : pMq g .null th tr wh tp fa ac mk []) : gCt l yX13_isGate cX13_isGate 2 (some .boolean) 0 0 0 0 [.ref 2000, .int p] g (gPu (.int 0) g) := by
  refine gCt.of RX13 (by decide) rfl (lo := [some (.ref 2000), some (.int p)]) 0 rfl (Nat.le_of_ble_eq_true rfl) (fun z E Rt => ?_)
  have hM_o := hM
  obtain ⟨hM_F, hM_a, hM_0, hM_1, hM_2, hM_3, hM_5, hM_6, hM_12, hM_15, hM_16, hM_17, hM_18, hM_19, hM_20, hM_26, hM_28, hM_29, -⟩ := hM_o
  refine g_aload_n E dX13_isGate_0 rfl rfl rfl ?_
  refine g_getf E gciX13 dX13_isGate_1 hM_a 3 rfl (by decide) q1743 (.inl rfl) (.null) (hM_3) rfl ?_
  refine g_ifnullY E dX13_isGate_4 (tgt := 26) (by decide) ?_
  refine g_iconst E (v := 0) dX13_isGate_26 (by decide) rfl ?_
  exact g_zret E Rt dX13_isGate_27 rfl (by decide) (by decide) (by decide) (⟨rfl, rfl⟩)
set_option maxHeartbeats 400000 in
theorem ct_X13_isCrumb (l : Launch) {g : gWM} {mb : Nat} {B : gBar} {th tr wh fa : Int32} {tp ac mk : Nat} (p : Int32) (hw : wfB B) (hM : pMq g (.ref mb) th tr wh tp fa ac mk []) (hMb : pMb g mb B) : gCt l yX13_isCrumb cX13_isCrumb 2 (some .boolean) 0 0 0 0 [.ref 2000, .int p] g (gPu (.int (zb (qI (B 0 6) p).isSome)) g) := by
  refine gCt.of RX13 (by decide) rfl (lo := [some (.ref 2000), some (.int p)]) 0 rfl (Nat.le_of_ble_eq_true rfl) (fun z E Rt => ?_)
  have hw_n := hw.1
  have hM_o := hM
  obtain ⟨hM_F, hM_a, hM_0, hM_1, hM_2, hM_3, hM_5, hM_6, hM_12, hM_15, hM_16, hM_17, hM_18, hM_19, hM_20, hM_26, hM_28, hM_29, -⟩ := hM_o
  have hMb_o := hMb
  obtain ⟨⟨hMb_F, hMb_a, hMb_0, hMb_1, hMb_2, hMb_3, hMb_4, hMb_5, hMb_6, hMb_7, hMb_8, hMb_9, hMb_11, hMb_12, hMb_13, hMb_14, hMb_15, hMb_16, hMb_17, hMb_18, hMb_19, hMb_20, hMb_21, hMb_22, hMb_23, hMb_24, hMb_25, hMb_26, hMb_27, hMb_28, hMb_29, hMb_30, hMb_31⟩, ⟨hMb_f1, hMb_a1, hMb_b1⟩, ⟨hMb_f2, hMb_a2, hMb_b2⟩, ⟨hMb_f3, hMb_a3, hMb_b3⟩, ⟨hMb_f4, hMb_a4, hMb_b4⟩, ⟨hMb_f5, hMb_a5, hMb_b5⟩, ⟨hMb_f6, hMb_a6, hMb_b6⟩, ⟨hMb_f7, hMb_a7, hMb_b7⟩, ⟨hMb_f8, hMb_a8, hMb_b8⟩, ⟨hMb_f9, hMb_a9, hMb_b9⟩, ⟨hMb_f10, hMb_a10, hMb_b10⟩, ⟨hMb_f11, hMb_a11, hMb_b11⟩, ⟨hMb_f12, hMb_a12, hMb_b12⟩, ⟨hMb_f13, hMb_a13, hMb_b13⟩, ⟨hMb_f14, hMb_a14, hMb_b14⟩, ⟨hMb_f15, hMb_a15, hMb_b15⟩, ⟨hMb_f16, hMb_a16, hMb_b16⟩, ⟨hMb_f17, hMb_a17, hMb_b17⟩, ⟨hMb_f18, hMb_a18, hMb_b18⟩, ⟨hMb_f19, hMb_a19, hMb_b19⟩, ⟨hMb_f20, hMb_a20, hMb_b20⟩, ⟨hMb_f21, hMb_a21, hMb_b21⟩⟩ := hMb_o
  refine g_aload_n E dX13_isCrumb_0 rfl rfl rfl ?_
  refine g_getf E gciX13 dX13_isCrumb_1 hM_a 3 rfl (by decide) q1743 (.inl rfl) (.ref mb) (hM_3) rfl ?_
  refine g_ifnullN E dX13_isCrumb_4 rfl ?_
  refine g_iload_n E dX13_isCrumb_7 rfl rfl rfl ?_
  refine g_if_lt E dX13_isCrumb_8 (tgt := 26) (by decide) rfl (fun c8 => ?_) (fun c8 => ?_)
  · refine g_iconst E (v := 0) dX13_isCrumb_26 (by decide) rfl ?_
    exact g_zret E Rt dX13_isCrumb_27 rfl (by decide) (by decide) (by decide) (⟨congrArg (fun x => some (Value.int x)) (by rw [qI_neg c8]; rfl), rfl⟩)
  · refine g_iload_n E dX13_isCrumb_11 rfl rfl rfl ?_
    refine g_aload_n E dX13_isCrumb_12 rfl rfl rfl ?_
    refine g_getf E gciX13 dX13_isCrumb_13 hM_a 3 rfl (by decide) q1743 (.inl rfl) (.ref mb) (hM_3) rfl ?_
    refine g_getfN E gciX27 dX13_isCrumb_16 hMb_a 8 rfl (by decide) q1865 (.inl rfl) (.int (nI (B 0 6))) (hMb_8) rfl ?_
    refine g_icmp_ge E dX13_isCrumb_19 (tgt := 26) (by decide) rfl (fun c19 => ?_) (fun c19 => ?_)
    · refine g_iconst E (v := 0) dX13_isCrumb_26 (by decide) rfl ?_
      exact g_zret E Rt dX13_isCrumb_27 rfl (by decide) (by decide) (by decide) (⟨congrArg (fun x => some (Value.int x)) (by rw [qI_ge (by omega) c19]; rfl), rfl⟩)
    · refine g_iconst E (v := 1) dX13_isCrumb_22 (by decide) rfl ?_
      refine g_goto E dX13_isCrumb_23 (tgt := 27) (by decide) ?_
      exact g_zret E Rt dX13_isCrumb_27 rfl (by decide) (by decide) (by decide) (⟨congrArg (fun x => some (Value.int x)) (by rw [qI_ok (by omega) c8 c19]; rfl), rfl⟩)
set_option maxHeartbeats 400000 in
theorem ct_X13_isCrumb_N (l : Launch) {g : gWM} {th tr wh fa : Int32} {tp ac mk : Nat} (p : Int32) (hM : pMq g .null th tr wh tp fa ac mk []) : gCt l yX13_isCrumb cX13_isCrumb 2 (some .boolean) 0 0 0 0 [.ref 2000, .int p] g (gPu (.int 0) g) := by
  refine gCt.of RX13 (by decide) rfl (lo := [some (.ref 2000), some (.int p)]) 0 rfl (Nat.le_of_ble_eq_true rfl) (fun z E Rt => ?_)
  have hM_o := hM
  obtain ⟨hM_F, hM_a, hM_0, hM_1, hM_2, hM_3, hM_5, hM_6, hM_12, hM_15, hM_16, hM_17, hM_18, hM_19, hM_20, hM_26, hM_28, hM_29, -⟩ := hM_o
  refine g_aload_n E dX13_isCrumb_0 rfl rfl rfl ?_
  refine g_getf E gciX13 dX13_isCrumb_1 hM_a 3 rfl (by decide) q1743 (.inl rfl) (.null) (hM_3) rfl ?_
  refine g_ifnullY E dX13_isCrumb_4 (tgt := 26) (by decide) ?_
  refine g_iconst E (v := 0) dX13_isCrumb_26 (by decide) rfl ?_
  exact g_zret E Rt dX13_isCrumb_27 rfl (by decide) (by decide) (by decide) (⟨rfl, rfl⟩)
set_option maxHeartbeats 400000 in
theorem ct_X27_isTurned (l : Launch) {g : gWM} {mb : Nat} {B : gBar} (j : Nat) (a : Int32) (hw : wfB B) (hMb : pMb g mb B) (hj : j < B 0 3) : gCt l yX27_isTurned cX27_isTurned 3 (some .boolean) 0 0 0 0 [.ref mb, .int (nI j), .int a] g (gPu (.int (zb (zTa B j a))) g) := by
  refine gCt.of RX27 (by decide) rfl (lo := [some (.ref mb), some (.int (nI j)), some (.int a)]) 0 rfl (Nat.le_of_ble_eq_true rfl) (fun z E Rt => ?_)
  have hw_n := hw.1
  have hMb_o := hMb
  obtain ⟨⟨hMb_F, hMb_a, hMb_0, hMb_1, hMb_2, hMb_3, hMb_4, hMb_5, hMb_6, hMb_7, hMb_8, hMb_9, hMb_11, hMb_12, hMb_13, hMb_14, hMb_15, hMb_16, hMb_17, hMb_18, hMb_19, hMb_20, hMb_21, hMb_22, hMb_23, hMb_24, hMb_25, hMb_26, hMb_27, hMb_28, hMb_29, hMb_30, hMb_31⟩, ⟨hMb_f1, hMb_a1, hMb_b1⟩, ⟨hMb_f2, hMb_a2, hMb_b2⟩, ⟨hMb_f3, hMb_a3, hMb_b3⟩, ⟨hMb_f4, hMb_a4, hMb_b4⟩, ⟨hMb_f5, hMb_a5, hMb_b5⟩, ⟨hMb_f6, hMb_a6, hMb_b6⟩, ⟨hMb_f7, hMb_a7, hMb_b7⟩, ⟨hMb_f8, hMb_a8, hMb_b8⟩, ⟨hMb_f9, hMb_a9, hMb_b9⟩, ⟨hMb_f10, hMb_a10, hMb_b10⟩, ⟨hMb_f11, hMb_a11, hMb_b11⟩, ⟨hMb_f12, hMb_a12, hMb_b12⟩, ⟨hMb_f13, hMb_a13, hMb_b13⟩, ⟨hMb_f14, hMb_a14, hMb_b14⟩, ⟨hMb_f15, hMb_a15, hMb_b15⟩, ⟨hMb_f16, hMb_a16, hMb_b16⟩, ⟨hMb_f17, hMb_a17, hMb_b17⟩, ⟨hMb_f18, hMb_a18, hMb_b18⟩, ⟨hMb_f19, hMb_a19, hMb_b19⟩, ⟨hMb_f20, hMb_a20, hMb_b20⟩, ⟨hMb_f21, hMb_a21, hMb_b21⟩⟩ := hMb_o
  have hgd := hw.goods hj
  refine g_aload_n E dX27_isTurned_0 rfl rfl rfl ?_
  refine g_getf E gciX27 dX27_isTurned_1 hMb_a 20 rfl (by decide) q1887 (.inl rfl) (.ref (mb + 10)) (hMb_20) rfl ?_
  refine g_iload_n E dX27_isTurned_4 rfl rfl rfl ?_
  refine g_iald E dX27_isTurned_5 (j := j) hMb_a10 (rfl) (by omega) (by decide) (v := nI (B 12 j)) (hMb_b10 j (by omega)) rfl ?_
  refine g_iconst E (v := 4) dX27_isTurned_6 (by decide) rfl ?_
  refine g_icmp_eq E dX27_isTurned_7 (tgt := 42) (by decide) rfl (fun c7 => ?_) (fun c7 => ?_)
  · have c7 := (nI_eq (a := B 12 j) (b := 4) (by omega) (by omega)).mp c7
    refine g_iconst E (v := 0) dX27_isTurned_42 (by decide) rfl ?_
    exact g_zret E Rt dX27_isTurned_43 rfl (by decide) (by decide) (by decide) (⟨congrArg (fun x => some (Value.int x)) (by simp [zTa, zb, c7]), rfl⟩)
  · have c7 := mt (nI_eq (a := B 12 j) (b := 4) (by omega) (by omega)).mpr c7
    refine g_iload_n E dX27_isTurned_10 rfl rfl rfl ?_
    refine g_aload_n E dX27_isTurned_11 rfl rfl rfl ?_
    refine g_getf E gciX27 dX27_isTurned_12 hMb_a 20 rfl (by decide) q1887 (.inl rfl) (.ref (mb + 10)) (hMb_20) rfl ?_
    refine g_iload_n E dX27_isTurned_15 rfl rfl rfl ?_
    refine g_iald E dX27_isTurned_16 (j := j) hMb_a10 (rfl) (by omega) (by decide) (v := nI (B 12 j)) (hMb_b10 j (by omega)) rfl ?_
    refine g_if_ne E dX27_isTurned_17 (tgt := 24) (by decide) rfl (fun c17 => ?_) (fun c17 => ?_)
    · have c17 := mt (nI_eq (a := B 12 j) (b := 0) (by omega) (by omega)).mpr c17
      refine g_aload_n E dX27_isTurned_24 rfl rfl rfl ?_
      refine g_getf E gciX27 dX27_isTurned_25 hMb_a 12 rfl (by decide) q1871 (.inl rfl) (.ref (mb + 2)) (hMb_12) rfl ?_
      refine g_aload_n E dX27_isTurned_28 rfl rfl rfl ?_
      refine g_getf E gciX27 dX27_isTurned_29 hMb_a 21 rfl (by decide) q1889 (.inl rfl) (.ref (mb + 11)) (hMb_21) rfl ?_
      refine g_iload_n E dX27_isTurned_32 rfl rfl rfl ?_
      refine g_iald E dX27_isTurned_33 (j := j) hMb_a11 (rfl) (by omega) (by decide) (v := if B 12 j = 0 then -2 else nI (B 13 j)) (hMb_b11 j (by omega)) rfl ?_
      refine g_as (y := nI (B 13 j)) (if_neg c17) ?_
      refine g_iald E dX27_isTurned_34 (j := B 13 j) hMb_a2 (rfl) (by omega) (by decide) (v := nI (B 3 (B 13 j))) (hMb_b2 (B 13 j) (by omega)) rfl ?_
      refine g_icmp_le E dX27_isTurned_35 (tgt := 42) (by decide) rfl (fun c35 => ?_) (fun c35 => ?_)
      · refine g_iconst E (v := 0) dX27_isTurned_42 (by decide) rfl ?_
        exact g_zret E Rt dX27_isTurned_43 rfl (by decide) (by decide) (by decide) (⟨congrArg (fun x => some (Value.int x)) (by simp [zTa, zb, c7, c17, c35]), rfl⟩)
      · refine g_iconst E (v := 1) dX27_isTurned_38 (by decide) rfl ?_
        refine g_goto E dX27_isTurned_39 (tgt := 43) (by decide) ?_
        exact g_zret E Rt dX27_isTurned_43 rfl (by decide) (by decide) (by decide) (⟨congrArg (fun x => some (Value.int x)) (by simp [zTa, zb, c7, c17, c35]), rfl⟩)
    · have c17 := (nI_eq (a := B 12 j) (b := 0) (by omega) (by omega)).mp c17
      refine g_iconst E (v := 3) dX27_isTurned_20 (by decide) rfl ?_
      refine g_goto E dX27_isTurned_21 (tgt := 35) (by decide) ?_
      refine g_icmp_le E dX27_isTurned_35 (tgt := 42) (by decide) rfl (fun c35 => ?_) (fun c35 => ?_)
      · refine g_iconst E (v := 0) dX27_isTurned_42 (by decide) rfl ?_
        exact g_zret E Rt dX27_isTurned_43 rfl (by decide) (by decide) (by decide) (⟨congrArg (fun x => some (Value.int x)) (by simp [zTa, zb, c7, c17, c35]), rfl⟩)
      · refine g_iconst E (v := 1) dX27_isTurned_38 (by decide) rfl ?_
        refine g_goto E dX27_isTurned_39 (tgt := 43) (by decide) ?_
        exact g_zret E Rt dX27_isTurned_43 rfl (by decide) (by decide) (by decide) (⟨congrArg (fun x => some (Value.int x)) (by simp [zTa, zb, c7, c17, c35]), rfl⟩)
set_option maxHeartbeats 400000 in
theorem ct_X27_isPriced (l : Launch) {g : gWM} {mb : Nat} {B : gBar} (k : Nat) (hw : wfB B) (hMb : pMb g mb B) (hk : k < B 0 0) : gCt l yX27_isPriced cX27_isPriced 2 (some .boolean) 0 0 0 0 [.ref mb, .int (nI k)] g (gPu (.int (zb (decide (B 6 k ≠ 0)))) g) := by
  refine gCt.of RX27 (by decide) rfl (lo := [some (.ref mb), some (.int (nI k))]) 0 rfl (Nat.le_of_ble_eq_true rfl) (fun z E Rt => ?_)
  have hw_n := hw.1
  have hMb_o := hMb
  obtain ⟨⟨hMb_F, hMb_a, hMb_0, hMb_1, hMb_2, hMb_3, hMb_4, hMb_5, hMb_6, hMb_7, hMb_8, hMb_9, hMb_11, hMb_12, hMb_13, hMb_14, hMb_15, hMb_16, hMb_17, hMb_18, hMb_19, hMb_20, hMb_21, hMb_22, hMb_23, hMb_24, hMb_25, hMb_26, hMb_27, hMb_28, hMb_29, hMb_30, hMb_31⟩, ⟨hMb_f1, hMb_a1, hMb_b1⟩, ⟨hMb_f2, hMb_a2, hMb_b2⟩, ⟨hMb_f3, hMb_a3, hMb_b3⟩, ⟨hMb_f4, hMb_a4, hMb_b4⟩, ⟨hMb_f5, hMb_a5, hMb_b5⟩, ⟨hMb_f6, hMb_a6, hMb_b6⟩, ⟨hMb_f7, hMb_a7, hMb_b7⟩, ⟨hMb_f8, hMb_a8, hMb_b8⟩, ⟨hMb_f9, hMb_a9, hMb_b9⟩, ⟨hMb_f10, hMb_a10, hMb_b10⟩, ⟨hMb_f11, hMb_a11, hMb_b11⟩, ⟨hMb_f12, hMb_a12, hMb_b12⟩, ⟨hMb_f13, hMb_a13, hMb_b13⟩, ⟨hMb_f14, hMb_a14, hMb_b14⟩, ⟨hMb_f15, hMb_a15, hMb_b15⟩, ⟨hMb_f16, hMb_a16, hMb_b16⟩, ⟨hMb_f17, hMb_a17, hMb_b17⟩, ⟨hMb_f18, hMb_a18, hMb_b18⟩, ⟨hMb_f19, hMb_a19, hMb_b19⟩, ⟨hMb_f20, hMb_a20, hMb_b20⟩, ⟨hMb_f21, hMb_a21, hMb_b21⟩⟩ := hMb_o
  have hme := hw.2.1 k hk
  refine g_aload_n E dX27_isPriced_0 rfl rfl rfl ?_
  refine g_getf E gciX27 dX27_isPriced_1 hMb_a 13 rfl (by decide) q1873 (.inl rfl) (.ref (mb + 3)) (hMb_13) rfl ?_
  refine g_iload_n E dX27_isPriced_4 rfl rfl rfl ?_
  refine g_iald E dX27_isPriced_5 (j := k) hMb_a3 (rfl) (by omega) (by decide) (v := if B 6 k = 0 then -1 else nI (B 4 k)) (hMb_b3 k (by omega)) rfl ?_
  refine g_iconst E (v := (-1)) dX27_isPriced_6 (by decide) rfl ?_
  refine g_icmp_eq E dX27_isPriced_7 (tgt := 14) (by decide) rfl (fun c7 => ?_) (fun c7 => ?_)
  · refine g_iconst E (v := 0) dX27_isPriced_14 (by decide) rfl ?_
    exact g_zret E Rt dX27_isPriced_15 rfl (by decide) (by decide) (by decide) (⟨congrArg (fun x => some (Value.int x)) (pri_f c7), rfl⟩)
  · refine g_iconst E (v := 1) dX27_isPriced_10 (by decide) rfl ?_
    refine g_goto E dX27_isPriced_11 (tgt := 15) (by decide) ?_
    exact g_zret E Rt dX27_isPriced_15 rfl (by decide) (by decide) (by decide) (⟨congrArg (fun x => some (Value.int x)) (pri_t c7), rfl⟩)
set_option maxHeartbeats 400000 in
theorem ct_X13_ageIn (l : Launch) {g : gWM} {mb rk : Nat} {B : gBar} {R : Nat → Int32} {d : Int32} {th tr wh fa : Int32} {tp ac mk : Nat} (j : Nat) (hw : wfB B) (hM : pMq g (.ref mb) th tr wh tp fa ac mk []) (hMb : pMb g mb B) (hR : pRw g rk B R d) (hj : j < B 0 3) : gCt l yX13_ageIn cX13_ageIn 3 (some .int) 0 0 0 0 [.ref 2000, .ref rk, .int (nI j)] g (gPu (.int (zAge B j d)) g) := by
  refine gCt.of RX13 (by decide) rfl (lo := [some (.ref 2000), some (.ref rk), some (.int (nI j))]) 0 rfl (Nat.le_of_ble_eq_true rfl) (fun z E Rt => ?_)
  have hw_n := hw.1
  have hM_o := hM
  obtain ⟨hM_F, hM_a, hM_0, hM_1, hM_2, hM_3, hM_5, hM_6, hM_12, hM_15, hM_16, hM_17, hM_18, hM_19, hM_20, hM_26, hM_28, hM_29, -⟩ := hM_o
  have hMb_o := hMb
  obtain ⟨⟨hMb_F, hMb_a, hMb_0, hMb_1, hMb_2, hMb_3, hMb_4, hMb_5, hMb_6, hMb_7, hMb_8, hMb_9, hMb_11, hMb_12, hMb_13, hMb_14, hMb_15, hMb_16, hMb_17, hMb_18, hMb_19, hMb_20, hMb_21, hMb_22, hMb_23, hMb_24, hMb_25, hMb_26, hMb_27, hMb_28, hMb_29, hMb_30, hMb_31⟩, ⟨hMb_f1, hMb_a1, hMb_b1⟩, ⟨hMb_f2, hMb_a2, hMb_b2⟩, ⟨hMb_f3, hMb_a3, hMb_b3⟩, ⟨hMb_f4, hMb_a4, hMb_b4⟩, ⟨hMb_f5, hMb_a5, hMb_b5⟩, ⟨hMb_f6, hMb_a6, hMb_b6⟩, ⟨hMb_f7, hMb_a7, hMb_b7⟩, ⟨hMb_f8, hMb_a8, hMb_b8⟩, ⟨hMb_f9, hMb_a9, hMb_b9⟩, ⟨hMb_f10, hMb_a10, hMb_b10⟩, ⟨hMb_f11, hMb_a11, hMb_b11⟩, ⟨hMb_f12, hMb_a12, hMb_b12⟩, ⟨hMb_f13, hMb_a13, hMb_b13⟩, ⟨hMb_f14, hMb_a14, hMb_b14⟩, ⟨hMb_f15, hMb_a15, hMb_b15⟩, ⟨hMb_f16, hMb_a16, hMb_b16⟩, ⟨hMb_f17, hMb_a17, hMb_b17⟩, ⟨hMb_f18, hMb_a18, hMb_b18⟩, ⟨hMb_f19, hMb_a19, hMb_b19⟩, ⟨hMb_f20, hMb_a20, hMb_b20⟩, ⟨hMb_f21, hMb_a21, hMb_b21⟩⟩ := hMb_o
  have hR_o := hR
  obtain ⟨hR_f, hR_a, hR_r, hR_d⟩ := hR_o
  refine g_aload_n E dX13_ageIn_0 rfl rfl rfl ?_
  refine g_getf E gciX13 dX13_ageIn_1 hM_a 3 rfl (by decide) q1743 (.inl rfl) (.ref mb) (hM_3) rfl ?_
  refine g_getfN E gciX27 dX13_ageIn_4 hMb_a 23 rfl (by decide) q1894 (.inl rfl) (.ref (mb + 13)) (hMb_23) rfl ?_
  refine g_iload_n E dX13_ageIn_7 rfl rfl rfl ?_
  refine g_iald E dX13_ageIn_8 (j := j) hMb_a13 (rfl) (by omega) (by decide) (v := nI (B 15 j)) (hMb_b13 j (by omega)) rfl ?_
  refine g_aload_n E dX13_ageIn_9 rfl rfl rfl ?_
  refine g_bipush E (v := 17) dX13_ageIn_10 (by decide) rfl ?_
  refine g_iald E dX13_ageIn_12 (j := 17) hR_a (rfl) (by omega) (by decide) (v := d) (hR_d) rfl ?_
  refine g_iadd E dX13_ageIn_13 rfl ?_
  exact g_iret E Rt dX13_ageIn_14 rfl (by decide) (by decide) (⟨rfl, rfl⟩)
set_option maxHeartbeats 400000 in
theorem ct_X13_isTurnedIn (l : Launch) {g : gWM} {mb rk : Nat} {B : gBar} {R : Nat → Int32} {d : Int32} {th tr wh fa : Int32} {tp ac mk : Nat} (j : Nat) (hw : wfB B) (hM : pMq g (.ref mb) th tr wh tp fa ac mk []) (hMb : pMb g mb B) (hR : pRw g rk B R d) (hj : j < B 0 3) : gCt l yX13_isTurnedIn cX13_isTurnedIn 3 (some .boolean) 1 0 0 22 [.ref 2000, .ref rk, .int (nI j)] g (gPu (.int (zb (zTur B j d))) g) := by
  refine gCt.of RX13 (by decide) rfl (lo := [some (.ref 2000), some (.ref rk), some (.int (nI j))]) 0 rfl (Nat.le_of_ble_eq_true rfl) (fun z E Rt => ?_)
  have hw_n := hw.1
  have hM_o := hM
  obtain ⟨hM_F, hM_a, hM_0, hM_1, hM_2, hM_3, hM_5, hM_6, hM_12, hM_15, hM_16, hM_17, hM_18, hM_19, hM_20, hM_26, hM_28, hM_29, -⟩ := hM_o
  have hMb_o := hMb
  obtain ⟨⟨hMb_F, hMb_a, hMb_0, hMb_1, hMb_2, hMb_3, hMb_4, hMb_5, hMb_6, hMb_7, hMb_8, hMb_9, hMb_11, hMb_12, hMb_13, hMb_14, hMb_15, hMb_16, hMb_17, hMb_18, hMb_19, hMb_20, hMb_21, hMb_22, hMb_23, hMb_24, hMb_25, hMb_26, hMb_27, hMb_28, hMb_29, hMb_30, hMb_31⟩, ⟨hMb_f1, hMb_a1, hMb_b1⟩, ⟨hMb_f2, hMb_a2, hMb_b2⟩, ⟨hMb_f3, hMb_a3, hMb_b3⟩, ⟨hMb_f4, hMb_a4, hMb_b4⟩, ⟨hMb_f5, hMb_a5, hMb_b5⟩, ⟨hMb_f6, hMb_a6, hMb_b6⟩, ⟨hMb_f7, hMb_a7, hMb_b7⟩, ⟨hMb_f8, hMb_a8, hMb_b8⟩, ⟨hMb_f9, hMb_a9, hMb_b9⟩, ⟨hMb_f10, hMb_a10, hMb_b10⟩, ⟨hMb_f11, hMb_a11, hMb_b11⟩, ⟨hMb_f12, hMb_a12, hMb_b12⟩, ⟨hMb_f13, hMb_a13, hMb_b13⟩, ⟨hMb_f14, hMb_a14, hMb_b14⟩, ⟨hMb_f15, hMb_a15, hMb_b15⟩, ⟨hMb_f16, hMb_a16, hMb_b16⟩, ⟨hMb_f17, hMb_a17, hMb_b17⟩, ⟨hMb_f18, hMb_a18, hMb_b18⟩, ⟨hMb_f19, hMb_a19, hMb_b19⟩, ⟨hMb_f20, hMb_a20, hMb_b20⟩, ⟨hMb_f21, hMb_a21, hMb_b21⟩⟩ := hMb_o
  have hR_o := hR
  obtain ⟨hR_f, hR_a, hR_r, hR_d⟩ := hR_o
  refine g_aload_n E dX13_isTurnedIn_0 rfl rfl rfl ?_
  refine g_getf E gciX13 dX13_isTurnedIn_1 hM_a 3 rfl (by decide) q1743 (.inl rfl) (.ref mb) (hM_3) rfl ?_
  refine g_iload_n E dX13_isTurnedIn_4 rfl rfl rfl ?_
  refine g_aload_n E dX13_isTurnedIn_5 rfl rfl rfl ?_
  refine g_aload_n E dX13_isTurnedIn_6 rfl rfl rfl ?_
  refine g_iload_n E dX13_isTurnedIn_7 rfl rfl rfl ?_
  have hM1 : pMq g (.ref mb) th tr wh tp fa ac mk [] := ⟨_, hM_a, hM_0, hM_1, hM_2, hM_3, hM_5, hM_6, hM_12, hM_15, hM_16, hM_17, hM_18, hM_19, hM_20, hM_26, hM_28, hM_29, trivial⟩
  refine g_callV (k := 2000) (n9 := 2) (av := [.ref rk, .int (nI j)]) (st := [.int (nI j), .ref mb]) E (ct_X13_ageIn l j hw hM1 hMb hR (by omega)) gciX13 dX13_isTurnedIn_8 hM_a q2241 q2243 qs89 q135 q2244 (by decide +kernel) rfl rfl ⟨by decide, by decide⟩ ⟨by decide, by decide⟩ (Nat.le_of_ble_eq_true rfl) rfl (gPu.k ?_)
  refine g_callV (k := mb) (n9 := 2) (av := [.int (nI j), .int (zAge B j d)]) (st := []) E (ct_X27_isTurned l j (zAge B j d) hw hMb (by omega)) gciX27 dX13_isTurnedIn_11 hMb_a q2257 q2258 q2259 q155 q2260 (by decide +kernel) rfl rfl ⟨by decide, by decide⟩ ⟨by decide, by decide⟩ (Nat.le_of_ble_eq_true rfl) rfl (gPu.k ?_)
  exact g_zret E Rt dX13_isTurnedIn_14 rfl (zb_nar) (by decide) (by decide) (⟨rfl, rfl⟩)
set_option maxHeartbeats 400000 in
theorem ct_X13_hasIn (l : Launch) {g : gWM} {mb rk : Nat} {B : gBar} {R : Nat → Int32} {d : Int32} {th tr wh fa : Int32} {tp ac mk : Nat} (t j : Nat) (hw : wfB B) (hM : pMq g (.ref mb) th tr wh tp fa ac mk []) (hMb : pMb g mb B) (hR : pRw g rk B R d) (ht : t < 100) (hj : j < B 0 3) : gCt l yX13_hasIn cX13_hasIn 4 (some .boolean) 0 0 0 0 [.ref 2000, .ref rk, .int (nI t), .int (nI j)] g (gPu (.int (zb (zHp B R t j))) g) := by
  refine gCt.of RX13 (by decide) rfl (lo := [some (.ref 2000), some (.ref rk), some (.int (nI t)), some (.int (nI j))]) 0 rfl (Nat.le_of_ble_eq_true rfl) (fun z E Rt => ?_)
  have hw_n := hw.1
  have hM_o := hM
  obtain ⟨hM_F, hM_a, hM_0, hM_1, hM_2, hM_3, hM_5, hM_6, hM_12, hM_15, hM_16, hM_17, hM_18, hM_19, hM_20, hM_26, hM_28, hM_29, -⟩ := hM_o
  have hMb_o := hMb
  obtain ⟨⟨hMb_F, hMb_a, hMb_0, hMb_1, hMb_2, hMb_3, hMb_4, hMb_5, hMb_6, hMb_7, hMb_8, hMb_9, hMb_11, hMb_12, hMb_13, hMb_14, hMb_15, hMb_16, hMb_17, hMb_18, hMb_19, hMb_20, hMb_21, hMb_22, hMb_23, hMb_24, hMb_25, hMb_26, hMb_27, hMb_28, hMb_29, hMb_30, hMb_31⟩, ⟨hMb_f1, hMb_a1, hMb_b1⟩, ⟨hMb_f2, hMb_a2, hMb_b2⟩, ⟨hMb_f3, hMb_a3, hMb_b3⟩, ⟨hMb_f4, hMb_a4, hMb_b4⟩, ⟨hMb_f5, hMb_a5, hMb_b5⟩, ⟨hMb_f6, hMb_a6, hMb_b6⟩, ⟨hMb_f7, hMb_a7, hMb_b7⟩, ⟨hMb_f8, hMb_a8, hMb_b8⟩, ⟨hMb_f9, hMb_a9, hMb_b9⟩, ⟨hMb_f10, hMb_a10, hMb_b10⟩, ⟨hMb_f11, hMb_a11, hMb_b11⟩, ⟨hMb_f12, hMb_a12, hMb_b12⟩, ⟨hMb_f13, hMb_a13, hMb_b13⟩, ⟨hMb_f14, hMb_a14, hMb_b14⟩, ⟨hMb_f15, hMb_a15, hMb_b15⟩, ⟨hMb_f16, hMb_a16, hMb_b16⟩, ⟨hMb_f17, hMb_a17, hMb_b17⟩, ⟨hMb_f18, hMb_a18, hMb_b18⟩, ⟨hMb_f19, hMb_a19, hMb_b19⟩, ⟨hMb_f20, hMb_a20, hMb_b20⟩, ⟨hMb_f21, hMb_a21, hMb_b21⟩⟩ := hMb_o
  have hR_o := hR
  obtain ⟨hR_f, hR_a, hR_r, hR_d⟩ := hR_o
  have hgd := hw.goods hj
  refine g_aload_n E dX13_hasIn_0 rfl rfl rfl ?_
  refine g_getf E gciX13 dX13_hasIn_1 hM_a 3 rfl (by decide) q1743 (.inl rfl) (.ref mb) (hM_3) rfl ?_
  refine g_getfN E gciX27 dX13_hasIn_4 hMb_a 22 rfl (by decide) q1892 (.inl rfl) (.ref (mb + 12)) (hMb_22) rfl ?_
  refine g_iload_n E dX13_hasIn_7 rfl rfl rfl ?_
  refine g_iald E dX13_hasIn_8 (j := j) hMb_a12 (rfl) (by omega) (by decide) (v := nI (B 14 j)) (hMb_b12 j (by omega)) rfl ?_
  refine g_iload_n E dX13_hasIn_9 rfl rfl rfl ?_
  refine g_icmp_ne E dX13_hasIn_10 (tgt := 25) (by decide) rfl (fun c10 => ?_) (fun c10 => ?_)
  · have c10 := mt (nI_eq (a := B 14 j) (b := t) (by omega) (by omega)).mpr c10
    refine g_iconst E (v := 0) dX13_hasIn_25 (by decide) rfl ?_
    exact g_zret E Rt dX13_hasIn_26 rfl (by decide) (by decide) (by decide) (⟨congrArg (fun x => some (Value.int x)) (by simp [zHp, zb, c10]), rfl⟩)
  · have c10 := (nI_eq (a := B 14 j) (b := t) (by omega) (by omega)).mp c10
    refine g_aload_n E dX13_hasIn_13 rfl rfl rfl ?_
    refine g_iconst E (v := 0) dX13_hasIn_14 (by decide) rfl ?_
    refine g_iload_n E dX13_hasIn_15 rfl rfl rfl ?_
    refine g_iadd E dX13_hasIn_16 rfl ?_
    refine g_as (y := nI j) (Int32.zero_add _) ?_
    refine g_iald E dX13_hasIn_17 (j := j) hR_a (rfl) (by omega) (by decide) (v := R j) (hR_r j (by unfold zRel; omega)) rfl ?_
    refine g_if_ne E dX13_hasIn_18 (tgt := 25) (by decide) rfl (fun c18 => ?_) (fun c18 => ?_)
    · refine g_iconst E (v := 0) dX13_hasIn_25 (by decide) rfl ?_
      exact g_zret E Rt dX13_hasIn_26 rfl (by decide) (by decide) (by decide) (⟨congrArg (fun x => some (Value.int x)) (by simp [zHp, zb, c10, c18]), rfl⟩)
    · refine g_iconst E (v := 1) dX13_hasIn_21 (by decide) rfl ?_
      refine g_goto E dX13_hasIn_22 (tgt := 26) (by decide) ?_
      exact g_zret E Rt dX13_hasIn_26 rfl (by decide) (by decide) (by decide) (⟨congrArg (fun x => some (Value.int x)) (by simp [zHp, zb, c10, c18]), rfl⟩)
set_option maxHeartbeats 400000 in
theorem ct_X13_worthIn (l : Launch) {g : gWM} {mb rk : Nat} {B : gBar} {R : Nat → Int32} {d : Int32} {th tr wh fa : Int32} {tp ac mk : Nat} (j : Nat) (hw : wfB B) (hM : pMq g (.ref mb) th tr wh tp fa ac mk []) (hMb : pMb g mb B) (hR : pRw g rk B R d) (hj : j < B 0 3) : gCt l yX13_worthIn cX13_worthIn 3 (some .int) 2 0 0 44 [.ref 2000, .ref rk, .int (nI j)] g (gPu (.int (zWor B j d)) g) := by
  refine gCt.of RX13 (by decide) rfl (lo := [some (.ref 2000), some (.ref rk), some (.int (nI j))]) 0 rfl (Nat.le_of_ble_eq_true rfl) (fun z E Rt => ?_)
  have hw_n := hw.1
  have hM_o := hM
  obtain ⟨hM_F, hM_a, hM_0, hM_1, hM_2, hM_3, hM_5, hM_6, hM_12, hM_15, hM_16, hM_17, hM_18, hM_19, hM_20, hM_26, hM_28, hM_29, -⟩ := hM_o
  have hMb_o := hMb
  obtain ⟨⟨hMb_F, hMb_a, hMb_0, hMb_1, hMb_2, hMb_3, hMb_4, hMb_5, hMb_6, hMb_7, hMb_8, hMb_9, hMb_11, hMb_12, hMb_13, hMb_14, hMb_15, hMb_16, hMb_17, hMb_18, hMb_19, hMb_20, hMb_21, hMb_22, hMb_23, hMb_24, hMb_25, hMb_26, hMb_27, hMb_28, hMb_29, hMb_30, hMb_31⟩, ⟨hMb_f1, hMb_a1, hMb_b1⟩, ⟨hMb_f2, hMb_a2, hMb_b2⟩, ⟨hMb_f3, hMb_a3, hMb_b3⟩, ⟨hMb_f4, hMb_a4, hMb_b4⟩, ⟨hMb_f5, hMb_a5, hMb_b5⟩, ⟨hMb_f6, hMb_a6, hMb_b6⟩, ⟨hMb_f7, hMb_a7, hMb_b7⟩, ⟨hMb_f8, hMb_a8, hMb_b8⟩, ⟨hMb_f9, hMb_a9, hMb_b9⟩, ⟨hMb_f10, hMb_a10, hMb_b10⟩, ⟨hMb_f11, hMb_a11, hMb_b11⟩, ⟨hMb_f12, hMb_a12, hMb_b12⟩, ⟨hMb_f13, hMb_a13, hMb_b13⟩, ⟨hMb_f14, hMb_a14, hMb_b14⟩, ⟨hMb_f15, hMb_a15, hMb_b15⟩, ⟨hMb_f16, hMb_a16, hMb_b16⟩, ⟨hMb_f17, hMb_a17, hMb_b17⟩, ⟨hMb_f18, hMb_a18, hMb_b18⟩, ⟨hMb_f19, hMb_a19, hMb_b19⟩, ⟨hMb_f20, hMb_a20, hMb_b20⟩, ⟨hMb_f21, hMb_a21, hMb_b21⟩⟩ := hMb_o
  have hR_o := hR
  obtain ⟨hR_f, hR_a, hR_r, hR_d⟩ := hR_o
  have hgd := hw.goods hj
  refine g_aload_n E dX13_worthIn_0 rfl rfl rfl ?_
  refine g_aload_n E dX13_worthIn_1 rfl rfl rfl ?_
  refine g_iload_n E dX13_worthIn_2 rfl rfl rfl ?_
  have hM1 : pMq g (.ref mb) th tr wh tp fa ac mk [] := ⟨_, hM_a, hM_0, hM_1, hM_2, hM_3, hM_5, hM_6, hM_12, hM_15, hM_16, hM_17, hM_18, hM_19, hM_20, hM_26, hM_28, hM_29, trivial⟩
  refine g_callV (k := 2000) (n9 := 2) (av := [.ref rk, .int (nI j)]) (st := []) E (ct_X13_isTurnedIn l j hw hM1 hMb hR (by omega)) gciX13 dX13_worthIn_3 hM_a q2253 q2255 qs91 q135 q2256 (by decide +kernel) rfl rfl ⟨by decide, by decide⟩ ⟨by decide, by decide⟩ (Nat.le_of_ble_eq_true rfl) rfl (gPu.k ?_)
  refine g_if_eq E dX13_worthIn_6 (tgt := 11) (by decide) rfl (fun c6 => ?_) (fun c6 => ?_)
  · have c6 := zb_0.mp c6
    refine g_aload_n E dX13_worthIn_11 rfl rfl rfl ?_
    refine g_getf E gciX13 dX13_worthIn_12 hM_a 3 rfl (by decide) q1743 (.inl rfl) (.ref mb) (hM_3) rfl ?_
    refine g_getfN E gciX27 dX13_worthIn_15 hMb_a 25 rfl (by decide) q1898 (.inl rfl) (.ref (mb + 15)) (hMb_25) rfl ?_
    refine g_iload_n E dX13_worthIn_18 rfl rfl rfl ?_
    refine g_iald E dX13_worthIn_19 (j := j) hMb_a15 (rfl) (by omega) (by decide) (v := nI (B 17 j)) (hMb_b15 j (by omega)) rfl ?_
    refine g_aload_n E dX13_worthIn_20 rfl rfl rfl ?_
    refine g_getf E gciX13 dX13_worthIn_21 hM_a 3 rfl (by decide) q1743 (.inl rfl) (.ref mb) (hM_3) rfl ?_
    refine g_getfN E gciX27 dX13_worthIn_24 hMb_a 20 rfl (by decide) q1888 (.inl rfl) (.ref (mb + 10)) (hMb_20) rfl ?_
    refine g_iload_n E dX13_worthIn_27 rfl rfl rfl ?_
    refine g_iald E dX13_worthIn_28 (j := j) hMb_a10 (rfl) (by omega) (by decide) (v := nI (B 12 j)) (hMb_b10 j (by omega)) rfl ?_
    refine g_iconst E (v := 2) dX13_worthIn_29 (by decide) rfl ?_
    refine g_icmp_ne E dX13_worthIn_30 (tgt := 45) (by decide) rfl (fun c30 => ?_) (fun c30 => ?_)
    · have c30 := mt (nI_eq (a := B 12 j) (b := 2) (by omega) (by omega)).mpr c30
      refine g_iconst E (v := 0) dX13_worthIn_45 (by decide) rfl ?_
      refine g_iadd E dX13_worthIn_46 rfl ?_
      exact g_iret E Rt dX13_worthIn_47 rfl (by decide) (by decide) (⟨congrArg (fun x => some (Value.int x)) (by simp [zWor, c6, c30]), rfl⟩)
    · have c30 := (nI_eq (a := B 12 j) (b := 2) (by omega) (by omega)).mp c30
      refine g_aload_n E dX13_worthIn_33 rfl rfl rfl ?_
      refine g_aload_n E dX13_worthIn_34 rfl rfl rfl ?_
      refine g_iload_n E dX13_worthIn_35 rfl rfl rfl ?_
      refine g_callV (k := 2000) (n9 := 2) (av := [.ref rk, .int (nI j)]) (st := [.int (nI (B 17 j))]) E (ct_X13_ageIn l j hw hM1 hMb hR (by omega)) gciX13 dX13_worthIn_36 hM_a q2241 q2243 qs89 q135 q2244 (by decide +kernel) rfl rfl ⟨by decide, by decide⟩ ⟨by decide, by decide⟩ (Nat.le_of_ble_eq_true rfl) rfl (gPu.k ?_)
      refine g_bipush E (v := 10) dX13_worthIn_39 (by decide) rfl ?_
      refine g_idiv E dX13_worthIn_41 (by decide) rfl ?_
      refine g_goto E dX13_worthIn_42 (tgt := 46) (by decide) ?_
      refine g_iadd E dX13_worthIn_46 rfl ?_
      exact g_iret E Rt dX13_worthIn_47 rfl (by decide) (by decide) (⟨congrArg (fun x => some (Value.int x)) (by simp [zWor, c6, c30]), rfl⟩)
  · have c6 := zb_n0.mp c6
    refine g_iconst E (v := 0) dX13_worthIn_9 (by decide) rfl ?_
    exact g_iret E Rt dX13_worthIn_10 rfl (by decide) (by decide) (⟨congrArg (fun x => some (Value.int x)) (by simp [zWor, c6]), rfl⟩)
set_option maxHeartbeats 400000 in
theorem ct_X13_dutyIn (l : Launch) {g : gWM} {mb rk : Nat} {B : gBar} {R : Nat → Int32} {d : Int32} {th tr wh fa : Int32} {tp ac mk : Nat} (j lw : Nat) (hw : wfB B) (hM : pMq g (.ref mb) th tr wh tp fa ac mk []) (hMb : pMb g mb B) (hR : pRw g rk B R d) (hj : j < B 0 3) (hl : lw ≤ 1) : gCt l yX13_dutyIn cX13_dutyIn 4 (some .int) 2 0 0 44 [.ref 2000, .ref rk, .int (nI j), .int (nI lw)] g (gPu (.int (zDut B (lw + 1) j d)) g) := by
  refine gCt.of RX13 (by decide) rfl (lo := [some (.ref 2000), some (.ref rk), some (.int (nI j)), some (.int (nI lw))]) 0 rfl (Nat.le_of_ble_eq_true rfl) (fun z E Rt => ?_)
  have hw_n := hw.1
  have hM_o := hM
  obtain ⟨hM_F, hM_a, hM_0, hM_1, hM_2, hM_3, hM_5, hM_6, hM_12, hM_15, hM_16, hM_17, hM_18, hM_19, hM_20, hM_26, hM_28, hM_29, -⟩ := hM_o
  have hMb_o := hMb
  obtain ⟨⟨hMb_F, hMb_a, hMb_0, hMb_1, hMb_2, hMb_3, hMb_4, hMb_5, hMb_6, hMb_7, hMb_8, hMb_9, hMb_11, hMb_12, hMb_13, hMb_14, hMb_15, hMb_16, hMb_17, hMb_18, hMb_19, hMb_20, hMb_21, hMb_22, hMb_23, hMb_24, hMb_25, hMb_26, hMb_27, hMb_28, hMb_29, hMb_30, hMb_31⟩, ⟨hMb_f1, hMb_a1, hMb_b1⟩, ⟨hMb_f2, hMb_a2, hMb_b2⟩, ⟨hMb_f3, hMb_a3, hMb_b3⟩, ⟨hMb_f4, hMb_a4, hMb_b4⟩, ⟨hMb_f5, hMb_a5, hMb_b5⟩, ⟨hMb_f6, hMb_a6, hMb_b6⟩, ⟨hMb_f7, hMb_a7, hMb_b7⟩, ⟨hMb_f8, hMb_a8, hMb_b8⟩, ⟨hMb_f9, hMb_a9, hMb_b9⟩, ⟨hMb_f10, hMb_a10, hMb_b10⟩, ⟨hMb_f11, hMb_a11, hMb_b11⟩, ⟨hMb_f12, hMb_a12, hMb_b12⟩, ⟨hMb_f13, hMb_a13, hMb_b13⟩, ⟨hMb_f14, hMb_a14, hMb_b14⟩, ⟨hMb_f15, hMb_a15, hMb_b15⟩, ⟨hMb_f16, hMb_a16, hMb_b16⟩, ⟨hMb_f17, hMb_a17, hMb_b17⟩, ⟨hMb_f18, hMb_a18, hMb_b18⟩, ⟨hMb_f19, hMb_a19, hMb_b19⟩, ⟨hMb_f20, hMb_a20, hMb_b20⟩, ⟨hMb_f21, hMb_a21, hMb_b21⟩⟩ := hMb_o
  have hR_o := hR
  obtain ⟨hR_f, hR_a, hR_r, hR_d⟩ := hR_o
  have hgd := hw.goods hj
  refine g_aload_n E dX13_dutyIn_0 rfl rfl rfl ?_
  refine g_getf E gciX13 dX13_dutyIn_1 hM_a 3 rfl (by decide) q1743 (.inl rfl) (.ref mb) (hM_3) rfl ?_
  refine g_getfN E gciX27 dX13_dutyIn_4 hMb_a 20 rfl (by decide) q1888 (.inl rfl) (.ref (mb + 10)) (hMb_20) rfl ?_
  refine g_iload_n E dX13_dutyIn_7 rfl rfl rfl ?_
  refine g_iald E dX13_dutyIn_8 (j := j) hMb_a10 (rfl) (by omega) (by decide) (v := nI (B 12 j)) (hMb_b10 j (by omega)) rfl ?_
  refine g_if_eq E dX13_dutyIn_9 (tgt := 21) (by decide) rfl (fun c9 => ?_) (fun c9 => ?_)
  · have c9 := (nI_eq (a := B 12 j) (b := 0) (by omega) (by omega)).mp c9
    refine g_iconst E (v := 0) dX13_dutyIn_21 (by decide) rfl ?_
    exact g_iret E Rt dX13_dutyIn_22 rfl (by decide) (by decide) (⟨congrArg (fun x => some (Value.int x)) (by simp [zDut, c9]), rfl⟩)
  · have c9 := mt (nI_eq (a := B 12 j) (b := 0) (by omega) (by omega)).mpr c9
    refine g_aload_n E dX13_dutyIn_12 rfl rfl rfl ?_
    refine g_aload_n E dX13_dutyIn_13 rfl rfl rfl ?_
    refine g_iload_n E dX13_dutyIn_14 rfl rfl rfl ?_
    have hM1 : pMq g (.ref mb) th tr wh tp fa ac mk [] := ⟨_, hM_a, hM_0, hM_1, hM_2, hM_3, hM_5, hM_6, hM_12, hM_15, hM_16, hM_17, hM_18, hM_19, hM_20, hM_26, hM_28, hM_29, trivial⟩
    refine g_callV (k := 2000) (n9 := 2) (av := [.ref rk, .int (nI j)]) (st := []) E (ct_X13_isTurnedIn l j hw hM1 hMb hR (by omega)) gciX13 dX13_dutyIn_15 hM_a q2253 q2255 qs91 q135 q2256 (by decide +kernel) rfl rfl ⟨by decide, by decide⟩ ⟨by decide, by decide⟩ (Nat.le_of_ble_eq_true rfl) rfl (gPu.k ?_)
    refine g_if_eq E dX13_dutyIn_18 (tgt := 23) (by decide) rfl (fun c18 => ?_) (fun c18 => ?_)
    · have c18 := zb_0.mp c18
      refine g_aload_n E dX13_dutyIn_23 rfl rfl rfl ?_
      refine g_getf E gciX13 dX13_dutyIn_24 hM_a 3 rfl (by decide) q1743 (.inl rfl) (.ref mb) (hM_3) rfl ?_
      refine g_getfN E gciX27 dX13_dutyIn_27 hMb_a 24 rfl (by decide) q1896 (.inl rfl) (.ref (mb + 14)) (hMb_24) rfl ?_
      refine g_iload_n E dX13_dutyIn_30 rfl rfl rfl ?_
      refine g_iald E dX13_dutyIn_31 (j := j) hMb_a14 (rfl) (by omega) (by decide) (v := nI (B 16 j)) (hMb_b14 j (by omega)) rfl ?_
      refine g_aload_n E dX13_dutyIn_32 rfl rfl rfl ?_
      refine g_getf E gciX13 dX13_dutyIn_33 hM_a 3 rfl (by decide) q1743 (.inl rfl) (.ref mb) (hM_3) rfl ?_
      refine g_getfN E gciX27 dX13_dutyIn_36 hMb_a 11 rfl (by decide) q1870 (.inl rfl) (.ref (mb + 1)) (hMb_11) rfl ?_
      refine g_iconst E (v := 4) dX13_dutyIn_39 (by decide) rfl ?_
      refine g_iload_n E dX13_dutyIn_40 rfl rfl rfl ?_
      refine g_imul E dX13_dutyIn_41 rfl ?_
      refine g_aload_n E dX13_dutyIn_42 rfl rfl rfl ?_
      refine g_getf E gciX13 dX13_dutyIn_43 hM_a 3 rfl (by decide) q1743 (.inl rfl) (.ref mb) (hM_3) rfl ?_
      refine g_getfN E gciX27 dX13_dutyIn_46 hMb_a 21 rfl (by decide) q1890 (.inl rfl) (.ref (mb + 11)) (hMb_21) rfl ?_
      refine g_iload_n E dX13_dutyIn_49 rfl rfl rfl ?_
      refine g_iald E dX13_dutyIn_50 (j := j) hMb_a11 (rfl) (by omega) (by decide) (v := if B 12 j = 0 then -2 else nI (B 13 j)) (hMb_b11 j (by omega)) rfl ?_
      refine g_as (y := nI (B 13 j)) (if_neg c9) ?_
      refine g_iadd E dX13_dutyIn_51 rfl ?_
      refine g_as (y := nI (4 * lw + B 13 j)) (by rw [show (4 : Int32) = nI 4 from rfl, pk_mul, nI_add]) ?_
      refine g_iald E dX13_dutyIn_52 (j := 4 * lw + B 13 j) hMb_a1 (rfl) (by omega) (by decide) (v := nI (B (lw + 1) (B 13 j))) (rate_at (k := B 13 j) hl hMb_b1 (by omega)) rfl ?_
      refine g_imul E dX13_dutyIn_53 rfl ?_
      refine g_aload_n E dX13_dutyIn_54 rfl rfl rfl ?_
      refine g_aload_n E dX13_dutyIn_55 rfl rfl rfl ?_
      refine g_iload_n E dX13_dutyIn_56 rfl rfl rfl ?_
      refine g_callV (k := 2000) (n9 := 2) (av := [.ref rk, .int (nI j)]) (st := [.int ((nI (B 16 j)) * (nI (B (lw + 1) (B 13 j))))]) E (ct_X13_ageIn l j hw hM1 hMb hR (by omega)) gciX13 dX13_dutyIn_57 hM_a q2241 q2243 qs89 q135 q2244 (by decide +kernel) rfl rfl ⟨by decide, by decide⟩ ⟨by decide, by decide⟩ (Nat.le_of_ble_eq_true rfl) rfl (gPu.k ?_)
      refine g_bipush E (v := 10) dX13_dutyIn_60 (by decide) rfl ?_
      refine g_idiv E dX13_dutyIn_62 (by decide) rfl ?_
      refine g_imul E dX13_dutyIn_63 rfl ?_
      exact g_iret E Rt dX13_dutyIn_64 rfl (by decide) (by decide) (⟨congrArg (fun x => some (Value.int x)) (by simp [zDut, c9, c18]), rfl⟩)
    · have c18 := zb_n0.mp c18
      refine g_iconst E (v := 0) dX13_dutyIn_21 (by decide) rfl ?_
      exact g_iret E Rt dX13_dutyIn_22 rfl (by decide) (by decide) (⟨congrArg (fun x => some (Value.int x)) (by simp [zDut, c9, c18]), rfl⟩)
set_option maxHeartbeats 400000 in
theorem ct_X13_freshIn (l : Launch) {g : gWM} {mb rk : Nat} {B : gBar} {R : Nat → Int32} {d : Int32} {th tr wh fa : Int32} {tp ac mk : Nat} (j : Nat) (hw : wfB B) (hM : pMq g (.ref mb) th tr wh tp fa ac mk []) (hMb : pMb g mb B) (hR : pRw g rk B R d) (hj : j < B 0 3) : gCt l yX13_freshIn cX13_freshIn 5 (some .int) 2 0 0 44 [.ref 2000, .ref rk, .int (nI j)] g (gPu (.int (zFre B R j d (B 0 3))) g) := by
  refine gCt.of RX13 (by decide) rfl (lo := [some (.ref 2000), some (.ref rk), some (.int (nI j)), none, none]) 2 rfl (Nat.le_of_ble_eq_true rfl) (fun z E Rt => ?_)
  have hw_n := hw.1
  have hM_o := hM
  obtain ⟨hM_F, hM_a, hM_0, hM_1, hM_2, hM_3, hM_5, hM_6, hM_12, hM_15, hM_16, hM_17, hM_18, hM_19, hM_20, hM_26, hM_28, hM_29, -⟩ := hM_o
  have hMb_o := hMb
  obtain ⟨⟨hMb_F, hMb_a, hMb_0, hMb_1, hMb_2, hMb_3, hMb_4, hMb_5, hMb_6, hMb_7, hMb_8, hMb_9, hMb_11, hMb_12, hMb_13, hMb_14, hMb_15, hMb_16, hMb_17, hMb_18, hMb_19, hMb_20, hMb_21, hMb_22, hMb_23, hMb_24, hMb_25, hMb_26, hMb_27, hMb_28, hMb_29, hMb_30, hMb_31⟩, ⟨hMb_f1, hMb_a1, hMb_b1⟩, ⟨hMb_f2, hMb_a2, hMb_b2⟩, ⟨hMb_f3, hMb_a3, hMb_b3⟩, ⟨hMb_f4, hMb_a4, hMb_b4⟩, ⟨hMb_f5, hMb_a5, hMb_b5⟩, ⟨hMb_f6, hMb_a6, hMb_b6⟩, ⟨hMb_f7, hMb_a7, hMb_b7⟩, ⟨hMb_f8, hMb_a8, hMb_b8⟩, ⟨hMb_f9, hMb_a9, hMb_b9⟩, ⟨hMb_f10, hMb_a10, hMb_b10⟩, ⟨hMb_f11, hMb_a11, hMb_b11⟩, ⟨hMb_f12, hMb_a12, hMb_b12⟩, ⟨hMb_f13, hMb_a13, hMb_b13⟩, ⟨hMb_f14, hMb_a14, hMb_b14⟩, ⟨hMb_f15, hMb_a15, hMb_b15⟩, ⟨hMb_f16, hMb_a16, hMb_b16⟩, ⟨hMb_f17, hMb_a17, hMb_b17⟩, ⟨hMb_f18, hMb_a18, hMb_b18⟩, ⟨hMb_f19, hMb_a19, hMb_b19⟩, ⟨hMb_f20, hMb_a20, hMb_b20⟩, ⟨hMb_f21, hMb_a21, hMb_b21⟩⟩ := hMb_o
  have hR_o := hR
  obtain ⟨hR_f, hR_a, hR_r, hR_d⟩ := hR_o
  have hgd := hw.goods hj
  refine g_iconst E (v := 0) dX13_freshIn_0 (by decide) rfl ?_
  refine g_istore_n E dX13_freshIn_1 rfl (by decide) rfl (lo1 := [some (.ref 2000), some (.ref rk), some (.int (nI j)), some (.int 0), none]) rfl rfl ?_
  refine g_iconst E (v := 0) dX13_freshIn_2 (by decide) rfl ?_
  refine g_istore E dX13_freshIn_3 (by decide) rfl (lo1 := [some (.ref 2000), some (.ref rk), some (.int (nI j)), some (.int 0), some (.int 0)]) rfl rfl ?_
  have lp5 : ∀ (r9 : Nat) (k : Nat), (k ≤ B 0 3) → (B 0 3 - k < r9) → gV z g 0 0 5 [some (.ref 2000), some (.ref rk), some (.int (nI j)), some (.int (zFre B R j d k)), some (.int (nI k))] [] := by
    intro r9
    induction r9 with
    | zero => intro k hk hm; exact absurd hm (Nat.not_lt_zero _)
    | succ r9 ih5 =>
      intro k hk hm
      refine g_iload E dX13_freshIn_5 rfl rfl ?_
      refine g_aload_n E dX13_freshIn_7 rfl rfl rfl ?_
      refine g_getf E gciX13 dX13_freshIn_8 hM_a 3 rfl (by decide) q1743 (.inl rfl) (.ref mb) (hM_3) rfl ?_
      refine g_getfN E gciX27 dX13_freshIn_11 hMb_a 5 rfl (by decide) q1862 (.inl rfl) (.int (nI (B 0 3))) (hMb_5) rfl ?_
      refine g_icmp_ge E dX13_freshIn_14 (tgt := 79) (by decide) rfl (fun c14 => ?_) (fun c14 => ?_)
      · have c14 := (nI_leI (a := B 0 3) (b := k) (by omega) (by omega)).mp c14
        obtain rfl : k = B 0 3 := by omega
        refine g_iload_n E dX13_freshIn_79 rfl rfl rfl ?_
        exact g_iret E Rt dX13_freshIn_80 rfl (by decide) (by decide) (⟨rfl, rfl⟩)
      · have c14 := mt (nI_leI (a := B 0 3) (b := k) (by omega) (by omega)).mpr c14
        have hgk := hw.goods (j := k) (by omega)
        refine g_iload_n E dX13_freshIn_17 rfl rfl rfl ?_
        refine g_iload E dX13_freshIn_18 rfl rfl ?_
        refine g_iload_n E dX13_freshIn_20 rfl rfl rfl ?_
        refine g_icmp_eq E dX13_freshIn_21 (tgt := 70) (by decide) rfl (fun c21 => ?_) (fun c21 => ?_)
        · have c21 := (nI_eq (a := k) (b := j) (by omega) (by omega)).mp c21
          refine g_iconst E (v := 0) dX13_freshIn_70 (by decide) rfl ?_
          refine g_iadd E dX13_freshIn_71 rfl ?_
          refine g_as (y := zFre B R j d (k + 1)) (zFre_0 (by simp [zCov_hp, c21])) ?_
          refine g_istore_n E dX13_freshIn_72 rfl (by decide) rfl (lo1 := [some (.ref 2000), some (.ref rk), some (.int (nI j)), some (.int (zFre B R j d (k + 1))), some (.int (nI k))]) rfl rfl ?_
          refine g_iinc E dX13_freshIn_73 rfl (v := nI (k + 1)) (nI_c _) (by decide) rfl (lo1 := [some (.ref 2000), some (.ref rk), some (.int (nI j)), some (.int (zFre B R j d (k + 1))), some (.int (nI (k + 1)))]) rfl rfl ?_
          refine g_goto E dX13_freshIn_76 (tgt := 5) (by decide) ?_
          exact ih5 (k + 1) (by omega) (by omega)
        · have c21 := mt (nI_eq (a := k) (b := j) (by omega) (by omega)).mpr c21
          refine g_aload_n E dX13_freshIn_24 rfl rfl rfl ?_
          refine g_getf E gciX13 dX13_freshIn_25 hM_a 3 rfl (by decide) q1743 (.inl rfl) (.ref mb) (hM_3) rfl ?_
          refine g_getfN E gciX27 dX13_freshIn_28 hMb_a 20 rfl (by decide) q1888 (.inl rfl) (.ref (mb + 10)) (hMb_20) rfl ?_
          refine g_iload E dX13_freshIn_31 rfl rfl ?_
          refine g_iald E dX13_freshIn_33 (j := k) hMb_a10 (rfl) (by omega) (by decide) (v := nI (B 12 k)) (hMb_b10 k (by omega)) rfl ?_
          refine g_if_ne E dX13_freshIn_34 (tgt := 70) (by decide) rfl (fun c34 => ?_) (fun c34 => ?_)
          · have c34 := mt (nI_eq (a := B 12 k) (b := 0) (by omega) (by omega)).mpr c34
            refine g_iconst E (v := 0) dX13_freshIn_70 (by decide) rfl ?_
            refine g_iadd E dX13_freshIn_71 rfl ?_
            refine g_as (y := zFre B R j d (k + 1)) (zFre_0 (by simp [zCov_hp, c21, c34])) ?_
            refine g_istore_n E dX13_freshIn_72 rfl (by decide) rfl (lo1 := [some (.ref 2000), some (.ref rk), some (.int (nI j)), some (.int (zFre B R j d (k + 1))), some (.int (nI k))]) rfl rfl ?_
            refine g_iinc E dX13_freshIn_73 rfl (v := nI (k + 1)) (nI_c _) (by decide) rfl (lo1 := [some (.ref 2000), some (.ref rk), some (.int (nI j)), some (.int (zFre B R j d (k + 1))), some (.int (nI (k + 1)))]) rfl rfl ?_
            refine g_goto E dX13_freshIn_76 (tgt := 5) (by decide) ?_
            exact ih5 (k + 1) (by omega) (by omega)
          · have c34 := (nI_eq (a := B 12 k) (b := 0) (by omega) (by omega)).mp c34
            refine g_aload_n E dX13_freshIn_37 rfl rfl rfl ?_
            refine g_aload_n E dX13_freshIn_38 rfl rfl rfl ?_
            refine g_aload_n E dX13_freshIn_39 rfl rfl rfl ?_
            refine g_getf E gciX13 dX13_freshIn_40 hM_a 3 rfl (by decide) q1743 (.inl rfl) (.ref mb) (hM_3) rfl ?_
            refine g_getfN E gciX27 dX13_freshIn_43 hMb_a 22 rfl (by decide) q1892 (.inl rfl) (.ref (mb + 12)) (hMb_22) rfl ?_
            refine g_iload_n E dX13_freshIn_46 rfl rfl rfl ?_
            refine g_iald E dX13_freshIn_47 (j := j) hMb_a12 (rfl) (by omega) (by decide) (v := nI (B 14 j)) (hMb_b12 j (by omega)) rfl ?_
            refine g_iload E dX13_freshIn_48 rfl rfl ?_
            have hM1 : pMq g (.ref mb) th tr wh tp fa ac mk [] := ⟨_, hM_a, hM_0, hM_1, hM_2, hM_3, hM_5, hM_6, hM_12, hM_15, hM_16, hM_17, hM_18, hM_19, hM_20, hM_26, hM_28, hM_29, trivial⟩
            refine g_callV (k := 2000) (n9 := 3) (av := [.ref rk, .int (nI (B 14 j)), .int (nI k)]) (st := [.int (zFre B R j d k)]) E (ct_X13_hasIn l (B 14 j) k hw hM1 hMb hR (by omega) (by omega)) gciX13 dX13_freshIn_50 hM_a q2217 q2219 qs85 q135 q2220 (by decide +kernel) rfl rfl ⟨by decide, by decide⟩ ⟨by decide, by decide⟩ (Nat.le_of_ble_eq_true rfl) rfl (gPu.k ?_)
            refine g_if_eq E dX13_freshIn_53 (tgt := 70) (by decide) rfl (fun c53 => ?_) (fun c53 => ?_)
            · have c53 := zb_0.mp c53
              refine g_iconst E (v := 0) dX13_freshIn_70 (by decide) rfl ?_
              refine g_iadd E dX13_freshIn_71 rfl ?_
              refine g_as (y := zFre B R j d (k + 1)) (zFre_0 (by simp [zCov_hp, c21, c34, c53])) ?_
              refine g_istore_n E dX13_freshIn_72 rfl (by decide) rfl (lo1 := [some (.ref 2000), some (.ref rk), some (.int (nI j)), some (.int (zFre B R j d (k + 1))), some (.int (nI k))]) rfl rfl ?_
              refine g_iinc E dX13_freshIn_73 rfl (v := nI (k + 1)) (nI_c _) (by decide) rfl (lo1 := [some (.ref 2000), some (.ref rk), some (.int (nI j)), some (.int (zFre B R j d (k + 1))), some (.int (nI (k + 1)))]) rfl rfl ?_
              refine g_goto E dX13_freshIn_76 (tgt := 5) (by decide) ?_
              exact ih5 (k + 1) (by omega) (by omega)
            · have c53 := zb_n0.mp c53
              refine g_aload_n E dX13_freshIn_56 rfl rfl rfl ?_
              refine g_aload_n E dX13_freshIn_57 rfl rfl rfl ?_
              refine g_iload E dX13_freshIn_58 rfl rfl ?_
              refine g_callV (k := 2000) (n9 := 2) (av := [.ref rk, .int (nI k)]) (st := [.int (zFre B R j d k)]) E (ct_X13_isTurnedIn l k hw hM1 hMb hR (by omega)) gciX13 dX13_freshIn_60 hM_a q2253 q2255 qs91 q135 q2256 (by decide +kernel) rfl rfl ⟨by decide, by decide⟩ ⟨by decide, by decide⟩ (Nat.le_of_ble_eq_true rfl) rfl (gPu.k ?_)
              refine g_if_ne E dX13_freshIn_63 (tgt := 70) (by decide) rfl (fun c63 => ?_) (fun c63 => ?_)
              · have c63 := zb_n0.mp c63
                refine g_iconst E (v := 0) dX13_freshIn_70 (by decide) rfl ?_
                refine g_iadd E dX13_freshIn_71 rfl ?_
                refine g_as (y := zFre B R j d (k + 1)) (zFre_0 (by simp [zCov_hp, c21, c34, c53, c63])) ?_
                refine g_istore_n E dX13_freshIn_72 rfl (by decide) rfl (lo1 := [some (.ref 2000), some (.ref rk), some (.int (nI j)), some (.int (zFre B R j d (k + 1))), some (.int (nI k))]) rfl rfl ?_
                refine g_iinc E dX13_freshIn_73 rfl (v := nI (k + 1)) (nI_c _) (by decide) rfl (lo1 := [some (.ref 2000), some (.ref rk), some (.int (nI j)), some (.int (zFre B R j d (k + 1))), some (.int (nI (k + 1)))]) rfl rfl ?_
                refine g_goto E dX13_freshIn_76 (tgt := 5) (by decide) ?_
                exact ih5 (k + 1) (by omega) (by omega)
              · have c63 := zb_0.mp c63
                refine g_iconst E (v := 1) dX13_freshIn_66 (by decide) rfl ?_
                refine g_goto E dX13_freshIn_67 (tgt := 71) (by decide) ?_
                refine g_iadd E dX13_freshIn_71 rfl ?_
                refine g_as (y := zFre B R j d (k + 1)) (zFre_1 (by simp [zCov_hp, c21, c34, c53, c63])) ?_
                refine g_istore_n E dX13_freshIn_72 rfl (by decide) rfl (lo1 := [some (.ref 2000), some (.ref rk), some (.int (nI j)), some (.int (zFre B R j d (k + 1))), some (.int (nI k))]) rfl rfl ?_
                refine g_iinc E dX13_freshIn_73 rfl (v := nI (k + 1)) (nI_c _) (by decide) rfl (lo1 := [some (.ref 2000), some (.ref rk), some (.int (nI j)), some (.int (zFre B R j d (k + 1))), some (.int (nI (k + 1)))]) rfl rfl ?_
                refine g_goto E dX13_freshIn_76 (tgt := 5) (by decide) ?_
                exact ih5 (k + 1) (by omega) (by omega)
  exact lp5 ((B 0 3) + 1) 0 (Nat.zero_le _) (Nat.lt_succ_of_le (Nat.sub_le _ _))
set_option maxHeartbeats 400000 in
theorem ct_X13_smellIn (l : Launch) {g : gWM} {mb rk : Nat} {B : gBar} {R : Nat → Int32} {d : Int32} {th tr wh fa : Int32} {tp ac mk : Nat} (j : Nat) (e : Int32) (hw : wfB B) (hM : pMq g (.ref mb) th tr wh tp fa ac mk []) (hMb : pMb g mb B) (hR : pRw g rk B R d) (hj : j < B 0 3) : gCt l yX13_smellIn cX13_smellIn 5 (some .int) 3 0 0 68 [.ref 2000, .ref rk, .int (nI j), .int e] g (gPu (.int (zSme B R j d e)) g) := by
  refine gCt.of RX13 (by decide) rfl (lo := [some (.ref 2000), some (.ref rk), some (.int (nI j)), some (.int e), none]) 1 rfl (Nat.le_of_ble_eq_true rfl) (fun z E Rt => ?_)
  have hw_n := hw.1
  have hM_o := hM
  obtain ⟨hM_F, hM_a, hM_0, hM_1, hM_2, hM_3, hM_5, hM_6, hM_12, hM_15, hM_16, hM_17, hM_18, hM_19, hM_20, hM_26, hM_28, hM_29, -⟩ := hM_o
  have hMb_o := hMb
  obtain ⟨⟨hMb_F, hMb_a, hMb_0, hMb_1, hMb_2, hMb_3, hMb_4, hMb_5, hMb_6, hMb_7, hMb_8, hMb_9, hMb_11, hMb_12, hMb_13, hMb_14, hMb_15, hMb_16, hMb_17, hMb_18, hMb_19, hMb_20, hMb_21, hMb_22, hMb_23, hMb_24, hMb_25, hMb_26, hMb_27, hMb_28, hMb_29, hMb_30, hMb_31⟩, ⟨hMb_f1, hMb_a1, hMb_b1⟩, ⟨hMb_f2, hMb_a2, hMb_b2⟩, ⟨hMb_f3, hMb_a3, hMb_b3⟩, ⟨hMb_f4, hMb_a4, hMb_b4⟩, ⟨hMb_f5, hMb_a5, hMb_b5⟩, ⟨hMb_f6, hMb_a6, hMb_b6⟩, ⟨hMb_f7, hMb_a7, hMb_b7⟩, ⟨hMb_f8, hMb_a8, hMb_b8⟩, ⟨hMb_f9, hMb_a9, hMb_b9⟩, ⟨hMb_f10, hMb_a10, hMb_b10⟩, ⟨hMb_f11, hMb_a11, hMb_b11⟩, ⟨hMb_f12, hMb_a12, hMb_b12⟩, ⟨hMb_f13, hMb_a13, hMb_b13⟩, ⟨hMb_f14, hMb_a14, hMb_b14⟩, ⟨hMb_f15, hMb_a15, hMb_b15⟩, ⟨hMb_f16, hMb_a16, hMb_b16⟩, ⟨hMb_f17, hMb_a17, hMb_b17⟩, ⟨hMb_f18, hMb_a18, hMb_b18⟩, ⟨hMb_f19, hMb_a19, hMb_b19⟩, ⟨hMb_f20, hMb_a20, hMb_b20⟩, ⟨hMb_f21, hMb_a21, hMb_b21⟩⟩ := hMb_o
  have hR_o := hR
  obtain ⟨hR_f, hR_a, hR_r, hR_d⟩ := hR_o
  have hgd := hw.goods hj
  refine g_aload_n E dX13_smellIn_0 rfl rfl rfl ?_
  refine g_getf E gciX13 dX13_smellIn_1 hM_a 3 rfl (by decide) q1743 (.inl rfl) (.ref mb) (hM_3) rfl ?_
  refine g_getfN E gciX27 dX13_smellIn_4 hMb_a 24 rfl (by decide) q1896 (.inl rfl) (.ref (mb + 14)) (hMb_24) rfl ?_
  refine g_iload_n E dX13_smellIn_7 rfl rfl rfl ?_
  refine g_iald E dX13_smellIn_8 (j := j) hMb_a14 (rfl) (by omega) (by decide) (v := nI (B 16 j)) (hMb_b14 j (by omega)) rfl ?_
  refine g_aload_n E dX13_smellIn_9 rfl rfl rfl ?_
  refine g_aload_n E dX13_smellIn_10 rfl rfl rfl ?_
  refine g_iload_n E dX13_smellIn_11 rfl rfl rfl ?_
  have hM1 : pMq g (.ref mb) th tr wh tp fa ac mk [] := ⟨_, hM_a, hM_0, hM_1, hM_2, hM_3, hM_5, hM_6, hM_12, hM_15, hM_16, hM_17, hM_18, hM_19, hM_20, hM_26, hM_28, hM_29, trivial⟩
  refine g_callV (k := 2000) (n9 := 2) (av := [.ref rk, .int (nI j)]) (st := [.int (nI (B 16 j))]) E (ct_X13_ageIn l j hw hM1 hMb hR (by omega)) gciX13 dX13_smellIn_12 hM_a q2241 q2243 qs89 q135 q2244 (by decide +kernel) rfl rfl ⟨by decide, by decide⟩ ⟨by decide, by decide⟩ (Nat.le_of_ble_eq_true rfl) rfl (gPu.k ?_)
  refine g_bipush E (v := 10) dX13_smellIn_15 (by decide) rfl ?_
  refine g_idiv E dX13_smellIn_17 (by decide) rfl ?_
  refine g_iadd E dX13_smellIn_18 rfl ?_
  refine g_istore E dX13_smellIn_19 (by decide) rfl (lo1 := [some (.ref 2000), some (.ref rk), some (.int (nI j)), some (.int e), some (.int ((nI (B 16 j)) + ((zAge B j d) / 10)))]) rfl rfl ?_
  refine g_aload_n E dX13_smellIn_21 rfl rfl rfl ?_
  refine g_getf E gciX13 dX13_smellIn_22 hM_a 3 rfl (by decide) q1743 (.inl rfl) (.ref mb) (hM_3) rfl ?_
  refine g_getfN E gciX27 dX13_smellIn_25 hMb_a 20 rfl (by decide) q1888 (.inl rfl) (.ref (mb + 10)) (hMb_20) rfl ?_
  refine g_iload_n E dX13_smellIn_28 rfl rfl rfl ?_
  refine g_iald E dX13_smellIn_29 (j := j) hMb_a10 (rfl) (by omega) (by decide) (v := nI (B 12 j)) (hMb_b10 j (by omega)) rfl ?_
  refine g_iconst E (v := 3) dX13_smellIn_30 (by decide) rfl ?_
  refine g_icmp_ne E dX13_smellIn_31 (tgt := 40) (by decide) rfl (fun c31 => ?_) (fun c31 => ?_)
  · have c31 := mt (nI_eq (a := B 12 j) (b := 3) (by omega) (by omega)).mpr c31
    refine g_lo (lo1 := [some (.ref 2000), some (.ref rk), some (.int (nI j)), some (.int e), some (.int (zSmb B j d))]) (by rw [zSmb_1 c31]) ?_
    refine g_iload E dX13_smellIn_40 rfl rfl ?_
    refine g_iconst E (v := 2) dX13_smellIn_42 (by decide) rfl ?_
    refine g_aload_n E dX13_smellIn_43 rfl rfl rfl ?_
    refine g_aload_n E dX13_smellIn_44 rfl rfl rfl ?_
    refine g_iload_n E dX13_smellIn_45 rfl rfl rfl ?_
    refine g_callV (k := 2000) (n9 := 2) (av := [.ref rk, .int (nI j)]) (st := [.int 2, .int (zSmb B j d)]) E (ct_X13_freshIn l j hw hM1 hMb hR (by omega)) gciX13 dX13_smellIn_46 hM_a q2277 q2279 qs94 q135 q2280 (by decide +kernel) rfl rfl ⟨by decide, by decide⟩ ⟨by decide, by decide⟩ (Nat.le_of_ble_eq_true rfl) rfl (gPu.k ?_)
    refine g_iload_n E dX13_smellIn_49 rfl rfl rfl ?_
    refine g_iadd E dX13_smellIn_50 rfl ?_
    refine g_imul E dX13_smellIn_51 rfl ?_
    refine g_isub E dX13_smellIn_52 rfl ?_
    refine g_istore E dX13_smellIn_53 (by decide) rfl (lo1 := [some (.ref 2000), some (.ref rk), some (.int (nI j)), some (.int e), some (.int ((zSmb B j d) - (2 * ((zFre B R j d (B 0 3)) + e))))]) rfl rfl ?_
    refine g_iload E dX13_smellIn_55 rfl rfl ?_
    refine g_if_le E dX13_smellIn_57 (tgt := 65) (by decide) rfl (fun c57 => ?_) (fun c57 => ?_)
    · refine g_iconst E (v := 0) dX13_smellIn_65 (by decide) rfl ?_
      exact g_iret E Rt dX13_smellIn_66 rfl (by decide) (by decide) (⟨congrArg (fun x => some (Value.int x)) (zPos_el c57).symm, rfl⟩)
    · refine g_iload E dX13_smellIn_60 rfl rfl ?_
      refine g_goto E dX13_smellIn_62 (tgt := 66) (by decide) ?_
      exact g_iret E Rt dX13_smellIn_66 rfl (by decide) (by decide) (⟨congrArg (fun x => some (Value.int x)) (zPos_if c57).symm, rfl⟩)
  · have c31 := (nI_eq (a := B 12 j) (b := 3) (by omega) (by omega)).mp c31
    refine g_iload E dX13_smellIn_34 rfl rfl ?_
    refine g_iconst E (v := 2) dX13_smellIn_36 (by decide) rfl ?_
    refine g_imul E dX13_smellIn_37 rfl ?_
    refine g_as (y := zSmb B j d) (zSmb_2 c31) ?_
    refine g_istore E dX13_smellIn_38 (by decide) rfl (lo1 := [some (.ref 2000), some (.ref rk), some (.int (nI j)), some (.int e), some (.int (zSmb B j d))]) rfl rfl ?_
    refine g_iload E dX13_smellIn_40 rfl rfl ?_
    refine g_iconst E (v := 2) dX13_smellIn_42 (by decide) rfl ?_
    refine g_aload_n E dX13_smellIn_43 rfl rfl rfl ?_
    refine g_aload_n E dX13_smellIn_44 rfl rfl rfl ?_
    refine g_iload_n E dX13_smellIn_45 rfl rfl rfl ?_
    refine g_callV (k := 2000) (n9 := 2) (av := [.ref rk, .int (nI j)]) (st := [.int 2, .int (zSmb B j d)]) E (ct_X13_freshIn l j hw hM1 hMb hR (by omega)) gciX13 dX13_smellIn_46 hM_a q2277 q2279 qs94 q135 q2280 (by decide +kernel) rfl rfl ⟨by decide, by decide⟩ ⟨by decide, by decide⟩ (Nat.le_of_ble_eq_true rfl) rfl (gPu.k ?_)
    refine g_iload_n E dX13_smellIn_49 rfl rfl rfl ?_
    refine g_iadd E dX13_smellIn_50 rfl ?_
    refine g_imul E dX13_smellIn_51 rfl ?_
    refine g_isub E dX13_smellIn_52 rfl ?_
    refine g_istore E dX13_smellIn_53 (by decide) rfl (lo1 := [some (.ref 2000), some (.ref rk), some (.int (nI j)), some (.int e), some (.int ((zSmb B j d) - (2 * ((zFre B R j d (B 0 3)) + e))))]) rfl rfl ?_
    refine g_iload E dX13_smellIn_55 rfl rfl ?_
    refine g_if_le E dX13_smellIn_57 (tgt := 65) (by decide) rfl (fun c57 => ?_) (fun c57 => ?_)
    · refine g_iconst E (v := 0) dX13_smellIn_65 (by decide) rfl ?_
      exact g_iret E Rt dX13_smellIn_66 rfl (by decide) (by decide) (⟨congrArg (fun x => some (Value.int x)) (zPos_el c57).symm, rfl⟩)
    · refine g_iload E dX13_smellIn_60 rfl rfl ?_
      refine g_goto E dX13_smellIn_62 (tgt := 66) (by decide) ?_
      exact g_iret E Rt dX13_smellIn_66 rfl (by decide) (by decide) (⟨congrArg (fun x => some (Value.int x)) (zPos_if c57).symm, rfl⟩)
set_option maxHeartbeats 400000 in
theorem ct_X13_isHiddenIn (l : Launch) {g : gWM} {mb rk : Nat} {B : gBar} {R : Nat → Int32} {d : Int32} {th tr wh fa : Int32} {tp ac mk : Nat} (j : Nat) (hw : wfB B) (hM : pMq g (.ref mb) th tr wh tp fa ac mk []) (hMb : pMb g mb B) (hR : pRw g rk B R d) (hj : j < B 0 3) : gCt l yX13_isHiddenIn cX13_isHiddenIn 3 (some .boolean) 1 0 0 21 [.ref 2000, .ref rk, .int (nI j)] g (gPu (.int (zb (zBit (R 16) j))) g) := by
  refine gCt.of RX13 (by decide) rfl (lo := [some (.ref 2000), some (.ref rk), some (.int (nI j))]) 0 rfl (Nat.le_of_ble_eq_true rfl) (fun z E Rt => ?_)
  have hw_n := hw.1
  have hM_o := hM
  obtain ⟨hM_F, hM_a, hM_0, hM_1, hM_2, hM_3, hM_5, hM_6, hM_12, hM_15, hM_16, hM_17, hM_18, hM_19, hM_20, hM_26, hM_28, hM_29, -⟩ := hM_o
  have hMb_o := hMb
  obtain ⟨⟨hMb_F, hMb_a, hMb_0, hMb_1, hMb_2, hMb_3, hMb_4, hMb_5, hMb_6, hMb_7, hMb_8, hMb_9, hMb_11, hMb_12, hMb_13, hMb_14, hMb_15, hMb_16, hMb_17, hMb_18, hMb_19, hMb_20, hMb_21, hMb_22, hMb_23, hMb_24, hMb_25, hMb_26, hMb_27, hMb_28, hMb_29, hMb_30, hMb_31⟩, ⟨hMb_f1, hMb_a1, hMb_b1⟩, ⟨hMb_f2, hMb_a2, hMb_b2⟩, ⟨hMb_f3, hMb_a3, hMb_b3⟩, ⟨hMb_f4, hMb_a4, hMb_b4⟩, ⟨hMb_f5, hMb_a5, hMb_b5⟩, ⟨hMb_f6, hMb_a6, hMb_b6⟩, ⟨hMb_f7, hMb_a7, hMb_b7⟩, ⟨hMb_f8, hMb_a8, hMb_b8⟩, ⟨hMb_f9, hMb_a9, hMb_b9⟩, ⟨hMb_f10, hMb_a10, hMb_b10⟩, ⟨hMb_f11, hMb_a11, hMb_b11⟩, ⟨hMb_f12, hMb_a12, hMb_b12⟩, ⟨hMb_f13, hMb_a13, hMb_b13⟩, ⟨hMb_f14, hMb_a14, hMb_b14⟩, ⟨hMb_f15, hMb_a15, hMb_b15⟩, ⟨hMb_f16, hMb_a16, hMb_b16⟩, ⟨hMb_f17, hMb_a17, hMb_b17⟩, ⟨hMb_f18, hMb_a18, hMb_b18⟩, ⟨hMb_f19, hMb_a19, hMb_b19⟩, ⟨hMb_f20, hMb_a20, hMb_b20⟩, ⟨hMb_f21, hMb_a21, hMb_b21⟩⟩ := hMb_o
  have hR_o := hR
  obtain ⟨hR_f, hR_a, hR_r, hR_d⟩ := hR_o
  refine g_aload_n E dX13_isHiddenIn_0 rfl rfl rfl ?_
  refine g_bipush E (v := 16) dX13_isHiddenIn_1 (by decide) rfl ?_
  refine g_iald E dX13_isHiddenIn_3 (j := 16) hR_a (rfl) (by omega) (by decide) (v := R 16) (hR_r 16 (by unfold zRel; omega)) rfl ?_
  refine g_iload_n E dX13_isHiddenIn_4 rfl rfl rfl ?_
  refine g_callS (n9 := 2) (av := [.int (R 16), .int (nI j)]) (st := []) E (ct_X13_bit l (R 16) j) dX13_isHiddenIn_5 q2150 q2151 q135 q2152 (by decide +kernel) rfl rfl ⟨by decide, by decide⟩ ⟨by decide, by decide⟩ (Nat.le_of_ble_eq_true rfl) rfl (gPu.k ?_)
  exact g_zret E Rt dX13_isHiddenIn_8 rfl (zb_nar) (by decide) (by decide) (⟨rfl, rfl⟩)
set_option maxHeartbeats 400000 in
theorem ct_X13_foundIn (l : Launch) {g : gWM} {mb rk : Nat} {B : gBar} {R : Nat → Int32} {d : Int32} {th tr wh fa : Int32} {tp ac mk : Nat} (t k9 : Nat) (e : Int32) (hw : wfB B) (hM : pMq g (.ref mb) th tr wh tp fa ac mk []) (hMb : pMb g mb B) (hR : pRw g rk B R d) (ht : t < B 0 1) (hk9 : k9 < B 0 2) : gCt l yX13_foundIn cX13_foundIn 7 (some .int) 4 0 0 92 [.ref 2000, .ref rk, .int (nI t), .int (nI k9), .int e] g (gPu (.int (zFou B R t k9 d e)) g) := by
  refine gCt.of RX13 (by decide) rfl (lo := [some (.ref 2000), some (.ref rk), some (.int (nI t)), some (.int (nI k9)), some (.int e), none, none]) 2 rfl (Nat.le_of_ble_eq_true rfl) (fun z E Rt => ?_)
  have hw_n := hw.1
  have hM_o := hM
  obtain ⟨hM_F, hM_a, hM_0, hM_1, hM_2, hM_3, hM_5, hM_6, hM_12, hM_15, hM_16, hM_17, hM_18, hM_19, hM_20, hM_26, hM_28, hM_29, -⟩ := hM_o
  have hMb_o := hMb
  obtain ⟨⟨hMb_F, hMb_a, hMb_0, hMb_1, hMb_2, hMb_3, hMb_4, hMb_5, hMb_6, hMb_7, hMb_8, hMb_9, hMb_11, hMb_12, hMb_13, hMb_14, hMb_15, hMb_16, hMb_17, hMb_18, hMb_19, hMb_20, hMb_21, hMb_22, hMb_23, hMb_24, hMb_25, hMb_26, hMb_27, hMb_28, hMb_29, hMb_30, hMb_31⟩, ⟨hMb_f1, hMb_a1, hMb_b1⟩, ⟨hMb_f2, hMb_a2, hMb_b2⟩, ⟨hMb_f3, hMb_a3, hMb_b3⟩, ⟨hMb_f4, hMb_a4, hMb_b4⟩, ⟨hMb_f5, hMb_a5, hMb_b5⟩, ⟨hMb_f6, hMb_a6, hMb_b6⟩, ⟨hMb_f7, hMb_a7, hMb_b7⟩, ⟨hMb_f8, hMb_a8, hMb_b8⟩, ⟨hMb_f9, hMb_a9, hMb_b9⟩, ⟨hMb_f10, hMb_a10, hMb_b10⟩, ⟨hMb_f11, hMb_a11, hMb_b11⟩, ⟨hMb_f12, hMb_a12, hMb_b12⟩, ⟨hMb_f13, hMb_a13, hMb_b13⟩, ⟨hMb_f14, hMb_a14, hMb_b14⟩, ⟨hMb_f15, hMb_a15, hMb_b15⟩, ⟨hMb_f16, hMb_a16, hMb_b16⟩, ⟨hMb_f17, hMb_a17, hMb_b17⟩, ⟨hMb_f18, hMb_a18, hMb_b18⟩, ⟨hMb_f19, hMb_a19, hMb_b19⟩, ⟨hMb_f20, hMb_a20, hMb_b20⟩, ⟨hMb_f21, hMb_a21, hMb_b21⟩⟩ := hMb_o
  have hR_o := hR
  obtain ⟨hR_f, hR_a, hR_r, hR_d⟩ := hR_o
  refine g_iconst E (v := 0) dX13_foundIn_0 (by decide) rfl ?_
  refine g_istore E dX13_foundIn_1 (by decide) rfl (lo1 := [some (.ref 2000), some (.ref rk), some (.int (nI t)), some (.int (nI k9)), some (.int e), some (.int 0), none]) rfl rfl ?_
  refine g_iconst E (v := 0) dX13_foundIn_3 (by decide) rfl ?_
  refine g_istore E dX13_foundIn_4 (by decide) rfl (lo1 := [some (.ref 2000), some (.ref rk), some (.int (nI t)), some (.int (nI k9)), some (.int e), some (.int 0), some (.int 0)]) rfl rfl ?_
  have lp6 : ∀ (r9 : Nat) (k : Nat), (k ≤ B 0 3) → (B 0 3 - k < r9) → gV z g 0 0 6 [some (.ref 2000), some (.ref rk), some (.int (nI t)), some (.int (nI k9)), some (.int e), some (.int (orTo (zFp B R t k9 d e) k)), some (.int (nI k))] [] := by
    intro r9
    induction r9 with
    | zero => intro k hk hm; exact absurd hm (Nat.not_lt_zero _)
    | succ r9 ih6 =>
      intro k hk hm
      refine g_iload E dX13_foundIn_6 rfl rfl ?_
      refine g_aload_n E dX13_foundIn_8 rfl rfl rfl ?_
      refine g_getf E gciX13 dX13_foundIn_9 hM_a 3 rfl (by decide) q1743 (.inl rfl) (.ref mb) (hM_3) rfl ?_
      refine g_getfN E gciX27 dX13_foundIn_12 hMb_a 5 rfl (by decide) q1862 (.inl rfl) (.int (nI (B 0 3))) (hMb_5) rfl ?_
      refine g_icmp_ge E dX13_foundIn_15 (tgt := 79) (by decide) rfl (fun c15 => ?_) (fun c15 => ?_)
      · have c15 := (nI_leI (a := B 0 3) (b := k) (by omega) (by omega)).mp c15
        obtain rfl : k = B 0 3 := by omega
        refine g_iload E dX13_foundIn_79 rfl rfl ?_
        exact g_iret E Rt dX13_foundIn_81 rfl (by decide) (by decide) (⟨rfl, rfl⟩)
      · have c15 := mt (nI_leI (a := B 0 3) (b := k) (by omega) (by omega)).mpr c15
        refine g_iload E dX13_foundIn_18 rfl rfl ?_
        refine g_aload_n E dX13_foundIn_20 rfl rfl rfl ?_
        refine g_aload_n E dX13_foundIn_21 rfl rfl rfl ?_
        refine g_iload_n E dX13_foundIn_22 rfl rfl rfl ?_
        refine g_iload E dX13_foundIn_23 rfl rfl ?_
        have hM1 : pMq g (.ref mb) th tr wh tp fa ac mk [] := ⟨_, hM_a, hM_0, hM_1, hM_2, hM_3, hM_5, hM_6, hM_12, hM_15, hM_16, hM_17, hM_18, hM_19, hM_20, hM_26, hM_28, hM_29, trivial⟩
        refine g_callV (k := 2000) (n9 := 3) (av := [.ref rk, .int (nI t), .int (nI k)]) (st := [.int (orTo (zFp B R t k9 d e) k)]) E (ct_X13_hasIn l t k hw hM1 hMb hR (by omega) (by omega)) gciX13 dX13_foundIn_25 hM_a q2217 q2219 qs85 q135 q2220 (by decide +kernel) rfl rfl ⟨by decide, by decide⟩ ⟨by decide, by decide⟩ (Nat.le_of_ble_eq_true rfl) rfl (gPu.k ?_)
        refine g_if_eq E dX13_foundIn_28 (tgt := 69) (by decide) rfl (fun c28 => ?_) (fun c28 => ?_)
        · have c28 := zb_0.mp c28
          refine g_iconst E (v := 0) dX13_foundIn_69 (by decide) rfl ?_
          refine g_ior E dX13_foundIn_70 rfl ?_
          refine g_as (y := orTo (zFp B R t k9 d e) (k + 1)) (orTo_f (by simp [zFp, c28])) ?_
          refine g_istore E dX13_foundIn_71 (by decide) rfl (lo1 := [some (.ref 2000), some (.ref rk), some (.int (nI t)), some (.int (nI k9)), some (.int e), some (.int (orTo (zFp B R t k9 d e) (k + 1))), some (.int (nI k))]) rfl rfl ?_
          refine g_iinc E dX13_foundIn_73 rfl (v := nI (k + 1)) (nI_c _) (by decide) rfl (lo1 := [some (.ref 2000), some (.ref rk), some (.int (nI t)), some (.int (nI k9)), some (.int e), some (.int (orTo (zFp B R t k9 d e) (k + 1))), some (.int (nI (k + 1)))]) rfl rfl ?_
          refine g_goto E dX13_foundIn_76 (tgt := 6) (by decide) ?_
          exact ih6 (k + 1) (by omega) (by omega)
        · have c28 := zb_n0.mp c28
          refine g_aload_n E dX13_foundIn_31 rfl rfl rfl ?_
          refine g_aload_n E dX13_foundIn_32 rfl rfl rfl ?_
          refine g_iload E dX13_foundIn_33 rfl rfl ?_
          refine g_callV (k := 2000) (n9 := 2) (av := [.ref rk, .int (nI k)]) (st := [.int (orTo (zFp B R t k9 d e) k)]) E (ct_X13_isHiddenIn l k hw hM1 hMb hR (by omega)) gciX13 dX13_foundIn_35 hM_a q2201 q2203 qs82 q135 q2204 (by decide +kernel) rfl rfl ⟨by decide, by decide⟩ ⟨by decide, by decide⟩ (Nat.le_of_ble_eq_true rfl) rfl (gPu.k ?_)
          refine g_if_eq E dX13_foundIn_38 (tgt := 69) (by decide) rfl (fun c38 => ?_) (fun c38 => ?_)
          · have c38 := zb_0.mp c38
            refine g_iconst E (v := 0) dX13_foundIn_69 (by decide) rfl ?_
            refine g_ior E dX13_foundIn_70 rfl ?_
            refine g_as (y := orTo (zFp B R t k9 d e) (k + 1)) (orTo_f (by simp [zFp, c28, c38])) ?_
            refine g_istore E dX13_foundIn_71 (by decide) rfl (lo1 := [some (.ref 2000), some (.ref rk), some (.int (nI t)), some (.int (nI k9)), some (.int e), some (.int (orTo (zFp B R t k9 d e) (k + 1))), some (.int (nI k))]) rfl rfl ?_
            refine g_iinc E dX13_foundIn_73 rfl (v := nI (k + 1)) (nI_c _) (by decide) rfl (lo1 := [some (.ref 2000), some (.ref rk), some (.int (nI t)), some (.int (nI k9)), some (.int e), some (.int (orTo (zFp B R t k9 d e) (k + 1))), some (.int (nI (k + 1)))]) rfl rfl ?_
            refine g_goto E dX13_foundIn_76 (tgt := 6) (by decide) ?_
            exact ih6 (k + 1) (by omega) (by omega)
          · have c38 := zb_n0.mp c38
            refine g_aload_n E dX13_foundIn_41 rfl rfl rfl ?_
            refine g_aload_n E dX13_foundIn_42 rfl rfl rfl ?_
            refine g_iload E dX13_foundIn_43 rfl rfl ?_
            refine g_iload E dX13_foundIn_45 rfl rfl ?_
            refine g_callV (k := 2000) (n9 := 3) (av := [.ref rk, .int (nI k), .int e]) (st := [.int (orTo (zFp B R t k9 d e) k)]) E (ct_X13_smellIn l k e hw hM1 hMb hR (by omega)) gciX13 dX13_foundIn_47 hM_a q2273 q2275 qs93 q135 q2276 (by decide +kernel) rfl rfl ⟨by decide, by decide⟩ ⟨by decide, by decide⟩ (Nat.le_of_ble_eq_true rfl) rfl (gPu.k ?_)
            refine g_aload_n E dX13_foundIn_50 rfl rfl rfl ?_
            refine g_getf E gciX13 dX13_foundIn_51 hM_a 3 rfl (by decide) q1743 (.inl rfl) (.ref mb) (hM_3) rfl ?_
            refine g_getfN E gciX27 dX13_foundIn_54 hMb_a 17 rfl (by decide) q1882 (.inl rfl) (.ref (mb + 7)) (hMb_17) rfl ?_
            refine g_iload_n E dX13_foundIn_57 rfl rfl rfl ?_
            refine g_iald E dX13_foundIn_58 (j := k9) hMb_a7 (rfl) (by omega) (by decide) (v := nI (B 9 k9)) (hMb_b7 k9 (by omega)) rfl ?_
            refine g_icmp_lt E dX13_foundIn_59 (tgt := 69) (by decide) rfl (fun c59 => ?_) (fun c59 => ?_)
            · refine g_iconst E (v := 0) dX13_foundIn_69 (by decide) rfl ?_
              refine g_ior E dX13_foundIn_70 rfl ?_
              refine g_as (y := orTo (zFp B R t k9 d e) (k + 1)) (orTo_f (by simp [zFp, c28, c38, c59])) ?_
              refine g_istore E dX13_foundIn_71 (by decide) rfl (lo1 := [some (.ref 2000), some (.ref rk), some (.int (nI t)), some (.int (nI k9)), some (.int e), some (.int (orTo (zFp B R t k9 d e) (k + 1))), some (.int (nI k))]) rfl rfl ?_
              refine g_iinc E dX13_foundIn_73 rfl (v := nI (k + 1)) (nI_c _) (by decide) rfl (lo1 := [some (.ref 2000), some (.ref rk), some (.int (nI t)), some (.int (nI k9)), some (.int e), some (.int (orTo (zFp B R t k9 d e) (k + 1))), some (.int (nI (k + 1)))]) rfl rfl ?_
              refine g_goto E dX13_foundIn_76 (tgt := 6) (by decide) ?_
              exact ih6 (k + 1) (by omega) (by omega)
            · refine g_iconst E (v := 1) dX13_foundIn_62 (by decide) rfl ?_
              refine g_iload E dX13_foundIn_63 rfl rfl ?_
              refine g_ishl E dX13_foundIn_65 rfl ?_
              refine g_goto E dX13_foundIn_66 (tgt := 70) (by decide) ?_
              refine g_ior E dX13_foundIn_70 rfl ?_
              refine g_as (y := orTo (zFp B R t k9 d e) (k + 1)) (orTo_t (by simp [zFp, c28, c38, c59])) ?_
              refine g_istore E dX13_foundIn_71 (by decide) rfl (lo1 := [some (.ref 2000), some (.ref rk), some (.int (nI t)), some (.int (nI k9)), some (.int e), some (.int (orTo (zFp B R t k9 d e) (k + 1))), some (.int (nI k))]) rfl rfl ?_
              refine g_iinc E dX13_foundIn_73 rfl (v := nI (k + 1)) (nI_c _) (by decide) rfl (lo1 := [some (.ref 2000), some (.ref rk), some (.int (nI t)), some (.int (nI k9)), some (.int e), some (.int (orTo (zFp B R t k9 d e) (k + 1))), some (.int (nI (k + 1)))]) rfl rfl ?_
              refine g_goto E dX13_foundIn_76 (tgt := 6) (by decide) ?_
              exact ih6 (k + 1) (by omega) (by omega)
  exact lp6 ((B 0 3) + 1) 0 (Nat.zero_le _) (Nat.lt_succ_of_le (Nat.sub_le _ _))
set_option maxHeartbeats 400000 in
theorem ct_X13_askedBy (l : Launch) {g : gWM} {mb rk : Nat} {B : gBar} {R : Nat → Int32} {d : Int32} {th tr wh fa : Int32} {tp ac mk : Nat} (t lw : Nat) (f : Int32) (hw : wfB B) (hM : pMq g (.ref mb) th tr wh tp fa ac mk []) (hMb : pMb g mb B) (hR : pRw g rk B R d) (ht : t < B 0 1) (hl : lw ≤ 1) (hfk : zFok B R t f) : gCt l yX13_askedBy cX13_askedBy 8 (some .int) 3 0 0 67 [.ref 2000, .ref rk, .int (nI t), .int f, .int (nI lw)] g (gPu (.int (zAsk B R t f (lw + 1) d)) g) := by
  refine gCt.of RX13 (by decide) rfl (lo := [some (.ref 2000), some (.ref rk), some (.int (nI t)), some (.int f), some (.int (nI lw)), none, none, none]) 3 rfl (Nat.le_of_ble_eq_true rfl) (fun z E Rt => ?_)
  have hw_n := hw.1
  have hM_o := hM
  obtain ⟨hM_F, hM_a, hM_0, hM_1, hM_2, hM_3, hM_5, hM_6, hM_12, hM_15, hM_16, hM_17, hM_18, hM_19, hM_20, hM_26, hM_28, hM_29, -⟩ := hM_o
  have hMb_o := hMb
  obtain ⟨⟨hMb_F, hMb_a, hMb_0, hMb_1, hMb_2, hMb_3, hMb_4, hMb_5, hMb_6, hMb_7, hMb_8, hMb_9, hMb_11, hMb_12, hMb_13, hMb_14, hMb_15, hMb_16, hMb_17, hMb_18, hMb_19, hMb_20, hMb_21, hMb_22, hMb_23, hMb_24, hMb_25, hMb_26, hMb_27, hMb_28, hMb_29, hMb_30, hMb_31⟩, ⟨hMb_f1, hMb_a1, hMb_b1⟩, ⟨hMb_f2, hMb_a2, hMb_b2⟩, ⟨hMb_f3, hMb_a3, hMb_b3⟩, ⟨hMb_f4, hMb_a4, hMb_b4⟩, ⟨hMb_f5, hMb_a5, hMb_b5⟩, ⟨hMb_f6, hMb_a6, hMb_b6⟩, ⟨hMb_f7, hMb_a7, hMb_b7⟩, ⟨hMb_f8, hMb_a8, hMb_b8⟩, ⟨hMb_f9, hMb_a9, hMb_b9⟩, ⟨hMb_f10, hMb_a10, hMb_b10⟩, ⟨hMb_f11, hMb_a11, hMb_b11⟩, ⟨hMb_f12, hMb_a12, hMb_b12⟩, ⟨hMb_f13, hMb_a13, hMb_b13⟩, ⟨hMb_f14, hMb_a14, hMb_b14⟩, ⟨hMb_f15, hMb_a15, hMb_b15⟩, ⟨hMb_f16, hMb_a16, hMb_b16⟩, ⟨hMb_f17, hMb_a17, hMb_b17⟩, ⟨hMb_f18, hMb_a18, hMb_b18⟩, ⟨hMb_f19, hMb_a19, hMb_b19⟩, ⟨hMb_f20, hMb_a20, hMb_b20⟩, ⟨hMb_f21, hMb_a21, hMb_b21⟩⟩ := hMb_o
  have hR_o := hR
  obtain ⟨hR_f, hR_a, hR_r, hR_d⟩ := hR_o
  refine g_iconst E (v := 0) dX13_askedBy_0 (by decide) rfl ?_
  refine g_istore E dX13_askedBy_1 (by decide) rfl (lo1 := [some (.ref 2000), some (.ref rk), some (.int (nI t)), some (.int f), some (.int (nI lw)), some (.int 0), none, none]) rfl rfl ?_
  refine g_iconst E (v := 0) dX13_askedBy_3 (by decide) rfl ?_
  refine g_istore E dX13_askedBy_4 (by decide) rfl (lo1 := [some (.ref 2000), some (.ref rk), some (.int (nI t)), some (.int f), some (.int (nI lw)), some (.int 0), some (.int 0), none]) rfl rfl ?_
  refine g_iconst E (v := 0) dX13_askedBy_6 (by decide) rfl ?_
  refine g_istore E dX13_askedBy_7 (by decide) rfl (lo1 := [some (.ref 2000), some (.ref rk), some (.int (nI t)), some (.int f), some (.int (nI lw)), some (.int 0), some (.int 0), some (.int 0)]) rfl rfl ?_
  have lp9 : ∀ (r9 : Nat) (k : Nat), (k ≤ B 0 3) → (B 0 3 - k < r9) → gV z g 0 0 9 [some (.ref 2000), some (.ref rk), some (.int (nI t)), some (.int f), some (.int (nI lw)), some (.int (sumTo (zOpn B R t (lw + 1) d) k)), some (.int (sumTo (zFin B f (lw + 1) d) k)), some (.int (nI k))] [] := by
    intro r9
    induction r9 with
    | zero => intro k hk hm; exact absurd hm (Nat.not_lt_zero _)
    | succ r9 ih9 =>
      intro k hk hm
      refine g_iload E dX13_askedBy_9 rfl rfl ?_
      refine g_aload_n E dX13_askedBy_11 rfl rfl rfl ?_
      refine g_getf E gciX13 dX13_askedBy_12 hM_a 3 rfl (by decide) q1743 (.inl rfl) (.ref mb) (hM_3) rfl ?_
      refine g_getfN E gciX27 dX13_askedBy_15 hMb_a 5 rfl (by decide) q1862 (.inl rfl) (.int (nI (B 0 3))) (hMb_5) rfl ?_
      refine g_icmp_ge E dX13_askedBy_18 (tgt := 93) (by decide) rfl (fun c18 => ?_) (fun c18 => ?_)
      · have c18 := (nI_leI (a := B 0 3) (b := k) (by omega) (by omega)).mp c18
        obtain rfl : k = B 0 3 := by omega
        refine g_iload E dX13_askedBy_93 rfl rfl ?_
        refine g_aload_n E dX13_askedBy_95 rfl rfl rfl ?_
        refine g_getf E gciX13 dX13_askedBy_96 hM_a 3 rfl (by decide) q1743 (.inl rfl) (.ref mb) (hM_3) rfl ?_
        refine g_getfN E gciX27 dX13_askedBy_99 hMb_a 15 rfl (by decide) q1878 (.inl rfl) (.ref (mb + 5)) (hMb_15) rfl ?_
        refine g_iload_n E dX13_askedBy_102 rfl rfl rfl ?_
        refine g_iald E dX13_askedBy_103 (j := t) hMb_a5 (rfl) (by omega) (by decide) (v := nI (B 7 t)) (hMb_b5 t (by omega)) rfl ?_
        refine g_isub E dX13_askedBy_104 rfl ?_
        refine g_istore E dX13_askedBy_105 (by decide) rfl (lo1 := [some (.ref 2000), some (.ref rk), some (.int (nI t)), some (.int f), some (.int (nI lw)), some (.int ((sumTo (zOpn B R t (lw + 1) d) (B 0 3)) - (nI (B 7 t)))), some (.int (sumTo (zFin B f (lw + 1) d) (B 0 3))), some (.int (nI (B 0 3)))]) rfl rfl ?_
        refine g_iload E dX13_askedBy_107 rfl rfl ?_
        refine g_iload E dX13_askedBy_109 rfl rfl ?_
        refine g_if_le E dX13_askedBy_111 (tgt := 119) (by decide) rfl (fun c111 => ?_) (fun c111 => ?_)
        · refine g_iconst E (v := 0) dX13_askedBy_119 (by decide) rfl ?_
          refine g_iadd E dX13_askedBy_120 rfl ?_
          refine g_as (y := zAsk B R t f (lw + 1) d) (by unfold zAsk; rw [zPos_el c111, Int32.add_comm]) ?_
          exact g_iret E Rt dX13_askedBy_121 rfl (by decide) (by decide) (⟨rfl, rfl⟩)
        · refine g_iload E dX13_askedBy_114 rfl rfl ?_
          refine g_goto E dX13_askedBy_116 (tgt := 120) (by decide) ?_
          refine g_iadd E dX13_askedBy_120 rfl ?_
          refine g_as (y := zAsk B R t f (lw + 1) d) (by unfold zAsk; rw [zPos_if c111, Int32.add_comm]) ?_
          exact g_iret E Rt dX13_askedBy_121 rfl (by decide) (by decide) (⟨rfl, rfl⟩)
      · have c18 := mt (nI_leI (a := B 0 3) (b := k) (by omega) (by omega)).mpr c18
        refine g_aload_n E dX13_askedBy_21 rfl rfl rfl ?_
        refine g_aload_n E dX13_askedBy_22 rfl rfl rfl ?_
        refine g_iload_n E dX13_askedBy_23 rfl rfl rfl ?_
        refine g_iload E dX13_askedBy_24 rfl rfl ?_
        have hM1 : pMq g (.ref mb) th tr wh tp fa ac mk [] := ⟨_, hM_a, hM_0, hM_1, hM_2, hM_3, hM_5, hM_6, hM_12, hM_15, hM_16, hM_17, hM_18, hM_19, hM_20, hM_26, hM_28, hM_29, trivial⟩
        refine g_callV (k := 2000) (n9 := 3) (av := [.ref rk, .int (nI t), .int (nI k)]) (st := []) E (ct_X13_hasIn l t k hw hM1 hMb hR (by omega) (by omega)) gciX13 dX13_askedBy_26 hM_a q2217 q2219 qs85 q135 q2220 (by decide +kernel) rfl rfl ⟨by decide, by decide⟩ ⟨by decide, by decide⟩ (Nat.le_of_ble_eq_true rfl) rfl (gPu.k ?_)
        refine g_if_ne E dX13_askedBy_29 (tgt := 35) (by decide) rfl (fun c29 => ?_) (fun c29 => ?_)
        · have c29 := zb_n0.mp c29
          refine g_iload_n E dX13_askedBy_35 rfl rfl rfl ?_
          refine g_iload E dX13_askedBy_36 rfl rfl ?_
          refine g_callS (n9 := 2) (av := [.int f, .int (nI k)]) (st := []) E (ct_X13_bit l f k) dX13_askedBy_38 q2150 q2151 q135 q2152 (by decide +kernel) rfl rfl ⟨by decide, by decide⟩ ⟨by decide, by decide⟩ (Nat.le_of_ble_eq_true rfl) rfl (gPu.k ?_)
          refine g_if_eq E dX13_askedBy_41 (tgt := 63) (by decide) rfl (fun c41 => ?_) (fun c41 => ?_)
          · have c41 := zb_0.mp c41
            refine g_aload_n E dX13_askedBy_63 rfl rfl rfl ?_
            refine g_aload_n E dX13_askedBy_64 rfl rfl rfl ?_
            refine g_iload E dX13_askedBy_65 rfl rfl ?_
            refine g_callV (k := 2000) (n9 := 2) (av := [.ref rk, .int (nI k)]) (st := []) E (ct_X13_isHiddenIn l k hw hM1 hMb hR (by omega)) gciX13 dX13_askedBy_67 hM_a q2201 q2203 qs82 q135 q2204 (by decide +kernel) rfl rfl ⟨by decide, by decide⟩ ⟨by decide, by decide⟩ (Nat.le_of_ble_eq_true rfl) rfl (gPu.k ?_)
            refine g_if_ne E dX13_askedBy_70 (tgt := 87) (by decide) rfl (fun c70 => ?_) (fun c70 => ?_)
            · have c70 := zb_n0.mp c70
              refine g_lo (lo1 := [some (.ref 2000), some (.ref rk), some (.int (nI t)), some (.int f), some (.int (nI lw)), some (.int (sumTo (zOpn B R t (lw + 1) d) (k + 1))), some (.int (sumTo (zFin B f (lw + 1) d) (k + 1))), some (.int (nI k))]) (by rw [show sumTo (zFin B f (lw + 1) d) (k + 1) = sumTo (zFin B f (lw + 1) d) k from sumTo_0 (by simp [zFin, c41]), show sumTo (zOpn B R t (lw + 1) d) (k + 1) = sumTo (zOpn B R t (lw + 1) d) k from sumTo_0 (by simp [zOpn, c29, c70])]) ?_
              refine g_iinc E dX13_askedBy_87 rfl (v := nI (k + 1)) (nI_c _) (by decide) rfl (lo1 := [some (.ref 2000), some (.ref rk), some (.int (nI t)), some (.int f), some (.int (nI lw)), some (.int (sumTo (zOpn B R t (lw + 1) d) (k + 1))), some (.int (sumTo (zFin B f (lw + 1) d) (k + 1))), some (.int (nI (k + 1)))]) rfl rfl ?_
              refine g_goto E dX13_askedBy_90 (tgt := 9) (by decide) ?_
              exact ih9 (k + 1) (by omega) (by omega)
            · have c70 := zb_0.mp c70
              refine g_iload E dX13_askedBy_73 rfl rfl ?_
              refine g_aload_n E dX13_askedBy_75 rfl rfl rfl ?_
              refine g_aload_n E dX13_askedBy_76 rfl rfl rfl ?_
              refine g_iload E dX13_askedBy_77 rfl rfl ?_
              refine g_iload E dX13_askedBy_79 rfl rfl ?_
              refine g_callV (k := 2000) (n9 := 3) (av := [.ref rk, .int (nI k), .int (nI lw)]) (st := [.int (sumTo (zOpn B R t (lw + 1) d) k)]) E (ct_X13_dutyIn l k lw hw hM1 hMb hR (by omega) (by omega)) gciX13 dX13_askedBy_81 hM_a q2265 q2267 qs92 q135 q2268 (by decide +kernel) rfl rfl ⟨by decide, by decide⟩ ⟨by decide, by decide⟩ (Nat.le_of_ble_eq_true rfl) rfl (gPu.k ?_)
              refine g_iadd E dX13_askedBy_84 rfl ?_
              refine g_as (y := sumTo (zOpn B R t (lw + 1) d) (k + 1)) (sumTo_s (by simp [zOpn, c29, c70])) ?_
              refine g_istore E dX13_askedBy_85 (by decide) rfl (lo1 := [some (.ref 2000), some (.ref rk), some (.int (nI t)), some (.int f), some (.int (nI lw)), some (.int (sumTo (zOpn B R t (lw + 1) d) (k + 1))), some (.int (sumTo (zFin B f (lw + 1) d) k)), some (.int (nI k))]) rfl rfl ?_
              refine g_lo (lo1 := [some (.ref 2000), some (.ref rk), some (.int (nI t)), some (.int f), some (.int (nI lw)), some (.int (sumTo (zOpn B R t (lw + 1) d) (k + 1))), some (.int (sumTo (zFin B f (lw + 1) d) (k + 1))), some (.int (nI k))]) (by rw [show sumTo (zFin B f (lw + 1) d) (k + 1) = sumTo (zFin B f (lw + 1) d) k from sumTo_0 (by simp [zFin, c41])]) ?_
              refine g_iinc E dX13_askedBy_87 rfl (v := nI (k + 1)) (nI_c _) (by decide) rfl (lo1 := [some (.ref 2000), some (.ref rk), some (.int (nI t)), some (.int f), some (.int (nI lw)), some (.int (sumTo (zOpn B R t (lw + 1) d) (k + 1))), some (.int (sumTo (zFin B f (lw + 1) d) (k + 1))), some (.int (nI (k + 1)))]) rfl rfl ?_
              refine g_goto E dX13_askedBy_90 (tgt := 9) (by decide) ?_
              exact ih9 (k + 1) (by omega) (by omega)
          · have c41 := zb_n0.mp c41
            refine g_iload E dX13_askedBy_44 rfl rfl ?_
            refine g_iconst E (v := 3) dX13_askedBy_46 (by decide) rfl ?_
            refine g_aload_n E dX13_askedBy_47 rfl rfl rfl ?_
            refine g_aload_n E dX13_askedBy_48 rfl rfl rfl ?_
            refine g_iload E dX13_askedBy_49 rfl rfl ?_
            refine g_iload E dX13_askedBy_51 rfl rfl ?_
            refine g_callV (k := 2000) (n9 := 3) (av := [.ref rk, .int (nI k), .int (nI lw)]) (st := [.int 3, .int (sumTo (zFin B f (lw + 1) d) k)]) E (ct_X13_dutyIn l k lw hw hM1 hMb hR (by omega) (by omega)) gciX13 dX13_askedBy_53 hM_a q2265 q2267 qs92 q135 q2268 (by decide +kernel) rfl rfl ⟨by decide, by decide⟩ ⟨by decide, by decide⟩ (Nat.le_of_ble_eq_true rfl) rfl (gPu.k ?_)
            refine g_imul E dX13_askedBy_56 rfl ?_
            refine g_iadd E dX13_askedBy_57 rfl ?_
            refine g_as (y := sumTo (zFin B f (lw + 1) d) (k + 1)) (sumTo_s (by simp [zFin, c41])) ?_
            refine g_istore E dX13_askedBy_58 (by decide) rfl (lo1 := [some (.ref 2000), some (.ref rk), some (.int (nI t)), some (.int f), some (.int (nI lw)), some (.int (sumTo (zOpn B R t (lw + 1) d) k)), some (.int (sumTo (zFin B f (lw + 1) d) (k + 1))), some (.int (nI k))]) rfl rfl ?_
            refine g_goto E dX13_askedBy_60 (tgt := 87) (by decide) ?_
            refine g_lo (lo1 := [some (.ref 2000), some (.ref rk), some (.int (nI t)), some (.int f), some (.int (nI lw)), some (.int (sumTo (zOpn B R t (lw + 1) d) (k + 1))), some (.int (sumTo (zFin B f (lw + 1) d) (k + 1))), some (.int (nI k))]) (by rw [show sumTo (zOpn B R t (lw + 1) d) (k + 1) = sumTo (zOpn B R t (lw + 1) d) k from sumTo_0 (by simp [zOpn, c29, (hfk k (by omega) c41).2])]) ?_
            refine g_iinc E dX13_askedBy_87 rfl (v := nI (k + 1)) (nI_c _) (by decide) rfl (lo1 := [some (.ref 2000), some (.ref rk), some (.int (nI t)), some (.int f), some (.int (nI lw)), some (.int (sumTo (zOpn B R t (lw + 1) d) (k + 1))), some (.int (sumTo (zFin B f (lw + 1) d) (k + 1))), some (.int (nI (k + 1)))]) rfl rfl ?_
            refine g_goto E dX13_askedBy_90 (tgt := 9) (by decide) ?_
            exact ih9 (k + 1) (by omega) (by omega)
        · have c29 := zb_0.mp c29
          refine g_goto E dX13_askedBy_32 (tgt := 87) (by decide) ?_
          have hnb : zBit f k = false := by cases hq9 : zBit f k with | false => rfl | true => rw [(hfk k (by omega) hq9).1] at c29; cases c29
          refine g_lo (lo1 := [some (.ref 2000), some (.ref rk), some (.int (nI t)), some (.int f), some (.int (nI lw)), some (.int (sumTo (zOpn B R t (lw + 1) d) (k + 1))), some (.int (sumTo (zFin B f (lw + 1) d) (k + 1))), some (.int (nI k))]) (by rw [show sumTo (zFin B f (lw + 1) d) (k + 1) = sumTo (zFin B f (lw + 1) d) k from sumTo_0 (by simp [zFin, hnb]), show sumTo (zOpn B R t (lw + 1) d) (k + 1) = sumTo (zOpn B R t (lw + 1) d) k from sumTo_0 (by simp [zOpn, c29])]) ?_
          refine g_iinc E dX13_askedBy_87 rfl (v := nI (k + 1)) (nI_c _) (by decide) rfl (lo1 := [some (.ref 2000), some (.ref rk), some (.int (nI t)), some (.int f), some (.int (nI lw)), some (.int (sumTo (zOpn B R t (lw + 1) d) (k + 1))), some (.int (sumTo (zFin B f (lw + 1) d) (k + 1))), some (.int (nI (k + 1)))]) rfl rfl ?_
          refine g_goto E dX13_askedBy_90 (tgt := 9) (by decide) ?_
          exact ih9 (k + 1) (by omega) (by omega)
  exact lp9 ((B 0 3) + 1) 0 (Nat.zero_le _) (Nat.lt_succ_of_le (Nat.sub_le _ _))
set_option maxHeartbeats 400000 in
theorem ct_X13_askedIn (l : Launch) {g : gWM} {mb rk : Nat} {B : gBar} {R : Nat → Int32} {d : Int32} {th tr wh fa : Int32} {tp ac mk : Nat} (t k9 : Nat) (hw : wfB B) (hM : pMq g (.ref mb) th tr wh tp fa ac mk []) (hMb : pMb g mb B) (hR : pRw g rk B R d) (ht : t < B 0 1) (hk9 : k9 < B 0 2) : gCt l yX13_askedIn cX13_askedIn 4 (some .int) 5 0 0 118 [.ref 2000, .ref rk, .int (nI t), .int (nI k9)] g (gPu (.int (zAo B R t k9 1 d)) g) := by
  refine gCt.of RX13 (by decide) rfl (lo := [some (.ref 2000), some (.ref rk), some (.int (nI t)), some (.int (nI k9))]) 0 rfl (Nat.le_of_ble_eq_true rfl) (fun z E Rt => ?_)
  have hw_n := hw.1
  have hM_o := hM
  obtain ⟨hM_F, hM_a, hM_0, hM_1, hM_2, hM_3, hM_5, hM_6, hM_12, hM_15, hM_16, hM_17, hM_18, hM_19, hM_20, hM_26, hM_28, hM_29, -⟩ := hM_o
  have hMb_o := hMb
  obtain ⟨⟨hMb_F, hMb_a, hMb_0, hMb_1, hMb_2, hMb_3, hMb_4, hMb_5, hMb_6, hMb_7, hMb_8, hMb_9, hMb_11, hMb_12, hMb_13, hMb_14, hMb_15, hMb_16, hMb_17, hMb_18, hMb_19, hMb_20, hMb_21, hMb_22, hMb_23, hMb_24, hMb_25, hMb_26, hMb_27, hMb_28, hMb_29, hMb_30, hMb_31⟩, ⟨hMb_f1, hMb_a1, hMb_b1⟩, ⟨hMb_f2, hMb_a2, hMb_b2⟩, ⟨hMb_f3, hMb_a3, hMb_b3⟩, ⟨hMb_f4, hMb_a4, hMb_b4⟩, ⟨hMb_f5, hMb_a5, hMb_b5⟩, ⟨hMb_f6, hMb_a6, hMb_b6⟩, ⟨hMb_f7, hMb_a7, hMb_b7⟩, ⟨hMb_f8, hMb_a8, hMb_b8⟩, ⟨hMb_f9, hMb_a9, hMb_b9⟩, ⟨hMb_f10, hMb_a10, hMb_b10⟩, ⟨hMb_f11, hMb_a11, hMb_b11⟩, ⟨hMb_f12, hMb_a12, hMb_b12⟩, ⟨hMb_f13, hMb_a13, hMb_b13⟩, ⟨hMb_f14, hMb_a14, hMb_b14⟩, ⟨hMb_f15, hMb_a15, hMb_b15⟩, ⟨hMb_f16, hMb_a16, hMb_b16⟩, ⟨hMb_f17, hMb_a17, hMb_b17⟩, ⟨hMb_f18, hMb_a18, hMb_b18⟩, ⟨hMb_f19, hMb_a19, hMb_b19⟩, ⟨hMb_f20, hMb_a20, hMb_b20⟩, ⟨hMb_f21, hMb_a21, hMb_b21⟩⟩ := hMb_o
  have hR_o := hR
  obtain ⟨hR_f, hR_a, hR_r, hR_d⟩ := hR_o
  refine g_aload_n E dX13_askedIn_0 rfl rfl rfl ?_
  refine g_aload_n E dX13_askedIn_1 rfl rfl rfl ?_
  refine g_iload_n E dX13_askedIn_2 rfl rfl rfl ?_
  refine g_aload_n E dX13_askedIn_3 rfl rfl rfl ?_
  refine g_aload_n E dX13_askedIn_4 rfl rfl rfl ?_
  refine g_iload_n E dX13_askedIn_5 rfl rfl rfl ?_
  refine g_iload_n E dX13_askedIn_6 rfl rfl rfl ?_
  refine g_iconst E (v := 0) dX13_askedIn_7 (by decide) rfl ?_
  have hM1 : pMq g (.ref mb) th tr wh tp fa ac mk [] := ⟨_, hM_a, hM_0, hM_1, hM_2, hM_3, hM_5, hM_6, hM_12, hM_15, hM_16, hM_17, hM_18, hM_19, hM_20, hM_26, hM_28, hM_29, trivial⟩
  refine g_callV (k := 2000) (n9 := 4) (av := [.ref rk, .int (nI t), .int (nI k9), .int 0]) (st := [.int (nI t), .ref rk, .ref 2000]) E (ct_X13_foundIn l t k9 0 hw hM1 hMb hR (by omega) (by omega)) gciX13 dX13_askedIn_8 hM_a q2293 q2295 qs96 q135 q2296 (by decide +kernel) rfl rfl ⟨by decide, by decide⟩ ⟨by decide, by decide⟩ (Nat.le_of_ble_eq_true rfl) rfl (gPu.k ?_)
  refine g_iconst E (v := 0) dX13_askedIn_11 (by decide) rfl ?_
  refine g_callV (k := 2000) (n9 := 4) (av := [.ref rk, .int (nI t), .int (zFou B R t k9 d 0), .int 0]) (st := []) E (ct_X13_askedBy l t 0 (zFou B R t k9 d 0) hw hM1 hMb hR (by omega) (by omega) (zFok_fou hw)) gciX13 dX13_askedIn_12 hM_a q2297 q2299 qs97 q135 q2300 (by decide +kernel) rfl rfl ⟨by decide, by decide⟩ ⟨by decide, by decide⟩ (Nat.le_of_ble_eq_true rfl) rfl (gPu.k ?_)
  exact g_iret E Rt dX13_askedIn_15 rfl (by decide) (by decide) (⟨rfl, rfl⟩)
set_option maxHeartbeats 400000 in
theorem ct_X13_crosses (l : Launch) {g : gWM} {mb rk : Nat} {B : gBar} {R : Nat → Int32} {d : Int32} {th tr wh fa : Int32} {tp ac mk : Nat} (t : Nat) (f : Int32) (hw : wfB B) (hM : pMq g (.ref mb) th tr wh tp fa ac mk []) (hMb : pMb g mb B) (hR : pRw g rk B R d) (ht : t < B 0 1) (hfk : zFok B R t f) (hrk : rk = 2002 ∨ rk = 2003) (h9 : 10000 ≤ mb) : gCt l yX13_crosses cX13_crosses 6 (some .int) 4 0 0 94 [.ref 2000, .ref rk, .int (nI t), .int f] g (gPi (zAsk B R t f 1 d) (fun g1 => pRw g1 rk B (zCro B R t f (zAsk B R t f 1 d)) d ∧ ∀ j, j ≠ rk → g1 j = g j)) := by
  refine gCt.of RX13 (by decide) rfl (lo := [some (.ref 2000), some (.ref rk), some (.int (nI t)), some (.int f), none, none]) 2 rfl (Nat.le_of_ble_eq_true rfl) (fun z E Rt => ?_)
  have hw_n := hw.1
  have hM_o := hM
  obtain ⟨hM_F, hM_a, hM_0, hM_1, hM_2, hM_3, hM_5, hM_6, hM_12, hM_15, hM_16, hM_17, hM_18, hM_19, hM_20, hM_26, hM_28, hM_29, -⟩ := hM_o
  have hMb_o := hMb
  obtain ⟨⟨hMb_F, hMb_a, hMb_0, hMb_1, hMb_2, hMb_3, hMb_4, hMb_5, hMb_6, hMb_7, hMb_8, hMb_9, hMb_11, hMb_12, hMb_13, hMb_14, hMb_15, hMb_16, hMb_17, hMb_18, hMb_19, hMb_20, hMb_21, hMb_22, hMb_23, hMb_24, hMb_25, hMb_26, hMb_27, hMb_28, hMb_29, hMb_30, hMb_31⟩, ⟨hMb_f1, hMb_a1, hMb_b1⟩, ⟨hMb_f2, hMb_a2, hMb_b2⟩, ⟨hMb_f3, hMb_a3, hMb_b3⟩, ⟨hMb_f4, hMb_a4, hMb_b4⟩, ⟨hMb_f5, hMb_a5, hMb_b5⟩, ⟨hMb_f6, hMb_a6, hMb_b6⟩, ⟨hMb_f7, hMb_a7, hMb_b7⟩, ⟨hMb_f8, hMb_a8, hMb_b8⟩, ⟨hMb_f9, hMb_a9, hMb_b9⟩, ⟨hMb_f10, hMb_a10, hMb_b10⟩, ⟨hMb_f11, hMb_a11, hMb_b11⟩, ⟨hMb_f12, hMb_a12, hMb_b12⟩, ⟨hMb_f13, hMb_a13, hMb_b13⟩, ⟨hMb_f14, hMb_a14, hMb_b14⟩, ⟨hMb_f15, hMb_a15, hMb_b15⟩, ⟨hMb_f16, hMb_a16, hMb_b16⟩, ⟨hMb_f17, hMb_a17, hMb_b17⟩, ⟨hMb_f18, hMb_a18, hMb_b18⟩, ⟨hMb_f19, hMb_a19, hMb_b19⟩, ⟨hMb_f20, hMb_a20, hMb_b20⟩, ⟨hMb_f21, hMb_a21, hMb_b21⟩⟩ := hMb_o
  have hR_o := hR
  obtain ⟨hR_f, hR_a, hR_r, hR_d⟩ := hR_o
  refine g_aload_n E dX13_crosses_0 rfl rfl rfl ?_
  refine g_aload_n E dX13_crosses_1 rfl rfl rfl ?_
  refine g_iload_n E dX13_crosses_2 rfl rfl rfl ?_
  refine g_iload_n E dX13_crosses_3 rfl rfl rfl ?_
  refine g_iconst E (v := 0) dX13_crosses_4 (by decide) rfl ?_
  have hM1 : pMq g (.ref mb) th tr wh tp fa ac mk [] := ⟨_, hM_a, hM_0, hM_1, hM_2, hM_3, hM_5, hM_6, hM_12, hM_15, hM_16, hM_17, hM_18, hM_19, hM_20, hM_26, hM_28, hM_29, trivial⟩
  refine g_callV (k := 2000) (n9 := 4) (av := [.ref rk, .int (nI t), .int f, .int 0]) (st := []) E (ct_X13_askedBy l t 0 f hw hM1 hMb hR (by omega) (by omega) hfk) gciX13 dX13_crosses_5 hM_a q2297 q2299 qs97 q135 q2300 (by decide +kernel) rfl rfl ⟨by decide, by decide⟩ ⟨by decide, by decide⟩ (Nat.le_of_ble_eq_true rfl) rfl (gPu.k ?_)
  refine g_istore E dX13_crosses_8 (by decide) rfl (lo1 := [some (.ref 2000), some (.ref rk), some (.int (nI t)), some (.int f), some (.int (zAsk B R t f 1 d)), none]) rfl rfl ?_
  refine g_iconst E (v := 0) dX13_crosses_10 (by decide) rfl ?_
  refine g_istore E dX13_crosses_11 (by decide) rfl (lo1 := [some (.ref 2000), some (.ref rk), some (.int (nI t)), some (.int f), some (.int (zAsk B R t f 1 d)), some (.int 0)]) rfl rfl ?_
  have lp13 : ∀ (r9 : Nat) (k : Nat) (gw : gWM), (k ≤ B 0 3) → (B 0 3 - k < r9) → (pRw gw rk B (zCr B R t f k) d) → (∀ j, j ≠ rk → gw j = g j) → gV z gw 0 0 13 [some (.ref 2000), some (.ref rk), some (.int (nI t)), some (.int f), some (.int (zAsk B R t f 1 d)), some (.int (nI k))] [] := by
    intro r9
    induction r9 with
    | zero => intro k gw hk hm hRw hfw; exact absurd hm (Nat.not_lt_zero _)
    | succ r9 ih13 =>
      intro k gw hk hm hRw hfw
      have hRw_o := hRw
      obtain ⟨hRw_f, hRw_a, hRw_r, hRw_d⟩ := hRw_o
      refine g_iload E dX13_crosses_13 rfl rfl ?_
      refine g_aload_n E dX13_crosses_15 rfl rfl rfl ?_
      have x2 := (hfw (2000) (by omega)).trans (hM_a)
      refine g_getf E gciX13 dX13_crosses_16 x2 3 rfl (by decide) q1743 (.inl rfl) (.ref mb) (hM_3) rfl ?_
      have x3 := (hfw (mb) (by omega)).trans (hMb_a)
      refine g_getfN E gciX27 dX13_crosses_19 x3 5 rfl (by decide) q1862 (.inl rfl) (.int (nI (B 0 3))) (hMb_5) rfl ?_
      refine g_icmp_ge E dX13_crosses_22 (tgt := 62) (by decide) rfl (fun c22 => ?_) (fun c22 => ?_)
      · have c22 := (nI_leI (a := B 0 3) (b := k) (by omega) (by omega)).mp c22
        obtain rfl : k = B 0 3 := by omega
        have hRw_o := hRw
        obtain ⟨hRw_f, hRw_a, hRw_r, hRw_d⟩ := hRw_o
        refine g_aload_n E dX13_crosses_62 rfl rfl rfl ?_
        refine g_bipush E (v := 12) dX13_crosses_63 (by decide) rfl ?_
        refine g_iload_n E dX13_crosses_65 rfl rfl rfl ?_
        refine g_iadd E dX13_crosses_66 rfl ?_
        refine g_as (y := nI (12 + t)) (by rw [show (12 : Int32) = nI 12 from rfl, nI_add]) ?_
        refine g_dup2 E dX13_crosses_67 rfl rfl rfl ?_
        refine g_iald E dX13_crosses_68 (j := 12 + t) hRw_a (rfl) (by omega) (by decide) (v := (zCr B R t f (B 0 3)) (12 + t)) (hRw_r (12 + t) (by unfold zRel; omega)) rfl ?_
        refine g_as (y := R (12 + t)) (zCr_hi (by omega)) ?_
        refine g_iload E dX13_crosses_69 rfl rfl ?_
        refine g_iadd E dX13_crosses_71 rfl ?_
        refine g_iast E dX13_crosses_72 (j := 12 + t) hRw_a (rfl) (by omega) (by decide) rfl (g_upk (fun g4 h4 f4 => ?_))
        refine g_iload E dX13_crosses_73 rfl rfl ?_
        exact g_iret E Rt dX13_crosses_75 rfl (by decide) (by decide) (⟨rfl, ⟨_, h4, updR ⟨hRw_r, hRw_d⟩ (by omega)⟩, fun j9 h9 => (f4 j9 (by omega)).trans (hfw j9 h9)⟩)
      · have c22 := mt (nI_leI (a := B 0 3) (b := k) (by omega) (by omega)).mpr c22
        refine g_aload_n E dX13_crosses_25 rfl rfl rfl ?_
        refine g_aload_n E dX13_crosses_26 rfl rfl rfl ?_
        refine g_iload_n E dX13_crosses_27 rfl rfl rfl ?_
        refine g_iload E dX13_crosses_28 rfl rfl ?_
        have hM5 : pMq gw (.ref mb) th tr wh tp fa ac mk [] := ⟨_, x2, hM_0, hM_1, hM_2, hM_3, hM_5, hM_6, hM_12, hM_15, hM_16, hM_17, hM_18, hM_19, hM_20, hM_26, hM_28, hM_29, trivial⟩
        have y6 := (hMb.fr  (fun j9 a9 b9 => hfw j9 (by omega)))
        refine g_callV (k := 2000) (n9 := 3) (av := [.ref rk, .int (nI t), .int (nI k)]) (st := []) E (ct_X13_hasIn l t k hw hM5 y6 hRw (by omega) (by omega)) gciX13 dX13_crosses_30 x2 q2217 q2219 qs85 q135 q2220 (by decide +kernel) rfl rfl ⟨by decide, by decide⟩ ⟨by decide, by decide⟩ (Nat.le_of_ble_eq_true rfl) rfl (gPu.k ?_)
        refine g_as (y := zb (zHp B R t k)) (by rw [show zHp B (zCr B R t f k) t k = zHp B R t k by unfold zHp; rw [zCr_hp]]) ?_
        refine g_if_eq E dX13_crosses_33 (tgt := 56) (by decide) rfl (fun c33 => ?_) (fun c33 => ?_)
        · have c33 := zb_0.mp c33
          refine g_iinc E dX13_crosses_56 rfl (v := nI (k + 1)) (nI_c _) (by decide) rfl (lo1 := [some (.ref 2000), some (.ref rk), some (.int (nI t)), some (.int f), some (.int (zAsk B R t f 1 d)), some (.int (nI (k + 1)))]) rfl rfl ?_
          refine g_goto E dX13_crosses_59 (tgt := 13) (by decide) ?_
          exact ih13 (k + 1) gw (by omega) (by omega) (by rw [zCr_f c33]; exact hRw) hfw
        · have c33 := zb_n0.mp c33
          refine g_aload_n E dX13_crosses_36 rfl rfl rfl ?_
          refine g_iconst E (v := 0) dX13_crosses_37 (by decide) rfl ?_
          refine g_iload E dX13_crosses_38 rfl rfl ?_
          refine g_iadd E dX13_crosses_40 rfl ?_
          refine g_as (y := nI k) (Int32.zero_add _) ?_
          refine g_iload_n E dX13_crosses_41 rfl rfl rfl ?_
          refine g_iload E dX13_crosses_42 rfl rfl ?_
          refine g_callS (n9 := 2) (av := [.int f, .int (nI k)]) (st := [.int (nI k), .ref rk]) E (ct_X13_bit l f k) dX13_crosses_44 q2150 q2151 q135 q2152 (by decide +kernel) rfl rfl ⟨by decide, by decide⟩ ⟨by decide, by decide⟩ (Nat.le_of_ble_eq_true rfl) rfl (gPu.k ?_)
          refine g_if_eq E dX13_crosses_47 (tgt := 54) (by decide) rfl (fun c47 => ?_) (fun c47 => ?_)
          · have c47 := zb_0.mp c47
            refine g_iconst E (v := 2) dX13_crosses_54 (by decide) rfl ?_
            refine g_iast E dX13_crosses_55 (j := k) hRw_a (rfl) (by omega) (by decide) rfl (g_upk (fun g7 h7 f7 => ?_))
            refine g_iinc E dX13_crosses_56 rfl (v := nI (k + 1)) (nI_c _) (by decide) rfl (lo1 := [some (.ref 2000), some (.ref rk), some (.int (nI t)), some (.int f), some (.int (zAsk B R t f 1 d)), some (.int (nI (k + 1)))]) rfl rfl ?_
            refine g_goto E dX13_crosses_59 (tgt := 13) (by decide) ?_
            exact ih13 (k + 1) g7 (by omega) (by omega) (by rw [zCr_t c33, c47]; exact ⟨_, h7, updR ⟨hRw_r, hRw_d⟩ (by omega)⟩) (fun j9 h9 => (f7 j9 (by omega)).trans (hfw j9 h9))
          · have c47 := zb_n0.mp c47
            refine g_iconst E (v := 3) dX13_crosses_50 (by decide) rfl ?_
            refine g_goto E dX13_crosses_51 (tgt := 55) (by decide) ?_
            refine g_iast E dX13_crosses_55 (j := k) hRw_a (rfl) (by omega) (by decide) rfl (g_upk (fun g8 h8 f8 => ?_))
            refine g_iinc E dX13_crosses_56 rfl (v := nI (k + 1)) (nI_c _) (by decide) rfl (lo1 := [some (.ref 2000), some (.ref rk), some (.int (nI t)), some (.int f), some (.int (zAsk B R t f 1 d)), some (.int (nI (k + 1)))]) rfl rfl ?_
            refine g_goto E dX13_crosses_59 (tgt := 13) (by decide) ?_
            exact ih13 (k + 1) g8 (by omega) (by omega) (by rw [zCr_t c33, c47]; exact ⟨_, h8, updR ⟨hRw_r, hRw_d⟩ (by omega)⟩) (fun j9 h9 => (f8 j9 (by omega)).trans (hfw j9 h9))
  exact lp13 (B 0 3 + 1) 0 g (Nat.zero_le _) (by omega) (by rw [zCr_0]; exact hR) (fun j9 h9 => rfl)
set_option maxHeartbeats 400000 in
theorem ct_X13_starts (l : Launch) {g : gWM} {mb rk : Nat} {B : gBar} {th tr wh fa : Int32} {tp ac mk : Nat} (hw : wfB B) (hM : pMq g (.ref mb) th tr wh tp fa ac mk []) (hMb : pMb g mb B) (hX : pIx g rk 18) (hrk : rk = 2002 ∨ rk = 2003) (h9 : 10000 ≤ mb) : gCt l yX13_starts cX13_starts 3 none 0 0 0 0 [.ref 2000, .ref rk] g (gPn (fun g1 => pRw g1 rk B (zR0 B) 0 ∧ ∀ j, j ≠ rk → g1 j = g j)) := by
  refine gCt.of RX13 (by decide) rfl (lo := [some (.ref 2000), some (.ref rk), none]) 1 rfl (Nat.le_of_ble_eq_true rfl) (fun z E Rt => ?_)
  have hw_n := hw.1
  have hM_o := hM
  obtain ⟨hM_F, hM_a, hM_0, hM_1, hM_2, hM_3, hM_5, hM_6, hM_12, hM_15, hM_16, hM_17, hM_18, hM_19, hM_20, hM_26, hM_28, hM_29, -⟩ := hM_o
  have hMb_o := hMb
  obtain ⟨⟨hMb_F, hMb_a, hMb_0, hMb_1, hMb_2, hMb_3, hMb_4, hMb_5, hMb_6, hMb_7, hMb_8, hMb_9, hMb_11, hMb_12, hMb_13, hMb_14, hMb_15, hMb_16, hMb_17, hMb_18, hMb_19, hMb_20, hMb_21, hMb_22, hMb_23, hMb_24, hMb_25, hMb_26, hMb_27, hMb_28, hMb_29, hMb_30, hMb_31⟩, ⟨hMb_f1, hMb_a1, hMb_b1⟩, ⟨hMb_f2, hMb_a2, hMb_b2⟩, ⟨hMb_f3, hMb_a3, hMb_b3⟩, ⟨hMb_f4, hMb_a4, hMb_b4⟩, ⟨hMb_f5, hMb_a5, hMb_b5⟩, ⟨hMb_f6, hMb_a6, hMb_b6⟩, ⟨hMb_f7, hMb_a7, hMb_b7⟩, ⟨hMb_f8, hMb_a8, hMb_b8⟩, ⟨hMb_f9, hMb_a9, hMb_b9⟩, ⟨hMb_f10, hMb_a10, hMb_b10⟩, ⟨hMb_f11, hMb_a11, hMb_b11⟩, ⟨hMb_f12, hMb_a12, hMb_b12⟩, ⟨hMb_f13, hMb_a13, hMb_b13⟩, ⟨hMb_f14, hMb_a14, hMb_b14⟩, ⟨hMb_f15, hMb_a15, hMb_b15⟩, ⟨hMb_f16, hMb_a16, hMb_b16⟩, ⟨hMb_f17, hMb_a17, hMb_b17⟩, ⟨hMb_f18, hMb_a18, hMb_b18⟩, ⟨hMb_f19, hMb_a19, hMb_b19⟩, ⟨hMb_f20, hMb_a20, hMb_b20⟩, ⟨hMb_f21, hMb_a21, hMb_b21⟩⟩ := hMb_o
  have hX_o := hX
  obtain ⟨hX_f, hX_a⟩ := hX_o
  refine g_iconst E (v := 0) dX13_starts_0 (by decide) rfl ?_
  refine g_istore_n E dX13_starts_1 rfl (by decide) rfl (lo1 := [some (.ref 2000), some (.ref rk), some (.int 0)]) rfl rfl ?_
  have lp2 : ∀ (r9 : Nat) (k : Nat) (gw : gWM), (k ≤ 18) → (18 - k < r9) → (pIa gw rk 18 k (fun _ => 0)) → (∀ j, j ≠ rk → gw j = g j) → gV z gw 0 0 2 [some (.ref 2000), some (.ref rk), some (.int (nI k))] [] := by
    intro r9
    induction r9 with
    | zero => intro k gw hk hm hSw hfw; exact absurd hm (Nat.not_lt_zero _)
    | succ r9 ih2 =>
      intro k gw hk hm hSw hfw
      obtain ⟨hSw_f, hSw_a, hSw_r⟩ := hSw
      refine g_iload_n E dX13_starts_2 rfl rfl rfl ?_
      refine g_bipush E (v := 18) dX13_starts_3 (by decide) rfl ?_
      refine g_icmp_ge E dX13_starts_5 (tgt := 18) (by decide) rfl (fun c5 => ?_) (fun c5 => ?_)
      · have c5 := (nI_leI (a := 18) (b := k) (by omega) (by omega)).mp c5
        obtain rfl : k = 18 := by omega
        refine g_iconst E (v := 0) dX13_starts_18 (by decide) rfl ?_
        refine g_istore_n E dX13_starts_19 rfl (by decide) rfl (lo1 := [some (.ref 2000), some (.ref rk), some (.int 0)]) rfl rfl ?_
        have lp20 : ∀ (r9 : Nat) (k : Nat) (gx : gWM), (k ≤ B 0 1) → (B 0 1 - k < r9) → (pIa gx rk 18 18 (zHg B k)) → (∀ j, j ≠ rk → gx j = g j) → gV z gx 0 0 20 [some (.ref 2000), some (.ref rk), some (.int (nI k))] [] := by
          intro r9
          induction r9 with
          | zero => intro k gx hk hm hSw hfx; exact absurd hm (Nat.not_lt_zero _)
          | succ r9 ih20 =>
            intro k gx hk hm hSw hfx
            obtain ⟨hSw_f, hSw_a, hSw_r⟩ := hSw
            refine g_iload_n E dX13_starts_20 rfl rfl rfl ?_
            refine g_aload_n E dX13_starts_21 rfl rfl rfl ?_
            have x1 := (hfx (2000) (by omega)).trans (hM_a)
            refine g_getf E gciX13 dX13_starts_22 x1 3 rfl (by decide) q1743 (.inl rfl) (.ref mb) (hM_3) rfl ?_
            have x2 := (hfx (mb) (by omega)).trans (hMb_a)
            refine g_getfN E gciX27 dX13_starts_25 x2 3 rfl (by decide) q1860 (.inl rfl) (.int (nI (B 0 1))) (hMb_3) rfl ?_
            refine g_icmp_ge E dX13_starts_28 (tgt := 52) (by decide) rfl (fun c28 => ?_) (fun c28 => ?_)
            · have c28 := (nI_leI (a := B 0 1) (b := k) (by omega) (by omega)).mp c28
              obtain rfl : k = B 0 1 := by omega
              refine g_aload_n E dX13_starts_52 rfl rfl rfl ?_
              refine g_bipush E (v := 16) dX13_starts_53 (by decide) rfl ?_
              refine g_aload_n E dX13_starts_55 rfl rfl rfl ?_
              refine g_getf E gciX13 dX13_starts_56 x1 3 rfl (by decide) q1743 (.inl rfl) (.ref mb) (hM_3) rfl ?_
              refine g_getfN E gciX27 dX13_starts_59 x2 9 rfl (by decide) q1866 (.inl rfl) (.int (zHid B)) (hMb_9) rfl ?_
              refine g_iast E dX13_starts_62 (j := 16) hSw_a (rfl) (by omega) (by decide) rfl (g_upk (fun g3 h3 f3 => ?_))
              exact g_vret E Rt dX13_starts_63 rfl (by decide) (by decide) (⟨rfl, ⟨_, h3, zHg_R hw hSw_r⟩, fun j9 h9 => (f3 j9 (by omega)).trans (hfx j9 (by omega))⟩)
            · have c28 := mt (nI_leI (a := B 0 1) (b := k) (by omega) (by omega)).mpr c28
              refine g_aload_n E dX13_starts_31 rfl rfl rfl ?_
              refine g_bipush E (v := 8) dX13_starts_32 (by decide) rfl ?_
              refine g_iload_n E dX13_starts_34 rfl rfl rfl ?_
              refine g_iadd E dX13_starts_35 rfl ?_
              refine g_as (y := nI (8 + k)) (by rw [show (8 : Int32) = nI 8 from rfl, nI_add]) ?_
              refine g_aload_n E dX13_starts_36 rfl rfl rfl ?_
              refine g_getf E gciX13 dX13_starts_37 x1 3 rfl (by decide) q1743 (.inl rfl) (.ref mb) (hM_3) rfl ?_
              refine g_getfN E gciX27 dX13_starts_40 x2 16 rfl (by decide) q1880 (.inl rfl) (.ref (mb + 6)) (hMb_16) rfl ?_
              refine g_iload_n E dX13_starts_43 rfl rfl rfl ?_
              have x4 := (hfx (mb + 6) (by omega)).trans (hMb_a6)
              refine g_iald E dX13_starts_44 (j := k) x4 (rfl) (by omega) (by decide) (v := nI (B 8 k)) (hMb_b6 k (by omega)) rfl ?_
              refine g_iast E dX13_starts_45 (j := 8 + k) hSw_a (rfl) (by omega) (by decide) rfl (g_upk (fun g5 h5 f5 => ?_))
              refine g_iinc E dX13_starts_46 rfl (v := nI (k + 1)) (nI_c _) (by decide) rfl (lo1 := [some (.ref 2000), some (.ref rk), some (.int (nI (k + 1)))]) rfl rfl ?_
              refine g_goto E dX13_starts_49 (tgt := 20) (by decide) ?_
              exact ih20 (k + 1) g5 (by omega) (by omega) ⟨_, h5, zHg_s hSw_r (by omega)⟩ (fun j9 h9 => (f5 j9 (by omega)).trans (hfx j9 (by omega)))
        exact lp20 (B 0 1 + 1) 0 gw (Nat.zero_le _) (by omega) ⟨_, hSw_a, fun i9 h9 => by rw [hSw_r i9 (by omega)]; unfold zHg; rw [if_neg (by omega)]⟩ hfw
      · have c5 := mt (nI_leI (a := 18) (b := k) (by omega) (by omega)).mpr c5
        refine g_aload_n E dX13_starts_8 rfl rfl rfl ?_
        refine g_iload_n E dX13_starts_9 rfl rfl rfl ?_
        refine g_iconst E (v := 0) dX13_starts_10 (by decide) rfl ?_
        refine g_iast E dX13_starts_11 (j := k) hSw_a (rfl) (by omega) (by decide) rfl (g_upk (fun g6 h6 f6 => ?_))
        refine g_iinc E dX13_starts_12 rfl (v := nI (k + 1)) (nI_c _) (by decide) rfl (lo1 := [some (.ref 2000), some (.ref rk), some (.int (nI (k + 1)))]) rfl rfl ?_
        refine g_goto E dX13_starts_15 (tgt := 2) (by decide) ?_
        exact ih2 (k + 1) g6 (by omega) (by omega) ⟨_, h6, upd0 hSw_r⟩ (fun j9 h9 => (f6 j9 (by omega)).trans (hfw j9 (by omega)))
  exact lp2 (18 + 1) 0 g (by decide) (by decide) ⟨_, hX_a, fun i9 h9 => absurd h9 (Nat.not_lt_zero i9)⟩ (fun j9 h9 => rfl)
set_option maxHeartbeats 400000 in
theorem ct_X13_tries (l : Launch) {g : gWM} {mb : Nat} {B : gBar} {R : Nat → Int32} {d : Int32} {th tr wh fa : Int32} {tp ac mk : Nat} (hw : wfB B) (hM : pMq g (.ref mb) th tr wh tp fa ac mk []) (hV : pRw g 2002 B R d) (hX : pIx g 2003 18) : gCt l yX13_tries cX13_tries 2 none 0 0 0 0 [.ref 2000] g (gPn (fun g1 => pRw g1 2003 B R d ∧ ∀ j, j ≠ 2003 → g1 j = g j)) := by
  refine gCt.of RX13 (by decide) rfl (lo := [some (.ref 2000), none]) 1 rfl (Nat.le_of_ble_eq_true rfl) (fun z E Rt => ?_)
  have hw_n := hw.1
  have hM_o := hM
  obtain ⟨hM_F, hM_a, hM_0, hM_1, hM_2, hM_3, hM_5, hM_6, hM_12, hM_15, hM_16, hM_17, hM_18, hM_19, hM_20, hM_26, hM_28, hM_29, -⟩ := hM_o
  have hV_o := hV
  obtain ⟨hV_f, hV_a, hV_r, hV_d⟩ := hV_o
  have hX_o := hX
  obtain ⟨hX_f, hX_a⟩ := hX_o
  refine g_iconst E (v := 0) dX13_tries_0 (by decide) rfl ?_
  refine g_istore_n E dX13_tries_1 rfl (by decide) rfl (lo1 := [some (.ref 2000), some (.int 0)]) rfl rfl ?_
  have lp2 : ∀ (r9 : Nat) (k : Nat) (gw : gWM), (k ≤ 18) → (18 - k < r9) → (pIa gw 2003 18 k hV_f) → (∀ j, j ≠ 2003 → gw j = g j) → gV z gw 0 0 2 [some (.ref 2000), some (.int (nI k))] [] := by
    intro r9
    induction r9 with
    | zero => intro k gw hk hm hSw hfw; exact absurd hm (Nat.not_lt_zero _)
    | succ r9 ih2 =>
      intro k gw hk hm hSw hfw
      obtain ⟨hSw_f, hSw_a, hSw_r⟩ := hSw
      refine g_iload_n E dX13_tries_2 rfl rfl rfl ?_
      refine g_bipush E (v := 18) dX13_tries_3 (by decide) rfl ?_
      refine g_icmp_ge E dX13_tries_5 (tgt := 26) (by decide) rfl (fun c5 => ?_) (fun c5 => ?_)
      · have c5 := (nI_leI (a := 18) (b := k) (by omega) (by omega)).mp c5
        obtain rfl : k = 18 := by omega
        exact g_vret E Rt dX13_tries_26 rfl (by decide) (by decide) (⟨rfl, ⟨_, hSw_a, fun i9 h9 => (hSw_r i9 (by have := h9.lt hw; omega)).trans (hV_r i9 h9), (hSw_r 17 (by decide)).trans hV_d⟩, hfw⟩)
      · have c5 := mt (nI_leI (a := 18) (b := k) (by omega) (by omega)).mpr c5
        refine g_aload_n E dX13_tries_8 rfl rfl rfl ?_
        have x1 := (hfw (2000) (by omega)).trans (hM_a)
        refine g_getf E gciX13 dX13_tries_9 x1 16 rfl (by decide) q1756 (.inl rfl) (.ref 2003) (hM_16) rfl ?_
        refine g_iload_n E dX13_tries_12 rfl rfl rfl ?_
        refine g_aload_n E dX13_tries_13 rfl rfl rfl ?_
        refine g_getf E gciX13 dX13_tries_14 x1 15 rfl (by decide) q1755 (.inl rfl) (.ref 2002) (hM_15) rfl ?_
        refine g_iload_n E dX13_tries_17 rfl rfl rfl ?_
        have x2 := (hfw (2002) (by omega)).trans (hV_a)
        refine g_iald E dX13_tries_18 (j := k) x2 (rfl) (by omega) (by decide) (v := hV_f k) (rfl) rfl ?_
        refine g_iast E dX13_tries_19 (j := k) hSw_a (rfl) (by omega) (by decide) rfl (g_upk (fun g3 h3 f3 => ?_))
        refine g_iinc E dX13_tries_20 rfl (v := nI (k + 1)) (nI_c _) (by decide) rfl (lo1 := [some (.ref 2000), some (.int (nI (k + 1)))]) rfl rfl ?_
        refine g_goto E dX13_tries_23 (tgt := 2) (by decide) ?_
        exact ih2 (k + 1) g3 (by omega) (by omega) ⟨_, h3, updE hSw_r⟩ (fun j9 h9 => (f3 j9 (by omega)).trans (hfw j9 (by omega)))
  exact lp2 (18 + 1) 0 g (by decide) (by decide) ⟨_, hX_a, fun i9 h9 => absurd h9 (Nat.not_lt_zero i9)⟩ (fun j9 h9 => rfl)
set_option maxHeartbeats 400000 in
theorem ct_X13_asks (l : Launch) {g : gWM} {mb : Nat} {B : gBar} {R : Nat → Int32} {d : Int32} {th tr wh fa : Int32} {tp ac mk : Nat} (b : Bool) (dy : Int32) (hw : wfB B) (hM : pMq g (.ref mb) th tr wh tp fa ac mk []) (hV : pRw g 2002 B R d) (hX : pIx g 2003 18) : gCt l yX13_asks cX13_asks 3 (some .int) 1 0 0 22 [.ref 2000, .int (zb b), .int dy] g (gPi (qWy b dy) (fun g1 => (qWy b dy = 0 → pRw g1 2003 B R (d + dy)) ∧ pIx g1 2003 18 ∧ ∀ j, j ≠ 2003 → g1 j = g j)) := by
  refine gCt.of RX13 (by decide) rfl (lo := [some (.ref 2000), some (.int (zb b)), some (.int dy)]) 0 rfl (Nat.le_of_ble_eq_true rfl) (fun z E Rt => ?_)
  have hw_n := hw.1
  have hM_o := hM
  obtain ⟨hM_F, hM_a, hM_0, hM_1, hM_2, hM_3, hM_5, hM_6, hM_12, hM_15, hM_16, hM_17, hM_18, hM_19, hM_20, hM_26, hM_28, hM_29, -⟩ := hM_o
  have hV_o := hV
  obtain ⟨hV_f, hV_a, hV_r, hV_d⟩ := hV_o
  have hX_o := hX
  obtain ⟨hX_f, hX_a⟩ := hX_o
  refine g_iload_n E dX13_asks_0 rfl rfl rfl ?_
  refine g_if_ne E dX13_asks_1 (tgt := 6) (by decide) rfl (fun c1 => ?_) (fun c1 => ?_)
  · have c1 := zb_n0.mp c1
    refine g_iload_n E dX13_asks_6 rfl rfl rfl ?_
    refine g_iconst E (v := 0) dX13_asks_7 (by decide) rfl ?_
    refine g_bipush E (v := 60) dX13_asks_8 (by decide) rfl ?_
    refine g_callS (n9 := 3) (av := [.int dy, .int 0, .int 60]) (st := []) E (ct_X13_in l dy 0 60) dX13_asks_10 q2069 q2070 q135 q2071 (by decide +kernel) rfl rfl ⟨by decide, by decide⟩ ⟨by decide, by decide⟩ (Nat.le_of_ble_eq_true rfl) rfl (gPu.k ?_)
    refine g_if_ne E dX13_asks_13 (tgt := 18) (by decide) rfl (fun c13 => ?_) (fun c13 => ?_)
    · have c13 := zb_n0.mp c13
      refine g_aload_n E dX13_asks_18 rfl rfl rfl ?_
      have hM1 : pMq g (.ref mb) th tr wh tp fa ac mk [] := ⟨_, hM_a, hM_0, hM_1, hM_2, hM_3, hM_5, hM_6, hM_12, hM_15, hM_16, hM_17, hM_18, hM_19, hM_20, hM_26, hM_28, hM_29, trivial⟩
      refine g_callV (k := 2000) (n9 := 0) (av := []) (st := []) E (ct_X13_tries l hw hM1 hV (⟨_, hX_a⟩)) gciX13 dX13_asks_19 hM_a q2237 q2239 qs88 q135 q2240 (by decide +kernel) rfl rfl ⟨by decide, by decide⟩ ⟨by decide, by decide⟩ (Nat.le_of_ble_eq_true rfl) rfl (gPn.k (fun g2 h2 => ?_))
      obtain ⟨hr2, f2⟩ := h2
      have hr2_o := hr2
      obtain ⟨hr2_f, hr2_a, hr2_r, hr2_d⟩ := hr2_o
      refine g_aload_n E dX13_asks_22 rfl rfl rfl ?_
      have x3 := (f2 (2000) (by omega)).trans (hM_a)
      refine g_getf E gciX13 dX13_asks_23 x3 16 rfl (by decide) q1756 (.inl rfl) (.ref 2003) (hM_16) rfl ?_
      refine g_bipush E (v := 17) dX13_asks_26 (by decide) rfl ?_
      refine g_dup2 E dX13_asks_28 rfl rfl rfl ?_
      refine g_iald E dX13_asks_29 (j := 17) hr2_a (rfl) (by omega) (by decide) (v := d) (hr2_d) rfl ?_
      refine g_iload_n E dX13_asks_30 rfl rfl rfl ?_
      refine g_iadd E dX13_asks_31 rfl ?_
      refine g_iast E dX13_asks_32 (j := 17) hr2_a (rfl) (by omega) (by decide) rfl (g_upk (fun g4 h4 f4 => ?_))
      refine g_iconst E (v := 0) dX13_asks_33 (by decide) rfl ?_
      have e5 : qWy b dy = 0 := qWy_0.mpr ⟨c1, c13⟩
      exact g_iret E Rt dX13_asks_34 rfl (by decide) (by decide) (⟨congrArg (fun x => some (Value.int x)) e5.symm, fun _ => ⟨_, h4, updD hw ⟨hr2_r, hr2_d⟩⟩, ⟨_, h4⟩, fun j9 h9 => (f4 j9 (by omega)).trans (f2 j9 (by omega))⟩)
    · have c13 := zb_0.mp c13
      refine g_iconst E (v := 2) dX13_asks_16 (by decide) rfl ?_
      have e6 : qWy b dy = 2 := by simp [qWy, c1, c13]
      exact g_iret E Rt dX13_asks_17 rfl (by decide) (by decide) (⟨congrArg (fun x => some (Value.int x)) e6.symm, fun h9 => absurd (e6.symm.trans h9) (by decide), hX, fun j9 h9 => rfl⟩)
  · have c1 := zb_0.mp c1
    refine g_iconst E (v := 1) dX13_asks_4 (by decide) rfl ?_
    have e7 : qWy b dy = 1 := by simp [qWy, c1]
    exact g_iret E Rt dX13_asks_5 rfl (by decide) (by decide) (⟨congrArg (fun x => some (Value.int x)) e7.symm, fun h9 => absurd (e7.symm.trans h9) (by decide), hX, fun j9 h9 => rfl⟩)
set_option maxHeartbeats 400000 in
theorem ct_X13_asks_Y (l : Launch) {g : gWM} {mb : Nat} {B : gBar} {R : Nat → Int32} {d : Int32} {th tr wh fa : Int32} {tp ac mk : Nat} (dy : Int32) (hw : wfB B) (hM : pMq g (.ref mb) th tr wh tp fa ac mk []) (hV : pRw g 2002 B R d) (hX : pIx g 2003 18) (hd : zIn dy 0 60 = true) : gCt l yX13_asks cX13_asks 3 (some .int) 1 0 0 22 [.ref 2000, .int 1, .int dy] g (gPi 0 (fun g1 => pRw g1 2003 B R (d + dy) ∧ ∀ j, j ≠ 2003 → g1 j = g j)) := by
  refine gCt.of RX13 (by decide) rfl (lo := [some (.ref 2000), some (.int 1), some (.int dy)]) 0 rfl (Nat.le_of_ble_eq_true rfl) (fun z E Rt => ?_)
  have hw_n := hw.1
  have hM_o := hM
  obtain ⟨hM_F, hM_a, hM_0, hM_1, hM_2, hM_3, hM_5, hM_6, hM_12, hM_15, hM_16, hM_17, hM_18, hM_19, hM_20, hM_26, hM_28, hM_29, -⟩ := hM_o
  have hV_o := hV
  obtain ⟨hV_f, hV_a, hV_r, hV_d⟩ := hV_o
  have hX_o := hX
  obtain ⟨hX_f, hX_a⟩ := hX_o
  refine g_iload_n E dX13_asks_0 rfl rfl rfl ?_
  refine g_if_ne E dX13_asks_1 (tgt := 6) (by decide) rfl (fun _ => ?_) (fun h9 => absurd h9 (by decide))
  refine g_iload_n E dX13_asks_6 rfl rfl rfl ?_
  refine g_iconst E (v := 0) dX13_asks_7 (by decide) rfl ?_
  refine g_bipush E (v := 60) dX13_asks_8 (by decide) rfl ?_
  refine g_callS (n9 := 3) (av := [.int dy, .int 0, .int 60]) (st := []) E (ct_X13_in l dy 0 60) dX13_asks_10 q2069 q2070 q135 q2071 (by decide +kernel) rfl rfl ⟨by decide, by decide⟩ ⟨by decide, by decide⟩ (Nat.le_of_ble_eq_true rfl) rfl (gPu.k ?_)
  refine g_if_ne E dX13_asks_13 (tgt := 18) (by decide) rfl (fun c13 => ?_) (fun c13 => ?_)
  · have c13 := zb_n0.mp c13
    refine g_aload_n E dX13_asks_18 rfl rfl rfl ?_
    have hM1 : pMq g (.ref mb) th tr wh tp fa ac mk [] := ⟨_, hM_a, hM_0, hM_1, hM_2, hM_3, hM_5, hM_6, hM_12, hM_15, hM_16, hM_17, hM_18, hM_19, hM_20, hM_26, hM_28, hM_29, trivial⟩
    refine g_callV (k := 2000) (n9 := 0) (av := []) (st := []) E (ct_X13_tries l hw hM1 hV (⟨_, hX_a⟩)) gciX13 dX13_asks_19 hM_a q2237 q2239 qs88 q135 q2240 (by decide +kernel) rfl rfl ⟨by decide, by decide⟩ ⟨by decide, by decide⟩ (Nat.le_of_ble_eq_true rfl) rfl (gPn.k (fun g2 h2 => ?_))
    obtain ⟨hr2, f2⟩ := h2
    have hr2_o := hr2
    obtain ⟨hr2_f, hr2_a, hr2_r, hr2_d⟩ := hr2_o
    refine g_aload_n E dX13_asks_22 rfl rfl rfl ?_
    have x3 := (f2 (2000) (by omega)).trans (hM_a)
    refine g_getf E gciX13 dX13_asks_23 x3 16 rfl (by decide) q1756 (.inl rfl) (.ref 2003) (hM_16) rfl ?_
    refine g_bipush E (v := 17) dX13_asks_26 (by decide) rfl ?_
    refine g_dup2 E dX13_asks_28 rfl rfl rfl ?_
    refine g_iald E dX13_asks_29 (j := 17) hr2_a (rfl) (by omega) (by decide) (v := d) (hr2_d) rfl ?_
    refine g_iload_n E dX13_asks_30 rfl rfl rfl ?_
    refine g_iadd E dX13_asks_31 rfl ?_
    refine g_iast E dX13_asks_32 (j := 17) hr2_a (rfl) (by omega) (by decide) rfl (g_upk (fun g4 h4 f4 => ?_))
    refine g_iconst E (v := 0) dX13_asks_33 (by decide) rfl ?_
    exact g_iret E Rt dX13_asks_34 rfl (by decide) (by decide) (⟨rfl, ⟨_, h4, updD hw ⟨hr2_r, hr2_d⟩⟩, fun j9 h9 => (f4 j9 (by omega)).trans (f2 j9 (by omega))⟩)
  · have c13 := zb_0.mp c13
    rw [hd] at c13; cases c13
set_option maxHeartbeats 400000 in
theorem ct_X13_asks_F (l : Launch) {g : gWM} {bar : Value} {th tr wh fa : Int32} {tp ac mk : Nat} (dy : Int32) (hM : pMq g bar th tr wh tp fa ac mk []) : gCt l yX13_asks cX13_asks 3 (some .int) 0 0 0 0 [.ref 2000, .int 0, .int dy] g (gPu (.int 1) g) := by
  refine gCt.of RX13 (by decide) rfl (lo := [some (.ref 2000), some (.int 0), some (.int dy)]) 0 rfl (Nat.le_of_ble_eq_true rfl) (fun z E Rt => ?_)
  have hM_o := hM
  obtain ⟨hM_F, hM_a, hM_0, hM_1, hM_2, hM_3, hM_5, hM_6, hM_12, hM_15, hM_16, hM_17, hM_18, hM_19, hM_20, hM_26, hM_28, hM_29, -⟩ := hM_o
  refine g_iload_n E dX13_asks_0 rfl rfl rfl ?_
  refine g_if_ne E dX13_asks_1 (tgt := 6) (by decide) rfl (fun h9 => absurd h9 (by decide)) (fun _ => ?_)
  refine g_iconst E (v := 1) dX13_asks_4 (by decide) rfl ?_
  exact g_iret E Rt dX13_asks_5 rfl (by decide) (by decide) (⟨rfl, rfl⟩)
set_option maxHeartbeats 400000 in
theorem ct_X13_setOf (l : Launch) {g : gWM} {mb : Nat} {B : gBar} {R : Nat → Int32} {d : Int32} {th tr wh fa : Int32} {tp ac mk : Nat} (t : Nat) (hw : wfB B) (hM : pMq g (.ref mb) th tr wh tp fa ac mk []) (hMb : pMb g mb B) (hV : pRw g 2002 B R d) (ht : t < B 0 1) : gCt l yX13_setOf cX13_setOf 4 (some .int) 1 0 0 23 [.ref 2000, .int (nI t)] g (gPu (.int (zHas B R t)) g) := by
  refine gCt.of RX13 (by decide) rfl (lo := [some (.ref 2000), some (.int (nI t)), none, none]) 2 rfl (Nat.le_of_ble_eq_true rfl) (fun z E Rt => ?_)
  have hw_n := hw.1
  have hM_o := hM
  obtain ⟨hM_F, hM_a, hM_0, hM_1, hM_2, hM_3, hM_5, hM_6, hM_12, hM_15, hM_16, hM_17, hM_18, hM_19, hM_20, hM_26, hM_28, hM_29, -⟩ := hM_o
  have hMb_o := hMb
  obtain ⟨⟨hMb_F, hMb_a, hMb_0, hMb_1, hMb_2, hMb_3, hMb_4, hMb_5, hMb_6, hMb_7, hMb_8, hMb_9, hMb_11, hMb_12, hMb_13, hMb_14, hMb_15, hMb_16, hMb_17, hMb_18, hMb_19, hMb_20, hMb_21, hMb_22, hMb_23, hMb_24, hMb_25, hMb_26, hMb_27, hMb_28, hMb_29, hMb_30, hMb_31⟩, ⟨hMb_f1, hMb_a1, hMb_b1⟩, ⟨hMb_f2, hMb_a2, hMb_b2⟩, ⟨hMb_f3, hMb_a3, hMb_b3⟩, ⟨hMb_f4, hMb_a4, hMb_b4⟩, ⟨hMb_f5, hMb_a5, hMb_b5⟩, ⟨hMb_f6, hMb_a6, hMb_b6⟩, ⟨hMb_f7, hMb_a7, hMb_b7⟩, ⟨hMb_f8, hMb_a8, hMb_b8⟩, ⟨hMb_f9, hMb_a9, hMb_b9⟩, ⟨hMb_f10, hMb_a10, hMb_b10⟩, ⟨hMb_f11, hMb_a11, hMb_b11⟩, ⟨hMb_f12, hMb_a12, hMb_b12⟩, ⟨hMb_f13, hMb_a13, hMb_b13⟩, ⟨hMb_f14, hMb_a14, hMb_b14⟩, ⟨hMb_f15, hMb_a15, hMb_b15⟩, ⟨hMb_f16, hMb_a16, hMb_b16⟩, ⟨hMb_f17, hMb_a17, hMb_b17⟩, ⟨hMb_f18, hMb_a18, hMb_b18⟩, ⟨hMb_f19, hMb_a19, hMb_b19⟩, ⟨hMb_f20, hMb_a20, hMb_b20⟩, ⟨hMb_f21, hMb_a21, hMb_b21⟩⟩ := hMb_o
  have hV_o := hV
  obtain ⟨hV_f, hV_a, hV_r, hV_d⟩ := hV_o
  refine g_iconst E (v := 0) dX13_setOf_0 (by decide) rfl ?_
  refine g_istore_n E dX13_setOf_1 rfl (by decide) rfl (lo1 := [some (.ref 2000), some (.int (nI t)), some (.int 0), none]) rfl rfl ?_
  refine g_iconst E (v := 0) dX13_setOf_2 (by decide) rfl ?_
  refine g_istore_n E dX13_setOf_3 rfl (by decide) rfl (lo1 := [some (.ref 2000), some (.int (nI t)), some (.int 0), some (.int 0)]) rfl rfl ?_
  have lp4 : ∀ (r9 : Nat) (k : Nat), (k ≤ B 0 3) → (B 0 3 - k < r9) → gV z g 0 0 4 [some (.ref 2000), some (.int (nI t)), some (.int (orTo (zHp B R t) k)), some (.int (nI k))] [] := by
    intro r9
    induction r9 with
    | zero => intro k hk hm; exact absurd hm (Nat.not_lt_zero _)
    | succ r9 ih4 =>
      intro k hk hm
      refine g_iload_n E dX13_setOf_4 rfl rfl rfl ?_
      refine g_aload_n E dX13_setOf_5 rfl rfl rfl ?_
      refine g_getf E gciX13 dX13_setOf_6 hM_a 3 rfl (by decide) q1743 (.inl rfl) (.ref mb) (hM_3) rfl ?_
      refine g_getfN E gciX27 dX13_setOf_9 hMb_a 5 rfl (by decide) q1862 (.inl rfl) (.int (nI (B 0 3))) (hMb_5) rfl ?_
      refine g_icmp_ge E dX13_setOf_12 (tgt := 44) (by decide) rfl (fun c12 => ?_) (fun c12 => ?_)
      · have c12 := (nI_leI (a := B 0 3) (b := k) (by omega) (by omega)).mp c12
        obtain rfl : k = B 0 3 := by omega
        refine g_iload_n E dX13_setOf_44 rfl rfl rfl ?_
        exact g_iret E Rt dX13_setOf_45 rfl (by decide) (by decide) (⟨rfl, rfl⟩)
      · have c12 := mt (nI_leI (a := B 0 3) (b := k) (by omega) (by omega)).mpr c12
        refine g_iload_n E dX13_setOf_15 rfl rfl rfl ?_
        refine g_aload_n E dX13_setOf_16 rfl rfl rfl ?_
        refine g_aload_n E dX13_setOf_17 rfl rfl rfl ?_
        refine g_getf E gciX13 dX13_setOf_18 hM_a 15 rfl (by decide) q1755 (.inl rfl) (.ref 2002) (hM_15) rfl ?_
        refine g_iload_n E dX13_setOf_21 rfl rfl rfl ?_
        refine g_iload_n E dX13_setOf_22 rfl rfl rfl ?_
        have hM1 : pMq g (.ref mb) th tr wh tp fa ac mk [] := ⟨_, hM_a, hM_0, hM_1, hM_2, hM_3, hM_5, hM_6, hM_12, hM_15, hM_16, hM_17, hM_18, hM_19, hM_20, hM_26, hM_28, hM_29, trivial⟩
        refine g_callV (k := 2000) (n9 := 3) (av := [.ref 2002, .int (nI t), .int (nI k)]) (st := [.int (orTo (zHp B R t) k)]) E (ct_X13_hasIn l t k hw hM1 hMb hV (by omega) (by omega)) gciX13 dX13_setOf_23 hM_a q2217 q2219 qs85 q135 q2220 (by decide +kernel) rfl rfl ⟨by decide, by decide⟩ ⟨by decide, by decide⟩ (Nat.le_of_ble_eq_true rfl) rfl (gPu.k ?_)
        refine g_if_eq E dX13_setOf_26 (tgt := 35) (by decide) rfl (fun c26 => ?_) (fun c26 => ?_)
        · have c26 := zb_0.mp c26
          refine g_iconst E (v := 0) dX13_setOf_35 (by decide) rfl ?_
          refine g_ior E dX13_setOf_36 rfl ?_
          refine g_as (y := orTo (zHp B R t) (k + 1)) (orTo_f (by simp [c26])) ?_
          refine g_istore_n E dX13_setOf_37 rfl (by decide) rfl (lo1 := [some (.ref 2000), some (.int (nI t)), some (.int (orTo (zHp B R t) (k + 1))), some (.int (nI k))]) rfl rfl ?_
          refine g_iinc E dX13_setOf_38 rfl (v := nI (k + 1)) (nI_c _) (by decide) rfl (lo1 := [some (.ref 2000), some (.int (nI t)), some (.int (orTo (zHp B R t) (k + 1))), some (.int (nI (k + 1)))]) rfl rfl ?_
          refine g_goto E dX13_setOf_41 (tgt := 4) (by decide) ?_
          exact ih4 (k + 1) (by omega) (by omega)
        · have c26 := zb_n0.mp c26
          refine g_iconst E (v := 1) dX13_setOf_29 (by decide) rfl ?_
          refine g_iload_n E dX13_setOf_30 rfl rfl rfl ?_
          refine g_ishl E dX13_setOf_31 rfl ?_
          refine g_goto E dX13_setOf_32 (tgt := 36) (by decide) ?_
          refine g_ior E dX13_setOf_36 rfl ?_
          refine g_as (y := orTo (zHp B R t) (k + 1)) (orTo_t (by simp [c26])) ?_
          refine g_istore_n E dX13_setOf_37 rfl (by decide) rfl (lo1 := [some (.ref 2000), some (.int (nI t)), some (.int (orTo (zHp B R t) (k + 1))), some (.int (nI k))]) rfl rfl ?_
          refine g_iinc E dX13_setOf_38 rfl (v := nI (k + 1)) (nI_c _) (by decide) rfl (lo1 := [some (.ref 2000), some (.int (nI t)), some (.int (orTo (zHp B R t) (k + 1))), some (.int (nI (k + 1)))]) rfl rfl ?_
          refine g_goto E dX13_setOf_41 (tgt := 4) (by decide) ?_
          exact ih4 (k + 1) (by omega) (by omega)
  exact lp4 ((B 0 3) + 1) 0 (Nat.zero_le _) (Nat.lt_succ_of_le (Nat.sub_le _ _))
