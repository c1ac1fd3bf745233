/-! WALKS, second: the static helpers, Load -/
set_option maxRecDepth 100000
set_option maxHeartbeats 400000 in
theorem ct_X1_in (l : Launch) {g : gWM} (v lo hi : Int32)  : gCt l yX1_in cX1_in 3 (some .boolean) 0 0 0 0 [.int v, .int lo, .int hi] g (gPu (.int (zb (zIn v lo hi))) g) := by
  refine gCt.of RX1 (by decide) rfl (lo := [some (.int v), some (.int lo), some (.int hi)]) 0 rfl (Nat.le_of_ble_eq_true rfl) (fun z E Rt => ?_)
  refine g_iload_n E dX1_in_0 rfl rfl rfl ?_
  refine g_iload_n E dX1_in_1 rfl rfl rfl ?_
  refine g_icmp_lt E dX1_in_2 (tgt := 14) (by decide) rfl (fun c2 => ?_) (fun c2 => ?_)
  · refine g_iconst E (v := 0) dX1_in_14 (by decide) rfl ?_
    exact g_zret E Rt dX1_in_15 rfl (by decide) (by decide) (by decide) (⟨congrArg (fun x => some (Value.int x)) (by simp [zIn, zb, c2]), rfl⟩)
  · refine g_iload_n E dX1_in_5 rfl rfl rfl ?_
    refine g_iload_n E dX1_in_6 rfl rfl rfl ?_
    refine g_icmp_gt E dX1_in_7 (tgt := 14) (by decide) rfl (fun c7 => ?_) (fun c7 => ?_)
    · refine g_iconst E (v := 0) dX1_in_14 (by decide) rfl ?_
      exact g_zret E Rt dX1_in_15 rfl (by decide) (by decide) (by decide) (⟨congrArg (fun x => some (Value.int x)) (by simp [zIn, zb, c2, c7]), rfl⟩)
    · refine g_iconst E (v := 1) dX1_in_10 (by decide) rfl ?_
      refine g_goto E dX1_in_11 (tgt := 15) (by decide) ?_
      exact g_zret E Rt dX1_in_15 rfl (by decide) (by decide) (by decide) (⟨congrArg (fun x => some (Value.int x)) (by simp [zIn, zb, c2, c7]), rfl⟩)
set_option maxHeartbeats 400000 in
theorem ct_X1_has (l : Launch) {g : gWM} (s : Int32) (k : Nat)  : gCt l yX1_has cX1_has 2 (some .boolean) 0 0 0 0 [.int s, .int (nI k)] g (gPu (.int (zb (zBit s k))) g) := by
  refine gCt.of RX1 (by decide) rfl (lo := [some (.int s), some (.int (nI k))]) 0 rfl (Nat.le_of_ble_eq_true rfl) (fun z E Rt => ?_)
  refine g_iload_n E dX1_has_0 rfl rfl rfl ?_
  refine g_iload_n E dX1_has_1 rfl rfl rfl ?_
  refine g_ishr E dX1_has_2 rfl ?_
  refine g_iconst E (v := 1) dX1_has_3 (by decide) rfl ?_
  refine g_iand E dX1_has_4 rfl ?_
  refine g_iconst E (v := 1) dX1_has_5 (by decide) rfl ?_
  refine g_icmp_ne E dX1_has_6 (tgt := 13) (by decide) rfl (fun c6 => ?_) (fun c6 => ?_)
  · refine g_iconst E (v := 0) dX1_has_13 (by decide) rfl ?_
    exact g_zret E Rt dX1_has_14 rfl (by decide) (by decide) (by decide) (⟨congrArg (fun x => some (Value.int x)) (by simp [zBit, zb, c6]), rfl⟩)
  · refine g_iconst E (v := 1) dX1_has_9 (by decide) rfl ?_
    refine g_goto E dX1_has_10 (tgt := 14) (by decide) ?_
    exact g_zret E Rt dX1_has_14 rfl (by decide) (by decide) (by decide) (⟨congrArg (fun x => some (Value.int x)) (by simp [zBit, zb, c6]), rfl⟩)
set_option maxHeartbeats 400000 in
theorem ct_X1_ones (l : Launch) {g : gWM} (a : Nat) (ha : a < 256) : gCt l yX1_ones cX1_ones 3 (some .int) 0 0 0 0 [.int (nI a)] g (gPu (.int (nI (zOn a))) g) := by
  refine gCt.of RX1 (by decide) rfl (lo := [some (.int (nI a)), none, none]) 2 rfl (Nat.le_of_ble_eq_true rfl) (fun z E Rt => ?_)
  have hz := zOn_step
  refine g_iconst E (v := 0) dX1_ones_0 (by decide) rfl ?_
  refine g_istore_n E dX1_ones_1 rfl (by decide) rfl (lo1 := [some (.int (nI a)), some (.int 0), none]) rfl rfl ?_
  refine g_iload_n E dX1_ones_2 rfl rfl rfl ?_
  refine g_istore_n E dX1_ones_3 rfl (by decide) rfl (lo1 := [some (.int (nI a)), some (.int 0), some (.int (nI a))]) rfl rfl ?_
  have lp4 : ∀ (r9 : Nat) (b c : Nat), (b < 256) → (c + zOn b = zOn a) → (b < r9) → gV z g 0 0 4 [some (.int (nI a)), some (.int (nI c)), some (.int (nI b))] [] := by
    intro r9
    induction r9 with
    | zero => intro b c hb hc hm; exact absurd hm (Nat.not_lt_zero _)
    | succ r9 ih4 =>
      intro b c hb hc hm
      refine g_iload_n E dX1_ones_4 rfl rfl rfl ?_
      refine g_if_eq E dX1_ones_5 (tgt := 20) (by decide) rfl (fun c5 => ?_) (fun c5 => ?_)
      · have c5 := (nI_eq (a := b) (b := 0) (by omega) (by omega)).mp c5
        refine g_iload_n E dX1_ones_20 rfl rfl rfl ?_
        exact g_iret E Rt dX1_ones_21 rfl (by decide) (by decide) (⟨congrArg (fun x => some (Value.int x)) (by rw [show b = 0 by omega, zOn_0] at hc; rw [show c = zOn a by omega]), rfl⟩)
      · have c5 := mt (nI_eq (a := b) (b := 0) (by omega) (by omega)).mpr c5
        have hs := zOn_step b hb (by omega)
        refine g_iinc E dX1_ones_8 rfl (v := nI (c + 1)) (nI_c _) (by decide) rfl (lo1 := [some (.int (nI a)), some (.int (nI (c + 1))), some (.int (nI b))]) rfl rfl ?_
        refine g_iload_n E dX1_ones_11 rfl rfl rfl ?_
        refine g_iload_n E dX1_ones_12 rfl rfl rfl ?_
        refine g_iconst E (v := 1) dX1_ones_13 (by decide) rfl ?_
        refine g_isub E dX1_ones_14 rfl ?_
        refine g_iand E dX1_ones_15 rfl ?_
        refine g_as (y := nI (b &&& (b - 1))) (zOn_and (by omega)) ?_
        refine g_istore_n E dX1_ones_16 rfl (by decide) rfl (lo1 := [some (.int (nI a)), some (.int (nI (c + 1))), some (.int (nI (b &&& (b - 1))))]) rfl rfl ?_
        refine g_goto E dX1_ones_17 (tgt := 4) (by decide) ?_
        exact ih4 (b &&& (b - 1)) (c + 1) (by omega) (by omega) (by omega)
  exact lp4 (a + 1) a 0 ha (by omega) (by omega)
set_option maxHeartbeats 400000 in
theorem ct_X4_has (l : Launch) {g : gWM} {ld bb : Nat} {B : gBar} {R : Nat → Int32} {d : Int32} (t : Nat) (hw : wfB B) (hLd : pLd g ld (.ref bb) B R d) (hBr : pBr g bb B) (ht : t < B 0 1) : gCt l yX4_has cX4_has 4 (some .int) 0 0 0 0 [.ref ld, .int (nI t)] g (gPu (.int (zHas B R t)) g) := by
  refine gCt.of RX4 (by decide) rfl (lo := [some (.ref ld), some (.int (nI t)), none, none]) 2 rfl (Nat.le_of_ble_eq_true rfl) (fun z E Rt => ?_)
  have hw_n := hw.1
  have hLd_o := hLd
  obtain ⟨⟨hLd_F, hLd_a, hLd_0, hLd_1, hLd_2, hLd_3, hLd_4, hLd_5⟩, ⟨hLd_s, hLd_sa, hLd_sb⟩, ⟨hLd_e, hLd_ea, hLd_eb⟩, hLd_p, hLd_pa, hLd_pb⟩ := hLd_o
  have hBr_o := hBr
  obtain ⟨⟨hBr_F, hBr_a, hBr_0, hBr_1, hBr_2, hBr_3, hBr_4, hBr_5, hBr_6, hBr_7, hBr_8, hBr_9, hBr_10, hBr_11, hBr_12, hBr_13, hBr_14, hBr_15⟩, ⟨hBr_f1, hBr_a1, hBr_b1⟩, ⟨hBr_f2, hBr_a2, hBr_b2⟩, ⟨hBr_f3, hBr_a3, hBr_b3⟩, ⟨hBr_f4, hBr_a4, hBr_b4⟩, ⟨hBr_f5, hBr_a5, hBr_b5⟩, ⟨hBr_f6, hBr_a6, hBr_b6⟩, ⟨hBr_f7, hBr_a7, hBr_b7⟩, hBr_c1, hBr_c2, hBr_c3, hBr_c4, hBr_c5⟩ := hBr_o
  refine g_iconst E (v := 0) dX4_has_0 (by decide) rfl ?_
  refine g_istore_n E dX4_has_1 rfl (by decide) rfl (lo1 := [some (.ref ld), some (.int (nI t)), some (.int 0), none]) rfl rfl ?_
  refine g_iconst E (v := 0) dX4_has_2 (by decide) rfl ?_
  refine g_istore_n E dX4_has_3 rfl (by decide) rfl (lo1 := [some (.ref ld), some (.int (nI t)), some (.int 0), some (.int 0)]) rfl rfl ?_
  have lp4 : ∀ (r9 : Nat) (k : Nat), (k ≤ B 0 3) → (B 0 3 - k < r9) → gV z g 0 0 4 [some (.ref ld), some (.int (nI t)), some (.int (orTo (zHp B R t) k)), some (.int (nI k))] [] := by
    intro r9
    induction r9 with
    | zero => intro k hk hm; exact absurd hm (Nat.not_lt_zero _)
    | succ r9 ih4 =>
      intro k hk hm
      refine g_iload_n E dX4_has_4 rfl rfl rfl ?_
      refine g_aload_n E dX4_has_5 rfl rfl rfl ?_
      refine g_getf E gciX4 dX4_has_6 hLd_a 3 rfl (by decide) q291 (.inl rfl) (.ref bb) (hLd_3) rfl ?_
      refine g_getf E gciX14 dX4_has_9 hBr_a 12 rfl (by decide) q567 (.inl rfl) (.int (nI (B 0 3))) (hBr_12) rfl ?_
      refine g_icmp_ge E dX4_has_12 (tgt := 56) (by decide) rfl (fun c12 => ?_) (fun c12 => ?_)
      · have c12 := (nI_leI (a := B 0 3) (b := k) (by omega) (by omega)).mp c12
        obtain rfl : k = B 0 3 := by omega
        refine g_iload_n E dX4_has_56 rfl rfl rfl ?_
        exact g_iret E Rt dX4_has_57 rfl (by decide) (by decide) (⟨rfl, rfl⟩)
      · have c12 := mt (nI_leI (a := B 0 3) (b := k) (by omega) (by omega)).mpr c12
        refine g_iload_n E dX4_has_15 rfl rfl rfl ?_
        refine g_aload_n E dX4_has_16 rfl rfl rfl ?_
        refine g_getf E gciX4 dX4_has_17 hLd_a 3 rfl (by decide) q291 (.inl rfl) (.ref bb) (hLd_3) rfl ?_
        refine g_getf E gciX14 dX4_has_20 hBr_a 3 rfl (by decide) q540 (.inl rfl) (.ref (bb + 4)) (hBr_3) rfl ?_
        refine g_iload_n E dX4_has_23 rfl rfl rfl ?_
        refine g_aald E dX4_has_24 (j := k) hBr_a4 (fun _ => rfl) (rfl) (by omega) (by decide) (b := bb + 40 + k) (hBr_b4 k (by omega)) rfl ?_
        have u1 := pBr.good hBr hw (j := k) (by omega)
        have u1_b := wfB.goods hw (j := k) (by omega)
        have o2 := u1
        obtain ⟨⟨o2_F, o2_a, o2_0, o2_1, o2_2, o2_3, o2_4, o2_7⟩, o2_m, o2_k⟩ := o2
        refine g_getG E dX4_has_25 o2_a (o2_k) 0 (by decide) rfl rfl rfl rfl rfl q963 (.inl rfl) (.int (nI (B 14 k))) (o2_0) rfl ?_
        refine g_iload_n E dX4_has_28 rfl rfl rfl ?_
        refine g_icmp_ne E dX4_has_29 (tgt := 47) (by decide) rfl (fun c29 => ?_) (fun c29 => ?_)
        · have c29 := mt (nI_eq (a := B 14 k) (b := t) (by omega) (by omega)).mpr c29
          refine g_iconst E (v := 0) dX4_has_47 (by decide) rfl ?_
          refine g_ior E dX4_has_48 rfl ?_
          refine g_as (y := orTo (zHp B R t) (k + 1)) (orTo_f (by simp [zHp, c29])) ?_
          refine g_istore_n E dX4_has_49 rfl (by decide) rfl (lo1 := [some (.ref ld), some (.int (nI t)), some (.int (orTo (zHp B R t) (k + 1))), some (.int (nI k))]) rfl rfl ?_
          refine g_iinc E dX4_has_50 rfl (v := nI (k + 1)) (nI_c _) (by decide) rfl (lo1 := [some (.ref ld), some (.int (nI t)), some (.int (orTo (zHp B R t) (k + 1))), some (.int (nI (k + 1)))]) rfl rfl ?_
          refine g_goto E dX4_has_53 (tgt := 4) (by decide) ?_
          exact ih4 (k + 1) (by omega) (by omega)
        · have c29 := (nI_eq (a := B 14 k) (b := t) (by omega) (by omega)).mp c29
          refine g_aload_n E dX4_has_32 rfl rfl rfl ?_
          refine g_getf E gciX4 dX4_has_33 hLd_a 0 rfl (by decide) q284 (.inl rfl) (.ref (ld + 1)) (hLd_0) rfl ?_
          refine g_iload_n E dX4_has_36 rfl rfl rfl ?_
          refine g_iald E dX4_has_37 (j := k) hLd_sa (rfl) (by omega) (by decide) (v := R k) (hLd_sb k (by omega)) rfl ?_
          refine g_if_ne E dX4_has_38 (tgt := 47) (by decide) rfl (fun c38 => ?_) (fun c38 => ?_)
          · refine g_iconst E (v := 0) dX4_has_47 (by decide) rfl ?_
            refine g_ior E dX4_has_48 rfl ?_
            refine g_as (y := orTo (zHp B R t) (k + 1)) (orTo_f (by simp [zHp, c29, c38])) ?_
            refine g_istore_n E dX4_has_49 rfl (by decide) rfl (lo1 := [some (.ref ld), some (.int (nI t)), some (.int (orTo (zHp B R t) (k + 1))), some (.int (nI k))]) rfl rfl ?_
            refine g_iinc E dX4_has_50 rfl (v := nI (k + 1)) (nI_c _) (by decide) rfl (lo1 := [some (.ref ld), some (.int (nI t)), some (.int (orTo (zHp B R t) (k + 1))), some (.int (nI (k + 1)))]) rfl rfl ?_
            refine g_goto E dX4_has_53 (tgt := 4) (by decide) ?_
            exact ih4 (k + 1) (by omega) (by omega)
          · refine g_iconst E (v := 1) dX4_has_41 (by decide) rfl ?_
            refine g_iload_n E dX4_has_42 rfl rfl rfl ?_
            refine g_ishl E dX4_has_43 rfl ?_
            refine g_goto E dX4_has_44 (tgt := 48) (by decide) ?_
            refine g_ior E dX4_has_48 rfl ?_
            refine g_as (y := orTo (zHp B R t) (k + 1)) (orTo_t (by simp [zHp, c29, c38])) ?_
            refine g_istore_n E dX4_has_49 rfl (by decide) rfl (lo1 := [some (.ref ld), some (.int (nI t)), some (.int (orTo (zHp B R t) (k + 1))), some (.int (nI k))]) rfl rfl ?_
            refine g_iinc E dX4_has_50 rfl (v := nI (k + 1)) (nI_c _) (by decide) rfl (lo1 := [some (.ref ld), some (.int (nI t)), some (.int (orTo (zHp B R t) (k + 1))), some (.int (nI (k + 1)))]) rfl rfl ?_
            refine g_goto E dX4_has_53 (tgt := 4) (by decide) ?_
            exact ih4 (k + 1) (by omega) (by omega)
  exact lp4 ((B 0 3) + 1) 0 (Nat.zero_le _) (Nat.lt_succ_of_le (Nat.sub_le _ _))
set_option maxHeartbeats 400000 in
theorem ct_X4_all (l : Launch) {g : gWM} {ld bb : Nat} {B : gBar} {R : Nat → Int32} {d : Int32} (c : Int32) (hw : wfB B) (hLd : pLd g ld (.ref bb) B R d) (hBr : pBr g bb B) : gCt l yX4_all cX4_all 4 (some .int) 0 0 0 0 [.ref ld, .int c] g (gPu (.int (zAll B R c)) g) := by
  refine gCt.of RX4 (by decide) rfl (lo := [some (.ref ld), some (.int c), none, none]) 2 rfl (Nat.le_of_ble_eq_true rfl) (fun z E Rt => ?_)
  have hw_n := hw.1
  have hLd_o := hLd
  obtain ⟨⟨hLd_F, hLd_a, hLd_0, hLd_1, hLd_2, hLd_3, hLd_4, hLd_5⟩, ⟨hLd_s, hLd_sa, hLd_sb⟩, ⟨hLd_e, hLd_ea, hLd_eb⟩, hLd_p, hLd_pa, hLd_pb⟩ := hLd_o
  have hBr_o := hBr
  obtain ⟨⟨hBr_F, hBr_a, hBr_0, hBr_1, hBr_2, hBr_3, hBr_4, hBr_5, hBr_6, hBr_7, hBr_8, hBr_9, hBr_10, hBr_11, hBr_12, hBr_13, hBr_14, hBr_15⟩, ⟨hBr_f1, hBr_a1, hBr_b1⟩, ⟨hBr_f2, hBr_a2, hBr_b2⟩, ⟨hBr_f3, hBr_a3, hBr_b3⟩, ⟨hBr_f4, hBr_a4, hBr_b4⟩, ⟨hBr_f5, hBr_a5, hBr_b5⟩, ⟨hBr_f6, hBr_a6, hBr_b6⟩, ⟨hBr_f7, hBr_a7, hBr_b7⟩, hBr_c1, hBr_c2, hBr_c3, hBr_c4, hBr_c5⟩ := hBr_o
  refine g_iconst E (v := 0) dX4_all_0 (by decide) rfl ?_
  refine g_istore_n E dX4_all_1 rfl (by decide) rfl (lo1 := [some (.ref ld), some (.int c), some (.int 0), none]) rfl rfl ?_
  refine g_iconst E (v := 0) dX4_all_2 (by decide) rfl ?_
  refine g_istore_n E dX4_all_3 rfl (by decide) rfl (lo1 := [some (.ref ld), some (.int c), some (.int 0), some (.int 0)]) rfl rfl ?_
  have lp4 : ∀ (r9 : Nat) (k : Nat), (k ≤ B 0 3) → (B 0 3 - k < r9) → gV z g 0 0 4 [some (.ref ld), some (.int c), some (.int (orTo (fun j => decide (R j = c)) k)), some (.int (nI k))] [] := by
    intro r9
    induction r9 with
    | zero => intro k hk hm; exact absurd hm (Nat.not_lt_zero _)
    | succ r9 ih4 =>
      intro k hk hm
      refine g_iload_n E dX4_all_4 rfl rfl rfl ?_
      refine g_aload_n E dX4_all_5 rfl rfl rfl ?_
      refine g_getf E gciX4 dX4_all_6 hLd_a 3 rfl (by decide) q291 (.inl rfl) (.ref bb) (hLd_3) rfl ?_
      refine g_getf E gciX14 dX4_all_9 hBr_a 12 rfl (by decide) q567 (.inl rfl) (.int (nI (B 0 3))) (hBr_12) rfl ?_
      refine g_icmp_ge E dX4_all_12 (tgt := 41) (by decide) rfl (fun c12 => ?_) (fun c12 => ?_)
      · have c12 := (nI_leI (a := B 0 3) (b := k) (by omega) (by omega)).mp c12
        obtain rfl : k = B 0 3 := by omega
        refine g_iload_n E dX4_all_41 rfl rfl rfl ?_
        exact g_iret E Rt dX4_all_42 rfl (by decide) (by decide) (⟨rfl, rfl⟩)
      · have c12 := mt (nI_leI (a := B 0 3) (b := k) (by omega) (by omega)).mpr c12
        refine g_iload_n E dX4_all_15 rfl rfl rfl ?_
        refine g_aload_n E dX4_all_16 rfl rfl rfl ?_
        refine g_getf E gciX4 dX4_all_17 hLd_a 0 rfl (by decide) q284 (.inl rfl) (.ref (ld + 1)) (hLd_0) rfl ?_
        refine g_iload_n E dX4_all_20 rfl rfl rfl ?_
        refine g_iald E dX4_all_21 (j := k) hLd_sa (rfl) (by omega) (by decide) (v := R k) (hLd_sb k (by omega)) rfl ?_
        refine g_iload_n E dX4_all_22 rfl rfl rfl ?_
        refine g_icmp_ne E dX4_all_23 (tgt := 32) (by decide) rfl (fun c23 => ?_) (fun c23 => ?_)
        · refine g_iconst E (v := 0) dX4_all_32 (by decide) rfl ?_
          refine g_ior E dX4_all_33 rfl ?_
          refine g_as (y := orTo (fun j => decide (R j = c)) (k + 1)) (orTo_f (by simp [c23])) ?_
          refine g_istore_n E dX4_all_34 rfl (by decide) rfl (lo1 := [some (.ref ld), some (.int c), some (.int (orTo (fun j => decide (R j = c)) (k + 1))), some (.int (nI k))]) rfl rfl ?_
          refine g_iinc E dX4_all_35 rfl (v := nI (k + 1)) (nI_c _) (by decide) rfl (lo1 := [some (.ref ld), some (.int c), some (.int (orTo (fun j => decide (R j = c)) (k + 1))), some (.int (nI (k + 1)))]) rfl rfl ?_
          refine g_goto E dX4_all_38 (tgt := 4) (by decide) ?_
          exact ih4 (k + 1) (by omega) (by omega)
        · refine g_iconst E (v := 1) dX4_all_26 (by decide) rfl ?_
          refine g_iload_n E dX4_all_27 rfl rfl rfl ?_
          refine g_ishl E dX4_all_28 rfl ?_
          refine g_goto E dX4_all_29 (tgt := 33) (by decide) ?_
          refine g_ior E dX4_all_33 rfl ?_
          refine g_as (y := orTo (fun j => decide (R j = c)) (k + 1)) (orTo_t (by simp [c23])) ?_
          refine g_istore_n E dX4_all_34 rfl (by decide) rfl (lo1 := [some (.ref ld), some (.int c), some (.int (orTo (fun j => decide (R j = c)) (k + 1))), some (.int (nI k))]) rfl rfl ?_
          refine g_iinc E dX4_all_35 rfl (v := nI (k + 1)) (nI_c _) (by decide) rfl (lo1 := [some (.ref ld), some (.int c), some (.int (orTo (fun j => decide (R j = c)) (k + 1))), some (.int (nI (k + 1)))]) rfl rfl ?_
          refine g_goto E dX4_all_38 (tgt := 4) (by decide) ?_
          exact ih4 (k + 1) (by omega) (by omega)
  exact lp4 ((B 0 3) + 1) 0 (Nat.zero_le _) (Nat.lt_succ_of_le (Nat.sub_le _ _))
set_option maxHeartbeats 400000 in
theorem ct_X4_hunger (l : Launch) {g : gWM} {ld bb : Nat} {B : gBar} {R : Nat → Int32} {d : Int32} (t : Nat) (hw : wfB B) (hLd : pLd g ld (.ref bb) B R d) (hBr : pBr g bb B) (ht : t < B 0 1) : gCt l yX4_hunger cX4_hunger 2 (some .int) 0 0 0 0 [.ref ld, .int (nI t)] g (gPu (.int (R (8 + t))) g) := by
  refine gCt.of RX4 (by decide) rfl (lo := [some (.ref ld), some (.int (nI t))]) 0 rfl (Nat.le_of_ble_eq_true rfl) (fun z E Rt => ?_)
  have hw_n := hw.1
  have hLd_o := hLd
  obtain ⟨⟨hLd_F, hLd_a, hLd_0, hLd_1, hLd_2, hLd_3, hLd_4, hLd_5⟩, ⟨hLd_s, hLd_sa, hLd_sb⟩, ⟨hLd_e, hLd_ea, hLd_eb⟩, hLd_p, hLd_pa, hLd_pb⟩ := hLd_o
  have hBr_o := hBr
  obtain ⟨⟨hBr_F, hBr_a, hBr_0, hBr_1, hBr_2, hBr_3, hBr_4, hBr_5, hBr_6, hBr_7, hBr_8, hBr_9, hBr_10, hBr_11, hBr_12, hBr_13, hBr_14, hBr_15⟩, ⟨hBr_f1, hBr_a1, hBr_b1⟩, ⟨hBr_f2, hBr_a2, hBr_b2⟩, ⟨hBr_f3, hBr_a3, hBr_b3⟩, ⟨hBr_f4, hBr_a4, hBr_b4⟩, ⟨hBr_f5, hBr_a5, hBr_b5⟩, ⟨hBr_f6, hBr_a6, hBr_b6⟩, ⟨hBr_f7, hBr_a7, hBr_b7⟩, hBr_c1, hBr_c2, hBr_c3, hBr_c4, hBr_c5⟩ := hBr_o
  refine g_aload_n E dX4_hunger_0 rfl rfl rfl ?_
  refine g_getf E gciX4 dX4_hunger_1 hLd_a 3 rfl (by decide) q291 (.inl rfl) (.ref bb) (hLd_3) rfl ?_
  refine g_getf E gciX14 dX4_hunger_4 hBr_a 1 rfl (by decide) q531 (.inl rfl) (.ref (bb + 2)) (hBr_1) rfl ?_
  refine g_iload_n E dX4_hunger_7 rfl rfl rfl ?_
  refine g_aald E dX4_hunger_8 (j := t) hBr_a2 (fun _ => rfl) (rfl) (by omega) (by decide) (b := bb + 20 + t) (hBr_b2 t (by omega)) rfl ?_
  have e1_h := pBr.people hBr t (by omega)
  obtain ⟨e1_F, e1_a, e1_1, e1_2, e1_3⟩ := e1_h
  refine g_getf E gciX17 dX4_hunger_9 e1_a 3 rfl (by decide) q903 (.inl rfl) (.int (nI (B 8 t))) (e1_3) rfl ?_
  refine g_aload_n E dX4_hunger_12 rfl rfl rfl ?_
  refine g_getf E gciX4 dX4_hunger_13 hLd_a 1 rfl (by decide) q287 (.inl rfl) (.ref (ld + 2)) (hLd_1) rfl ?_
  refine g_iload_n E dX4_hunger_16 rfl rfl rfl ?_
  refine g_iald E dX4_hunger_17 (j := t) hLd_ea (rfl) (by omega) (by decide) (v := hLd_e t) (rfl) rfl ?_
  refine g_isub E dX4_hunger_18 rfl ?_
  refine g_as (y := R (8 + t)) (hLd_eb t ht) ?_
  exact g_iret E Rt dX4_hunger_19 rfl (by decide) (by decide) (⟨rfl, rfl⟩)
set_option maxHeartbeats 400000 in
theorem ct_X4_smell (l : Launch) {g : gWM} {ld bb : Nat} {B : gBar} {R : Nat → Int32} {d : Int32} (j : Nat) (e : Int32) (hw : wfB B) (hLd : pLd g ld (.ref bb) B R d) (hBr : pBr g bb B) (hj : j < B 0 3) : gCt l yX4_smell cX4_smell 7 (some .int) 3 0 0 63 [.ref ld, .int (nI j), .int e] g (gPu (.int (zSme B R j e 0)) g) := by
  refine gCt.of RX4 (by decide) rfl (lo := [some (.ref ld), some (.int (nI j)), some (.int e), none, none, none, none]) 4 rfl (Nat.le_of_ble_eq_true rfl) (fun z E Rt => ?_)
  have hw_n := hw.1
  have hLd_o := hLd
  obtain ⟨⟨hLd_F, hLd_a, hLd_0, hLd_1, hLd_2, hLd_3, hLd_4, hLd_5⟩, ⟨hLd_s, hLd_sa, hLd_sb⟩, ⟨hLd_e, hLd_ea, hLd_eb⟩, hLd_p, hLd_pa, hLd_pb⟩ := hLd_o
  have hBr_o := hBr
  obtain ⟨⟨hBr_F, hBr_a, hBr_0, hBr_1, hBr_2, hBr_3, hBr_4, hBr_5, hBr_6, hBr_7, hBr_8, hBr_9, hBr_10, hBr_11, hBr_12, hBr_13, hBr_14, hBr_15⟩, ⟨hBr_f1, hBr_a1, hBr_b1⟩, ⟨hBr_f2, hBr_a2, hBr_b2⟩, ⟨hBr_f3, hBr_a3, hBr_b3⟩, ⟨hBr_f4, hBr_a4, hBr_b4⟩, ⟨hBr_f5, hBr_a5, hBr_b5⟩, ⟨hBr_f6, hBr_a6, hBr_b6⟩, ⟨hBr_f7, hBr_a7, hBr_b7⟩, hBr_c1, hBr_c2, hBr_c3, hBr_c4, hBr_c5⟩ := hBr_o
  refine g_aload_n E dX4_smell_0 rfl rfl rfl ?_
  refine g_getf E gciX4 dX4_smell_1 hLd_a 3 rfl (by decide) q291 (.inl rfl) (.ref bb) (hLd_3) rfl ?_
  refine g_getf E gciX14 dX4_smell_4 hBr_a 3 rfl (by decide) q540 (.inl rfl) (.ref (bb + 4)) (hBr_3) rfl ?_
  refine g_iload_n E dX4_smell_7 rfl rfl rfl ?_
  refine g_aald E dX4_smell_8 (j := j) hBr_a4 (fun _ => rfl) (rfl) (by omega) (by decide) (b := bb + 40 + j) (hBr_b4 j (by omega)) rfl ?_
  have u1 := pBr.good hBr hw (j := j) (by omega)
  have u1_b := wfB.goods hw (j := j) (by omega)
  have o2 := u1
  obtain ⟨⟨o2_F, o2_a, o2_0, o2_1, o2_2, o2_3, o2_4, o2_7⟩, o2_m, o2_k⟩ := o2
  refine g_astore_n E dX4_smell_9 rfl (by decide) rfl (lo1 := [some (.ref ld), some (.int (nI j)), some (.int e), some (.ref (bb + 40 + j)), none, none, none]) rfl rfl ?_
  refine g_aload_n E dX4_smell_10 rfl rfl rfl ?_
  refine g_iload_n E dX4_smell_11 rfl rfl rfl ?_
  refine v_smells_Good E dX4_smell_12 q1171 u1 ⟨by decide, by decide⟩ ⟨by decide, by decide⟩ (Nat.le_of_ble_eq_true rfl) rfl ?_
  refine g_as (y := zSmb B j e - 2 * zFre B R j e 0) (by show _ = _ - 2 * (0 : Int32); simp) ?_
  refine g_istore E dX4_smell_15 (by decide) rfl (lo1 := [some (.ref ld), some (.int (nI j)), some (.int e), some (.ref (bb + 40 + j)), some (.int (zSmb B j e - 2 * zFre B R j e 0)), none, none]) rfl rfl ?_
  refine g_iconst E (v := 0) dX4_smell_17 (by decide) rfl ?_
  refine g_istore E dX4_smell_18 (by decide) rfl (lo1 := [some (.ref ld), some (.int (nI j)), some (.int e), some (.ref (bb + 40 + j)), some (.int (zSmb B j e - 2 * zFre B R j e 0)), some (.int 0), none]) rfl rfl ?_
  have lp20 : ∀ (r9 : Nat) (k : Nat), (k ≤ B 0 3) → (B 0 3 - k < r9) → gV z g 0 0 20 [some (.ref ld), some (.int (nI j)), some (.int e), some (.ref (bb + 40 + j)), some (.int (zSmb B j e - 2 * zFre B R j e k)), some (.int (nI k)), none] [] := by
    intro r9
    induction r9 with
    | zero => intro k hk hm; exact absurd hm (Nat.not_lt_zero _)
    | succ r9 ih20 =>
      intro k hk hm
      refine g_iload E dX4_smell_20 rfl rfl ?_
      refine g_aload_n E dX4_smell_22 rfl rfl rfl ?_
      refine g_getf E gciX4 dX4_smell_23 hLd_a 3 rfl (by decide) q291 (.inl rfl) (.ref bb) (hLd_3) rfl ?_
      refine g_getf E gciX14 dX4_smell_26 hBr_a 12 rfl (by decide) q567 (.inl rfl) (.int (nI (B 0 3))) (hBr_12) rfl ?_
      refine g_icmp_ge E dX4_smell_29 (tgt := 98) (by decide) rfl (fun c29 => ?_) (fun c29 => ?_)
      · have c29 := (nI_leI (a := B 0 3) (b := k) (by omega) (by omega)).mp c29
        obtain rfl : k = B 0 3 := by omega
        refine g_iconst E (v := 0) dX4_smell_98 (by decide) rfl ?_
        refine g_iload E dX4_smell_99 rfl rfl ?_
        refine g_mmax E dX4_smell_101 q1230 q1231 q154 q1232 ⟨by decide, by decide⟩ (by decide) (by decide) (Nat.le_of_ble_eq_true rfl) rfl ?_
        refine g_as (y := zPos (zSmb B j e - 2 * zFre B R j e (B 0 3))) (rfl) ?_
        exact g_iret E Rt dX4_smell_104 rfl (by decide) (by decide) (⟨congrArg (fun x => some (Value.int x)) (by unfold zSme; rw [Int32.add_zero]), rfl⟩)
      · have c29 := mt (nI_leI (a := B 0 3) (b := k) (by omega) (by omega)).mpr c29
        refine g_aload_n E dX4_smell_32 rfl rfl rfl ?_
        refine g_getf E gciX4 dX4_smell_33 hLd_a 3 rfl (by decide) q291 (.inl rfl) (.ref bb) (hLd_3) rfl ?_
        refine g_getf E gciX14 dX4_smell_36 hBr_a 3 rfl (by decide) q540 (.inl rfl) (.ref (bb + 4)) (hBr_3) rfl ?_
        refine g_iload E dX4_smell_39 rfl rfl ?_
        refine g_aald E dX4_smell_41 (j := k) hBr_a4 (fun _ => rfl) (rfl) (by omega) (by decide) (b := bb + 40 + k) (hBr_b4 k (by omega)) rfl ?_
        have u3 := pBr.good hBr hw (j := k) (by omega)
        have u3_b := wfB.goods hw (j := k) (by omega)
        have o4 := u3
        obtain ⟨⟨o4_F, o4_a, o4_0, o4_1, o4_2, o4_3, o4_4, o4_7⟩, o4_m, o4_k⟩ := o4
        refine g_astore E dX4_smell_42 (by decide) rfl (lo1 := [some (.ref ld), some (.int (nI j)), some (.int e), some (.ref (bb + 40 + j)), some (.int (zSmb B j e - 2 * zFre B R j e k)), some (.int (nI k)), some (.ref (bb + 40 + k))]) rfl rfl ?_
        refine g_iload E dX4_smell_44 rfl rfl ?_
        refine g_iload_n E dX4_smell_46 rfl rfl rfl ?_
        refine g_icmp_eq E dX4_smell_47 (tgt := 92) (by decide) rfl (fun c47 => ?_) (fun c47 => ?_)
        · have c47 := (nI_eq (a := k) (b := j) (by omega) (by omega)).mp c47
          refine g_lo (lo1 := [some (.ref ld), some (.int (nI j)), some (.int e), some (.ref (bb + 40 + j)), some (.int (zSmb B j e - 2 * zFre B R j e (k + 1))), some (.int (nI k)), some (.ref (bb + 40 + k))]) (by rw [zFre_f (by simp [zCov, c47])]) ?_
          refine g_iinc E dX4_smell_92 rfl (v := nI (k + 1)) (nI_c _) (by decide) rfl (lo1 := [some (.ref ld), some (.int (nI j)), some (.int e), some (.ref (bb + 40 + j)), some (.int (zSmb B j e - 2 * zFre B R j e (k + 1))), some (.int (nI (k + 1))), some (.ref (bb + 40 + k))]) rfl rfl ?_
          refine g_goto E dX4_smell_95 (tgt := 20) (by decide) ?_
          exact g_les (lo1 := [some (.ref ld), some (.int (nI j)), some (.int e), some (.ref (bb + 40 + j)), some (.int (zSmb B j e - 2 * zFre B R j e (k + 1))), some (.int (nI (k + 1))), none]) (⟨rfl, rfl, rfl, rfl, rfl, rfl, trivial⟩) (ih20 (k + 1) (by omega) (by omega))
        · have c47 := mt (nI_eq (a := k) (b := j) (by omega) (by omega)).mpr c47
          refine g_aload E dX4_smell_50 rfl rfl ?_
          refine g_getG E dX4_smell_52 o4_a (o4_k) 0 (by decide) rfl rfl rfl rfl rfl q963 (.inl rfl) (.int (nI (B 14 k))) (o4_0) rfl ?_
          refine g_aload_n E dX4_smell_55 rfl rfl rfl ?_
          refine g_getG E dX4_smell_56 o2_a (o2_k) 0 (by decide) rfl rfl rfl rfl rfl q963 (.inl rfl) (.int (nI (B 14 j))) (o2_0) rfl ?_
          refine g_icmp_ne E dX4_smell_59 (tgt := 92) (by decide) rfl (fun c59 => ?_) (fun c59 => ?_)
          · have c59 := mt (nI_eq (a := B 14 k) (b := B 14 j) (by omega) (by omega)).mpr c59
            refine g_lo (lo1 := [some (.ref ld), some (.int (nI j)), some (.int e), some (.ref (bb + 40 + j)), some (.int (zSmb B j e - 2 * zFre B R j e (k + 1))), some (.int (nI k)), some (.ref (bb + 40 + k))]) (by rw [zFre_f (by simp [zCov, c47, c59])]) ?_
            refine g_iinc E dX4_smell_92 rfl (v := nI (k + 1)) (nI_c _) (by decide) rfl (lo1 := [some (.ref ld), some (.int (nI j)), some (.int e), some (.ref (bb + 40 + j)), some (.int (zSmb B j e - 2 * zFre B R j e (k + 1))), some (.int (nI (k + 1))), some (.ref (bb + 40 + k))]) rfl rfl ?_
            refine g_goto E dX4_smell_95 (tgt := 20) (by decide) ?_
            exact g_les (lo1 := [some (.ref ld), some (.int (nI j)), some (.int e), some (.ref (bb + 40 + j)), some (.int (zSmb B j e - 2 * zFre B R j e (k + 1))), some (.int (nI (k + 1))), none]) (⟨rfl, rfl, rfl, rfl, rfl, rfl, trivial⟩) (ih20 (k + 1) (by omega) (by omega))
          · have c59 := (nI_eq (a := B 14 k) (b := B 14 j) (by omega) (by omega)).mp c59
            refine g_aload_n E dX4_smell_62 rfl rfl rfl ?_
            refine g_getf E gciX4 dX4_smell_63 hLd_a 0 rfl (by decide) q284 (.inl rfl) (.ref (ld + 1)) (hLd_0) rfl ?_
            refine g_iload E dX4_smell_66 rfl rfl ?_
            refine g_iald E dX4_smell_68 (j := k) hLd_sa (rfl) (by omega) (by decide) (v := R k) (hLd_sb k (by omega)) rfl ?_
            refine g_if_ne E dX4_smell_69 (tgt := 92) (by decide) rfl (fun c69 => ?_) (fun c69 => ?_)
            · refine g_lo (lo1 := [some (.ref ld), some (.int (nI j)), some (.int e), some (.ref (bb + 40 + j)), some (.int (zSmb B j e - 2 * zFre B R j e (k + 1))), some (.int (nI k)), some (.ref (bb + 40 + k))]) (by rw [zFre_f (by simp [zCov, c47, c59, c69])]) ?_
              refine g_iinc E dX4_smell_92 rfl (v := nI (k + 1)) (nI_c _) (by decide) rfl (lo1 := [some (.ref ld), some (.int (nI j)), some (.int e), some (.ref (bb + 40 + j)), some (.int (zSmb B j e - 2 * zFre B R j e (k + 1))), some (.int (nI (k + 1))), some (.ref (bb + 40 + k))]) rfl rfl ?_
              refine g_goto E dX4_smell_95 (tgt := 20) (by decide) ?_
              exact g_les (lo1 := [some (.ref ld), some (.int (nI j)), some (.int e), some (.ref (bb + 40 + j)), some (.int (zSmb B j e - 2 * zFre B R j e (k + 1))), some (.int (nI (k + 1))), none]) (⟨rfl, rfl, rfl, rfl, rfl, rfl, trivial⟩) (ih20 (k + 1) (by omega) (by omega))
            · refine g_aload E dX4_smell_72 rfl rfl ?_
              refine v_isFresh_Good E dX4_smell_74 q1195 u3 ⟨by decide, by decide⟩ ⟨by decide, by decide⟩ (Nat.le_of_ble_eq_true rfl) rfl ?_
              refine g_if_eq E dX4_smell_77 (tgt := 92) (by decide) rfl (fun c77 => ?_) (fun c77 => ?_)
              · have c77 := zb_0.mp c77
                refine g_lo (lo1 := [some (.ref ld), some (.int (nI j)), some (.int e), some (.ref (bb + 40 + j)), some (.int (zSmb B j e - 2 * zFre B R j e (k + 1))), some (.int (nI k)), some (.ref (bb + 40 + k))]) (by rw [zFre_f (by simp [zCov, c47, c59, c69, c77])]) ?_
                refine g_iinc E dX4_smell_92 rfl (v := nI (k + 1)) (nI_c _) (by decide) rfl (lo1 := [some (.ref ld), some (.int (nI j)), some (.int e), some (.ref (bb + 40 + j)), some (.int (zSmb B j e - 2 * zFre B R j e (k + 1))), some (.int (nI (k + 1))), some (.ref (bb + 40 + k))]) rfl rfl ?_
                refine g_goto E dX4_smell_95 (tgt := 20) (by decide) ?_
                exact g_les (lo1 := [some (.ref ld), some (.int (nI j)), some (.int e), some (.ref (bb + 40 + j)), some (.int (zSmb B j e - 2 * zFre B R j e (k + 1))), some (.int (nI (k + 1))), none]) (⟨rfl, rfl, rfl, rfl, rfl, rfl, trivial⟩) (ih20 (k + 1) (by omega) (by omega))
              · have c77 := zb_n0.mp c77
                refine g_aload E dX4_smell_80 rfl rfl ?_
                refine g_iload_n E dX4_smell_82 rfl rfl rfl ?_
                refine v_isTurned_Good E dX4_smell_83 q1206 u3 ⟨by decide, by decide⟩ ⟨by decide, by decide⟩ (Nat.le_of_ble_eq_true rfl) rfl ?_
                refine g_if_ne E dX4_smell_86 (tgt := 92) (by decide) rfl (fun c86 => ?_) (fun c86 => ?_)
                · have c86 := zb_n0.mp c86
                  refine g_lo (lo1 := [some (.ref ld), some (.int (nI j)), some (.int e), some (.ref (bb + 40 + j)), some (.int (zSmb B j e - 2 * zFre B R j e (k + 1))), some (.int (nI k)), some (.ref (bb + 40 + k))]) (by rw [zFre_f (by simp [zCov, c47, c59, c69, c77, c86])]) ?_
                  refine g_iinc E dX4_smell_92 rfl (v := nI (k + 1)) (nI_c _) (by decide) rfl (lo1 := [some (.ref ld), some (.int (nI j)), some (.int e), some (.ref (bb + 40 + j)), some (.int (zSmb B j e - 2 * zFre B R j e (k + 1))), some (.int (nI (k + 1))), some (.ref (bb + 40 + k))]) rfl rfl ?_
                  refine g_goto E dX4_smell_95 (tgt := 20) (by decide) ?_
                  exact g_les (lo1 := [some (.ref ld), some (.int (nI j)), some (.int e), some (.ref (bb + 40 + j)), some (.int (zSmb B j e - 2 * zFre B R j e (k + 1))), some (.int (nI (k + 1))), none]) (⟨rfl, rfl, rfl, rfl, rfl, rfl, trivial⟩) (ih20 (k + 1) (by omega) (by omega))
                · have c86 := zb_0.mp c86
                  refine g_iinc E dX4_smell_89 rfl (v := zSmb B j e - 2 * zFre B R j e (k + 1)) (zFre_t (by simp [zCov, c47, c59, c69, c77, c86])) (by decide) rfl (lo1 := [some (.ref ld), some (.int (nI j)), some (.int e), some (.ref (bb + 40 + j)), some (.int (zSmb B j e - 2 * zFre B R j e (k + 1))), some (.int (nI k)), some (.ref (bb + 40 + k))]) rfl rfl ?_
                  refine g_iinc E dX4_smell_92 rfl (v := nI (k + 1)) (nI_c _) (by decide) rfl (lo1 := [some (.ref ld), some (.int (nI j)), some (.int e), some (.ref (bb + 40 + j)), some (.int (zSmb B j e - 2 * zFre B R j e (k + 1))), some (.int (nI (k + 1))), some (.ref (bb + 40 + k))]) rfl rfl ?_
                  refine g_goto E dX4_smell_95 (tgt := 20) (by decide) ?_
                  exact g_les (lo1 := [some (.ref ld), some (.int (nI j)), some (.int e), some (.ref (bb + 40 + j)), some (.int (zSmb B j e - 2 * zFre B R j e (k + 1))), some (.int (nI (k + 1))), none]) (⟨rfl, rfl, rfl, rfl, rfl, rfl, trivial⟩) (ih20 (k + 1) (by omega) (by omega))
  exact lp20 ((B 0 3) + 1) 0 (Nat.zero_le _) (Nat.lt_succ_of_le (Nat.sub_le _ _))
set_option maxHeartbeats 400000 in
theorem ct_X4_found (l : Launch) {g : gWM} {ld bb : Nat} {B : gBar} {R : Nat → Int32} {d : Int32} (t k9 : Nat) (e : Int32) (hw : wfB B) (hLd : pLd g ld (.ref bb) B R d) (hBr : pBr g bb B) (ht : t < B 0 1) (hk9 : k9 < B 0 2) : gCt l yX4_found cX4_found 7 (some .int) 4 0 0 89 [.ref ld, .int (nI t), .int (nI k9), .int e] g (gPu (.int (zFou B R t k9 e 0)) g) := by
  refine gCt.of RX4 (by decide) rfl (lo := [some (.ref ld), some (.int (nI t)), some (.int (nI k9)), some (.int e), none, none, none]) 3 rfl (Nat.le_of_ble_eq_true rfl) (fun z E Rt => ?_)
  have hw_n := hw.1
  have hLd_o := hLd
  obtain ⟨⟨hLd_F, hLd_a, hLd_0, hLd_1, hLd_2, hLd_3, hLd_4, hLd_5⟩, ⟨hLd_s, hLd_sa, hLd_sb⟩, ⟨hLd_e, hLd_ea, hLd_eb⟩, hLd_p, hLd_pa, hLd_pb⟩ := hLd_o
  have hBr_o := hBr
  obtain ⟨⟨hBr_F, hBr_a, hBr_0, hBr_1, hBr_2, hBr_3, hBr_4, hBr_5, hBr_6, hBr_7, hBr_8, hBr_9, hBr_10, hBr_11, hBr_12, hBr_13, hBr_14, hBr_15⟩, ⟨hBr_f1, hBr_a1, hBr_b1⟩, ⟨hBr_f2, hBr_a2, hBr_b2⟩, ⟨hBr_f3, hBr_a3, hBr_b3⟩, ⟨hBr_f4, hBr_a4, hBr_b4⟩, ⟨hBr_f5, hBr_a5, hBr_b5⟩, ⟨hBr_f6, hBr_a6, hBr_b6⟩, ⟨hBr_f7, hBr_a7, hBr_b7⟩, hBr_c1, hBr_c2, hBr_c3, hBr_c4, hBr_c5⟩ := hBr_o
  refine g_iconst E (v := 0) dX4_found_0 (by decide) rfl ?_
  refine g_istore E dX4_found_1 (by decide) rfl (lo1 := [some (.ref ld), some (.int (nI t)), some (.int (nI k9)), some (.int e), some (.int 0), none, none]) rfl rfl ?_
  refine g_aload_n E dX4_found_3 rfl rfl rfl ?_
  refine g_iload_n E dX4_found_4 rfl rfl rfl ?_
  refine g_callV (k := ld) (n9 := 1) (av := [.int (nI t)]) (st := []) E (ct_X4_has l t hw hLd hBr (by omega)) gciX4 dX4_found_5 hLd_a q1237 q1160 q1161 q126 q1162 (by decide +kernel) rfl rfl ⟨by decide, by decide⟩ ⟨by decide, by decide⟩ (Nat.le_of_ble_eq_true rfl) rfl (gPu.k ?_)
  refine g_istore E dX4_found_8 (by decide) rfl (lo1 := [some (.ref ld), some (.int (nI t)), some (.int (nI k9)), some (.int e), some (.int 0), some (.int (zHas B R t)), none]) rfl rfl ?_
  refine g_iconst E (v := 0) dX4_found_10 (by decide) rfl ?_
  refine g_istore E dX4_found_11 (by decide) rfl (lo1 := [some (.ref ld), some (.int (nI t)), some (.int (nI k9)), some (.int e), some (.int 0), some (.int (zHas B R t)), some (.int 0)]) rfl rfl ?_
  have lp13 : ∀ (r9 : Nat) (k : Nat), (k ≤ B 0 3) → (B 0 3 - k < r9) → gV z g 0 0 13 [some (.ref ld), some (.int (nI t)), some (.int (nI k9)), some (.int e), some (.int (orTo (zFp B R t k9 e 0) k)), some (.int (zHas B R t)), some (.int (nI k))] [] := by
    intro r9
    induction r9 with
    | zero => intro k hk hm; exact absurd hm (Nat.not_lt_zero _)
    | succ r9 ih13 =>
      intro k hk hm
      refine g_iload E dX4_found_13 rfl rfl ?_
      refine g_aload_n E dX4_found_15 rfl rfl rfl ?_
      refine g_getf E gciX4 dX4_found_16 hLd_a 3 rfl (by decide) q291 (.inl rfl) (.ref bb) (hLd_3) rfl ?_
      refine g_getf E gciX14 dX4_found_19 hBr_a 12 rfl (by decide) q567 (.inl rfl) (.int (nI (B 0 3))) (hBr_12) rfl ?_
      refine g_icmp_ge E dX4_found_22 (tgt := 81) (by decide) rfl (fun c22 => ?_) (fun c22 => ?_)
      · have c22 := (nI_leI (a := B 0 3) (b := k) (by omega) (by omega)).mp c22
        obtain rfl : k = B 0 3 := by omega
        refine g_iload E dX4_found_81 rfl rfl ?_
        exact g_iret E Rt dX4_found_83 rfl (by decide) (by decide) (⟨rfl, rfl⟩)
      · have c22 := mt (nI_leI (a := B 0 3) (b := k) (by omega) (by omega)).mpr c22
        refine g_iload E dX4_found_25 rfl rfl ?_
        refine g_iload E dX4_found_27 rfl rfl ?_
        refine g_aload_n E dX4_found_29 rfl rfl rfl ?_
        refine g_getf E gciX4 dX4_found_30 hLd_a 4 rfl (by decide) q293 (.inl rfl) (.int (R 16)) (hLd_4) rfl ?_
        refine g_iand E dX4_found_33 rfl ?_
        refine g_iload E dX4_found_34 rfl rfl ?_
        refine g_callSN (n9 := 2) (av := [.int ((zHas B R t) &&& (R 16)), .int (nI k)]) (st := [.int (orTo (zFp B R t k9 e 0) k)]) E (ct_X1_has l ((zHas B R t) &&& (R 16)) k) dX4_found_36 q1238 q1164 q120 q1165 (by decide +kernel) rfl rfl ⟨by decide, by decide⟩ ⟨by decide, by decide⟩ (Nat.le_of_ble_eq_true rfl) rfl (gPu.k ?_)
        refine g_as (y := zb (zHp B R t k && zBit (R 16) k)) (by rw [zBit_and (by omega), zBit_has (by omega) (by omega)]) ?_
        refine g_if_eq E dX4_found_39 (tgt := 71) (by decide) rfl (fun c39 => ?_) (fun c39 => ?_)
        · have c39 := zb_0.mp c39
          refine g_iconst E (v := 0) dX4_found_71 (by decide) rfl ?_
          refine g_ior E dX4_found_72 rfl ?_
          refine g_as (y := orTo (zFp B R t k9 e 0) (k + 1)) (orTo_f (by simp [zFp, c39])) ?_
          refine g_istore E dX4_found_73 (by decide) rfl (lo1 := [some (.ref ld), some (.int (nI t)), some (.int (nI k9)), some (.int e), some (.int (orTo (zFp B R t k9 e 0) (k + 1))), some (.int (zHas B R t)), some (.int (nI k))]) rfl rfl ?_
          refine g_iinc E dX4_found_75 rfl (v := nI (k + 1)) (nI_c _) (by decide) rfl (lo1 := [some (.ref ld), some (.int (nI t)), some (.int (nI k9)), some (.int e), some (.int (orTo (zFp B R t k9 e 0) (k + 1))), some (.int (zHas B R t)), some (.int (nI (k + 1)))]) rfl rfl ?_
          refine g_goto E dX4_found_78 (tgt := 13) (by decide) ?_
          exact ih13 (k + 1) (by omega) (by omega)
        · have c39 := zb_n0.mp c39
          refine g_aload_n E dX4_found_42 rfl rfl rfl ?_
          refine g_iload E dX4_found_43 rfl rfl ?_
          refine g_iload_n E dX4_found_45 rfl rfl rfl ?_
          refine g_callV (k := ld) (n9 := 2) (av := [.int (nI k), .int e]) (st := [.int (orTo (zFp B R t k9 e 0) k)]) E (ct_X4_smell l k e hw hLd hBr (by omega)) gciX4 dX4_found_46 hLd_a q1239 q1168 q1169 q126 q1170 (by decide +kernel) rfl rfl ⟨by decide, by decide⟩ ⟨by decide, by decide⟩ (Nat.le_of_ble_eq_true rfl) rfl (gPu.k ?_)
          refine g_aload_n E dX4_found_49 rfl rfl rfl ?_
          refine g_getf E gciX4 dX4_found_50 hLd_a 3 rfl (by decide) q291 (.inl rfl) (.ref bb) (hLd_3) rfl ?_
          refine g_getf E gciX14 dX4_found_53 hBr_a 2 rfl (by decide) q536 (.inl rfl) (.ref (bb + 3)) (hBr_2) rfl ?_
          refine g_iload_n E dX4_found_56 rfl rfl rfl ?_
          refine g_aald E dX4_found_57 (j := k9) hBr_a3 (fun _ => rfl) (rfl) (by omega) (by decide) (b := bb + 30 + k9) (hBr_b3 k9 (by omega)) rfl ?_
          have e1_h := pBr.gates hBr k9 (by omega)
          obtain ⟨e1_F, e1_a, e1_1, e1_2, e1_3, e1_4⟩ := e1_h
          refine g_getf E gciX18 dX4_found_58 e1_a 2 rfl (by decide) q924 (.inl rfl) (.int (nI (B 9 k9))) (e1_2) rfl ?_
          refine g_icmp_lt E dX4_found_61 (tgt := 71) (by decide) rfl (fun c61 => ?_) (fun c61 => ?_)
          · refine g_iconst E (v := 0) dX4_found_71 (by decide) rfl ?_
            refine g_ior E dX4_found_72 rfl ?_
            refine g_as (y := orTo (zFp B R t k9 e 0) (k + 1)) (orTo_f (by simp [zFp, c39, c61])) ?_
            refine g_istore E dX4_found_73 (by decide) rfl (lo1 := [some (.ref ld), some (.int (nI t)), some (.int (nI k9)), some (.int e), some (.int (orTo (zFp B R t k9 e 0) (k + 1))), some (.int (zHas B R t)), some (.int (nI k))]) rfl rfl ?_
            refine g_iinc E dX4_found_75 rfl (v := nI (k + 1)) (nI_c _) (by decide) rfl (lo1 := [some (.ref ld), some (.int (nI t)), some (.int (nI k9)), some (.int e), some (.int (orTo (zFp B R t k9 e 0) (k + 1))), some (.int (zHas B R t)), some (.int (nI (k + 1)))]) rfl rfl ?_
            refine g_goto E dX4_found_78 (tgt := 13) (by decide) ?_
            exact ih13 (k + 1) (by omega) (by omega)
          · refine g_iconst E (v := 1) dX4_found_64 (by decide) rfl ?_
            refine g_iload E dX4_found_65 rfl rfl ?_
            refine g_ishl E dX4_found_67 rfl ?_
            refine g_goto E dX4_found_68 (tgt := 72) (by decide) ?_
            refine g_ior E dX4_found_72 rfl ?_
            refine g_as (y := orTo (zFp B R t k9 e 0) (k + 1)) (orTo_t (by simp [zFp, c39, c61])) ?_
            refine g_istore E dX4_found_73 (by decide) rfl (lo1 := [some (.ref ld), some (.int (nI t)), some (.int (nI k9)), some (.int e), some (.int (orTo (zFp B R t k9 e 0) (k + 1))), some (.int (zHas B R t)), some (.int (nI k))]) rfl rfl ?_
            refine g_iinc E dX4_found_75 rfl (v := nI (k + 1)) (nI_c _) (by decide) rfl (lo1 := [some (.ref ld), some (.int (nI t)), some (.int (nI k9)), some (.int e), some (.int (orTo (zFp B R t k9 e 0) (k + 1))), some (.int (zHas B R t)), some (.int (nI (k + 1)))]) rfl rfl ?_
            refine g_goto E dX4_found_78 (tgt := 13) (by decide) ?_
            exact ih13 (k + 1) (by omega) (by omega)
  exact lp13 ((B 0 3) + 1) 0 (Nat.zero_le _) (Nat.lt_succ_of_le (Nat.sub_le _ _))
set_option maxHeartbeats 400000 in
theorem ct_X4_asked (l : Launch) {g : gWM} {ld bb : Nat} {B : gBar} {R : Nat → Int32} {d : Int32} {lw r : Nat} (t : Nat) (f e : Int32) (hw : wfB B) (hLd : pLd g ld (.ref bb) B R d) (hBr : pBr g bb B) (hL : pLw g lw r) (ht : t < B 0 1) : gCt l yX4_asked cX4_asked 10 (some .int) 3 0 0 64 [.ref ld, .int (nI t), .int f, .int e, .ref lw] g (gPu (.int (zAsk B R t f r e)) g) := by
  refine gCt.of RX4 (by decide) rfl (lo := [some (.ref ld), some (.int (nI t)), some (.int f), some (.int e), some (.ref lw), none, none, none, none, none]) 5 rfl (Nat.le_of_ble_eq_true rfl) (fun z E Rt => ?_)
  have hw_n := hw.1
  have hLd_o := hLd
  obtain ⟨⟨hLd_F, hLd_a, hLd_0, hLd_1, hLd_2, hLd_3, hLd_4, hLd_5⟩, ⟨hLd_s, hLd_sa, hLd_sb⟩, ⟨hLd_e, hLd_ea, hLd_eb⟩, hLd_p, hLd_pa, hLd_pb⟩ := hLd_o
  have hBr_o := hBr
  obtain ⟨⟨hBr_F, hBr_a, hBr_0, hBr_1, hBr_2, hBr_3, hBr_4, hBr_5, hBr_6, hBr_7, hBr_8, hBr_9, hBr_10, hBr_11, hBr_12, hBr_13, hBr_14, hBr_15⟩, ⟨hBr_f1, hBr_a1, hBr_b1⟩, ⟨hBr_f2, hBr_a2, hBr_b2⟩, ⟨hBr_f3, hBr_a3, hBr_b3⟩, ⟨hBr_f4, hBr_a4, hBr_b4⟩, ⟨hBr_f5, hBr_a5, hBr_b5⟩, ⟨hBr_f6, hBr_a6, hBr_b6⟩, ⟨hBr_f7, hBr_a7, hBr_b7⟩, hBr_c1, hBr_c2, hBr_c3, hBr_c4, hBr_c5⟩ := hBr_o
  refine g_iconst E (v := 0) dX4_asked_0 (by decide) rfl ?_
  refine g_istore E dX4_asked_1 (by decide) rfl (lo1 := [some (.ref ld), some (.int (nI t)), some (.int f), some (.int e), some (.ref lw), some (.int 0), none, none, none, none]) rfl rfl ?_
  refine g_iconst E (v := 0) dX4_asked_3 (by decide) rfl ?_
  refine g_istore E dX4_asked_4 (by decide) rfl (lo1 := [some (.ref ld), some (.int (nI t)), some (.int f), some (.int e), some (.ref lw), some (.int 0), some (.int 0), none, none, none]) rfl rfl ?_
  refine g_aload_n E dX4_asked_6 rfl rfl rfl ?_
  refine g_iload_n E dX4_asked_7 rfl rfl rfl ?_
  refine g_callV (k := ld) (n9 := 1) (av := [.int (nI t)]) (st := []) E (ct_X4_has l t hw hLd hBr (by omega)) gciX4 dX4_asked_8 hLd_a q1237 q1160 q1161 q126 q1162 (by decide +kernel) rfl rfl ⟨by decide, by decide⟩ ⟨by decide, by decide⟩ (Nat.le_of_ble_eq_true rfl) rfl (gPu.k ?_)
  refine g_istore E dX4_asked_11 (by decide) rfl (lo1 := [some (.ref ld), some (.int (nI t)), some (.int f), some (.int e), some (.ref lw), some (.int 0), some (.int 0), some (.int (zHas B R t)), none, none]) rfl rfl ?_
  refine g_iconst E (v := 0) dX4_asked_13 (by decide) rfl ?_
  refine g_istore E dX4_asked_14 (by decide) rfl (lo1 := [some (.ref ld), some (.int (nI t)), some (.int f), some (.int e), some (.ref lw), some (.int 0), some (.int 0), some (.int (zHas B R t)), some (.int 0), none]) rfl rfl ?_
  have lp16 : ∀ (r9 : Nat) (k : Nat), (k ≤ B 0 3) → (B 0 3 - k < r9) → gV z g 0 0 16 [some (.ref ld), some (.int (nI t)), some (.int f), some (.int e), some (.ref lw), some (.int (sumTo (zOpn B R t r e) k)), some (.int (sumTo (zFin B f r e) k)), some (.int (zHas B R t)), some (.int (nI k)), none] [] := by
    intro r9
    induction r9 with
    | zero => intro k hk hm; exact absurd hm (Nat.not_lt_zero _)
    | succ r9 ih16 =>
      intro k hk hm
      refine g_iload E dX4_asked_16 rfl rfl ?_
      refine g_aload_n E dX4_asked_18 rfl rfl rfl ?_
      refine g_getf E gciX4 dX4_asked_19 hLd_a 3 rfl (by decide) q291 (.inl rfl) (.ref bb) (hLd_3) rfl ?_
      refine g_getf E gciX14 dX4_asked_22 hBr_a 12 rfl (by decide) q567 (.inl rfl) (.int (nI (B 0 3))) (hBr_12) rfl ?_
      refine g_icmp_ge E dX4_asked_25 (tgt := 102) (by decide) rfl (fun c25 => ?_) (fun c25 => ?_)
      · have c25 := (nI_leI (a := B 0 3) (b := k) (by omega) (by omega)).mp c25
        obtain rfl : k = B 0 3 := by omega
        refine g_iconst E (v := 0) dX4_asked_102 (by decide) rfl ?_
        refine g_iload E dX4_asked_103 rfl rfl ?_
        refine g_aload_n E dX4_asked_105 rfl rfl rfl ?_
        refine g_getf E gciX4 dX4_asked_106 hLd_a 3 rfl (by decide) q291 (.inl rfl) (.ref bb) (hLd_3) rfl ?_
        refine g_getf E gciX14 dX4_asked_109 hBr_a 1 rfl (by decide) q531 (.inl rfl) (.ref (bb + 2)) (hBr_1) rfl ?_
        refine g_iload_n E dX4_asked_112 rfl rfl rfl ?_
        refine g_aald E dX4_asked_113 (j := t) hBr_a2 (fun _ => rfl) (rfl) (by omega) (by decide) (b := bb + 20 + t) (hBr_b2 t (by omega)) rfl ?_
        have e1_h := pBr.people hBr t (by omega)
        obtain ⟨e1_F, e1_a, e1_1, e1_2, e1_3⟩ := e1_h
        refine g_getf E gciX17 dX4_asked_114 e1_a 2 rfl (by decide) q900 (.inl rfl) (.int (nI (B 7 t))) (e1_2) rfl ?_
        refine g_isub E dX4_asked_117 rfl ?_
        refine g_mmax E dX4_asked_118 q1230 q1231 q154 q1232 ⟨by decide, by decide⟩ (by decide) (by decide) (Nat.le_of_ble_eq_true rfl) rfl ?_
        refine g_as (y := zPos (sumTo (zOpn B R t r e) (B 0 3) - nI (B 7 t))) (rfl) ?_
        refine g_iload E dX4_asked_121 rfl rfl ?_
        refine g_iadd E dX4_asked_123 rfl ?_
        exact g_iret E Rt dX4_asked_124 rfl (by decide) (by decide) (⟨rfl, rfl⟩)
      · have c25 := mt (nI_leI (a := B 0 3) (b := k) (by omega) (by omega)).mpr c25
        refine g_aload_n E dX4_asked_28 rfl rfl rfl ?_
        refine g_getf E gciX4 dX4_asked_29 hLd_a 3 rfl (by decide) q291 (.inl rfl) (.ref bb) (hLd_3) rfl ?_
        refine g_getf E gciX14 dX4_asked_32 hBr_a 3 rfl (by decide) q540 (.inl rfl) (.ref (bb + 4)) (hBr_3) rfl ?_
        refine g_iload E dX4_asked_35 rfl rfl ?_
        refine g_aald E dX4_asked_37 (j := k) hBr_a4 (fun _ => rfl) (rfl) (by omega) (by decide) (b := bb + 40 + k) (hBr_b4 k (by omega)) rfl ?_
        have u2 := pBr.good hBr hw (j := k) (by omega)
        have u2_b := wfB.goods hw (j := k) (by omega)
        have o3 := u2
        obtain ⟨⟨o3_F, o3_a, o3_0, o3_1, o3_2, o3_3, o3_4, o3_7⟩, o3_m, o3_k⟩ := o3
        refine g_iload_n E dX4_asked_38 rfl rfl rfl ?_
        refine g_aload E dX4_asked_39 rfl rfl ?_
        refine v_duty_Good E dX4_asked_41 q1248 u2 hL ⟨by decide, by decide⟩ ⟨by decide, by decide⟩ (Nat.le_of_ble_eq_true rfl) rfl ?_
        refine g_istore E dX4_asked_44 (by decide) rfl (lo1 := [some (.ref ld), some (.int (nI t)), some (.int f), some (.int e), some (.ref lw), some (.int (sumTo (zOpn B R t r e) k)), some (.int (sumTo (zFin B f r e) k)), some (.int (zHas B R t)), some (.int (nI k)), some (.int (zDut B r k e))]) rfl rfl ?_
        refine g_iload E dX4_asked_46 rfl rfl ?_
        refine g_iload E dX4_asked_48 rfl rfl ?_
        refine g_aload_n E dX4_asked_50 rfl rfl rfl ?_
        refine g_getf E gciX4 dX4_asked_51 hLd_a 4 rfl (by decide) q293 (.inl rfl) (.int (R 16)) (hLd_4) rfl ?_
        refine g_iconst E (v := (-1)) dX4_asked_54 (by decide) rfl ?_
        refine g_ixor E dX4_asked_55 rfl ?_
        refine g_iand E dX4_asked_56 rfl ?_
        refine g_iload E dX4_asked_57 rfl rfl ?_
        refine g_callSN (n9 := 2) (av := [.int ((zHas B R t) &&& ((R 16) ^^^ (-1))), .int (nI k)]) (st := [.int (sumTo (zOpn B R t r e) k)]) E (ct_X1_has l ((zHas B R t) &&& ((R 16) ^^^ (-1))) k) dX4_asked_59 q1238 q1164 q120 q1165 (by decide +kernel) rfl rfl ⟨by decide, by decide⟩ ⟨by decide, by decide⟩ (Nat.le_of_ble_eq_true rfl) rfl (gPu.k ?_)
        refine g_as (y := zb (zHp B R t k && !zBit (R 16) k)) (by rw [zBit_and (by omega), zBit_has (by omega) (by omega), zBit_not (by omega)]) ?_
        refine g_if_eq E dX4_asked_62 (tgt := 70) (by decide) rfl (fun c62 => ?_) (fun c62 => ?_)
        · have c62 := zb_0.mp c62
          refine g_iconst E (v := 0) dX4_asked_70 (by decide) rfl ?_
          refine g_iadd E dX4_asked_71 rfl ?_
          refine g_as (y := sumTo (zOpn B R t r e) (k + 1)) (sumTo_s (by simp [zOpn, c62])) ?_
          refine g_istore E dX4_asked_72 (by decide) rfl (lo1 := [some (.ref ld), some (.int (nI t)), some (.int f), some (.int e), some (.ref lw), some (.int (sumTo (zOpn B R t r e) (k + 1))), some (.int (sumTo (zFin B f r e) k)), some (.int (zHas B R t)), some (.int (nI k)), some (.int (zDut B r k e))]) rfl rfl ?_
          refine g_iload E dX4_asked_74 rfl rfl ?_
          refine g_iload_n E dX4_asked_76 rfl rfl rfl ?_
          refine g_iload E dX4_asked_77 rfl rfl ?_
          refine g_callSN (n9 := 2) (av := [.int f, .int (nI k)]) (st := [.int (sumTo (zFin B f r e) k)]) E (ct_X1_has l f k) dX4_asked_79 q1238 q1164 q120 q1165 (by decide +kernel) rfl rfl ⟨by decide, by decide⟩ ⟨by decide, by decide⟩ (Nat.le_of_ble_eq_true rfl) rfl (gPu.k ?_)
          refine g_if_eq E dX4_asked_82 (tgt := 92) (by decide) rfl (fun c82 => ?_) (fun c82 => ?_)
          · have c82 := zb_0.mp c82
            refine g_iconst E (v := 0) dX4_asked_92 (by decide) rfl ?_
            refine g_iadd E dX4_asked_93 rfl ?_
            refine g_as (y := sumTo (zFin B f r e) (k + 1)) (sumTo_s (by simp [zFin, c82])) ?_
            refine g_istore E dX4_asked_94 (by decide) rfl (lo1 := [some (.ref ld), some (.int (nI t)), some (.int f), some (.int e), some (.ref lw), some (.int (sumTo (zOpn B R t r e) (k + 1))), some (.int (sumTo (zFin B f r e) (k + 1))), some (.int (zHas B R t)), some (.int (nI k)), some (.int (zDut B r k e))]) rfl rfl ?_
            refine g_iinc E dX4_asked_96 rfl (v := nI (k + 1)) (nI_c _) (by decide) rfl (lo1 := [some (.ref ld), some (.int (nI t)), some (.int f), some (.int e), some (.ref lw), some (.int (sumTo (zOpn B R t r e) (k + 1))), some (.int (sumTo (zFin B f r e) (k + 1))), some (.int (zHas B R t)), some (.int (nI (k + 1))), some (.int (zDut B r k e))]) rfl rfl ?_
            refine g_goto E dX4_asked_99 (tgt := 16) (by decide) ?_
            exact g_les (lo1 := [some (.ref ld), some (.int (nI t)), some (.int f), some (.int e), some (.ref lw), some (.int (sumTo (zOpn B R t r e) (k + 1))), some (.int (sumTo (zFin B f r e) (k + 1))), some (.int (zHas B R t)), some (.int (nI (k + 1))), none]) (⟨rfl, rfl, rfl, rfl, rfl, rfl, rfl, rfl, rfl, trivial⟩) (ih16 (k + 1) (by omega) (by omega))
          · have c82 := zb_n0.mp c82
            refine g_iconst E (v := 3) dX4_asked_85 (by decide) rfl ?_
            refine g_iload E dX4_asked_86 rfl rfl ?_
            refine g_imul E dX4_asked_88 rfl ?_
            refine g_goto E dX4_asked_89 (tgt := 93) (by decide) ?_
            refine g_iadd E dX4_asked_93 rfl ?_
            refine g_as (y := sumTo (zFin B f r e) (k + 1)) (sumTo_s (by simp [zFin, c82])) ?_
            refine g_istore E dX4_asked_94 (by decide) rfl (lo1 := [some (.ref ld), some (.int (nI t)), some (.int f), some (.int e), some (.ref lw), some (.int (sumTo (zOpn B R t r e) (k + 1))), some (.int (sumTo (zFin B f r e) (k + 1))), some (.int (zHas B R t)), some (.int (nI k)), some (.int (zDut B r k e))]) rfl rfl ?_
            refine g_iinc E dX4_asked_96 rfl (v := nI (k + 1)) (nI_c _) (by decide) rfl (lo1 := [some (.ref ld), some (.int (nI t)), some (.int f), some (.int e), some (.ref lw), some (.int (sumTo (zOpn B R t r e) (k + 1))), some (.int (sumTo (zFin B f r e) (k + 1))), some (.int (zHas B R t)), some (.int (nI (k + 1))), some (.int (zDut B r k e))]) rfl rfl ?_
            refine g_goto E dX4_asked_99 (tgt := 16) (by decide) ?_
            exact g_les (lo1 := [some (.ref ld), some (.int (nI t)), some (.int f), some (.int e), some (.ref lw), some (.int (sumTo (zOpn B R t r e) (k + 1))), some (.int (sumTo (zFin B f r e) (k + 1))), some (.int (zHas B R t)), some (.int (nI (k + 1))), none]) (⟨rfl, rfl, rfl, rfl, rfl, rfl, rfl, rfl, rfl, trivial⟩) (ih16 (k + 1) (by omega) (by omega))
        · have c62 := zb_n0.mp c62
          refine g_iload E dX4_asked_65 rfl rfl ?_
          refine g_goto E dX4_asked_67 (tgt := 71) (by decide) ?_
          refine g_iadd E dX4_asked_71 rfl ?_
          refine g_as (y := sumTo (zOpn B R t r e) (k + 1)) (sumTo_s (by simp [zOpn, c62])) ?_
          refine g_istore E dX4_asked_72 (by decide) rfl (lo1 := [some (.ref ld), some (.int (nI t)), some (.int f), some (.int e), some (.ref lw), some (.int (sumTo (zOpn B R t r e) (k + 1))), some (.int (sumTo (zFin B f r e) k)), some (.int (zHas B R t)), some (.int (nI k)), some (.int (zDut B r k e))]) rfl rfl ?_
          refine g_iload E dX4_asked_74 rfl rfl ?_
          refine g_iload_n E dX4_asked_76 rfl rfl rfl ?_
          refine g_iload E dX4_asked_77 rfl rfl ?_
          refine g_callSN (n9 := 2) (av := [.int f, .int (nI k)]) (st := [.int (sumTo (zFin B f r e) k)]) E (ct_X1_has l f k) dX4_asked_79 q1238 q1164 q120 q1165 (by decide +kernel) rfl rfl ⟨by decide, by decide⟩ ⟨by decide, by decide⟩ (Nat.le_of_ble_eq_true rfl) rfl (gPu.k ?_)
          refine g_if_eq E dX4_asked_82 (tgt := 92) (by decide) rfl (fun c82 => ?_) (fun c82 => ?_)
          · have c82 := zb_0.mp c82
            refine g_iconst E (v := 0) dX4_asked_92 (by decide) rfl ?_
            refine g_iadd E dX4_asked_93 rfl ?_
            refine g_as (y := sumTo (zFin B f r e) (k + 1)) (sumTo_s (by simp [zFin, c82])) ?_
            refine g_istore E dX4_asked_94 (by decide) rfl (lo1 := [some (.ref ld), some (.int (nI t)), some (.int f), some (.int e), some (.ref lw), some (.int (sumTo (zOpn B R t r e) (k + 1))), some (.int (sumTo (zFin B f r e) (k + 1))), some (.int (zHas B R t)), some (.int (nI k)), some (.int (zDut B r k e))]) rfl rfl ?_
            refine g_iinc E dX4_asked_96 rfl (v := nI (k + 1)) (nI_c _) (by decide) rfl (lo1 := [some (.ref ld), some (.int (nI t)), some (.int f), some (.int e), some (.ref lw), some (.int (sumTo (zOpn B R t r e) (k + 1))), some (.int (sumTo (zFin B f r e) (k + 1))), some (.int (zHas B R t)), some (.int (nI (k + 1))), some (.int (zDut B r k e))]) rfl rfl ?_
            refine g_goto E dX4_asked_99 (tgt := 16) (by decide) ?_
            exact g_les (lo1 := [some (.ref ld), some (.int (nI t)), some (.int f), some (.int e), some (.ref lw), some (.int (sumTo (zOpn B R t r e) (k + 1))), some (.int (sumTo (zFin B f r e) (k + 1))), some (.int (zHas B R t)), some (.int (nI (k + 1))), none]) (⟨rfl, rfl, rfl, rfl, rfl, rfl, rfl, rfl, rfl, trivial⟩) (ih16 (k + 1) (by omega) (by omega))
          · have c82 := zb_n0.mp c82
            refine g_iconst E (v := 3) dX4_asked_85 (by decide) rfl ?_
            refine g_iload E dX4_asked_86 rfl rfl ?_
            refine g_imul E dX4_asked_88 rfl ?_
            refine g_goto E dX4_asked_89 (tgt := 93) (by decide) ?_
            refine g_iadd E dX4_asked_93 rfl ?_
            refine g_as (y := sumTo (zFin B f r e) (k + 1)) (sumTo_s (by simp [zFin, c82])) ?_
            refine g_istore E dX4_asked_94 (by decide) rfl (lo1 := [some (.ref ld), some (.int (nI t)), some (.int f), some (.int e), some (.ref lw), some (.int (sumTo (zOpn B R t r e) (k + 1))), some (.int (sumTo (zFin B f r e) (k + 1))), some (.int (zHas B R t)), some (.int (nI k)), some (.int (zDut B r k e))]) rfl rfl ?_
            refine g_iinc E dX4_asked_96 rfl (v := nI (k + 1)) (nI_c _) (by decide) rfl (lo1 := [some (.ref ld), some (.int (nI t)), some (.int f), some (.int e), some (.ref lw), some (.int (sumTo (zOpn B R t r e) (k + 1))), some (.int (sumTo (zFin B f r e) (k + 1))), some (.int (zHas B R t)), some (.int (nI (k + 1))), some (.int (zDut B r k e))]) rfl rfl ?_
            refine g_goto E dX4_asked_99 (tgt := 16) (by decide) ?_
            exact g_les (lo1 := [some (.ref ld), some (.int (nI t)), some (.int f), some (.int e), some (.ref lw), some (.int (sumTo (zOpn B R t r e) (k + 1))), some (.int (sumTo (zFin B f r e) (k + 1))), some (.int (zHas B R t)), some (.int (nI (k + 1))), none]) (⟨rfl, rfl, rfl, rfl, rfl, rfl, rfl, rfl, rfl, trivial⟩) (ih16 (k + 1) (by omega) (by omega))
  exact lp16 ((B 0 3) + 1) 0 (Nat.zero_le _) (Nat.lt_succ_of_le (Nat.sub_le _ _))
