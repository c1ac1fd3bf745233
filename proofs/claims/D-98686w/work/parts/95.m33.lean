/-! WALKS, thirty-third: led -/
set_option maxRecDepth 100000
set_option maxHeartbeats 1000000 in
theorem ct_X1_led (l : Launch) (hT : l.stackTraces = false) {g : gWM} {bb : Nat} {B : gBar} {R : Nat → Int32} {d : Int32} {tp mm um : Nat} {tr fa wh : Int32} (p : Int32) (hw : wfB B) (hSo : pSo g (.ref bb) tp tr fa wh mm um) (hLd : pLd g 1010 (.ref bb) B R d) (hBr : pBr g bb B) (hb9 : 10000 ≤ bb) : gNt l yX1_led cX1_led 4 (some .int) 6 1 6 81 [.ref 1000, .int p] g (fun v g1 => ∃ j, sLed B d p = some j ∧ v = some (.int (nI j)) ∧ g1 = g) (sLed B d p = none) := by
  refine gNt.of RX1 (by decide) rfl (lo := [some (.ref 1000), some (.int p), none, none]) 2 rfl (Nat.le_of_ble_eq_true rfl) (fun z E Nx Lz => ?_)
  have hw_n := hw.1
  have hSo_o := hSo
  obtain ⟨hSo_F, hSo_a, hSo_0, hSo_1, hSo_2, hSo_3, hSo_4, hSo_5, hSo_6, hSo_7, hSo_8, hSo_9, hSo_10, hSo_11, hSo_12, hSo_13, hSo_14, hSo_15, hSo_16, hSo_17, hSo_18, hSo_19⟩ := hSo_o
  have hLd_o := hLd
  obtain ⟨⟨hLd_F, hLd_a, hLd_0, hLd_1, hLd_2, hLd_3, hLd_4, hLd_5⟩, ⟨hLd_s, hLd_sa, hLd_sb⟩, ⟨hLd_e, hLd_ea, hLd_eb⟩, hLd_p, hLd_pa, hLd_pb⟩ := hLd_o
  have hBr_o := hBr
  obtain ⟨⟨hBr_F, hBr_a, hBr_0, hBr_1, hBr_2, hBr_3, hBr_4, hBr_5, hBr_6, hBr_7, hBr_8, hBr_9, hBr_10, hBr_11, hBr_12, hBr_13, hBr_14, hBr_15⟩, ⟨hBr_f1, hBr_a1, hBr_b1⟩, ⟨hBr_f2, hBr_a2, hBr_b2⟩, ⟨hBr_f3, hBr_a3, hBr_b3⟩, ⟨hBr_f4, hBr_a4, hBr_b4⟩, ⟨hBr_f5, hBr_a5, hBr_b5⟩, ⟨hBr_f6, hBr_a6, hBr_b6⟩, ⟨hBr_f7, hBr_a7, hBr_b7⟩, hBr_c1, hBr_c2, hBr_c3, hBr_c4, hBr_c5⟩ := hBr_o
  refine g_iconst E (v := 0) dX1_led_0 (by decide) rfl ?_
  refine g_istore_n E dX1_led_1 rfl (by decide) rfl (lo1 := [some (.ref 1000), some (.int p), some (.int 0), none]) rfl rfl ?_
  refine g_iconst E (v := 0) dX1_led_2 (by decide) rfl ?_
  refine g_istore_n E dX1_led_3 rfl (by decide) rfl (lo1 := [some (.ref 1000), some (.int p), some (.int 0), some (.int 0)]) rfl rfl ?_
  have lp4 : ∀ (r9 : Nat) (k n : Nat), (k ≤ B 0 3) → (n ≤ k) → (sLed B d p = zLe B d p (B 0 3 - k) k n) → (B 0 3 - k < r9) → gV z g 0 0 4 [some (.ref 1000), some (.int p), some (.int (nI n)), some (.int (nI k))] [] := by
    intro r9
    induction r9 with
    | zero => intro k n hk hn hz hm; exact absurd hm (Nat.not_lt_zero _)
    | succ r9 ih4 =>
      intro k n hk hn hz hm
      refine g_aload_n E dX1_led_4 rfl rfl rfl ?_
      refine g_getf E gciX1 dX1_led_5 hSo_a 3 rfl (by decide) q425 (.inl rfl) (.ref bb) (hSo_3) rfl ?_
      refine g_ifnullN E dX1_led_8 rfl ?_
      refine g_iload_n E dX1_led_11 rfl rfl rfl ?_
      refine g_aload_n E dX1_led_12 rfl rfl rfl ?_
      refine g_getf E gciX1 dX1_led_13 hSo_a 3 rfl (by decide) q425 (.inl rfl) (.ref bb) (hSo_3) rfl ?_
      refine g_getf E gciX14 dX1_led_16 hBr_a 12 rfl (by decide) q572 (.inl rfl) (.int (nI (B 0 3))) (hBr_12) rfl ?_
      refine g_icmp_ge E dX1_led_19 (tgt := 63) (by decide) rfl (fun c19 => ?_) (fun c19 => ?_)
      · have c19 := (nI_leI (a := B 0 3) (b := k) (by omega) (by omega)).mp c19
        exact g_throwN E Nx Lz hT dX1_led_63 dX1_led_66 dX1_led_67 dX1_led_70 q1713 q157 (hz.trans (by rw [show B 0 3 - k = 0 by omega]; rfl)) (by decide) (by decide) (by decide) (by decide)
      · have c19 := mt (nI_leI (a := B 0 3) (b := k) (by omega) (by omega)).mpr c19
        refine g_aload_n E dX1_led_22 rfl rfl rfl ?_
        refine g_getf E gciX1 dX1_led_23 hSo_a 3 rfl (by decide) q425 (.inl rfl) (.ref bb) (hSo_3) rfl ?_
        refine g_getf E gciX14 dX1_led_26 hBr_a 3 rfl (by decide) q542 (.inl rfl) (.ref (bb + 4)) (hBr_3) rfl ?_
        refine g_iload_n E dX1_led_29 rfl rfl rfl ?_
        refine g_aald E dX1_led_30 (j := k) hBr_a4 (fun _ => rfl) (rfl) (by omega) (by decide) (b := bb + 40 + k) (hBr_b4 k (by omega)) rfl ?_
        have u1 := pBr.good hBr hw (j := k) (by omega)
        have u1_b := wfB.goods hw (j := k) (by omega)
        have o2 := u1
        obtain ⟨⟨o2_F, o2_a, o2_0, o2_1, o2_2, o2_3, o2_4, o2_7⟩, o2_m, o2_k⟩ := o2
        refine g_aload_n E dX1_led_31 rfl rfl rfl ?_
        refine g_getf E gciX1 dX1_led_32 hSo_a 9 rfl (by decide) q431 (.inl rfl) (.ref 1010) (hSo_9) rfl ?_
        refine g_getf E gciX4 dX1_led_35 hLd_a 5 rfl (by decide) q297 (.inl rfl) (.int d) (hLd_5) rfl ?_
        refine v_isTurned_Good E dX1_led_38 q1391 u1 ⟨by decide, by decide⟩ ⟨by decide, by decide⟩ (Nat.le_of_ble_eq_true rfl) rfl ?_
        refine g_if_ne E dX1_led_41 (tgt := 47) (by decide) rfl (fun c41 => ?_) (fun c41 => ?_)
        · have c41 := zb_n0.mp c41
          refine g_iload_n E dX1_led_47 rfl rfl rfl ?_
          refine g_iload_n E dX1_led_48 rfl rfl rfl ?_
          refine g_icmp_ne E dX1_led_49 (tgt := 54) (by decide) rfl (fun c49 => ?_) (fun c49 => ?_)
          · refine g_iinc E dX1_led_54 rfl (v := nI (n + 1)) (nI_c _) (by decide) rfl (lo1 := [some (.ref 1000), some (.int p), some (.int (nI (n + 1))), some (.int (nI k))]) rfl rfl ?_
            refine g_iinc E dX1_led_57 rfl (v := nI (k + 1)) (nI_c _) (by decide) rfl (lo1 := [some (.ref 1000), some (.int p), some (.int (nI (n + 1))), some (.int (nI (k + 1)))]) rfl rfl ?_
            refine g_goto E dX1_led_60 (tgt := 4) (by decide) ?_
            exact ih4 (k + 1) (n + 1) (by omega) (by omega) (hz.trans (zLe_n (by omega) c41 c49)) (by omega)
          · refine g_iload_n E dX1_led_52 rfl rfl rfl ?_
            exact (gNx_leave Nx E).elim (fun z9 h9z => h9z.2.2 _ _ _ _ _ _ (g_iret h9z.2.1 h9z.1 dX1_led_53 rfl (by decide) (by decide) (⟨k, hz.trans (zLe_t (by omega) c41 c49), rfl, rfl⟩)))
        · have c41 := zb_0.mp c41
          refine g_goto E dX1_led_44 (tgt := 57) (by decide) ?_
          refine g_iinc E dX1_led_57 rfl (v := nI (k + 1)) (nI_c _) (by decide) rfl (lo1 := [some (.ref 1000), some (.int p), some (.int (nI n)), some (.int (nI (k + 1)))]) rfl rfl ?_
          refine g_goto E dX1_led_60 (tgt := 4) (by decide) ?_
          exact ih4 (k + 1) n (by omega) (by omega) (hz.trans (zLe_f (by omega) c41)) (by omega)
  exact lp4 (B 0 3 + 1) 0 0 (Nat.zero_le _) (Nat.zero_le _) rfl (by omega)
set_option maxHeartbeats 1000000 in
theorem ct_X1_led_N (l : Launch) (hT : l.stackTraces = false) {g : gWM} {tp mm um : Nat} {tr fa wh : Int32} (p : Int32) (hSo : pSo g .null tp tr fa wh mm um) : gNt l yX1_led cX1_led 4 (some .int) 6 1 6 81 [.ref 1000, .int p] g (fun v g1 => ∃ j, sLed zB0 0 p = some j ∧ v = some (.int (nI j)) ∧ g1 = g) (sLed zB0 0 p = none) := by
  refine gNt.of RX1 (by decide) rfl (lo := [some (.ref 1000), some (.int p), none, none]) 2 rfl (Nat.le_of_ble_eq_true rfl) (fun z E Nx Lz => ?_)
  have hSo_o := hSo
  obtain ⟨hSo_F, hSo_a, hSo_0, hSo_1, hSo_2, hSo_3, hSo_4, hSo_5, hSo_6, hSo_7, hSo_8, hSo_9, hSo_10, hSo_11, hSo_12, hSo_13, hSo_14, hSo_15, hSo_16, hSo_17, hSo_18, hSo_19⟩ := hSo_o
  refine g_iconst E (v := 0) dX1_led_0 (by decide) rfl ?_
  refine g_istore_n E dX1_led_1 rfl (by decide) rfl (lo1 := [some (.ref 1000), some (.int p), some (.int 0), none]) rfl rfl ?_
  refine g_iconst E (v := 0) dX1_led_2 (by decide) rfl ?_
  refine g_istore_n E dX1_led_3 rfl (by decide) rfl (lo1 := [some (.ref 1000), some (.int p), some (.int 0), some (.int 0)]) rfl rfl ?_
  refine g_aload_n E dX1_led_4 rfl rfl rfl ?_
  refine g_getf E gciX1 dX1_led_5 hSo_a 3 rfl (by decide) q425 (.inl rfl) (.null) (hSo_3) rfl ?_
  refine g_ifnullY E dX1_led_8 (tgt := 63) (by decide) ?_
  exact g_throwN E Nx Lz hT dX1_led_63 dX1_led_66 dX1_led_67 dX1_led_70 q1713 q157 (rfl) (by decide) (by decide) (by decide) (by decide)
set_option maxHeartbeats 400000 in
theorem ct_X0_led (l : Launch) (hT : l.stackTraces = false) {g : gWM} {la : Nat} {bb : Nat} {B : gBar} {R : Nat → Int32} {d : Int32} {tp mm um : Nat} {tr fa wh : Int32} (p : Int32) (hw : wfB B) (hSo : pSo g (.ref bb) tp tr fa wh mm um) (hLd : pLd g 1010 (.ref bb) B R d) (hBr : pBr g bb B) (hb9 : 10000 ≤ bb) (hLa : ∃ f, g la = some (.inl (3, 1, .inr (.inl f)))) (hla : 5000 ≤ la) : gCtL l yX0_led cX0_led 4 (some .int) [(0, 9, 12, 13)] 7 1 6 104 [.ref 1000, .int p, .ref la] g (fun v g1 => v = some (.int (oT (sLed B d p))) ∧ (∃ f, g1 la = some (.inl (3, 1, .inr (.inl f))) ∧ ∀ j, sLed B d p = some j → f 0 = (nI j).toInt64) ∧ ∀ j, j ≠ la → g1 j = g j) := by
  refine gCtL.of RX0 (by decide) rfl (lo := [some (.ref 1000), some (.int p), some (.ref la), none]) 1 rfl (Nat.le_of_ble_eq_true rfl) (fun z E Rt Tb Lz => ?_)
  have hw_n := hw.1
  have hSo_o := hSo
  obtain ⟨hSo_F, hSo_a, hSo_0, hSo_1, hSo_2, hSo_3, hSo_4, hSo_5, hSo_6, hSo_7, hSo_8, hSo_9, hSo_10, hSo_11, hSo_12, hSo_13, hSo_14, hSo_15, hSo_16, hSo_17, hSo_18, hSo_19⟩ := hSo_o
  have hLd_o := hLd
  obtain ⟨⟨hLd_F, hLd_a, hLd_0, hLd_1, hLd_2, hLd_3, hLd_4, hLd_5⟩, ⟨hLd_s, hLd_sa, hLd_sb⟩, ⟨hLd_e, hLd_ea, hLd_eb⟩, hLd_p, hLd_pa, hLd_pb⟩ := hLd_o
  have hBr_o := hBr
  obtain ⟨⟨hBr_F, hBr_a, hBr_0, hBr_1, hBr_2, hBr_3, hBr_4, hBr_5, hBr_6, hBr_7, hBr_8, hBr_9, hBr_10, hBr_11, hBr_12, hBr_13, hBr_14, hBr_15⟩, ⟨hBr_f1, hBr_a1, hBr_b1⟩, ⟨hBr_f2, hBr_a2, hBr_b2⟩, ⟨hBr_f3, hBr_a3, hBr_b3⟩, ⟨hBr_f4, hBr_a4, hBr_b4⟩, ⟨hBr_f5, hBr_a5, hBr_b5⟩, ⟨hBr_f6, hBr_a6, hBr_b6⟩, ⟨hBr_f7, hBr_a7, hBr_b7⟩, hBr_c1, hBr_c2, hBr_c3, hBr_c4, hBr_c5⟩ := hBr_o
  obtain ⟨hLa_f, hLa_a⟩ := hLa
  refine g_aload_n E dX0_led_0 rfl rfl rfl ?_
  refine g_iconst E (v := 0) dX0_led_1 (by decide) rfl ?_
  refine g_aload_n E dX0_led_2 rfl rfl rfl ?_
  refine g_iload_n E dX0_led_3 rfl rfl rfl ?_
  refine g_callVE (k := 1000) (n9 := 1) (av := [.int p]) (st := [.int 0, .ref la]) E Tb Lz (ct_X1_led l hT p hw hSo hLd hBr hb9) gciX1 dX0_led_4 hSo_a q1709 q1710 q1711 q120 q1712 (by decide +kernel) rfl rfl ⟨by decide, by decide⟩ ⟨by decide, by decide⟩ (Nat.le_of_ble_eq_true rfl) rfl ⟨by decide, by decide⟩ (by decide) q1708 q1715 dX0_led_12 rfl (by decide) rfl (fun v9 g9 h9q => ?_) (fun hpx => ?_)
  · obtain ⟨j, hj, rfl, rfl⟩ := h9q
    refine g_i2l E dX0_led_7 rfl ?_
    refine g_last E dX0_led_8 (j := 0) hLa_a (rfl) (by omega) (by decide) rfl (g_upk (fun g1 h1 f1 => ?_))
    refine g_goto E dX0_led_9 (tgt := 15) (by decide) ?_
    refine g_iconst E (v := 0) dX0_led_15 (by decide) rfl ?_
    exact g_iret E Rt dX0_led_16 rfl (by decide) (by decide) (by rw [hj]; exact ⟨rfl, ⟨_, h1, fun j9 h9 => by cases h9; rfl⟩, fun j9 h9 => f1 j9 (by omega)⟩)
  · refine g_iconst E (v := 1) dX0_led_13 (by decide) rfl ?_
    exact g_iret E Rt dX0_led_14 rfl (by decide) (by decide) (by rw [hpx]; exact ⟨rfl, ⟨_, hLa_a, fun j9 h9 => by cases h9⟩, fun j9 h9 => rfl⟩)
set_option maxHeartbeats 400000 in
theorem ct_X0_led_N (l : Launch) (hT : l.stackTraces = false) {g : gWM} {la : Nat} {tp mm um : Nat} {tr fa wh : Int32} (p : Int32) (hSo : pSo g .null tp tr fa wh mm um) (hLa : ∃ f, g la = some (.inl (3, 1, .inr (.inl f)))) (hla : 5000 ≤ la) : gCtL l yX0_led cX0_led 4 (some .int) [(0, 9, 12, 13)] 7 1 6 104 [.ref 1000, .int p, .ref la] g (fun v g1 => v = some (.int (oT (sLed zB0 0 p))) ∧ (∃ f, g1 la = some (.inl (3, 1, .inr (.inl f))) ∧ ∀ j, sLed zB0 0 p = some j → f 0 = (nI j).toInt64) ∧ ∀ j, j ≠ la → g1 j = g j) := by
  refine gCtL.of RX0 (by decide) rfl (lo := [some (.ref 1000), some (.int p), some (.ref la), none]) 1 rfl (Nat.le_of_ble_eq_true rfl) (fun z E Rt Tb Lz => ?_)
  have hSo_o := hSo
  obtain ⟨hSo_F, hSo_a, hSo_0, hSo_1, hSo_2, hSo_3, hSo_4, hSo_5, hSo_6, hSo_7, hSo_8, hSo_9, hSo_10, hSo_11, hSo_12, hSo_13, hSo_14, hSo_15, hSo_16, hSo_17, hSo_18, hSo_19⟩ := hSo_o
  obtain ⟨hLa_f, hLa_a⟩ := hLa
  refine g_aload_n E dX0_led_0 rfl rfl rfl ?_
  refine g_iconst E (v := 0) dX0_led_1 (by decide) rfl ?_
  refine g_aload_n E dX0_led_2 rfl rfl rfl ?_
  refine g_iload_n E dX0_led_3 rfl rfl rfl ?_
  refine g_callVE (k := 1000) (n9 := 1) (av := [.int p]) (st := [.int 0, .ref la]) E Tb Lz (ct_X1_led_N l hT p hSo) gciX1 dX0_led_4 hSo_a q1709 q1710 q1711 q120 q1712 (by decide +kernel) rfl rfl ⟨by decide, by decide⟩ ⟨by decide, by decide⟩ (Nat.le_of_ble_eq_true rfl) rfl ⟨by decide, by decide⟩ (by decide) q1708 q1715 dX0_led_12 rfl (by decide) rfl (fun v9 g9 h9q => ?_) (fun hpx => ?_)
  · obtain ⟨j, hj, rfl, rfl⟩ := h9q
    refine g_i2l E dX0_led_7 rfl ?_
    refine g_last E dX0_led_8 (j := 0) hLa_a (rfl) (by omega) (by decide) rfl (g_upk (fun g1 h1 f1 => ?_))
    refine g_goto E dX0_led_9 (tgt := 15) (by decide) ?_
    refine g_iconst E (v := 0) dX0_led_15 (by decide) rfl ?_
    exact g_iret E Rt dX0_led_16 rfl (by decide) (by decide) (by rw [hj]; exact ⟨rfl, ⟨_, h1, fun j9 h9 => by cases h9; rfl⟩, fun j9 h9 => f1 j9 (by omega)⟩)
  · refine g_iconst E (v := 1) dX0_led_13 (by decide) rfl ?_
    exact g_iret E Rt dX0_led_14 rfl (by decide) (by decide) (by rw [hpx]; exact ⟨rfl, ⟨_, hLa_a, fun j9 h9 => by cases h9⟩, fun j9 h9 => rfl⟩)
