/-! WALKS, fourth: the main object: helpers and questions -/
set_option maxRecDepth 100000
set_option maxHeartbeats 400000 in
theorem ct_X1_anew (l : Launch) {g : gWM} {bar : Value} {tp mm um : Nat} {tr fa wh : Int32} (hSo : pSo g bar tp tr fa wh mm um) : gCt l yX1_anew cX1_anew 1 none 0 0 0 0 [.ref 1000] g (gPn (fun g1 => pSo g1 bar tp 0 fa (-1) mm um ∧ ∀ j, j ≠ 1000 → g1 j = g j)) := by
  refine gCt.of RX1 (by decide) rfl (lo := [some (.ref 1000)]) 0 rfl (Nat.le_of_ble_eq_true rfl) (fun z E Rt => ?_)
  have hSo_o := hSo
  obtain ⟨hSo_F, hSo_a, hSo_0, hSo_1, hSo_2, hSo_3, hSo_4, hSo_5, hSo_6, hSo_7, hSo_8, hSo_9, hSo_10, hSo_11, hSo_12, hSo_13, hSo_14, hSo_15, hSo_16, hSo_17, hSo_18, hSo_19⟩ := hSo_o
  refine g_aload_n E dX1_anew_0 rfl rfl rfl ?_
  refine g_iconst E (v := 0) dX1_anew_1 (by decide) rfl ?_
  refine g_putf E gciX1 (v := .int 0) dX1_anew_2 hSo_a 4 rfl (by decide) q426 (.inl rfl) rfl (fun _ => rfl) (fun _ => rfl) rfl (g_upk (fun g1 h1 f1 => ?_))
  refine g_aload_n E dX1_anew_5 rfl rfl rfl ?_
  refine g_iconst E (v := (-1)) dX1_anew_6 (by decide) rfl ?_
  refine g_putf E gciX1 (v := .int (-1)) dX1_anew_7 h1 6 rfl (by decide) q428 (.inl rfl) rfl (fun _ => rfl) (fun _ => rfl) rfl (g_upk (fun g2 h2 f2 => ?_))
  exact g_vret E Rt dX1_anew_10 rfl (by decide) (by decide) (⟨rfl, ⟨_, h2, hSo_0, hSo_1, hSo_2, hSo_3, rfl, hSo_5, rfl, hSo_7, hSo_8, hSo_9, hSo_10, hSo_11, hSo_12, hSo_13, hSo_14, hSo_15, hSo_16, hSo_17, hSo_18, hSo_19⟩, fun j9 h9 => (f2 j9 (by omega)).trans (f1 j9 (by omega))⟩)
set_option maxHeartbeats 400000 in
theorem ct_X1_no (l : Launch) {g : gWM} {bar : Value} {tp mm um : Nat} {tr fa wh : Int32} (c : Int32) (hSo : pSo g bar tp tr fa wh mm um) : gCt l yX1_no cX1_no 2 (some .int) 0 0 0 0 [.ref 1000, .int c] g (gPi (-1) (fun g1 => pSo g1 bar tp c fa wh mm um ∧ ∀ j, j ≠ 1000 → g1 j = g j)) := by
  refine gCt.of RX1 (by decide) rfl (lo := [some (.ref 1000), some (.int c)]) 0 rfl (Nat.le_of_ble_eq_true rfl) (fun z E Rt => ?_)
  have hSo_o := hSo
  obtain ⟨hSo_F, hSo_a, hSo_0, hSo_1, hSo_2, hSo_3, hSo_4, hSo_5, hSo_6, hSo_7, hSo_8, hSo_9, hSo_10, hSo_11, hSo_12, hSo_13, hSo_14, hSo_15, hSo_16, hSo_17, hSo_18, hSo_19⟩ := hSo_o
  refine g_aload_n E dX1_no_0 rfl rfl rfl ?_
  refine g_iload_n E dX1_no_1 rfl rfl rfl ?_
  refine g_putf E gciX1 (v := .int c) dX1_no_2 hSo_a 4 rfl (by decide) q426 (.inl rfl) rfl (fun _ => rfl) (fun _ => rfl) rfl (g_upk (fun g1 h1 f1 => ?_))
  refine g_iconst E (v := (-1)) dX1_no_5 (by decide) rfl ?_
  exact g_iret E Rt dX1_no_6 rfl (by decide) (by decide) (⟨rfl, ⟨_, h1, hSo_0, hSo_1, hSo_2, hSo_3, rfl, hSo_5, hSo_6, hSo_7, hSo_8, hSo_9, hSo_10, hSo_11, hSo_12, hSo_13, hSo_14, hSo_15, hSo_16, hSo_17, hSo_18, hSo_19⟩, fun j9 h9 => f1 j9 (by omega)⟩)
set_option maxHeartbeats 400000 in
theorem ct_X1_less (l : Launch) {g : gWM} {bar : Value} {tp mm um : Nat} {tr fa wh : Int32} (c : Int32) (hSo : pSo g bar tp tr fa wh mm um) : gCt l yX1_less cX1_less 2 (some .int) 0 0 0 0 [.ref 1000, .int c] g (gPi (-10000) (fun g1 => pSo g1 bar tp c fa wh mm um ∧ ∀ j, j ≠ 1000 → g1 j = g j)) := by
  refine gCt.of RX1 (by decide) rfl (lo := [some (.ref 1000), some (.int c)]) 0 rfl (Nat.le_of_ble_eq_true rfl) (fun z E Rt => ?_)
  have hSo_o := hSo
  obtain ⟨hSo_F, hSo_a, hSo_0, hSo_1, hSo_2, hSo_3, hSo_4, hSo_5, hSo_6, hSo_7, hSo_8, hSo_9, hSo_10, hSo_11, hSo_12, hSo_13, hSo_14, hSo_15, hSo_16, hSo_17, hSo_18, hSo_19⟩ := hSo_o
  refine g_aload_n E dX1_less_0 rfl rfl rfl ?_
  refine g_iload_n E dX1_less_1 rfl rfl rfl ?_
  refine g_putf E gciX1 (v := .int c) dX1_less_2 hSo_a 4 rfl (by decide) q426 (.inl rfl) rfl (fun _ => rfl) (fun _ => rfl) rfl (g_upk (fun g1 h1 f1 => ?_))
  refine g_sipush E (v := (-10000)) dX1_less_5 (by decide) rfl ?_
  exact g_iret E Rt dX1_less_8 rfl (by decide) (by decide) (⟨rfl, ⟨_, h1, hSo_0, hSo_1, hSo_2, hSo_3, rfl, hSo_5, hSo_6, hSo_7, hSo_8, hSo_9, hSo_10, hSo_11, hSo_12, hSo_13, hSo_14, hSo_15, hSo_16, hSo_17, hSo_18, hSo_19⟩, fun j9 h9 => f1 j9 (by omega)⟩)
set_option maxHeartbeats 400000 in
theorem ct_X1_yes (l : Launch) {g : gWM} {bar : Value} {tp mm um : Nat} {tr fa wh : Int32} (c : Int32) (hSo : pSo g bar tp tr fa wh mm um) : gCt l yX1_yes cX1_yes 2 (some .boolean) 1 0 0 20 [.ref 1000, .int c] g (gPi (zb (decide (c = 0))) (fun g1 => pSo g1 bar tp c fa (-1) mm um ∧ ∀ j, j ≠ 1000 → g1 j = g j)) := by
  refine gCt.of RX1 (by decide) rfl (lo := [some (.ref 1000), some (.int c)]) 0 rfl (Nat.le_of_ble_eq_true rfl) (fun z E Rt => ?_)
  have hSo_o := hSo
  obtain ⟨hSo_F, hSo_a, hSo_0, hSo_1, hSo_2, hSo_3, hSo_4, hSo_5, hSo_6, hSo_7, hSo_8, hSo_9, hSo_10, hSo_11, hSo_12, hSo_13, hSo_14, hSo_15, hSo_16, hSo_17, hSo_18, hSo_19⟩ := hSo_o
  refine g_aload_n E dX1_yes_0 rfl rfl rfl ?_
  refine g_callV (k := 1000) (n9 := 0) (av := []) (st := []) E (ct_X1_anew l hSo) gciX1 dX1_yes_1 hSo_a q496 q498 qs2 q120 q499 (by decide +kernel) rfl rfl ⟨by decide, by decide⟩ ⟨by decide, by decide⟩ (Nat.le_of_ble_eq_true rfl) rfl (gPn.k (fun g1 h1 => ?_))
  obtain ⟨hs1, f1⟩ := h1
  have hs1_o := hs1
  obtain ⟨hs1_F, hs1_a, hs1_0, hs1_1, hs1_2, hs1_3, hs1_4, hs1_5, hs1_6, hs1_7, hs1_8, hs1_9, hs1_10, hs1_11, hs1_12, hs1_13, hs1_14, hs1_15, hs1_16, hs1_17, hs1_18, hs1_19⟩ := hs1_o
  refine g_aload_n E dX1_yes_4 rfl rfl rfl ?_
  refine g_iload_n E dX1_yes_5 rfl rfl rfl ?_
  refine g_putf E gciX1 (v := .int c) dX1_yes_6 hs1_a 4 rfl (by decide) q426 (.inl rfl) rfl (fun _ => rfl) (fun _ => rfl) rfl (g_upk (fun g2 h2 f2 => ?_))
  refine g_iload_n E dX1_yes_9 rfl rfl rfl ?_
  refine g_if_ne E dX1_yes_10 (tgt := 17) (by decide) rfl (fun c10 => ?_) (fun c10 => ?_)
  · refine g_iconst E (v := 0) dX1_yes_17 (by decide) rfl ?_
    exact g_zret E Rt dX1_yes_18 rfl (by decide) (by decide) (by decide) (⟨congrArg (fun x => some (Value.int x)) (by simp [zb, c10]), ⟨_, h2, hs1_0, hs1_1, hs1_2, hs1_3, rfl, hs1_5, hs1_6, hs1_7, hs1_8, hs1_9, hs1_10, hs1_11, hs1_12, hs1_13, hs1_14, hs1_15, hs1_16, hs1_17, hs1_18, hs1_19⟩, fun j9 h9 => (f2 j9 (by omega)).trans (f1 j9 (by omega))⟩)
  · refine g_iconst E (v := 1) dX1_yes_13 (by decide) rfl ?_
    refine g_goto E dX1_yes_14 (tgt := 18) (by decide) ?_
    exact g_zret E Rt dX1_yes_18 rfl (by decide) (by decide) (by decide) (⟨congrArg (fun x => some (Value.int x)) (by simp [zb, c10]), ⟨_, h2, hs1_0, hs1_1, hs1_2, hs1_3, rfl, hs1_5, hs1_6, hs1_7, hs1_8, hs1_9, hs1_10, hs1_11, hs1_12, hs1_13, hs1_14, hs1_15, hs1_16, hs1_17, hs1_18, hs1_19⟩, fun j9 h9 => (f2 j9 (by omega)).trans (f1 j9 (by omega))⟩)
set_option maxHeartbeats 400000 in
theorem ct_X1_isGood (l : Launch) {g : gWM} {bb : Nat} {B : gBar} {tp mm um : Nat} {tr fa wh : Int32} (p : Int32) (hw : wfB B) (hSo : pSo g (.ref bb) tp tr fa wh mm um) (hBr : pBr g bb B) : gCt l yX1_isGood cX1_isGood 2 (some .boolean) 1 0 0 22 [.ref 1000, .int p] g (gPu (.int (zb (qI (B 0 3) p).isSome)) g) := by
  refine gCt.of RX1 (by decide) rfl (lo := [some (.ref 1000), some (.int p)]) 0 rfl (Nat.le_of_ble_eq_true rfl) (fun z E Rt => ?_)
  have hw_n := hw.1
  have hSo_o := hSo
  obtain ⟨hSo_F, hSo_a, hSo_0, hSo_1, hSo_2, hSo_3, hSo_4, hSo_5, hSo_6, hSo_7, hSo_8, hSo_9, hSo_10, hSo_11, hSo_12, hSo_13, hSo_14, hSo_15, hSo_16, hSo_17, hSo_18, hSo_19⟩ := hSo_o
  have hBr_o := hBr
  obtain ⟨⟨hBr_F, hBr_a, hBr_0, hBr_1, hBr_2, hBr_3, hBr_4, hBr_5, hBr_6, hBr_7, hBr_8, hBr_9, hBr_10, hBr_11, hBr_12, hBr_13, hBr_14, hBr_15⟩, ⟨hBr_f1, hBr_a1, hBr_b1⟩, ⟨hBr_f2, hBr_a2, hBr_b2⟩, ⟨hBr_f3, hBr_a3, hBr_b3⟩, ⟨hBr_f4, hBr_a4, hBr_b4⟩, ⟨hBr_f5, hBr_a5, hBr_b5⟩, ⟨hBr_f6, hBr_a6, hBr_b6⟩, ⟨hBr_f7, hBr_a7, hBr_b7⟩, hBr_c1, hBr_c2, hBr_c3, hBr_c4, hBr_c5⟩ := hBr_o
  refine g_aload_n E dX1_isGood_0 rfl rfl rfl ?_
  refine g_getf E gciX1 dX1_isGood_1 hSo_a 3 rfl (by decide) q425 (.inl rfl) (.ref bb) (hSo_3) rfl ?_
  refine g_ifnullN E dX1_isGood_4 rfl ?_
  refine g_iload_n E dX1_isGood_7 rfl rfl rfl ?_
  refine g_iconst E (v := 0) dX1_isGood_8 (by decide) rfl ?_
  refine g_aload_n E dX1_isGood_9 rfl rfl rfl ?_
  refine g_getf E gciX1 dX1_isGood_10 hSo_a 3 rfl (by decide) q425 (.inl rfl) (.ref bb) (hSo_3) rfl ?_
  refine g_getf E gciX14 dX1_isGood_13 hBr_a 12 rfl (by decide) q572 (.inl rfl) (.int (nI (B 0 3))) (hBr_12) rfl ?_
  refine g_iconst E (v := 1) dX1_isGood_16 (by decide) rfl ?_
  refine g_isub E dX1_isGood_17 rfl ?_
  refine g_callS (n9 := 3) (av := [.int p, .int 0, .int ((nI (B 0 3)) - 1)]) (st := []) E (ct_X1_in l p 0 ((nI (B 0 3)) - 1)) dX1_isGood_18 q500 q501 q120 q502 (by decide +kernel) rfl rfl ⟨by decide, by decide⟩ ⟨by decide, by decide⟩ (Nat.le_of_ble_eq_true rfl) rfl (gPu.k ?_)
  refine g_if_eq E dX1_isGood_21 (tgt := 28) (by decide) rfl (fun c21 => ?_) (fun c21 => ?_)
  · have c21 := zb_0.mp c21
    refine g_iconst E (v := 0) dX1_isGood_28 (by decide) rfl ?_
    exact g_zret E Rt dX1_isGood_29 rfl (by decide) (by decide) (by decide) (⟨congrArg (fun x => some (Value.int x)) (by simp [qI, zb, c21]), rfl⟩)
  · have c21 := zb_n0.mp c21
    refine g_iconst E (v := 1) dX1_isGood_24 (by decide) rfl ?_
    refine g_goto E dX1_isGood_25 (tgt := 29) (by decide) ?_
    exact g_zret E Rt dX1_isGood_29 rfl (by decide) (by decide) (by decide) (⟨congrArg (fun x => some (Value.int x)) (by simp [qI, zb, c21]), rfl⟩)
set_option maxHeartbeats 400000 in
theorem ct_X1_isGood_N (l : Launch) {g : gWM} {tp mm um : Nat} {tr fa wh : Int32} (p : Int32) (hSo : pSo g .null tp tr fa wh mm um) : gCt l yX1_isGood cX1_isGood 2 (some .boolean) 0 0 0 0 [.ref 1000, .int p] g (gPu (.int 0) g) := by
  refine gCt.of RX1 (by decide) rfl (lo := [some (.ref 1000), some (.int p)]) 0 rfl (Nat.le_of_ble_eq_true rfl) (fun z E Rt => ?_)
  have hSo_o := hSo
  obtain ⟨hSo_F, hSo_a, hSo_0, hSo_1, hSo_2, hSo_3, hSo_4, hSo_5, hSo_6, hSo_7, hSo_8, hSo_9, hSo_10, hSo_11, hSo_12, hSo_13, hSo_14, hSo_15, hSo_16, hSo_17, hSo_18, hSo_19⟩ := hSo_o
  refine g_aload_n E dX1_isGood_0 rfl rfl rfl ?_
  refine g_getf E gciX1 dX1_isGood_1 hSo_a 3 rfl (by decide) q425 (.inl rfl) (.null) (hSo_3) rfl ?_
  refine g_ifnullY E dX1_isGood_4 (tgt := 28) (by decide) ?_
  refine g_iconst E (v := 0) dX1_isGood_28 (by decide) rfl ?_
  exact g_zret E Rt dX1_isGood_29 rfl (by decide) (by decide) (by decide) (⟨rfl, rfl⟩)
set_option maxHeartbeats 400000 in
theorem ct_X1_isPerson (l : Launch) {g : gWM} {bb : Nat} {B : gBar} {tp mm um : Nat} {tr fa wh : Int32} (p : Int32) (hw : wfB B) (hSo : pSo g (.ref bb) tp tr fa wh mm um) (hBr : pBr g bb B) : gCt l yX1_isPerson cX1_isPerson 2 (some .boolean) 1 0 0 22 [.ref 1000, .int p] g (gPu (.int (zb (qI (B 0 1) p).isSome)) g) := by
  refine gCt.of RX1 (by decide) rfl (lo := [some (.ref 1000), some (.int p)]) 0 rfl (Nat.le_of_ble_eq_true rfl) (fun z E Rt => ?_)
  have hw_n := hw.1
  have hSo_o := hSo
  obtain ⟨hSo_F, hSo_a, hSo_0, hSo_1, hSo_2, hSo_3, hSo_4, hSo_5, hSo_6, hSo_7, hSo_8, hSo_9, hSo_10, hSo_11, hSo_12, hSo_13, hSo_14, hSo_15, hSo_16, hSo_17, hSo_18, hSo_19⟩ := hSo_o
  have hBr_o := hBr
  obtain ⟨⟨hBr_F, hBr_a, hBr_0, hBr_1, hBr_2, hBr_3, hBr_4, hBr_5, hBr_6, hBr_7, hBr_8, hBr_9, hBr_10, hBr_11, hBr_12, hBr_13, hBr_14, hBr_15⟩, ⟨hBr_f1, hBr_a1, hBr_b1⟩, ⟨hBr_f2, hBr_a2, hBr_b2⟩, ⟨hBr_f3, hBr_a3, hBr_b3⟩, ⟨hBr_f4, hBr_a4, hBr_b4⟩, ⟨hBr_f5, hBr_a5, hBr_b5⟩, ⟨hBr_f6, hBr_a6, hBr_b6⟩, ⟨hBr_f7, hBr_a7, hBr_b7⟩, hBr_c1, hBr_c2, hBr_c3, hBr_c4, hBr_c5⟩ := hBr_o
  refine g_aload_n E dX1_isPerson_0 rfl rfl rfl ?_
  refine g_getf E gciX1 dX1_isPerson_1 hSo_a 3 rfl (by decide) q425 (.inl rfl) (.ref bb) (hSo_3) rfl ?_
  refine g_ifnullN E dX1_isPerson_4 rfl ?_
  refine g_iload_n E dX1_isPerson_7 rfl rfl rfl ?_
  refine g_iconst E (v := 0) dX1_isPerson_8 (by decide) rfl ?_
  refine g_aload_n E dX1_isPerson_9 rfl rfl rfl ?_
  refine g_getf E gciX1 dX1_isPerson_10 hSo_a 3 rfl (by decide) q425 (.inl rfl) (.ref bb) (hSo_3) rfl ?_
  refine g_getf E gciX14 dX1_isPerson_13 hBr_a 10 rfl (by decide) q562 (.inl rfl) (.int (nI (B 0 1))) (hBr_10) rfl ?_
  refine g_iconst E (v := 1) dX1_isPerson_16 (by decide) rfl ?_
  refine g_isub E dX1_isPerson_17 rfl ?_
  refine g_callS (n9 := 3) (av := [.int p, .int 0, .int ((nI (B 0 1)) - 1)]) (st := []) E (ct_X1_in l p 0 ((nI (B 0 1)) - 1)) dX1_isPerson_18 q500 q501 q120 q502 (by decide +kernel) rfl rfl ⟨by decide, by decide⟩ ⟨by decide, by decide⟩ (Nat.le_of_ble_eq_true rfl) rfl (gPu.k ?_)
  refine g_if_eq E dX1_isPerson_21 (tgt := 28) (by decide) rfl (fun c21 => ?_) (fun c21 => ?_)
  · have c21 := zb_0.mp c21
    refine g_iconst E (v := 0) dX1_isPerson_28 (by decide) rfl ?_
    exact g_zret E Rt dX1_isPerson_29 rfl (by decide) (by decide) (by decide) (⟨congrArg (fun x => some (Value.int x)) (by simp [qI, zb, c21]), rfl⟩)
  · have c21 := zb_n0.mp c21
    refine g_iconst E (v := 1) dX1_isPerson_24 (by decide) rfl ?_
    refine g_goto E dX1_isPerson_25 (tgt := 29) (by decide) ?_
    exact g_zret E Rt dX1_isPerson_29 rfl (by decide) (by decide) (by decide) (⟨congrArg (fun x => some (Value.int x)) (by simp [qI, zb, c21]), rfl⟩)
set_option maxHeartbeats 400000 in
theorem ct_X1_isPerson_N (l : Launch) {g : gWM} {tp mm um : Nat} {tr fa wh : Int32} (p : Int32) (hSo : pSo g .null tp tr fa wh mm um) : gCt l yX1_isPerson cX1_isPerson 2 (some .boolean) 0 0 0 0 [.ref 1000, .int p] g (gPu (.int 0) g) := by
  refine gCt.of RX1 (by decide) rfl (lo := [some (.ref 1000), some (.int p)]) 0 rfl (Nat.le_of_ble_eq_true rfl) (fun z E Rt => ?_)
  have hSo_o := hSo
  obtain ⟨hSo_F, hSo_a, hSo_0, hSo_1, hSo_2, hSo_3, hSo_4, hSo_5, hSo_6, hSo_7, hSo_8, hSo_9, hSo_10, hSo_11, hSo_12, hSo_13, hSo_14, hSo_15, hSo_16, hSo_17, hSo_18, hSo_19⟩ := hSo_o
  refine g_aload_n E dX1_isPerson_0 rfl rfl rfl ?_
  refine g_getf E gciX1 dX1_isPerson_1 hSo_a 3 rfl (by decide) q425 (.inl rfl) (.null) (hSo_3) rfl ?_
  refine g_ifnullY E dX1_isPerson_4 (tgt := 28) (by decide) ?_
  refine g_iconst E (v := 0) dX1_isPerson_28 (by decide) rfl ?_
  exact g_zret E Rt dX1_isPerson_29 rfl (by decide) (by decide) (by decide) (⟨rfl, rfl⟩)
set_option maxHeartbeats 400000 in
theorem ct_X1_isGate (l : Launch) {g : gWM} {bb : Nat} {B : gBar} {tp mm um : Nat} {tr fa wh : Int32} (p : Int32) (hw : wfB B) (hSo : pSo g (.ref bb) tp tr fa wh mm um) (hBr : pBr g bb B) : gCt l yX1_isGate cX1_isGate 2 (some .boolean) 1 0 0 22 [.ref 1000, .int p] g (gPu (.int (zb (qI (B 0 2) p).isSome)) g) := by
  refine gCt.of RX1 (by decide) rfl (lo := [some (.ref 1000), some (.int p)]) 0 rfl (Nat.le_of_ble_eq_true rfl) (fun z E Rt => ?_)
  have hw_n := hw.1
  have hSo_o := hSo
  obtain ⟨hSo_F, hSo_a, hSo_0, hSo_1, hSo_2, hSo_3, hSo_4, hSo_5, hSo_6, hSo_7, hSo_8, hSo_9, hSo_10, hSo_11, hSo_12, hSo_13, hSo_14, hSo_15, hSo_16, hSo_17, hSo_18, hSo_19⟩ := hSo_o
  have hBr_o := hBr
  obtain ⟨⟨hBr_F, hBr_a, hBr_0, hBr_1, hBr_2, hBr_3, hBr_4, hBr_5, hBr_6, hBr_7, hBr_8, hBr_9, hBr_10, hBr_11, hBr_12, hBr_13, hBr_14, hBr_15⟩, ⟨hBr_f1, hBr_a1, hBr_b1⟩, ⟨hBr_f2, hBr_a2, hBr_b2⟩, ⟨hBr_f3, hBr_a3, hBr_b3⟩, ⟨hBr_f4, hBr_a4, hBr_b4⟩, ⟨hBr_f5, hBr_a5, hBr_b5⟩, ⟨hBr_f6, hBr_a6, hBr_b6⟩, ⟨hBr_f7, hBr_a7, hBr_b7⟩, hBr_c1, hBr_c2, hBr_c3, hBr_c4, hBr_c5⟩ := hBr_o
  refine g_aload_n E dX1_isGate_0 rfl rfl rfl ?_
  refine g_getf E gciX1 dX1_isGate_1 hSo_a 3 rfl (by decide) q425 (.inl rfl) (.ref bb) (hSo_3) rfl ?_
  refine g_ifnullN E dX1_isGate_4 rfl ?_
  refine g_iload_n E dX1_isGate_7 rfl rfl rfl ?_
  refine g_iconst E (v := 0) dX1_isGate_8 (by decide) rfl ?_
  refine g_aload_n E dX1_isGate_9 rfl rfl rfl ?_
  refine g_getf E gciX1 dX1_isGate_10 hSo_a 3 rfl (by decide) q425 (.inl rfl) (.ref bb) (hSo_3) rfl ?_
  refine g_getf E gciX14 dX1_isGate_13 hBr_a 11 rfl (by decide) q565 (.inl rfl) (.int (nI (B 0 2))) (hBr_11) rfl ?_
  refine g_iconst E (v := 1) dX1_isGate_16 (by decide) rfl ?_
  refine g_isub E dX1_isGate_17 rfl ?_
  refine g_callS (n9 := 3) (av := [.int p, .int 0, .int ((nI (B 0 2)) - 1)]) (st := []) E (ct_X1_in l p 0 ((nI (B 0 2)) - 1)) dX1_isGate_18 q500 q501 q120 q502 (by decide +kernel) rfl rfl ⟨by decide, by decide⟩ ⟨by decide, by decide⟩ (Nat.le_of_ble_eq_true rfl) rfl (gPu.k ?_)
  refine g_if_eq E dX1_isGate_21 (tgt := 28) (by decide) rfl (fun c21 => ?_) (fun c21 => ?_)
  · have c21 := zb_0.mp c21
    refine g_iconst E (v := 0) dX1_isGate_28 (by decide) rfl ?_
    exact g_zret E Rt dX1_isGate_29 rfl (by decide) (by decide) (by decide) (⟨congrArg (fun x => some (Value.int x)) (by simp [qI, zb, c21]), rfl⟩)
  · have c21 := zb_n0.mp c21
    refine g_iconst E (v := 1) dX1_isGate_24 (by decide) rfl ?_
    refine g_goto E dX1_isGate_25 (tgt := 29) (by decide) ?_
    exact g_zret E Rt dX1_isGate_29 rfl (by decide) (by decide) (by decide) (⟨congrArg (fun x => some (Value.int x)) (by simp [qI, zb, c21]), rfl⟩)
set_option maxHeartbeats 400000 in
theorem ct_X1_isGate_N (l : Launch) {g : gWM} {tp mm um : Nat} {tr fa wh : Int32} (p : Int32) (hSo : pSo g .null tp tr fa wh mm um) : gCt l yX1_isGate cX1_isGate 2 (some .boolean) 0 0 0 0 [.ref 1000, .int p] g (gPu (.int 0) g) := by
  refine gCt.of RX1 (by decide) rfl (lo := [some (.ref 1000), some (.int p)]) 0 rfl (Nat.le_of_ble_eq_true rfl) (fun z E Rt => ?_)
  have hSo_o := hSo
  obtain ⟨hSo_F, hSo_a, hSo_0, hSo_1, hSo_2, hSo_3, hSo_4, hSo_5, hSo_6, hSo_7, hSo_8, hSo_9, hSo_10, hSo_11, hSo_12, hSo_13, hSo_14, hSo_15, hSo_16, hSo_17, hSo_18, hSo_19⟩ := hSo_o
  refine g_aload_n E dX1_isGate_0 rfl rfl rfl ?_
  refine g_getf E gciX1 dX1_isGate_1 hSo_a 3 rfl (by decide) q425 (.inl rfl) (.null) (hSo_3) rfl ?_
  refine g_ifnullY E dX1_isGate_4 (tgt := 28) (by decide) ?_
  refine g_iconst E (v := 0) dX1_isGate_28 (by decide) rfl ?_
  exact g_zret E Rt dX1_isGate_29 rfl (by decide) (by decide) (by decide) (⟨rfl, rfl⟩)
set_option maxHeartbeats 400000 in
theorem ct_X1_why (l : Launch) {g : gWM} {bar : Value} {tp mm um : Nat} {tr fa wh : Int32} (b : Bool) (dy : Int32) (hSo : pSo g bar tp tr fa wh mm um) : gCt l yX1_why cX1_why 3 (some .int) 1 0 0 22 [.ref 1000, .int (zb b), .int dy] g (gPu (.int (qWy b dy)) g) := by
  refine gCt.of RX1 (by decide) rfl (lo := [some (.ref 1000), some (.int (zb b)), some (.int dy)]) 0 rfl (Nat.le_of_ble_eq_true rfl) (fun z E Rt => ?_)
  have hSo_o := hSo
  obtain ⟨hSo_F, hSo_a, hSo_0, hSo_1, hSo_2, hSo_3, hSo_4, hSo_5, hSo_6, hSo_7, hSo_8, hSo_9, hSo_10, hSo_11, hSo_12, hSo_13, hSo_14, hSo_15, hSo_16, hSo_17, hSo_18, hSo_19⟩ := hSo_o
  refine g_iload_n E dX1_why_0 rfl rfl rfl ?_
  refine g_if_ne E dX1_why_1 (tgt := 8) (by decide) rfl (fun c1 => ?_) (fun c1 => ?_)
  · have c1 := zb_n0.mp c1
    refine g_iload_n E dX1_why_8 rfl rfl rfl ?_
    refine g_iconst E (v := 0) dX1_why_9 (by decide) rfl ?_
    refine g_bipush E (v := 60) dX1_why_10 (by decide) rfl ?_
    refine g_callS (n9 := 3) (av := [.int dy, .int 0, .int 60]) (st := []) E (ct_X1_in l dy 0 60) dX1_why_12 q500 q501 q120 q502 (by decide +kernel) rfl rfl ⟨by decide, by decide⟩ ⟨by decide, by decide⟩ (Nat.le_of_ble_eq_true rfl) rfl (gPu.k ?_)
    refine g_if_eq E dX1_why_15 (tgt := 22) (by decide) rfl (fun c15 => ?_) (fun c15 => ?_)
    · have c15 := zb_0.mp c15
      refine g_iconst E (v := 2) dX1_why_22 (by decide) rfl ?_
      exact g_iret E Rt dX1_why_23 rfl (by decide) (by decide) (⟨congrArg (fun x => some (Value.int x)) (by simp [qWy, c1, c15]), rfl⟩)
    · have c15 := zb_n0.mp c15
      refine g_iconst E (v := 0) dX1_why_18 (by decide) rfl ?_
      refine g_goto E dX1_why_19 (tgt := 23) (by decide) ?_
      exact g_iret E Rt dX1_why_23 rfl (by decide) (by decide) (⟨congrArg (fun x => some (Value.int x)) (by simp [qWy, c1, c15]), rfl⟩)
  · have c1 := zb_0.mp c1
    refine g_iconst E (v := 1) dX1_why_4 (by decide) rfl ?_
    refine g_goto E dX1_why_5 (tgt := 23) (by decide) ?_
    exact g_iret E Rt dX1_why_23 rfl (by decide) (by decide) (⟨congrArg (fun x => some (Value.int x)) (by simp [qWy, c1]), rfl⟩)
set_option maxHeartbeats 400000 in
theorem ct_X1_on (l : Launch) {g : gWM} {bb : Nat} {B : gBar} {R : Nat → Int32} {d : Int32} {tp mm um : Nat} {tr fa wh : Int32} (dy : Int32) (hw : wfB B) (hSo : pSo g (.ref bb) tp tr fa wh mm um) (hLd : pLd g 1010 (.ref bb) B R d) (hBr : pBr g bb B) : gCt l yX1_on cX1_on 2 (some .int) 0 0 0 0 [.ref 1000, .int dy] g (gPu (.int (d + dy)) g) := by
  refine gCt.of RX1 (by decide) rfl (lo := [some (.ref 1000), some (.int dy)]) 0 rfl (Nat.le_of_ble_eq_true rfl) (fun z E Rt => ?_)
  have hw_n := hw.1
  have hSo_o := hSo
  obtain ⟨hSo_F, hSo_a, hSo_0, hSo_1, hSo_2, hSo_3, hSo_4, hSo_5, hSo_6, hSo_7, hSo_8, hSo_9, hSo_10, hSo_11, hSo_12, hSo_13, hSo_14, hSo_15, hSo_16, hSo_17, hSo_18, hSo_19⟩ := hSo_o
  have hLd_o := hLd
  obtain ⟨⟨hLd_F, hLd_a, hLd_0, hLd_1, hLd_2, hLd_3, hLd_4, hLd_5⟩, ⟨hLd_s, hLd_sa, hLd_sb⟩, ⟨hLd_e, hLd_ea, hLd_eb⟩, hLd_p, hLd_pa, hLd_pb⟩ := hLd_o
  have hBr_o := hBr
  obtain ⟨⟨hBr_F, hBr_a, hBr_0, hBr_1, hBr_2, hBr_3, hBr_4, hBr_5, hBr_6, hBr_7, hBr_8, hBr_9, hBr_10, hBr_11, hBr_12, hBr_13, hBr_14, hBr_15⟩, ⟨hBr_f1, hBr_a1, hBr_b1⟩, ⟨hBr_f2, hBr_a2, hBr_b2⟩, ⟨hBr_f3, hBr_a3, hBr_b3⟩, ⟨hBr_f4, hBr_a4, hBr_b4⟩, ⟨hBr_f5, hBr_a5, hBr_b5⟩, ⟨hBr_f6, hBr_a6, hBr_b6⟩, ⟨hBr_f7, hBr_a7, hBr_b7⟩, hBr_c1, hBr_c2, hBr_c3, hBr_c4, hBr_c5⟩ := hBr_o
  refine g_aload_n E dX1_on_0 rfl rfl rfl ?_
  refine g_getf E gciX1 dX1_on_1 hSo_a 9 rfl (by decide) q431 (.inl rfl) (.ref 1010) (hSo_9) rfl ?_
  refine g_getf E gciX4 dX1_on_4 hLd_a 5 rfl (by decide) q297 (.inl rfl) (.int d) (hLd_5) rfl ?_
  refine g_iload_n E dX1_on_7 rfl rfl rfl ?_
  refine g_iadd E dX1_on_8 rfl ?_
  exact g_iret E Rt dX1_on_9 rfl (by decide) (by decide) (⟨rfl, rfl⟩)
set_option maxHeartbeats 400000 in
theorem ct_X1_crossWhy_N (l : Launch) {g : gWM} {tp mm um : Nat} {tr fa wh : Int32} (p q dy : Int32) (hSo : pSo g .null tp tr fa wh mm um) : gCt l yX1_crossWhy cX1_crossWhy 4 (some .int) 2 0 0 44 [.ref 1000, .int p, .int q, .int dy] g (gPu (.int 1) g) := by
  refine gCt.of RX1 (by decide) rfl (lo := [some (.ref 1000), some (.int p), some (.int q), some (.int dy)]) 0 rfl (Nat.le_of_ble_eq_true rfl) (fun z E Rt => ?_)
  have hSo_o := hSo
  obtain ⟨hSo_F, hSo_a, hSo_0, hSo_1, hSo_2, hSo_3, hSo_4, hSo_5, hSo_6, hSo_7, hSo_8, hSo_9, hSo_10, hSo_11, hSo_12, hSo_13, hSo_14, hSo_15, hSo_16, hSo_17, hSo_18, hSo_19⟩ := hSo_o
  refine g_aload_n E dX1_crossWhy_0 rfl rfl rfl ?_
  refine g_aload_n E dX1_crossWhy_1 rfl rfl rfl ?_
  refine g_iload_n E dX1_crossWhy_2 rfl rfl rfl ?_
  refine g_callV (k := 1000) (n9 := 1) (av := [.int p]) (st := [.ref 1000]) E (ct_X1_isPerson_N l p hSo) gciX1 dX1_crossWhy_3 hSo_a q1321 q1323 qs34 q120 q1324 (by decide +kernel) rfl rfl ⟨by decide, by decide⟩ ⟨by decide, by decide⟩ (Nat.le_of_ble_eq_true rfl) rfl (gPu.k ?_)
  refine g_if_eq E dX1_crossWhy_6 (tgt := 21) (by decide) rfl (fun _ => ?_) (fun h9 => absurd h9 (by decide))
  refine g_iconst E (v := 0) dX1_crossWhy_21 (by decide) rfl ?_
  refine g_iload_n E dX1_crossWhy_22 rfl rfl rfl ?_
  refine g_callV (k := 1000) (n9 := 2) (av := [.int 0, .int dy]) (st := []) E (ct_X1_why l false dy hSo) gciX1 dX1_crossWhy_23 hSo_a q1342 q1344 qs36 q120 q1345 (by decide +kernel) rfl rfl ⟨by decide, by decide⟩ ⟨by decide, by decide⟩ (Nat.le_of_ble_eq_true rfl) rfl (gPu.k ?_)
  exact g_iret E Rt dX1_crossWhy_26 rfl (by decide) (by decide) (⟨rfl, rfl⟩)
set_option maxHeartbeats 400000 in
theorem ct_X1_crossWhy (l : Launch) {g : gWM} {bb : Nat} {B : gBar} {tp mm um : Nat} {tr fa wh : Int32} (p q dy : Int32) (hw : wfB B) (hSo : pSo g (.ref bb) tp tr fa wh mm um) (hBr : pBr g bb B) : gCt l yX1_crossWhy cX1_crossWhy 4 (some .int) 2 0 0 44 [.ref 1000, .int p, .int q, .int dy] g (gPu (.int (qWy ((qI (B 0 1) p).isSome && (qI (B 0 2) q).isSome) dy)) g) := by
  refine gCt.of RX1 (by decide) rfl (lo := [some (.ref 1000), some (.int p), some (.int q), some (.int dy)]) 0 rfl (Nat.le_of_ble_eq_true rfl) (fun z E Rt => ?_)
  have hw_n := hw.1
  have hSo_o := hSo
  obtain ⟨hSo_F, hSo_a, hSo_0, hSo_1, hSo_2, hSo_3, hSo_4, hSo_5, hSo_6, hSo_7, hSo_8, hSo_9, hSo_10, hSo_11, hSo_12, hSo_13, hSo_14, hSo_15, hSo_16, hSo_17, hSo_18, hSo_19⟩ := hSo_o
  have hBr_o := hBr
  obtain ⟨⟨hBr_F, hBr_a, hBr_0, hBr_1, hBr_2, hBr_3, hBr_4, hBr_5, hBr_6, hBr_7, hBr_8, hBr_9, hBr_10, hBr_11, hBr_12, hBr_13, hBr_14, hBr_15⟩, ⟨hBr_f1, hBr_a1, hBr_b1⟩, ⟨hBr_f2, hBr_a2, hBr_b2⟩, ⟨hBr_f3, hBr_a3, hBr_b3⟩, ⟨hBr_f4, hBr_a4, hBr_b4⟩, ⟨hBr_f5, hBr_a5, hBr_b5⟩, ⟨hBr_f6, hBr_a6, hBr_b6⟩, ⟨hBr_f7, hBr_a7, hBr_b7⟩, hBr_c1, hBr_c2, hBr_c3, hBr_c4, hBr_c5⟩ := hBr_o
  refine g_aload_n E dX1_crossWhy_0 rfl rfl rfl ?_
  refine g_aload_n E dX1_crossWhy_1 rfl rfl rfl ?_
  refine g_iload_n E dX1_crossWhy_2 rfl rfl rfl ?_
  refine g_callV (k := 1000) (n9 := 1) (av := [.int p]) (st := [.ref 1000]) E (ct_X1_isPerson l p hw hSo hBr) gciX1 dX1_crossWhy_3 hSo_a q1321 q1323 qs34 q120 q1324 (by decide +kernel) rfl rfl ⟨by decide, by decide⟩ ⟨by decide, by decide⟩ (Nat.le_of_ble_eq_true rfl) rfl (gPu.k ?_)
  refine g_if_eq E dX1_crossWhy_6 (tgt := 21) (by decide) rfl (fun c6 => ?_) (fun c6 => ?_)
  · have c6 := zb_0.mp c6
    have q1 := isNone_of c6
    refine g_iconst E (v := 0) dX1_crossWhy_21 (by decide) rfl ?_
    refine g_iload_n E dX1_crossWhy_22 rfl rfl rfl ?_
    refine g_callV (k := 1000) (n9 := 2) (av := [.int 0, .int dy]) (st := []) E (ct_X1_why l false dy hSo) gciX1 dX1_crossWhy_23 hSo_a q1342 q1344 qs36 q120 q1345 (by decide +kernel) rfl rfl ⟨by decide, by decide⟩ ⟨by decide, by decide⟩ (Nat.le_of_ble_eq_true rfl) rfl (gPu.k ?_)
    exact g_iret E Rt dX1_crossWhy_26 rfl (by decide) (by decide) (⟨congrArg (fun x => some (Value.int x)) (by simp [c6, q1]), rfl⟩)
  · have c6 := zb_n0.mp c6
    obtain ⟨t, q2⟩ := isSome_of c6
    obtain ⟨rfl, q2_l⟩ := qI_some (by omega) q2
    refine g_aload_n E dX1_crossWhy_9 rfl rfl rfl ?_
    refine g_iload_n E dX1_crossWhy_10 rfl rfl rfl ?_
    refine g_callV (k := 1000) (n9 := 1) (av := [.int q]) (st := [.ref 1000]) E (ct_X1_isGate l q hw hSo hBr) gciX1 dX1_crossWhy_11 hSo_a q1334 q1336 qs35 q120 q1337 (by decide +kernel) rfl rfl ⟨by decide, by decide⟩ ⟨by decide, by decide⟩ (Nat.le_of_ble_eq_true rfl) rfl (gPu.k ?_)
    refine g_if_eq E dX1_crossWhy_14 (tgt := 21) (by decide) rfl (fun c14 => ?_) (fun c14 => ?_)
    · have c14 := zb_0.mp c14
      have q3 := isNone_of c14
      refine g_iconst E (v := 0) dX1_crossWhy_21 (by decide) rfl ?_
      refine g_iload_n E dX1_crossWhy_22 rfl rfl rfl ?_
      refine g_callV (k := 1000) (n9 := 2) (av := [.int 0, .int dy]) (st := []) E (ct_X1_why l false dy hSo) gciX1 dX1_crossWhy_23 hSo_a q1342 q1344 qs36 q120 q1345 (by decide +kernel) rfl rfl ⟨by decide, by decide⟩ ⟨by decide, by decide⟩ (Nat.le_of_ble_eq_true rfl) rfl (gPu.k ?_)
      exact g_iret E Rt dX1_crossWhy_26 rfl (by decide) (by decide) (⟨congrArg (fun x => some (Value.int x)) (by simp [c6, q2, c14, q3]), rfl⟩)
    · have c14 := zb_n0.mp c14
      obtain ⟨k9, q4⟩ := isSome_of c14
      obtain ⟨rfl, q4_l⟩ := qI_some (by omega) q4
      refine g_iconst E (v := 1) dX1_crossWhy_17 (by decide) rfl ?_
      refine g_goto E dX1_crossWhy_18 (tgt := 22) (by decide) ?_
      refine g_iload_n E dX1_crossWhy_22 rfl rfl rfl ?_
      refine g_callV (k := 1000) (n9 := 2) (av := [.int 1, .int dy]) (st := []) E (ct_X1_why l true dy hSo) gciX1 dX1_crossWhy_23 hSo_a q1342 q1344 qs36 q120 q1345 (by decide +kernel) rfl rfl ⟨by decide, by decide⟩ ⟨by decide, by decide⟩ (Nat.le_of_ble_eq_true rfl) rfl (gPu.k ?_)
      exact g_iret E Rt dX1_crossWhy_26 rfl (by decide) (by decide) (⟨congrArg (fun x => some (Value.int x)) (by simp [c6, q2, c14, q4]), rfl⟩)
set_option maxHeartbeats 400000 in
theorem ct_X1_askedOf (l : Launch) {g : gWM} {bb : Nat} {B : gBar} {R : Nat → Int32} {d : Int32} {tp mm um : Nat} {tr fa wh : Int32} {lw r : Nat} (t k : Nat) (dy : Int32) (hw : wfB B) (hSo : pSo g (.ref bb) tp tr fa wh mm um) (hLd : pLd g 1010 (.ref bb) B R d) (hBr : pBr g bb B) (hL : pLw g lw r) (ht : t < B 0 1) (hk : k < B 0 2) : gCt l yX1_askedOf cX1_askedOf 5 (some .int) 5 0 0 115 [.ref 1000, .int (nI t), .int (nI k), .int dy, .ref lw] g (gPu (.int (zAo B R t k r (d + dy))) g) := by
  refine gCt.of RX1 (by decide) rfl (lo := [some (.ref 1000), some (.int (nI t)), some (.int (nI k)), some (.int dy), some (.ref lw)]) 0 rfl (Nat.le_of_ble_eq_true rfl) (fun z E Rt => ?_)
  have hw_n := hw.1
  have hSo_o := hSo
  obtain ⟨hSo_F, hSo_a, hSo_0, hSo_1, hSo_2, hSo_3, hSo_4, hSo_5, hSo_6, hSo_7, hSo_8, hSo_9, hSo_10, hSo_11, hSo_12, hSo_13, hSo_14, hSo_15, hSo_16, hSo_17, hSo_18, hSo_19⟩ := hSo_o
  have hLd_o := hLd
  obtain ⟨⟨hLd_F, hLd_a, hLd_0, hLd_1, hLd_2, hLd_3, hLd_4, hLd_5⟩, ⟨hLd_s, hLd_sa, hLd_sb⟩, ⟨hLd_e, hLd_ea, hLd_eb⟩, hLd_p, hLd_pa, hLd_pb⟩ := hLd_o
  have hBr_o := hBr
  obtain ⟨⟨hBr_F, hBr_a, hBr_0, hBr_1, hBr_2, hBr_3, hBr_4, hBr_5, hBr_6, hBr_7, hBr_8, hBr_9, hBr_10, hBr_11, hBr_12, hBr_13, hBr_14, hBr_15⟩, ⟨hBr_f1, hBr_a1, hBr_b1⟩, ⟨hBr_f2, hBr_a2, hBr_b2⟩, ⟨hBr_f3, hBr_a3, hBr_b3⟩, ⟨hBr_f4, hBr_a4, hBr_b4⟩, ⟨hBr_f5, hBr_a5, hBr_b5⟩, ⟨hBr_f6, hBr_a6, hBr_b6⟩, ⟨hBr_f7, hBr_a7, hBr_b7⟩, hBr_c1, hBr_c2, hBr_c3, hBr_c4, hBr_c5⟩ := hBr_o
  refine g_aload_n E dX1_askedOf_0 rfl rfl rfl ?_
  refine g_getf E gciX1 dX1_askedOf_1 hSo_a 9 rfl (by decide) q431 (.inl rfl) (.ref 1010) (hSo_9) rfl ?_
  refine g_iload_n E dX1_askedOf_4 rfl rfl rfl ?_
  refine g_aload_n E dX1_askedOf_5 rfl rfl rfl ?_
  refine g_getf E gciX1 dX1_askedOf_6 hSo_a 9 rfl (by decide) q431 (.inl rfl) (.ref 1010) (hSo_9) rfl ?_
  refine g_iload_n E dX1_askedOf_9 rfl rfl rfl ?_
  refine g_iload_n E dX1_askedOf_10 rfl rfl rfl ?_
  refine g_aload_n E dX1_askedOf_11 rfl rfl rfl ?_
  refine g_iload_n E dX1_askedOf_12 rfl rfl rfl ?_
  refine g_callV (k := 1000) (n9 := 1) (av := [.int dy]) (st := [.int (nI k), .int (nI t), .ref 1010, .int (nI t), .ref 1010]) E (ct_X1_on l dy hw hSo hLd hBr) gciX1 dX1_askedOf_13 hSo_a q1346 q1348 qs37 q120 q1349 (by decide +kernel) rfl rfl ⟨by decide, by decide⟩ ⟨by decide, by decide⟩ (Nat.le_of_ble_eq_true rfl) rfl (gPu.k ?_)
  refine g_callV (k := 1010) (n9 := 3) (av := [.int (nI t), .int (nI k), .int (d + dy)]) (st := [.int (nI t), .ref 1010]) E (ct_X4_found l t k (d + dy) hw hLd hBr (by omega) (by omega)) gciX4 dX1_askedOf_16 hLd_a q1404 q1234 q1235 q126 q1236 (by decide +kernel) rfl rfl ⟨by decide, by decide⟩ ⟨by decide, by decide⟩ (Nat.le_of_ble_eq_true rfl) rfl (gPu.k ?_)
  refine g_aload_n E dX1_askedOf_19 rfl rfl rfl ?_
  refine g_iload_n E dX1_askedOf_20 rfl rfl rfl ?_
  refine g_callV (k := 1000) (n9 := 1) (av := [.int dy]) (st := [.int (zFou B R t k (d + dy) 0), .int (nI t), .ref 1010]) E (ct_X1_on l dy hw hSo hLd hBr) gciX1 dX1_askedOf_21 hSo_a q1346 q1348 qs37 q120 q1349 (by decide +kernel) rfl rfl ⟨by decide, by decide⟩ ⟨by decide, by decide⟩ (Nat.le_of_ble_eq_true rfl) rfl (gPu.k ?_)
  refine g_aload E dX1_askedOf_24 rfl rfl ?_
  refine g_callV (k := 1010) (n9 := 4) (av := [.int (nI t), .int (zFou B R t k (d + dy) 0), .int (d + dy), .ref lw]) (st := []) E (ct_X4_asked l t (zFou B R t k (d + dy) 0) (d + dy) hw hLd hBr hL (by omega)) gciX4 dX1_askedOf_26 hLd_a q1405 q1245 q1246 q126 q1247 (by decide +kernel) rfl rfl ⟨by decide, by decide⟩ ⟨by decide, by decide⟩ (Nat.le_of_ble_eq_true rfl) rfl (gPu.k ?_)
  exact g_iret E Rt dX1_askedOf_29 rfl (by decide) (by decide) (⟨rfl, rfl⟩)
