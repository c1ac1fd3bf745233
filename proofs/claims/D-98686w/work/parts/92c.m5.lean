/-! WALKS, fifth: the main object: questions -/
set_option maxRecDepth 100000
set_option maxHeartbeats 1000000 in
theorem ct_X1_age (l : Launch) {g : gWM} {bb : Nat} {B : gBar} {R : Nat → Int32} {d : Int32} {tp mm um : Nat} {tr fa wh : Int32} (p : Int32) (dy : Int32) (hw : wfB B) (hSo : pSo g (.ref bb) tp tr fa wh mm um) (hLd : pLd g 1010 (.ref bb) B R d) (hBr : pBr g bb B) (hL1 : pLw g 1005 1) (hL2 : pLw g 1006 2) (hb9 : 10000 ≤ bb) : gCt l yX1_age cX1_age 4 (some .int) 2 0 0 44 [.ref 1000, .int p, .int dy] g (gPi (sAge B d p dy).1 (fun g1 => pSo g1 (.ref bb) tp (sAge B d p dy).2 fa (-1) mm um ∧ ∀ j, j ≠ 1000 → g1 j = g j)) := by
  refine gCt.of RX1 (by decide) rfl (lo := [some (.ref 1000), some (.int p), some (.int dy), none]) 1 rfl (Nat.le_of_ble_eq_true rfl) (fun z E Rt => ?_)
  have hw_n := hw.1
  have hSo_o := hSo
  obtain ⟨hSo_F, hSo_a, hSo_0, hSo_1, hSo_2, hSo_3, hSo_4, hSo_5, hSo_6, hSo_7, hSo_8, hSo_9, hSo_10, hSo_11, hSo_12, hSo_13, hSo_14, hSo_15, hSo_16, hSo_17, hSo_18, hSo_19⟩ := hSo_o
  have hLd_o := hLd
  obtain ⟨⟨hLd_F, hLd_a, hLd_0, hLd_1, hLd_2, hLd_3, hLd_4, hLd_5⟩, ⟨hLd_s, hLd_sa, hLd_sb⟩, ⟨hLd_e, hLd_ea, hLd_eb⟩, hLd_p, hLd_pa, hLd_pb⟩ := hLd_o
  have hBr_o := hBr
  obtain ⟨⟨hBr_F, hBr_a, hBr_0, hBr_1, hBr_2, hBr_3, hBr_4, hBr_5, hBr_6, hBr_7, hBr_8, hBr_9, hBr_10, hBr_11, hBr_12, hBr_13, hBr_14, hBr_15⟩, ⟨hBr_f1, hBr_a1, hBr_b1⟩, ⟨hBr_f2, hBr_a2, hBr_b2⟩, ⟨hBr_f3, hBr_a3, hBr_b3⟩, ⟨hBr_f4, hBr_a4, hBr_b4⟩, ⟨hBr_f5, hBr_a5, hBr_b5⟩, ⟨hBr_f6, hBr_a6, hBr_b6⟩, ⟨hBr_f7, hBr_a7, hBr_b7⟩, hBr_c1, hBr_c2, hBr_c3, hBr_c4, hBr_c5⟩ := hBr_o
  refine g_aload_n E dX1_age_0 rfl rfl rfl ?_
  refine g_callV (k := 1000) (n9 := 0) (av := []) (st := []) E (ct_X1_anew l hSo) gciX1 dX1_age_1 hSo_a q496 q498 qs2 q120 q499 (by decide +kernel) rfl rfl ⟨by decide, by decide⟩ ⟨by decide, by decide⟩ (Nat.le_of_ble_eq_true rfl) rfl (gPn.k (fun g1 h1 => ?_))
  obtain ⟨hs1, f1⟩ := h1
  have hs1_o := hs1
  obtain ⟨hs1_F, hs1_a, hs1_0, hs1_1, hs1_2, hs1_3, hs1_4, hs1_5, hs1_6, hs1_7, hs1_8, hs1_9, hs1_10, hs1_11, hs1_12, hs1_13, hs1_14, hs1_15, hs1_16, hs1_17, hs1_18, hs1_19⟩ := hs1_o
  refine g_aload_n E dX1_age_4 rfl rfl rfl ?_
  refine g_aload_n E dX1_age_5 rfl rfl rfl ?_
  refine g_iload_n E dX1_age_6 rfl rfl rfl ?_
  have y2 := (hBr.fr hw (fun j9 a9 b9 => f1 j9 (by omega)))
  refine g_callV (k := 1000) (n9 := 1) (av := [.int p]) (st := [.ref 1000]) E (ct_X1_isGood l p hw hs1 y2) gciX1 dX1_age_7 hs1_a q1283 q1285 qs33 q120 q1286 (by decide +kernel) rfl rfl ⟨by decide, by decide⟩ ⟨by decide, by decide⟩ (Nat.le_of_ble_eq_true rfl) rfl (gPu.k ?_)
  refine g_iload_n E dX1_age_10 rfl rfl rfl ?_
  refine g_callV (k := 1000) (n9 := 2) (av := [.int (zb (qI (B 0 3) p).isSome), .int dy]) (st := []) E (ct_X1_why l ((qI (B 0 3) p).isSome) dy hs1) gciX1 dX1_age_11 hs1_a q1342 q1344 qs36 q120 q1345 (by decide +kernel) rfl rfl ⟨by decide, by decide⟩ ⟨by decide, by decide⟩ (Nat.le_of_ble_eq_true rfl) rfl (gPu.k ?_)
  refine g_istore_n E dX1_age_14 rfl (by decide) rfl (lo1 := [some (.ref 1000), some (.int p), some (.int dy), some (.int (qWy ((qI (B 0 3) p).isSome) dy))]) rfl rfl ?_
  refine g_iload_n E dX1_age_15 rfl rfl rfl ?_
  refine g_if_eq E dX1_age_16 (tgt := 27) (by decide) rfl (fun c16 => ?_) (fun c16 => ?_)
  · have q3 := (qWy_0.mp c16).1
    have q3_z := (qWy_0.mp c16).2
    obtain ⟨j, q4⟩ := isSome_of q3
    obtain ⟨rfl, q4_l⟩ := qI_some (by omega) q4
    refine g_aload_n E dX1_age_27 rfl rfl rfl ?_
    refine g_getf E gciX1 dX1_age_28 hs1_a 3 rfl (by decide) q425 (.inl rfl) (.ref bb) (hs1_3) rfl ?_
    have x5 := (f1 (bb) (by omega)).trans (hBr_a)
    refine g_getf E gciX14 dX1_age_31 x5 3 rfl (by decide) q542 (.inl rfl) (.ref (bb + 4)) (hBr_3) rfl ?_
    refine g_iload_n E dX1_age_34 rfl rfl rfl ?_
    have x6 := (f1 (bb + 4) (by omega)).trans (hBr_a4)
    refine g_aald E dX1_age_35 (j := j) x6 (fun _ => rfl) (rfl) (by omega) (by decide) (b := bb + 40 + j) (hBr_b4 j (by omega)) rfl ?_
    have u7 := pBr.good y2 hw (j := j) (by omega)
    have u7_b := wfB.goods hw (j := j) (by omega)
    have o8 := u7
    obtain ⟨⟨o8_F, o8_a, o8_0, o8_1, o8_2, o8_3, o8_4, o8_7⟩, o8_m, o8_k⟩ := o8
    refine g_aload_n E dX1_age_36 rfl rfl rfl ?_
    refine g_iload_n E dX1_age_37 rfl rfl rfl ?_
    have y9 := (hLd.fr  (fun j9 a9 b9 => f1 j9 (by omega)))
    refine g_callV (k := 1000) (n9 := 1) (av := [.int dy]) (st := [.ref (bb + 40 + j)]) E (ct_X1_on l dy hw hs1 y9 y2) gciX1 dX1_age_38 hs1_a q1346 q1348 qs37 q120 q1349 (by decide +kernel) rfl rfl ⟨by decide, by decide⟩ ⟨by decide, by decide⟩ (Nat.le_of_ble_eq_true rfl) rfl (gPu.k ?_)
    refine v_age_Good E dX1_age_41 q1350 u7 ⟨by decide, by decide⟩ ⟨by decide, by decide⟩ (Nat.le_of_ble_eq_true rfl) rfl ?_
    have hs10 : sAge B d (nI j) dy = (zAge B j (d + dy), 0) := by first | (simp [sAge, sG, c16, q4, q3_z]; done) | (simp [sAge, sG, c16, q4, q3_z, qWy]; done)
    exact g_iret E Rt dX1_age_44 rfl (by decide) (by decide) (by rw [hs10]; exact ⟨rfl, ⟨_, hs1_a, hs1_0, hs1_1, hs1_2, hs1_3, hs1_4, hs1_5, hs1_6, hs1_7, hs1_8, hs1_9, hs1_10, hs1_11, hs1_12, hs1_13, hs1_14, hs1_15, hs1_16, hs1_17, hs1_18, hs1_19⟩, fun j9 h9 => f1 j9 (by omega)⟩)
  · refine g_aload_n E dX1_age_19 rfl rfl rfl ?_
    refine g_iload_n E dX1_age_20 rfl rfl rfl ?_
    refine g_callV (k := 1000) (n9 := 1) (av := [.int (qWy ((qI (B 0 3) p).isSome) dy)]) (st := []) E (ct_X1_no l (qWy ((qI (B 0 3) p).isSome) dy) hs1) gciX1 dX1_age_21 hs1_a q503 q505 qs3 q120 q506 (by decide +kernel) rfl rfl ⟨by decide, by decide⟩ ⟨by decide, by decide⟩ (Nat.le_of_ble_eq_true rfl) rfl (gPi.k (fun g11 h11 => ?_))
    obtain ⟨hs11, f11⟩ := h11
    have hs11_o := hs11
    obtain ⟨hs11_F, hs11_a, hs11_0, hs11_1, hs11_2, hs11_3, hs11_4, hs11_5, hs11_6, hs11_7, hs11_8, hs11_9, hs11_10, hs11_11, hs11_12, hs11_13, hs11_14, hs11_15, hs11_16, hs11_17, hs11_18, hs11_19⟩ := hs11_o
    refine g_goto E dX1_age_24 (tgt := 44) (by decide) ?_
    have hs12 : sAge B d p dy = ((-1), qWy ((qI (B 0 3) p).isSome) dy) := by first | (simp [sAge, sG, c16]; done) | (simp [sAge, sG, c16, qWy]; done)
    exact g_iret E Rt dX1_age_44 rfl (by decide) (by decide) (by rw [hs12]; exact ⟨rfl, ⟨_, hs11_a, hs11_0, hs11_1, hs11_2, hs11_3, hs11_4, hs11_5, hs11_6, hs11_7, hs11_8, hs11_9, hs11_10, hs11_11, hs11_12, hs11_13, hs11_14, hs11_15, hs11_16, hs11_17, hs11_18, hs11_19⟩, fun j9 h9 => (f11 j9 (by omega)).trans (f1 j9 (by omega))⟩)
set_option maxHeartbeats 1000000 in
theorem ct_X1_age_N (l : Launch) {g : gWM} {tp mm um : Nat} {tr fa wh : Int32} (p : Int32) (dy : Int32) (hSo : pSo g .null tp tr fa wh mm um) : gCt l yX1_age cX1_age 4 (some .int) 2 0 0 44 [.ref 1000, .int p, .int dy] g (gPi (sAge zB0 0 p dy).1 (fun g1 => pSo g1 .null tp (sAge zB0 0 p dy).2 fa (-1) mm um ∧ ∀ j, j ≠ 1000 → g1 j = g j)) := by
  refine gCt.of RX1 (by decide) rfl (lo := [some (.ref 1000), some (.int p), some (.int dy), none]) 1 rfl (Nat.le_of_ble_eq_true rfl) (fun z E Rt => ?_)
  have hSo_o := hSo
  obtain ⟨hSo_F, hSo_a, hSo_0, hSo_1, hSo_2, hSo_3, hSo_4, hSo_5, hSo_6, hSo_7, hSo_8, hSo_9, hSo_10, hSo_11, hSo_12, hSo_13, hSo_14, hSo_15, hSo_16, hSo_17, hSo_18, hSo_19⟩ := hSo_o
  refine g_aload_n E dX1_age_0 rfl rfl rfl ?_
  refine g_callV (k := 1000) (n9 := 0) (av := []) (st := []) E (ct_X1_anew l hSo) gciX1 dX1_age_1 hSo_a q496 q498 qs2 q120 q499 (by decide +kernel) rfl rfl ⟨by decide, by decide⟩ ⟨by decide, by decide⟩ (Nat.le_of_ble_eq_true rfl) rfl (gPn.k (fun g1 h1 => ?_))
  obtain ⟨hs1, f1⟩ := h1
  have hs1_o := hs1
  obtain ⟨hs1_F, hs1_a, hs1_0, hs1_1, hs1_2, hs1_3, hs1_4, hs1_5, hs1_6, hs1_7, hs1_8, hs1_9, hs1_10, hs1_11, hs1_12, hs1_13, hs1_14, hs1_15, hs1_16, hs1_17, hs1_18, hs1_19⟩ := hs1_o
  refine g_aload_n E dX1_age_4 rfl rfl rfl ?_
  refine g_aload_n E dX1_age_5 rfl rfl rfl ?_
  refine g_iload_n E dX1_age_6 rfl rfl rfl ?_
  refine g_callV (k := 1000) (n9 := 1) (av := [.int p]) (st := [.ref 1000]) E (ct_X1_isGood_N l p hs1) gciX1 dX1_age_7 hs1_a q1283 q1285 qs33 q120 q1286 (by decide +kernel) rfl rfl ⟨by decide, by decide⟩ ⟨by decide, by decide⟩ (Nat.le_of_ble_eq_true rfl) rfl (gPu.k ?_)
  refine g_iload_n E dX1_age_10 rfl rfl rfl ?_
  refine g_callV (k := 1000) (n9 := 2) (av := [.int 0, .int dy]) (st := []) E (ct_X1_why l false dy hs1) gciX1 dX1_age_11 hs1_a q1342 q1344 qs36 q120 q1345 (by decide +kernel) rfl rfl ⟨by decide, by decide⟩ ⟨by decide, by decide⟩ (Nat.le_of_ble_eq_true rfl) rfl (gPu.k ?_)
  refine g_istore_n E dX1_age_14 rfl (by decide) rfl (lo1 := [some (.ref 1000), some (.int p), some (.int dy), some (.int 1)]) rfl rfl ?_
  refine g_iload_n E dX1_age_15 rfl rfl rfl ?_
  refine g_if_eq E dX1_age_16 (tgt := 27) (by decide) rfl (fun h9 => absurd h9 (by decide)) (fun _ => ?_)
  refine g_aload_n E dX1_age_19 rfl rfl rfl ?_
  refine g_iload_n E dX1_age_20 rfl rfl rfl ?_
  refine g_callV (k := 1000) (n9 := 1) (av := [.int 1]) (st := []) E (ct_X1_no l 1 hs1) gciX1 dX1_age_21 hs1_a q503 q505 qs3 q120 q506 (by decide +kernel) rfl rfl ⟨by decide, by decide⟩ ⟨by decide, by decide⟩ (Nat.le_of_ble_eq_true rfl) rfl (gPi.k (fun g2 h2 => ?_))
  obtain ⟨hs2, f2⟩ := h2
  have hs2_o := hs2
  obtain ⟨hs2_F, hs2_a, hs2_0, hs2_1, hs2_2, hs2_3, hs2_4, hs2_5, hs2_6, hs2_7, hs2_8, hs2_9, hs2_10, hs2_11, hs2_12, hs2_13, hs2_14, hs2_15, hs2_16, hs2_17, hs2_18, hs2_19⟩ := hs2_o
  refine g_goto E dX1_age_24 (tgt := 44) (by decide) ?_
  have hs3 : sAge zB0 0 p dy = ((-1), 1) := by first | (simp [sAge, sG, qI_z, qWy]; done) | (simp [sAge, sG, qI_z, qWy, qWy]; done)
  exact g_iret E Rt dX1_age_44 rfl (by decide) (by decide) (by rw [hs3]; exact ⟨rfl, ⟨_, hs2_a, hs2_0, hs2_1, hs2_2, hs2_3, hs2_4, hs2_5, hs2_6, hs2_7, hs2_8, hs2_9, hs2_10, hs2_11, hs2_12, hs2_13, hs2_14, hs2_15, hs2_16, hs2_17, hs2_18, hs2_19⟩, fun j9 h9 => (f2 j9 (by omega)).trans (f1 j9 (by omega))⟩)
set_option maxHeartbeats 1000000 in
theorem ct_X1_worth (l : Launch) {g : gWM} {bb : Nat} {B : gBar} {R : Nat → Int32} {d : Int32} {tp mm um : Nat} {tr fa wh : Int32} (p : Int32) (dy : Int32) (hw : wfB B) (hSo : pSo g (.ref bb) tp tr fa wh mm um) (hLd : pLd g 1010 (.ref bb) B R d) (hBr : pBr g bb B) (hL1 : pLw g 1005 1) (hL2 : pLw g 1006 2) (hb9 : 10000 ≤ bb) : gCt l yX1_worth cX1_worth 4 (some .int) 4 0 0 84 [.ref 1000, .int p, .int dy] g (gPi (sWor B d p dy).1 (fun g1 => pSo g1 (.ref bb) tp (sWor B d p dy).2 fa (-1) mm um ∧ ∀ j, j ≠ 1000 → g1 j = g j)) := by
  refine gCt.of RX1 (by decide) rfl (lo := [some (.ref 1000), some (.int p), some (.int dy), none]) 1 rfl (Nat.le_of_ble_eq_true rfl) (fun z E Rt => ?_)
  have hw_n := hw.1
  have hSo_o := hSo
  obtain ⟨hSo_F, hSo_a, hSo_0, hSo_1, hSo_2, hSo_3, hSo_4, hSo_5, hSo_6, hSo_7, hSo_8, hSo_9, hSo_10, hSo_11, hSo_12, hSo_13, hSo_14, hSo_15, hSo_16, hSo_17, hSo_18, hSo_19⟩ := hSo_o
  have hLd_o := hLd
  obtain ⟨⟨hLd_F, hLd_a, hLd_0, hLd_1, hLd_2, hLd_3, hLd_4, hLd_5⟩, ⟨hLd_s, hLd_sa, hLd_sb⟩, ⟨hLd_e, hLd_ea, hLd_eb⟩, hLd_p, hLd_pa, hLd_pb⟩ := hLd_o
  have hBr_o := hBr
  obtain ⟨⟨hBr_F, hBr_a, hBr_0, hBr_1, hBr_2, hBr_3, hBr_4, hBr_5, hBr_6, hBr_7, hBr_8, hBr_9, hBr_10, hBr_11, hBr_12, hBr_13, hBr_14, hBr_15⟩, ⟨hBr_f1, hBr_a1, hBr_b1⟩, ⟨hBr_f2, hBr_a2, hBr_b2⟩, ⟨hBr_f3, hBr_a3, hBr_b3⟩, ⟨hBr_f4, hBr_a4, hBr_b4⟩, ⟨hBr_f5, hBr_a5, hBr_b5⟩, ⟨hBr_f6, hBr_a6, hBr_b6⟩, ⟨hBr_f7, hBr_a7, hBr_b7⟩, hBr_c1, hBr_c2, hBr_c3, hBr_c4, hBr_c5⟩ := hBr_o
  refine g_aload_n E dX1_worth_0 rfl rfl rfl ?_
  refine g_callV (k := 1000) (n9 := 0) (av := []) (st := []) E (ct_X1_anew l hSo) gciX1 dX1_worth_1 hSo_a q496 q498 qs2 q120 q499 (by decide +kernel) rfl rfl ⟨by decide, by decide⟩ ⟨by decide, by decide⟩ (Nat.le_of_ble_eq_true rfl) rfl (gPn.k (fun g1 h1 => ?_))
  obtain ⟨hs1, f1⟩ := h1
  have hs1_o := hs1
  obtain ⟨hs1_F, hs1_a, hs1_0, hs1_1, hs1_2, hs1_3, hs1_4, hs1_5, hs1_6, hs1_7, hs1_8, hs1_9, hs1_10, hs1_11, hs1_12, hs1_13, hs1_14, hs1_15, hs1_16, hs1_17, hs1_18, hs1_19⟩ := hs1_o
  refine g_aload_n E dX1_worth_4 rfl rfl rfl ?_
  refine g_aload_n E dX1_worth_5 rfl rfl rfl ?_
  refine g_iload_n E dX1_worth_6 rfl rfl rfl ?_
  have y2 := (hBr.fr hw (fun j9 a9 b9 => f1 j9 (by omega)))
  refine g_callV (k := 1000) (n9 := 1) (av := [.int p]) (st := [.ref 1000]) E (ct_X1_isGood l p hw hs1 y2) gciX1 dX1_worth_7 hs1_a q1283 q1285 qs33 q120 q1286 (by decide +kernel) rfl rfl ⟨by decide, by decide⟩ ⟨by decide, by decide⟩ (Nat.le_of_ble_eq_true rfl) rfl (gPu.k ?_)
  refine g_iload_n E dX1_worth_10 rfl rfl rfl ?_
  refine g_callV (k := 1000) (n9 := 2) (av := [.int (zb (qI (B 0 3) p).isSome), .int dy]) (st := []) E (ct_X1_why l ((qI (B 0 3) p).isSome) dy hs1) gciX1 dX1_worth_11 hs1_a q1342 q1344 qs36 q120 q1345 (by decide +kernel) rfl rfl ⟨by decide, by decide⟩ ⟨by decide, by decide⟩ (Nat.le_of_ble_eq_true rfl) rfl (gPu.k ?_)
  refine g_istore_n E dX1_worth_14 rfl (by decide) rfl (lo1 := [some (.ref 1000), some (.int p), some (.int dy), some (.int (qWy ((qI (B 0 3) p).isSome) dy))]) rfl rfl ?_
  refine g_iload_n E dX1_worth_15 rfl rfl rfl ?_
  refine g_if_eq E dX1_worth_16 (tgt := 27) (by decide) rfl (fun c16 => ?_) (fun c16 => ?_)
  · have q3 := (qWy_0.mp c16).1
    have q3_z := (qWy_0.mp c16).2
    obtain ⟨j, q4⟩ := isSome_of q3
    obtain ⟨rfl, q4_l⟩ := qI_some (by omega) q4
    refine g_aload_n E dX1_worth_27 rfl rfl rfl ?_
    refine g_getf E gciX1 dX1_worth_28 hs1_a 3 rfl (by decide) q425 (.inl rfl) (.ref bb) (hs1_3) rfl ?_
    have x5 := (f1 (bb) (by omega)).trans (hBr_a)
    refine g_getf E gciX14 dX1_worth_31 x5 3 rfl (by decide) q542 (.inl rfl) (.ref (bb + 4)) (hBr_3) rfl ?_
    refine g_iload_n E dX1_worth_34 rfl rfl rfl ?_
    have x6 := (f1 (bb + 4) (by omega)).trans (hBr_a4)
    refine g_aald E dX1_worth_35 (j := j) x6 (fun _ => rfl) (rfl) (by omega) (by decide) (b := bb + 40 + j) (hBr_b4 j (by omega)) rfl ?_
    have u7 := pBr.good y2 hw (j := j) (by omega)
    have u7_b := wfB.goods hw (j := j) (by omega)
    have o8 := u7
    obtain ⟨⟨o8_F, o8_a, o8_0, o8_1, o8_2, o8_3, o8_4, o8_7⟩, o8_m, o8_k⟩ := o8
    refine g_aload_n E dX1_worth_36 rfl rfl rfl ?_
    refine g_iload_n E dX1_worth_37 rfl rfl rfl ?_
    have y9 := (hLd.fr  (fun j9 a9 b9 => f1 j9 (by omega)))
    refine g_callV (k := 1000) (n9 := 1) (av := [.int dy]) (st := [.ref (bb + 40 + j)]) E (ct_X1_on l dy hw hs1 y9 y2) gciX1 dX1_worth_38 hs1_a q1346 q1348 qs37 q120 q1349 (by decide +kernel) rfl rfl ⟨by decide, by decide⟩ ⟨by decide, by decide⟩ (Nat.le_of_ble_eq_true rfl) rfl (gPu.k ?_)
    refine v_worthOn_Good E dX1_worth_41 q1355 u7 ⟨by decide, by decide⟩ ⟨by decide, by decide⟩ (Nat.le_of_ble_eq_true rfl) rfl ?_
    have hs10 : sWor B d (nI j) dy = (zWor B j (d + dy), 0) := by first | (simp [sWor, sG, c16, q4, q3_z]; done) | (simp [sWor, sG, c16, q4, q3_z, qWy]; done)
    exact g_iret E Rt dX1_worth_44 rfl (by decide) (by decide) (by rw [hs10]; exact ⟨rfl, ⟨_, hs1_a, hs1_0, hs1_1, hs1_2, hs1_3, hs1_4, hs1_5, hs1_6, hs1_7, hs1_8, hs1_9, hs1_10, hs1_11, hs1_12, hs1_13, hs1_14, hs1_15, hs1_16, hs1_17, hs1_18, hs1_19⟩, fun j9 h9 => f1 j9 (by omega)⟩)
  · refine g_aload_n E dX1_worth_19 rfl rfl rfl ?_
    refine g_iload_n E dX1_worth_20 rfl rfl rfl ?_
    refine g_callV (k := 1000) (n9 := 1) (av := [.int (qWy ((qI (B 0 3) p).isSome) dy)]) (st := []) E (ct_X1_no l (qWy ((qI (B 0 3) p).isSome) dy) hs1) gciX1 dX1_worth_21 hs1_a q503 q505 qs3 q120 q506 (by decide +kernel) rfl rfl ⟨by decide, by decide⟩ ⟨by decide, by decide⟩ (Nat.le_of_ble_eq_true rfl) rfl (gPi.k (fun g11 h11 => ?_))
    obtain ⟨hs11, f11⟩ := h11
    have hs11_o := hs11
    obtain ⟨hs11_F, hs11_a, hs11_0, hs11_1, hs11_2, hs11_3, hs11_4, hs11_5, hs11_6, hs11_7, hs11_8, hs11_9, hs11_10, hs11_11, hs11_12, hs11_13, hs11_14, hs11_15, hs11_16, hs11_17, hs11_18, hs11_19⟩ := hs11_o
    refine g_goto E dX1_worth_24 (tgt := 44) (by decide) ?_
    have hs12 : sWor B d p dy = ((-1), qWy ((qI (B 0 3) p).isSome) dy) := by first | (simp [sWor, sG, c16]; done) | (simp [sWor, sG, c16, qWy]; done)
    exact g_iret E Rt dX1_worth_44 rfl (by decide) (by decide) (by rw [hs12]; exact ⟨rfl, ⟨_, hs11_a, hs11_0, hs11_1, hs11_2, hs11_3, hs11_4, hs11_5, hs11_6, hs11_7, hs11_8, hs11_9, hs11_10, hs11_11, hs11_12, hs11_13, hs11_14, hs11_15, hs11_16, hs11_17, hs11_18, hs11_19⟩, fun j9 h9 => (f11 j9 (by omega)).trans (f1 j9 (by omega))⟩)
set_option maxHeartbeats 1000000 in
theorem ct_X1_worth_N (l : Launch) {g : gWM} {tp mm um : Nat} {tr fa wh : Int32} (p : Int32) (dy : Int32) (hSo : pSo g .null tp tr fa wh mm um) : gCt l yX1_worth cX1_worth 4 (some .int) 2 0 0 44 [.ref 1000, .int p, .int dy] g (gPi (sWor zB0 0 p dy).1 (fun g1 => pSo g1 .null tp (sWor zB0 0 p dy).2 fa (-1) mm um ∧ ∀ j, j ≠ 1000 → g1 j = g j)) := by
  refine gCt.of RX1 (by decide) rfl (lo := [some (.ref 1000), some (.int p), some (.int dy), none]) 1 rfl (Nat.le_of_ble_eq_true rfl) (fun z E Rt => ?_)
  have hSo_o := hSo
  obtain ⟨hSo_F, hSo_a, hSo_0, hSo_1, hSo_2, hSo_3, hSo_4, hSo_5, hSo_6, hSo_7, hSo_8, hSo_9, hSo_10, hSo_11, hSo_12, hSo_13, hSo_14, hSo_15, hSo_16, hSo_17, hSo_18, hSo_19⟩ := hSo_o
  refine g_aload_n E dX1_worth_0 rfl rfl rfl ?_
  refine g_callV (k := 1000) (n9 := 0) (av := []) (st := []) E (ct_X1_anew l hSo) gciX1 dX1_worth_1 hSo_a q496 q498 qs2 q120 q499 (by decide +kernel) rfl rfl ⟨by decide, by decide⟩ ⟨by decide, by decide⟩ (Nat.le_of_ble_eq_true rfl) rfl (gPn.k (fun g1 h1 => ?_))
  obtain ⟨hs1, f1⟩ := h1
  have hs1_o := hs1
  obtain ⟨hs1_F, hs1_a, hs1_0, hs1_1, hs1_2, hs1_3, hs1_4, hs1_5, hs1_6, hs1_7, hs1_8, hs1_9, hs1_10, hs1_11, hs1_12, hs1_13, hs1_14, hs1_15, hs1_16, hs1_17, hs1_18, hs1_19⟩ := hs1_o
  refine g_aload_n E dX1_worth_4 rfl rfl rfl ?_
  refine g_aload_n E dX1_worth_5 rfl rfl rfl ?_
  refine g_iload_n E dX1_worth_6 rfl rfl rfl ?_
  refine g_callV (k := 1000) (n9 := 1) (av := [.int p]) (st := [.ref 1000]) E (ct_X1_isGood_N l p hs1) gciX1 dX1_worth_7 hs1_a q1283 q1285 qs33 q120 q1286 (by decide +kernel) rfl rfl ⟨by decide, by decide⟩ ⟨by decide, by decide⟩ (Nat.le_of_ble_eq_true rfl) rfl (gPu.k ?_)
  refine g_iload_n E dX1_worth_10 rfl rfl rfl ?_
  refine g_callV (k := 1000) (n9 := 2) (av := [.int 0, .int dy]) (st := []) E (ct_X1_why l false dy hs1) gciX1 dX1_worth_11 hs1_a q1342 q1344 qs36 q120 q1345 (by decide +kernel) rfl rfl ⟨by decide, by decide⟩ ⟨by decide, by decide⟩ (Nat.le_of_ble_eq_true rfl) rfl (gPu.k ?_)
  refine g_istore_n E dX1_worth_14 rfl (by decide) rfl (lo1 := [some (.ref 1000), some (.int p), some (.int dy), some (.int 1)]) rfl rfl ?_
  refine g_iload_n E dX1_worth_15 rfl rfl rfl ?_
  refine g_if_eq E dX1_worth_16 (tgt := 27) (by decide) rfl (fun h9 => absurd h9 (by decide)) (fun _ => ?_)
  refine g_aload_n E dX1_worth_19 rfl rfl rfl ?_
  refine g_iload_n E dX1_worth_20 rfl rfl rfl ?_
  refine g_callV (k := 1000) (n9 := 1) (av := [.int 1]) (st := []) E (ct_X1_no l 1 hs1) gciX1 dX1_worth_21 hs1_a q503 q505 qs3 q120 q506 (by decide +kernel) rfl rfl ⟨by decide, by decide⟩ ⟨by decide, by decide⟩ (Nat.le_of_ble_eq_true rfl) rfl (gPi.k (fun g2 h2 => ?_))
  obtain ⟨hs2, f2⟩ := h2
  have hs2_o := hs2
  obtain ⟨hs2_F, hs2_a, hs2_0, hs2_1, hs2_2, hs2_3, hs2_4, hs2_5, hs2_6, hs2_7, hs2_8, hs2_9, hs2_10, hs2_11, hs2_12, hs2_13, hs2_14, hs2_15, hs2_16, hs2_17, hs2_18, hs2_19⟩ := hs2_o
  refine g_goto E dX1_worth_24 (tgt := 44) (by decide) ?_
  have hs3 : sWor zB0 0 p dy = ((-1), 1) := by first | (simp [sWor, sG, qI_z, qWy]; done) | (simp [sWor, sG, qI_z, qWy, qWy]; done)
  exact g_iret E Rt dX1_worth_44 rfl (by decide) (by decide) (by rw [hs3]; exact ⟨rfl, ⟨_, hs2_a, hs2_0, hs2_1, hs2_2, hs2_3, hs2_4, hs2_5, hs2_6, hs2_7, hs2_8, hs2_9, hs2_10, hs2_11, hs2_12, hs2_13, hs2_14, hs2_15, hs2_16, hs2_17, hs2_18, hs2_19⟩, fun j9 h9 => (f2 j9 (by omega)).trans (f1 j9 (by omega))⟩)
set_option maxHeartbeats 1000000 in
theorem ct_X1_duty (l : Launch) {g : gWM} {bb : Nat} {B : gBar} {R : Nat → Int32} {d : Int32} {tp mm um : Nat} {tr fa wh : Int32} (p : Int32) (dy : Int32) (hw : wfB B) (hSo : pSo g (.ref bb) tp tr fa wh mm um) (hLd : pLd g 1010 (.ref bb) B R d) (hBr : pBr g bb B) (hL1 : pLw g 1005 1) (hL2 : pLw g 1006 2) (hb9 : 10000 ≤ bb) : gCt l yX1_duty cX1_duty 4 (some .int) 3 0 0 64 [.ref 1000, .int p, .int dy] g (gPi (sDut B d p dy).1 (fun g1 => pSo g1 (.ref bb) tp (sDut B d p dy).2 fa (-1) mm um ∧ ∀ j, j ≠ 1000 → g1 j = g j)) := by
  refine gCt.of RX1 (by decide) rfl (lo := [some (.ref 1000), some (.int p), some (.int dy), none]) 1 rfl (Nat.le_of_ble_eq_true rfl) (fun z E Rt => ?_)
  have hw_n := hw.1
  have hSo_o := hSo
  obtain ⟨hSo_F, hSo_a, hSo_0, hSo_1, hSo_2, hSo_3, hSo_4, hSo_5, hSo_6, hSo_7, hSo_8, hSo_9, hSo_10, hSo_11, hSo_12, hSo_13, hSo_14, hSo_15, hSo_16, hSo_17, hSo_18, hSo_19⟩ := hSo_o
  have hLd_o := hLd
  obtain ⟨⟨hLd_F, hLd_a, hLd_0, hLd_1, hLd_2, hLd_3, hLd_4, hLd_5⟩, ⟨hLd_s, hLd_sa, hLd_sb⟩, ⟨hLd_e, hLd_ea, hLd_eb⟩, hLd_p, hLd_pa, hLd_pb⟩ := hLd_o
  have hBr_o := hBr
  obtain ⟨⟨hBr_F, hBr_a, hBr_0, hBr_1, hBr_2, hBr_3, hBr_4, hBr_5, hBr_6, hBr_7, hBr_8, hBr_9, hBr_10, hBr_11, hBr_12, hBr_13, hBr_14, hBr_15⟩, ⟨hBr_f1, hBr_a1, hBr_b1⟩, ⟨hBr_f2, hBr_a2, hBr_b2⟩, ⟨hBr_f3, hBr_a3, hBr_b3⟩, ⟨hBr_f4, hBr_a4, hBr_b4⟩, ⟨hBr_f5, hBr_a5, hBr_b5⟩, ⟨hBr_f6, hBr_a6, hBr_b6⟩, ⟨hBr_f7, hBr_a7, hBr_b7⟩, hBr_c1, hBr_c2, hBr_c3, hBr_c4, hBr_c5⟩ := hBr_o
  refine g_aload_n E dX1_duty_0 rfl rfl rfl ?_
  refine g_callV (k := 1000) (n9 := 0) (av := []) (st := []) E (ct_X1_anew l hSo) gciX1 dX1_duty_1 hSo_a q496 q498 qs2 q120 q499 (by decide +kernel) rfl rfl ⟨by decide, by decide⟩ ⟨by decide, by decide⟩ (Nat.le_of_ble_eq_true rfl) rfl (gPn.k (fun g1 h1 => ?_))
  obtain ⟨hs1, f1⟩ := h1
  have hs1_o := hs1
  obtain ⟨hs1_F, hs1_a, hs1_0, hs1_1, hs1_2, hs1_3, hs1_4, hs1_5, hs1_6, hs1_7, hs1_8, hs1_9, hs1_10, hs1_11, hs1_12, hs1_13, hs1_14, hs1_15, hs1_16, hs1_17, hs1_18, hs1_19⟩ := hs1_o
  refine g_aload_n E dX1_duty_4 rfl rfl rfl ?_
  refine g_aload_n E dX1_duty_5 rfl rfl rfl ?_
  refine g_iload_n E dX1_duty_6 rfl rfl rfl ?_
  have y2 := (hBr.fr hw (fun j9 a9 b9 => f1 j9 (by omega)))
  refine g_callV (k := 1000) (n9 := 1) (av := [.int p]) (st := [.ref 1000]) E (ct_X1_isGood l p hw hs1 y2) gciX1 dX1_duty_7 hs1_a q1283 q1285 qs33 q120 q1286 (by decide +kernel) rfl rfl ⟨by decide, by decide⟩ ⟨by decide, by decide⟩ (Nat.le_of_ble_eq_true rfl) rfl (gPu.k ?_)
  refine g_iload_n E dX1_duty_10 rfl rfl rfl ?_
  refine g_callV (k := 1000) (n9 := 2) (av := [.int (zb (qI (B 0 3) p).isSome), .int dy]) (st := []) E (ct_X1_why l ((qI (B 0 3) p).isSome) dy hs1) gciX1 dX1_duty_11 hs1_a q1342 q1344 qs36 q120 q1345 (by decide +kernel) rfl rfl ⟨by decide, by decide⟩ ⟨by decide, by decide⟩ (Nat.le_of_ble_eq_true rfl) rfl (gPu.k ?_)
  refine g_istore_n E dX1_duty_14 rfl (by decide) rfl (lo1 := [some (.ref 1000), some (.int p), some (.int dy), some (.int (qWy ((qI (B 0 3) p).isSome) dy))]) rfl rfl ?_
  refine g_iload_n E dX1_duty_15 rfl rfl rfl ?_
  refine g_if_eq E dX1_duty_16 (tgt := 27) (by decide) rfl (fun c16 => ?_) (fun c16 => ?_)
  · have q3 := (qWy_0.mp c16).1
    have q3_z := (qWy_0.mp c16).2
    obtain ⟨j, q4⟩ := isSome_of q3
    obtain ⟨rfl, q4_l⟩ := qI_some (by omega) q4
    refine g_aload_n E dX1_duty_27 rfl rfl rfl ?_
    refine g_getf E gciX1 dX1_duty_28 hs1_a 3 rfl (by decide) q425 (.inl rfl) (.ref bb) (hs1_3) rfl ?_
    have x5 := (f1 (bb) (by omega)).trans (hBr_a)
    refine g_getf E gciX14 dX1_duty_31 x5 3 rfl (by decide) q542 (.inl rfl) (.ref (bb + 4)) (hBr_3) rfl ?_
    refine g_iload_n E dX1_duty_34 rfl rfl rfl ?_
    have x6 := (f1 (bb + 4) (by omega)).trans (hBr_a4)
    refine g_aald E dX1_duty_35 (j := j) x6 (fun _ => rfl) (rfl) (by omega) (by decide) (b := bb + 40 + j) (hBr_b4 j (by omega)) rfl ?_
    have u7 := pBr.good y2 hw (j := j) (by omega)
    have u7_b := wfB.goods hw (j := j) (by omega)
    have o8 := u7
    obtain ⟨⟨o8_F, o8_a, o8_0, o8_1, o8_2, o8_3, o8_4, o8_7⟩, o8_m, o8_k⟩ := o8
    refine g_aload_n E dX1_duty_36 rfl rfl rfl ?_
    refine g_iload_n E dX1_duty_37 rfl rfl rfl ?_
    have y9 := (hLd.fr  (fun j9 a9 b9 => f1 j9 (by omega)))
    refine g_callV (k := 1000) (n9 := 1) (av := [.int dy]) (st := [.ref (bb + 40 + j)]) E (ct_X1_on l dy hw hs1 y9 y2) gciX1 dX1_duty_38 hs1_a q1346 q1348 qs37 q120 q1349 (by decide +kernel) rfl rfl ⟨by decide, by decide⟩ ⟨by decide, by decide⟩ (Nat.le_of_ble_eq_true rfl) rfl (gPu.k ?_)
    refine g_aload_n E dX1_duty_41 rfl rfl rfl ?_
    refine g_getf E gciX1 dX1_duty_42 hs1_a 11 rfl (by decide) q433 (.inl rfl) (.ref 1005) (hs1_11) rfl ?_
    have y10 := (hL1.fr  (fun j9 a9 b9 => f1 j9 (by omega)))
    refine v_duty_Good E dX1_duty_45 q1381 u7 y10 ⟨by decide, by decide⟩ ⟨by decide, by decide⟩ (Nat.le_of_ble_eq_true rfl) rfl ?_
    have hs11 : sDut B d (nI j) dy = (zDut B 1 j (d + dy), 0) := by first | (simp [sDut, sG, c16, q4, q3_z]; done) | (simp [sDut, sG, c16, q4, q3_z, qWy]; done)
    exact g_iret E Rt dX1_duty_48 rfl (by decide) (by decide) (by rw [hs11]; exact ⟨rfl, ⟨_, hs1_a, hs1_0, hs1_1, hs1_2, hs1_3, hs1_4, hs1_5, hs1_6, hs1_7, hs1_8, hs1_9, hs1_10, hs1_11, hs1_12, hs1_13, hs1_14, hs1_15, hs1_16, hs1_17, hs1_18, hs1_19⟩, fun j9 h9 => f1 j9 (by omega)⟩)
  · refine g_aload_n E dX1_duty_19 rfl rfl rfl ?_
    refine g_iload_n E dX1_duty_20 rfl rfl rfl ?_
    refine g_callV (k := 1000) (n9 := 1) (av := [.int (qWy ((qI (B 0 3) p).isSome) dy)]) (st := []) E (ct_X1_no l (qWy ((qI (B 0 3) p).isSome) dy) hs1) gciX1 dX1_duty_21 hs1_a q503 q505 qs3 q120 q506 (by decide +kernel) rfl rfl ⟨by decide, by decide⟩ ⟨by decide, by decide⟩ (Nat.le_of_ble_eq_true rfl) rfl (gPi.k (fun g12 h12 => ?_))
    obtain ⟨hs12, f12⟩ := h12
    have hs12_o := hs12
    obtain ⟨hs12_F, hs12_a, hs12_0, hs12_1, hs12_2, hs12_3, hs12_4, hs12_5, hs12_6, hs12_7, hs12_8, hs12_9, hs12_10, hs12_11, hs12_12, hs12_13, hs12_14, hs12_15, hs12_16, hs12_17, hs12_18, hs12_19⟩ := hs12_o
    refine g_goto E dX1_duty_24 (tgt := 48) (by decide) ?_
    have hs13 : sDut B d p dy = ((-1), qWy ((qI (B 0 3) p).isSome) dy) := by first | (simp [sDut, sG, c16]; done) | (simp [sDut, sG, c16, qWy]; done)
    exact g_iret E Rt dX1_duty_48 rfl (by decide) (by decide) (by rw [hs13]; exact ⟨rfl, ⟨_, hs12_a, hs12_0, hs12_1, hs12_2, hs12_3, hs12_4, hs12_5, hs12_6, hs12_7, hs12_8, hs12_9, hs12_10, hs12_11, hs12_12, hs12_13, hs12_14, hs12_15, hs12_16, hs12_17, hs12_18, hs12_19⟩, fun j9 h9 => (f12 j9 (by omega)).trans (f1 j9 (by omega))⟩)
set_option maxHeartbeats 1000000 in
theorem ct_X1_duty_N (l : Launch) {g : gWM} {tp mm um : Nat} {tr fa wh : Int32} (p : Int32) (dy : Int32) (hSo : pSo g .null tp tr fa wh mm um) : gCt l yX1_duty cX1_duty 4 (some .int) 2 0 0 44 [.ref 1000, .int p, .int dy] g (gPi (sDut zB0 0 p dy).1 (fun g1 => pSo g1 .null tp (sDut zB0 0 p dy).2 fa (-1) mm um ∧ ∀ j, j ≠ 1000 → g1 j = g j)) := by
  refine gCt.of RX1 (by decide) rfl (lo := [some (.ref 1000), some (.int p), some (.int dy), none]) 1 rfl (Nat.le_of_ble_eq_true rfl) (fun z E Rt => ?_)
  have hSo_o := hSo
  obtain ⟨hSo_F, hSo_a, hSo_0, hSo_1, hSo_2, hSo_3, hSo_4, hSo_5, hSo_6, hSo_7, hSo_8, hSo_9, hSo_10, hSo_11, hSo_12, hSo_13, hSo_14, hSo_15, hSo_16, hSo_17, hSo_18, hSo_19⟩ := hSo_o
  refine g_aload_n E dX1_duty_0 rfl rfl rfl ?_
  refine g_callV (k := 1000) (n9 := 0) (av := []) (st := []) E (ct_X1_anew l hSo) gciX1 dX1_duty_1 hSo_a q496 q498 qs2 q120 q499 (by decide +kernel) rfl rfl ⟨by decide, by decide⟩ ⟨by decide, by decide⟩ (Nat.le_of_ble_eq_true rfl) rfl (gPn.k (fun g1 h1 => ?_))
  obtain ⟨hs1, f1⟩ := h1
  have hs1_o := hs1
  obtain ⟨hs1_F, hs1_a, hs1_0, hs1_1, hs1_2, hs1_3, hs1_4, hs1_5, hs1_6, hs1_7, hs1_8, hs1_9, hs1_10, hs1_11, hs1_12, hs1_13, hs1_14, hs1_15, hs1_16, hs1_17, hs1_18, hs1_19⟩ := hs1_o
  refine g_aload_n E dX1_duty_4 rfl rfl rfl ?_
  refine g_aload_n E dX1_duty_5 rfl rfl rfl ?_
  refine g_iload_n E dX1_duty_6 rfl rfl rfl ?_
  refine g_callV (k := 1000) (n9 := 1) (av := [.int p]) (st := [.ref 1000]) E (ct_X1_isGood_N l p hs1) gciX1 dX1_duty_7 hs1_a q1283 q1285 qs33 q120 q1286 (by decide +kernel) rfl rfl ⟨by decide, by decide⟩ ⟨by decide, by decide⟩ (Nat.le_of_ble_eq_true rfl) rfl (gPu.k ?_)
  refine g_iload_n E dX1_duty_10 rfl rfl rfl ?_
  refine g_callV (k := 1000) (n9 := 2) (av := [.int 0, .int dy]) (st := []) E (ct_X1_why l false dy hs1) gciX1 dX1_duty_11 hs1_a q1342 q1344 qs36 q120 q1345 (by decide +kernel) rfl rfl ⟨by decide, by decide⟩ ⟨by decide, by decide⟩ (Nat.le_of_ble_eq_true rfl) rfl (gPu.k ?_)
  refine g_istore_n E dX1_duty_14 rfl (by decide) rfl (lo1 := [some (.ref 1000), some (.int p), some (.int dy), some (.int 1)]) rfl rfl ?_
  refine g_iload_n E dX1_duty_15 rfl rfl rfl ?_
  refine g_if_eq E dX1_duty_16 (tgt := 27) (by decide) rfl (fun h9 => absurd h9 (by decide)) (fun _ => ?_)
  refine g_aload_n E dX1_duty_19 rfl rfl rfl ?_
  refine g_iload_n E dX1_duty_20 rfl rfl rfl ?_
  refine g_callV (k := 1000) (n9 := 1) (av := [.int 1]) (st := []) E (ct_X1_no l 1 hs1) gciX1 dX1_duty_21 hs1_a q503 q505 qs3 q120 q506 (by decide +kernel) rfl rfl ⟨by decide, by decide⟩ ⟨by decide, by decide⟩ (Nat.le_of_ble_eq_true rfl) rfl (gPi.k (fun g2 h2 => ?_))
  obtain ⟨hs2, f2⟩ := h2
  have hs2_o := hs2
  obtain ⟨hs2_F, hs2_a, hs2_0, hs2_1, hs2_2, hs2_3, hs2_4, hs2_5, hs2_6, hs2_7, hs2_8, hs2_9, hs2_10, hs2_11, hs2_12, hs2_13, hs2_14, hs2_15, hs2_16, hs2_17, hs2_18, hs2_19⟩ := hs2_o
  refine g_goto E dX1_duty_24 (tgt := 48) (by decide) ?_
  have hs3 : sDut zB0 0 p dy = ((-1), 1) := by first | (simp [sDut, sG, qI_z, qWy]; done) | (simp [sDut, sG, qI_z, qWy, qWy]; done)
  exact g_iret E Rt dX1_duty_48 rfl (by decide) (by decide) (by rw [hs3]; exact ⟨rfl, ⟨_, hs2_a, hs2_0, hs2_1, hs2_2, hs2_3, hs2_4, hs2_5, hs2_6, hs2_7, hs2_8, hs2_9, hs2_10, hs2_11, hs2_12, hs2_13, hs2_14, hs2_15, hs2_16, hs2_17, hs2_18, hs2_19⟩, fun j9 h9 => (f2 j9 (by omega)).trans (f1 j9 (by omega))⟩)
set_option maxHeartbeats 1000000 in
theorem ct_X1_smell (l : Launch) {g : gWM} {bb : Nat} {B : gBar} {R : Nat → Int32} {d : Int32} {tp mm um : Nat} {tr fa wh : Int32} (p : Int32) (dy : Int32) (hw : wfB B) (hSo : pSo g (.ref bb) tp tr fa wh mm um) (hLd : pLd g 1010 (.ref bb) B R d) (hBr : pBr g bb B) (hL1 : pLw g 1005 1) (hL2 : pLw g 1006 2) (hb9 : 10000 ≤ bb) : gCt l yX1_smell cX1_smell 4 (some .int) 4 0 0 89 [.ref 1000, .int p, .int dy] g (gPi (sSme B R d p dy).1 (fun g1 => pSo g1 (.ref bb) tp (sSme B R d p dy).2 fa (-1) mm um ∧ ∀ j, j ≠ 1000 → g1 j = g j)) := by
  refine gCt.of RX1 (by decide) rfl (lo := [some (.ref 1000), some (.int p), some (.int dy), none]) 1 rfl (Nat.le_of_ble_eq_true rfl) (fun z E Rt => ?_)
  have hw_n := hw.1
  have hSo_o := hSo
  obtain ⟨hSo_F, hSo_a, hSo_0, hSo_1, hSo_2, hSo_3, hSo_4, hSo_5, hSo_6, hSo_7, hSo_8, hSo_9, hSo_10, hSo_11, hSo_12, hSo_13, hSo_14, hSo_15, hSo_16, hSo_17, hSo_18, hSo_19⟩ := hSo_o
  have hLd_o := hLd
  obtain ⟨⟨hLd_F, hLd_a, hLd_0, hLd_1, hLd_2, hLd_3, hLd_4, hLd_5⟩, ⟨hLd_s, hLd_sa, hLd_sb⟩, ⟨hLd_e, hLd_ea, hLd_eb⟩, hLd_p, hLd_pa, hLd_pb⟩ := hLd_o
  have hBr_o := hBr
  obtain ⟨⟨hBr_F, hBr_a, hBr_0, hBr_1, hBr_2, hBr_3, hBr_4, hBr_5, hBr_6, hBr_7, hBr_8, hBr_9, hBr_10, hBr_11, hBr_12, hBr_13, hBr_14, hBr_15⟩, ⟨hBr_f1, hBr_a1, hBr_b1⟩, ⟨hBr_f2, hBr_a2, hBr_b2⟩, ⟨hBr_f3, hBr_a3, hBr_b3⟩, ⟨hBr_f4, hBr_a4, hBr_b4⟩, ⟨hBr_f5, hBr_a5, hBr_b5⟩, ⟨hBr_f6, hBr_a6, hBr_b6⟩, ⟨hBr_f7, hBr_a7, hBr_b7⟩, hBr_c1, hBr_c2, hBr_c3, hBr_c4, hBr_c5⟩ := hBr_o
  refine g_aload_n E dX1_smell_0 rfl rfl rfl ?_
  refine g_callV (k := 1000) (n9 := 0) (av := []) (st := []) E (ct_X1_anew l hSo) gciX1 dX1_smell_1 hSo_a q496 q498 qs2 q120 q499 (by decide +kernel) rfl rfl ⟨by decide, by decide⟩ ⟨by decide, by decide⟩ (Nat.le_of_ble_eq_true rfl) rfl (gPn.k (fun g1 h1 => ?_))
  obtain ⟨hs1, f1⟩ := h1
  have hs1_o := hs1
  obtain ⟨hs1_F, hs1_a, hs1_0, hs1_1, hs1_2, hs1_3, hs1_4, hs1_5, hs1_6, hs1_7, hs1_8, hs1_9, hs1_10, hs1_11, hs1_12, hs1_13, hs1_14, hs1_15, hs1_16, hs1_17, hs1_18, hs1_19⟩ := hs1_o
  refine g_aload_n E dX1_smell_4 rfl rfl rfl ?_
  refine g_aload_n E dX1_smell_5 rfl rfl rfl ?_
  refine g_iload_n E dX1_smell_6 rfl rfl rfl ?_
  have y2 := (hBr.fr hw (fun j9 a9 b9 => f1 j9 (by omega)))
  refine g_callV (k := 1000) (n9 := 1) (av := [.int p]) (st := [.ref 1000]) E (ct_X1_isGood l p hw hs1 y2) gciX1 dX1_smell_7 hs1_a q1283 q1285 qs33 q120 q1286 (by decide +kernel) rfl rfl ⟨by decide, by decide⟩ ⟨by decide, by decide⟩ (Nat.le_of_ble_eq_true rfl) rfl (gPu.k ?_)
  refine g_iload_n E dX1_smell_10 rfl rfl rfl ?_
  refine g_callV (k := 1000) (n9 := 2) (av := [.int (zb (qI (B 0 3) p).isSome), .int dy]) (st := []) E (ct_X1_why l ((qI (B 0 3) p).isSome) dy hs1) gciX1 dX1_smell_11 hs1_a q1342 q1344 qs36 q120 q1345 (by decide +kernel) rfl rfl ⟨by decide, by decide⟩ ⟨by decide, by decide⟩ (Nat.le_of_ble_eq_true rfl) rfl (gPu.k ?_)
  refine g_istore_n E dX1_smell_14 rfl (by decide) rfl (lo1 := [some (.ref 1000), some (.int p), some (.int dy), some (.int (qWy ((qI (B 0 3) p).isSome) dy))]) rfl rfl ?_
  refine g_iload_n E dX1_smell_15 rfl rfl rfl ?_
  refine g_if_eq E dX1_smell_16 (tgt := 27) (by decide) rfl (fun c16 => ?_) (fun c16 => ?_)
  · have q3 := (qWy_0.mp c16).1
    have q3_z := (qWy_0.mp c16).2
    obtain ⟨j, q4⟩ := isSome_of q3
    obtain ⟨rfl, q4_l⟩ := qI_some (by omega) q4
    refine g_aload_n E dX1_smell_27 rfl rfl rfl ?_
    refine g_getf E gciX1 dX1_smell_28 hs1_a 9 rfl (by decide) q431 (.inl rfl) (.ref 1010) (hs1_9) rfl ?_
    refine g_iload_n E dX1_smell_31 rfl rfl rfl ?_
    refine g_aload_n E dX1_smell_32 rfl rfl rfl ?_
    refine g_iload_n E dX1_smell_33 rfl rfl rfl ?_
    have y5 := (hLd.fr  (fun j9 a9 b9 => f1 j9 (by omega)))
    refine g_callV (k := 1000) (n9 := 1) (av := [.int dy]) (st := [.int (nI j), .ref 1010]) E (ct_X1_on l dy hw hs1 y5 y2) gciX1 dX1_smell_34 hs1_a q1346 q1348 qs37 q120 q1349 (by decide +kernel) rfl rfl ⟨by decide, by decide⟩ ⟨by decide, by decide⟩ (Nat.le_of_ble_eq_true rfl) rfl (gPu.k ?_)
    have x6 := (f1 (1010) (by omega)).trans (hLd_a)
    refine g_callV (k := 1010) (n9 := 2) (av := [.int (nI j), .int (d + dy)]) (st := []) E (ct_X4_smell l j (d + dy) hw y5 y2 (by omega)) gciX4 dX1_smell_37 x6 q1386 q1168 q1169 q126 q1170 (by decide +kernel) rfl rfl ⟨by decide, by decide⟩ ⟨by decide, by decide⟩ (Nat.le_of_ble_eq_true rfl) rfl (gPu.k ?_)
    have hs7 : sSme B R d (nI j) dy = (zSme B R j (d + dy) 0, 0) := by first | (simp [sSme, sG, c16, q4, q3_z]; done) | (simp [sSme, sG, c16, q4, q3_z, qWy]; done)
    exact g_iret E Rt dX1_smell_40 rfl (by decide) (by decide) (by rw [hs7]; exact ⟨rfl, ⟨_, hs1_a, hs1_0, hs1_1, hs1_2, hs1_3, hs1_4, hs1_5, hs1_6, hs1_7, hs1_8, hs1_9, hs1_10, hs1_11, hs1_12, hs1_13, hs1_14, hs1_15, hs1_16, hs1_17, hs1_18, hs1_19⟩, fun j9 h9 => f1 j9 (by omega)⟩)
  · refine g_aload_n E dX1_smell_19 rfl rfl rfl ?_
    refine g_iload_n E dX1_smell_20 rfl rfl rfl ?_
    refine g_callV (k := 1000) (n9 := 1) (av := [.int (qWy ((qI (B 0 3) p).isSome) dy)]) (st := []) E (ct_X1_no l (qWy ((qI (B 0 3) p).isSome) dy) hs1) gciX1 dX1_smell_21 hs1_a q503 q505 qs3 q120 q506 (by decide +kernel) rfl rfl ⟨by decide, by decide⟩ ⟨by decide, by decide⟩ (Nat.le_of_ble_eq_true rfl) rfl (gPi.k (fun g8 h8 => ?_))
    obtain ⟨hs8, f8⟩ := h8
    have hs8_o := hs8
    obtain ⟨hs8_F, hs8_a, hs8_0, hs8_1, hs8_2, hs8_3, hs8_4, hs8_5, hs8_6, hs8_7, hs8_8, hs8_9, hs8_10, hs8_11, hs8_12, hs8_13, hs8_14, hs8_15, hs8_16, hs8_17, hs8_18, hs8_19⟩ := hs8_o
    refine g_goto E dX1_smell_24 (tgt := 40) (by decide) ?_
    have hs9 : sSme B R d p dy = ((-1), qWy ((qI (B 0 3) p).isSome) dy) := by first | (simp [sSme, sG, c16]; done) | (simp [sSme, sG, c16, qWy]; done)
    exact g_iret E Rt dX1_smell_40 rfl (by decide) (by decide) (by rw [hs9]; exact ⟨rfl, ⟨_, hs8_a, hs8_0, hs8_1, hs8_2, hs8_3, hs8_4, hs8_5, hs8_6, hs8_7, hs8_8, hs8_9, hs8_10, hs8_11, hs8_12, hs8_13, hs8_14, hs8_15, hs8_16, hs8_17, hs8_18, hs8_19⟩, fun j9 h9 => (f8 j9 (by omega)).trans (f1 j9 (by omega))⟩)
set_option maxHeartbeats 1000000 in
theorem ct_X1_smell_N (l : Launch) {g : gWM} {tp mm um : Nat} {tr fa wh : Int32} (p : Int32) (dy : Int32) (hSo : pSo g .null tp tr fa wh mm um) : gCt l yX1_smell cX1_smell 4 (some .int) 2 0 0 44 [.ref 1000, .int p, .int dy] g (gPi (sSme zB0 (fun _ => 0) 0 p dy).1 (fun g1 => pSo g1 .null tp (sSme zB0 (fun _ => 0) 0 p dy).2 fa (-1) mm um ∧ ∀ j, j ≠ 1000 → g1 j = g j)) := by
  refine gCt.of RX1 (by decide) rfl (lo := [some (.ref 1000), some (.int p), some (.int dy), none]) 1 rfl (Nat.le_of_ble_eq_true rfl) (fun z E Rt => ?_)
  have hSo_o := hSo
  obtain ⟨hSo_F, hSo_a, hSo_0, hSo_1, hSo_2, hSo_3, hSo_4, hSo_5, hSo_6, hSo_7, hSo_8, hSo_9, hSo_10, hSo_11, hSo_12, hSo_13, hSo_14, hSo_15, hSo_16, hSo_17, hSo_18, hSo_19⟩ := hSo_o
  refine g_aload_n E dX1_smell_0 rfl rfl rfl ?_
  refine g_callV (k := 1000) (n9 := 0) (av := []) (st := []) E (ct_X1_anew l hSo) gciX1 dX1_smell_1 hSo_a q496 q498 qs2 q120 q499 (by decide +kernel) rfl rfl ⟨by decide, by decide⟩ ⟨by decide, by decide⟩ (Nat.le_of_ble_eq_true rfl) rfl (gPn.k (fun g1 h1 => ?_))
  obtain ⟨hs1, f1⟩ := h1
  have hs1_o := hs1
  obtain ⟨hs1_F, hs1_a, hs1_0, hs1_1, hs1_2, hs1_3, hs1_4, hs1_5, hs1_6, hs1_7, hs1_8, hs1_9, hs1_10, hs1_11, hs1_12, hs1_13, hs1_14, hs1_15, hs1_16, hs1_17, hs1_18, hs1_19⟩ := hs1_o
  refine g_aload_n E dX1_smell_4 rfl rfl rfl ?_
  refine g_aload_n E dX1_smell_5 rfl rfl rfl ?_
  refine g_iload_n E dX1_smell_6 rfl rfl rfl ?_
  refine g_callV (k := 1000) (n9 := 1) (av := [.int p]) (st := [.ref 1000]) E (ct_X1_isGood_N l p hs1) gciX1 dX1_smell_7 hs1_a q1283 q1285 qs33 q120 q1286 (by decide +kernel) rfl rfl ⟨by decide, by decide⟩ ⟨by decide, by decide⟩ (Nat.le_of_ble_eq_true rfl) rfl (gPu.k ?_)
  refine g_iload_n E dX1_smell_10 rfl rfl rfl ?_
  refine g_callV (k := 1000) (n9 := 2) (av := [.int 0, .int dy]) (st := []) E (ct_X1_why l false dy hs1) gciX1 dX1_smell_11 hs1_a q1342 q1344 qs36 q120 q1345 (by decide +kernel) rfl rfl ⟨by decide, by decide⟩ ⟨by decide, by decide⟩ (Nat.le_of_ble_eq_true rfl) rfl (gPu.k ?_)
  refine g_istore_n E dX1_smell_14 rfl (by decide) rfl (lo1 := [some (.ref 1000), some (.int p), some (.int dy), some (.int 1)]) rfl rfl ?_
  refine g_iload_n E dX1_smell_15 rfl rfl rfl ?_
  refine g_if_eq E dX1_smell_16 (tgt := 27) (by decide) rfl (fun h9 => absurd h9 (by decide)) (fun _ => ?_)
  refine g_aload_n E dX1_smell_19 rfl rfl rfl ?_
  refine g_iload_n E dX1_smell_20 rfl rfl rfl ?_
  refine g_callV (k := 1000) (n9 := 1) (av := [.int 1]) (st := []) E (ct_X1_no l 1 hs1) gciX1 dX1_smell_21 hs1_a q503 q505 qs3 q120 q506 (by decide +kernel) rfl rfl ⟨by decide, by decide⟩ ⟨by decide, by decide⟩ (Nat.le_of_ble_eq_true rfl) rfl (gPi.k (fun g2 h2 => ?_))
  obtain ⟨hs2, f2⟩ := h2
  have hs2_o := hs2
  obtain ⟨hs2_F, hs2_a, hs2_0, hs2_1, hs2_2, hs2_3, hs2_4, hs2_5, hs2_6, hs2_7, hs2_8, hs2_9, hs2_10, hs2_11, hs2_12, hs2_13, hs2_14, hs2_15, hs2_16, hs2_17, hs2_18, hs2_19⟩ := hs2_o
  refine g_goto E dX1_smell_24 (tgt := 40) (by decide) ?_
  have hs3 : sSme zB0 (fun _ => 0) 0 p dy = ((-1), 1) := by first | (simp [sSme, sG, qI_z, qWy]; done) | (simp [sSme, sG, qI_z, qWy, qWy]; done)
  exact g_iret E Rt dX1_smell_40 rfl (by decide) (by decide) (by rw [hs3]; exact ⟨rfl, ⟨_, hs2_a, hs2_0, hs2_1, hs2_2, hs2_3, hs2_4, hs2_5, hs2_6, hs2_7, hs2_8, hs2_9, hs2_10, hs2_11, hs2_12, hs2_13, hs2_14, hs2_15, hs2_16, hs2_17, hs2_18, hs2_19⟩, fun j9 h9 => (f2 j9 (by omega)).trans (f1 j9 (by omega))⟩)
set_option maxHeartbeats 1000000 in
theorem ct_X1_asked (l : Launch) {g : gWM} {bb : Nat} {B : gBar} {R : Nat → Int32} {d : Int32} {tp mm um : Nat} {tr fa wh : Int32} (p : Int32) (q : Int32) (dy : Int32) (hw : wfB B) (hSo : pSo g (.ref bb) tp tr fa wh mm um) (hLd : pLd g 1010 (.ref bb) B R d) (hBr : pBr g bb B) (hL1 : pLw g 1005 1) (hL2 : pLw g 1006 2) (hb9 : 10000 ≤ bb) : gCt l yX1_asked cX1_asked 5 (some .int) 6 0 0 139 [.ref 1000, .int p, .int q, .int dy] g (gPi (sAsk B R d p q dy).1 (fun g1 => pSo g1 (.ref bb) tp (sAsk B R d p q dy).2 fa (-1) mm um ∧ ∀ j, j ≠ 1000 → g1 j = g j)) := by
  refine gCt.of RX1 (by decide) rfl (lo := [some (.ref 1000), some (.int p), some (.int q), some (.int dy), none]) 1 rfl (Nat.le_of_ble_eq_true rfl) (fun z E Rt => ?_)
  have hw_n := hw.1
  have hSo_o := hSo
  obtain ⟨hSo_F, hSo_a, hSo_0, hSo_1, hSo_2, hSo_3, hSo_4, hSo_5, hSo_6, hSo_7, hSo_8, hSo_9, hSo_10, hSo_11, hSo_12, hSo_13, hSo_14, hSo_15, hSo_16, hSo_17, hSo_18, hSo_19⟩ := hSo_o
  have hLd_o := hLd
  obtain ⟨⟨hLd_F, hLd_a, hLd_0, hLd_1, hLd_2, hLd_3, hLd_4, hLd_5⟩, ⟨hLd_s, hLd_sa, hLd_sb⟩, ⟨hLd_e, hLd_ea, hLd_eb⟩, hLd_p, hLd_pa, hLd_pb⟩ := hLd_o
  have hBr_o := hBr
  obtain ⟨⟨hBr_F, hBr_a, hBr_0, hBr_1, hBr_2, hBr_3, hBr_4, hBr_5, hBr_6, hBr_7, hBr_8, hBr_9, hBr_10, hBr_11, hBr_12, hBr_13, hBr_14, hBr_15⟩, ⟨hBr_f1, hBr_a1, hBr_b1⟩, ⟨hBr_f2, hBr_a2, hBr_b2⟩, ⟨hBr_f3, hBr_a3, hBr_b3⟩, ⟨hBr_f4, hBr_a4, hBr_b4⟩, ⟨hBr_f5, hBr_a5, hBr_b5⟩, ⟨hBr_f6, hBr_a6, hBr_b6⟩, ⟨hBr_f7, hBr_a7, hBr_b7⟩, hBr_c1, hBr_c2, hBr_c3, hBr_c4, hBr_c5⟩ := hBr_o
  refine g_aload_n E dX1_asked_0 rfl rfl rfl ?_
  refine g_callV (k := 1000) (n9 := 0) (av := []) (st := []) E (ct_X1_anew l hSo) gciX1 dX1_asked_1 hSo_a q496 q498 qs2 q120 q499 (by decide +kernel) rfl rfl ⟨by decide, by decide⟩ ⟨by decide, by decide⟩ (Nat.le_of_ble_eq_true rfl) rfl (gPn.k (fun g1 h1 => ?_))
  obtain ⟨hs1, f1⟩ := h1
  have hs1_o := hs1
  obtain ⟨hs1_F, hs1_a, hs1_0, hs1_1, hs1_2, hs1_3, hs1_4, hs1_5, hs1_6, hs1_7, hs1_8, hs1_9, hs1_10, hs1_11, hs1_12, hs1_13, hs1_14, hs1_15, hs1_16, hs1_17, hs1_18, hs1_19⟩ := hs1_o
  refine g_aload_n E dX1_asked_4 rfl rfl rfl ?_
  refine g_iload_n E dX1_asked_5 rfl rfl rfl ?_
  refine g_iload_n E dX1_asked_6 rfl rfl rfl ?_
  refine g_iload_n E dX1_asked_7 rfl rfl rfl ?_
  have y2 := (hBr.fr hw (fun j9 a9 b9 => f1 j9 (by omega)))
  refine g_callV (k := 1000) (n9 := 3) (av := [.int p, .int q, .int dy]) (st := []) E (ct_X1_crossWhy l p q dy hw hs1 y2) gciX1 dX1_asked_8 hs1_a q1396 q1398 qs38 q120 q1399 (by decide +kernel) rfl rfl ⟨by decide, by decide⟩ ⟨by decide, by decide⟩ (Nat.le_of_ble_eq_true rfl) rfl (gPu.k ?_)
  refine g_istore E dX1_asked_11 (by decide) rfl (lo1 := [some (.ref 1000), some (.int p), some (.int q), some (.int dy), some (.int (qWy ((qI (B 0 1) p).isSome && (qI (B 0 2) q).isSome) dy))]) rfl rfl ?_
  refine g_iload E dX1_asked_13 rfl rfl ?_
  refine g_if_eq E dX1_asked_15 (tgt := 27) (by decide) rfl (fun c15 => ?_) (fun c15 => ?_)
  · have q3 := (qWy_0.mp c15).1
    have q3_z := (qWy_0.mp c15).2
    have q4 := (Bool.and_eq_true_iff).mp q3
    obtain ⟨t, q5⟩ := isSome_of q4.1
    obtain ⟨rfl, q5_l⟩ := qI_some (by omega) q5
    obtain ⟨k9, q6⟩ := isSome_of q4.2
    obtain ⟨rfl, q6_l⟩ := qI_some (by omega) q6
    refine g_aload_n E dX1_asked_27 rfl rfl rfl ?_
    refine g_iload_n E dX1_asked_28 rfl rfl rfl ?_
    refine g_iload_n E dX1_asked_29 rfl rfl rfl ?_
    refine g_iload_n E dX1_asked_30 rfl rfl rfl ?_
    refine g_aload_n E dX1_asked_31 rfl rfl rfl ?_
    refine g_getf E gciX1 dX1_asked_32 hs1_a 11 rfl (by decide) q433 (.inl rfl) (.ref 1005) (hs1_11) rfl ?_
    have y7 := (hLd.fr  (fun j9 a9 b9 => f1 j9 (by omega)))
    have y8 := (hL1.fr  (fun j9 a9 b9 => f1 j9 (by omega)))
    refine g_callV (k := 1000) (n9 := 4) (av := [.int (nI t), .int (nI k9), .int dy, .ref 1005]) (st := []) E (ct_X1_askedOf l t k9 dy hw hs1 y7 y2 y8 (by omega) (by omega)) gciX1 dX1_asked_35 hs1_a q1400 q1402 qs39 q120 q1403 (by decide +kernel) rfl rfl ⟨by decide, by decide⟩ ⟨by decide, by decide⟩ (Nat.le_of_ble_eq_true rfl) rfl (gPu.k ?_)
    have hs9 : sAsk B R d (nI t) (nI k9) dy = (zAo B R t k9 1 (d + dy), 0) := by first | (simp [sAsk, sX, c15, q5, q6, q3_z]; done) | (simp [sAsk, sX, c15, q5, q6, q3_z, qWy]; done)
    exact g_iret E Rt dX1_asked_38 rfl (by decide) (by decide) (by rw [hs9]; exact ⟨rfl, ⟨_, hs1_a, hs1_0, hs1_1, hs1_2, hs1_3, hs1_4, hs1_5, hs1_6, hs1_7, hs1_8, hs1_9, hs1_10, hs1_11, hs1_12, hs1_13, hs1_14, hs1_15, hs1_16, hs1_17, hs1_18, hs1_19⟩, fun j9 h9 => f1 j9 (by omega)⟩)
  · refine g_aload_n E dX1_asked_18 rfl rfl rfl ?_
    refine g_iload E dX1_asked_19 rfl rfl ?_
    refine g_callV (k := 1000) (n9 := 1) (av := [.int (qWy ((qI (B 0 1) p).isSome && (qI (B 0 2) q).isSome) dy)]) (st := []) E (ct_X1_no l (qWy ((qI (B 0 1) p).isSome && (qI (B 0 2) q).isSome) dy) hs1) gciX1 dX1_asked_21 hs1_a q503 q505 qs3 q120 q506 (by decide +kernel) rfl rfl ⟨by decide, by decide⟩ ⟨by decide, by decide⟩ (Nat.le_of_ble_eq_true rfl) rfl (gPi.k (fun g10 h10 => ?_))
    obtain ⟨hs10, f10⟩ := h10
    have hs10_o := hs10
    obtain ⟨hs10_F, hs10_a, hs10_0, hs10_1, hs10_2, hs10_3, hs10_4, hs10_5, hs10_6, hs10_7, hs10_8, hs10_9, hs10_10, hs10_11, hs10_12, hs10_13, hs10_14, hs10_15, hs10_16, hs10_17, hs10_18, hs10_19⟩ := hs10_o
    refine g_goto E dX1_asked_24 (tgt := 38) (by decide) ?_
    have hs11 : sAsk B R d p q dy = ((-1), qWy ((qI (B 0 1) p).isSome && (qI (B 0 2) q).isSome) dy) := by first | (simp [sAsk, sX, c15]; done) | (simp [sAsk, sX, c15, qWy]; done)
    exact g_iret E Rt dX1_asked_38 rfl (by decide) (by decide) (by rw [hs11]; exact ⟨rfl, ⟨_, hs10_a, hs10_0, hs10_1, hs10_2, hs10_3, hs10_4, hs10_5, hs10_6, hs10_7, hs10_8, hs10_9, hs10_10, hs10_11, hs10_12, hs10_13, hs10_14, hs10_15, hs10_16, hs10_17, hs10_18, hs10_19⟩, fun j9 h9 => (f10 j9 (by omega)).trans (f1 j9 (by omega))⟩)
set_option maxHeartbeats 1000000 in
theorem ct_X1_asked_N (l : Launch) {g : gWM} {tp mm um : Nat} {tr fa wh : Int32} (p : Int32) (q : Int32) (dy : Int32) (hSo : pSo g .null tp tr fa wh mm um) : gCt l yX1_asked cX1_asked 5 (some .int) 3 0 0 67 [.ref 1000, .int p, .int q, .int dy] g (gPi (sAsk zB0 (fun _ => 0) 0 p q dy).1 (fun g1 => pSo g1 .null tp (sAsk zB0 (fun _ => 0) 0 p q dy).2 fa (-1) mm um ∧ ∀ j, j ≠ 1000 → g1 j = g j)) := by
  refine gCt.of RX1 (by decide) rfl (lo := [some (.ref 1000), some (.int p), some (.int q), some (.int dy), none]) 1 rfl (Nat.le_of_ble_eq_true rfl) (fun z E Rt => ?_)
  have hSo_o := hSo
  obtain ⟨hSo_F, hSo_a, hSo_0, hSo_1, hSo_2, hSo_3, hSo_4, hSo_5, hSo_6, hSo_7, hSo_8, hSo_9, hSo_10, hSo_11, hSo_12, hSo_13, hSo_14, hSo_15, hSo_16, hSo_17, hSo_18, hSo_19⟩ := hSo_o
  refine g_aload_n E dX1_asked_0 rfl rfl rfl ?_
  refine g_callV (k := 1000) (n9 := 0) (av := []) (st := []) E (ct_X1_anew l hSo) gciX1 dX1_asked_1 hSo_a q496 q498 qs2 q120 q499 (by decide +kernel) rfl rfl ⟨by decide, by decide⟩ ⟨by decide, by decide⟩ (Nat.le_of_ble_eq_true rfl) rfl (gPn.k (fun g1 h1 => ?_))
  obtain ⟨hs1, f1⟩ := h1
  have hs1_o := hs1
  obtain ⟨hs1_F, hs1_a, hs1_0, hs1_1, hs1_2, hs1_3, hs1_4, hs1_5, hs1_6, hs1_7, hs1_8, hs1_9, hs1_10, hs1_11, hs1_12, hs1_13, hs1_14, hs1_15, hs1_16, hs1_17, hs1_18, hs1_19⟩ := hs1_o
  refine g_aload_n E dX1_asked_4 rfl rfl rfl ?_
  refine g_iload_n E dX1_asked_5 rfl rfl rfl ?_
  refine g_iload_n E dX1_asked_6 rfl rfl rfl ?_
  refine g_iload_n E dX1_asked_7 rfl rfl rfl ?_
  refine g_callV (k := 1000) (n9 := 3) (av := [.int p, .int q, .int dy]) (st := []) E (ct_X1_crossWhy_N l p q dy hs1) gciX1 dX1_asked_8 hs1_a q1396 q1398 qs38 q120 q1399 (by decide +kernel) rfl rfl ⟨by decide, by decide⟩ ⟨by decide, by decide⟩ (Nat.le_of_ble_eq_true rfl) rfl (gPu.k ?_)
  refine g_istore E dX1_asked_11 (by decide) rfl (lo1 := [some (.ref 1000), some (.int p), some (.int q), some (.int dy), some (.int 1)]) rfl rfl ?_
  refine g_iload E dX1_asked_13 rfl rfl ?_
  refine g_if_eq E dX1_asked_15 (tgt := 27) (by decide) rfl (fun h9 => absurd h9 (by decide)) (fun _ => ?_)
  refine g_aload_n E dX1_asked_18 rfl rfl rfl ?_
  refine g_iload E dX1_asked_19 rfl rfl ?_
  refine g_callV (k := 1000) (n9 := 1) (av := [.int 1]) (st := []) E (ct_X1_no l 1 hs1) gciX1 dX1_asked_21 hs1_a q503 q505 qs3 q120 q506 (by decide +kernel) rfl rfl ⟨by decide, by decide⟩ ⟨by decide, by decide⟩ (Nat.le_of_ble_eq_true rfl) rfl (gPi.k (fun g2 h2 => ?_))
  obtain ⟨hs2, f2⟩ := h2
  have hs2_o := hs2
  obtain ⟨hs2_F, hs2_a, hs2_0, hs2_1, hs2_2, hs2_3, hs2_4, hs2_5, hs2_6, hs2_7, hs2_8, hs2_9, hs2_10, hs2_11, hs2_12, hs2_13, hs2_14, hs2_15, hs2_16, hs2_17, hs2_18, hs2_19⟩ := hs2_o
  refine g_goto E dX1_asked_24 (tgt := 38) (by decide) ?_
  have hs3 : sAsk zB0 (fun _ => 0) 0 p q dy = ((-1), 1) := by first | (simp [sAsk, sX, qI_z, qWy]; done) | (simp [sAsk, sX, qI_z, qWy, qWy]; done)
  exact g_iret E Rt dX1_asked_38 rfl (by decide) (by decide) (by rw [hs3]; exact ⟨rfl, ⟨_, hs2_a, hs2_0, hs2_1, hs2_2, hs2_3, hs2_4, hs2_5, hs2_6, hs2_7, hs2_8, hs2_9, hs2_10, hs2_11, hs2_12, hs2_13, hs2_14, hs2_15, hs2_16, hs2_17, hs2_18, hs2_19⟩, fun j9 h9 => (f2 j9 (by omega)).trans (f1 j9 (by omega))⟩)
set_option maxHeartbeats 1000000 in
theorem ct_X1_otherLaw (l : Launch) {g : gWM} {bb : Nat} {B : gBar} {R : Nat → Int32} {d : Int32} {tp mm um : Nat} {tr fa wh : Int32} (p : Int32) (q : Int32) (dy : Int32) (hw : wfB B) (hSo : pSo g (.ref bb) tp tr fa wh mm um) (hLd : pLd g 1010 (.ref bb) B R d) (hBr : pBr g bb B) (hL1 : pLw g 1005 1) (hL2 : pLw g 1006 2) (hb9 : 10000 ≤ bb) : gCt l yX1_otherLaw cX1_otherLaw 5 (some .int) 6 0 0 139 [.ref 1000, .int p, .int q, .int dy] g (gPi (sOth B R d p q dy).1 (fun g1 => pSo g1 (.ref bb) tp (sOth B R d p q dy).2 fa (-1) mm um ∧ ∀ j, j ≠ 1000 → g1 j = g j)) := by
  refine gCt.of RX1 (by decide) rfl (lo := [some (.ref 1000), some (.int p), some (.int q), some (.int dy), none]) 1 rfl (Nat.le_of_ble_eq_true rfl) (fun z E Rt => ?_)
  have hw_n := hw.1
  have hSo_o := hSo
  obtain ⟨hSo_F, hSo_a, hSo_0, hSo_1, hSo_2, hSo_3, hSo_4, hSo_5, hSo_6, hSo_7, hSo_8, hSo_9, hSo_10, hSo_11, hSo_12, hSo_13, hSo_14, hSo_15, hSo_16, hSo_17, hSo_18, hSo_19⟩ := hSo_o
  have hLd_o := hLd
  obtain ⟨⟨hLd_F, hLd_a, hLd_0, hLd_1, hLd_2, hLd_3, hLd_4, hLd_5⟩, ⟨hLd_s, hLd_sa, hLd_sb⟩, ⟨hLd_e, hLd_ea, hLd_eb⟩, hLd_p, hLd_pa, hLd_pb⟩ := hLd_o
  have hBr_o := hBr
  obtain ⟨⟨hBr_F, hBr_a, hBr_0, hBr_1, hBr_2, hBr_3, hBr_4, hBr_5, hBr_6, hBr_7, hBr_8, hBr_9, hBr_10, hBr_11, hBr_12, hBr_13, hBr_14, hBr_15⟩, ⟨hBr_f1, hBr_a1, hBr_b1⟩, ⟨hBr_f2, hBr_a2, hBr_b2⟩, ⟨hBr_f3, hBr_a3, hBr_b3⟩, ⟨hBr_f4, hBr_a4, hBr_b4⟩, ⟨hBr_f5, hBr_a5, hBr_b5⟩, ⟨hBr_f6, hBr_a6, hBr_b6⟩, ⟨hBr_f7, hBr_a7, hBr_b7⟩, hBr_c1, hBr_c2, hBr_c3, hBr_c4, hBr_c5⟩ := hBr_o
  refine g_aload_n E dX1_otherLaw_0 rfl rfl rfl ?_
  refine g_callV (k := 1000) (n9 := 0) (av := []) (st := []) E (ct_X1_anew l hSo) gciX1 dX1_otherLaw_1 hSo_a q496 q498 qs2 q120 q499 (by decide +kernel) rfl rfl ⟨by decide, by decide⟩ ⟨by decide, by decide⟩ (Nat.le_of_ble_eq_true rfl) rfl (gPn.k (fun g1 h1 => ?_))
  obtain ⟨hs1, f1⟩ := h1
  have hs1_o := hs1
  obtain ⟨hs1_F, hs1_a, hs1_0, hs1_1, hs1_2, hs1_3, hs1_4, hs1_5, hs1_6, hs1_7, hs1_8, hs1_9, hs1_10, hs1_11, hs1_12, hs1_13, hs1_14, hs1_15, hs1_16, hs1_17, hs1_18, hs1_19⟩ := hs1_o
  refine g_aload_n E dX1_otherLaw_4 rfl rfl rfl ?_
  refine g_iload_n E dX1_otherLaw_5 rfl rfl rfl ?_
  refine g_iload_n E dX1_otherLaw_6 rfl rfl rfl ?_
  refine g_iload_n E dX1_otherLaw_7 rfl rfl rfl ?_
  have y2 := (hBr.fr hw (fun j9 a9 b9 => f1 j9 (by omega)))
  refine g_callV (k := 1000) (n9 := 3) (av := [.int p, .int q, .int dy]) (st := []) E (ct_X1_crossWhy l p q dy hw hs1 y2) gciX1 dX1_otherLaw_8 hs1_a q1396 q1398 qs38 q120 q1399 (by decide +kernel) rfl rfl ⟨by decide, by decide⟩ ⟨by decide, by decide⟩ (Nat.le_of_ble_eq_true rfl) rfl (gPu.k ?_)
  refine g_istore E dX1_otherLaw_11 (by decide) rfl (lo1 := [some (.ref 1000), some (.int p), some (.int q), some (.int dy), some (.int (qWy ((qI (B 0 1) p).isSome && (qI (B 0 2) q).isSome) dy))]) rfl rfl ?_
  refine g_iload E dX1_otherLaw_13 rfl rfl ?_
  refine g_if_eq E dX1_otherLaw_15 (tgt := 27) (by decide) rfl (fun c15 => ?_) (fun c15 => ?_)
  · have q3 := (qWy_0.mp c15).1
    have q3_z := (qWy_0.mp c15).2
    have q4 := (Bool.and_eq_true_iff).mp q3
    obtain ⟨t, q5⟩ := isSome_of q4.1
    obtain ⟨rfl, q5_l⟩ := qI_some (by omega) q5
    obtain ⟨k9, q6⟩ := isSome_of q4.2
    obtain ⟨rfl, q6_l⟩ := qI_some (by omega) q6
    refine g_aload_n E dX1_otherLaw_27 rfl rfl rfl ?_
    refine g_iload_n E dX1_otherLaw_28 rfl rfl rfl ?_
    refine g_iload_n E dX1_otherLaw_29 rfl rfl rfl ?_
    refine g_iload_n E dX1_otherLaw_30 rfl rfl rfl ?_
    refine g_aload_n E dX1_otherLaw_31 rfl rfl rfl ?_
    refine g_getf E gciX1 dX1_otherLaw_32 hs1_a 12 rfl (by decide) q434 (.inl rfl) (.ref 1006) (hs1_12) rfl ?_
    have y7 := (hLd.fr  (fun j9 a9 b9 => f1 j9 (by omega)))
    have y8 := (hL2.fr  (fun j9 a9 b9 => f1 j9 (by omega)))
    refine g_callV (k := 1000) (n9 := 4) (av := [.int (nI t), .int (nI k9), .int dy, .ref 1006]) (st := []) E (ct_X1_askedOf l t k9 dy hw hs1 y7 y2 y8 (by omega) (by omega)) gciX1 dX1_otherLaw_35 hs1_a q1400 q1402 qs39 q120 q1403 (by decide +kernel) rfl rfl ⟨by decide, by decide⟩ ⟨by decide, by decide⟩ (Nat.le_of_ble_eq_true rfl) rfl (gPu.k ?_)
    have hs9 : sOth B R d (nI t) (nI k9) dy = (zAo B R t k9 2 (d + dy), 0) := by first | (simp [sOth, sX, c15, q5, q6, q3_z]; done) | (simp [sOth, sX, c15, q5, q6, q3_z, qWy]; done)
    exact g_iret E Rt dX1_otherLaw_38 rfl (by decide) (by decide) (by rw [hs9]; exact ⟨rfl, ⟨_, hs1_a, hs1_0, hs1_1, hs1_2, hs1_3, hs1_4, hs1_5, hs1_6, hs1_7, hs1_8, hs1_9, hs1_10, hs1_11, hs1_12, hs1_13, hs1_14, hs1_15, hs1_16, hs1_17, hs1_18, hs1_19⟩, fun j9 h9 => f1 j9 (by omega)⟩)
  · refine g_aload_n E dX1_otherLaw_18 rfl rfl rfl ?_
    refine g_iload E dX1_otherLaw_19 rfl rfl ?_
    refine g_callV (k := 1000) (n9 := 1) (av := [.int (qWy ((qI (B 0 1) p).isSome && (qI (B 0 2) q).isSome) dy)]) (st := []) E (ct_X1_no l (qWy ((qI (B 0 1) p).isSome && (qI (B 0 2) q).isSome) dy) hs1) gciX1 dX1_otherLaw_21 hs1_a q503 q505 qs3 q120 q506 (by decide +kernel) rfl rfl ⟨by decide, by decide⟩ ⟨by decide, by decide⟩ (Nat.le_of_ble_eq_true rfl) rfl (gPi.k (fun g10 h10 => ?_))
    obtain ⟨hs10, f10⟩ := h10
    have hs10_o := hs10
    obtain ⟨hs10_F, hs10_a, hs10_0, hs10_1, hs10_2, hs10_3, hs10_4, hs10_5, hs10_6, hs10_7, hs10_8, hs10_9, hs10_10, hs10_11, hs10_12, hs10_13, hs10_14, hs10_15, hs10_16, hs10_17, hs10_18, hs10_19⟩ := hs10_o
    refine g_goto E dX1_otherLaw_24 (tgt := 38) (by decide) ?_
    have hs11 : sOth B R d p q dy = ((-1), qWy ((qI (B 0 1) p).isSome && (qI (B 0 2) q).isSome) dy) := by first | (simp [sOth, sX, c15]; done) | (simp [sOth, sX, c15, qWy]; done)
    exact g_iret E Rt dX1_otherLaw_38 rfl (by decide) (by decide) (by rw [hs11]; exact ⟨rfl, ⟨_, hs10_a, hs10_0, hs10_1, hs10_2, hs10_3, hs10_4, hs10_5, hs10_6, hs10_7, hs10_8, hs10_9, hs10_10, hs10_11, hs10_12, hs10_13, hs10_14, hs10_15, hs10_16, hs10_17, hs10_18, hs10_19⟩, fun j9 h9 => (f10 j9 (by omega)).trans (f1 j9 (by omega))⟩)
set_option maxHeartbeats 1000000 in
theorem ct_X1_otherLaw_N (l : Launch) {g : gWM} {tp mm um : Nat} {tr fa wh : Int32} (p : Int32) (q : Int32) (dy : Int32) (hSo : pSo g .null tp tr fa wh mm um) : gCt l yX1_otherLaw cX1_otherLaw 5 (some .int) 3 0 0 67 [.ref 1000, .int p, .int q, .int dy] g (gPi (sOth zB0 (fun _ => 0) 0 p q dy).1 (fun g1 => pSo g1 .null tp (sOth zB0 (fun _ => 0) 0 p q dy).2 fa (-1) mm um ∧ ∀ j, j ≠ 1000 → g1 j = g j)) := by
  refine gCt.of RX1 (by decide) rfl (lo := [some (.ref 1000), some (.int p), some (.int q), some (.int dy), none]) 1 rfl (Nat.le_of_ble_eq_true rfl) (fun z E Rt => ?_)
  have hSo_o := hSo
  obtain ⟨hSo_F, hSo_a, hSo_0, hSo_1, hSo_2, hSo_3, hSo_4, hSo_5, hSo_6, hSo_7, hSo_8, hSo_9, hSo_10, hSo_11, hSo_12, hSo_13, hSo_14, hSo_15, hSo_16, hSo_17, hSo_18, hSo_19⟩ := hSo_o
  refine g_aload_n E dX1_otherLaw_0 rfl rfl rfl ?_
  refine g_callV (k := 1000) (n9 := 0) (av := []) (st := []) E (ct_X1_anew l hSo) gciX1 dX1_otherLaw_1 hSo_a q496 q498 qs2 q120 q499 (by decide +kernel) rfl rfl ⟨by decide, by decide⟩ ⟨by decide, by decide⟩ (Nat.le_of_ble_eq_true rfl) rfl (gPn.k (fun g1 h1 => ?_))
  obtain ⟨hs1, f1⟩ := h1
  have hs1_o := hs1
  obtain ⟨hs1_F, hs1_a, hs1_0, hs1_1, hs1_2, hs1_3, hs1_4, hs1_5, hs1_6, hs1_7, hs1_8, hs1_9, hs1_10, hs1_11, hs1_12, hs1_13, hs1_14, hs1_15, hs1_16, hs1_17, hs1_18, hs1_19⟩ := hs1_o
  refine g_aload_n E dX1_otherLaw_4 rfl rfl rfl ?_
  refine g_iload_n E dX1_otherLaw_5 rfl rfl rfl ?_
  refine g_iload_n E dX1_otherLaw_6 rfl rfl rfl ?_
  refine g_iload_n E dX1_otherLaw_7 rfl rfl rfl ?_
  refine g_callV (k := 1000) (n9 := 3) (av := [.int p, .int q, .int dy]) (st := []) E (ct_X1_crossWhy_N l p q dy hs1) gciX1 dX1_otherLaw_8 hs1_a q1396 q1398 qs38 q120 q1399 (by decide +kernel) rfl rfl ⟨by decide, by decide⟩ ⟨by decide, by decide⟩ (Nat.le_of_ble_eq_true rfl) rfl (gPu.k ?_)
  refine g_istore E dX1_otherLaw_11 (by decide) rfl (lo1 := [some (.ref 1000), some (.int p), some (.int q), some (.int dy), some (.int 1)]) rfl rfl ?_
  refine g_iload E dX1_otherLaw_13 rfl rfl ?_
  refine g_if_eq E dX1_otherLaw_15 (tgt := 27) (by decide) rfl (fun h9 => absurd h9 (by decide)) (fun _ => ?_)
  refine g_aload_n E dX1_otherLaw_18 rfl rfl rfl ?_
  refine g_iload E dX1_otherLaw_19 rfl rfl ?_
  refine g_callV (k := 1000) (n9 := 1) (av := [.int 1]) (st := []) E (ct_X1_no l 1 hs1) gciX1 dX1_otherLaw_21 hs1_a q503 q505 qs3 q120 q506 (by decide +kernel) rfl rfl ⟨by decide, by decide⟩ ⟨by decide, by decide⟩ (Nat.le_of_ble_eq_true rfl) rfl (gPi.k (fun g2 h2 => ?_))
  obtain ⟨hs2, f2⟩ := h2
  have hs2_o := hs2
  obtain ⟨hs2_F, hs2_a, hs2_0, hs2_1, hs2_2, hs2_3, hs2_4, hs2_5, hs2_6, hs2_7, hs2_8, hs2_9, hs2_10, hs2_11, hs2_12, hs2_13, hs2_14, hs2_15, hs2_16, hs2_17, hs2_18, hs2_19⟩ := hs2_o
  refine g_goto E dX1_otherLaw_24 (tgt := 38) (by decide) ?_
  have hs3 : sOth zB0 (fun _ => 0) 0 p q dy = ((-1), 1) := by first | (simp [sOth, sX, qI_z, qWy]; done) | (simp [sOth, sX, qI_z, qWy, qWy]; done)
  exact g_iret E Rt dX1_otherLaw_38 rfl (by decide) (by decide) (by rw [hs3]; exact ⟨rfl, ⟨_, hs2_a, hs2_0, hs2_1, hs2_2, hs2_3, hs2_4, hs2_5, hs2_6, hs2_7, hs2_8, hs2_9, hs2_10, hs2_11, hs2_12, hs2_13, hs2_14, hs2_15, hs2_16, hs2_17, hs2_18, hs2_19⟩, fun j9 h9 => (f2 j9 (by omega)).trans (f1 j9 (by omega))⟩)
set_option maxHeartbeats 1000000 in
theorem ct_X1_found (l : Launch) {g : gWM} {bb : Nat} {B : gBar} {R : Nat → Int32} {d : Int32} {tp mm um : Nat} {tr fa wh : Int32} (p : Int32) (q : Int32) (dy : Int32) (hw : wfB B) (hSo : pSo g (.ref bb) tp tr fa wh mm um) (hLd : pLd g 1010 (.ref bb) B R d) (hBr : pBr g bb B) (hL1 : pLw g 1005 1) (hL2 : pLw g 1006 2) (hb9 : 10000 ≤ bb) : gCt l yX1_found cX1_found 5 (some .int) 5 0 0 115 [.ref 1000, .int p, .int q, .int dy] g (gPi (sFou B R d p q dy).1 (fun g1 => pSo g1 (.ref bb) tp (sFou B R d p q dy).2 fa (-1) mm um ∧ ∀ j, j ≠ 1000 → g1 j = g j)) := by
  refine gCt.of RX1 (by decide) rfl (lo := [some (.ref 1000), some (.int p), some (.int q), some (.int dy), none]) 1 rfl (Nat.le_of_ble_eq_true rfl) (fun z E Rt => ?_)
  have hw_n := hw.1
  have hSo_o := hSo
  obtain ⟨hSo_F, hSo_a, hSo_0, hSo_1, hSo_2, hSo_3, hSo_4, hSo_5, hSo_6, hSo_7, hSo_8, hSo_9, hSo_10, hSo_11, hSo_12, hSo_13, hSo_14, hSo_15, hSo_16, hSo_17, hSo_18, hSo_19⟩ := hSo_o
  have hLd_o := hLd
  obtain ⟨⟨hLd_F, hLd_a, hLd_0, hLd_1, hLd_2, hLd_3, hLd_4, hLd_5⟩, ⟨hLd_s, hLd_sa, hLd_sb⟩, ⟨hLd_e, hLd_ea, hLd_eb⟩, hLd_p, hLd_pa, hLd_pb⟩ := hLd_o
  have hBr_o := hBr
  obtain ⟨⟨hBr_F, hBr_a, hBr_0, hBr_1, hBr_2, hBr_3, hBr_4, hBr_5, hBr_6, hBr_7, hBr_8, hBr_9, hBr_10, hBr_11, hBr_12, hBr_13, hBr_14, hBr_15⟩, ⟨hBr_f1, hBr_a1, hBr_b1⟩, ⟨hBr_f2, hBr_a2, hBr_b2⟩, ⟨hBr_f3, hBr_a3, hBr_b3⟩, ⟨hBr_f4, hBr_a4, hBr_b4⟩, ⟨hBr_f5, hBr_a5, hBr_b5⟩, ⟨hBr_f6, hBr_a6, hBr_b6⟩, ⟨hBr_f7, hBr_a7, hBr_b7⟩, hBr_c1, hBr_c2, hBr_c3, hBr_c4, hBr_c5⟩ := hBr_o
  refine g_aload_n E dX1_found_0 rfl rfl rfl ?_
  refine g_callV (k := 1000) (n9 := 0) (av := []) (st := []) E (ct_X1_anew l hSo) gciX1 dX1_found_1 hSo_a q496 q498 qs2 q120 q499 (by decide +kernel) rfl rfl ⟨by decide, by decide⟩ ⟨by decide, by decide⟩ (Nat.le_of_ble_eq_true rfl) rfl (gPn.k (fun g1 h1 => ?_))
  obtain ⟨hs1, f1⟩ := h1
  have hs1_o := hs1
  obtain ⟨hs1_F, hs1_a, hs1_0, hs1_1, hs1_2, hs1_3, hs1_4, hs1_5, hs1_6, hs1_7, hs1_8, hs1_9, hs1_10, hs1_11, hs1_12, hs1_13, hs1_14, hs1_15, hs1_16, hs1_17, hs1_18, hs1_19⟩ := hs1_o
  refine g_aload_n E dX1_found_4 rfl rfl rfl ?_
  refine g_iload_n E dX1_found_5 rfl rfl rfl ?_
  refine g_iload_n E dX1_found_6 rfl rfl rfl ?_
  refine g_iload_n E dX1_found_7 rfl rfl rfl ?_
  have y2 := (hBr.fr hw (fun j9 a9 b9 => f1 j9 (by omega)))
  refine g_callV (k := 1000) (n9 := 3) (av := [.int p, .int q, .int dy]) (st := []) E (ct_X1_crossWhy l p q dy hw hs1 y2) gciX1 dX1_found_8 hs1_a q1396 q1398 qs38 q120 q1399 (by decide +kernel) rfl rfl ⟨by decide, by decide⟩ ⟨by decide, by decide⟩ (Nat.le_of_ble_eq_true rfl) rfl (gPu.k ?_)
  refine g_istore E dX1_found_11 (by decide) rfl (lo1 := [some (.ref 1000), some (.int p), some (.int q), some (.int dy), some (.int (qWy ((qI (B 0 1) p).isSome && (qI (B 0 2) q).isSome) dy))]) rfl rfl ?_
  refine g_iload E dX1_found_13 rfl rfl ?_
  refine g_if_eq E dX1_found_15 (tgt := 27) (by decide) rfl (fun c15 => ?_) (fun c15 => ?_)
  · have q3 := (qWy_0.mp c15).1
    have q3_z := (qWy_0.mp c15).2
    have q4 := (Bool.and_eq_true_iff).mp q3
    obtain ⟨t, q5⟩ := isSome_of q4.1
    obtain ⟨rfl, q5_l⟩ := qI_some (by omega) q5
    obtain ⟨k9, q6⟩ := isSome_of q4.2
    obtain ⟨rfl, q6_l⟩ := qI_some (by omega) q6
    refine g_aload_n E dX1_found_27 rfl rfl rfl ?_
    refine g_getf E gciX1 dX1_found_28 hs1_a 9 rfl (by decide) q431 (.inl rfl) (.ref 1010) (hs1_9) rfl ?_
    refine g_iload_n E dX1_found_31 rfl rfl rfl ?_
    refine g_iload_n E dX1_found_32 rfl rfl rfl ?_
    refine g_aload_n E dX1_found_33 rfl rfl rfl ?_
    refine g_iload_n E dX1_found_34 rfl rfl rfl ?_
    have y7 := (hLd.fr  (fun j9 a9 b9 => f1 j9 (by omega)))
    refine g_callV (k := 1000) (n9 := 1) (av := [.int dy]) (st := [.int (nI k9), .int (nI t), .ref 1010]) E (ct_X1_on l dy hw hs1 y7 y2) gciX1 dX1_found_35 hs1_a q1346 q1348 qs37 q120 q1349 (by decide +kernel) rfl rfl ⟨by decide, by decide⟩ ⟨by decide, by decide⟩ (Nat.le_of_ble_eq_true rfl) rfl (gPu.k ?_)
    have x8 := (f1 (1010) (by omega)).trans (hLd_a)
    refine g_callV (k := 1010) (n9 := 3) (av := [.int (nI t), .int (nI k9), .int (d + dy)]) (st := []) E (ct_X4_found l t k9 (d + dy) hw y7 y2 (by omega) (by omega)) gciX4 dX1_found_38 x8 q1404 q1234 q1235 q126 q1236 (by decide +kernel) rfl rfl ⟨by decide, by decide⟩ ⟨by decide, by decide⟩ (Nat.le_of_ble_eq_true rfl) rfl (gPu.k ?_)
    have hs9 : sFou B R d (nI t) (nI k9) dy = (zFou B R t k9 (d + dy) 0, 0) := by first | (simp [sFou, sX, c15, q5, q6, q3_z]; done) | (simp [sFou, sX, c15, q5, q6, q3_z, qWy]; done)
    exact g_iret E Rt dX1_found_41 rfl (by decide) (by decide) (by rw [hs9]; exact ⟨rfl, ⟨_, hs1_a, hs1_0, hs1_1, hs1_2, hs1_3, hs1_4, hs1_5, hs1_6, hs1_7, hs1_8, hs1_9, hs1_10, hs1_11, hs1_12, hs1_13, hs1_14, hs1_15, hs1_16, hs1_17, hs1_18, hs1_19⟩, fun j9 h9 => f1 j9 (by omega)⟩)
  · refine g_aload_n E dX1_found_18 rfl rfl rfl ?_
    refine g_iload E dX1_found_19 rfl rfl ?_
    refine g_callV (k := 1000) (n9 := 1) (av := [.int (qWy ((qI (B 0 1) p).isSome && (qI (B 0 2) q).isSome) dy)]) (st := []) E (ct_X1_no l (qWy ((qI (B 0 1) p).isSome && (qI (B 0 2) q).isSome) dy) hs1) gciX1 dX1_found_21 hs1_a q503 q505 qs3 q120 q506 (by decide +kernel) rfl rfl ⟨by decide, by decide⟩ ⟨by decide, by decide⟩ (Nat.le_of_ble_eq_true rfl) rfl (gPi.k (fun g10 h10 => ?_))
    obtain ⟨hs10, f10⟩ := h10
    have hs10_o := hs10
    obtain ⟨hs10_F, hs10_a, hs10_0, hs10_1, hs10_2, hs10_3, hs10_4, hs10_5, hs10_6, hs10_7, hs10_8, hs10_9, hs10_10, hs10_11, hs10_12, hs10_13, hs10_14, hs10_15, hs10_16, hs10_17, hs10_18, hs10_19⟩ := hs10_o
    refine g_goto E dX1_found_24 (tgt := 41) (by decide) ?_
    have hs11 : sFou B R d p q dy = ((-1), qWy ((qI (B 0 1) p).isSome && (qI (B 0 2) q).isSome) dy) := by first | (simp [sFou, sX, c15]; done) | (simp [sFou, sX, c15, qWy]; done)
    exact g_iret E Rt dX1_found_41 rfl (by decide) (by decide) (by rw [hs11]; exact ⟨rfl, ⟨_, hs10_a, hs10_0, hs10_1, hs10_2, hs10_3, hs10_4, hs10_5, hs10_6, hs10_7, hs10_8, hs10_9, hs10_10, hs10_11, hs10_12, hs10_13, hs10_14, hs10_15, hs10_16, hs10_17, hs10_18, hs10_19⟩, fun j9 h9 => (f10 j9 (by omega)).trans (f1 j9 (by omega))⟩)
set_option maxHeartbeats 1000000 in
theorem ct_X1_found_N (l : Launch) {g : gWM} {tp mm um : Nat} {tr fa wh : Int32} (p : Int32) (q : Int32) (dy : Int32) (hSo : pSo g .null tp tr fa wh mm um) : gCt l yX1_found cX1_found 5 (some .int) 3 0 0 67 [.ref 1000, .int p, .int q, .int dy] g (gPi (sFou zB0 (fun _ => 0) 0 p q dy).1 (fun g1 => pSo g1 .null tp (sFou zB0 (fun _ => 0) 0 p q dy).2 fa (-1) mm um ∧ ∀ j, j ≠ 1000 → g1 j = g j)) := by
  refine gCt.of RX1 (by decide) rfl (lo := [some (.ref 1000), some (.int p), some (.int q), some (.int dy), none]) 1 rfl (Nat.le_of_ble_eq_true rfl) (fun z E Rt => ?_)
  have hSo_o := hSo
  obtain ⟨hSo_F, hSo_a, hSo_0, hSo_1, hSo_2, hSo_3, hSo_4, hSo_5, hSo_6, hSo_7, hSo_8, hSo_9, hSo_10, hSo_11, hSo_12, hSo_13, hSo_14, hSo_15, hSo_16, hSo_17, hSo_18, hSo_19⟩ := hSo_o
  refine g_aload_n E dX1_found_0 rfl rfl rfl ?_
  refine g_callV (k := 1000) (n9 := 0) (av := []) (st := []) E (ct_X1_anew l hSo) gciX1 dX1_found_1 hSo_a q496 q498 qs2 q120 q499 (by decide +kernel) rfl rfl ⟨by decide, by decide⟩ ⟨by decide, by decide⟩ (Nat.le_of_ble_eq_true rfl) rfl (gPn.k (fun g1 h1 => ?_))
  obtain ⟨hs1, f1⟩ := h1
  have hs1_o := hs1
  obtain ⟨hs1_F, hs1_a, hs1_0, hs1_1, hs1_2, hs1_3, hs1_4, hs1_5, hs1_6, hs1_7, hs1_8, hs1_9, hs1_10, hs1_11, hs1_12, hs1_13, hs1_14, hs1_15, hs1_16, hs1_17, hs1_18, hs1_19⟩ := hs1_o
  refine g_aload_n E dX1_found_4 rfl rfl rfl ?_
  refine g_iload_n E dX1_found_5 rfl rfl rfl ?_
  refine g_iload_n E dX1_found_6 rfl rfl rfl ?_
  refine g_iload_n E dX1_found_7 rfl rfl rfl ?_
  refine g_callV (k := 1000) (n9 := 3) (av := [.int p, .int q, .int dy]) (st := []) E (ct_X1_crossWhy_N l p q dy hs1) gciX1 dX1_found_8 hs1_a q1396 q1398 qs38 q120 q1399 (by decide +kernel) rfl rfl ⟨by decide, by decide⟩ ⟨by decide, by decide⟩ (Nat.le_of_ble_eq_true rfl) rfl (gPu.k ?_)
  refine g_istore E dX1_found_11 (by decide) rfl (lo1 := [some (.ref 1000), some (.int p), some (.int q), some (.int dy), some (.int 1)]) rfl rfl ?_
  refine g_iload E dX1_found_13 rfl rfl ?_
  refine g_if_eq E dX1_found_15 (tgt := 27) (by decide) rfl (fun h9 => absurd h9 (by decide)) (fun _ => ?_)
  refine g_aload_n E dX1_found_18 rfl rfl rfl ?_
  refine g_iload E dX1_found_19 rfl rfl ?_
  refine g_callV (k := 1000) (n9 := 1) (av := [.int 1]) (st := []) E (ct_X1_no l 1 hs1) gciX1 dX1_found_21 hs1_a q503 q505 qs3 q120 q506 (by decide +kernel) rfl rfl ⟨by decide, by decide⟩ ⟨by decide, by decide⟩ (Nat.le_of_ble_eq_true rfl) rfl (gPi.k (fun g2 h2 => ?_))
  obtain ⟨hs2, f2⟩ := h2
  have hs2_o := hs2
  obtain ⟨hs2_F, hs2_a, hs2_0, hs2_1, hs2_2, hs2_3, hs2_4, hs2_5, hs2_6, hs2_7, hs2_8, hs2_9, hs2_10, hs2_11, hs2_12, hs2_13, hs2_14, hs2_15, hs2_16, hs2_17, hs2_18, hs2_19⟩ := hs2_o
  refine g_goto E dX1_found_24 (tgt := 41) (by decide) ?_
  have hs3 : sFou zB0 (fun _ => 0) 0 p q dy = ((-1), 1) := by first | (simp [sFou, sX, qI_z, qWy]; done) | (simp [sFou, sX, qI_z, qWy, qWy]; done)
  exact g_iret E Rt dX1_found_41 rfl (by decide) (by decide) (by rw [hs3]; exact ⟨rfl, ⟨_, hs2_a, hs2_0, hs2_1, hs2_2, hs2_3, hs2_4, hs2_5, hs2_6, hs2_7, hs2_8, hs2_9, hs2_10, hs2_11, hs2_12, hs2_13, hs2_14, hs2_15, hs2_16, hs2_17, hs2_18, hs2_19⟩, fun j9 h9 => (f2 j9 (by omega)).trans (f1 j9 (by omega))⟩)
