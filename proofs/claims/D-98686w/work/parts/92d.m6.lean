/-! WALKS, sixth: the main object: more questions -/
set_option maxRecDepth 100000
set_option maxHeartbeats 400000 in
theorem ct_X19_means (l : Launch) {g : gWM} {bb k j : Nat} {B : gBar} (hG : pGo g bb k B j) : gCt l yX19_means cX19_means 1 (some (.object "SaltedGate$Means")) 0 0 0 0 [.ref k] g (gPu .null g) := by
  refine gCt.of RX19 (by decide) rfl (lo := [some (.ref k)]) 0 rfl (Nat.le_of_ble_eq_true rfl) (fun z E Rt => ?_)
  have o1 := hG
  obtain ⟨⟨o1_F, o1_a, o1_0, o1_1, o1_2, o1_3, o1_4, o1_7⟩, o1_m, o1_k⟩ := o1
  refine g_null E dX19_means_0 rfl ?_
  exact g_aretN E Rt dX19_means_1 rfl (Or.inl ⟨_, rfl⟩) (by decide) (by decide) (⟨rfl, rfl⟩)
set_option maxHeartbeats 400000 in
theorem ct_X21_means (l : Launch) {g : gWM} {bb k j : Nat} {B : gBar} (hk0 : B 12 j ≠ 0) (hG : pGo g bb k B j) : gCt l yX21_means cX21_means 1 (some (.object "SaltedGate$Means")) 0 0 0 0 [.ref k] g (gPu (.ref (bb + 10 + B 13 j)) g) := by
  refine gCt.of RX21 (by decide) rfl (lo := [some (.ref k)]) 0 rfl (Nat.le_of_ble_eq_true rfl) (fun z E Rt => ?_)
  have o1 := hG
  obtain ⟨⟨o1_F, o1_a, o1_0, o1_1, o1_2, o1_3, o1_4, o1_7⟩, o1_m, o1_k⟩ := o1
  obtain ⟨m2_F, m2_a, m2_1, m2_2, m2_3, m2_4, m2_5, m2_6, m2_7⟩ := o1_m hk0
  refine g_aload_n E dX21_means_0 rfl rfl rfl ?_
  refine g_getK E dX21_means_1 o1_a (o1_k) (hk0) 7 (by decide) rfl rfl rfl rfl q1015 (.inl rfl) (.ref (bb + 10 + B 13 j)) (o1_7 hk0) rfl ?_
  exact g_aret E Rt dX21_means_4 rfl (Or.inl ⟨_, rfl⟩) (by decide) (by decide) (⟨rfl, rfl⟩)
set_option maxHeartbeats 1000000 in
theorem v_means0_Good {z : gZ} {l : Launch} {cc : ByteArray} {nL : Nat} {own : String} {ret : Option FieldType} {fr mc ms lc : Nat} {g : gWM} {kc ks pc q : Nat} {lo : List (Option Value)} {st : List Value} (E : gEv z l cc nL own ret fr mc ms lc) {idx k bb j : Nat} {B : gBar}  (d : decode cc pc = .ok (.invokevirtual idx, 3)) (ql : Cond.methodLink own idx ⟨"SaltedGate$Good", "means", "()LSaltedGate$Means;"⟩ ∈ lw_all) (hG : pGo g bb k B j) (hkd9 : B 12 j = 0)  (hR : 1 ≤ fr ∧ 20 ≤ lc) (hf : kc ≤ mc ∧ ks ≤ ms) (hroom : gcat st ≤ 8) (hq : pc + 3 = q) (kk : gV z g kc ks q lo (.null :: st)) : gV z g kc ks pc lo (.ref k :: st) := by
  have hGo := hG
  obtain ⟨⟨F, hF, -⟩, -, hk4⟩ := hGo
  have h1 := hR.1; have h2 := hR.2
  have hkd := hkd9
  rw [hkd] at hF
  refine g_callU (k := k) (n9 := 0) (av := []) (st := st) E (ct_X19_means l hG) gciX20 d hF ql q1307 q1308 q1306 q146 q1315 rfl (by decide +kernel) rfl rfl ⟨by omega, by omega⟩ hf hroom hq (gPu.k ?_)
  exact kk
set_option maxHeartbeats 1000000 in
theorem v_meansK_Good {z : gZ} {l : Launch} {cc : ByteArray} {nL : Nat} {own : String} {ret : Option FieldType} {fr mc ms lc : Nat} {g : gWM} {kc ks pc q : Nat} {lo : List (Option Value)} {st : List Value} (E : gEv z l cc nL own ret fr mc ms lc) {idx k bb j : Nat} {B : gBar}  (d : decode cc pc = .ok (.invokevirtual idx, 3)) (ql : Cond.methodLink own idx ⟨"SaltedGate$Good", "means", "()LSaltedGate$Means;"⟩ ∈ lw_all) (hG : pGo g bb k B j) (hk0 : B 12 j ≠ 0)  (hR : 1 ≤ fr ∧ 20 ≤ lc) (hf : kc ≤ mc ∧ ks ≤ ms) (hroom : gcat st ≤ 8) (hq : pc + 3 = q) (kk : gV z g kc ks q lo (.ref (bb + 10 + B 13 j) :: st)) : gV z g kc ks pc lo (.ref k :: st) := by
  have hGo := hG
  obtain ⟨⟨F, hF, -⟩, -, hk4⟩ := hGo
  have h1 := hR.1; have h2 := hR.2
  match hkd : B 12 j, hk4 with
  | 0, _ => exact absurd hkd hk0
  | 1, _ =>
    rw [hkd] at hF
    refine g_callO (k := k) (n9 := 0) (av := []) (st := st) E (ct_X21_means l (by omega) hG) gciX22 d hF ql q1307 q1306 q1313 q1310 q148 q1311 q1315 (by decide +kernel) rfl rfl ⟨by omega, by omega⟩ hf hroom hq (gPu.k ?_)
    exact kk
  | 2, _ =>
    rw [hkd] at hF
    refine g_callO (k := k) (n9 := 0) (av := []) (st := st) E (ct_X21_means l (by omega) hG) gciX23 d hF ql q1307 q1306 q1314 q1310 q148 q1311 q1315 (by decide +kernel) rfl rfl ⟨by omega, by omega⟩ hf hroom hq (gPu.k ?_)
    exact kk
  | 3, _ =>
    rw [hkd] at hF
    refine g_callO (k := k) (n9 := 0) (av := []) (st := st) E (ct_X21_means l (by omega) hG) gciX24 d hF ql q1307 q1306 q1312 q1310 q148 q1311 q1315 (by decide +kernel) rfl rfl ⟨by omega, by omega⟩ hf hroom hq (gPu.k ?_)
    exact kk
  | 4, _ =>
    rw [hkd] at hF
    refine g_callO (k := k) (n9 := 0) (av := []) (st := st) E (ct_X21_means l (by omega) hG) gciX25 d hF ql q1307 q1306 q1309 q1310 q148 q1311 q1315 (by decide +kernel) rfl rfl ⟨by omega, by omega⟩ hf hroom hq (gPu.k ?_)
    exact kk
  | n + 5, h => exact absurd h (by omega)
set_option maxHeartbeats 1000000 in
theorem ct_X1_good (l : Launch) {g : gWM} {bb : Nat} {B : gBar} {R : Nat → Int32} {d : Int32} {tp mm um : Nat} {tr fa wh : Int32} (p : Int32) (w : Int32) (hw : wfB B) (hSo : pSo g (.ref bb) tp tr fa wh mm um) (hLd : pLd g 1010 (.ref bb) B R d) (hBr : pBr g bb B) (hL1 : pLw g 1005 1) (hL2 : pLw g 1006 2) (hb9 : 10000 ≤ bb) : gCt l yX1_good cX1_good 4 (some .int) 2 0 0 43 [.ref 1000, .int p, .int w] g (gPi (sGood B R p w).1 (fun g1 => pSo g1 (.ref bb) tp (sGood B R p w).2 fa (-1) mm um ∧ ∀ j, j ≠ 1000 → g1 j = g j)) := by
  refine gCt.of RX1 (by decide) rfl (lo := [some (.ref 1000), some (.int p), some (.int w), none]) 1 rfl (Nat.le_of_ble_eq_true rfl) (fun z E Rt => ?_)
  have hw_n := hw.1
  have hSo_o := hSo
  obtain ⟨hSo_F, hSo_a, hSo_0, hSo_1, hSo_2, hSo_3, hSo_4, hSo_5, hSo_6, hSo_7, hSo_8, hSo_9, hSo_10, hSo_11, hSo_12, hSo_13, hSo_14, hSo_15, hSo_16, hSo_17, hSo_18, hSo_19⟩ := hSo_o
  have hLd_o := hLd
  obtain ⟨⟨hLd_F, hLd_a, hLd_0, hLd_1, hLd_2, hLd_3, hLd_4, hLd_5⟩, ⟨hLd_s, hLd_sa, hLd_sb⟩, ⟨hLd_e, hLd_ea, hLd_eb⟩, hLd_p, hLd_pa, hLd_pb⟩ := hLd_o
  have hBr_o := hBr
  obtain ⟨⟨hBr_F, hBr_a, hBr_0, hBr_1, hBr_2, hBr_3, hBr_4, hBr_5, hBr_6, hBr_7, hBr_8, hBr_9, hBr_10, hBr_11, hBr_12, hBr_13, hBr_14, hBr_15⟩, ⟨hBr_f1, hBr_a1, hBr_b1⟩, ⟨hBr_f2, hBr_a2, hBr_b2⟩, ⟨hBr_f3, hBr_a3, hBr_b3⟩, ⟨hBr_f4, hBr_a4, hBr_b4⟩, ⟨hBr_f5, hBr_a5, hBr_b5⟩, ⟨hBr_f6, hBr_a6, hBr_b6⟩, ⟨hBr_f7, hBr_a7, hBr_b7⟩, hBr_c1, hBr_c2, hBr_c3, hBr_c4, hBr_c5⟩ := hBr_o
  refine g_aload_n E dX1_good_0 rfl rfl rfl ?_
  refine g_callV (k := 1000) (n9 := 0) (av := []) (st := []) E (ct_X1_anew l hSo) gciX1 dX1_good_1 hSo_a q496 q498 qs2 q120 q499 (by decide +kernel) rfl rfl ⟨by decide, by decide⟩ ⟨by decide, by decide⟩ (Nat.le_of_ble_eq_true rfl) rfl (gPn.k (fun g1 h1 => ?_))
  obtain ⟨hs1, f1⟩ := h1
  have hs1_o := hs1
  obtain ⟨hs1_F, hs1_a, hs1_0, hs1_1, hs1_2, hs1_3, hs1_4, hs1_5, hs1_6, hs1_7, hs1_8, hs1_9, hs1_10, hs1_11, hs1_12, hs1_13, hs1_14, hs1_15, hs1_16, hs1_17, hs1_18, hs1_19⟩ := hs1_o
  refine g_aload_n E dX1_good_4 rfl rfl rfl ?_
  refine g_iload_n E dX1_good_5 rfl rfl rfl ?_
  have y2 := (hBr.fr hw (fun j9 a9 b9 => f1 j9 (by omega)))
  refine g_callV (k := 1000) (n9 := 1) (av := [.int p]) (st := []) E (ct_X1_isGood l p hw hs1 y2) gciX1 dX1_good_6 hs1_a q1283 q1285 qs33 q120 q1286 (by decide +kernel) rfl rfl ⟨by decide, by decide⟩ ⟨by decide, by decide⟩ (Nat.le_of_ble_eq_true rfl) rfl (gPu.k ?_)
  refine g_if_ne E dX1_good_9 (tgt := 18) (by decide) rfl (fun c9 => ?_) (fun c9 => ?_)
  · have c9 := zb_n0.mp c9
    obtain ⟨j, q3⟩ := isSome_of c9
    obtain ⟨rfl, q3_l⟩ := qI_some (by omega) q3
    refine g_aload_n E dX1_good_18 rfl rfl rfl ?_
    refine g_getf E gciX1 dX1_good_19 hs1_a 3 rfl (by decide) q425 (.inl rfl) (.ref bb) (hs1_3) rfl ?_
    have x4 := (f1 (bb) (by omega)).trans (hBr_a)
    refine g_getf E gciX14 dX1_good_22 x4 3 rfl (by decide) q542 (.inl rfl) (.ref (bb + 4)) (hBr_3) rfl ?_
    refine g_iload_n E dX1_good_25 rfl rfl rfl ?_
    have x5 := (f1 (bb + 4) (by omega)).trans (hBr_a4)
    refine g_aald E dX1_good_26 (j := j) x5 (fun _ => rfl) (rfl) (by omega) (by decide) (b := bb + 40 + j) (hBr_b4 j (by omega)) rfl ?_
    have u6 := pBr.good y2 hw (j := j) (by omega)
    have u6_b := wfB.goods hw (j := j) (by omega)
    have o7 := u6
    obtain ⟨⟨o7_F, o7_a, o7_0, o7_1, o7_2, o7_3, o7_4, o7_7⟩, o7_m, o7_k⟩ := o7
    refine g_astore_n E dX1_good_27 rfl (by decide) rfl (lo1 := [some (.ref 1000), some (.int (nI j)), some (.int w), some (.ref (bb + 40 + j))]) rfl rfl ?_
    refine g_iload_n E dX1_good_28 rfl rfl rfl ?_
    rcases g_cases w (a := 0) (n := 6) (by decide) with c29 | ⟨j9, hj9, c29⟩
    · refine g_tabOut E dX1_good_29 (by have := c29; omega) (tgt := 133) (by decide) ?_
      have w0_ : ¬ w = 0 := by intro h9; rw [h9] at c29; revert c29; decide
      have w1_ : ¬ w = 1 := by intro h9; rw [h9] at c29; revert c29; decide
      have w2_ : ¬ w = 2 := by intro h9; rw [h9] at c29; revert c29; decide
      have w3_ : ¬ w = 3 := by intro h9; rw [h9] at c29; revert c29; decide
      have w4_ : ¬ w = 4 := by intro h9; rw [h9] at c29; revert c29; decide
      have w5_ : ¬ w = 5 := by intro h9; rw [h9] at c29; revert c29; decide
      refine g_aload_n E dX1_good_133 rfl rfl rfl ?_
      refine g_iconst E (v := 1) dX1_good_134 (by decide) rfl ?_
      refine g_callV (k := 1000) (n9 := 1) (av := [.int 1]) (st := []) E (ct_X1_no l 1 hs1) gciX1 dX1_good_135 hs1_a q503 q505 qs3 q120 q506 (by decide +kernel) rfl rfl ⟨by decide, by decide⟩ ⟨by decide, by decide⟩ (Nat.le_of_ble_eq_true rfl) rfl (gPi.k (fun g8 h8 => ?_))
      obtain ⟨hs8, f8⟩ := h8
      have hs8_o := hs8
      obtain ⟨hs8_F, hs8_a, hs8_0, hs8_1, hs8_2, hs8_3, hs8_4, hs8_5, hs8_6, hs8_7, hs8_8, hs8_9, hs8_10, hs8_11, hs8_12, hs8_13, hs8_14, hs8_15, hs8_16, hs8_17, hs8_18, hs8_19⟩ := hs8_o
      have hs9 : sGood B R (nI j) w = ((-1), 1) := by first | (simp [sGood, zb, c9, q3, c29, w0_, w1_, w2_, w3_, w4_, w5_]; done) | (simp [sGood, zb, c9, q3, c29, w0_, w1_, w2_, w3_, w4_, w5_, qWy]; done)
      exact g_iret E Rt dX1_good_138 rfl (by decide) (by decide) (by rw [hs9]; exact ⟨rfl, ⟨_, hs8_a, hs8_0, hs8_1, hs8_2, hs8_3, hs8_4, hs8_5, hs8_6, hs8_7, hs8_8, hs8_9, hs8_10, hs8_11, hs8_12, hs8_13, hs8_14, hs8_15, hs8_16, hs8_17, hs8_18, hs8_19⟩, fun j9 h9 => (f8 j9 (by omega)).trans (f1 j9 (by omega))⟩)
    · match j9, hj9, c29 with
      | 0, _, c29 =>
        have c29 : w = 0 := c29
        refine g_tabIn E dX1_good_29 (by rw [c29]; decide) (by rw [c29]; decide) (off := 39) (by rw [c29]; rfl) (tgt := 68) (by decide) ?_
        refine g_aload_n E dX1_good_68 rfl rfl rfl ?_
        refine v_kind_Good E dX1_good_69 q1287 u6 ⟨by decide, by decide⟩ ⟨by decide, by decide⟩ (Nat.le_of_ble_eq_true rfl) rfl ?_
        have hs10 : sGood B R (nI j) w = (nI (B 12 j), 0) := by first | (simp [sGood, zb, c9, q3, c29]; done) | (simp [sGood, zb, c9, q3, c29, qWy]; done)
        exact g_iret E Rt dX1_good_72 rfl (by decide) (by decide) (by rw [hs10]; exact ⟨rfl, ⟨_, hs1_a, hs1_0, hs1_1, hs1_2, hs1_3, hs1_4, hs1_5, hs1_6, hs1_7, hs1_8, hs1_9, hs1_10, hs1_11, hs1_12, hs1_13, hs1_14, hs1_15, hs1_16, hs1_17, hs1_18, hs1_19⟩, fun j9 h9 => f1 j9 (by omega)⟩)
      | 1, _, c29 =>
        have c29 : w = 1 := c29
        refine g_tabIn E dX1_good_29 (by rw [c29]; decide) (by rw [c29]; decide) (off := 44) (by rw [c29]; rfl) (tgt := 73) (by decide) ?_
        refine g_aload_n E dX1_good_73 rfl rfl rfl ?_
        by_cases k74 : B 12 j = 0
        · refine v_means0_Good E dX1_good_74 q1305 u6 k74 ⟨by decide, by decide⟩ ⟨by decide, by decide⟩ (Nat.le_of_ble_eq_true rfl) rfl ?_
          refine g_ifnonnullN E dX1_good_77 rfl ?_
          refine g_bipush E (v := (-2)) dX1_good_80 (by decide) rfl ?_
          refine g_goto E dX1_good_82 (tgt := 92) (by decide) ?_
          have hs11 : sGood B R (nI j) w = ((-2), 0) := by first | (simp [sGood, zb, c9, q3, c29, k74]; done) | (simp [sGood, zb, c9, q3, c29, k74, qWy]; done)
          exact g_iret E Rt dX1_good_92 rfl (by decide) (by decide) (by rw [hs11]; exact ⟨rfl, ⟨_, hs1_a, hs1_0, hs1_1, hs1_2, hs1_3, hs1_4, hs1_5, hs1_6, hs1_7, hs1_8, hs1_9, hs1_10, hs1_11, hs1_12, hs1_13, hs1_14, hs1_15, hs1_16, hs1_17, hs1_18, hs1_19⟩, fun j9 h9 => f1 j9 (by omega)⟩)
        · have o12 := u6
          obtain ⟨⟨o12_F, o12_a, o12_0, o12_1, o12_2, o12_3, o12_4, o12_7⟩, o12_m, o12_k⟩ := o12
          obtain ⟨m13_F, m13_a, m13_1, m13_2, m13_3, m13_4, m13_5, m13_6, m13_7⟩ := o12_m k74
          refine v_meansK_Good E dX1_good_74 q1305 u6 k74 ⟨by decide, by decide⟩ ⟨by decide, by decide⟩ (Nat.le_of_ble_eq_true rfl) rfl ?_
          refine g_ifnonnullY E dX1_good_77 (tgt := 85) (by decide) ?_
          refine g_aload_n E dX1_good_85 rfl rfl rfl ?_
          refine v_meansK_Good E dX1_good_86 q1305 u6 k74 ⟨by decide, by decide⟩ ⟨by decide, by decide⟩ (Nat.le_of_ble_eq_true rfl) rfl ?_
          refine g_getf E gciX16 dX1_good_89 m13_a 1 rfl (by decide) q868 (.inr q866) (.int (nI (B 13 j))) (m13_1) rfl ?_
          have hs14 : sGood B R (nI j) w = (nI (B 13 j), 0) := by first | (simp [sGood, zb, c9, q3, c29, k74]; done) | (simp [sGood, zb, c9, q3, c29, k74, qWy]; done)
          exact g_iret E Rt dX1_good_92 rfl (by decide) (by decide) (by rw [hs14]; exact ⟨rfl, ⟨_, hs1_a, hs1_0, hs1_1, hs1_2, hs1_3, hs1_4, hs1_5, hs1_6, hs1_7, hs1_8, hs1_9, hs1_10, hs1_11, hs1_12, hs1_13, hs1_14, hs1_15, hs1_16, hs1_17, hs1_18, hs1_19⟩, fun j9 h9 => f1 j9 (by omega)⟩)
      | 2, _, c29 =>
        have c29 : w = 2 := c29
        refine g_tabIn E dX1_good_29 (by rw [c29]; decide) (by rw [c29]; decide) (off := 64) (by rw [c29]; rfl) (tgt := 93) (by decide) ?_
        refine g_aload_n E dX1_good_93 rfl rfl rfl ?_
        refine g_getG E dX1_good_94 o7_a (o7_k) 0 (by decide) rfl rfl rfl rfl rfl q964 (.inl rfl) (.int (nI (B 14 j))) (o7_0) rfl ?_
        have hs15 : sGood B R (nI j) w = (nI (B 14 j), 0) := by first | (simp [sGood, zb, c9, q3, c29]; done) | (simp [sGood, zb, c9, q3, c29, qWy]; done)
        exact g_iret E Rt dX1_good_97 rfl (by decide) (by decide) (by rw [hs15]; exact ⟨rfl, ⟨_, hs1_a, hs1_0, hs1_1, hs1_2, hs1_3, hs1_4, hs1_5, hs1_6, hs1_7, hs1_8, hs1_9, hs1_10, hs1_11, hs1_12, hs1_13, hs1_14, hs1_15, hs1_16, hs1_17, hs1_18, hs1_19⟩, fun j9 h9 => f1 j9 (by omega)⟩)
      | 3, _, c29 =>
        have c29 : w = 3 := c29
        refine g_tabIn E dX1_good_29 (by rw [c29]; decide) (by rw [c29]; decide) (off := 69) (by rw [c29]; rfl) (tgt := 98) (by decide) ?_
        refine g_aload_n E dX1_good_98 rfl rfl rfl ?_
        refine g_getG E dX1_good_99 o7_a (o7_k) 2 (by decide) rfl rfl rfl rfl rfl q974 (.inl rfl) (.int (nI (B 16 j))) (o7_2) rfl ?_
        have hs16 : sGood B R (nI j) w = (nI (B 16 j), 0) := by first | (simp [sGood, zb, c9, q3, c29]; done) | (simp [sGood, zb, c9, q3, c29, qWy]; done)
        exact g_iret E Rt dX1_good_102 rfl (by decide) (by decide) (by rw [hs16]; exact ⟨rfl, ⟨_, hs1_a, hs1_0, hs1_1, hs1_2, hs1_3, hs1_4, hs1_5, hs1_6, hs1_7, hs1_8, hs1_9, hs1_10, hs1_11, hs1_12, hs1_13, hs1_14, hs1_15, hs1_16, hs1_17, hs1_18, hs1_19⟩, fun j9 h9 => f1 j9 (by omega)⟩)
      | 4, _, c29 =>
        have c29 : w = 4 := c29
        refine g_tabIn E dX1_good_29 (by rw [c29]; decide) (by rw [c29]; decide) (off := 74) (by rw [c29]; rfl) (tgt := 103) (by decide) ?_
        refine g_aload_n E dX1_good_103 rfl rfl rfl ?_
        refine g_getf E gciX1 dX1_good_104 hs1_a 9 rfl (by decide) q431 (.inl rfl) (.ref 1010) (hs1_9) rfl ?_
        have x17 := (f1 (1010) (by omega)).trans (hLd_a)
        refine g_getf E gciX4 dX1_good_107 x17 0 rfl (by decide) q286 (.inl rfl) (.ref 1011) (hLd_0) rfl ?_
        refine g_iload_n E dX1_good_110 rfl rfl rfl ?_
        have x18 := (f1 (1011) (by omega)).trans (hLd_sa)
        refine g_iald E dX1_good_111 (j := j) x18 (rfl) (by omega) (by decide) (v := R j) (hLd_sb j (by omega)) rfl ?_
        have hs19 : sGood B R (nI j) w = (R j, 0) := by first | (simp [sGood, zb, c9, q3, c29]; done) | (simp [sGood, zb, c9, q3, c29, qWy]; done)
        exact g_iret E Rt dX1_good_112 rfl (by decide) (by decide) (by rw [hs19]; exact ⟨rfl, ⟨_, hs1_a, hs1_0, hs1_1, hs1_2, hs1_3, hs1_4, hs1_5, hs1_6, hs1_7, hs1_8, hs1_9, hs1_10, hs1_11, hs1_12, hs1_13, hs1_14, hs1_15, hs1_16, hs1_17, hs1_18, hs1_19⟩, fun j9 h9 => f1 j9 (by omega)⟩)
      | 5, _, c29 =>
        have c29 : w = 5 := c29
        refine g_tabIn E dX1_good_29 (by rw [c29]; decide) (by rw [c29]; decide) (off := 84) (by rw [c29]; rfl) (tgt := 113) (by decide) ?_
        refine g_aload_n E dX1_good_113 rfl rfl rfl ?_
        refine g_getf E gciX1 dX1_good_114 hs1_a 9 rfl (by decide) q431 (.inl rfl) (.ref 1010) (hs1_9) rfl ?_
        have x20 := (f1 (1010) (by omega)).trans (hLd_a)
        refine g_getf E gciX4 dX1_good_117 x20 4 rfl (by decide) q295 (.inl rfl) (.int (R 16)) (hLd_4) rfl ?_
        refine g_iload_n E dX1_good_120 rfl rfl rfl ?_
        refine g_callS (n9 := 2) (av := [.int (R 16), .int (nI j)]) (st := []) E (ct_X1_has l (R 16) j) dX1_good_121 q1316 q1164 q120 q1165 (by decide +kernel) rfl rfl ⟨by decide, by decide⟩ ⟨by decide, by decide⟩ (Nat.le_of_ble_eq_true rfl) rfl (gPu.k ?_)
        refine g_if_eq E dX1_good_124 (tgt := 131) (by decide) rfl (fun c124 => ?_) (fun c124 => ?_)
        · have c124 := zb_0.mp c124
          refine g_iconst E (v := 0) dX1_good_131 (by decide) rfl ?_
          have hs21 : sGood B R (nI j) w = (0, 0) := by first | (simp [sGood, zb, c9, q3, c29, c124]; done) | (simp [sGood, zb, c9, q3, c29, c124, qWy]; done)
          exact g_iret E Rt dX1_good_132 rfl (by decide) (by decide) (by rw [hs21]; exact ⟨rfl, ⟨_, hs1_a, hs1_0, hs1_1, hs1_2, hs1_3, hs1_4, hs1_5, hs1_6, hs1_7, hs1_8, hs1_9, hs1_10, hs1_11, hs1_12, hs1_13, hs1_14, hs1_15, hs1_16, hs1_17, hs1_18, hs1_19⟩, fun j9 h9 => f1 j9 (by omega)⟩)
        · have c124 := zb_n0.mp c124
          refine g_iconst E (v := 1) dX1_good_127 (by decide) rfl ?_
          refine g_goto E dX1_good_128 (tgt := 132) (by decide) ?_
          have hs22 : sGood B R (nI j) w = (1, 0) := by first | (simp [sGood, zb, c9, q3, c29, c124]; done) | (simp [sGood, zb, c9, q3, c29, c124, qWy]; done)
          exact g_iret E Rt dX1_good_132 rfl (by decide) (by decide) (by rw [hs22]; exact ⟨rfl, ⟨_, hs1_a, hs1_0, hs1_1, hs1_2, hs1_3, hs1_4, hs1_5, hs1_6, hs1_7, hs1_8, hs1_9, hs1_10, hs1_11, hs1_12, hs1_13, hs1_14, hs1_15, hs1_16, hs1_17, hs1_18, hs1_19⟩, fun j9 h9 => f1 j9 (by omega)⟩)
  · have c9 := zb_0.mp c9
    have q23 := isNone_of c9
    refine g_aload_n E dX1_good_12 rfl rfl rfl ?_
    refine g_iconst E (v := 1) dX1_good_13 (by decide) rfl ?_
    refine g_callV (k := 1000) (n9 := 1) (av := [.int 1]) (st := []) E (ct_X1_no l 1 hs1) gciX1 dX1_good_14 hs1_a q503 q505 qs3 q120 q506 (by decide +kernel) rfl rfl ⟨by decide, by decide⟩ ⟨by decide, by decide⟩ (Nat.le_of_ble_eq_true rfl) rfl (gPi.k (fun g24 h24 => ?_))
    obtain ⟨hs24, f24⟩ := h24
    have hs24_o := hs24
    obtain ⟨hs24_F, hs24_a, hs24_0, hs24_1, hs24_2, hs24_3, hs24_4, hs24_5, hs24_6, hs24_7, hs24_8, hs24_9, hs24_10, hs24_11, hs24_12, hs24_13, hs24_14, hs24_15, hs24_16, hs24_17, hs24_18, hs24_19⟩ := hs24_o
    have hs25 : sGood B R p w = ((-1), 1) := by first | (simp [sGood, zb, c9, q23]; done) | (simp [sGood, zb, c9, q23, qWy]; done)
    exact g_iret E Rt dX1_good_17 rfl (by decide) (by decide) (by rw [hs25]; exact ⟨rfl, ⟨_, hs24_a, hs24_0, hs24_1, hs24_2, hs24_3, hs24_4, hs24_5, hs24_6, hs24_7, hs24_8, hs24_9, hs24_10, hs24_11, hs24_12, hs24_13, hs24_14, hs24_15, hs24_16, hs24_17, hs24_18, hs24_19⟩, fun j9 h9 => (f24 j9 (by omega)).trans (f1 j9 (by omega))⟩)
set_option maxHeartbeats 1000000 in
theorem ct_X1_good_N (l : Launch) {g : gWM} {tp mm um : Nat} {tr fa wh : Int32} (p : Int32) (w : Int32) (hSo : pSo g .null tp tr fa wh mm um) : gCt l yX1_good cX1_good 4 (some .int) 1 0 0 21 [.ref 1000, .int p, .int w] g (gPi (sGood zB0 (fun _ => 0) p w).1 (fun g1 => pSo g1 .null tp (sGood zB0 (fun _ => 0) p w).2 fa (-1) mm um ∧ ∀ j, j ≠ 1000 → g1 j = g j)) := by
  refine gCt.of RX1 (by decide) rfl (lo := [some (.ref 1000), some (.int p), some (.int w), none]) 1 rfl (Nat.le_of_ble_eq_true rfl) (fun z E Rt => ?_)
  have hSo_o := hSo
  obtain ⟨hSo_F, hSo_a, hSo_0, hSo_1, hSo_2, hSo_3, hSo_4, hSo_5, hSo_6, hSo_7, hSo_8, hSo_9, hSo_10, hSo_11, hSo_12, hSo_13, hSo_14, hSo_15, hSo_16, hSo_17, hSo_18, hSo_19⟩ := hSo_o
  refine g_aload_n E dX1_good_0 rfl rfl rfl ?_
  refine g_callV (k := 1000) (n9 := 0) (av := []) (st := []) E (ct_X1_anew l hSo) gciX1 dX1_good_1 hSo_a q496 q498 qs2 q120 q499 (by decide +kernel) rfl rfl ⟨by decide, by decide⟩ ⟨by decide, by decide⟩ (Nat.le_of_ble_eq_true rfl) rfl (gPn.k (fun g1 h1 => ?_))
  obtain ⟨hs1, f1⟩ := h1
  have hs1_o := hs1
  obtain ⟨hs1_F, hs1_a, hs1_0, hs1_1, hs1_2, hs1_3, hs1_4, hs1_5, hs1_6, hs1_7, hs1_8, hs1_9, hs1_10, hs1_11, hs1_12, hs1_13, hs1_14, hs1_15, hs1_16, hs1_17, hs1_18, hs1_19⟩ := hs1_o
  refine g_aload_n E dX1_good_4 rfl rfl rfl ?_
  refine g_iload_n E dX1_good_5 rfl rfl rfl ?_
  refine g_callV (k := 1000) (n9 := 1) (av := [.int p]) (st := []) E (ct_X1_isGood_N l p hs1) gciX1 dX1_good_6 hs1_a q1283 q1285 qs33 q120 q1286 (by decide +kernel) rfl rfl ⟨by decide, by decide⟩ ⟨by decide, by decide⟩ (Nat.le_of_ble_eq_true rfl) rfl (gPu.k ?_)
  refine g_if_ne E dX1_good_9 (tgt := 18) (by decide) rfl (fun h9 => absurd h9 (by decide)) (fun _ => ?_)
  refine g_aload_n E dX1_good_12 rfl rfl rfl ?_
  refine g_iconst E (v := 1) dX1_good_13 (by decide) rfl ?_
  refine g_callV (k := 1000) (n9 := 1) (av := [.int 1]) (st := []) E (ct_X1_no l 1 hs1) gciX1 dX1_good_14 hs1_a q503 q505 qs3 q120 q506 (by decide +kernel) rfl rfl ⟨by decide, by decide⟩ ⟨by decide, by decide⟩ (Nat.le_of_ble_eq_true rfl) rfl (gPi.k (fun g2 h2 => ?_))
  obtain ⟨hs2, f2⟩ := h2
  have hs2_o := hs2
  obtain ⟨hs2_F, hs2_a, hs2_0, hs2_1, hs2_2, hs2_3, hs2_4, hs2_5, hs2_6, hs2_7, hs2_8, hs2_9, hs2_10, hs2_11, hs2_12, hs2_13, hs2_14, hs2_15, hs2_16, hs2_17, hs2_18, hs2_19⟩ := hs2_o
  have hs3 : sGood zB0 (fun _ => 0) p w = ((-1), 1) := by first | (simp [sGood, zb, qI_z, qWy]; done) | (simp [sGood, zb, qI_z, qWy, qWy]; done)
  exact g_iret E Rt dX1_good_17 rfl (by decide) (by decide) (by rw [hs3]; exact ⟨rfl, ⟨_, hs2_a, hs2_0, hs2_1, hs2_2, hs2_3, hs2_4, hs2_5, hs2_6, hs2_7, hs2_8, hs2_9, hs2_10, hs2_11, hs2_12, hs2_13, hs2_14, hs2_15, hs2_16, hs2_17, hs2_18, hs2_19⟩, fun j9 h9 => (f2 j9 (by omega)).trans (f1 j9 (by omega))⟩)
set_option maxHeartbeats 1000000 in
theorem ct_X1_traveller (l : Launch) {g : gWM} {bb : Nat} {B : gBar} {R : Nat → Int32} {d : Int32} {tp mm um : Nat} {tr fa wh : Int32} (p : Int32) (w : Int32) (hw : wfB B) (hSo : pSo g (.ref bb) tp tr fa wh mm um) (hLd : pLd g 1010 (.ref bb) B R d) (hBr : pBr g bb B) (hL1 : pLw g 1005 1) (hL2 : pLw g 1006 2) (hb9 : 10000 ≤ bb) : gCt l yX1_traveller cX1_traveller 3 (some .int) 2 0 0 43 [.ref 1000, .int p, .int w] g (gPi (sTrav B R p w).1 (fun g1 => pSo g1 (.ref bb) tp (sTrav B R p w).2 fa (-1) mm um ∧ ∀ j, j ≠ 1000 → g1 j = g j)) := by
  refine gCt.of RX1 (by decide) rfl (lo := [some (.ref 1000), some (.int p), some (.int w)]) 0 rfl (Nat.le_of_ble_eq_true rfl) (fun z E Rt => ?_)
  have hw_n := hw.1
  have hSo_o := hSo
  obtain ⟨hSo_F, hSo_a, hSo_0, hSo_1, hSo_2, hSo_3, hSo_4, hSo_5, hSo_6, hSo_7, hSo_8, hSo_9, hSo_10, hSo_11, hSo_12, hSo_13, hSo_14, hSo_15, hSo_16, hSo_17, hSo_18, hSo_19⟩ := hSo_o
  have hLd_o := hLd
  obtain ⟨⟨hLd_F, hLd_a, hLd_0, hLd_1, hLd_2, hLd_3, hLd_4, hLd_5⟩, ⟨hLd_s, hLd_sa, hLd_sb⟩, ⟨hLd_e, hLd_ea, hLd_eb⟩, hLd_p, hLd_pa, hLd_pb⟩ := hLd_o
  have hBr_o := hBr
  obtain ⟨⟨hBr_F, hBr_a, hBr_0, hBr_1, hBr_2, hBr_3, hBr_4, hBr_5, hBr_6, hBr_7, hBr_8, hBr_9, hBr_10, hBr_11, hBr_12, hBr_13, hBr_14, hBr_15⟩, ⟨hBr_f1, hBr_a1, hBr_b1⟩, ⟨hBr_f2, hBr_a2, hBr_b2⟩, ⟨hBr_f3, hBr_a3, hBr_b3⟩, ⟨hBr_f4, hBr_a4, hBr_b4⟩, ⟨hBr_f5, hBr_a5, hBr_b5⟩, ⟨hBr_f6, hBr_a6, hBr_b6⟩, ⟨hBr_f7, hBr_a7, hBr_b7⟩, hBr_c1, hBr_c2, hBr_c3, hBr_c4, hBr_c5⟩ := hBr_o
  refine g_aload_n E dX1_traveller_0 rfl rfl rfl ?_
  refine g_callV (k := 1000) (n9 := 0) (av := []) (st := []) E (ct_X1_anew l hSo) gciX1 dX1_traveller_1 hSo_a q496 q498 qs2 q120 q499 (by decide +kernel) rfl rfl ⟨by decide, by decide⟩ ⟨by decide, by decide⟩ (Nat.le_of_ble_eq_true rfl) rfl (gPn.k (fun g1 h1 => ?_))
  obtain ⟨hs1, f1⟩ := h1
  have hs1_o := hs1
  obtain ⟨hs1_F, hs1_a, hs1_0, hs1_1, hs1_2, hs1_3, hs1_4, hs1_5, hs1_6, hs1_7, hs1_8, hs1_9, hs1_10, hs1_11, hs1_12, hs1_13, hs1_14, hs1_15, hs1_16, hs1_17, hs1_18, hs1_19⟩ := hs1_o
  refine g_aload_n E dX1_traveller_4 rfl rfl rfl ?_
  refine g_iload_n E dX1_traveller_5 rfl rfl rfl ?_
  have y2 := (hBr.fr hw (fun j9 a9 b9 => f1 j9 (by omega)))
  refine g_callV (k := 1000) (n9 := 1) (av := [.int p]) (st := []) E (ct_X1_isPerson l p hw hs1 y2) gciX1 dX1_traveller_6 hs1_a q1321 q1323 qs34 q120 q1324 (by decide +kernel) rfl rfl ⟨by decide, by decide⟩ ⟨by decide, by decide⟩ (Nat.le_of_ble_eq_true rfl) rfl (gPu.k ?_)
  refine g_if_ne E dX1_traveller_9 (tgt := 18) (by decide) rfl (fun c9 => ?_) (fun c9 => ?_)
  · have c9 := zb_n0.mp c9
    obtain ⟨t, q3⟩ := isSome_of c9
    obtain ⟨rfl, q3_l⟩ := qI_some (by omega) q3
    refine g_iload_n E dX1_traveller_18 rfl rfl rfl ?_
    rcases g_cases w (a := 0) (n := 4) (by decide) with c19 | ⟨j9, hj9, c19⟩
    · refine g_tabOut E dX1_traveller_19 (by have := c19; omega) (tgt := 89) (by decide) ?_
      have w0_ : ¬ w = 0 := by intro h9; rw [h9] at c19; revert c19; decide
      have w1_ : ¬ w = 1 := by intro h9; rw [h9] at c19; revert c19; decide
      have w2_ : ¬ w = 2 := by intro h9; rw [h9] at c19; revert c19; decide
      have w3_ : ¬ w = 3 := by intro h9; rw [h9] at c19; revert c19; decide
      refine g_aload_n E dX1_traveller_89 rfl rfl rfl ?_
      refine g_iconst E (v := 1) dX1_traveller_90 (by decide) rfl ?_
      refine g_callV (k := 1000) (n9 := 1) (av := [.int 1]) (st := []) E (ct_X1_no l 1 hs1) gciX1 dX1_traveller_91 hs1_a q503 q505 qs3 q120 q506 (by decide +kernel) rfl rfl ⟨by decide, by decide⟩ ⟨by decide, by decide⟩ (Nat.le_of_ble_eq_true rfl) rfl (gPi.k (fun g4 h4 => ?_))
      obtain ⟨hs4, f4⟩ := h4
      have hs4_o := hs4
      obtain ⟨hs4_F, hs4_a, hs4_0, hs4_1, hs4_2, hs4_3, hs4_4, hs4_5, hs4_6, hs4_7, hs4_8, hs4_9, hs4_10, hs4_11, hs4_12, hs4_13, hs4_14, hs4_15, hs4_16, hs4_17, hs4_18, hs4_19⟩ := hs4_o
      have hs5 : sTrav B R (nI t) w = ((-1), 1) := by first | (simp [sTrav, c9, q3, c19, w0_, w1_, w2_, w3_]; done) | (simp [sTrav, c9, q3, c19, w0_, w1_, w2_, w3_, qWy]; done)
      exact g_iret E Rt dX1_traveller_94 rfl (by decide) (by decide) (by rw [hs5]; exact ⟨rfl, ⟨_, hs4_a, hs4_0, hs4_1, hs4_2, hs4_3, hs4_4, hs4_5, hs4_6, hs4_7, hs4_8, hs4_9, hs4_10, hs4_11, hs4_12, hs4_13, hs4_14, hs4_15, hs4_16, hs4_17, hs4_18, hs4_19⟩, fun j9 h9 => (f4 j9 (by omega)).trans (f1 j9 (by omega))⟩)
    · match j9, hj9, c19 with
      | 0, _, c19 =>
        have c19 : w = 0 := c19
        refine g_tabIn E dX1_traveller_19 (by rw [c19]; decide) (by rw [c19]; decide) (off := 29) (by rw [c19]; rfl) (tgt := 48) (by decide) ?_
        refine g_aload_n E dX1_traveller_48 rfl rfl rfl ?_
        refine g_getf E gciX1 dX1_traveller_49 hs1_a 3 rfl (by decide) q425 (.inl rfl) (.ref bb) (hs1_3) rfl ?_
        have x6 := (f1 (bb) (by omega)).trans (hBr_a)
        refine g_getf E gciX14 dX1_traveller_52 x6 1 rfl (by decide) q532 (.inl rfl) (.ref (bb + 2)) (hBr_1) rfl ?_
        refine g_iload_n E dX1_traveller_55 rfl rfl rfl ?_
        have x7 := (f1 (bb + 2) (by omega)).trans (hBr_a2)
        refine g_aald E dX1_traveller_56 (j := t) x7 (fun _ => rfl) (rfl) (by omega) (by decide) (b := bb + 20 + t) (hBr_b2 t (by omega)) rfl ?_
        have e8_h := pBr.people y2 t (by omega)
        obtain ⟨e8_F, e8_a, e8_1, e8_2, e8_3⟩ := e8_h
        refine g_getf E gciX17 dX1_traveller_57 e8_a 2 rfl (by decide) q901 (.inl rfl) (.int (nI (B 7 t))) (e8_2) rfl ?_
        have hs9 : sTrav B R (nI t) w = (nI (B 7 t), 0) := by first | (simp [sTrav, c9, q3, c19]; done) | (simp [sTrav, c9, q3, c19, qWy]; done)
        exact g_iret E Rt dX1_traveller_60 rfl (by decide) (by decide) (by rw [hs9]; exact ⟨rfl, ⟨_, hs1_a, hs1_0, hs1_1, hs1_2, hs1_3, hs1_4, hs1_5, hs1_6, hs1_7, hs1_8, hs1_9, hs1_10, hs1_11, hs1_12, hs1_13, hs1_14, hs1_15, hs1_16, hs1_17, hs1_18, hs1_19⟩, fun j9 h9 => f1 j9 (by omega)⟩)
      | 1, _, c19 =>
        have c19 : w = 1 := c19
        refine g_tabIn E dX1_traveller_19 (by rw [c19]; decide) (by rw [c19]; decide) (off := 42) (by rw [c19]; rfl) (tgt := 61) (by decide) ?_
        refine g_aload_n E dX1_traveller_61 rfl rfl rfl ?_
        refine g_getf E gciX1 dX1_traveller_62 hs1_a 9 rfl (by decide) q431 (.inl rfl) (.ref 1010) (hs1_9) rfl ?_
        refine g_iload_n E dX1_traveller_65 rfl rfl rfl ?_
        have x10 := (f1 (1010) (by omega)).trans (hLd_a)
        have y11 := (hLd.fr  (fun j9 a9 b9 => f1 j9 (by omega)))
        refine g_callV (k := 1010) (n9 := 1) (av := [.int (nI t)]) (st := []) E (ct_X4_hunger l t hw y11 y2 (by omega)) gciX4 dX1_traveller_66 x10 q1325 q1326 q1327 q126 q1328 (by decide +kernel) rfl rfl ⟨by decide, by decide⟩ ⟨by decide, by decide⟩ (Nat.le_of_ble_eq_true rfl) rfl (gPu.k ?_)
        have hs12 : sTrav B R (nI t) w = (R (8 + t), 0) := by first | (simp [sTrav, c9, q3, c19]; done) | (simp [sTrav, c9, q3, c19, qWy]; done)
        exact g_iret E Rt dX1_traveller_69 rfl (by decide) (by decide) (by rw [hs12]; exact ⟨rfl, ⟨_, hs1_a, hs1_0, hs1_1, hs1_2, hs1_3, hs1_4, hs1_5, hs1_6, hs1_7, hs1_8, hs1_9, hs1_10, hs1_11, hs1_12, hs1_13, hs1_14, hs1_15, hs1_16, hs1_17, hs1_18, hs1_19⟩, fun j9 h9 => f1 j9 (by omega)⟩)
      | 2, _, c19 =>
        have c19 : w = 2 := c19
        refine g_tabIn E dX1_traveller_19 (by rw [c19]; decide) (by rw [c19]; decide) (off := 51) (by rw [c19]; rfl) (tgt := 70) (by decide) ?_
        refine g_aload_n E dX1_traveller_70 rfl rfl rfl ?_
        refine g_getf E gciX1 dX1_traveller_71 hs1_a 9 rfl (by decide) q431 (.inl rfl) (.ref 1010) (hs1_9) rfl ?_
        have x13 := (f1 (1010) (by omega)).trans (hLd_a)
        refine g_getf E gciX4 dX1_traveller_74 x13 2 rfl (by decide) q290 (.inl rfl) (.ref 1013) (hLd_2) rfl ?_
        refine g_iload_n E dX1_traveller_77 rfl rfl rfl ?_
        have x14 := (f1 (1013) (by omega)).trans (hLd_pa)
        refine g_iald E dX1_traveller_78 (j := t) x14 (rfl) (by omega) (by decide) (v := R (12 + t)) (hLd_pb t (by omega)) rfl ?_
        have hs15 : sTrav B R (nI t) w = (R (12 + t), 0) := by first | (simp [sTrav, c9, q3, c19]; done) | (simp [sTrav, c9, q3, c19, qWy]; done)
        exact g_iret E Rt dX1_traveller_79 rfl (by decide) (by decide) (by rw [hs15]; exact ⟨rfl, ⟨_, hs1_a, hs1_0, hs1_1, hs1_2, hs1_3, hs1_4, hs1_5, hs1_6, hs1_7, hs1_8, hs1_9, hs1_10, hs1_11, hs1_12, hs1_13, hs1_14, hs1_15, hs1_16, hs1_17, hs1_18, hs1_19⟩, fun j9 h9 => f1 j9 (by omega)⟩)
      | 3, _, c19 =>
        have c19 : w = 3 := c19
        refine g_tabIn E dX1_traveller_19 (by rw [c19]; decide) (by rw [c19]; decide) (off := 61) (by rw [c19]; rfl) (tgt := 80) (by decide) ?_
        refine g_aload_n E dX1_traveller_80 rfl rfl rfl ?_
        refine g_getf E gciX1 dX1_traveller_81 hs1_a 9 rfl (by decide) q431 (.inl rfl) (.ref 1010) (hs1_9) rfl ?_
        refine g_iload_n E dX1_traveller_84 rfl rfl rfl ?_
        have x16 := (f1 (1010) (by omega)).trans (hLd_a)
        have y17 := (hLd.fr  (fun j9 a9 b9 => f1 j9 (by omega)))
        refine g_callV (k := 1010) (n9 := 1) (av := [.int (nI t)]) (st := []) E (ct_X4_has l t hw y17 y2 (by omega)) gciX4 dX1_traveller_85 x16 q1329 q1160 q1161 q126 q1162 (by decide +kernel) rfl rfl ⟨by decide, by decide⟩ ⟨by decide, by decide⟩ (Nat.le_of_ble_eq_true rfl) rfl (gPu.k ?_)
        have hs18 : sTrav B R (nI t) w = (zHas B R t, 0) := by first | (simp [sTrav, c9, q3, c19]; done) | (simp [sTrav, c9, q3, c19, qWy]; done)
        exact g_iret E Rt dX1_traveller_88 rfl (by decide) (by decide) (by rw [hs18]; exact ⟨rfl, ⟨_, hs1_a, hs1_0, hs1_1, hs1_2, hs1_3, hs1_4, hs1_5, hs1_6, hs1_7, hs1_8, hs1_9, hs1_10, hs1_11, hs1_12, hs1_13, hs1_14, hs1_15, hs1_16, hs1_17, hs1_18, hs1_19⟩, fun j9 h9 => f1 j9 (by omega)⟩)
  · have c9 := zb_0.mp c9
    have q19 := isNone_of c9
    refine g_aload_n E dX1_traveller_12 rfl rfl rfl ?_
    refine g_iconst E (v := 1) dX1_traveller_13 (by decide) rfl ?_
    refine g_callV (k := 1000) (n9 := 1) (av := [.int 1]) (st := []) E (ct_X1_no l 1 hs1) gciX1 dX1_traveller_14 hs1_a q503 q505 qs3 q120 q506 (by decide +kernel) rfl rfl ⟨by decide, by decide⟩ ⟨by decide, by decide⟩ (Nat.le_of_ble_eq_true rfl) rfl (gPi.k (fun g20 h20 => ?_))
    obtain ⟨hs20, f20⟩ := h20
    have hs20_o := hs20
    obtain ⟨hs20_F, hs20_a, hs20_0, hs20_1, hs20_2, hs20_3, hs20_4, hs20_5, hs20_6, hs20_7, hs20_8, hs20_9, hs20_10, hs20_11, hs20_12, hs20_13, hs20_14, hs20_15, hs20_16, hs20_17, hs20_18, hs20_19⟩ := hs20_o
    have hs21 : sTrav B R p w = ((-1), 1) := by first | (simp [sTrav, c9, q19]; done) | (simp [sTrav, c9, q19, qWy]; done)
    exact g_iret E Rt dX1_traveller_17 rfl (by decide) (by decide) (by rw [hs21]; exact ⟨rfl, ⟨_, hs20_a, hs20_0, hs20_1, hs20_2, hs20_3, hs20_4, hs20_5, hs20_6, hs20_7, hs20_8, hs20_9, hs20_10, hs20_11, hs20_12, hs20_13, hs20_14, hs20_15, hs20_16, hs20_17, hs20_18, hs20_19⟩, fun j9 h9 => (f20 j9 (by omega)).trans (f1 j9 (by omega))⟩)
set_option maxHeartbeats 1000000 in
theorem ct_X1_traveller_N (l : Launch) {g : gWM} {tp mm um : Nat} {tr fa wh : Int32} (p : Int32) (w : Int32) (hSo : pSo g .null tp tr fa wh mm um) : gCt l yX1_traveller cX1_traveller 3 (some .int) 1 0 0 21 [.ref 1000, .int p, .int w] g (gPi (sTrav zB0 (fun _ => 0) p w).1 (fun g1 => pSo g1 .null tp (sTrav zB0 (fun _ => 0) p w).2 fa (-1) mm um ∧ ∀ j, j ≠ 1000 → g1 j = g j)) := by
  refine gCt.of RX1 (by decide) rfl (lo := [some (.ref 1000), some (.int p), some (.int w)]) 0 rfl (Nat.le_of_ble_eq_true rfl) (fun z E Rt => ?_)
  have hSo_o := hSo
  obtain ⟨hSo_F, hSo_a, hSo_0, hSo_1, hSo_2, hSo_3, hSo_4, hSo_5, hSo_6, hSo_7, hSo_8, hSo_9, hSo_10, hSo_11, hSo_12, hSo_13, hSo_14, hSo_15, hSo_16, hSo_17, hSo_18, hSo_19⟩ := hSo_o
  refine g_aload_n E dX1_traveller_0 rfl rfl rfl ?_
  refine g_callV (k := 1000) (n9 := 0) (av := []) (st := []) E (ct_X1_anew l hSo) gciX1 dX1_traveller_1 hSo_a q496 q498 qs2 q120 q499 (by decide +kernel) rfl rfl ⟨by decide, by decide⟩ ⟨by decide, by decide⟩ (Nat.le_of_ble_eq_true rfl) rfl (gPn.k (fun g1 h1 => ?_))
  obtain ⟨hs1, f1⟩ := h1
  have hs1_o := hs1
  obtain ⟨hs1_F, hs1_a, hs1_0, hs1_1, hs1_2, hs1_3, hs1_4, hs1_5, hs1_6, hs1_7, hs1_8, hs1_9, hs1_10, hs1_11, hs1_12, hs1_13, hs1_14, hs1_15, hs1_16, hs1_17, hs1_18, hs1_19⟩ := hs1_o
  refine g_aload_n E dX1_traveller_4 rfl rfl rfl ?_
  refine g_iload_n E dX1_traveller_5 rfl rfl rfl ?_
  refine g_callV (k := 1000) (n9 := 1) (av := [.int p]) (st := []) E (ct_X1_isPerson_N l p hs1) gciX1 dX1_traveller_6 hs1_a q1321 q1323 qs34 q120 q1324 (by decide +kernel) rfl rfl ⟨by decide, by decide⟩ ⟨by decide, by decide⟩ (Nat.le_of_ble_eq_true rfl) rfl (gPu.k ?_)
  refine g_if_ne E dX1_traveller_9 (tgt := 18) (by decide) rfl (fun h9 => absurd h9 (by decide)) (fun _ => ?_)
  refine g_aload_n E dX1_traveller_12 rfl rfl rfl ?_
  refine g_iconst E (v := 1) dX1_traveller_13 (by decide) rfl ?_
  refine g_callV (k := 1000) (n9 := 1) (av := [.int 1]) (st := []) E (ct_X1_no l 1 hs1) gciX1 dX1_traveller_14 hs1_a q503 q505 qs3 q120 q506 (by decide +kernel) rfl rfl ⟨by decide, by decide⟩ ⟨by decide, by decide⟩ (Nat.le_of_ble_eq_true rfl) rfl (gPi.k (fun g2 h2 => ?_))
  obtain ⟨hs2, f2⟩ := h2
  have hs2_o := hs2
  obtain ⟨hs2_F, hs2_a, hs2_0, hs2_1, hs2_2, hs2_3, hs2_4, hs2_5, hs2_6, hs2_7, hs2_8, hs2_9, hs2_10, hs2_11, hs2_12, hs2_13, hs2_14, hs2_15, hs2_16, hs2_17, hs2_18, hs2_19⟩ := hs2_o
  have hs3 : sTrav zB0 (fun _ => 0) p w = ((-1), 1) := by first | (simp [sTrav, qI_z, qWy]; done) | (simp [sTrav, qI_z, qWy, qWy]; done)
  exact g_iret E Rt dX1_traveller_17 rfl (by decide) (by decide) (by rw [hs3]; exact ⟨rfl, ⟨_, hs2_a, hs2_0, hs2_1, hs2_2, hs2_3, hs2_4, hs2_5, hs2_6, hs2_7, hs2_8, hs2_9, hs2_10, hs2_11, hs2_12, hs2_13, hs2_14, hs2_15, hs2_16, hs2_17, hs2_18, hs2_19⟩, fun j9 h9 => (f2 j9 (by omega)).trans (f1 j9 (by omega))⟩)
set_option maxHeartbeats 1000000 in
theorem ct_X1_gate (l : Launch) {g : gWM} {bb : Nat} {B : gBar} {R : Nat → Int32} {d : Int32} {tp mm um : Nat} {tr fa wh : Int32} (p : Int32) (w : Int32) (hw : wfB B) (hSo : pSo g (.ref bb) tp tr fa wh mm um) (hLd : pLd g 1010 (.ref bb) B R d) (hBr : pBr g bb B) (hL1 : pLw g 1005 1) (hL2 : pLw g 1006 2) (hb9 : 10000 ≤ bb) : gCt l yX1_gate cX1_gate 4 (some .int) 2 0 0 43 [.ref 1000, .int p, .int w] g (gPi (sGate B p w).1 (fun g1 => pSo g1 (.ref bb) tp (sGate B p w).2 fa (-1) mm um ∧ ∀ j, j ≠ 1000 → g1 j = g j)) := by
  refine gCt.of RX1 (by decide) rfl (lo := [some (.ref 1000), some (.int p), some (.int w), none]) 1 rfl (Nat.le_of_ble_eq_true rfl) (fun z E Rt => ?_)
  have hw_n := hw.1
  have hSo_o := hSo
  obtain ⟨hSo_F, hSo_a, hSo_0, hSo_1, hSo_2, hSo_3, hSo_4, hSo_5, hSo_6, hSo_7, hSo_8, hSo_9, hSo_10, hSo_11, hSo_12, hSo_13, hSo_14, hSo_15, hSo_16, hSo_17, hSo_18, hSo_19⟩ := hSo_o
  have hLd_o := hLd
  obtain ⟨⟨hLd_F, hLd_a, hLd_0, hLd_1, hLd_2, hLd_3, hLd_4, hLd_5⟩, ⟨hLd_s, hLd_sa, hLd_sb⟩, ⟨hLd_e, hLd_ea, hLd_eb⟩, hLd_p, hLd_pa, hLd_pb⟩ := hLd_o
  have hBr_o := hBr
  obtain ⟨⟨hBr_F, hBr_a, hBr_0, hBr_1, hBr_2, hBr_3, hBr_4, hBr_5, hBr_6, hBr_7, hBr_8, hBr_9, hBr_10, hBr_11, hBr_12, hBr_13, hBr_14, hBr_15⟩, ⟨hBr_f1, hBr_a1, hBr_b1⟩, ⟨hBr_f2, hBr_a2, hBr_b2⟩, ⟨hBr_f3, hBr_a3, hBr_b3⟩, ⟨hBr_f4, hBr_a4, hBr_b4⟩, ⟨hBr_f5, hBr_a5, hBr_b5⟩, ⟨hBr_f6, hBr_a6, hBr_b6⟩, ⟨hBr_f7, hBr_a7, hBr_b7⟩, hBr_c1, hBr_c2, hBr_c3, hBr_c4, hBr_c5⟩ := hBr_o
  refine g_aload_n E dX1_gate_0 rfl rfl rfl ?_
  refine g_callV (k := 1000) (n9 := 0) (av := []) (st := []) E (ct_X1_anew l hSo) gciX1 dX1_gate_1 hSo_a q496 q498 qs2 q120 q499 (by decide +kernel) rfl rfl ⟨by decide, by decide⟩ ⟨by decide, by decide⟩ (Nat.le_of_ble_eq_true rfl) rfl (gPn.k (fun g1 h1 => ?_))
  obtain ⟨hs1, f1⟩ := h1
  have hs1_o := hs1
  obtain ⟨hs1_F, hs1_a, hs1_0, hs1_1, hs1_2, hs1_3, hs1_4, hs1_5, hs1_6, hs1_7, hs1_8, hs1_9, hs1_10, hs1_11, hs1_12, hs1_13, hs1_14, hs1_15, hs1_16, hs1_17, hs1_18, hs1_19⟩ := hs1_o
  refine g_aload_n E dX1_gate_4 rfl rfl rfl ?_
  refine g_iload_n E dX1_gate_5 rfl rfl rfl ?_
  have y2 := (hBr.fr hw (fun j9 a9 b9 => f1 j9 (by omega)))
  refine g_callV (k := 1000) (n9 := 1) (av := [.int p]) (st := []) E (ct_X1_isGate l p hw hs1 y2) gciX1 dX1_gate_6 hs1_a q1334 q1336 qs35 q120 q1337 (by decide +kernel) rfl rfl ⟨by decide, by decide⟩ ⟨by decide, by decide⟩ (Nat.le_of_ble_eq_true rfl) rfl (gPu.k ?_)
  refine g_if_ne E dX1_gate_9 (tgt := 18) (by decide) rfl (fun c9 => ?_) (fun c9 => ?_)
  · have c9 := zb_n0.mp c9
    obtain ⟨k9, q3⟩ := isSome_of c9
    obtain ⟨rfl, q3_l⟩ := qI_some (by omega) q3
    refine g_aload_n E dX1_gate_18 rfl rfl rfl ?_
    refine g_getf E gciX1 dX1_gate_19 hs1_a 3 rfl (by decide) q425 (.inl rfl) (.ref bb) (hs1_3) rfl ?_
    have x4 := (f1 (bb) (by omega)).trans (hBr_a)
    refine g_getf E gciX14 dX1_gate_22 x4 2 rfl (by decide) q537 (.inl rfl) (.ref (bb + 3)) (hBr_2) rfl ?_
    refine g_iload_n E dX1_gate_25 rfl rfl rfl ?_
    have x5 := (f1 (bb + 3) (by omega)).trans (hBr_a3)
    refine g_aald E dX1_gate_26 (j := k9) x5 (fun _ => rfl) (rfl) (by omega) (by decide) (b := bb + 30 + k9) (hBr_b3 k9 (by omega)) rfl ?_
    have e6_h := pBr.gates y2 k9 (by omega)
    obtain ⟨e6_F, e6_a, e6_1, e6_2, e6_3, e6_4⟩ := e6_h
    refine g_astore_n E dX1_gate_27 rfl (by decide) rfl (lo1 := [some (.ref 1000), some (.int (nI k9)), some (.int w), some (.ref (bb + 30 + k9))]) rfl rfl ?_
    refine g_iload_n E dX1_gate_28 rfl rfl rfl ?_
    rcases g_cases w (a := 0) (n := 3) (by decide) with c29 | ⟨j9, hj9, c29⟩
    · refine g_tabOut E dX1_gate_29 (by have := c29; omega) (tgt := 71) (by decide) ?_
      have w0_ : ¬ w = 0 := by intro h9; rw [h9] at c29; revert c29; decide
      have w1_ : ¬ w = 1 := by intro h9; rw [h9] at c29; revert c29; decide
      have w2_ : ¬ w = 2 := by intro h9; rw [h9] at c29; revert c29; decide
      refine g_aload_n E dX1_gate_71 rfl rfl rfl ?_
      refine g_iconst E (v := 1) dX1_gate_72 (by decide) rfl ?_
      refine g_callV (k := 1000) (n9 := 1) (av := [.int 1]) (st := []) E (ct_X1_no l 1 hs1) gciX1 dX1_gate_73 hs1_a q503 q505 qs3 q120 q506 (by decide +kernel) rfl rfl ⟨by decide, by decide⟩ ⟨by decide, by decide⟩ (Nat.le_of_ble_eq_true rfl) rfl (gPi.k (fun g7 h7 => ?_))
      obtain ⟨hs7, f7⟩ := h7
      have hs7_o := hs7
      obtain ⟨hs7_F, hs7_a, hs7_0, hs7_1, hs7_2, hs7_3, hs7_4, hs7_5, hs7_6, hs7_7, hs7_8, hs7_9, hs7_10, hs7_11, hs7_12, hs7_13, hs7_14, hs7_15, hs7_16, hs7_17, hs7_18, hs7_19⟩ := hs7_o
      have hs8 : sGate B (nI k9) w = ((-1), 1) := by first | (simp [sGate, c9, q3, c29, w0_, w1_, w2_]; done) | (simp [sGate, c9, q3, c29, w0_, w1_, w2_, qWy]; done)
      exact g_iret E Rt dX1_gate_76 rfl (by decide) (by decide) (by rw [hs8]; exact ⟨rfl, ⟨_, hs7_a, hs7_0, hs7_1, hs7_2, hs7_3, hs7_4, hs7_5, hs7_6, hs7_7, hs7_8, hs7_9, hs7_10, hs7_11, hs7_12, hs7_13, hs7_14, hs7_15, hs7_16, hs7_17, hs7_18, hs7_19⟩, fun j9 h9 => (f7 j9 (by omega)).trans (f1 j9 (by omega))⟩)
    · match j9, hj9, c29 with
      | 0, _, c29 =>
        have c29 : w = 0 := c29
        refine g_tabIn E dX1_gate_29 (by rw [c29]; decide) (by rw [c29]; decide) (off := 27) (by rw [c29]; rfl) (tgt := 56) (by decide) ?_
        refine g_aload_n E dX1_gate_56 rfl rfl rfl ?_
        refine g_getf E gciX18 dX1_gate_57 e6_a 2 rfl (by decide) q925 (.inl rfl) (.int (nI (B 9 k9))) (e6_2) rfl ?_
        have hs9 : sGate B (nI k9) w = (nI (B 9 k9), 0) := by first | (simp [sGate, c9, q3, c29]; done) | (simp [sGate, c9, q3, c29, qWy]; done)
        exact g_iret E Rt dX1_gate_60 rfl (by decide) (by decide) (by rw [hs9]; exact ⟨rfl, ⟨_, hs1_a, hs1_0, hs1_1, hs1_2, hs1_3, hs1_4, hs1_5, hs1_6, hs1_7, hs1_8, hs1_9, hs1_10, hs1_11, hs1_12, hs1_13, hs1_14, hs1_15, hs1_16, hs1_17, hs1_18, hs1_19⟩, fun j9 h9 => f1 j9 (by omega)⟩)
      | 1, _, c29 =>
        have c29 : w = 1 := c29
        refine g_tabIn E dX1_gate_29 (by rw [c29]; decide) (by rw [c29]; decide) (off := 32) (by rw [c29]; rfl) (tgt := 61) (by decide) ?_
        refine g_aload_n E dX1_gate_61 rfl rfl rfl ?_
        refine g_getf E gciX18 dX1_gate_62 e6_a 3 rfl (by decide) q928 (.inl rfl) (.int (nI (B 10 k9))) (e6_3) rfl ?_
        have hs10 : sGate B (nI k9) w = (nI (B 10 k9), 0) := by first | (simp [sGate, c9, q3, c29]; done) | (simp [sGate, c9, q3, c29, qWy]; done)
        exact g_iret E Rt dX1_gate_65 rfl (by decide) (by decide) (by rw [hs10]; exact ⟨rfl, ⟨_, hs1_a, hs1_0, hs1_1, hs1_2, hs1_3, hs1_4, hs1_5, hs1_6, hs1_7, hs1_8, hs1_9, hs1_10, hs1_11, hs1_12, hs1_13, hs1_14, hs1_15, hs1_16, hs1_17, hs1_18, hs1_19⟩, fun j9 h9 => f1 j9 (by omega)⟩)
      | 2, _, c29 =>
        have c29 : w = 2 := c29
        refine g_tabIn E dX1_gate_29 (by rw [c29]; decide) (by rw [c29]; decide) (off := 37) (by rw [c29]; rfl) (tgt := 66) (by decide) ?_
        refine g_aload_n E dX1_gate_66 rfl rfl rfl ?_
        refine g_getf E gciX18 dX1_gate_67 e6_a 4 rfl (by decide) q931 (.inl rfl) (.int (nI (B 11 k9))) (e6_4) rfl ?_
        have hs11 : sGate B (nI k9) w = (nI (B 11 k9), 0) := by first | (simp [sGate, c9, q3, c29]; done) | (simp [sGate, c9, q3, c29, qWy]; done)
        exact g_iret E Rt dX1_gate_70 rfl (by decide) (by decide) (by rw [hs11]; exact ⟨rfl, ⟨_, hs1_a, hs1_0, hs1_1, hs1_2, hs1_3, hs1_4, hs1_5, hs1_6, hs1_7, hs1_8, hs1_9, hs1_10, hs1_11, hs1_12, hs1_13, hs1_14, hs1_15, hs1_16, hs1_17, hs1_18, hs1_19⟩, fun j9 h9 => f1 j9 (by omega)⟩)
  · have c9 := zb_0.mp c9
    have q12 := isNone_of c9
    refine g_aload_n E dX1_gate_12 rfl rfl rfl ?_
    refine g_iconst E (v := 1) dX1_gate_13 (by decide) rfl ?_
    refine g_callV (k := 1000) (n9 := 1) (av := [.int 1]) (st := []) E (ct_X1_no l 1 hs1) gciX1 dX1_gate_14 hs1_a q503 q505 qs3 q120 q506 (by decide +kernel) rfl rfl ⟨by decide, by decide⟩ ⟨by decide, by decide⟩ (Nat.le_of_ble_eq_true rfl) rfl (gPi.k (fun g13 h13 => ?_))
    obtain ⟨hs13, f13⟩ := h13
    have hs13_o := hs13
    obtain ⟨hs13_F, hs13_a, hs13_0, hs13_1, hs13_2, hs13_3, hs13_4, hs13_5, hs13_6, hs13_7, hs13_8, hs13_9, hs13_10, hs13_11, hs13_12, hs13_13, hs13_14, hs13_15, hs13_16, hs13_17, hs13_18, hs13_19⟩ := hs13_o
    have hs14 : sGate B p w = ((-1), 1) := by first | (simp [sGate, c9, q12]; done) | (simp [sGate, c9, q12, qWy]; done)
    exact g_iret E Rt dX1_gate_17 rfl (by decide) (by decide) (by rw [hs14]; exact ⟨rfl, ⟨_, hs13_a, hs13_0, hs13_1, hs13_2, hs13_3, hs13_4, hs13_5, hs13_6, hs13_7, hs13_8, hs13_9, hs13_10, hs13_11, hs13_12, hs13_13, hs13_14, hs13_15, hs13_16, hs13_17, hs13_18, hs13_19⟩, fun j9 h9 => (f13 j9 (by omega)).trans (f1 j9 (by omega))⟩)
set_option maxHeartbeats 1000000 in
theorem ct_X1_gate_N (l : Launch) {g : gWM} {tp mm um : Nat} {tr fa wh : Int32} (p : Int32) (w : Int32) (hSo : pSo g .null tp tr fa wh mm um) : gCt l yX1_gate cX1_gate 4 (some .int) 1 0 0 21 [.ref 1000, .int p, .int w] g (gPi (sGate zB0 p w).1 (fun g1 => pSo g1 .null tp (sGate zB0 p w).2 fa (-1) mm um ∧ ∀ j, j ≠ 1000 → g1 j = g j)) := by
  refine gCt.of RX1 (by decide) rfl (lo := [some (.ref 1000), some (.int p), some (.int w), none]) 1 rfl (Nat.le_of_ble_eq_true rfl) (fun z E Rt => ?_)
  have hSo_o := hSo
  obtain ⟨hSo_F, hSo_a, hSo_0, hSo_1, hSo_2, hSo_3, hSo_4, hSo_5, hSo_6, hSo_7, hSo_8, hSo_9, hSo_10, hSo_11, hSo_12, hSo_13, hSo_14, hSo_15, hSo_16, hSo_17, hSo_18, hSo_19⟩ := hSo_o
  refine g_aload_n E dX1_gate_0 rfl rfl rfl ?_
  refine g_callV (k := 1000) (n9 := 0) (av := []) (st := []) E (ct_X1_anew l hSo) gciX1 dX1_gate_1 hSo_a q496 q498 qs2 q120 q499 (by decide +kernel) rfl rfl ⟨by decide, by decide⟩ ⟨by decide, by decide⟩ (Nat.le_of_ble_eq_true rfl) rfl (gPn.k (fun g1 h1 => ?_))
  obtain ⟨hs1, f1⟩ := h1
  have hs1_o := hs1
  obtain ⟨hs1_F, hs1_a, hs1_0, hs1_1, hs1_2, hs1_3, hs1_4, hs1_5, hs1_6, hs1_7, hs1_8, hs1_9, hs1_10, hs1_11, hs1_12, hs1_13, hs1_14, hs1_15, hs1_16, hs1_17, hs1_18, hs1_19⟩ := hs1_o
  refine g_aload_n E dX1_gate_4 rfl rfl rfl ?_
  refine g_iload_n E dX1_gate_5 rfl rfl rfl ?_
  refine g_callV (k := 1000) (n9 := 1) (av := [.int p]) (st := []) E (ct_X1_isGate_N l p hs1) gciX1 dX1_gate_6 hs1_a q1334 q1336 qs35 q120 q1337 (by decide +kernel) rfl rfl ⟨by decide, by decide⟩ ⟨by decide, by decide⟩ (Nat.le_of_ble_eq_true rfl) rfl (gPu.k ?_)
  refine g_if_ne E dX1_gate_9 (tgt := 18) (by decide) rfl (fun h9 => absurd h9 (by decide)) (fun _ => ?_)
  refine g_aload_n E dX1_gate_12 rfl rfl rfl ?_
  refine g_iconst E (v := 1) dX1_gate_13 (by decide) rfl ?_
  refine g_callV (k := 1000) (n9 := 1) (av := [.int 1]) (st := []) E (ct_X1_no l 1 hs1) gciX1 dX1_gate_14 hs1_a q503 q505 qs3 q120 q506 (by decide +kernel) rfl rfl ⟨by decide, by decide⟩ ⟨by decide, by decide⟩ (Nat.le_of_ble_eq_true rfl) rfl (gPi.k (fun g2 h2 => ?_))
  obtain ⟨hs2, f2⟩ := h2
  have hs2_o := hs2
  obtain ⟨hs2_F, hs2_a, hs2_0, hs2_1, hs2_2, hs2_3, hs2_4, hs2_5, hs2_6, hs2_7, hs2_8, hs2_9, hs2_10, hs2_11, hs2_12, hs2_13, hs2_14, hs2_15, hs2_16, hs2_17, hs2_18, hs2_19⟩ := hs2_o
  have hs3 : sGate zB0 p w = ((-1), 1) := by first | (simp [sGate, qI_z, qWy]; done) | (simp [sGate, qI_z, qWy, qWy]; done)
  exact g_iret E Rt dX1_gate_17 rfl (by decide) (by decide) (by rw [hs3]; exact ⟨rfl, ⟨_, hs2_a, hs2_0, hs2_1, hs2_2, hs2_3, hs2_4, hs2_5, hs2_6, hs2_7, hs2_8, hs2_9, hs2_10, hs2_11, hs2_12, hs2_13, hs2_14, hs2_15, hs2_16, hs2_17, hs2_18, hs2_19⟩, fun j9 h9 => (f2 j9 (by omega)).trans (f1 j9 (by omega))⟩)
set_option maxHeartbeats 1000000 in
theorem ct_X1_turned (l : Launch) {g : gWM} {bb : Nat} {B : gBar} {R : Nat → Int32} {d : Int32} {tp mm um : Nat} {tr fa wh : Int32} (p : Int32) (hw : wfB B) (hSo : pSo g (.ref bb) tp tr fa wh mm um) (hLd : pLd g 1010 (.ref bb) B R d) (hBr : pBr g bb B) (hL1 : pLw g 1005 1) (hL2 : pLw g 1006 2) (hb9 : 10000 ≤ bb) : gCt l yX1_turned cX1_turned 3 (some .int) 2 0 0 43 [.ref 1000, .int p] g (gPi (sTur B d p).1 (fun g1 => pSo g1 (.ref bb) tp (sTur B d p).2 fa (-1) mm um ∧ ∀ j, j ≠ 1000 → g1 j = g j)) := by
  refine gCt.of RX1 (by decide) rfl (lo := [some (.ref 1000), some (.int p), none]) 1 rfl (Nat.le_of_ble_eq_true rfl) (fun z E Rt => ?_)
  have hw_n := hw.1
  have hSo_o := hSo
  obtain ⟨hSo_F, hSo_a, hSo_0, hSo_1, hSo_2, hSo_3, hSo_4, hSo_5, hSo_6, hSo_7, hSo_8, hSo_9, hSo_10, hSo_11, hSo_12, hSo_13, hSo_14, hSo_15, hSo_16, hSo_17, hSo_18, hSo_19⟩ := hSo_o
  have hLd_o := hLd
  obtain ⟨⟨hLd_F, hLd_a, hLd_0, hLd_1, hLd_2, hLd_3, hLd_4, hLd_5⟩, ⟨hLd_s, hLd_sa, hLd_sb⟩, ⟨hLd_e, hLd_ea, hLd_eb⟩, hLd_p, hLd_pa, hLd_pb⟩ := hLd_o
  have hBr_o := hBr
  obtain ⟨⟨hBr_F, hBr_a, hBr_0, hBr_1, hBr_2, hBr_3, hBr_4, hBr_5, hBr_6, hBr_7, hBr_8, hBr_9, hBr_10, hBr_11, hBr_12, hBr_13, hBr_14, hBr_15⟩, ⟨hBr_f1, hBr_a1, hBr_b1⟩, ⟨hBr_f2, hBr_a2, hBr_b2⟩, ⟨hBr_f3, hBr_a3, hBr_b3⟩, ⟨hBr_f4, hBr_a4, hBr_b4⟩, ⟨hBr_f5, hBr_a5, hBr_b5⟩, ⟨hBr_f6, hBr_a6, hBr_b6⟩, ⟨hBr_f7, hBr_a7, hBr_b7⟩, hBr_c1, hBr_c2, hBr_c3, hBr_c4, hBr_c5⟩ := hBr_o
  refine g_aload_n E dX1_turned_0 rfl rfl rfl ?_
  refine g_callV (k := 1000) (n9 := 0) (av := []) (st := []) E (ct_X1_anew l hSo) gciX1 dX1_turned_1 hSo_a q496 q498 qs2 q120 q499 (by decide +kernel) rfl rfl ⟨by decide, by decide⟩ ⟨by decide, by decide⟩ (Nat.le_of_ble_eq_true rfl) rfl (gPn.k (fun g1 h1 => ?_))
  obtain ⟨hs1, f1⟩ := h1
  have hs1_o := hs1
  obtain ⟨hs1_F, hs1_a, hs1_0, hs1_1, hs1_2, hs1_3, hs1_4, hs1_5, hs1_6, hs1_7, hs1_8, hs1_9, hs1_10, hs1_11, hs1_12, hs1_13, hs1_14, hs1_15, hs1_16, hs1_17, hs1_18, hs1_19⟩ := hs1_o
  refine g_aload_n E dX1_turned_4 rfl rfl rfl ?_
  refine g_iload_n E dX1_turned_5 rfl rfl rfl ?_
  have y2 := (hBr.fr hw (fun j9 a9 b9 => f1 j9 (by omega)))
  refine g_callV (k := 1000) (n9 := 1) (av := [.int p]) (st := []) E (ct_X1_isGood l p hw hs1 y2) gciX1 dX1_turned_6 hs1_a q1283 q1285 qs33 q120 q1286 (by decide +kernel) rfl rfl ⟨by decide, by decide⟩ ⟨by decide, by decide⟩ (Nat.le_of_ble_eq_true rfl) rfl (gPu.k ?_)
  refine g_if_ne E dX1_turned_9 (tgt := 18) (by decide) rfl (fun c9 => ?_) (fun c9 => ?_)
  · have c9 := zb_n0.mp c9
    obtain ⟨j, q3⟩ := isSome_of c9
    obtain ⟨rfl, q3_l⟩ := qI_some (by omega) q3
    refine g_iconst E (v := 0) dX1_turned_18 (by decide) rfl ?_
    refine g_istore_n E dX1_turned_19 rfl (by decide) rfl (lo1 := [some (.ref 1000), some (.int (nI j)), some (.int 0)]) rfl rfl ?_
    have lp20 : ∀ (r9 : Nat) (k : Nat), (k ≤ 302) → (zTd B j d 302 0 = zTd B j d (302 - k) k) → (302 - k < r9) → gV z g1 0 0 20 [some (.ref 1000), some (.int (nI j)), some (.int (nI k))] [] := by
      intro r9
      induction r9 with
      | zero => intro k hk hz hm; exact absurd hm (Nat.not_lt_zero _)
      | succ r9 ih20 =>
        intro k hk hz hm
        refine g_iload_n E dX1_turned_20 rfl rfl rfl ?_
        refine g_sipush E (v := 301) dX1_turned_21 (by decide) rfl ?_
        refine g_icmp_gt E dX1_turned_24 (tgt := 55) (by decide) rfl (fun c24 => ?_) (fun c24 => ?_)
        · have c24 := (nI_ltI (a := 301) (b := k) (by omega) (by omega)).mp c24
          refine g_bipush E (v := (-2)) dX1_turned_55 (by decide) rfl ?_
          have hs4 : sTur B d (nI j) = ((-2), 0) := by simp [sTur, q3]; rw [hz, show k = 302 by omega]; rfl
          exact g_iret E Rt dX1_turned_57 rfl (by decide) (by decide) (by rw [hs4]; exact ⟨rfl, ⟨_, hs1_a, hs1_0, hs1_1, hs1_2, hs1_3, hs1_4, hs1_5, hs1_6, hs1_7, hs1_8, hs1_9, hs1_10, hs1_11, hs1_12, hs1_13, hs1_14, hs1_15, hs1_16, hs1_17, hs1_18, hs1_19⟩, fun j9 h9 => f1 j9 (by omega)⟩)
        · have c24 := mt (nI_ltI (a := 301) (b := k) (by omega) (by omega)).mpr c24
          refine g_aload_n E dX1_turned_27 rfl rfl rfl ?_
          refine g_getf E gciX1 dX1_turned_28 hs1_a 3 rfl (by decide) q425 (.inl rfl) (.ref bb) (hs1_3) rfl ?_
          have x5 := (f1 (bb) (by omega)).trans (hBr_a)
          refine g_getf E gciX14 dX1_turned_31 x5 3 rfl (by decide) q542 (.inl rfl) (.ref (bb + 4)) (hBr_3) rfl ?_
          refine g_iload_n E dX1_turned_34 rfl rfl rfl ?_
          have x6 := (f1 (bb + 4) (by omega)).trans (hBr_a4)
          refine g_aald E dX1_turned_35 (j := j) x6 (fun _ => rfl) (rfl) (by omega) (by decide) (b := bb + 40 + j) (hBr_b4 j (by omega)) rfl ?_
          have u7 := pBr.good y2 hw (j := j) (by omega)
          have u7_b := wfB.goods hw (j := j) (by omega)
          have o8 := u7
          obtain ⟨⟨o8_F, o8_a, o8_0, o8_1, o8_2, o8_3, o8_4, o8_7⟩, o8_m, o8_k⟩ := o8
          refine g_aload_n E dX1_turned_36 rfl rfl rfl ?_
          refine g_iload_n E dX1_turned_37 rfl rfl rfl ?_
          have y9 := (hLd.fr  (fun j9 a9 b9 => f1 j9 (by omega)))
          refine g_callV (k := 1000) (n9 := 1) (av := [.int (nI k)]) (st := [.ref (bb + 40 + j)]) E (ct_X1_on l (nI k) hw hs1 y9 y2) gciX1 dX1_turned_38 hs1_a q1346 q1348 qs37 q120 q1349 (by decide +kernel) rfl rfl ⟨by decide, by decide⟩ ⟨by decide, by decide⟩ (Nat.le_of_ble_eq_true rfl) rfl (gPu.k ?_)
          refine v_isTurned_Good E dX1_turned_41 q1391 u7 ⟨by decide, by decide⟩ ⟨by decide, by decide⟩ (Nat.le_of_ble_eq_true rfl) rfl ?_
          refine g_if_eq E dX1_turned_44 (tgt := 49) (by decide) rfl (fun c44 => ?_) (fun c44 => ?_)
          · have c44 := zb_0.mp c44
            refine g_iinc E dX1_turned_49 rfl (v := nI (k + 1)) (nI_c _) (by decide) rfl (lo1 := [some (.ref 1000), some (.int (nI j)), some (.int (nI (k + 1)))]) rfl rfl ?_
            refine g_goto E dX1_turned_52 (tgt := 20) (by decide) ?_
            exact ih20 (k + 1) (by omega) (hz.trans (zTd_f (by omega) c44)) (by omega)
          · have c44 := zb_n0.mp c44
            refine g_iload_n E dX1_turned_47 rfl rfl rfl ?_
            have hs10 : sTur B d (nI j) = (nI k, 0) := by simp [sTur, q3]; exact hz.trans (zTd_t (by omega) c44)
            exact g_iret E Rt dX1_turned_48 rfl (by decide) (by decide) (by rw [hs10]; exact ⟨rfl, ⟨_, hs1_a, hs1_0, hs1_1, hs1_2, hs1_3, hs1_4, hs1_5, hs1_6, hs1_7, hs1_8, hs1_9, hs1_10, hs1_11, hs1_12, hs1_13, hs1_14, hs1_15, hs1_16, hs1_17, hs1_18, hs1_19⟩, fun j9 h9 => f1 j9 (by omega)⟩)
    exact lp20 303 0 (Nat.zero_le _) rfl (by omega)
  · have c9 := zb_0.mp c9
    have q11 := isNone_of c9
    refine g_aload_n E dX1_turned_12 rfl rfl rfl ?_
    refine g_iconst E (v := 1) dX1_turned_13 (by decide) rfl ?_
    refine g_callV (k := 1000) (n9 := 1) (av := [.int 1]) (st := []) E (ct_X1_no l 1 hs1) gciX1 dX1_turned_14 hs1_a q503 q505 qs3 q120 q506 (by decide +kernel) rfl rfl ⟨by decide, by decide⟩ ⟨by decide, by decide⟩ (Nat.le_of_ble_eq_true rfl) rfl (gPi.k (fun g12 h12 => ?_))
    obtain ⟨hs12, f12⟩ := h12
    have hs12_o := hs12
    obtain ⟨hs12_F, hs12_a, hs12_0, hs12_1, hs12_2, hs12_3, hs12_4, hs12_5, hs12_6, hs12_7, hs12_8, hs12_9, hs12_10, hs12_11, hs12_12, hs12_13, hs12_14, hs12_15, hs12_16, hs12_17, hs12_18, hs12_19⟩ := hs12_o
    have hs13 : sTur B d p = ((-1), 1) := by first | (simp [sTur, c9, q11]; done) | (simp [sTur, c9, q11, qWy]; done)
    exact g_iret E Rt dX1_turned_17 rfl (by decide) (by decide) (by rw [hs13]; exact ⟨rfl, ⟨_, hs12_a, hs12_0, hs12_1, hs12_2, hs12_3, hs12_4, hs12_5, hs12_6, hs12_7, hs12_8, hs12_9, hs12_10, hs12_11, hs12_12, hs12_13, hs12_14, hs12_15, hs12_16, hs12_17, hs12_18, hs12_19⟩, fun j9 h9 => (f12 j9 (by omega)).trans (f1 j9 (by omega))⟩)
set_option maxHeartbeats 1000000 in
theorem ct_X1_turned_N (l : Launch) {g : gWM} {tp mm um : Nat} {tr fa wh : Int32} (p : Int32) (hSo : pSo g .null tp tr fa wh mm um) : gCt l yX1_turned cX1_turned 3 (some .int) 1 0 0 21 [.ref 1000, .int p] g (gPi (sTur zB0 0 p).1 (fun g1 => pSo g1 .null tp (sTur zB0 0 p).2 fa (-1) mm um ∧ ∀ j, j ≠ 1000 → g1 j = g j)) := by
  refine gCt.of RX1 (by decide) rfl (lo := [some (.ref 1000), some (.int p), none]) 1 rfl (Nat.le_of_ble_eq_true rfl) (fun z E Rt => ?_)
  have hSo_o := hSo
  obtain ⟨hSo_F, hSo_a, hSo_0, hSo_1, hSo_2, hSo_3, hSo_4, hSo_5, hSo_6, hSo_7, hSo_8, hSo_9, hSo_10, hSo_11, hSo_12, hSo_13, hSo_14, hSo_15, hSo_16, hSo_17, hSo_18, hSo_19⟩ := hSo_o
  refine g_aload_n E dX1_turned_0 rfl rfl rfl ?_
  refine g_callV (k := 1000) (n9 := 0) (av := []) (st := []) E (ct_X1_anew l hSo) gciX1 dX1_turned_1 hSo_a q496 q498 qs2 q120 q499 (by decide +kernel) rfl rfl ⟨by decide, by decide⟩ ⟨by decide, by decide⟩ (Nat.le_of_ble_eq_true rfl) rfl (gPn.k (fun g1 h1 => ?_))
  obtain ⟨hs1, f1⟩ := h1
  have hs1_o := hs1
  obtain ⟨hs1_F, hs1_a, hs1_0, hs1_1, hs1_2, hs1_3, hs1_4, hs1_5, hs1_6, hs1_7, hs1_8, hs1_9, hs1_10, hs1_11, hs1_12, hs1_13, hs1_14, hs1_15, hs1_16, hs1_17, hs1_18, hs1_19⟩ := hs1_o
  refine g_aload_n E dX1_turned_4 rfl rfl rfl ?_
  refine g_iload_n E dX1_turned_5 rfl rfl rfl ?_
  refine g_callV (k := 1000) (n9 := 1) (av := [.int p]) (st := []) E (ct_X1_isGood_N l p hs1) gciX1 dX1_turned_6 hs1_a q1283 q1285 qs33 q120 q1286 (by decide +kernel) rfl rfl ⟨by decide, by decide⟩ ⟨by decide, by decide⟩ (Nat.le_of_ble_eq_true rfl) rfl (gPu.k ?_)
  refine g_if_ne E dX1_turned_9 (tgt := 18) (by decide) rfl (fun h9 => absurd h9 (by decide)) (fun _ => ?_)
  refine g_aload_n E dX1_turned_12 rfl rfl rfl ?_
  refine g_iconst E (v := 1) dX1_turned_13 (by decide) rfl ?_
  refine g_callV (k := 1000) (n9 := 1) (av := [.int 1]) (st := []) E (ct_X1_no l 1 hs1) gciX1 dX1_turned_14 hs1_a q503 q505 qs3 q120 q506 (by decide +kernel) rfl rfl ⟨by decide, by decide⟩ ⟨by decide, by decide⟩ (Nat.le_of_ble_eq_true rfl) rfl (gPi.k (fun g2 h2 => ?_))
  obtain ⟨hs2, f2⟩ := h2
  have hs2_o := hs2
  obtain ⟨hs2_F, hs2_a, hs2_0, hs2_1, hs2_2, hs2_3, hs2_4, hs2_5, hs2_6, hs2_7, hs2_8, hs2_9, hs2_10, hs2_11, hs2_12, hs2_13, hs2_14, hs2_15, hs2_16, hs2_17, hs2_18, hs2_19⟩ := hs2_o
  have hs3 : sTur zB0 0 p = ((-1), 1) := by first | (simp [sTur, qI_z, qWy]; done) | (simp [sTur, qI_z, qWy, qWy]; done)
  exact g_iret E Rt dX1_turned_17 rfl (by decide) (by decide) (by rw [hs3]; exact ⟨rfl, ⟨_, hs2_a, hs2_0, hs2_1, hs2_2, hs2_3, hs2_4, hs2_5, hs2_6, hs2_7, hs2_8, hs2_9, hs2_10, hs2_11, hs2_12, hs2_13, hs2_14, hs2_15, hs2_16, hs2_17, hs2_18, hs2_19⟩, fun j9 h9 => (f2 j9 (by omega)).trans (f1 j9 (by omega))⟩)
set_option maxHeartbeats 1000000 in
theorem ct_X1_carries (l : Launch) {g : gWM} {bb : Nat} {B : gBar} {R : Nat → Int32} {d : Int32} {tp mm um : Nat} {tr fa wh : Int32} (p : Int32) (dy : Int32) (hw : wfB B) (hSo : pSo g (.ref bb) tp tr fa wh mm um) (hLd : pLd g 1010 (.ref bb) B R d) (hBr : pBr g bb B) (hL1 : pLw g 1005 1) (hL2 : pLw g 1006 2) (hb9 : 10000 ≤ bb) : gCt l yX1_carries cX1_carries 7 (some .int) 4 0 0 84 [.ref 1000, .int p, .int dy] g (gPi (sCar B R d p dy).1 (fun g1 => pSo g1 (.ref bb) tp (sCar B R d p dy).2 fa (-1) mm um ∧ ∀ j, j ≠ 1000 → g1 j = g j)) := by
  refine gCt.of RX1 (by decide) rfl (lo := [some (.ref 1000), some (.int p), some (.int dy), none, none, none, none]) 4 rfl (Nat.le_of_ble_eq_true rfl) (fun z E Rt => ?_)
  have hw_n := hw.1
  have hSo_o := hSo
  obtain ⟨hSo_F, hSo_a, hSo_0, hSo_1, hSo_2, hSo_3, hSo_4, hSo_5, hSo_6, hSo_7, hSo_8, hSo_9, hSo_10, hSo_11, hSo_12, hSo_13, hSo_14, hSo_15, hSo_16, hSo_17, hSo_18, hSo_19⟩ := hSo_o
  have hLd_o := hLd
  obtain ⟨⟨hLd_F, hLd_a, hLd_0, hLd_1, hLd_2, hLd_3, hLd_4, hLd_5⟩, ⟨hLd_s, hLd_sa, hLd_sb⟩, ⟨hLd_e, hLd_ea, hLd_eb⟩, hLd_p, hLd_pa, hLd_pb⟩ := hLd_o
  have hBr_o := hBr
  obtain ⟨⟨hBr_F, hBr_a, hBr_0, hBr_1, hBr_2, hBr_3, hBr_4, hBr_5, hBr_6, hBr_7, hBr_8, hBr_9, hBr_10, hBr_11, hBr_12, hBr_13, hBr_14, hBr_15⟩, ⟨hBr_f1, hBr_a1, hBr_b1⟩, ⟨hBr_f2, hBr_a2, hBr_b2⟩, ⟨hBr_f3, hBr_a3, hBr_b3⟩, ⟨hBr_f4, hBr_a4, hBr_b4⟩, ⟨hBr_f5, hBr_a5, hBr_b5⟩, ⟨hBr_f6, hBr_a6, hBr_b6⟩, ⟨hBr_f7, hBr_a7, hBr_b7⟩, hBr_c1, hBr_c2, hBr_c3, hBr_c4, hBr_c5⟩ := hBr_o
  refine g_aload_n E dX1_carries_0 rfl rfl rfl ?_
  refine g_callV (k := 1000) (n9 := 0) (av := []) (st := []) E (ct_X1_anew l hSo) gciX1 dX1_carries_1 hSo_a q496 q498 qs2 q120 q499 (by decide +kernel) rfl rfl ⟨by decide, by decide⟩ ⟨by decide, by decide⟩ (Nat.le_of_ble_eq_true rfl) rfl (gPn.k (fun g1 h1 => ?_))
  obtain ⟨hs1, f1⟩ := h1
  have hs1_o := hs1
  obtain ⟨hs1_F, hs1_a, hs1_0, hs1_1, hs1_2, hs1_3, hs1_4, hs1_5, hs1_6, hs1_7, hs1_8, hs1_9, hs1_10, hs1_11, hs1_12, hs1_13, hs1_14, hs1_15, hs1_16, hs1_17, hs1_18, hs1_19⟩ := hs1_o
  refine g_aload_n E dX1_carries_4 rfl rfl rfl ?_
  refine g_aload_n E dX1_carries_5 rfl rfl rfl ?_
  refine g_iload_n E dX1_carries_6 rfl rfl rfl ?_
  have y2 := (hBr.fr hw (fun j9 a9 b9 => f1 j9 (by omega)))
  refine g_callV (k := 1000) (n9 := 1) (av := [.int p]) (st := [.ref 1000]) E (ct_X1_isPerson l p hw hs1 y2) gciX1 dX1_carries_7 hs1_a q1321 q1323 qs34 q120 q1324 (by decide +kernel) rfl rfl ⟨by decide, by decide⟩ ⟨by decide, by decide⟩ (Nat.le_of_ble_eq_true rfl) rfl (gPu.k ?_)
  refine g_iload_n E dX1_carries_10 rfl rfl rfl ?_
  refine g_callV (k := 1000) (n9 := 2) (av := [.int (zb (qI (B 0 1) p).isSome), .int dy]) (st := []) E (ct_X1_why l ((qI (B 0 1) p).isSome) dy hs1) gciX1 dX1_carries_11 hs1_a q1342 q1344 qs36 q120 q1345 (by decide +kernel) rfl rfl ⟨by decide, by decide⟩ ⟨by decide, by decide⟩ (Nat.le_of_ble_eq_true rfl) rfl (gPu.k ?_)
  refine g_istore_n E dX1_carries_14 rfl (by decide) rfl (lo1 := [some (.ref 1000), some (.int p), some (.int dy), some (.int (qWy ((qI (B 0 1) p).isSome) dy)), none, none, none]) rfl rfl ?_
  refine g_iload_n E dX1_carries_15 rfl rfl rfl ?_
  refine g_if_eq E dX1_carries_16 (tgt := 25) (by decide) rfl (fun c16 => ?_) (fun c16 => ?_)
  · have q3 := (qWy_0.mp c16).1
    have q3_z := (qWy_0.mp c16).2
    obtain ⟨t, q4⟩ := isSome_of q3
    obtain ⟨rfl, q4_l⟩ := qI_some (by omega) q4
    refine g_aload_n E dX1_carries_25 rfl rfl rfl ?_
    refine g_getf E gciX1 dX1_carries_26 hs1_a 9 rfl (by decide) q431 (.inl rfl) (.ref 1010) (hs1_9) rfl ?_
    refine g_iload_n E dX1_carries_29 rfl rfl rfl ?_
    have x5 := (f1 (1010) (by omega)).trans (hLd_a)
    have y6 := (hLd.fr  (fun j9 a9 b9 => f1 j9 (by omega)))
    refine g_callV (k := 1010) (n9 := 1) (av := [.int (nI t)]) (st := []) E (ct_X4_has l t hw y6 y2 (by omega)) gciX4 dX1_carries_30 x5 q1329 q1160 q1161 q126 q1162 (by decide +kernel) rfl rfl ⟨by decide, by decide⟩ ⟨by decide, by decide⟩ (Nat.le_of_ble_eq_true rfl) rfl (gPu.k ?_)
    refine g_istore E dX1_carries_33 (by decide) rfl (lo1 := [some (.ref 1000), some (.int (nI t)), some (.int dy), some (.int (qWy ((qI (B 0 1) (nI t)).isSome) dy)), some (.int (zHas B R t)), none, none]) rfl rfl ?_
    refine g_iconst E (v := 0) dX1_carries_35 (by decide) rfl ?_
    refine g_istore E dX1_carries_36 (by decide) rfl (lo1 := [some (.ref 1000), some (.int (nI t)), some (.int dy), some (.int (qWy ((qI (B 0 1) (nI t)).isSome) dy)), some (.int (zHas B R t)), some (.int 0), none]) rfl rfl ?_
    refine g_iconst E (v := 0) dX1_carries_38 (by decide) rfl ?_
    refine g_istore E dX1_carries_39 (by decide) rfl (lo1 := [some (.ref 1000), some (.int (nI t)), some (.int dy), some (.int (qWy ((qI (B 0 1) (nI t)).isSome) dy)), some (.int (zHas B R t)), some (.int 0), some (.int 0)]) rfl rfl ?_
    have lp41 : ∀ (r9 : Nat) (k : Nat), (k ≤ B 0 3) → (B 0 3 - k < r9) → gV z g1 0 0 41 [some (.ref 1000), some (.int (nI t)), some (.int dy), some (.int (qWy ((qI (B 0 1) (nI t)).isSome) dy)), some (.int (zHas B R t)), some (.int (sumTo (zCar B R (d + dy) t) k)), some (.int (nI k))] [] := by
      intro r9
      induction r9 with
      | zero => intro k hk hm; exact absurd hm (Nat.not_lt_zero _)
      | succ r9 ih41 =>
        intro k hk hm
        refine g_iload E dX1_carries_41 rfl rfl ?_
        refine g_aload_n E dX1_carries_43 rfl rfl rfl ?_
        refine g_getf E gciX1 dX1_carries_44 hs1_a 3 rfl (by decide) q425 (.inl rfl) (.ref bb) (hs1_3) rfl ?_
        have x7 := (f1 (bb) (by omega)).trans (hBr_a)
        refine g_getf E gciX14 dX1_carries_47 x7 12 rfl (by decide) q572 (.inl rfl) (.int (nI (B 0 3))) (hBr_12) rfl ?_
        refine g_icmp_ge E dX1_carries_50 (tgt := 96) (by decide) rfl (fun c50 => ?_) (fun c50 => ?_)
        · have c50 := (nI_leI (a := B 0 3) (b := k) (by omega) (by omega)).mp c50
          obtain rfl : k = B 0 3 := by omega
          refine g_iload E dX1_carries_96 rfl rfl ?_
          have hs8 : sCar B R d (nI t) dy = (sumTo (zCar B R (d + dy) t) (B 0 3), 0) := by first | (simp [sCar, sT, c16, q4, q3_z, c50]; done) | (simp [sCar, sT, c16, q4, q3_z, c50, qWy]; done)
          exact g_iret E Rt dX1_carries_98 rfl (by decide) (by decide) (by rw [hs8]; exact ⟨rfl, ⟨_, hs1_a, hs1_0, hs1_1, hs1_2, hs1_3, hs1_4, hs1_5, hs1_6, hs1_7, hs1_8, hs1_9, hs1_10, hs1_11, hs1_12, hs1_13, hs1_14, hs1_15, hs1_16, hs1_17, hs1_18, hs1_19⟩, fun j9 h9 => f1 j9 (by omega)⟩)
        · have c50 := mt (nI_leI (a := B 0 3) (b := k) (by omega) (by omega)).mpr c50
          refine g_iload E dX1_carries_53 rfl rfl ?_
          refine g_iload E dX1_carries_55 rfl rfl ?_
          refine g_iload E dX1_carries_57 rfl rfl ?_
          refine g_callS (n9 := 2) (av := [.int (zHas B R t), .int (nI k)]) (st := [.int (sumTo (zCar B R (d + dy) t) k)]) E (ct_X1_has l (zHas B R t) k) dX1_carries_59 q1316 q1164 q120 q1165 (by decide +kernel) rfl rfl ⟨by decide, by decide⟩ ⟨by decide, by decide⟩ (Nat.le_of_ble_eq_true rfl) rfl (gPu.k ?_)
          refine g_as (y := zb (zHp B R t k)) (by rw [zBit_has (by omega) (by omega)]) ?_
          refine g_if_eq E dX1_carries_62 (tgt := 86) (by decide) rfl (fun c62 => ?_) (fun c62 => ?_)
          · have c62 := zb_0.mp c62
            refine g_iconst E (v := 0) dX1_carries_86 (by decide) rfl ?_
            refine g_iadd E dX1_carries_87 rfl ?_
            refine g_as (y := sumTo (zCar B R (d + dy) t) (k + 1)) (sumTo_s (by simp [zCar, c62])) ?_
            refine g_istore E dX1_carries_88 (by decide) rfl (lo1 := [some (.ref 1000), some (.int (nI t)), some (.int dy), some (.int (qWy ((qI (B 0 1) (nI t)).isSome) dy)), some (.int (zHas B R t)), some (.int (sumTo (zCar B R (d + dy) t) (k + 1))), some (.int (nI k))]) rfl rfl ?_
            refine g_iinc E dX1_carries_90 rfl (v := nI (k + 1)) (nI_c _) (by decide) rfl (lo1 := [some (.ref 1000), some (.int (nI t)), some (.int dy), some (.int (qWy ((qI (B 0 1) (nI t)).isSome) dy)), some (.int (zHas B R t)), some (.int (sumTo (zCar B R (d + dy) t) (k + 1))), some (.int (nI (k + 1)))]) rfl rfl ?_
            refine g_goto E dX1_carries_93 (tgt := 41) (by decide) ?_
            exact ih41 (k + 1) (by omega) (by omega)
          · have c62 := zb_n0.mp c62
            refine g_aload_n E dX1_carries_65 rfl rfl rfl ?_
            refine g_getf E gciX1 dX1_carries_66 hs1_a 3 rfl (by decide) q425 (.inl rfl) (.ref bb) (hs1_3) rfl ?_
            refine g_getf E gciX14 dX1_carries_69 x7 3 rfl (by decide) q542 (.inl rfl) (.ref (bb + 4)) (hBr_3) rfl ?_
            refine g_iload E dX1_carries_72 rfl rfl ?_
            have x9 := (f1 (bb + 4) (by omega)).trans (hBr_a4)
            refine g_aald E dX1_carries_74 (j := k) x9 (fun _ => rfl) (rfl) (by omega) (by decide) (b := bb + 40 + k) (hBr_b4 k (by omega)) rfl ?_
            have u10 := pBr.good y2 hw (j := k) (by omega)
            have u10_b := wfB.goods hw (j := k) (by omega)
            have o11 := u10
            obtain ⟨⟨o11_F, o11_a, o11_0, o11_1, o11_2, o11_3, o11_4, o11_7⟩, o11_m, o11_k⟩ := o11
            refine g_aload_n E dX1_carries_75 rfl rfl rfl ?_
            refine g_iload_n E dX1_carries_76 rfl rfl rfl ?_
            refine g_callV (k := 1000) (n9 := 1) (av := [.int dy]) (st := [.ref (bb + 40 + k), .int (sumTo (zCar B R (d + dy) t) k)]) E (ct_X1_on l dy hw hs1 y6 y2) gciX1 dX1_carries_77 hs1_a q1346 q1348 qs37 q120 q1349 (by decide +kernel) rfl rfl ⟨by decide, by decide⟩ ⟨by decide, by decide⟩ (Nat.le_of_ble_eq_true rfl) rfl (gPu.k ?_)
            refine v_worthOn_Good E dX1_carries_80 q1355 u10 ⟨by decide, by decide⟩ ⟨by decide, by decide⟩ (Nat.le_of_ble_eq_true rfl) rfl ?_
            refine g_goto E dX1_carries_83 (tgt := 87) (by decide) ?_
            refine g_iadd E dX1_carries_87 rfl ?_
            refine g_as (y := sumTo (zCar B R (d + dy) t) (k + 1)) (sumTo_s (by simp [zCar, c62])) ?_
            refine g_istore E dX1_carries_88 (by decide) rfl (lo1 := [some (.ref 1000), some (.int (nI t)), some (.int dy), some (.int (qWy ((qI (B 0 1) (nI t)).isSome) dy)), some (.int (zHas B R t)), some (.int (sumTo (zCar B R (d + dy) t) (k + 1))), some (.int (nI k))]) rfl rfl ?_
            refine g_iinc E dX1_carries_90 rfl (v := nI (k + 1)) (nI_c _) (by decide) rfl (lo1 := [some (.ref 1000), some (.int (nI t)), some (.int dy), some (.int (qWy ((qI (B 0 1) (nI t)).isSome) dy)), some (.int (zHas B R t)), some (.int (sumTo (zCar B R (d + dy) t) (k + 1))), some (.int (nI (k + 1)))]) rfl rfl ?_
            refine g_goto E dX1_carries_93 (tgt := 41) (by decide) ?_
            exact ih41 (k + 1) (by omega) (by omega)
    exact lp41 ((B 0 3) + 1) 0 (Nat.zero_le _) (Nat.lt_succ_of_le (Nat.sub_le _ _))
  · refine g_aload_n E dX1_carries_19 rfl rfl rfl ?_
    refine g_iload_n E dX1_carries_20 rfl rfl rfl ?_
    refine g_callV (k := 1000) (n9 := 1) (av := [.int (qWy ((qI (B 0 1) p).isSome) dy)]) (st := []) E (ct_X1_no l (qWy ((qI (B 0 1) p).isSome) dy) hs1) gciX1 dX1_carries_21 hs1_a q503 q505 qs3 q120 q506 (by decide +kernel) rfl rfl ⟨by decide, by decide⟩ ⟨by decide, by decide⟩ (Nat.le_of_ble_eq_true rfl) rfl (gPi.k (fun g12 h12 => ?_))
    obtain ⟨hs12, f12⟩ := h12
    have hs12_o := hs12
    obtain ⟨hs12_F, hs12_a, hs12_0, hs12_1, hs12_2, hs12_3, hs12_4, hs12_5, hs12_6, hs12_7, hs12_8, hs12_9, hs12_10, hs12_11, hs12_12, hs12_13, hs12_14, hs12_15, hs12_16, hs12_17, hs12_18, hs12_19⟩ := hs12_o
    have hs13 : sCar B R d p dy = ((-1), qWy ((qI (B 0 1) p).isSome) dy) := by first | (simp [sCar, sT, c16]; done) | (simp [sCar, sT, c16, qWy]; done)
    exact g_iret E Rt dX1_carries_24 rfl (by decide) (by decide) (by rw [hs13]; exact ⟨rfl, ⟨_, hs12_a, hs12_0, hs12_1, hs12_2, hs12_3, hs12_4, hs12_5, hs12_6, hs12_7, hs12_8, hs12_9, hs12_10, hs12_11, hs12_12, hs12_13, hs12_14, hs12_15, hs12_16, hs12_17, hs12_18, hs12_19⟩, fun j9 h9 => (f12 j9 (by omega)).trans (f1 j9 (by omega))⟩)
set_option maxHeartbeats 1000000 in
theorem ct_X1_carries_N (l : Launch) {g : gWM} {tp mm um : Nat} {tr fa wh : Int32} (p : Int32) (dy : Int32) (hSo : pSo g .null tp tr fa wh mm um) : gCt l yX1_carries cX1_carries 7 (some .int) 2 0 0 44 [.ref 1000, .int p, .int dy] g (gPi (sCar zB0 (fun _ => 0) 0 p dy).1 (fun g1 => pSo g1 .null tp (sCar zB0 (fun _ => 0) 0 p dy).2 fa (-1) mm um ∧ ∀ j, j ≠ 1000 → g1 j = g j)) := by
  refine gCt.of RX1 (by decide) rfl (lo := [some (.ref 1000), some (.int p), some (.int dy), none, none, none, none]) 4 rfl (Nat.le_of_ble_eq_true rfl) (fun z E Rt => ?_)
  have hSo_o := hSo
  obtain ⟨hSo_F, hSo_a, hSo_0, hSo_1, hSo_2, hSo_3, hSo_4, hSo_5, hSo_6, hSo_7, hSo_8, hSo_9, hSo_10, hSo_11, hSo_12, hSo_13, hSo_14, hSo_15, hSo_16, hSo_17, hSo_18, hSo_19⟩ := hSo_o
  refine g_aload_n E dX1_carries_0 rfl rfl rfl ?_
  refine g_callV (k := 1000) (n9 := 0) (av := []) (st := []) E (ct_X1_anew l hSo) gciX1 dX1_carries_1 hSo_a q496 q498 qs2 q120 q499 (by decide +kernel) rfl rfl ⟨by decide, by decide⟩ ⟨by decide, by decide⟩ (Nat.le_of_ble_eq_true rfl) rfl (gPn.k (fun g1 h1 => ?_))
  obtain ⟨hs1, f1⟩ := h1
  have hs1_o := hs1
  obtain ⟨hs1_F, hs1_a, hs1_0, hs1_1, hs1_2, hs1_3, hs1_4, hs1_5, hs1_6, hs1_7, hs1_8, hs1_9, hs1_10, hs1_11, hs1_12, hs1_13, hs1_14, hs1_15, hs1_16, hs1_17, hs1_18, hs1_19⟩ := hs1_o
  refine g_aload_n E dX1_carries_4 rfl rfl rfl ?_
  refine g_aload_n E dX1_carries_5 rfl rfl rfl ?_
  refine g_iload_n E dX1_carries_6 rfl rfl rfl ?_
  refine g_callV (k := 1000) (n9 := 1) (av := [.int p]) (st := [.ref 1000]) E (ct_X1_isPerson_N l p hs1) gciX1 dX1_carries_7 hs1_a q1321 q1323 qs34 q120 q1324 (by decide +kernel) rfl rfl ⟨by decide, by decide⟩ ⟨by decide, by decide⟩ (Nat.le_of_ble_eq_true rfl) rfl (gPu.k ?_)
  refine g_iload_n E dX1_carries_10 rfl rfl rfl ?_
  refine g_callV (k := 1000) (n9 := 2) (av := [.int 0, .int dy]) (st := []) E (ct_X1_why l false dy hs1) gciX1 dX1_carries_11 hs1_a q1342 q1344 qs36 q120 q1345 (by decide +kernel) rfl rfl ⟨by decide, by decide⟩ ⟨by decide, by decide⟩ (Nat.le_of_ble_eq_true rfl) rfl (gPu.k ?_)
  refine g_istore_n E dX1_carries_14 rfl (by decide) rfl (lo1 := [some (.ref 1000), some (.int p), some (.int dy), some (.int 1), none, none, none]) rfl rfl ?_
  refine g_iload_n E dX1_carries_15 rfl rfl rfl ?_
  refine g_if_eq E dX1_carries_16 (tgt := 25) (by decide) rfl (fun h9 => absurd h9 (by decide)) (fun _ => ?_)
  refine g_aload_n E dX1_carries_19 rfl rfl rfl ?_
  refine g_iload_n E dX1_carries_20 rfl rfl rfl ?_
  refine g_callV (k := 1000) (n9 := 1) (av := [.int 1]) (st := []) E (ct_X1_no l 1 hs1) gciX1 dX1_carries_21 hs1_a q503 q505 qs3 q120 q506 (by decide +kernel) rfl rfl ⟨by decide, by decide⟩ ⟨by decide, by decide⟩ (Nat.le_of_ble_eq_true rfl) rfl (gPi.k (fun g2 h2 => ?_))
  obtain ⟨hs2, f2⟩ := h2
  have hs2_o := hs2
  obtain ⟨hs2_F, hs2_a, hs2_0, hs2_1, hs2_2, hs2_3, hs2_4, hs2_5, hs2_6, hs2_7, hs2_8, hs2_9, hs2_10, hs2_11, hs2_12, hs2_13, hs2_14, hs2_15, hs2_16, hs2_17, hs2_18, hs2_19⟩ := hs2_o
  have hs3 : sCar zB0 (fun _ => 0) 0 p dy = ((-1), 1) := by first | (simp [sCar, sT, qI_z, qWy]; done) | (simp [sCar, sT, qI_z, qWy, qWy]; done)
  exact g_iret E Rt dX1_carries_24 rfl (by decide) (by decide) (by rw [hs3]; exact ⟨rfl, ⟨_, hs2_a, hs2_0, hs2_1, hs2_2, hs2_3, hs2_4, hs2_5, hs2_6, hs2_7, hs2_8, hs2_9, hs2_10, hs2_11, hs2_12, hs2_13, hs2_14, hs2_15, hs2_16, hs2_17, hs2_18, hs2_19⟩, fun j9 h9 => (f2 j9 (by omega)).trans (f1 j9 (by omega))⟩)
set_option maxHeartbeats 1000000 in
theorem ct_X1_dutyBy (l : Launch) {g : gWM} {bb : Nat} {B : gBar} {R : Nat → Int32} {d : Int32} {tp mm um : Nat} {tr fa wh : Int32} (p : Int32) (dy : Int32) (hw : wfB B) (hSo : pSo g (.ref bb) tp tr fa wh mm um) (hLd : pLd g 1010 (.ref bb) B R d) (hBr : pBr g bb B) (hL1 : pLw g 1005 1) (hL2 : pLw g 1006 2) (hb9 : 10000 ≤ bb) : gCt l yX1_dutyBy cX1_dutyBy 6 (some .int) 3 0 0 64 [.ref 1000, .int p, .int dy] g (gPi (sDby B R d p dy).1 (fun g1 => pSo g1 (.ref bb) tp (sDby B R d p dy).2 fa (-1) mm um ∧ ∀ j, j ≠ 1000 → g1 j = g j)) := by
  refine gCt.of RX1 (by decide) rfl (lo := [some (.ref 1000), some (.int p), some (.int dy), none, none, none]) 3 rfl (Nat.le_of_ble_eq_true rfl) (fun z E Rt => ?_)
  have hw_n := hw.1
  have hSo_o := hSo
  obtain ⟨hSo_F, hSo_a, hSo_0, hSo_1, hSo_2, hSo_3, hSo_4, hSo_5, hSo_6, hSo_7, hSo_8, hSo_9, hSo_10, hSo_11, hSo_12, hSo_13, hSo_14, hSo_15, hSo_16, hSo_17, hSo_18, hSo_19⟩ := hSo_o
  have hLd_o := hLd
  obtain ⟨⟨hLd_F, hLd_a, hLd_0, hLd_1, hLd_2, hLd_3, hLd_4, hLd_5⟩, ⟨hLd_s, hLd_sa, hLd_sb⟩, ⟨hLd_e, hLd_ea, hLd_eb⟩, hLd_p, hLd_pa, hLd_pb⟩ := hLd_o
  have hBr_o := hBr
  obtain ⟨⟨hBr_F, hBr_a, hBr_0, hBr_1, hBr_2, hBr_3, hBr_4, hBr_5, hBr_6, hBr_7, hBr_8, hBr_9, hBr_10, hBr_11, hBr_12, hBr_13, hBr_14, hBr_15⟩, ⟨hBr_f1, hBr_a1, hBr_b1⟩, ⟨hBr_f2, hBr_a2, hBr_b2⟩, ⟨hBr_f3, hBr_a3, hBr_b3⟩, ⟨hBr_f4, hBr_a4, hBr_b4⟩, ⟨hBr_f5, hBr_a5, hBr_b5⟩, ⟨hBr_f6, hBr_a6, hBr_b6⟩, ⟨hBr_f7, hBr_a7, hBr_b7⟩, hBr_c1, hBr_c2, hBr_c3, hBr_c4, hBr_c5⟩ := hBr_o
  refine g_aload_n E dX1_dutyBy_0 rfl rfl rfl ?_
  refine g_callV (k := 1000) (n9 := 0) (av := []) (st := []) E (ct_X1_anew l hSo) gciX1 dX1_dutyBy_1 hSo_a q496 q498 qs2 q120 q499 (by decide +kernel) rfl rfl ⟨by decide, by decide⟩ ⟨by decide, by decide⟩ (Nat.le_of_ble_eq_true rfl) rfl (gPn.k (fun g1 h1 => ?_))
  obtain ⟨hs1, f1⟩ := h1
  have hs1_o := hs1
  obtain ⟨hs1_F, hs1_a, hs1_0, hs1_1, hs1_2, hs1_3, hs1_4, hs1_5, hs1_6, hs1_7, hs1_8, hs1_9, hs1_10, hs1_11, hs1_12, hs1_13, hs1_14, hs1_15, hs1_16, hs1_17, hs1_18, hs1_19⟩ := hs1_o
  refine g_aload_n E dX1_dutyBy_4 rfl rfl rfl ?_
  refine g_aload_n E dX1_dutyBy_5 rfl rfl rfl ?_
  refine g_getf E gciX1 dX1_dutyBy_6 hs1_a 3 rfl (by decide) q425 (.inl rfl) (.ref bb) (hs1_3) rfl ?_
  refine g_ifnullN E dX1_dutyBy_9 rfl ?_
  refine g_iload_n E dX1_dutyBy_12 rfl rfl rfl ?_
  refine g_iconst E (v := 0) dX1_dutyBy_13 (by decide) rfl ?_
  refine g_aload_n E dX1_dutyBy_14 rfl rfl rfl ?_
  refine g_getf E gciX1 dX1_dutyBy_15 hs1_a 3 rfl (by decide) q425 (.inl rfl) (.ref bb) (hs1_3) rfl ?_
  have x2 := (f1 (bb) (by omega)).trans (hBr_a)
  refine g_getf E gciX14 dX1_dutyBy_18 x2 9 rfl (by decide) q559 (.inl rfl) (.int (nI (B 0 0))) (hBr_9) rfl ?_
  refine g_iconst E (v := 1) dX1_dutyBy_21 (by decide) rfl ?_
  refine g_isub E dX1_dutyBy_22 rfl ?_
  refine g_callS (n9 := 3) (av := [.int p, .int 0, .int ((nI (B 0 0)) - 1)]) (st := [.ref 1000]) E (ct_X1_in l p 0 ((nI (B 0 0)) - 1)) dX1_dutyBy_23 q500 q501 q120 q502 (by decide +kernel) rfl rfl ⟨by decide, by decide⟩ ⟨by decide, by decide⟩ (Nat.le_of_ble_eq_true rfl) rfl (gPu.k ?_)
  refine g_as (y := zb (qI (B 0 0) p).isSome) (by rw [qI_in]) ?_
  refine g_if_eq E dX1_dutyBy_26 (tgt := 33) (by decide) rfl (fun c26 => ?_) (fun c26 => ?_)
  · have c26 := zb_0.mp c26
    have q3 := isNone_of c26
    refine g_iconst E (v := 0) dX1_dutyBy_33 (by decide) rfl ?_
    refine g_iload_n E dX1_dutyBy_34 rfl rfl rfl ?_
    refine g_callV (k := 1000) (n9 := 2) (av := [.int 0, .int dy]) (st := []) E (ct_X1_why l false dy hs1) gciX1 dX1_dutyBy_35 hs1_a q1342 q1344 qs36 q120 q1345 (by decide +kernel) rfl rfl ⟨by decide, by decide⟩ ⟨by decide, by decide⟩ (Nat.le_of_ble_eq_true rfl) rfl (gPu.k ?_)
    refine g_istore_n E dX1_dutyBy_38 rfl (by decide) rfl (lo1 := [some (.ref 1000), some (.int p), some (.int dy), some (.int 1), none, none]) rfl rfl ?_
    refine g_iload_n E dX1_dutyBy_39 rfl rfl rfl ?_
    refine g_if_eq E dX1_dutyBy_40 (tgt := 49) (by decide) rfl (fun h9 => absurd h9 (by decide)) (fun _ => ?_)
    refine g_aload_n E dX1_dutyBy_43 rfl rfl rfl ?_
    refine g_iload_n E dX1_dutyBy_44 rfl rfl rfl ?_
    refine g_callV (k := 1000) (n9 := 1) (av := [.int 1]) (st := []) E (ct_X1_no l 1 hs1) gciX1 dX1_dutyBy_45 hs1_a q503 q505 qs3 q120 q506 (by decide +kernel) rfl rfl ⟨by decide, by decide⟩ ⟨by decide, by decide⟩ (Nat.le_of_ble_eq_true rfl) rfl (gPi.k (fun g4 h4 => ?_))
    obtain ⟨hs4, f4⟩ := h4
    have hs4_o := hs4
    obtain ⟨hs4_F, hs4_a, hs4_0, hs4_1, hs4_2, hs4_3, hs4_4, hs4_5, hs4_6, hs4_7, hs4_8, hs4_9, hs4_10, hs4_11, hs4_12, hs4_13, hs4_14, hs4_15, hs4_16, hs4_17, hs4_18, hs4_19⟩ := hs4_o
    have hs5 : sDby B R d p dy = ((-1), 1) := by first | (simp [sDby, c26, q3]; done) | (simp [sDby, c26, q3, qWy]; done)
    exact g_iret E Rt dX1_dutyBy_48 rfl (by decide) (by decide) (by rw [hs5]; exact ⟨rfl, ⟨_, hs4_a, hs4_0, hs4_1, hs4_2, hs4_3, hs4_4, hs4_5, hs4_6, hs4_7, hs4_8, hs4_9, hs4_10, hs4_11, hs4_12, hs4_13, hs4_14, hs4_15, hs4_16, hs4_17, hs4_18, hs4_19⟩, fun j9 h9 => (f4 j9 (by omega)).trans (f1 j9 (by omega))⟩)
  · have c26 := zb_n0.mp c26
    obtain ⟨i9, q6⟩ := isSome_of c26
    obtain ⟨rfl, q6_l⟩ := qI_some (by omega) q6
    refine g_iconst E (v := 1) dX1_dutyBy_29 (by decide) rfl ?_
    refine g_goto E dX1_dutyBy_30 (tgt := 34) (by decide) ?_
    refine g_iload_n E dX1_dutyBy_34 rfl rfl rfl ?_
    refine g_callV (k := 1000) (n9 := 2) (av := [.int 1, .int dy]) (st := []) E (ct_X1_why l true dy hs1) gciX1 dX1_dutyBy_35 hs1_a q1342 q1344 qs36 q120 q1345 (by decide +kernel) rfl rfl ⟨by decide, by decide⟩ ⟨by decide, by decide⟩ (Nat.le_of_ble_eq_true rfl) rfl (gPu.k ?_)
    refine g_istore_n E dX1_dutyBy_38 rfl (by decide) rfl (lo1 := [some (.ref 1000), some (.int (nI i9)), some (.int dy), some (.int (qWy true dy)), none, none]) rfl rfl ?_
    refine g_iload_n E dX1_dutyBy_39 rfl rfl rfl ?_
    refine g_if_eq E dX1_dutyBy_40 (tgt := 49) (by decide) rfl (fun c40 => ?_) (fun c40 => ?_)
    · have q7 := (qWy_0.mp c40).1
      have q7_z := (qWy_0.mp c40).2
      refine g_iconst E (v := 0) dX1_dutyBy_49 (by decide) rfl ?_
      refine g_istore E dX1_dutyBy_50 (by decide) rfl (lo1 := [some (.ref 1000), some (.int (nI i9)), some (.int dy), some (.int (qWy true dy)), some (.int 0), none]) rfl rfl ?_
      refine g_iconst E (v := 0) dX1_dutyBy_52 (by decide) rfl ?_
      refine g_istore E dX1_dutyBy_53 (by decide) rfl (lo1 := [some (.ref 1000), some (.int (nI i9)), some (.int dy), some (.int (qWy true dy)), some (.int 0), some (.int 0)]) rfl rfl ?_
      have lp55 : ∀ (r9 : Nat) (k : Nat), (k ≤ B 0 3) → (B 0 3 - k < r9) → gV z g1 0 0 55 [some (.ref 1000), some (.int (nI i9)), some (.int dy), some (.int (qWy true dy)), some (.int (sumTo (zDb B R (d + dy) i9) k)), some (.int (nI k))] [] := by
        intro r9
        induction r9 with
        | zero => intro k hk hm; exact absurd hm (Nat.not_lt_zero _)
        | succ r9 ih55 =>
          intro k hk hm
          refine g_iload E dX1_dutyBy_55 rfl rfl ?_
          refine g_aload_n E dX1_dutyBy_57 rfl rfl rfl ?_
          refine g_getf E gciX1 dX1_dutyBy_58 hs1_a 3 rfl (by decide) q425 (.inl rfl) (.ref bb) (hs1_3) rfl ?_
          refine g_getf E gciX14 dX1_dutyBy_61 x2 12 rfl (by decide) q572 (.inl rfl) (.int (nI (B 0 3))) (hBr_12) rfl ?_
          refine g_icmp_ge E dX1_dutyBy_64 (tgt := 142) (by decide) rfl (fun c64 => ?_) (fun c64 => ?_)
          · have c64 := (nI_leI (a := B 0 3) (b := k) (by omega) (by omega)).mp c64
            obtain rfl : k = B 0 3 := by omega
            refine g_iload E dX1_dutyBy_142 rfl rfl ?_
            have hs8 : sDby B R d (nI i9) dy = (sumTo (zDb B R (d + dy) i9) (B 0 3), 0) := by first | (simp [sDby, c26, q6, c40, q7_z, c64]; done) | (simp [sDby, c26, q6, c40, q7_z, c64, qWy]; done)
            exact g_iret E Rt dX1_dutyBy_144 rfl (by decide) (by decide) (by rw [hs8]; exact ⟨rfl, ⟨_, hs1_a, hs1_0, hs1_1, hs1_2, hs1_3, hs1_4, hs1_5, hs1_6, hs1_7, hs1_8, hs1_9, hs1_10, hs1_11, hs1_12, hs1_13, hs1_14, hs1_15, hs1_16, hs1_17, hs1_18, hs1_19⟩, fun j9 h9 => f1 j9 (by omega)⟩)
          · have c64 := mt (nI_leI (a := B 0 3) (b := k) (by omega) (by omega)).mpr c64
            refine g_iload E dX1_dutyBy_67 rfl rfl ?_
            refine g_aload_n E dX1_dutyBy_69 rfl rfl rfl ?_
            refine g_getf E gciX1 dX1_dutyBy_70 hs1_a 9 rfl (by decide) q431 (.inl rfl) (.ref 1010) (hs1_9) rfl ?_
            have x9 := (f1 (1010) (by omega)).trans (hLd_a)
            refine g_getf E gciX4 dX1_dutyBy_73 x9 0 rfl (by decide) q286 (.inl rfl) (.ref 1011) (hLd_0) rfl ?_
            refine g_iload E dX1_dutyBy_76 rfl rfl ?_
            have x10 := (f1 (1011) (by omega)).trans (hLd_sa)
            refine g_iald E dX1_dutyBy_78 (j := k) x10 (rfl) (by omega) (by decide) (v := R k) (hLd_sb k (by omega)) rfl ?_
            refine g_if_ne E dX1_dutyBy_79 (tgt := 132) (by decide) rfl (fun c79 => ?_) (fun c79 => ?_)
            · refine g_iconst E (v := 0) dX1_dutyBy_132 (by decide) rfl ?_
              refine g_iadd E dX1_dutyBy_133 rfl ?_
              refine g_as (y := sumTo (zDb B R (d + dy) i9) (k + 1)) (sumTo_s (by simp [zDb, c79])) ?_
              refine g_istore E dX1_dutyBy_134 (by decide) rfl (lo1 := [some (.ref 1000), some (.int (nI i9)), some (.int dy), some (.int (qWy true dy)), some (.int (sumTo (zDb B R (d + dy) i9) (k + 1))), some (.int (nI k))]) rfl rfl ?_
              refine g_iinc E dX1_dutyBy_136 rfl (v := nI (k + 1)) (nI_c _) (by decide) rfl (lo1 := [some (.ref 1000), some (.int (nI i9)), some (.int dy), some (.int (qWy true dy)), some (.int (sumTo (zDb B R (d + dy) i9) (k + 1))), some (.int (nI (k + 1)))]) rfl rfl ?_
              refine g_goto E dX1_dutyBy_139 (tgt := 55) (by decide) ?_
              exact ih55 (k + 1) (by omega) (by omega)
            · refine g_aload_n E dX1_dutyBy_82 rfl rfl rfl ?_
              refine g_getf E gciX1 dX1_dutyBy_83 hs1_a 3 rfl (by decide) q425 (.inl rfl) (.ref bb) (hs1_3) rfl ?_
              refine g_getf E gciX14 dX1_dutyBy_86 x2 3 rfl (by decide) q542 (.inl rfl) (.ref (bb + 4)) (hBr_3) rfl ?_
              refine g_iload E dX1_dutyBy_89 rfl rfl ?_
              have x11 := (f1 (bb + 4) (by omega)).trans (hBr_a4)
              refine g_aald E dX1_dutyBy_91 (j := k) x11 (fun _ => rfl) (rfl) (by omega) (by decide) (b := bb + 40 + k) (hBr_b4 k (by omega)) rfl ?_
              have y12 := (hBr.fr hw (fun j9 a9 b9 => f1 j9 (by omega)))
              have u13 := pBr.good y12 hw (j := k) (by omega)
              have u13_b := wfB.goods hw (j := k) (by omega)
              have o14 := u13
              obtain ⟨⟨o14_F, o14_a, o14_0, o14_1, o14_2, o14_3, o14_4, o14_7⟩, o14_m, o14_k⟩ := o14
              by_cases k92 : B 12 k = 0
              · refine v_means0_Good E dX1_dutyBy_92 q1305 u13 k92 ⟨by decide, by decide⟩ ⟨by decide, by decide⟩ (Nat.le_of_ble_eq_true rfl) rfl ?_
                refine g_aload_n E dX1_dutyBy_95 rfl rfl rfl ?_
                refine g_getf E gciX1 dX1_dutyBy_96 hs1_a 3 rfl (by decide) q425 (.inl rfl) (.ref bb) (hs1_3) rfl ?_
                refine g_getf E gciX14 dX1_dutyBy_99 x2 0 rfl (by decide) q529 (.inl rfl) (.ref (bb + 1)) (hBr_0) rfl ?_
                refine g_iload_n E dX1_dutyBy_102 rfl rfl rfl ?_
                have x15 := (f1 (bb + 1) (by omega)).trans (hBr_a1)
                refine g_aald E dX1_dutyBy_103 (j := i9) x15 (fun _ => rfl) (rfl) (by omega) (by decide) (b := bb + 10 + i9) (hBr_b1 i9 (by omega)) rfl ?_
                obtain ⟨m16_F, m16_a, m16_1, m16_2, m16_3, m16_4, m16_5, m16_6, m16_7⟩ := pBr.means y12 i9 (by omega)
                refine g_acmp_neN E dX1_dutyBy_104 (tgt := 132) (by decide) ?_
                refine g_iconst E (v := 0) dX1_dutyBy_132 (by decide) rfl ?_
                refine g_iadd E dX1_dutyBy_133 rfl ?_
                refine g_as (y := sumTo (zDb B R (d + dy) i9) (k + 1)) (sumTo_s (by simp [zDb, c79, k92])) ?_
                refine g_istore E dX1_dutyBy_134 (by decide) rfl (lo1 := [some (.ref 1000), some (.int (nI i9)), some (.int dy), some (.int (qWy true dy)), some (.int (sumTo (zDb B R (d + dy) i9) (k + 1))), some (.int (nI k))]) rfl rfl ?_
                refine g_iinc E dX1_dutyBy_136 rfl (v := nI (k + 1)) (nI_c _) (by decide) rfl (lo1 := [some (.ref 1000), some (.int (nI i9)), some (.int dy), some (.int (qWy true dy)), some (.int (sumTo (zDb B R (d + dy) i9) (k + 1))), some (.int (nI (k + 1)))]) rfl rfl ?_
                refine g_goto E dX1_dutyBy_139 (tgt := 55) (by decide) ?_
                exact ih55 (k + 1) (by omega) (by omega)
              · have o17 := u13
                obtain ⟨⟨o17_F, o17_a, o17_0, o17_1, o17_2, o17_3, o17_4, o17_7⟩, o17_m, o17_k⟩ := o17
                obtain ⟨m18_F, m18_a, m18_1, m18_2, m18_3, m18_4, m18_5, m18_6, m18_7⟩ := o17_m k92
                refine v_meansK_Good E dX1_dutyBy_92 q1305 u13 k92 ⟨by decide, by decide⟩ ⟨by decide, by decide⟩ (Nat.le_of_ble_eq_true rfl) rfl ?_
                refine g_aload_n E dX1_dutyBy_95 rfl rfl rfl ?_
                refine g_getf E gciX1 dX1_dutyBy_96 hs1_a 3 rfl (by decide) q425 (.inl rfl) (.ref bb) (hs1_3) rfl ?_
                refine g_getf E gciX14 dX1_dutyBy_99 x2 0 rfl (by decide) q529 (.inl rfl) (.ref (bb + 1)) (hBr_0) rfl ?_
                refine g_iload_n E dX1_dutyBy_102 rfl rfl rfl ?_
                have x19 := (f1 (bb + 1) (by omega)).trans (hBr_a1)
                refine g_aald E dX1_dutyBy_103 (j := i9) x19 (fun _ => rfl) (rfl) (by omega) (by decide) (b := bb + 10 + i9) (hBr_b1 i9 (by omega)) rfl ?_
                obtain ⟨m20_F, m20_a, m20_1, m20_2, m20_3, m20_4, m20_5, m20_6, m20_7⟩ := pBr.means y12 i9 (by omega)
                refine g_acmp_ne E dX1_dutyBy_104 (tgt := 132) (by decide) (by rw [m18_a]; exact (fun h9 => by cases h9)) (by rw [m20_a]; exact (fun h9 => by cases h9)) rfl (fun c104 => ?_) (fun c104 => ?_)
                · have c104 : ¬ B 13 k = i9 := by omega
                  refine g_iconst E (v := 0) dX1_dutyBy_132 (by decide) rfl ?_
                  refine g_iadd E dX1_dutyBy_133 rfl ?_
                  refine g_as (y := sumTo (zDb B R (d + dy) i9) (k + 1)) (sumTo_s (by simp [zDb, c79, k92, c104])) ?_
                  refine g_istore E dX1_dutyBy_134 (by decide) rfl (lo1 := [some (.ref 1000), some (.int (nI i9)), some (.int dy), some (.int (qWy true dy)), some (.int (sumTo (zDb B R (d + dy) i9) (k + 1))), some (.int (nI k))]) rfl rfl ?_
                  refine g_iinc E dX1_dutyBy_136 rfl (v := nI (k + 1)) (nI_c _) (by decide) rfl (lo1 := [some (.ref 1000), some (.int (nI i9)), some (.int dy), some (.int (qWy true dy)), some (.int (sumTo (zDb B R (d + dy) i9) (k + 1))), some (.int (nI (k + 1)))]) rfl rfl ?_
                  refine g_goto E dX1_dutyBy_139 (tgt := 55) (by decide) ?_
                  exact ih55 (k + 1) (by omega) (by omega)
                · have c104 : B 13 k = i9 := by omega
                  refine g_aload_n E dX1_dutyBy_107 rfl rfl rfl ?_
                  refine g_getf E gciX1 dX1_dutyBy_108 hs1_a 3 rfl (by decide) q425 (.inl rfl) (.ref bb) (hs1_3) rfl ?_
                  refine g_getf E gciX14 dX1_dutyBy_111 x2 3 rfl (by decide) q542 (.inl rfl) (.ref (bb + 4)) (hBr_3) rfl ?_
                  refine g_iload E dX1_dutyBy_114 rfl rfl ?_
                  refine g_aald E dX1_dutyBy_116 (j := k) x11 (fun _ => rfl) (rfl) (by omega) (by decide) (b := bb + 40 + k) (hBr_b4 k (by omega)) rfl ?_
                  have u21 := pBr.good y12 hw (j := k) (by omega)
                  have u21_b := wfB.goods hw (j := k) (by omega)
                  have o22 := u21
                  obtain ⟨⟨o22_F, o22_a, o22_0, o22_1, o22_2, o22_3, o22_4, o22_7⟩, o22_m, o22_k⟩ := o22
                  refine g_aload_n E dX1_dutyBy_117 rfl rfl rfl ?_
                  refine g_iload_n E dX1_dutyBy_118 rfl rfl rfl ?_
                  have y23 := (hLd.fr  (fun j9 a9 b9 => f1 j9 (by omega)))
                  refine g_callV (k := 1000) (n9 := 1) (av := [.int dy]) (st := [.ref (bb + 40 + k), .int (sumTo (zDb B R (d + dy) i9) k)]) E (ct_X1_on l dy hw hs1 y23 y12) gciX1 dX1_dutyBy_119 hs1_a q1346 q1348 qs37 q120 q1349 (by decide +kernel) rfl rfl ⟨by decide, by decide⟩ ⟨by decide, by decide⟩ (Nat.le_of_ble_eq_true rfl) rfl (gPu.k ?_)
                  refine g_aload_n E dX1_dutyBy_122 rfl rfl rfl ?_
                  refine g_getf E gciX1 dX1_dutyBy_123 hs1_a 11 rfl (by decide) q433 (.inl rfl) (.ref 1005) (hs1_11) rfl ?_
                  have y24 := (hL1.fr  (fun j9 a9 b9 => f1 j9 (by omega)))
                  refine v_duty_Good E dX1_dutyBy_126 q1381 u21 y24 ⟨by decide, by decide⟩ ⟨by decide, by decide⟩ (Nat.le_of_ble_eq_true rfl) rfl ?_
                  refine g_goto E dX1_dutyBy_129 (tgt := 133) (by decide) ?_
                  refine g_iadd E dX1_dutyBy_133 rfl ?_
                  refine g_as (y := sumTo (zDb B R (d + dy) i9) (k + 1)) (sumTo_s (by simp [zDb, c79, k92, c104])) ?_
                  refine g_istore E dX1_dutyBy_134 (by decide) rfl (lo1 := [some (.ref 1000), some (.int (nI i9)), some (.int dy), some (.int (qWy true dy)), some (.int (sumTo (zDb B R (d + dy) i9) (k + 1))), some (.int (nI k))]) rfl rfl ?_
                  refine g_iinc E dX1_dutyBy_136 rfl (v := nI (k + 1)) (nI_c _) (by decide) rfl (lo1 := [some (.ref 1000), some (.int (nI i9)), some (.int dy), some (.int (qWy true dy)), some (.int (sumTo (zDb B R (d + dy) i9) (k + 1))), some (.int (nI (k + 1)))]) rfl rfl ?_
                  refine g_goto E dX1_dutyBy_139 (tgt := 55) (by decide) ?_
                  exact ih55 (k + 1) (by omega) (by omega)
      exact lp55 ((B 0 3) + 1) 0 (Nat.zero_le _) (Nat.lt_succ_of_le (Nat.sub_le _ _))
    · refine g_aload_n E dX1_dutyBy_43 rfl rfl rfl ?_
      refine g_iload_n E dX1_dutyBy_44 rfl rfl rfl ?_
      refine g_callV (k := 1000) (n9 := 1) (av := [.int (qWy true dy)]) (st := []) E (ct_X1_no l (qWy true dy) hs1) gciX1 dX1_dutyBy_45 hs1_a q503 q505 qs3 q120 q506 (by decide +kernel) rfl rfl ⟨by decide, by decide⟩ ⟨by decide, by decide⟩ (Nat.le_of_ble_eq_true rfl) rfl (gPi.k (fun g25 h25 => ?_))
      obtain ⟨hs25, f25⟩ := h25
      have hs25_o := hs25
      obtain ⟨hs25_F, hs25_a, hs25_0, hs25_1, hs25_2, hs25_3, hs25_4, hs25_5, hs25_6, hs25_7, hs25_8, hs25_9, hs25_10, hs25_11, hs25_12, hs25_13, hs25_14, hs25_15, hs25_16, hs25_17, hs25_18, hs25_19⟩ := hs25_o
      have hs26 : sDby B R d (nI i9) dy = ((-1), qWy true dy) := by first | (simp [sDby, c26, q6, c40]; done) | (simp [sDby, c26, q6, c40, qWy]; done)
      exact g_iret E Rt dX1_dutyBy_48 rfl (by decide) (by decide) (by rw [hs26]; exact ⟨rfl, ⟨_, hs25_a, hs25_0, hs25_1, hs25_2, hs25_3, hs25_4, hs25_5, hs25_6, hs25_7, hs25_8, hs25_9, hs25_10, hs25_11, hs25_12, hs25_13, hs25_14, hs25_15, hs25_16, hs25_17, hs25_18, hs25_19⟩, fun j9 h9 => (f25 j9 (by omega)).trans (f1 j9 (by omega))⟩)
set_option maxHeartbeats 1000000 in
theorem ct_X1_dutyBy_N (l : Launch) {g : gWM} {tp mm um : Nat} {tr fa wh : Int32} (p : Int32) (dy : Int32) (hSo : pSo g .null tp tr fa wh mm um) : gCt l yX1_dutyBy cX1_dutyBy 6 (some .int) 2 0 0 44 [.ref 1000, .int p, .int dy] g (gPi (sDby zB0 (fun _ => 0) 0 p dy).1 (fun g1 => pSo g1 .null tp (sDby zB0 (fun _ => 0) 0 p dy).2 fa (-1) mm um ∧ ∀ j, j ≠ 1000 → g1 j = g j)) := by
  refine gCt.of RX1 (by decide) rfl (lo := [some (.ref 1000), some (.int p), some (.int dy), none, none, none]) 3 rfl (Nat.le_of_ble_eq_true rfl) (fun z E Rt => ?_)
  have hSo_o := hSo
  obtain ⟨hSo_F, hSo_a, hSo_0, hSo_1, hSo_2, hSo_3, hSo_4, hSo_5, hSo_6, hSo_7, hSo_8, hSo_9, hSo_10, hSo_11, hSo_12, hSo_13, hSo_14, hSo_15, hSo_16, hSo_17, hSo_18, hSo_19⟩ := hSo_o
  refine g_aload_n E dX1_dutyBy_0 rfl rfl rfl ?_
  refine g_callV (k := 1000) (n9 := 0) (av := []) (st := []) E (ct_X1_anew l hSo) gciX1 dX1_dutyBy_1 hSo_a q496 q498 qs2 q120 q499 (by decide +kernel) rfl rfl ⟨by decide, by decide⟩ ⟨by decide, by decide⟩ (Nat.le_of_ble_eq_true rfl) rfl (gPn.k (fun g1 h1 => ?_))
  obtain ⟨hs1, f1⟩ := h1
  have hs1_o := hs1
  obtain ⟨hs1_F, hs1_a, hs1_0, hs1_1, hs1_2, hs1_3, hs1_4, hs1_5, hs1_6, hs1_7, hs1_8, hs1_9, hs1_10, hs1_11, hs1_12, hs1_13, hs1_14, hs1_15, hs1_16, hs1_17, hs1_18, hs1_19⟩ := hs1_o
  refine g_aload_n E dX1_dutyBy_4 rfl rfl rfl ?_
  refine g_aload_n E dX1_dutyBy_5 rfl rfl rfl ?_
  refine g_getf E gciX1 dX1_dutyBy_6 hs1_a 3 rfl (by decide) q425 (.inl rfl) (.null) (hs1_3) rfl ?_
  refine g_ifnullY E dX1_dutyBy_9 (tgt := 33) (by decide) ?_
  refine g_iconst E (v := 0) dX1_dutyBy_33 (by decide) rfl ?_
  refine g_iload_n E dX1_dutyBy_34 rfl rfl rfl ?_
  refine g_callV (k := 1000) (n9 := 2) (av := [.int 0, .int dy]) (st := []) E (ct_X1_why l false dy hs1) gciX1 dX1_dutyBy_35 hs1_a q1342 q1344 qs36 q120 q1345 (by decide +kernel) rfl rfl ⟨by decide, by decide⟩ ⟨by decide, by decide⟩ (Nat.le_of_ble_eq_true rfl) rfl (gPu.k ?_)
  refine g_istore_n E dX1_dutyBy_38 rfl (by decide) rfl (lo1 := [some (.ref 1000), some (.int p), some (.int dy), some (.int 1), none, none]) rfl rfl ?_
  refine g_iload_n E dX1_dutyBy_39 rfl rfl rfl ?_
  refine g_if_eq E dX1_dutyBy_40 (tgt := 49) (by decide) rfl (fun h9 => absurd h9 (by decide)) (fun _ => ?_)
  refine g_aload_n E dX1_dutyBy_43 rfl rfl rfl ?_
  refine g_iload_n E dX1_dutyBy_44 rfl rfl rfl ?_
  refine g_callV (k := 1000) (n9 := 1) (av := [.int 1]) (st := []) E (ct_X1_no l 1 hs1) gciX1 dX1_dutyBy_45 hs1_a q503 q505 qs3 q120 q506 (by decide +kernel) rfl rfl ⟨by decide, by decide⟩ ⟨by decide, by decide⟩ (Nat.le_of_ble_eq_true rfl) rfl (gPi.k (fun g2 h2 => ?_))
  obtain ⟨hs2, f2⟩ := h2
  have hs2_o := hs2
  obtain ⟨hs2_F, hs2_a, hs2_0, hs2_1, hs2_2, hs2_3, hs2_4, hs2_5, hs2_6, hs2_7, hs2_8, hs2_9, hs2_10, hs2_11, hs2_12, hs2_13, hs2_14, hs2_15, hs2_16, hs2_17, hs2_18, hs2_19⟩ := hs2_o
  have hs3 : sDby zB0 (fun _ => 0) 0 p dy = ((-1), 1) := by first | (simp [sDby, qI_z, qWy]; done) | (simp [sDby, qI_z, qWy, qWy]; done)
  exact g_iret E Rt dX1_dutyBy_48 rfl (by decide) (by decide) (by rw [hs3]; exact ⟨rfl, ⟨_, hs2_a, hs2_0, hs2_1, hs2_2, hs2_3, hs2_4, hs2_5, hs2_6, hs2_7, hs2_8, hs2_9, hs2_10, hs2_11, hs2_12, hs2_13, hs2_14, hs2_15, hs2_16, hs2_17, hs2_18, hs2_19⟩, fun j9 h9 => (f2 j9 (by omega)).trans (f1 j9 (by omega))⟩)
set_option maxHeartbeats 1000000 in
theorem ct_X1_bestGate (l : Launch) {g : gWM} {bb : Nat} {B : gBar} {R : Nat → Int32} {d : Int32} {tp mm um : Nat} {tr fa wh : Int32} (p : Int32) (dy : Int32) (hw : wfB B) (hSo : pSo g (.ref bb) tp tr fa wh mm um) (hLd : pLd g 1010 (.ref bb) B R d) (hBr : pBr g bb B) (hL1 : pLw g 1005 1) (hL2 : pLw g 1006 2) (hb9 : 10000 ≤ bb) : gCt l yX1_bestGate cX1_bestGate 6 (some .int) 6 0 0 139 [.ref 1000, .int p, .int dy] g (gPi (sBga B R d p dy).1 (fun g1 => pSo g1 (.ref bb) tp (sBga B R d p dy).2 fa (-1) mm um ∧ ∀ j, j ≠ 1000 → g1 j = g j)) := by
  refine gCt.of RX1 (by decide) rfl (lo := [some (.ref 1000), some (.int p), some (.int dy), none, none, none]) 3 rfl (Nat.le_of_ble_eq_true rfl) (fun z E Rt => ?_)
  have hw_n := hw.1
  have hSo_o := hSo
  obtain ⟨hSo_F, hSo_a, hSo_0, hSo_1, hSo_2, hSo_3, hSo_4, hSo_5, hSo_6, hSo_7, hSo_8, hSo_9, hSo_10, hSo_11, hSo_12, hSo_13, hSo_14, hSo_15, hSo_16, hSo_17, hSo_18, hSo_19⟩ := hSo_o
  have hLd_o := hLd
  obtain ⟨⟨hLd_F, hLd_a, hLd_0, hLd_1, hLd_2, hLd_3, hLd_4, hLd_5⟩, ⟨hLd_s, hLd_sa, hLd_sb⟩, ⟨hLd_e, hLd_ea, hLd_eb⟩, hLd_p, hLd_pa, hLd_pb⟩ := hLd_o
  have hBr_o := hBr
  obtain ⟨⟨hBr_F, hBr_a, hBr_0, hBr_1, hBr_2, hBr_3, hBr_4, hBr_5, hBr_6, hBr_7, hBr_8, hBr_9, hBr_10, hBr_11, hBr_12, hBr_13, hBr_14, hBr_15⟩, ⟨hBr_f1, hBr_a1, hBr_b1⟩, ⟨hBr_f2, hBr_a2, hBr_b2⟩, ⟨hBr_f3, hBr_a3, hBr_b3⟩, ⟨hBr_f4, hBr_a4, hBr_b4⟩, ⟨hBr_f5, hBr_a5, hBr_b5⟩, ⟨hBr_f6, hBr_a6, hBr_b6⟩, ⟨hBr_f7, hBr_a7, hBr_b7⟩, hBr_c1, hBr_c2, hBr_c3, hBr_c4, hBr_c5⟩ := hBr_o
  refine g_aload_n E dX1_bestGate_0 rfl rfl rfl ?_
  refine g_callV (k := 1000) (n9 := 0) (av := []) (st := []) E (ct_X1_anew l hSo) gciX1 dX1_bestGate_1 hSo_a q496 q498 qs2 q120 q499 (by decide +kernel) rfl rfl ⟨by decide, by decide⟩ ⟨by decide, by decide⟩ (Nat.le_of_ble_eq_true rfl) rfl (gPn.k (fun g1 h1 => ?_))
  obtain ⟨hs1, f1⟩ := h1
  have hs1_o := hs1
  obtain ⟨hs1_F, hs1_a, hs1_0, hs1_1, hs1_2, hs1_3, hs1_4, hs1_5, hs1_6, hs1_7, hs1_8, hs1_9, hs1_10, hs1_11, hs1_12, hs1_13, hs1_14, hs1_15, hs1_16, hs1_17, hs1_18, hs1_19⟩ := hs1_o
  refine g_aload_n E dX1_bestGate_4 rfl rfl rfl ?_
  refine g_aload_n E dX1_bestGate_5 rfl rfl rfl ?_
  refine g_iload_n E dX1_bestGate_6 rfl rfl rfl ?_
  have y2 := (hBr.fr hw (fun j9 a9 b9 => f1 j9 (by omega)))
  refine g_callV (k := 1000) (n9 := 1) (av := [.int p]) (st := [.ref 1000]) E (ct_X1_isPerson l p hw hs1 y2) gciX1 dX1_bestGate_7 hs1_a q1321 q1323 qs34 q120 q1324 (by decide +kernel) rfl rfl ⟨by decide, by decide⟩ ⟨by decide, by decide⟩ (Nat.le_of_ble_eq_true rfl) rfl (gPu.k ?_)
  refine g_iload_n E dX1_bestGate_10 rfl rfl rfl ?_
  refine g_callV (k := 1000) (n9 := 2) (av := [.int (zb (qI (B 0 1) p).isSome), .int dy]) (st := []) E (ct_X1_why l ((qI (B 0 1) p).isSome) dy hs1) gciX1 dX1_bestGate_11 hs1_a q1342 q1344 qs36 q120 q1345 (by decide +kernel) rfl rfl ⟨by decide, by decide⟩ ⟨by decide, by decide⟩ (Nat.le_of_ble_eq_true rfl) rfl (gPu.k ?_)
  refine g_istore_n E dX1_bestGate_14 rfl (by decide) rfl (lo1 := [some (.ref 1000), some (.int p), some (.int dy), some (.int (qWy ((qI (B 0 1) p).isSome) dy)), none, none]) rfl rfl ?_
  refine g_iload_n E dX1_bestGate_15 rfl rfl rfl ?_
  refine g_if_eq E dX1_bestGate_16 (tgt := 25) (by decide) rfl (fun c16 => ?_) (fun c16 => ?_)
  · have q3 := (qWy_0.mp c16).1
    have q3_z := (qWy_0.mp c16).2
    obtain ⟨t, q4⟩ := isSome_of q3
    obtain ⟨rfl, q4_l⟩ := qI_some (by omega) q4
    refine g_iconst E (v := 0) dX1_bestGate_25 (by decide) rfl ?_
    refine g_istore E dX1_bestGate_26 (by decide) rfl (lo1 := [some (.ref 1000), some (.int (nI t)), some (.int dy), some (.int (qWy ((qI (B 0 1) (nI t)).isSome) dy)), some (.int 0), none]) rfl rfl ?_
    refine g_iconst E (v := 1) dX1_bestGate_28 (by decide) rfl ?_
    refine g_istore E dX1_bestGate_29 (by decide) rfl (lo1 := [some (.ref 1000), some (.int (nI t)), some (.int dy), some (.int (qWy ((qI (B 0 1) (nI t)).isSome) dy)), some (.int 0), some (.int 1)]) rfl rfl ?_
    have lp31 : ∀ (r9 : Nat) (k : Nat), (k ≤ B 0 2 - 1) → (B 0 2 - k < r9) → gV z g1 0 0 31 [some (.ref 1000), some (.int (nI t)), some (.int dy), some (.int (qWy ((qI (B 0 1) (nI t)).isSome) dy)), some (.int (nI (zLst (fun n7 => zAo B R t n7 1 (d + dy)) k))), some (.int (nI (k + 1)))] [] := by
      intro r9
      induction r9 with
      | zero => intro k hk hm; exact absurd hm (Nat.not_lt_zero _)
      | succ r9 ih31 =>
        intro k hk hm
        refine g_iload E dX1_bestGate_31 rfl rfl ?_
        refine g_aload_n E dX1_bestGate_33 rfl rfl rfl ?_
        refine g_getf E gciX1 dX1_bestGate_34 hs1_a 3 rfl (by decide) q425 (.inl rfl) (.ref bb) (hs1_3) rfl ?_
        have x5 := (f1 (bb) (by omega)).trans (hBr_a)
        refine g_getf E gciX14 dX1_bestGate_37 x5 11 rfl (by decide) q565 (.inl rfl) (.int (nI (B 0 2))) (hBr_11) rfl ?_
        refine g_icmp_ge E dX1_bestGate_40 (tgt := 80) (by decide) rfl (fun c40 => ?_) (fun c40 => ?_)
        · have c40 := (nI_leI (a := B 0 2) (b := k + 1) (by omega) (by omega)).mp c40
          obtain rfl : k = B 0 2 - 1 := by omega
          refine g_iload E dX1_bestGate_80 rfl rfl ?_
          have hs6 : sBga B R d (nI t) dy = (nI (zLst (fun n7 => zAo B R t n7 1 (d + dy)) (B 0 2 - 1)), 0) := by first | (simp [sBga, sT, c16, q4, q3_z, c40]; done) | (simp [sBga, sT, c16, q4, q3_z, c40, qWy]; done)
          exact g_iret E Rt dX1_bestGate_82 rfl (by decide) (by decide) (by rw [hs6]; exact ⟨rfl, ⟨_, hs1_a, hs1_0, hs1_1, hs1_2, hs1_3, hs1_4, hs1_5, hs1_6, hs1_7, hs1_8, hs1_9, hs1_10, hs1_11, hs1_12, hs1_13, hs1_14, hs1_15, hs1_16, hs1_17, hs1_18, hs1_19⟩, fun j9 h9 => f1 j9 (by omega)⟩)
        · have c40 := mt (nI_leI (a := B 0 2) (b := k + 1) (by omega) (by omega)).mpr c40
          have hz := zLst_le (fun n7 => zAo B R t n7 1 (d + dy)) k
          refine g_aload_n E dX1_bestGate_43 rfl rfl rfl ?_
          refine g_iload_n E dX1_bestGate_44 rfl rfl rfl ?_
          refine g_iload E dX1_bestGate_45 rfl rfl ?_
          refine g_iload_n E dX1_bestGate_47 rfl rfl rfl ?_
          refine g_aload_n E dX1_bestGate_48 rfl rfl rfl ?_
          refine g_getf E gciX1 dX1_bestGate_49 hs1_a 11 rfl (by decide) q433 (.inl rfl) (.ref 1005) (hs1_11) rfl ?_
          have y7 := (hLd.fr  (fun j9 a9 b9 => f1 j9 (by omega)))
          have y8 := (hL1.fr  (fun j9 a9 b9 => f1 j9 (by omega)))
          refine g_callV (k := 1000) (n9 := 4) (av := [.int (nI t), .int (nI (k + 1)), .int dy, .ref 1005]) (st := []) E (ct_X1_askedOf l t (k + 1) dy hw hs1 y7 y2 y8 (by omega) (by omega)) gciX1 dX1_bestGate_52 hs1_a q1400 q1402 qs39 q120 q1403 (by decide +kernel) rfl rfl ⟨by decide, by decide⟩ ⟨by decide, by decide⟩ (Nat.le_of_ble_eq_true rfl) rfl (gPu.k ?_)
          refine g_aload_n E dX1_bestGate_55 rfl rfl rfl ?_
          refine g_iload_n E dX1_bestGate_56 rfl rfl rfl ?_
          refine g_iload E dX1_bestGate_57 rfl rfl ?_
          refine g_iload_n E dX1_bestGate_59 rfl rfl rfl ?_
          refine g_aload_n E dX1_bestGate_60 rfl rfl rfl ?_
          refine g_getf E gciX1 dX1_bestGate_61 hs1_a 11 rfl (by decide) q433 (.inl rfl) (.ref 1005) (hs1_11) rfl ?_
          refine g_callV (k := 1000) (n9 := 4) (av := [.int (nI t), .int (nI (zLst (fun n7 => zAo B R t n7 1 (d + dy)) k)), .int dy, .ref 1005]) (st := [.int (zAo B R t (k + 1) 1 (d + dy))]) E (ct_X1_askedOf l t (zLst (fun n7 => zAo B R t n7 1 (d + dy)) k) dy hw hs1 y7 y2 y8 (by omega) (by omega)) gciX1 dX1_bestGate_64 hs1_a q1400 q1402 qs39 q120 q1403 (by decide +kernel) rfl rfl ⟨by decide, by decide⟩ ⟨by decide, by decide⟩ (Nat.le_of_ble_eq_true rfl) rfl (gPu.k ?_)
          refine g_icmp_ge E dX1_bestGate_67 (tgt := 74) (by decide) rfl (fun c67 => ?_) (fun c67 => ?_)
          · refine g_lo (lo1 := [some (.ref 1000), some (.int (nI t)), some (.int dy), some (.int (qWy ((qI (B 0 1) (nI t)).isSome) dy)), some (.int (nI (zLst (fun n7 => zAo B R t n7 1 (d + dy)) (k + 1)))), some (.int (nI (k + 1)))]) (by rw [zLst_f (f := fun n7 => zAo B R t n7 1 (d + dy)) c67]) ?_
            refine g_iinc E dX1_bestGate_74 rfl (v := nI (k + 1 + 1)) (nI_c _) (by decide) rfl (lo1 := [some (.ref 1000), some (.int (nI t)), some (.int dy), some (.int (qWy ((qI (B 0 1) (nI t)).isSome) dy)), some (.int (nI (zLst (fun n7 => zAo B R t n7 1 (d + dy)) (k + 1)))), some (.int (nI (k + 1 + 1)))]) rfl rfl ?_
            refine g_goto E dX1_bestGate_77 (tgt := 31) (by decide) ?_
            exact ih31 (k + 1) (by omega) (by omega)
          · refine g_iload E dX1_bestGate_70 rfl rfl ?_
            refine g_istore E dX1_bestGate_72 (by decide) rfl (lo1 := [some (.ref 1000), some (.int (nI t)), some (.int dy), some (.int (qWy ((qI (B 0 1) (nI t)).isSome) dy)), some (.int (nI (k + 1))), some (.int (nI (k + 1)))]) rfl rfl ?_
            refine g_lo (lo1 := [some (.ref 1000), some (.int (nI t)), some (.int dy), some (.int (qWy ((qI (B 0 1) (nI t)).isSome) dy)), some (.int (nI (zLst (fun n7 => zAo B R t n7 1 (d + dy)) (k + 1)))), some (.int (nI (k + 1)))]) (by rw [zLst_t (f := fun n7 => zAo B R t n7 1 (d + dy)) c67]) ?_
            refine g_iinc E dX1_bestGate_74 rfl (v := nI (k + 1 + 1)) (nI_c _) (by decide) rfl (lo1 := [some (.ref 1000), some (.int (nI t)), some (.int dy), some (.int (qWy ((qI (B 0 1) (nI t)).isSome) dy)), some (.int (nI (zLst (fun n7 => zAo B R t n7 1 (d + dy)) (k + 1)))), some (.int (nI (k + 1 + 1)))]) rfl rfl ?_
            refine g_goto E dX1_bestGate_77 (tgt := 31) (by decide) ?_
            exact ih31 (k + 1) (by omega) (by omega)
    exact lp31 (B 0 2 + 1) 0 (Nat.zero_le _) (by omega)
  · refine g_aload_n E dX1_bestGate_19 rfl rfl rfl ?_
    refine g_iload_n E dX1_bestGate_20 rfl rfl rfl ?_
    refine g_callV (k := 1000) (n9 := 1) (av := [.int (qWy ((qI (B 0 1) p).isSome) dy)]) (st := []) E (ct_X1_no l (qWy ((qI (B 0 1) p).isSome) dy) hs1) gciX1 dX1_bestGate_21 hs1_a q503 q505 qs3 q120 q506 (by decide +kernel) rfl rfl ⟨by decide, by decide⟩ ⟨by decide, by decide⟩ (Nat.le_of_ble_eq_true rfl) rfl (gPi.k (fun g9 h9 => ?_))
    obtain ⟨hs9, f9⟩ := h9
    have hs9_o := hs9
    obtain ⟨hs9_F, hs9_a, hs9_0, hs9_1, hs9_2, hs9_3, hs9_4, hs9_5, hs9_6, hs9_7, hs9_8, hs9_9, hs9_10, hs9_11, hs9_12, hs9_13, hs9_14, hs9_15, hs9_16, hs9_17, hs9_18, hs9_19⟩ := hs9_o
    have hs10 : sBga B R d p dy = ((-1), qWy ((qI (B 0 1) p).isSome) dy) := by first | (simp [sBga, sT, c16]; done) | (simp [sBga, sT, c16, qWy]; done)
    exact g_iret E Rt dX1_bestGate_24 rfl (by decide) (by decide) (by rw [hs10]; exact ⟨rfl, ⟨_, hs9_a, hs9_0, hs9_1, hs9_2, hs9_3, hs9_4, hs9_5, hs9_6, hs9_7, hs9_8, hs9_9, hs9_10, hs9_11, hs9_12, hs9_13, hs9_14, hs9_15, hs9_16, hs9_17, hs9_18, hs9_19⟩, fun j9 h9 => (f9 j9 (by omega)).trans (f1 j9 (by omega))⟩)
set_option maxHeartbeats 1000000 in
theorem ct_X1_bestGate_N (l : Launch) {g : gWM} {tp mm um : Nat} {tr fa wh : Int32} (p : Int32) (dy : Int32) (hSo : pSo g .null tp tr fa wh mm um) : gCt l yX1_bestGate cX1_bestGate 6 (some .int) 2 0 0 44 [.ref 1000, .int p, .int dy] g (gPi (sBga zB0 (fun _ => 0) 0 p dy).1 (fun g1 => pSo g1 .null tp (sBga zB0 (fun _ => 0) 0 p dy).2 fa (-1) mm um ∧ ∀ j, j ≠ 1000 → g1 j = g j)) := by
  refine gCt.of RX1 (by decide) rfl (lo := [some (.ref 1000), some (.int p), some (.int dy), none, none, none]) 3 rfl (Nat.le_of_ble_eq_true rfl) (fun z E Rt => ?_)
  have hSo_o := hSo
  obtain ⟨hSo_F, hSo_a, hSo_0, hSo_1, hSo_2, hSo_3, hSo_4, hSo_5, hSo_6, hSo_7, hSo_8, hSo_9, hSo_10, hSo_11, hSo_12, hSo_13, hSo_14, hSo_15, hSo_16, hSo_17, hSo_18, hSo_19⟩ := hSo_o
  refine g_aload_n E dX1_bestGate_0 rfl rfl rfl ?_
  refine g_callV (k := 1000) (n9 := 0) (av := []) (st := []) E (ct_X1_anew l hSo) gciX1 dX1_bestGate_1 hSo_a q496 q498 qs2 q120 q499 (by decide +kernel) rfl rfl ⟨by decide, by decide⟩ ⟨by decide, by decide⟩ (Nat.le_of_ble_eq_true rfl) rfl (gPn.k (fun g1 h1 => ?_))
  obtain ⟨hs1, f1⟩ := h1
  have hs1_o := hs1
  obtain ⟨hs1_F, hs1_a, hs1_0, hs1_1, hs1_2, hs1_3, hs1_4, hs1_5, hs1_6, hs1_7, hs1_8, hs1_9, hs1_10, hs1_11, hs1_12, hs1_13, hs1_14, hs1_15, hs1_16, hs1_17, hs1_18, hs1_19⟩ := hs1_o
  refine g_aload_n E dX1_bestGate_4 rfl rfl rfl ?_
  refine g_aload_n E dX1_bestGate_5 rfl rfl rfl ?_
  refine g_iload_n E dX1_bestGate_6 rfl rfl rfl ?_
  refine g_callV (k := 1000) (n9 := 1) (av := [.int p]) (st := [.ref 1000]) E (ct_X1_isPerson_N l p hs1) gciX1 dX1_bestGate_7 hs1_a q1321 q1323 qs34 q120 q1324 (by decide +kernel) rfl rfl ⟨by decide, by decide⟩ ⟨by decide, by decide⟩ (Nat.le_of_ble_eq_true rfl) rfl (gPu.k ?_)
  refine g_iload_n E dX1_bestGate_10 rfl rfl rfl ?_
  refine g_callV (k := 1000) (n9 := 2) (av := [.int 0, .int dy]) (st := []) E (ct_X1_why l false dy hs1) gciX1 dX1_bestGate_11 hs1_a q1342 q1344 qs36 q120 q1345 (by decide +kernel) rfl rfl ⟨by decide, by decide⟩ ⟨by decide, by decide⟩ (Nat.le_of_ble_eq_true rfl) rfl (gPu.k ?_)
  refine g_istore_n E dX1_bestGate_14 rfl (by decide) rfl (lo1 := [some (.ref 1000), some (.int p), some (.int dy), some (.int 1), none, none]) rfl rfl ?_
  refine g_iload_n E dX1_bestGate_15 rfl rfl rfl ?_
  refine g_if_eq E dX1_bestGate_16 (tgt := 25) (by decide) rfl (fun h9 => absurd h9 (by decide)) (fun _ => ?_)
  refine g_aload_n E dX1_bestGate_19 rfl rfl rfl ?_
  refine g_iload_n E dX1_bestGate_20 rfl rfl rfl ?_
  refine g_callV (k := 1000) (n9 := 1) (av := [.int 1]) (st := []) E (ct_X1_no l 1 hs1) gciX1 dX1_bestGate_21 hs1_a q503 q505 qs3 q120 q506 (by decide +kernel) rfl rfl ⟨by decide, by decide⟩ ⟨by decide, by decide⟩ (Nat.le_of_ble_eq_true rfl) rfl (gPi.k (fun g2 h2 => ?_))
  obtain ⟨hs2, f2⟩ := h2
  have hs2_o := hs2
  obtain ⟨hs2_F, hs2_a, hs2_0, hs2_1, hs2_2, hs2_3, hs2_4, hs2_5, hs2_6, hs2_7, hs2_8, hs2_9, hs2_10, hs2_11, hs2_12, hs2_13, hs2_14, hs2_15, hs2_16, hs2_17, hs2_18, hs2_19⟩ := hs2_o
  have hs3 : sBga zB0 (fun _ => 0) 0 p dy = ((-1), 1) := by first | (simp [sBga, sT, qI_z, qWy]; done) | (simp [sBga, sT, qI_z, qWy, qWy]; done)
  exact g_iret E Rt dX1_bestGate_24 rfl (by decide) (by decide) (by rw [hs3]; exact ⟨rfl, ⟨_, hs2_a, hs2_0, hs2_1, hs2_2, hs2_3, hs2_4, hs2_5, hs2_6, hs2_7, hs2_8, hs2_9, hs2_10, hs2_11, hs2_12, hs2_13, hs2_14, hs2_15, hs2_16, hs2_17, hs2_18, hs2_19⟩, fun j9 h9 => (f2 j9 (by omega)).trans (f1 j9 (by omega))⟩)
set_option maxHeartbeats 400000 in
theorem ct_X1_cheapestOf (l : Launch) {g : gWM} {bb : Nat} {B : gBar} {R : Nat → Int32} {d : Int32} {tp mm um : Nat} {tr fa wh : Int32} (t k9 : Nat) (hw : wfB B) (hSo : pSo g (.ref bb) tp tr fa wh mm um) (hLd : pLd g 1010 (.ref bb) B R d) (hBr : pBr g bb B) (hL1 : pLw g 1005 1) (ht : t < B 0 1) (hk9 : k9 < B 0 2) : gCt l yX1_cheapestOf cX1_cheapestOf 5 (some .int) 6 0 0 139 [.ref 1000, .int (nI t), .int (nI k9)] g (gPu (.int (nI (zChe B R d t k9))) g) := by
  refine gCt.of RX1 (by decide) rfl (lo := [some (.ref 1000), some (.int (nI t)), some (.int (nI k9)), none, none]) 2 rfl (Nat.le_of_ble_eq_true rfl) (fun z E Rt => ?_)
  have hw_n := hw.1
  have hSo_o := hSo
  obtain ⟨hSo_F, hSo_a, hSo_0, hSo_1, hSo_2, hSo_3, hSo_4, hSo_5, hSo_6, hSo_7, hSo_8, hSo_9, hSo_10, hSo_11, hSo_12, hSo_13, hSo_14, hSo_15, hSo_16, hSo_17, hSo_18, hSo_19⟩ := hSo_o
  have hLd_o := hLd
  obtain ⟨⟨hLd_F, hLd_a, hLd_0, hLd_1, hLd_2, hLd_3, hLd_4, hLd_5⟩, ⟨hLd_s, hLd_sa, hLd_sb⟩, ⟨hLd_e, hLd_ea, hLd_eb⟩, hLd_p, hLd_pa, hLd_pb⟩ := hLd_o
  have hBr_o := hBr
  obtain ⟨⟨hBr_F, hBr_a, hBr_0, hBr_1, hBr_2, hBr_3, hBr_4, hBr_5, hBr_6, hBr_7, hBr_8, hBr_9, hBr_10, hBr_11, hBr_12, hBr_13, hBr_14, hBr_15⟩, ⟨hBr_f1, hBr_a1, hBr_b1⟩, ⟨hBr_f2, hBr_a2, hBr_b2⟩, ⟨hBr_f3, hBr_a3, hBr_b3⟩, ⟨hBr_f4, hBr_a4, hBr_b4⟩, ⟨hBr_f5, hBr_a5, hBr_b5⟩, ⟨hBr_f6, hBr_a6, hBr_b6⟩, ⟨hBr_f7, hBr_a7, hBr_b7⟩, hBr_c1, hBr_c2, hBr_c3, hBr_c4, hBr_c5⟩ := hBr_o
  refine g_iconst E (v := 0) dX1_cheapestOf_0 (by decide) rfl ?_
  refine g_istore_n E dX1_cheapestOf_1 rfl (by decide) rfl (lo1 := [some (.ref 1000), some (.int (nI t)), some (.int (nI k9)), some (.int 0), none]) rfl rfl ?_
  refine g_iconst E (v := 1) dX1_cheapestOf_2 (by decide) rfl ?_
  refine g_istore E dX1_cheapestOf_3 (by decide) rfl (lo1 := [some (.ref 1000), some (.int (nI t)), some (.int (nI k9)), some (.int 0), some (.int 1)]) rfl rfl ?_
  have lp5 : ∀ (r9 : Nat) (k : Nat), (k ≤ 60) → (61 - k < r9) → gV z g 0 0 5 [some (.ref 1000), some (.int (nI t)), some (.int (nI k9)), some (.int (nI (zLst (fun n => zAo B R t k9 1 (d + nI n)) k))), some (.int (nI (k + 1)))] [] := by
    intro r9
    induction r9 with
    | zero => intro k hk hm; exact absurd hm (Nat.not_lt_zero _)
    | succ r9 ih5 =>
      intro k hk hm
      refine g_iload E dX1_cheapestOf_5 rfl rfl ?_
      refine g_bipush E (v := 60) dX1_cheapestOf_7 (by decide) rfl ?_
      refine g_icmp_gt E dX1_cheapestOf_9 (tgt := 47) (by decide) rfl (fun c9 => ?_) (fun c9 => ?_)
      · have c9 := (nI_ltI (a := 60) (b := k + 1) (by omega) (by omega)).mp c9
        obtain rfl : k = 60 := by omega
        refine g_iload_n E dX1_cheapestOf_47 rfl rfl rfl ?_
        exact g_iret E Rt dX1_cheapestOf_48 rfl (by decide) (by decide) (⟨rfl, rfl⟩)
      · have c9 := mt (nI_ltI (a := 60) (b := k + 1) (by omega) (by omega)).mpr c9
        refine g_aload_n E dX1_cheapestOf_12 rfl rfl rfl ?_
        refine g_iload_n E dX1_cheapestOf_13 rfl rfl rfl ?_
        refine g_iload_n E dX1_cheapestOf_14 rfl rfl rfl ?_
        refine g_iload E dX1_cheapestOf_15 rfl rfl ?_
        refine g_aload_n E dX1_cheapestOf_17 rfl rfl rfl ?_
        refine g_getf E gciX1 dX1_cheapestOf_18 hSo_a 11 rfl (by decide) q433 (.inl rfl) (.ref 1005) (hSo_11) rfl ?_
        refine g_callV (k := 1000) (n9 := 4) (av := [.int (nI t), .int (nI k9), .int (nI (k + 1)), .ref 1005]) (st := []) E (ct_X1_askedOf l t k9 (nI (k + 1)) hw hSo hLd hBr hL1 (by omega) (by omega)) gciX1 dX1_cheapestOf_21 hSo_a q1400 q1402 qs39 q120 q1403 (by decide +kernel) rfl rfl ⟨by decide, by decide⟩ ⟨by decide, by decide⟩ (Nat.le_of_ble_eq_true rfl) rfl (gPu.k ?_)
        refine g_aload_n E dX1_cheapestOf_24 rfl rfl rfl ?_
        refine g_iload_n E dX1_cheapestOf_25 rfl rfl rfl ?_
        refine g_iload_n E dX1_cheapestOf_26 rfl rfl rfl ?_
        refine g_iload_n E dX1_cheapestOf_27 rfl rfl rfl ?_
        refine g_aload_n E dX1_cheapestOf_28 rfl rfl rfl ?_
        refine g_getf E gciX1 dX1_cheapestOf_29 hSo_a 11 rfl (by decide) q433 (.inl rfl) (.ref 1005) (hSo_11) rfl ?_
        refine g_callV (k := 1000) (n9 := 4) (av := [.int (nI t), .int (nI k9), .int (nI (zLst (fun n => zAo B R t k9 1 (d + nI n)) k)), .ref 1005]) (st := [.int (zAo B R t k9 1 (d + (nI (k + 1))))]) E (ct_X1_askedOf l t k9 (nI (zLst (fun n => zAo B R t k9 1 (d + nI n)) k)) hw hSo hLd hBr hL1 (by omega) (by omega)) gciX1 dX1_cheapestOf_32 hSo_a q1400 q1402 qs39 q120 q1403 (by decide +kernel) rfl rfl ⟨by decide, by decide⟩ ⟨by decide, by decide⟩ (Nat.le_of_ble_eq_true rfl) rfl (gPu.k ?_)
        refine g_icmp_ge E dX1_cheapestOf_35 (tgt := 41) (by decide) rfl (fun c35 => ?_) (fun c35 => ?_)
        · refine g_lo (lo1 := [some (.ref 1000), some (.int (nI t)), some (.int (nI k9)), some (.int (nI (zLst (fun n => zAo B R t k9 1 (d + nI n)) (k + 1)))), some (.int (nI (k + 1)))]) (by rw [zLst_f (f := fun n => zAo B R t k9 1 (d + nI n)) c35]) ?_
          refine g_iinc E dX1_cheapestOf_41 rfl (v := nI (k + 1 + 1)) (nI_c _) (by decide) rfl (lo1 := [some (.ref 1000), some (.int (nI t)), some (.int (nI k9)), some (.int (nI (zLst (fun n => zAo B R t k9 1 (d + nI n)) (k + 1)))), some (.int (nI (k + 1 + 1)))]) rfl rfl ?_
          refine g_goto E dX1_cheapestOf_44 (tgt := 5) (by decide) ?_
          exact ih5 (k + 1) (by omega) (by omega)
        · refine g_iload E dX1_cheapestOf_38 rfl rfl ?_
          refine g_istore_n E dX1_cheapestOf_40 rfl (by decide) rfl (lo1 := [some (.ref 1000), some (.int (nI t)), some (.int (nI k9)), some (.int (nI (k + 1))), some (.int (nI (k + 1)))]) rfl rfl ?_
          refine g_lo (lo1 := [some (.ref 1000), some (.int (nI t)), some (.int (nI k9)), some (.int (nI (zLst (fun n => zAo B R t k9 1 (d + nI n)) (k + 1)))), some (.int (nI (k + 1)))]) (by rw [zLst_t (f := fun n => zAo B R t k9 1 (d + nI n)) c35]) ?_
          refine g_iinc E dX1_cheapestOf_41 rfl (v := nI (k + 1 + 1)) (nI_c _) (by decide) rfl (lo1 := [some (.ref 1000), some (.int (nI t)), some (.int (nI k9)), some (.int (nI (zLst (fun n => zAo B R t k9 1 (d + nI n)) (k + 1)))), some (.int (nI (k + 1 + 1)))]) rfl rfl ?_
          refine g_goto E dX1_cheapestOf_44 (tgt := 5) (by decide) ?_
          exact ih5 (k + 1) (by omega) (by omega)
  exact lp5 62 0 (Nat.zero_le _) (by omega)
set_option maxHeartbeats 1000000 in
theorem ct_X1_cheapestDay (l : Launch) {g : gWM} {bb : Nat} {B : gBar} {R : Nat → Int32} {d : Int32} {tp mm um : Nat} {tr fa wh : Int32} (p : Int32) (q : Int32) (hw : wfB B) (hSo : pSo g (.ref bb) tp tr fa wh mm um) (hLd : pLd g 1010 (.ref bb) B R d) (hBr : pBr g bb B) (hL1 : pLw g 1005 1) (hL2 : pLw g 1006 2) (hb9 : 10000 ≤ bb) : gCt l yX1_cheapestDay cX1_cheapestDay 3 (some .int) 7 0 0 163 [.ref 1000, .int p, .int q] g (gPi (sChd B R d p q).1 (fun g1 => pSo g1 (.ref bb) tp (sChd B R d p q).2 fa (-1) mm um ∧ ∀ j, j ≠ 1000 → g1 j = g j)) := by
  refine gCt.of RX1 (by decide) rfl (lo := [some (.ref 1000), some (.int p), some (.int q)]) 0 rfl (Nat.le_of_ble_eq_true rfl) (fun z E Rt => ?_)
  have hw_n := hw.1
  have hSo_o := hSo
  obtain ⟨hSo_F, hSo_a, hSo_0, hSo_1, hSo_2, hSo_3, hSo_4, hSo_5, hSo_6, hSo_7, hSo_8, hSo_9, hSo_10, hSo_11, hSo_12, hSo_13, hSo_14, hSo_15, hSo_16, hSo_17, hSo_18, hSo_19⟩ := hSo_o
  have hLd_o := hLd
  obtain ⟨⟨hLd_F, hLd_a, hLd_0, hLd_1, hLd_2, hLd_3, hLd_4, hLd_5⟩, ⟨hLd_s, hLd_sa, hLd_sb⟩, ⟨hLd_e, hLd_ea, hLd_eb⟩, hLd_p, hLd_pa, hLd_pb⟩ := hLd_o
  have hBr_o := hBr
  obtain ⟨⟨hBr_F, hBr_a, hBr_0, hBr_1, hBr_2, hBr_3, hBr_4, hBr_5, hBr_6, hBr_7, hBr_8, hBr_9, hBr_10, hBr_11, hBr_12, hBr_13, hBr_14, hBr_15⟩, ⟨hBr_f1, hBr_a1, hBr_b1⟩, ⟨hBr_f2, hBr_a2, hBr_b2⟩, ⟨hBr_f3, hBr_a3, hBr_b3⟩, ⟨hBr_f4, hBr_a4, hBr_b4⟩, ⟨hBr_f5, hBr_a5, hBr_b5⟩, ⟨hBr_f6, hBr_a6, hBr_b6⟩, ⟨hBr_f7, hBr_a7, hBr_b7⟩, hBr_c1, hBr_c2, hBr_c3, hBr_c4, hBr_c5⟩ := hBr_o
  refine g_aload_n E dX1_cheapestDay_0 rfl rfl rfl ?_
  refine g_callV (k := 1000) (n9 := 0) (av := []) (st := []) E (ct_X1_anew l hSo) gciX1 dX1_cheapestDay_1 hSo_a q496 q498 qs2 q120 q499 (by decide +kernel) rfl rfl ⟨by decide, by decide⟩ ⟨by decide, by decide⟩ (Nat.le_of_ble_eq_true rfl) rfl (gPn.k (fun g1 h1 => ?_))
  obtain ⟨hs1, f1⟩ := h1
  have hs1_o := hs1
  obtain ⟨hs1_F, hs1_a, hs1_0, hs1_1, hs1_2, hs1_3, hs1_4, hs1_5, hs1_6, hs1_7, hs1_8, hs1_9, hs1_10, hs1_11, hs1_12, hs1_13, hs1_14, hs1_15, hs1_16, hs1_17, hs1_18, hs1_19⟩ := hs1_o
  refine g_aload_n E dX1_cheapestDay_4 rfl rfl rfl ?_
  refine g_iload_n E dX1_cheapestDay_5 rfl rfl rfl ?_
  have y2 := (hBr.fr hw (fun j9 a9 b9 => f1 j9 (by omega)))
  refine g_callV (k := 1000) (n9 := 1) (av := [.int p]) (st := []) E (ct_X1_isPerson l p hw hs1 y2) gciX1 dX1_cheapestDay_6 hs1_a q1321 q1323 qs34 q120 q1324 (by decide +kernel) rfl rfl ⟨by decide, by decide⟩ ⟨by decide, by decide⟩ (Nat.le_of_ble_eq_true rfl) rfl (gPu.k ?_)
  refine g_if_eq E dX1_cheapestDay_9 (tgt := 29) (by decide) rfl (fun c9 => ?_) (fun c9 => ?_)
  · have c9 := zb_0.mp c9
    have q3 := isNone_of c9
    refine g_aload_n E dX1_cheapestDay_29 rfl rfl rfl ?_
    refine g_iconst E (v := 1) dX1_cheapestDay_30 (by decide) rfl ?_
    refine g_callV (k := 1000) (n9 := 1) (av := [.int 1]) (st := []) E (ct_X1_no l 1 hs1) gciX1 dX1_cheapestDay_31 hs1_a q503 q505 qs3 q120 q506 (by decide +kernel) rfl rfl ⟨by decide, by decide⟩ ⟨by decide, by decide⟩ (Nat.le_of_ble_eq_true rfl) rfl (gPi.k (fun g4 h4 => ?_))
    obtain ⟨hs4, f4⟩ := h4
    have hs4_o := hs4
    obtain ⟨hs4_F, hs4_a, hs4_0, hs4_1, hs4_2, hs4_3, hs4_4, hs4_5, hs4_6, hs4_7, hs4_8, hs4_9, hs4_10, hs4_11, hs4_12, hs4_13, hs4_14, hs4_15, hs4_16, hs4_17, hs4_18, hs4_19⟩ := hs4_o
    have hs5 : sChd B R d p q = ((-1), 1) := by first | (simp [sChd, c9, q3]; done) | (simp [sChd, c9, q3, qWy]; done)
    exact g_iret E Rt dX1_cheapestDay_34 rfl (by decide) (by decide) (by rw [hs5]; exact ⟨rfl, ⟨_, hs4_a, hs4_0, hs4_1, hs4_2, hs4_3, hs4_4, hs4_5, hs4_6, hs4_7, hs4_8, hs4_9, hs4_10, hs4_11, hs4_12, hs4_13, hs4_14, hs4_15, hs4_16, hs4_17, hs4_18, hs4_19⟩, fun j9 h9 => (f4 j9 (by omega)).trans (f1 j9 (by omega))⟩)
  · have c9 := zb_n0.mp c9
    obtain ⟨t, q6⟩ := isSome_of c9
    obtain ⟨rfl, q6_l⟩ := qI_some (by omega) q6
    refine g_aload_n E dX1_cheapestDay_12 rfl rfl rfl ?_
    refine g_iload_n E dX1_cheapestDay_13 rfl rfl rfl ?_
    refine g_callV (k := 1000) (n9 := 1) (av := [.int q]) (st := []) E (ct_X1_isGate l q hw hs1 y2) gciX1 dX1_cheapestDay_14 hs1_a q1334 q1336 qs35 q120 q1337 (by decide +kernel) rfl rfl ⟨by decide, by decide⟩ ⟨by decide, by decide⟩ (Nat.le_of_ble_eq_true rfl) rfl (gPu.k ?_)
    refine g_if_eq E dX1_cheapestDay_17 (tgt := 29) (by decide) rfl (fun c17 => ?_) (fun c17 => ?_)
    · have c17 := zb_0.mp c17
      have q7 := isNone_of c17
      refine g_aload_n E dX1_cheapestDay_29 rfl rfl rfl ?_
      refine g_iconst E (v := 1) dX1_cheapestDay_30 (by decide) rfl ?_
      refine g_callV (k := 1000) (n9 := 1) (av := [.int 1]) (st := []) E (ct_X1_no l 1 hs1) gciX1 dX1_cheapestDay_31 hs1_a q503 q505 qs3 q120 q506 (by decide +kernel) rfl rfl ⟨by decide, by decide⟩ ⟨by decide, by decide⟩ (Nat.le_of_ble_eq_true rfl) rfl (gPi.k (fun g8 h8 => ?_))
      obtain ⟨hs8, f8⟩ := h8
      have hs8_o := hs8
      obtain ⟨hs8_F, hs8_a, hs8_0, hs8_1, hs8_2, hs8_3, hs8_4, hs8_5, hs8_6, hs8_7, hs8_8, hs8_9, hs8_10, hs8_11, hs8_12, hs8_13, hs8_14, hs8_15, hs8_16, hs8_17, hs8_18, hs8_19⟩ := hs8_o
      have hs9 : sChd B R d (nI t) q = ((-1), 1) := by first | (simp [sChd, c9, q6, c17, q7]; done) | (simp [sChd, c9, q6, c17, q7, qWy]; done)
      exact g_iret E Rt dX1_cheapestDay_34 rfl (by decide) (by decide) (by rw [hs9]; exact ⟨rfl, ⟨_, hs8_a, hs8_0, hs8_1, hs8_2, hs8_3, hs8_4, hs8_5, hs8_6, hs8_7, hs8_8, hs8_9, hs8_10, hs8_11, hs8_12, hs8_13, hs8_14, hs8_15, hs8_16, hs8_17, hs8_18, hs8_19⟩, fun j9 h9 => (f8 j9 (by omega)).trans (f1 j9 (by omega))⟩)
    · have c17 := zb_n0.mp c17
      obtain ⟨k9, q10⟩ := isSome_of c17
      obtain ⟨rfl, q10_l⟩ := qI_some (by omega) q10
      refine g_aload_n E dX1_cheapestDay_20 rfl rfl rfl ?_
      refine g_iload_n E dX1_cheapestDay_21 rfl rfl rfl ?_
      refine g_iload_n E dX1_cheapestDay_22 rfl rfl rfl ?_
      have y11 := (hLd.fr  (fun j9 a9 b9 => f1 j9 (by omega)))
      have y12 := (hL1.fr  (fun j9 a9 b9 => f1 j9 (by omega)))
      refine g_callV (k := 1000) (n9 := 2) (av := [.int (nI t), .int (nI k9)]) (st := []) E (ct_X1_cheapestOf l t k9 hw hs1 y11 y2 y12 (by omega) (by omega)) gciX1 dX1_cheapestDay_23 hs1_a q1434 q1436 qs40 q120 q1437 (by decide +kernel) rfl rfl ⟨by decide, by decide⟩ ⟨by decide, by decide⟩ (Nat.le_of_ble_eq_true rfl) rfl (gPu.k ?_)
      refine g_goto E dX1_cheapestDay_26 (tgt := 34) (by decide) ?_
      have hs13 : sChd B R d (nI t) (nI k9) = (nI (zChe B R d t k9), 0) := by first | (simp [sChd, c9, q6, c17, q10]; done) | (simp [sChd, c9, q6, c17, q10, qWy]; done)
      exact g_iret E Rt dX1_cheapestDay_34 rfl (by decide) (by decide) (by rw [hs13]; exact ⟨rfl, ⟨_, hs1_a, hs1_0, hs1_1, hs1_2, hs1_3, hs1_4, hs1_5, hs1_6, hs1_7, hs1_8, hs1_9, hs1_10, hs1_11, hs1_12, hs1_13, hs1_14, hs1_15, hs1_16, hs1_17, hs1_18, hs1_19⟩, fun j9 h9 => f1 j9 (by omega)⟩)
set_option maxHeartbeats 1000000 in
theorem ct_X1_cheapestDay_N (l : Launch) {g : gWM} {tp mm um : Nat} {tr fa wh : Int32} (p : Int32) (q : Int32) (hSo : pSo g .null tp tr fa wh mm um) : gCt l yX1_cheapestDay cX1_cheapestDay 3 (some .int) 1 0 0 21 [.ref 1000, .int p, .int q] g (gPi (sChd zB0 (fun _ => 0) 0 p q).1 (fun g1 => pSo g1 .null tp (sChd zB0 (fun _ => 0) 0 p q).2 fa (-1) mm um ∧ ∀ j, j ≠ 1000 → g1 j = g j)) := by
  refine gCt.of RX1 (by decide) rfl (lo := [some (.ref 1000), some (.int p), some (.int q)]) 0 rfl (Nat.le_of_ble_eq_true rfl) (fun z E Rt => ?_)
  have hSo_o := hSo
  obtain ⟨hSo_F, hSo_a, hSo_0, hSo_1, hSo_2, hSo_3, hSo_4, hSo_5, hSo_6, hSo_7, hSo_8, hSo_9, hSo_10, hSo_11, hSo_12, hSo_13, hSo_14, hSo_15, hSo_16, hSo_17, hSo_18, hSo_19⟩ := hSo_o
  refine g_aload_n E dX1_cheapestDay_0 rfl rfl rfl ?_
  refine g_callV (k := 1000) (n9 := 0) (av := []) (st := []) E (ct_X1_anew l hSo) gciX1 dX1_cheapestDay_1 hSo_a q496 q498 qs2 q120 q499 (by decide +kernel) rfl rfl ⟨by decide, by decide⟩ ⟨by decide, by decide⟩ (Nat.le_of_ble_eq_true rfl) rfl (gPn.k (fun g1 h1 => ?_))
  obtain ⟨hs1, f1⟩ := h1
  have hs1_o := hs1
  obtain ⟨hs1_F, hs1_a, hs1_0, hs1_1, hs1_2, hs1_3, hs1_4, hs1_5, hs1_6, hs1_7, hs1_8, hs1_9, hs1_10, hs1_11, hs1_12, hs1_13, hs1_14, hs1_15, hs1_16, hs1_17, hs1_18, hs1_19⟩ := hs1_o
  refine g_aload_n E dX1_cheapestDay_4 rfl rfl rfl ?_
  refine g_iload_n E dX1_cheapestDay_5 rfl rfl rfl ?_
  refine g_callV (k := 1000) (n9 := 1) (av := [.int p]) (st := []) E (ct_X1_isPerson_N l p hs1) gciX1 dX1_cheapestDay_6 hs1_a q1321 q1323 qs34 q120 q1324 (by decide +kernel) rfl rfl ⟨by decide, by decide⟩ ⟨by decide, by decide⟩ (Nat.le_of_ble_eq_true rfl) rfl (gPu.k ?_)
  refine g_if_eq E dX1_cheapestDay_9 (tgt := 29) (by decide) rfl (fun _ => ?_) (fun h9 => absurd h9 (by decide))
  refine g_aload_n E dX1_cheapestDay_29 rfl rfl rfl ?_
  refine g_iconst E (v := 1) dX1_cheapestDay_30 (by decide) rfl ?_
  refine g_callV (k := 1000) (n9 := 1) (av := [.int 1]) (st := []) E (ct_X1_no l 1 hs1) gciX1 dX1_cheapestDay_31 hs1_a q503 q505 qs3 q120 q506 (by decide +kernel) rfl rfl ⟨by decide, by decide⟩ ⟨by decide, by decide⟩ (Nat.le_of_ble_eq_true rfl) rfl (gPi.k (fun g2 h2 => ?_))
  obtain ⟨hs2, f2⟩ := h2
  have hs2_o := hs2
  obtain ⟨hs2_F, hs2_a, hs2_0, hs2_1, hs2_2, hs2_3, hs2_4, hs2_5, hs2_6, hs2_7, hs2_8, hs2_9, hs2_10, hs2_11, hs2_12, hs2_13, hs2_14, hs2_15, hs2_16, hs2_17, hs2_18, hs2_19⟩ := hs2_o
  have hs3 : sChd zB0 (fun _ => 0) 0 p q = ((-1), 1) := by first | (simp [sChd, qI_z, qWy]; done) | (simp [sChd, qI_z, qWy, qWy]; done)
  exact g_iret E Rt dX1_cheapestDay_34 rfl (by decide) (by decide) (by rw [hs3]; exact ⟨rfl, ⟨_, hs2_a, hs2_0, hs2_1, hs2_2, hs2_3, hs2_4, hs2_5, hs2_6, hs2_7, hs2_8, hs2_9, hs2_10, hs2_11, hs2_12, hs2_13, hs2_14, hs2_15, hs2_16, hs2_17, hs2_18, hs2_19⟩, fun j9 h9 => (f2 j9 (by omega)).trans (f1 j9 (by omega))⟩)
set_option maxHeartbeats 1000000 in
theorem ct_X1_cheapest (l : Launch) {g : gWM} {bb : Nat} {B : gBar} {R : Nat → Int32} {d : Int32} {tp mm um : Nat} {tr fa wh : Int32} (p : Int32) (q : Int32) (hw : wfB B) (hSo : pSo g (.ref bb) tp tr fa wh mm um) (hLd : pLd g 1010 (.ref bb) B R d) (hBr : pBr g bb B) (hL1 : pLw g 1005 1) (hL2 : pLw g 1006 2) (hb9 : 10000 ≤ bb) : gCt l yX1_cheapest cX1_cheapest 3 (some .int) 7 0 0 163 [.ref 1000, .int p, .int q] g (gPi (sChe B R d p q).1 (fun g1 => pSo g1 (.ref bb) tp (sChe B R d p q).2 fa (-1) mm um ∧ ∀ j, j ≠ 1000 → g1 j = g j)) := by
  refine gCt.of RX1 (by decide) rfl (lo := [some (.ref 1000), some (.int p), some (.int q)]) 0 rfl (Nat.le_of_ble_eq_true rfl) (fun z E Rt => ?_)
  have hw_n := hw.1
  have hSo_o := hSo
  obtain ⟨hSo_F, hSo_a, hSo_0, hSo_1, hSo_2, hSo_3, hSo_4, hSo_5, hSo_6, hSo_7, hSo_8, hSo_9, hSo_10, hSo_11, hSo_12, hSo_13, hSo_14, hSo_15, hSo_16, hSo_17, hSo_18, hSo_19⟩ := hSo_o
  have hLd_o := hLd
  obtain ⟨⟨hLd_F, hLd_a, hLd_0, hLd_1, hLd_2, hLd_3, hLd_4, hLd_5⟩, ⟨hLd_s, hLd_sa, hLd_sb⟩, ⟨hLd_e, hLd_ea, hLd_eb⟩, hLd_p, hLd_pa, hLd_pb⟩ := hLd_o
  have hBr_o := hBr
  obtain ⟨⟨hBr_F, hBr_a, hBr_0, hBr_1, hBr_2, hBr_3, hBr_4, hBr_5, hBr_6, hBr_7, hBr_8, hBr_9, hBr_10, hBr_11, hBr_12, hBr_13, hBr_14, hBr_15⟩, ⟨hBr_f1, hBr_a1, hBr_b1⟩, ⟨hBr_f2, hBr_a2, hBr_b2⟩, ⟨hBr_f3, hBr_a3, hBr_b3⟩, ⟨hBr_f4, hBr_a4, hBr_b4⟩, ⟨hBr_f5, hBr_a5, hBr_b5⟩, ⟨hBr_f6, hBr_a6, hBr_b6⟩, ⟨hBr_f7, hBr_a7, hBr_b7⟩, hBr_c1, hBr_c2, hBr_c3, hBr_c4, hBr_c5⟩ := hBr_o
  refine g_aload_n E dX1_cheapest_0 rfl rfl rfl ?_
  refine g_callV (k := 1000) (n9 := 0) (av := []) (st := []) E (ct_X1_anew l hSo) gciX1 dX1_cheapest_1 hSo_a q496 q498 qs2 q120 q499 (by decide +kernel) rfl rfl ⟨by decide, by decide⟩ ⟨by decide, by decide⟩ (Nat.le_of_ble_eq_true rfl) rfl (gPn.k (fun g1 h1 => ?_))
  obtain ⟨hs1, f1⟩ := h1
  have hs1_o := hs1
  obtain ⟨hs1_F, hs1_a, hs1_0, hs1_1, hs1_2, hs1_3, hs1_4, hs1_5, hs1_6, hs1_7, hs1_8, hs1_9, hs1_10, hs1_11, hs1_12, hs1_13, hs1_14, hs1_15, hs1_16, hs1_17, hs1_18, hs1_19⟩ := hs1_o
  refine g_aload_n E dX1_cheapest_4 rfl rfl rfl ?_
  refine g_iload_n E dX1_cheapest_5 rfl rfl rfl ?_
  have y2 := (hBr.fr hw (fun j9 a9 b9 => f1 j9 (by omega)))
  refine g_callV (k := 1000) (n9 := 1) (av := [.int p]) (st := []) E (ct_X1_isPerson l p hw hs1 y2) gciX1 dX1_cheapest_6 hs1_a q1321 q1323 qs34 q120 q1324 (by decide +kernel) rfl rfl ⟨by decide, by decide⟩ ⟨by decide, by decide⟩ (Nat.le_of_ble_eq_true rfl) rfl (gPu.k ?_)
  refine g_if_eq E dX1_cheapest_9 (tgt := 39) (by decide) rfl (fun c9 => ?_) (fun c9 => ?_)
  · have c9 := zb_0.mp c9
    have q3 := isNone_of c9
    refine g_aload_n E dX1_cheapest_39 rfl rfl rfl ?_
    refine g_iconst E (v := 1) dX1_cheapest_40 (by decide) rfl ?_
    refine g_callV (k := 1000) (n9 := 1) (av := [.int 1]) (st := []) E (ct_X1_no l 1 hs1) gciX1 dX1_cheapest_41 hs1_a q503 q505 qs3 q120 q506 (by decide +kernel) rfl rfl ⟨by decide, by decide⟩ ⟨by decide, by decide⟩ (Nat.le_of_ble_eq_true rfl) rfl (gPi.k (fun g4 h4 => ?_))
    obtain ⟨hs4, f4⟩ := h4
    have hs4_o := hs4
    obtain ⟨hs4_F, hs4_a, hs4_0, hs4_1, hs4_2, hs4_3, hs4_4, hs4_5, hs4_6, hs4_7, hs4_8, hs4_9, hs4_10, hs4_11, hs4_12, hs4_13, hs4_14, hs4_15, hs4_16, hs4_17, hs4_18, hs4_19⟩ := hs4_o
    have hs5 : sChe B R d p q = ((-1), 1) := by first | (simp [sChe, c9, q3]; done) | (simp [sChe, c9, q3, qWy]; done)
    exact g_iret E Rt dX1_cheapest_44 rfl (by decide) (by decide) (by rw [hs5]; exact ⟨rfl, ⟨_, hs4_a, hs4_0, hs4_1, hs4_2, hs4_3, hs4_4, hs4_5, hs4_6, hs4_7, hs4_8, hs4_9, hs4_10, hs4_11, hs4_12, hs4_13, hs4_14, hs4_15, hs4_16, hs4_17, hs4_18, hs4_19⟩, fun j9 h9 => (f4 j9 (by omega)).trans (f1 j9 (by omega))⟩)
  · have c9 := zb_n0.mp c9
    obtain ⟨t, q6⟩ := isSome_of c9
    obtain ⟨rfl, q6_l⟩ := qI_some (by omega) q6
    refine g_aload_n E dX1_cheapest_12 rfl rfl rfl ?_
    refine g_iload_n E dX1_cheapest_13 rfl rfl rfl ?_
    refine g_callV (k := 1000) (n9 := 1) (av := [.int q]) (st := []) E (ct_X1_isGate l q hw hs1 y2) gciX1 dX1_cheapest_14 hs1_a q1334 q1336 qs35 q120 q1337 (by decide +kernel) rfl rfl ⟨by decide, by decide⟩ ⟨by decide, by decide⟩ (Nat.le_of_ble_eq_true rfl) rfl (gPu.k ?_)
    refine g_if_eq E dX1_cheapest_17 (tgt := 39) (by decide) rfl (fun c17 => ?_) (fun c17 => ?_)
    · have c17 := zb_0.mp c17
      have q7 := isNone_of c17
      refine g_aload_n E dX1_cheapest_39 rfl rfl rfl ?_
      refine g_iconst E (v := 1) dX1_cheapest_40 (by decide) rfl ?_
      refine g_callV (k := 1000) (n9 := 1) (av := [.int 1]) (st := []) E (ct_X1_no l 1 hs1) gciX1 dX1_cheapest_41 hs1_a q503 q505 qs3 q120 q506 (by decide +kernel) rfl rfl ⟨by decide, by decide⟩ ⟨by decide, by decide⟩ (Nat.le_of_ble_eq_true rfl) rfl (gPi.k (fun g8 h8 => ?_))
      obtain ⟨hs8, f8⟩ := h8
      have hs8_o := hs8
      obtain ⟨hs8_F, hs8_a, hs8_0, hs8_1, hs8_2, hs8_3, hs8_4, hs8_5, hs8_6, hs8_7, hs8_8, hs8_9, hs8_10, hs8_11, hs8_12, hs8_13, hs8_14, hs8_15, hs8_16, hs8_17, hs8_18, hs8_19⟩ := hs8_o
      have hs9 : sChe B R d (nI t) q = ((-1), 1) := by first | (simp [sChe, c9, q6, c17, q7]; done) | (simp [sChe, c9, q6, c17, q7, qWy]; done)
      exact g_iret E Rt dX1_cheapest_44 rfl (by decide) (by decide) (by rw [hs9]; exact ⟨rfl, ⟨_, hs8_a, hs8_0, hs8_1, hs8_2, hs8_3, hs8_4, hs8_5, hs8_6, hs8_7, hs8_8, hs8_9, hs8_10, hs8_11, hs8_12, hs8_13, hs8_14, hs8_15, hs8_16, hs8_17, hs8_18, hs8_19⟩, fun j9 h9 => (f8 j9 (by omega)).trans (f1 j9 (by omega))⟩)
    · have c17 := zb_n0.mp c17
      obtain ⟨k9, q10⟩ := isSome_of c17
      obtain ⟨rfl, q10_l⟩ := qI_some (by omega) q10
      refine g_aload_n E dX1_cheapest_20 rfl rfl rfl ?_
      refine g_iload_n E dX1_cheapest_21 rfl rfl rfl ?_
      refine g_iload_n E dX1_cheapest_22 rfl rfl rfl ?_
      refine g_aload_n E dX1_cheapest_23 rfl rfl rfl ?_
      refine g_iload_n E dX1_cheapest_24 rfl rfl rfl ?_
      refine g_iload_n E dX1_cheapest_25 rfl rfl rfl ?_
      have y11 := (hLd.fr  (fun j9 a9 b9 => f1 j9 (by omega)))
      have y12 := (hL1.fr  (fun j9 a9 b9 => f1 j9 (by omega)))
      refine g_callV (k := 1000) (n9 := 2) (av := [.int (nI t), .int (nI k9)]) (st := [.int (nI k9), .int (nI t), .ref 1000]) E (ct_X1_cheapestOf l t k9 hw hs1 y11 y2 y12 (by omega) (by omega)) gciX1 dX1_cheapest_26 hs1_a q1434 q1436 qs40 q120 q1437 (by decide +kernel) rfl rfl ⟨by decide, by decide⟩ ⟨by decide, by decide⟩ (Nat.le_of_ble_eq_true rfl) rfl (gPu.k ?_)
      refine g_aload_n E dX1_cheapest_29 rfl rfl rfl ?_
      refine g_getf E gciX1 dX1_cheapest_30 hs1_a 11 rfl (by decide) q433 (.inl rfl) (.ref 1005) (hs1_11) rfl ?_
      refine g_callV (k := 1000) (n9 := 4) (av := [.int (nI t), .int (nI k9), .int (nI (zChe B R d t k9)), .ref 1005]) (st := []) E (ct_X1_askedOf l t k9 (nI (zChe B R d t k9)) hw hs1 y11 y2 y12 (by omega) (by omega)) gciX1 dX1_cheapest_33 hs1_a q1400 q1402 qs39 q120 q1403 (by decide +kernel) rfl rfl ⟨by decide, by decide⟩ ⟨by decide, by decide⟩ (Nat.le_of_ble_eq_true rfl) rfl (gPu.k ?_)
      refine g_goto E dX1_cheapest_36 (tgt := 44) (by decide) ?_
      have hs13 : sChe B R d (nI t) (nI k9) = (zAo B R t k9 1 (d + (nI (zChe B R d t k9))), 0) := by first | (simp [sChe, c9, q6, c17, q10]; done) | (simp [sChe, c9, q6, c17, q10, qWy]; done)
      exact g_iret E Rt dX1_cheapest_44 rfl (by decide) (by decide) (by rw [hs13]; exact ⟨rfl, ⟨_, hs1_a, hs1_0, hs1_1, hs1_2, hs1_3, hs1_4, hs1_5, hs1_6, hs1_7, hs1_8, hs1_9, hs1_10, hs1_11, hs1_12, hs1_13, hs1_14, hs1_15, hs1_16, hs1_17, hs1_18, hs1_19⟩, fun j9 h9 => f1 j9 (by omega)⟩)
set_option maxHeartbeats 1000000 in
theorem ct_X1_cheapest_N (l : Launch) {g : gWM} {tp mm um : Nat} {tr fa wh : Int32} (p : Int32) (q : Int32) (hSo : pSo g .null tp tr fa wh mm um) : gCt l yX1_cheapest cX1_cheapest 3 (some .int) 1 0 0 21 [.ref 1000, .int p, .int q] g (gPi (sChe zB0 (fun _ => 0) 0 p q).1 (fun g1 => pSo g1 .null tp (sChe zB0 (fun _ => 0) 0 p q).2 fa (-1) mm um ∧ ∀ j, j ≠ 1000 → g1 j = g j)) := by
  refine gCt.of RX1 (by decide) rfl (lo := [some (.ref 1000), some (.int p), some (.int q)]) 0 rfl (Nat.le_of_ble_eq_true rfl) (fun z E Rt => ?_)
  have hSo_o := hSo
  obtain ⟨hSo_F, hSo_a, hSo_0, hSo_1, hSo_2, hSo_3, hSo_4, hSo_5, hSo_6, hSo_7, hSo_8, hSo_9, hSo_10, hSo_11, hSo_12, hSo_13, hSo_14, hSo_15, hSo_16, hSo_17, hSo_18, hSo_19⟩ := hSo_o
  refine g_aload_n E dX1_cheapest_0 rfl rfl rfl ?_
  refine g_callV (k := 1000) (n9 := 0) (av := []) (st := []) E (ct_X1_anew l hSo) gciX1 dX1_cheapest_1 hSo_a q496 q498 qs2 q120 q499 (by decide +kernel) rfl rfl ⟨by decide, by decide⟩ ⟨by decide, by decide⟩ (Nat.le_of_ble_eq_true rfl) rfl (gPn.k (fun g1 h1 => ?_))
  obtain ⟨hs1, f1⟩ := h1
  have hs1_o := hs1
  obtain ⟨hs1_F, hs1_a, hs1_0, hs1_1, hs1_2, hs1_3, hs1_4, hs1_5, hs1_6, hs1_7, hs1_8, hs1_9, hs1_10, hs1_11, hs1_12, hs1_13, hs1_14, hs1_15, hs1_16, hs1_17, hs1_18, hs1_19⟩ := hs1_o
  refine g_aload_n E dX1_cheapest_4 rfl rfl rfl ?_
  refine g_iload_n E dX1_cheapest_5 rfl rfl rfl ?_
  refine g_callV (k := 1000) (n9 := 1) (av := [.int p]) (st := []) E (ct_X1_isPerson_N l p hs1) gciX1 dX1_cheapest_6 hs1_a q1321 q1323 qs34 q120 q1324 (by decide +kernel) rfl rfl ⟨by decide, by decide⟩ ⟨by decide, by decide⟩ (Nat.le_of_ble_eq_true rfl) rfl (gPu.k ?_)
  refine g_if_eq E dX1_cheapest_9 (tgt := 39) (by decide) rfl (fun _ => ?_) (fun h9 => absurd h9 (by decide))
  refine g_aload_n E dX1_cheapest_39 rfl rfl rfl ?_
  refine g_iconst E (v := 1) dX1_cheapest_40 (by decide) rfl ?_
  refine g_callV (k := 1000) (n9 := 1) (av := [.int 1]) (st := []) E (ct_X1_no l 1 hs1) gciX1 dX1_cheapest_41 hs1_a q503 q505 qs3 q120 q506 (by decide +kernel) rfl rfl ⟨by decide, by decide⟩ ⟨by decide, by decide⟩ (Nat.le_of_ble_eq_true rfl) rfl (gPi.k (fun g2 h2 => ?_))
  obtain ⟨hs2, f2⟩ := h2
  have hs2_o := hs2
  obtain ⟨hs2_F, hs2_a, hs2_0, hs2_1, hs2_2, hs2_3, hs2_4, hs2_5, hs2_6, hs2_7, hs2_8, hs2_9, hs2_10, hs2_11, hs2_12, hs2_13, hs2_14, hs2_15, hs2_16, hs2_17, hs2_18, hs2_19⟩ := hs2_o
  have hs3 : sChe zB0 (fun _ => 0) 0 p q = ((-1), 1) := by first | (simp [sChe, qI_z, qWy]; done) | (simp [sChe, qI_z, qWy, qWy]; done)
  exact g_iret E Rt dX1_cheapest_44 rfl (by decide) (by decide) (by rw [hs3]; exact ⟨rfl, ⟨_, hs2_a, hs2_0, hs2_1, hs2_2, hs2_3, hs2_4, hs2_5, hs2_6, hs2_7, hs2_8, hs2_9, hs2_10, hs2_11, hs2_12, hs2_13, hs2_14, hs2_15, hs2_16, hs2_17, hs2_18, hs2_19⟩, fun j9 h9 => (f2 j9 (by omega)).trans (f1 j9 (by omega))⟩)
set_option maxHeartbeats 1000000 in
theorem ct_X1_gain (l : Launch) {g : gWM} {bb : Nat} {B : gBar} {R : Nat → Int32} {d : Int32} {tp mm um : Nat} {tr fa wh : Int32} (p : Int32) (dy : Int32) (hw : wfB B) (hSo : pSo g (.ref bb) tp tr fa wh mm um) (hLd : pLd g 1010 (.ref bb) B R d) (hBr : pBr g bb B) (hL1 : pLw g 1005 1) (hL2 : pLw g 1006 2) (hb9 : 10000 ≤ bb) : gCt l yX1_gain cX1_gain 4 (some .int) 4 0 0 86 [.ref 1000, .int p, .int dy] g (gPi (sGai B d p dy).1 (fun g1 => pSo g1 (.ref bb) tp (sGai B d p dy).2 fa (-1) mm um ∧ ∀ j, j ≠ 1000 → g1 j = g j)) := by
  refine gCt.of RX1 (by decide) rfl (lo := [some (.ref 1000), some (.int p), some (.int dy), none]) 1 rfl (Nat.le_of_ble_eq_true rfl) (fun z E Rt => ?_)
  have hw_n := hw.1
  have hSo_o := hSo
  obtain ⟨hSo_F, hSo_a, hSo_0, hSo_1, hSo_2, hSo_3, hSo_4, hSo_5, hSo_6, hSo_7, hSo_8, hSo_9, hSo_10, hSo_11, hSo_12, hSo_13, hSo_14, hSo_15, hSo_16, hSo_17, hSo_18, hSo_19⟩ := hSo_o
  have hLd_o := hLd
  obtain ⟨⟨hLd_F, hLd_a, hLd_0, hLd_1, hLd_2, hLd_3, hLd_4, hLd_5⟩, ⟨hLd_s, hLd_sa, hLd_sb⟩, ⟨hLd_e, hLd_ea, hLd_eb⟩, hLd_p, hLd_pa, hLd_pb⟩ := hLd_o
  have hBr_o := hBr
  obtain ⟨⟨hBr_F, hBr_a, hBr_0, hBr_1, hBr_2, hBr_3, hBr_4, hBr_5, hBr_6, hBr_7, hBr_8, hBr_9, hBr_10, hBr_11, hBr_12, hBr_13, hBr_14, hBr_15⟩, ⟨hBr_f1, hBr_a1, hBr_b1⟩, ⟨hBr_f2, hBr_a2, hBr_b2⟩, ⟨hBr_f3, hBr_a3, hBr_b3⟩, ⟨hBr_f4, hBr_a4, hBr_b4⟩, ⟨hBr_f5, hBr_a5, hBr_b5⟩, ⟨hBr_f6, hBr_a6, hBr_b6⟩, ⟨hBr_f7, hBr_a7, hBr_b7⟩, hBr_c1, hBr_c2, hBr_c3, hBr_c4, hBr_c5⟩ := hBr_o
  refine g_aload_n E dX1_gain_0 rfl rfl rfl ?_
  refine g_callV (k := 1000) (n9 := 0) (av := []) (st := []) E (ct_X1_anew l hSo) gciX1 dX1_gain_1 hSo_a q496 q498 qs2 q120 q499 (by decide +kernel) rfl rfl ⟨by decide, by decide⟩ ⟨by decide, by decide⟩ (Nat.le_of_ble_eq_true rfl) rfl (gPn.k (fun g1 h1 => ?_))
  obtain ⟨hs1, f1⟩ := h1
  have hs1_o := hs1
  obtain ⟨hs1_F, hs1_a, hs1_0, hs1_1, hs1_2, hs1_3, hs1_4, hs1_5, hs1_6, hs1_7, hs1_8, hs1_9, hs1_10, hs1_11, hs1_12, hs1_13, hs1_14, hs1_15, hs1_16, hs1_17, hs1_18, hs1_19⟩ := hs1_o
  refine g_aload_n E dX1_gain_4 rfl rfl rfl ?_
  refine g_aload_n E dX1_gain_5 rfl rfl rfl ?_
  refine g_iload_n E dX1_gain_6 rfl rfl rfl ?_
  have y2 := (hBr.fr hw (fun j9 a9 b9 => f1 j9 (by omega)))
  refine g_callV (k := 1000) (n9 := 1) (av := [.int p]) (st := [.ref 1000]) E (ct_X1_isGood l p hw hs1 y2) gciX1 dX1_gain_7 hs1_a q1283 q1285 qs33 q120 q1286 (by decide +kernel) rfl rfl ⟨by decide, by decide⟩ ⟨by decide, by decide⟩ (Nat.le_of_ble_eq_true rfl) rfl (gPu.k ?_)
  refine g_iload_n E dX1_gain_10 rfl rfl rfl ?_
  refine g_callV (k := 1000) (n9 := 2) (av := [.int (zb (qI (B 0 3) p).isSome), .int dy]) (st := []) E (ct_X1_why l ((qI (B 0 3) p).isSome) dy hs1) gciX1 dX1_gain_11 hs1_a q1342 q1344 qs36 q120 q1345 (by decide +kernel) rfl rfl ⟨by decide, by decide⟩ ⟨by decide, by decide⟩ (Nat.le_of_ble_eq_true rfl) rfl (gPu.k ?_)
  refine g_istore_n E dX1_gain_14 rfl (by decide) rfl (lo1 := [some (.ref 1000), some (.int p), some (.int dy), some (.int (qWy ((qI (B 0 3) p).isSome) dy))]) rfl rfl ?_
  refine g_iload_n E dX1_gain_15 rfl rfl rfl ?_
  refine g_if_eq E dX1_gain_16 (tgt := 27) (by decide) rfl (fun c16 => ?_) (fun c16 => ?_)
  · have q3 := (qWy_0.mp c16).1
    have q3_z := (qWy_0.mp c16).2
    obtain ⟨j, q4⟩ := isSome_of q3
    obtain ⟨rfl, q4_l⟩ := qI_some (by omega) q4
    refine g_aload_n E dX1_gain_27 rfl rfl rfl ?_
    refine g_getf E gciX1 dX1_gain_28 hs1_a 3 rfl (by decide) q425 (.inl rfl) (.ref bb) (hs1_3) rfl ?_
    have x5 := (f1 (bb) (by omega)).trans (hBr_a)
    refine g_getf E gciX14 dX1_gain_31 x5 3 rfl (by decide) q542 (.inl rfl) (.ref (bb + 4)) (hBr_3) rfl ?_
    refine g_iload_n E dX1_gain_34 rfl rfl rfl ?_
    have x6 := (f1 (bb + 4) (by omega)).trans (hBr_a4)
    refine g_aald E dX1_gain_35 (j := j) x6 (fun _ => rfl) (rfl) (by omega) (by decide) (b := bb + 40 + j) (hBr_b4 j (by omega)) rfl ?_
    have u7 := pBr.good y2 hw (j := j) (by omega)
    have u7_b := wfB.goods hw (j := j) (by omega)
    have o8 := u7
    obtain ⟨⟨o8_F, o8_a, o8_0, o8_1, o8_2, o8_3, o8_4, o8_7⟩, o8_m, o8_k⟩ := o8
    refine g_aload_n E dX1_gain_36 rfl rfl rfl ?_
    refine g_iload_n E dX1_gain_37 rfl rfl rfl ?_
    have y9 := (hLd.fr  (fun j9 a9 b9 => f1 j9 (by omega)))
    refine g_callV (k := 1000) (n9 := 1) (av := [.int dy]) (st := [.ref (bb + 40 + j)]) E (ct_X1_on l dy hw hs1 y9 y2) gciX1 dX1_gain_38 hs1_a q1346 q1348 qs37 q120 q1349 (by decide +kernel) rfl rfl ⟨by decide, by decide⟩ ⟨by decide, by decide⟩ (Nat.le_of_ble_eq_true rfl) rfl (gPu.k ?_)
    refine g_aload_n E dX1_gain_41 rfl rfl rfl ?_
    refine g_getf E gciX1 dX1_gain_42 hs1_a 11 rfl (by decide) q433 (.inl rfl) (.ref 1005) (hs1_11) rfl ?_
    have y10 := (hL1.fr  (fun j9 a9 b9 => f1 j9 (by omega)))
    refine v_gain_Good E dX1_gain_45 q1542 u7 y10 ⟨by decide, by decide⟩ ⟨by decide, by decide⟩ (Nat.le_of_ble_eq_true rfl) rfl ?_
    have hs11 : sGai B d (nI j) dy = (zGai B j (d + dy), 0) := by first | (simp [sGai, c16, q4, q3_z]; done) | (simp [sGai, c16, q4, q3_z, qWy]; done)
    exact g_iret E Rt dX1_gain_48 rfl (by decide) (by decide) (by rw [hs11]; exact ⟨rfl, ⟨_, hs1_a, hs1_0, hs1_1, hs1_2, hs1_3, hs1_4, hs1_5, hs1_6, hs1_7, hs1_8, hs1_9, hs1_10, hs1_11, hs1_12, hs1_13, hs1_14, hs1_15, hs1_16, hs1_17, hs1_18, hs1_19⟩, fun j9 h9 => f1 j9 (by omega)⟩)
  · refine g_aload_n E dX1_gain_19 rfl rfl rfl ?_
    refine g_iload_n E dX1_gain_20 rfl rfl rfl ?_
    refine g_callV (k := 1000) (n9 := 1) (av := [.int (qWy ((qI (B 0 3) p).isSome) dy)]) (st := []) E (ct_X1_less l (qWy ((qI (B 0 3) p).isSome) dy) hs1) gciX1 dX1_gain_21 hs1_a q1534 q1536 qs44 q120 q1537 (by decide +kernel) rfl rfl ⟨by decide, by decide⟩ ⟨by decide, by decide⟩ (Nat.le_of_ble_eq_true rfl) rfl (gPi.k (fun g12 h12 => ?_))
    obtain ⟨hs12, f12⟩ := h12
    have hs12_o := hs12
    obtain ⟨hs12_F, hs12_a, hs12_0, hs12_1, hs12_2, hs12_3, hs12_4, hs12_5, hs12_6, hs12_7, hs12_8, hs12_9, hs12_10, hs12_11, hs12_12, hs12_13, hs12_14, hs12_15, hs12_16, hs12_17, hs12_18, hs12_19⟩ := hs12_o
    refine g_goto E dX1_gain_24 (tgt := 48) (by decide) ?_
    have hs13 : sGai B d p dy = ((-10000), qWy ((qI (B 0 3) p).isSome) dy) := by first | (simp [sGai, c16]; done) | (simp [sGai, c16, qWy]; done)
    exact g_iret E Rt dX1_gain_48 rfl (by decide) (by decide) (by rw [hs13]; exact ⟨rfl, ⟨_, hs12_a, hs12_0, hs12_1, hs12_2, hs12_3, hs12_4, hs12_5, hs12_6, hs12_7, hs12_8, hs12_9, hs12_10, hs12_11, hs12_12, hs12_13, hs12_14, hs12_15, hs12_16, hs12_17, hs12_18, hs12_19⟩, fun j9 h9 => (f12 j9 (by omega)).trans (f1 j9 (by omega))⟩)
set_option maxHeartbeats 1000000 in
theorem ct_X1_gain_N (l : Launch) {g : gWM} {tp mm um : Nat} {tr fa wh : Int32} (p : Int32) (dy : Int32) (hSo : pSo g .null tp tr fa wh mm um) : gCt l yX1_gain cX1_gain 4 (some .int) 2 0 0 44 [.ref 1000, .int p, .int dy] g (gPi (sGai zB0 0 p dy).1 (fun g1 => pSo g1 .null tp (sGai zB0 0 p dy).2 fa (-1) mm um ∧ ∀ j, j ≠ 1000 → g1 j = g j)) := by
  refine gCt.of RX1 (by decide) rfl (lo := [some (.ref 1000), some (.int p), some (.int dy), none]) 1 rfl (Nat.le_of_ble_eq_true rfl) (fun z E Rt => ?_)
  have hSo_o := hSo
  obtain ⟨hSo_F, hSo_a, hSo_0, hSo_1, hSo_2, hSo_3, hSo_4, hSo_5, hSo_6, hSo_7, hSo_8, hSo_9, hSo_10, hSo_11, hSo_12, hSo_13, hSo_14, hSo_15, hSo_16, hSo_17, hSo_18, hSo_19⟩ := hSo_o
  refine g_aload_n E dX1_gain_0 rfl rfl rfl ?_
  refine g_callV (k := 1000) (n9 := 0) (av := []) (st := []) E (ct_X1_anew l hSo) gciX1 dX1_gain_1 hSo_a q496 q498 qs2 q120 q499 (by decide +kernel) rfl rfl ⟨by decide, by decide⟩ ⟨by decide, by decide⟩ (Nat.le_of_ble_eq_true rfl) rfl (gPn.k (fun g1 h1 => ?_))
  obtain ⟨hs1, f1⟩ := h1
  have hs1_o := hs1
  obtain ⟨hs1_F, hs1_a, hs1_0, hs1_1, hs1_2, hs1_3, hs1_4, hs1_5, hs1_6, hs1_7, hs1_8, hs1_9, hs1_10, hs1_11, hs1_12, hs1_13, hs1_14, hs1_15, hs1_16, hs1_17, hs1_18, hs1_19⟩ := hs1_o
  refine g_aload_n E dX1_gain_4 rfl rfl rfl ?_
  refine g_aload_n E dX1_gain_5 rfl rfl rfl ?_
  refine g_iload_n E dX1_gain_6 rfl rfl rfl ?_
  refine g_callV (k := 1000) (n9 := 1) (av := [.int p]) (st := [.ref 1000]) E (ct_X1_isGood_N l p hs1) gciX1 dX1_gain_7 hs1_a q1283 q1285 qs33 q120 q1286 (by decide +kernel) rfl rfl ⟨by decide, by decide⟩ ⟨by decide, by decide⟩ (Nat.le_of_ble_eq_true rfl) rfl (gPu.k ?_)
  refine g_iload_n E dX1_gain_10 rfl rfl rfl ?_
  refine g_callV (k := 1000) (n9 := 2) (av := [.int 0, .int dy]) (st := []) E (ct_X1_why l false dy hs1) gciX1 dX1_gain_11 hs1_a q1342 q1344 qs36 q120 q1345 (by decide +kernel) rfl rfl ⟨by decide, by decide⟩ ⟨by decide, by decide⟩ (Nat.le_of_ble_eq_true rfl) rfl (gPu.k ?_)
  refine g_istore_n E dX1_gain_14 rfl (by decide) rfl (lo1 := [some (.ref 1000), some (.int p), some (.int dy), some (.int 1)]) rfl rfl ?_
  refine g_iload_n E dX1_gain_15 rfl rfl rfl ?_
  refine g_if_eq E dX1_gain_16 (tgt := 27) (by decide) rfl (fun h9 => absurd h9 (by decide)) (fun _ => ?_)
  refine g_aload_n E dX1_gain_19 rfl rfl rfl ?_
  refine g_iload_n E dX1_gain_20 rfl rfl rfl ?_
  refine g_callV (k := 1000) (n9 := 1) (av := [.int 1]) (st := []) E (ct_X1_less l 1 hs1) gciX1 dX1_gain_21 hs1_a q1534 q1536 qs44 q120 q1537 (by decide +kernel) rfl rfl ⟨by decide, by decide⟩ ⟨by decide, by decide⟩ (Nat.le_of_ble_eq_true rfl) rfl (gPi.k (fun g2 h2 => ?_))
  obtain ⟨hs2, f2⟩ := h2
  have hs2_o := hs2
  obtain ⟨hs2_F, hs2_a, hs2_0, hs2_1, hs2_2, hs2_3, hs2_4, hs2_5, hs2_6, hs2_7, hs2_8, hs2_9, hs2_10, hs2_11, hs2_12, hs2_13, hs2_14, hs2_15, hs2_16, hs2_17, hs2_18, hs2_19⟩ := hs2_o
  refine g_goto E dX1_gain_24 (tgt := 48) (by decide) ?_
  have hs3 : sGai zB0 0 p dy = ((-10000), 1) := by first | (simp [sGai, qI_z, qWy]; done) | (simp [sGai, qI_z, qWy, qWy]; done)
  exact g_iret E Rt dX1_gain_48 rfl (by decide) (by decide) (by rw [hs3]; exact ⟨rfl, ⟨_, hs2_a, hs2_0, hs2_1, hs2_2, hs2_3, hs2_4, hs2_5, hs2_6, hs2_7, hs2_8, hs2_9, hs2_10, hs2_11, hs2_12, hs2_13, hs2_14, hs2_15, hs2_16, hs2_17, hs2_18, hs2_19⟩, fun j9 h9 => (f2 j9 (by omega)).trans (f1 j9 (by omega))⟩)
set_option maxHeartbeats 400000 in
theorem ct_X1_holdOf (l : Launch) {g : gWM} {bb : Nat} {B : gBar} {R : Nat → Int32} {d : Int32} {tp mm um : Nat} {tr fa wh : Int32} (j n : Nat) (hw : wfB B) (hSo : pSo g (.ref bb) tp tr fa wh mm um) (hLd : pLd g 1010 (.ref bb) B R d) (hBr : pBr g bb B) (hL1 : pLw g 1005 1) (hj : j < B 0 3) : gCt l yX1_holdOf cX1_holdOf 4 (some .int) 4 0 0 84 [.ref 1000, .int (nI j), .int (nI n)] g (gPu (.int (zHo B d j n)) g) := by
  refine gCt.of RX1 (by decide) rfl (lo := [some (.ref 1000), some (.int (nI j)), some (.int (nI n)), none]) 1 rfl (Nat.le_of_ble_eq_true rfl) (fun z E Rt => ?_)
  have hw_n := hw.1
  have hSo_o := hSo
  obtain ⟨hSo_F, hSo_a, hSo_0, hSo_1, hSo_2, hSo_3, hSo_4, hSo_5, hSo_6, hSo_7, hSo_8, hSo_9, hSo_10, hSo_11, hSo_12, hSo_13, hSo_14, hSo_15, hSo_16, hSo_17, hSo_18, hSo_19⟩ := hSo_o
  have hLd_o := hLd
  obtain ⟨⟨hLd_F, hLd_a, hLd_0, hLd_1, hLd_2, hLd_3, hLd_4, hLd_5⟩, ⟨hLd_s, hLd_sa, hLd_sb⟩, ⟨hLd_e, hLd_ea, hLd_eb⟩, hLd_p, hLd_pa, hLd_pb⟩ := hLd_o
  have hBr_o := hBr
  obtain ⟨⟨hBr_F, hBr_a, hBr_0, hBr_1, hBr_2, hBr_3, hBr_4, hBr_5, hBr_6, hBr_7, hBr_8, hBr_9, hBr_10, hBr_11, hBr_12, hBr_13, hBr_14, hBr_15⟩, ⟨hBr_f1, hBr_a1, hBr_b1⟩, ⟨hBr_f2, hBr_a2, hBr_b2⟩, ⟨hBr_f3, hBr_a3, hBr_b3⟩, ⟨hBr_f4, hBr_a4, hBr_b4⟩, ⟨hBr_f5, hBr_a5, hBr_b5⟩, ⟨hBr_f6, hBr_a6, hBr_b6⟩, ⟨hBr_f7, hBr_a7, hBr_b7⟩, hBr_c1, hBr_c2, hBr_c3, hBr_c4, hBr_c5⟩ := hBr_o
  refine g_aload_n E dX1_holdOf_0 rfl rfl rfl ?_
  refine g_getf E gciX1 dX1_holdOf_1 hSo_a 3 rfl (by decide) q425 (.inl rfl) (.ref bb) (hSo_3) rfl ?_
  refine g_getf E gciX14 dX1_holdOf_4 hBr_a 3 rfl (by decide) q542 (.inl rfl) (.ref (bb + 4)) (hBr_3) rfl ?_
  refine g_iload_n E dX1_holdOf_7 rfl rfl rfl ?_
  refine g_aald E dX1_holdOf_8 (j := j) hBr_a4 (fun _ => rfl) (rfl) (by omega) (by decide) (b := bb + 40 + j) (hBr_b4 j (by omega)) rfl ?_
  have u1 := pBr.good hBr hw (j := j) (by omega)
  have u1_b := wfB.goods hw (j := j) (by omega)
  have o2 := u1
  obtain ⟨⟨o2_F, o2_a, o2_0, o2_1, o2_2, o2_3, o2_4, o2_7⟩, o2_m, o2_k⟩ := o2
  refine g_astore_n E dX1_holdOf_9 rfl (by decide) rfl (lo1 := [some (.ref 1000), some (.int (nI j)), some (.int (nI n)), some (.ref (bb + 40 + j))]) rfl rfl ?_
  refine g_aload_n E dX1_holdOf_10 rfl rfl rfl ?_
  refine g_aload_n E dX1_holdOf_11 rfl rfl rfl ?_
  refine g_iload_n E dX1_holdOf_12 rfl rfl rfl ?_
  refine g_callV (k := 1000) (n9 := 1) (av := [.int (nI n)]) (st := [.ref (bb + 40 + j)]) E (ct_X1_on l (nI n) hw hSo hLd hBr) gciX1 dX1_holdOf_13 hSo_a q1346 q1348 qs37 q120 q1349 (by decide +kernel) rfl rfl ⟨by decide, by decide⟩ ⟨by decide, by decide⟩ (Nat.le_of_ble_eq_true rfl) rfl (gPu.k ?_)
  refine v_worthOn_Good E dX1_holdOf_16 q1355 u1 ⟨by decide, by decide⟩ ⟨by decide, by decide⟩ (Nat.le_of_ble_eq_true rfl) rfl ?_
  refine g_aload_n E dX1_holdOf_19 rfl rfl rfl ?_
  refine g_aload_n E dX1_holdOf_20 rfl rfl rfl ?_
  refine g_iload_n E dX1_holdOf_21 rfl rfl rfl ?_
  refine g_callV (k := 1000) (n9 := 1) (av := [.int (nI n)]) (st := [.ref (bb + 40 + j), .int (zWor B j (d + (nI n)))]) E (ct_X1_on l (nI n) hw hSo hLd hBr) gciX1 dX1_holdOf_22 hSo_a q1346 q1348 qs37 q120 q1349 (by decide +kernel) rfl rfl ⟨by decide, by decide⟩ ⟨by decide, by decide⟩ (Nat.le_of_ble_eq_true rfl) rfl (gPu.k ?_)
  refine g_aload_n E dX1_holdOf_25 rfl rfl rfl ?_
  refine g_getf E gciX1 dX1_holdOf_26 hSo_a 11 rfl (by decide) q433 (.inl rfl) (.ref 1005) (hSo_11) rfl ?_
  refine v_duty_Good E dX1_holdOf_29 q1381 u1 hL1 ⟨by decide, by decide⟩ ⟨by decide, by decide⟩ (Nat.le_of_ble_eq_true rfl) rfl ?_
  refine g_isub E dX1_holdOf_32 rfl ?_
  refine g_aload_n E dX1_holdOf_33 rfl rfl rfl ?_
  refine g_getf E gciX1 dX1_holdOf_34 hSo_a 3 rfl (by decide) q425 (.inl rfl) (.ref bb) (hSo_3) rfl ?_
  refine g_getf E gciX14 dX1_holdOf_37 hBr_a 7 rfl (by decide) q554 (.inl rfl) (.int (nI (B 0 7))) (hBr_7) rfl ?_
  refine g_iload_n E dX1_holdOf_40 rfl rfl rfl ?_
  refine g_imul E dX1_holdOf_41 rfl ?_
  refine g_isub E dX1_holdOf_42 rfl ?_
  exact g_iret E Rt dX1_holdOf_43 rfl (by decide) (by decide) (⟨rfl, rfl⟩)
set_option maxHeartbeats 400000 in
theorem ct_X1_bestHold (l : Launch) {g : gWM} {bb : Nat} {B : gBar} {R : Nat → Int32} {d : Int32} {tp mm um : Nat} {tr fa wh : Int32} (j : Nat) (hw : wfB B) (hSo : pSo g (.ref bb) tp tr fa wh mm um) (hLd : pLd g 1010 (.ref bb) B R d) (hBr : pBr g bb B) (hL1 : pLw g 1005 1) (hj : j < B 0 3) : gCt l yX1_bestHold cX1_bestHold 4 (some .int) 5 0 0 107 [.ref 1000, .int (nI j)] g (gPu (.int (nI (zBh B d j))) g) := by
  refine gCt.of RX1 (by decide) rfl (lo := [some (.ref 1000), some (.int (nI j)), none, none]) 2 rfl (Nat.le_of_ble_eq_true rfl) (fun z E Rt => ?_)
  have hw_n := hw.1
  have hSo_o := hSo
  obtain ⟨hSo_F, hSo_a, hSo_0, hSo_1, hSo_2, hSo_3, hSo_4, hSo_5, hSo_6, hSo_7, hSo_8, hSo_9, hSo_10, hSo_11, hSo_12, hSo_13, hSo_14, hSo_15, hSo_16, hSo_17, hSo_18, hSo_19⟩ := hSo_o
  have hLd_o := hLd
  obtain ⟨⟨hLd_F, hLd_a, hLd_0, hLd_1, hLd_2, hLd_3, hLd_4, hLd_5⟩, ⟨hLd_s, hLd_sa, hLd_sb⟩, ⟨hLd_e, hLd_ea, hLd_eb⟩, hLd_p, hLd_pa, hLd_pb⟩ := hLd_o
  have hBr_o := hBr
  obtain ⟨⟨hBr_F, hBr_a, hBr_0, hBr_1, hBr_2, hBr_3, hBr_4, hBr_5, hBr_6, hBr_7, hBr_8, hBr_9, hBr_10, hBr_11, hBr_12, hBr_13, hBr_14, hBr_15⟩, ⟨hBr_f1, hBr_a1, hBr_b1⟩, ⟨hBr_f2, hBr_a2, hBr_b2⟩, ⟨hBr_f3, hBr_a3, hBr_b3⟩, ⟨hBr_f4, hBr_a4, hBr_b4⟩, ⟨hBr_f5, hBr_a5, hBr_b5⟩, ⟨hBr_f6, hBr_a6, hBr_b6⟩, ⟨hBr_f7, hBr_a7, hBr_b7⟩, hBr_c1, hBr_c2, hBr_c3, hBr_c4, hBr_c5⟩ := hBr_o
  refine g_iconst E (v := 0) dX1_bestHold_0 (by decide) rfl ?_
  refine g_istore_n E dX1_bestHold_1 rfl (by decide) rfl (lo1 := [some (.ref 1000), some (.int (nI j)), some (.int 0), none]) rfl rfl ?_
  refine g_iconst E (v := 1) dX1_bestHold_2 (by decide) rfl ?_
  refine g_istore_n E dX1_bestHold_3 rfl (by decide) rfl (lo1 := [some (.ref 1000), some (.int (nI j)), some (.int 0), some (.int 1)]) rfl rfl ?_
  have lp4 : ∀ (r9 : Nat) (k : Nat), (k ≤ 60) → (61 - k < r9) → gV z g 0 0 4 [some (.ref 1000), some (.int (nI j)), some (.int (nI (zMst (zHo B d j) k))), some (.int (nI (k + 1)))] [] := by
    intro r9
    induction r9 with
    | zero => intro k hk hm; exact absurd hm (Nat.not_lt_zero _)
    | succ r9 ih4 =>
      intro k hk hm
      refine g_iload_n E dX1_bestHold_4 rfl rfl rfl ?_
      refine g_bipush E (v := 60) dX1_bestHold_5 (by decide) rfl ?_
      refine g_icmp_gt E dX1_bestHold_7 (tgt := 33) (by decide) rfl (fun c7 => ?_) (fun c7 => ?_)
      · have c7 := (nI_ltI (a := 60) (b := k + 1) (by omega) (by omega)).mp c7
        obtain rfl : k = 60 := by omega
        refine g_iload_n E dX1_bestHold_33 rfl rfl rfl ?_
        exact g_iret E Rt dX1_bestHold_34 rfl (by decide) (by decide) (⟨rfl, rfl⟩)
      · have c7 := mt (nI_ltI (a := 60) (b := k + 1) (by omega) (by omega)).mpr c7
        refine g_aload_n E dX1_bestHold_10 rfl rfl rfl ?_
        refine g_iload_n E dX1_bestHold_11 rfl rfl rfl ?_
        refine g_iload_n E dX1_bestHold_12 rfl rfl rfl ?_
        refine g_callV (k := 1000) (n9 := 2) (av := [.int (nI j), .int (nI (k + 1))]) (st := []) E (ct_X1_holdOf l j (k + 1) hw hSo hLd hBr hL1 (by omega)) gciX1 dX1_bestHold_13 hSo_a q1526 q1528 qs43 q120 q1529 (by decide +kernel) rfl rfl ⟨by decide, by decide⟩ ⟨by decide, by decide⟩ (Nat.le_of_ble_eq_true rfl) rfl (gPu.k ?_)
        refine g_aload_n E dX1_bestHold_16 rfl rfl rfl ?_
        refine g_iload_n E dX1_bestHold_17 rfl rfl rfl ?_
        refine g_iload_n E dX1_bestHold_18 rfl rfl rfl ?_
        refine g_callV (k := 1000) (n9 := 2) (av := [.int (nI j), .int (nI (zMst (zHo B d j) k))]) (st := [.int (zHo B d j (k + 1))]) E (ct_X1_holdOf l j (zMst (zHo B d j) k) hw hSo hLd hBr hL1 (by omega)) gciX1 dX1_bestHold_19 hSo_a q1526 q1528 qs43 q120 q1529 (by decide +kernel) rfl rfl ⟨by decide, by decide⟩ ⟨by decide, by decide⟩ (Nat.le_of_ble_eq_true rfl) rfl (gPu.k ?_)
        refine g_icmp_le E dX1_bestHold_22 (tgt := 27) (by decide) rfl (fun c22 => ?_) (fun c22 => ?_)
        · refine g_lo (lo1 := [some (.ref 1000), some (.int (nI j)), some (.int (nI (zMst (zHo B d j) (k + 1)))), some (.int (nI (k + 1)))]) (by rw [zMst_f c22]) ?_
          refine g_iinc E dX1_bestHold_27 rfl (v := nI (k + 1 + 1)) (nI_c _) (by decide) rfl (lo1 := [some (.ref 1000), some (.int (nI j)), some (.int (nI (zMst (zHo B d j) (k + 1)))), some (.int (nI (k + 1 + 1)))]) rfl rfl ?_
          refine g_goto E dX1_bestHold_30 (tgt := 4) (by decide) ?_
          exact ih4 (k + 1) (by omega) (by omega)
        · refine g_iload_n E dX1_bestHold_25 rfl rfl rfl ?_
          refine g_istore_n E dX1_bestHold_26 rfl (by decide) rfl (lo1 := [some (.ref 1000), some (.int (nI j)), some (.int (nI (k + 1))), some (.int (nI (k + 1)))]) rfl rfl ?_
          refine g_lo (lo1 := [some (.ref 1000), some (.int (nI j)), some (.int (nI (zMst (zHo B d j) (k + 1)))), some (.int (nI (k + 1)))]) (by rw [zMst_t c22]) ?_
          refine g_iinc E dX1_bestHold_27 rfl (v := nI (k + 1 + 1)) (nI_c _) (by decide) rfl (lo1 := [some (.ref 1000), some (.int (nI j)), some (.int (nI (zMst (zHo B d j) (k + 1)))), some (.int (nI (k + 1 + 1)))]) rfl rfl ?_
          refine g_goto E dX1_bestHold_30 (tgt := 4) (by decide) ?_
          exact ih4 (k + 1) (by omega) (by omega)
  exact lp4 62 0 (Nat.zero_le _) (by omega)
set_option maxHeartbeats 1000000 in
theorem ct_X1_hold (l : Launch) {g : gWM} {bb : Nat} {B : gBar} {R : Nat → Int32} {d : Int32} {tp mm um : Nat} {tr fa wh : Int32} (p : Int32) (hw : wfB B) (hSo : pSo g (.ref bb) tp tr fa wh mm um) (hLd : pLd g 1010 (.ref bb) B R d) (hBr : pBr g bb B) (hL1 : pLw g 1005 1) (hL2 : pLw g 1006 2) (hb9 : 10000 ≤ bb) : gCt l yX1_hold cX1_hold 2 (some .int) 6 0 0 130 [.ref 1000, .int p] g (gPi (sHol B d p).1 (fun g1 => pSo g1 (.ref bb) tp (sHol B d p).2 fa (-1) mm um ∧ ∀ j, j ≠ 1000 → g1 j = g j)) := by
  refine gCt.of RX1 (by decide) rfl (lo := [some (.ref 1000), some (.int p)]) 0 rfl (Nat.le_of_ble_eq_true rfl) (fun z E Rt => ?_)
  have hw_n := hw.1
  have hSo_o := hSo
  obtain ⟨hSo_F, hSo_a, hSo_0, hSo_1, hSo_2, hSo_3, hSo_4, hSo_5, hSo_6, hSo_7, hSo_8, hSo_9, hSo_10, hSo_11, hSo_12, hSo_13, hSo_14, hSo_15, hSo_16, hSo_17, hSo_18, hSo_19⟩ := hSo_o
  have hLd_o := hLd
  obtain ⟨⟨hLd_F, hLd_a, hLd_0, hLd_1, hLd_2, hLd_3, hLd_4, hLd_5⟩, ⟨hLd_s, hLd_sa, hLd_sb⟩, ⟨hLd_e, hLd_ea, hLd_eb⟩, hLd_p, hLd_pa, hLd_pb⟩ := hLd_o
  have hBr_o := hBr
  obtain ⟨⟨hBr_F, hBr_a, hBr_0, hBr_1, hBr_2, hBr_3, hBr_4, hBr_5, hBr_6, hBr_7, hBr_8, hBr_9, hBr_10, hBr_11, hBr_12, hBr_13, hBr_14, hBr_15⟩, ⟨hBr_f1, hBr_a1, hBr_b1⟩, ⟨hBr_f2, hBr_a2, hBr_b2⟩, ⟨hBr_f3, hBr_a3, hBr_b3⟩, ⟨hBr_f4, hBr_a4, hBr_b4⟩, ⟨hBr_f5, hBr_a5, hBr_b5⟩, ⟨hBr_f6, hBr_a6, hBr_b6⟩, ⟨hBr_f7, hBr_a7, hBr_b7⟩, hBr_c1, hBr_c2, hBr_c3, hBr_c4, hBr_c5⟩ := hBr_o
  refine g_aload_n E dX1_hold_0 rfl rfl rfl ?_
  refine g_callV (k := 1000) (n9 := 0) (av := []) (st := []) E (ct_X1_anew l hSo) gciX1 dX1_hold_1 hSo_a q496 q498 qs2 q120 q499 (by decide +kernel) rfl rfl ⟨by decide, by decide⟩ ⟨by decide, by decide⟩ (Nat.le_of_ble_eq_true rfl) rfl (gPn.k (fun g1 h1 => ?_))
  obtain ⟨hs1, f1⟩ := h1
  have hs1_o := hs1
  obtain ⟨hs1_F, hs1_a, hs1_0, hs1_1, hs1_2, hs1_3, hs1_4, hs1_5, hs1_6, hs1_7, hs1_8, hs1_9, hs1_10, hs1_11, hs1_12, hs1_13, hs1_14, hs1_15, hs1_16, hs1_17, hs1_18, hs1_19⟩ := hs1_o
  refine g_aload_n E dX1_hold_4 rfl rfl rfl ?_
  refine g_iload_n E dX1_hold_5 rfl rfl rfl ?_
  have y2 := (hBr.fr hw (fun j9 a9 b9 => f1 j9 (by omega)))
  refine g_callV (k := 1000) (n9 := 1) (av := [.int p]) (st := []) E (ct_X1_isGood l p hw hs1 y2) gciX1 dX1_hold_6 hs1_a q1283 q1285 qs33 q120 q1286 (by decide +kernel) rfl rfl ⟨by decide, by decide⟩ ⟨by decide, by decide⟩ (Nat.le_of_ble_eq_true rfl) rfl (gPu.k ?_)
  refine g_if_eq E dX1_hold_9 (tgt := 20) (by decide) rfl (fun c9 => ?_) (fun c9 => ?_)
  · have c9 := zb_0.mp c9
    have q3 := isNone_of c9
    refine g_aload_n E dX1_hold_20 rfl rfl rfl ?_
    refine g_iconst E (v := 1) dX1_hold_21 (by decide) rfl ?_
    refine g_callV (k := 1000) (n9 := 1) (av := [.int 1]) (st := []) E (ct_X1_no l 1 hs1) gciX1 dX1_hold_22 hs1_a q503 q505 qs3 q120 q506 (by decide +kernel) rfl rfl ⟨by decide, by decide⟩ ⟨by decide, by decide⟩ (Nat.le_of_ble_eq_true rfl) rfl (gPi.k (fun g4 h4 => ?_))
    obtain ⟨hs4, f4⟩ := h4
    have hs4_o := hs4
    obtain ⟨hs4_F, hs4_a, hs4_0, hs4_1, hs4_2, hs4_3, hs4_4, hs4_5, hs4_6, hs4_7, hs4_8, hs4_9, hs4_10, hs4_11, hs4_12, hs4_13, hs4_14, hs4_15, hs4_16, hs4_17, hs4_18, hs4_19⟩ := hs4_o
    have hs5 : sHol B d p = ((-1), 1) := by first | (simp [sHol, c9, q3]; done) | (simp [sHol, c9, q3, qWy]; done)
    exact g_iret E Rt dX1_hold_25 rfl (by decide) (by decide) (by rw [hs5]; exact ⟨rfl, ⟨_, hs4_a, hs4_0, hs4_1, hs4_2, hs4_3, hs4_4, hs4_5, hs4_6, hs4_7, hs4_8, hs4_9, hs4_10, hs4_11, hs4_12, hs4_13, hs4_14, hs4_15, hs4_16, hs4_17, hs4_18, hs4_19⟩, fun j9 h9 => (f4 j9 (by omega)).trans (f1 j9 (by omega))⟩)
  · have c9 := zb_n0.mp c9
    obtain ⟨j, q6⟩ := isSome_of c9
    obtain ⟨rfl, q6_l⟩ := qI_some (by omega) q6
    refine g_aload_n E dX1_hold_12 rfl rfl rfl ?_
    refine g_iload_n E dX1_hold_13 rfl rfl rfl ?_
    have y7 := (hLd.fr  (fun j9 a9 b9 => f1 j9 (by omega)))
    have y8 := (hL1.fr  (fun j9 a9 b9 => f1 j9 (by omega)))
    refine g_callV (k := 1000) (n9 := 1) (av := [.int (nI j)]) (st := []) E (ct_X1_bestHold l j hw hs1 y7 y2 y8 (by omega)) gciX1 dX1_hold_14 hs1_a q1522 q1524 qs42 q120 q1525 (by decide +kernel) rfl rfl ⟨by decide, by decide⟩ ⟨by decide, by decide⟩ (Nat.le_of_ble_eq_true rfl) rfl (gPu.k ?_)
    refine g_goto E dX1_hold_17 (tgt := 25) (by decide) ?_
    have hs9 : sHol B d (nI j) = (nI (zBh B d j), 0) := by first | (simp [sHol, c9, q6]; done) | (simp [sHol, c9, q6, qWy]; done)
    exact g_iret E Rt dX1_hold_25 rfl (by decide) (by decide) (by rw [hs9]; exact ⟨rfl, ⟨_, hs1_a, hs1_0, hs1_1, hs1_2, hs1_3, hs1_4, hs1_5, hs1_6, hs1_7, hs1_8, hs1_9, hs1_10, hs1_11, hs1_12, hs1_13, hs1_14, hs1_15, hs1_16, hs1_17, hs1_18, hs1_19⟩, fun j9 h9 => f1 j9 (by omega)⟩)
set_option maxHeartbeats 1000000 in
theorem ct_X1_hold_N (l : Launch) {g : gWM} {tp mm um : Nat} {tr fa wh : Int32} (p : Int32) (hSo : pSo g .null tp tr fa wh mm um) : gCt l yX1_hold cX1_hold 2 (some .int) 1 0 0 21 [.ref 1000, .int p] g (gPi (sHol zB0 0 p).1 (fun g1 => pSo g1 .null tp (sHol zB0 0 p).2 fa (-1) mm um ∧ ∀ j, j ≠ 1000 → g1 j = g j)) := by
  refine gCt.of RX1 (by decide) rfl (lo := [some (.ref 1000), some (.int p)]) 0 rfl (Nat.le_of_ble_eq_true rfl) (fun z E Rt => ?_)
  have hSo_o := hSo
  obtain ⟨hSo_F, hSo_a, hSo_0, hSo_1, hSo_2, hSo_3, hSo_4, hSo_5, hSo_6, hSo_7, hSo_8, hSo_9, hSo_10, hSo_11, hSo_12, hSo_13, hSo_14, hSo_15, hSo_16, hSo_17, hSo_18, hSo_19⟩ := hSo_o
  refine g_aload_n E dX1_hold_0 rfl rfl rfl ?_
  refine g_callV (k := 1000) (n9 := 0) (av := []) (st := []) E (ct_X1_anew l hSo) gciX1 dX1_hold_1 hSo_a q496 q498 qs2 q120 q499 (by decide +kernel) rfl rfl ⟨by decide, by decide⟩ ⟨by decide, by decide⟩ (Nat.le_of_ble_eq_true rfl) rfl (gPn.k (fun g1 h1 => ?_))
  obtain ⟨hs1, f1⟩ := h1
  have hs1_o := hs1
  obtain ⟨hs1_F, hs1_a, hs1_0, hs1_1, hs1_2, hs1_3, hs1_4, hs1_5, hs1_6, hs1_7, hs1_8, hs1_9, hs1_10, hs1_11, hs1_12, hs1_13, hs1_14, hs1_15, hs1_16, hs1_17, hs1_18, hs1_19⟩ := hs1_o
  refine g_aload_n E dX1_hold_4 rfl rfl rfl ?_
  refine g_iload_n E dX1_hold_5 rfl rfl rfl ?_
  refine g_callV (k := 1000) (n9 := 1) (av := [.int p]) (st := []) E (ct_X1_isGood_N l p hs1) gciX1 dX1_hold_6 hs1_a q1283 q1285 qs33 q120 q1286 (by decide +kernel) rfl rfl ⟨by decide, by decide⟩ ⟨by decide, by decide⟩ (Nat.le_of_ble_eq_true rfl) rfl (gPu.k ?_)
  refine g_if_eq E dX1_hold_9 (tgt := 20) (by decide) rfl (fun _ => ?_) (fun h9 => absurd h9 (by decide))
  refine g_aload_n E dX1_hold_20 rfl rfl rfl ?_
  refine g_iconst E (v := 1) dX1_hold_21 (by decide) rfl ?_
  refine g_callV (k := 1000) (n9 := 1) (av := [.int 1]) (st := []) E (ct_X1_no l 1 hs1) gciX1 dX1_hold_22 hs1_a q503 q505 qs3 q120 q506 (by decide +kernel) rfl rfl ⟨by decide, by decide⟩ ⟨by decide, by decide⟩ (Nat.le_of_ble_eq_true rfl) rfl (gPi.k (fun g2 h2 => ?_))
  obtain ⟨hs2, f2⟩ := h2
  have hs2_o := hs2
  obtain ⟨hs2_F, hs2_a, hs2_0, hs2_1, hs2_2, hs2_3, hs2_4, hs2_5, hs2_6, hs2_7, hs2_8, hs2_9, hs2_10, hs2_11, hs2_12, hs2_13, hs2_14, hs2_15, hs2_16, hs2_17, hs2_18, hs2_19⟩ := hs2_o
  have hs3 : sHol zB0 0 p = ((-1), 1) := by first | (simp [sHol, qI_z, qWy]; done) | (simp [sHol, qI_z, qWy, qWy]; done)
  exact g_iret E Rt dX1_hold_25 rfl (by decide) (by decide) (by rw [hs3]; exact ⟨rfl, ⟨_, hs2_a, hs2_0, hs2_1, hs2_2, hs2_3, hs2_4, hs2_5, hs2_6, hs2_7, hs2_8, hs2_9, hs2_10, hs2_11, hs2_12, hs2_13, hs2_14, hs2_15, hs2_16, hs2_17, hs2_18, hs2_19⟩, fun j9 h9 => (f2 j9 (by omega)).trans (f1 j9 (by omega))⟩)
set_option maxHeartbeats 1000000 in
theorem ct_X1_holdGain (l : Launch) {g : gWM} {bb : Nat} {B : gBar} {R : Nat → Int32} {d : Int32} {tp mm um : Nat} {tr fa wh : Int32} (p : Int32) (hw : wfB B) (hSo : pSo g (.ref bb) tp tr fa wh mm um) (hLd : pLd g 1010 (.ref bb) B R d) (hBr : pBr g bb B) (hL1 : pLw g 1005 1) (hL2 : pLw g 1006 2) (hb9 : 10000 ≤ bb) : gCt l yX1_holdGain cX1_holdGain 2 (some .int) 6 0 0 130 [.ref 1000, .int p] g (gPi (sHog B d p).1 (fun g1 => pSo g1 (.ref bb) tp (sHog B d p).2 fa (-1) mm um ∧ ∀ j, j ≠ 1000 → g1 j = g j)) := by
  refine gCt.of RX1 (by decide) rfl (lo := [some (.ref 1000), some (.int p)]) 0 rfl (Nat.le_of_ble_eq_true rfl) (fun z E Rt => ?_)
  have hw_n := hw.1
  have hSo_o := hSo
  obtain ⟨hSo_F, hSo_a, hSo_0, hSo_1, hSo_2, hSo_3, hSo_4, hSo_5, hSo_6, hSo_7, hSo_8, hSo_9, hSo_10, hSo_11, hSo_12, hSo_13, hSo_14, hSo_15, hSo_16, hSo_17, hSo_18, hSo_19⟩ := hSo_o
  have hLd_o := hLd
  obtain ⟨⟨hLd_F, hLd_a, hLd_0, hLd_1, hLd_2, hLd_3, hLd_4, hLd_5⟩, ⟨hLd_s, hLd_sa, hLd_sb⟩, ⟨hLd_e, hLd_ea, hLd_eb⟩, hLd_p, hLd_pa, hLd_pb⟩ := hLd_o
  have hBr_o := hBr
  obtain ⟨⟨hBr_F, hBr_a, hBr_0, hBr_1, hBr_2, hBr_3, hBr_4, hBr_5, hBr_6, hBr_7, hBr_8, hBr_9, hBr_10, hBr_11, hBr_12, hBr_13, hBr_14, hBr_15⟩, ⟨hBr_f1, hBr_a1, hBr_b1⟩, ⟨hBr_f2, hBr_a2, hBr_b2⟩, ⟨hBr_f3, hBr_a3, hBr_b3⟩, ⟨hBr_f4, hBr_a4, hBr_b4⟩, ⟨hBr_f5, hBr_a5, hBr_b5⟩, ⟨hBr_f6, hBr_a6, hBr_b6⟩, ⟨hBr_f7, hBr_a7, hBr_b7⟩, hBr_c1, hBr_c2, hBr_c3, hBr_c4, hBr_c5⟩ := hBr_o
  refine g_aload_n E dX1_holdGain_0 rfl rfl rfl ?_
  refine g_callV (k := 1000) (n9 := 0) (av := []) (st := []) E (ct_X1_anew l hSo) gciX1 dX1_holdGain_1 hSo_a q496 q498 qs2 q120 q499 (by decide +kernel) rfl rfl ⟨by decide, by decide⟩ ⟨by decide, by decide⟩ (Nat.le_of_ble_eq_true rfl) rfl (gPn.k (fun g1 h1 => ?_))
  obtain ⟨hs1, f1⟩ := h1
  have hs1_o := hs1
  obtain ⟨hs1_F, hs1_a, hs1_0, hs1_1, hs1_2, hs1_3, hs1_4, hs1_5, hs1_6, hs1_7, hs1_8, hs1_9, hs1_10, hs1_11, hs1_12, hs1_13, hs1_14, hs1_15, hs1_16, hs1_17, hs1_18, hs1_19⟩ := hs1_o
  refine g_aload_n E dX1_holdGain_4 rfl rfl rfl ?_
  refine g_iload_n E dX1_holdGain_5 rfl rfl rfl ?_
  have y2 := (hBr.fr hw (fun j9 a9 b9 => f1 j9 (by omega)))
  refine g_callV (k := 1000) (n9 := 1) (av := [.int p]) (st := []) E (ct_X1_isGood l p hw hs1 y2) gciX1 dX1_holdGain_6 hs1_a q1283 q1285 qs33 q120 q1286 (by decide +kernel) rfl rfl ⟨by decide, by decide⟩ ⟨by decide, by decide⟩ (Nat.le_of_ble_eq_true rfl) rfl (gPu.k ?_)
  refine g_if_eq E dX1_holdGain_9 (tgt := 25) (by decide) rfl (fun c9 => ?_) (fun c9 => ?_)
  · have c9 := zb_0.mp c9
    have q3 := isNone_of c9
    refine g_aload_n E dX1_holdGain_25 rfl rfl rfl ?_
    refine g_iconst E (v := 1) dX1_holdGain_26 (by decide) rfl ?_
    refine g_callV (k := 1000) (n9 := 1) (av := [.int 1]) (st := []) E (ct_X1_less l 1 hs1) gciX1 dX1_holdGain_27 hs1_a q1534 q1536 qs44 q120 q1537 (by decide +kernel) rfl rfl ⟨by decide, by decide⟩ ⟨by decide, by decide⟩ (Nat.le_of_ble_eq_true rfl) rfl (gPi.k (fun g4 h4 => ?_))
    obtain ⟨hs4, f4⟩ := h4
    have hs4_o := hs4
    obtain ⟨hs4_F, hs4_a, hs4_0, hs4_1, hs4_2, hs4_3, hs4_4, hs4_5, hs4_6, hs4_7, hs4_8, hs4_9, hs4_10, hs4_11, hs4_12, hs4_13, hs4_14, hs4_15, hs4_16, hs4_17, hs4_18, hs4_19⟩ := hs4_o
    have hs5 : sHog B d p = ((-10000), 1) := by first | (simp [sHog, c9, q3]; done) | (simp [sHog, c9, q3, qWy]; done)
    exact g_iret E Rt dX1_holdGain_30 rfl (by decide) (by decide) (by rw [hs5]; exact ⟨rfl, ⟨_, hs4_a, hs4_0, hs4_1, hs4_2, hs4_3, hs4_4, hs4_5, hs4_6, hs4_7, hs4_8, hs4_9, hs4_10, hs4_11, hs4_12, hs4_13, hs4_14, hs4_15, hs4_16, hs4_17, hs4_18, hs4_19⟩, fun j9 h9 => (f4 j9 (by omega)).trans (f1 j9 (by omega))⟩)
  · have c9 := zb_n0.mp c9
    obtain ⟨j, q6⟩ := isSome_of c9
    obtain ⟨rfl, q6_l⟩ := qI_some (by omega) q6
    refine g_aload_n E dX1_holdGain_12 rfl rfl rfl ?_
    refine g_iload_n E dX1_holdGain_13 rfl rfl rfl ?_
    refine g_aload_n E dX1_holdGain_14 rfl rfl rfl ?_
    refine g_iload_n E dX1_holdGain_15 rfl rfl rfl ?_
    have y7 := (hLd.fr  (fun j9 a9 b9 => f1 j9 (by omega)))
    have y8 := (hL1.fr  (fun j9 a9 b9 => f1 j9 (by omega)))
    refine g_callV (k := 1000) (n9 := 1) (av := [.int (nI j)]) (st := [.int (nI j), .ref 1000]) E (ct_X1_bestHold l j hw hs1 y7 y2 y8 (by omega)) gciX1 dX1_holdGain_16 hs1_a q1522 q1524 qs42 q120 q1525 (by decide +kernel) rfl rfl ⟨by decide, by decide⟩ ⟨by decide, by decide⟩ (Nat.le_of_ble_eq_true rfl) rfl (gPu.k ?_)
    refine g_callV (k := 1000) (n9 := 2) (av := [.int (nI j), .int (nI (zBh B d j))]) (st := []) E (ct_X1_holdOf l j (zBh B d j) hw hs1 y7 y2 y8 (by omega)) gciX1 dX1_holdGain_19 hs1_a q1526 q1528 qs43 q120 q1529 (by decide +kernel) rfl rfl ⟨by decide, by decide⟩ ⟨by decide, by decide⟩ (Nat.le_of_ble_eq_true rfl) rfl (gPu.k ?_)
    refine g_goto E dX1_holdGain_22 (tgt := 30) (by decide) ?_
    have hs9 : sHog B d (nI j) = (zHo B d j (zBh B d j), 0) := by first | (simp [sHog, c9, q6]; done) | (simp [sHog, c9, q6, qWy]; done)
    exact g_iret E Rt dX1_holdGain_30 rfl (by decide) (by decide) (by rw [hs9]; exact ⟨rfl, ⟨_, hs1_a, hs1_0, hs1_1, hs1_2, hs1_3, hs1_4, hs1_5, hs1_6, hs1_7, hs1_8, hs1_9, hs1_10, hs1_11, hs1_12, hs1_13, hs1_14, hs1_15, hs1_16, hs1_17, hs1_18, hs1_19⟩, fun j9 h9 => f1 j9 (by omega)⟩)
set_option maxHeartbeats 1000000 in
theorem ct_X1_holdGain_N (l : Launch) {g : gWM} {tp mm um : Nat} {tr fa wh : Int32} (p : Int32) (hSo : pSo g .null tp tr fa wh mm um) : gCt l yX1_holdGain cX1_holdGain 2 (some .int) 1 0 0 21 [.ref 1000, .int p] g (gPi (sHog zB0 0 p).1 (fun g1 => pSo g1 .null tp (sHog zB0 0 p).2 fa (-1) mm um ∧ ∀ j, j ≠ 1000 → g1 j = g j)) := by
  refine gCt.of RX1 (by decide) rfl (lo := [some (.ref 1000), some (.int p)]) 0 rfl (Nat.le_of_ble_eq_true rfl) (fun z E Rt => ?_)
  have hSo_o := hSo
  obtain ⟨hSo_F, hSo_a, hSo_0, hSo_1, hSo_2, hSo_3, hSo_4, hSo_5, hSo_6, hSo_7, hSo_8, hSo_9, hSo_10, hSo_11, hSo_12, hSo_13, hSo_14, hSo_15, hSo_16, hSo_17, hSo_18, hSo_19⟩ := hSo_o
  refine g_aload_n E dX1_holdGain_0 rfl rfl rfl ?_
  refine g_callV (k := 1000) (n9 := 0) (av := []) (st := []) E (ct_X1_anew l hSo) gciX1 dX1_holdGain_1 hSo_a q496 q498 qs2 q120 q499 (by decide +kernel) rfl rfl ⟨by decide, by decide⟩ ⟨by decide, by decide⟩ (Nat.le_of_ble_eq_true rfl) rfl (gPn.k (fun g1 h1 => ?_))
  obtain ⟨hs1, f1⟩ := h1
  have hs1_o := hs1
  obtain ⟨hs1_F, hs1_a, hs1_0, hs1_1, hs1_2, hs1_3, hs1_4, hs1_5, hs1_6, hs1_7, hs1_8, hs1_9, hs1_10, hs1_11, hs1_12, hs1_13, hs1_14, hs1_15, hs1_16, hs1_17, hs1_18, hs1_19⟩ := hs1_o
  refine g_aload_n E dX1_holdGain_4 rfl rfl rfl ?_
  refine g_iload_n E dX1_holdGain_5 rfl rfl rfl ?_
  refine g_callV (k := 1000) (n9 := 1) (av := [.int p]) (st := []) E (ct_X1_isGood_N l p hs1) gciX1 dX1_holdGain_6 hs1_a q1283 q1285 qs33 q120 q1286 (by decide +kernel) rfl rfl ⟨by decide, by decide⟩ ⟨by decide, by decide⟩ (Nat.le_of_ble_eq_true rfl) rfl (gPu.k ?_)
  refine g_if_eq E dX1_holdGain_9 (tgt := 25) (by decide) rfl (fun _ => ?_) (fun h9 => absurd h9 (by decide))
  refine g_aload_n E dX1_holdGain_25 rfl rfl rfl ?_
  refine g_iconst E (v := 1) dX1_holdGain_26 (by decide) rfl ?_
  refine g_callV (k := 1000) (n9 := 1) (av := [.int 1]) (st := []) E (ct_X1_less l 1 hs1) gciX1 dX1_holdGain_27 hs1_a q1534 q1536 qs44 q120 q1537 (by decide +kernel) rfl rfl ⟨by decide, by decide⟩ ⟨by decide, by decide⟩ (Nat.le_of_ble_eq_true rfl) rfl (gPi.k (fun g2 h2 => ?_))
  obtain ⟨hs2, f2⟩ := h2
  have hs2_o := hs2
  obtain ⟨hs2_F, hs2_a, hs2_0, hs2_1, hs2_2, hs2_3, hs2_4, hs2_5, hs2_6, hs2_7, hs2_8, hs2_9, hs2_10, hs2_11, hs2_12, hs2_13, hs2_14, hs2_15, hs2_16, hs2_17, hs2_18, hs2_19⟩ := hs2_o
  have hs3 : sHog zB0 0 p = ((-10000), 1) := by first | (simp [sHog, qI_z, qWy]; done) | (simp [sHog, qI_z, qWy, qWy]; done)
  exact g_iret E Rt dX1_holdGain_30 rfl (by decide) (by decide) (by rw [hs3]; exact ⟨rfl, ⟨_, hs2_a, hs2_0, hs2_1, hs2_2, hs2_3, hs2_4, hs2_5, hs2_6, hs2_7, hs2_8, hs2_9, hs2_10, hs2_11, hs2_12, hs2_13, hs2_14, hs2_15, hs2_16, hs2_17, hs2_18, hs2_19⟩, fun j9 h9 => (f2 j9 (by omega)).trans (f1 j9 (by omega))⟩)
