/-! THE MODEL, walks, tenth: what is taken, numbers, names -/
set_option maxRecDepth 100000
set_option maxHeartbeats 400000 in
theorem ct_X13_goesOn_L (l : Launch) {g : gWM} {F0 : Nat → Value} {kw : Bool} {e : Nat × Nat} {T : Nat → Int32} {n : Nat} (hM : pMr g F0 kw (.inl e)) : gCt l yX13_goesOn cX13_goesOn 3 none 1 0 0 21 [.ref 2000] g (gPn (fun g1 => pMr g1 F0 kw (xGo T n (.inl e)) ∧ ∀ j, j ≠ 2000 → g1 j = g j)) := by
  refine gCt.of RX13 (by decide) rfl (lo := [some (.ref 2000), none, none]) 2 rfl (Nat.le_of_ble_eq_true rfl) (fun z E Rt => ?_)
  obtain ⟨hM_F, hM_a, hM_r, hM_9, hM_12, hM_13, hM_k⟩ := hM
  refine g_aload_n E dX13_goesOn_0 rfl rfl rfl ?_
  refine g_getf E gciX13 dX13_goesOn_1 hM_a 9 rfl (by decide) q1749 (.inl rfl) (.int 5) (hM_9) rfl ?_
  refine g_iconst E (v := 5) dX13_goesOn_4 (by decide) rfl ?_
  refine g_icmp_ne E dX13_goesOn_5 (tgt := 9) (by decide) rfl (fun h9 => absurd h9 (by decide)) (fun _ => ?_)
  exact g_vret E Rt dX13_goesOn_8 rfl (by decide) (by decide) (⟨rfl, ⟨_, hM_a, hM_r, hM_9, hM_12, hM_13, hM_k⟩, fun j9 h9 => rfl⟩)
theorem ct_X13_goesOn (l : Launch) {g : gWM} {n mb : Nat} {T : Nat → Int32} {F0 : Nat → Value} {kw : Bool} {x : zEr zTk} (hF0 : pF0 F0 mb n) (hM : pMr g F0 kw x) (hTp : pTp g 2001 T n) (hn : n ≤ 1100) (hok : xOk n x) (hnb : xNb x) : gCt l yX13_goesOn cX13_goesOn 3 none 1 0 0 21 [.ref 2000] g (gPn (fun g1 => pMr g1 F0 kw (xGo T n x) ∧ ∀ j, j ≠ 2000 → g1 j = g j)) := by
  cases x with
  | inl e => exact ct_X13_goesOn_L l hM
  | inr t => exact ct_X13_goesOn_Q l hF0 (hM.go hnb) hTp hn hok.1 (zSo_5 _)
set_option maxHeartbeats 400000 in
theorem ct_X13_isWord_R (l : Launch) {g : gWM} {n : Nat} {F0 : Nat → Value} {kw : Bool} {t : zTk} {j : Nat} {q9 : String × Nat × String} (hM : pMr g F0 kw (.inr t)) (hok : zOk n t) (hj : gSites[j]? = some q9) (hwo : zWo (gByt q9.2.2)) : gCt l yX13_isWord cX13_isWord 2 (some .boolean) 5 0 0 108 [.ref 2000, .ref (1 + 2 * j)] g (gPu (.int (zb (decide (t.2.1 = 2 ∧ t.2.2.2.2 = gByt q9.2.2)))) g) := by
  refine gCt.of RX13 (by decide) rfl (lo := [some (.ref 2000), some (.ref (1 + 2 * j))]) 0 rfl (Nat.le_of_ble_eq_true rfl) (fun z E Rt => ?_)
  have hM_o := hM
  obtain ⟨hM_F, hM_a, hM_r, hM_9, hM_12, hM_8, hM_10, hM_11, hM_14, hM_k⟩ := hM_o
  have hj_l := gS_l hj
  refine g_aload_n E dX13_isWord_0 rfl rfl rfl ?_
  refine g_getf E gciX13 dX13_isWord_1 hM_a 9 rfl (by decide) q1749 (.inl rfl) (.int (zSo t.2.1)) (hM_9) rfl ?_
  refine g_iconst E (v := 2) dX13_isWord_4 (by decide) rfl ?_
  refine g_icmp_ne E dX13_isWord_5 (tgt := 24) (by decide) rfl (fun c5 => ?_) (fun c5 => ?_)
  · refine g_iconst E (v := 0) dX13_isWord_24 (by decide) rfl ?_
    exact g_zret E Rt dX13_isWord_25 rfl (by decide) (by decide) (by decide) (⟨congrArg (fun x => some (Value.int x)) (show 0 = zb (decide _) by rw [(decide_eq_false (fun h9 => c5 (zSo_2.mpr h9.1)))]; rfl), rfl⟩)
  · have h2 := zSo_2.mp (by first | exact c5 | exact Classical.not_not.mp c5)
    refine g_aload_n E dX13_isWord_8 rfl rfl rfl ?_
    refine g_getf E gciX13 dX13_isWord_9 hM_a 14 rfl (by decide) q1754 (.inl rfl) (.long (pk (t.2.2.2.2))) (hM_14 h2) rfl ?_
    refine g_aload_n E dX13_isWord_12 rfl rfl rfl ?_
    refine g_callS (n9 := 1) (av := [.ref (1 + 2 * j)]) (st := [.long (pk (t.2.2.2.2))]) E (ct_X13_packed l hj hwo) dX13_isWord_13 q2017 q2018 q135 q2019 (by decide +kernel) rfl rfl ⟨by decide, by decide⟩ ⟨by decide, by decide⟩ (Nat.le_of_ble_eq_true rfl) rfl (gPu.k ?_)
    refine g_lcmp E dX13_isWord_16 rfl ?_
    refine g_if_ne E dX13_isWord_17 (tgt := 24) (by decide) rfl (fun c17 => ?_) (fun c17 => ?_)
    · refine g_iconst E (v := 0) dX13_isWord_24 (by decide) rfl ?_
      exact g_zret E Rt dX13_isWord_25 rfl (by decide) (by decide) (by decide) (⟨congrArg (fun x => some (Value.int x)) (show 0 = zb (decide _) by rw [(decide_eq_false (fun h9 => c17 (lg_cmp_0.mpr (by rw [h9.2]))))]; rfl), rfl⟩)
    · refine g_iconst E (v := 1) dX13_isWord_20 (by decide) rfl ?_
      refine g_goto E dX13_isWord_21 (tgt := 25) (by decide) ?_
      exact g_zret E Rt dX13_isWord_25 rfl (by decide) (by decide) (by decide) (⟨congrArg (fun x => some (Value.int x)) (show 1 = zb (decide _) by rw [(decide_eq_true ⟨h2, pk_inj (hok.2.2.2.1 h2) hwo (lg_cmp_0.mp c17)⟩)]; rfl), rfl⟩)
set_option maxHeartbeats 400000 in
theorem ct_X13_isWord_L (l : Launch) {g : gWM} {n : Nat} {F0 : Nat → Value} {kw : Bool} {e : Nat × Nat} {j : Nat} {q9 : String × Nat × String} (hM : pMr g F0 kw (.inl e)) (hj : gSites[j]? = some q9) : gCt l yX13_isWord cX13_isWord 2 (some .boolean) 5 0 0 108 [.ref 2000, .ref (1 + 2 * j)] g (gPu (.int 0) g) := by
  refine gCt.of RX13 (by decide) rfl (lo := [some (.ref 2000), some (.ref (1 + 2 * j))]) 0 rfl (Nat.le_of_ble_eq_true rfl) (fun z E Rt => ?_)
  have hM_o := hM
  obtain ⟨hM_F, hM_a, hM_r, hM_9, hM_12, hM_13, hM_k⟩ := hM_o
  have hj_l := gS_l hj
  refine g_aload_n E dX13_isWord_0 rfl rfl rfl ?_
  refine g_getf E gciX13 dX13_isWord_1 hM_a 9 rfl (by decide) q1749 (.inl rfl) (.int 5) (hM_9) rfl ?_
  refine g_iconst E (v := 2) dX13_isWord_4 (by decide) rfl ?_
  refine g_icmp_ne E dX13_isWord_5 (tgt := 24) (by decide) rfl (fun _ => ?_) (fun h9 => absurd h9 (by decide))
  refine g_iconst E (v := 0) dX13_isWord_24 (by decide) rfl ?_
  exact g_zret E Rt dX13_isWord_25 rfl (by decide) (by decide) (by decide) (⟨rfl, rfl⟩)
theorem ct_X13_isWord (l : Launch) {g : gWM} {n : Nat} {F0 : Nat → Value} {kw : Bool} {x : zEr zTk} {j : Nat} {q9 : String × Nat × String} (hM : pMr g F0 kw x) (hok : xOk n x) (hj : gSites[j]? = some q9) (hwo : zWo (gByt q9.2.2)) : gCt l yX13_isWord cX13_isWord 2 (some .boolean) 5 0 0 108 [.ref 2000, .ref (1 + 2 * j)] g (gPu (.int (zb (wIs x (gByt q9.2.2)))) g) := by
  cases x with
  | inl e => exact ct_X13_isWord_L l (n := n) hM hj
  | inr t => exact ct_X13_isWord_R l hM hok hj hwo
set_option maxHeartbeats 400000 in
theorem ct_X13_needs (l : Launch) {g : gWM} {n mb : Nat} {T : Nat → Int32} {F0 : Nat → Value} {kw : Bool} {x : zEr zTk} {j : Nat} {q9 : String × Nat × String} (hF0 : pF0 F0 mb n) (hM : pMr g F0 kw (x)) (hTp : pTp g 2001 T n) (hn : n ≤ 1100) (hok : xOk n x) (hj : gSites[j]? = some q9) (hwo : zWo (gByt q9.2.2)) : gCt l yX13_needs cX13_needs 2 none 6 0 0 129 [.ref 2000, .ref (1 + 2 * j)] g (gPn (fun g1 => pMr g1 F0 kw (zBd x (zMu T n (gByt q9.2.2))) ∧ ∀ j, j ≠ 2000 → g1 j = g j)) := by
  refine gCt.of RX13 (by decide) rfl (lo := [some (.ref 2000), some (.ref (1 + 2 * j))]) 0 rfl (Nat.le_of_ble_eq_true rfl) (fun z E Rt => ?_)
  have hF0_o := hF0
  obtain ⟨hF0_4, hF0_5, hF0_7⟩ := hF0_o
  have hM_o := hM
  obtain ⟨hM_F, hM_a, hM_r, hM_s⟩ := hM_o
  have hTp_o := hTp
  obtain ⟨hTp_f, hTp_a, hTp_b⟩ := hTp_o
  have hj_l := gS_l hj
  refine g_aload_n E dX13_needs_0 rfl rfl rfl ?_
  refine g_aload_n E dX13_needs_1 rfl rfl rfl ?_
  refine g_callV (k := 2000) (n9 := 1) (av := [.ref (1 + 2 * j)]) (st := []) E (ct_X13_isWord l hM hok hj hwo) gciX13 dX13_needs_2 hM_a q2013 q2015 qs57 q135 q2016 (by decide +kernel) rfl rfl ⟨by decide, by decide⟩ ⟨by decide, by decide⟩ (Nat.le_of_ble_eq_true rfl) rfl (gPu.k ?_)
  refine g_if_ne E dX13_needs_5 (tgt := 13) (by decide) rfl (fun c5 => ?_) (fun c5 => ?_)
  · have c5 := zb_n0.mp c5
    refine g_aload_n E dX13_needs_13 rfl rfl rfl ?_
    refine g_callV (k := 2000) (n9 := 0) (av := []) (st := []) E (ct_X13_goesOn l hF0 hM hTp (by omega) hok (wIs_nb c5)) gciX13 dX13_needs_14 hM_a q1989 q1991 qs53 q135 q1992 (by decide +kernel) rfl rfl ⟨by decide, by decide⟩ ⟨by decide, by decide⟩ (Nat.le_of_ble_eq_true rfl) rfl (gPn.k (fun g1 h1 => ?_))
    obtain ⟨hm1, f1⟩ := h1
    obtain ⟨x1, hx1⟩ : ∃ y, y = xGo T n x := ⟨_, rfl⟩
    rw [← hx1] at hm1
    have hm1_o := hm1
    obtain ⟨hm1_F, hm1_a, hm1_r, hm1_s⟩ := hm1_o
    exact g_vret E Rt dX13_needs_17 rfl (by decide) (by decide) (⟨rfl, by rw [← mu_y c5, ← hx1]; exact hm1, fun j9 h9 => f1 j9 (by omega)⟩)
  · have c5 := zb_0.mp c5
    refine g_aload_n E dX13_needs_8 rfl rfl rfl ?_
    refine g_iconst E (v := 1) dX13_needs_9 (by decide) rfl ?_
    refine g_callV (k := 2000) (n9 := 1) (av := [.int 1]) (st := []) E (ct_X13_flaw l 1 hM) gciX13 dX13_needs_10 hM_a q2052 q2054 qs59 q135 q2055 (by decide +kernel) rfl rfl ⟨by decide, by decide⟩ ⟨by decide, by decide⟩ (Nat.le_of_ble_eq_true rfl) rfl (gPn.k (fun g2 h2 => ?_))
    obtain ⟨hm2, f2⟩ := h2
    obtain ⟨x2, hx2⟩ : ∃ y, y = xFl 1 x := ⟨_, rfl⟩
    rw [← hx2] at hm2
    have hm2_o := hm2
    obtain ⟨hm2_F, hm2_a, hm2_r, hm2_s⟩ := hm2_o
    refine g_aload_n E dX13_needs_13 rfl rfl rfl ?_
    have y3 := (hTp.fr  (fun j9 a9 b9 => f2 j9 (by omega)))
    refine g_callV (k := 2000) (n9 := 0) (av := []) (st := []) E (ct_X13_goesOn l hF0 hm2 y3 (by omega) (by rw [hx2]; cases x <;> trivial) (by rw [hx2]; cases x <;> trivial)) gciX13 dX13_needs_14 hm2_a q1989 q1991 qs53 q135 q1992 (by decide +kernel) rfl rfl ⟨by decide, by decide⟩ ⟨by decide, by decide⟩ (Nat.le_of_ble_eq_true rfl) rfl (gPn.k (fun g4 h4 => ?_))
    obtain ⟨hm4, f4⟩ := h4
    obtain ⟨x4, hx4⟩ : ∃ y, y = xGo T n x2 := ⟨_, rfl⟩
    rw [← hx4] at hm4
    have hm4_o := hm4
    obtain ⟨hm4_F, hm4_a, hm4_r, hm4_s⟩ := hm4_o
    exact g_vret E Rt dX13_needs_17 rfl (by decide) (by decide) (⟨rfl, by rw [← mu_n c5, ← hx2, ← hx4]; exact hm4, fun j9 h9 => (f4 j9 (by omega)).trans (f2 j9 (by omega))⟩)
set_option maxHeartbeats 400000 in
theorem ct_X13_readWhole_R (l : Launch) {g : gWM} {n mb : Nat} {T : Nat → Int32} {F0 : Nat → Value} {kw : Bool} {t : zTk} (lo hi : Nat) (hF0 : pF0 F0 mb n) (hM : pMr g F0 kw (.inr t)) (hTp : pTp g 2001 T n) (hn : n ≤ 1100) (hok : zOk n t) (hl9 : lo ≤ 400) (hh9 : hi ≤ 400) : gCt l yX13_readWhole cX13_readWhole 4 (some .int) 2 0 0 43 [.ref 2000, .int (nI lo), .int (nI hi)] g (gPi (nI (zVl lo (zBd (.inr t) (zNu T n lo hi)))) (fun g1 => pMr g1 F0 kw (zSt (zBd (.inr t) (zNu T n lo hi))) ∧ ∀ j, j ≠ 2000 → g1 j = g j)) := by
  refine gCt.of RX13 (by decide) rfl (lo := [some (.ref 2000), some (.int (nI lo)), some (.int (nI hi)), none]) 1 rfl (Nat.le_of_ble_eq_true rfl) (fun z E Rt => ?_)
  have hF0_o := hF0
  obtain ⟨hF0_4, hF0_5, hF0_7⟩ := hF0_o
  have hM_o := hM
  obtain ⟨hM_F, hM_a, hM_r, hM_9, hM_12, hM_8, hM_10, hM_11, hM_14, hM_k⟩ := hM_o
  have hTp_o := hTp
  obtain ⟨hTp_f, hTp_a, hTp_b⟩ := hTp_o
  refine g_aload_n E dX13_readWhole_0 rfl rfl rfl ?_
  refine g_getf E gciX13 dX13_readWhole_1 hM_a 9 rfl (by decide) q1749 (.inl rfl) (.int (zSo t.2.1)) (hM_9) rfl ?_
  refine g_iconst E (v := 3) dX13_readWhole_4 (by decide) rfl ?_
  refine g_icmp_eq E dX13_readWhole_5 (tgt := 16) (by decide) rfl (fun c5 => ?_) (fun c5 => ?_)
  · have h3 := zSo_3.mp c5
    have hwh := hok.2.2.2.2 h3
    refine g_aload_n E dX13_readWhole_16 rfl rfl rfl ?_
    refine g_getf E gciX13 dX13_readWhole_17 hM_a 11 rfl (by decide) q1751 (.inl rfl) (.int (nI (t.2.2.2.1))) (hM_11 h3) rfl ?_
    refine g_iload_n E dX13_readWhole_20 rfl rfl rfl ?_
    refine g_iload_n E dX13_readWhole_21 rfl rfl rfl ?_
    refine g_callS (n9 := 3) (av := [.int (nI (t.2.2.2.1)), .int (nI lo), .int (nI hi)]) (st := []) E (ct_X13_in l (nI (t.2.2.2.1)) (nI lo) (nI hi)) dX13_readWhole_22 q2069 q2070 q135 q2071 (by decide +kernel) rfl rfl ⟨by decide, by decide⟩ ⟨by decide, by decide⟩ (Nat.le_of_ble_eq_true rfl) rfl (gPu.k ?_)
    refine g_if_ne E dX13_readWhole_25 (tgt := 33) (by decide) rfl (fun c25 => ?_) (fun c25 => ?_)
    · have c25 := zb_n0.mp c25
      refine g_aload_n E dX13_readWhole_33 rfl rfl rfl ?_
      refine g_getf E gciX13 dX13_readWhole_34 hM_a 9 rfl (by decide) q1749 (.inl rfl) (.int (zSo t.2.1)) (hM_9) rfl ?_
      refine g_iconst E (v := 5) dX13_readWhole_37 (by decide) rfl ?_
      refine g_icmp_ne E dX13_readWhole_38 (tgt := 45) (by decide) rfl (fun c38 => ?_) (fun c38 => ?_)
      · refine g_aload_n E dX13_readWhole_45 rfl rfl rfl ?_
        refine g_getf E gciX13 dX13_readWhole_46 hM_a 11 rfl (by decide) q1751 (.inl rfl) (.int (nI (t.2.2.2.1))) (hM_11 h3) rfl ?_
        refine g_istore_n E dX13_readWhole_49 rfl (by decide) rfl (lo1 := [some (.ref 2000), some (.int (nI lo)), some (.int (nI hi)), some (.int (nI (t.2.2.2.1)))]) rfl rfl ?_
        refine g_aload_n E dX13_readWhole_50 rfl rfl rfl ?_
        refine g_callV (k := 2000) (n9 := 0) (av := []) (st := []) E (ct_X13_goesOn l hF0 hM hTp (by omega) hok (show t.2.1 ≠ 1 by rw [h3]; decide)) gciX13 dX13_readWhole_51 hM_a q1989 q1991 qs53 q135 q1992 (by decide +kernel) rfl rfl ⟨by decide, by decide⟩ ⟨by decide, by decide⟩ (Nat.le_of_ble_eq_true rfl) rfl (gPn.k (fun g1 h1 => ?_))
        obtain ⟨hm1, f1⟩ := h1
        have hm1 : pMr g1 F0 kw (.inr (zTn T n t.1)) := hm1
        have hm1_o := hm1
        obtain ⟨hm1_F, hm1_a, hm1_r, hm1_9, hm1_12, hm1_8, hm1_10, hm1_11, hm1_14, hm1_k⟩ := hm1_o
        refine g_iload_n E dX13_readWhole_54 rfl rfl rfl ?_
        have he2 : zBd (.inr t) (zNu T n lo hi) = _ := zNu_y h3 (zIn_N (by omega) (by omega) (by omega) c25).1 (zIn_N (by omega) (by omega) (by omega) c25).2
        exact g_iret E Rt dX13_readWhole_55 rfl (by decide) (by decide) (by rw [he2]; exact ⟨rfl, hm1, fun j9 h9 => f1 j9 (by omega)⟩)
      · exact absurd (by first | exact c38 | exact Classical.not_not.mp c38) (zSo_5 _)
    · have c25 := zb_0.mp c25
      refine g_aload_n E dX13_readWhole_28 rfl rfl rfl ?_
      refine g_iconst E (v := 4) dX13_readWhole_29 (by decide) rfl ?_
      refine g_callV (k := 2000) (n9 := 1) (av := [.int 4]) (st := []) E (ct_X13_flaw l 4 hM) gciX13 dX13_readWhole_30 hM_a q2052 q2054 qs59 q135 q2055 (by decide +kernel) rfl rfl ⟨by decide, by decide⟩ ⟨by decide, by decide⟩ (Nat.le_of_ble_eq_true rfl) rfl (gPn.k (fun g3 h3 => ?_))
      obtain ⟨hm3, f3⟩ := h3
      have hm3 : pMr g3 F0 kw (.inl (4, t.2.2.1)) := hm3
      have hm3_o := hm3
      obtain ⟨hm3_F, hm3_a, hm3_r, hm3_9, hm3_12, hm3_13, hm3_k⟩ := hm3_o
      refine g_aload_n E dX13_readWhole_33 rfl rfl rfl ?_
      refine g_getf E gciX13 dX13_readWhole_34 hm3_a 9 rfl (by decide) q1749 (.inl rfl) (.int 5) (hm3_9) rfl ?_
      refine g_iconst E (v := 5) dX13_readWhole_37 (by decide) rfl ?_
      refine g_icmp_ne E dX13_readWhole_38 (tgt := 45) (by decide) rfl (fun h9 => absurd h9 (by decide)) (fun _ => ?_)
      refine g_iload_n E dX13_readWhole_41 rfl rfl rfl ?_
      refine g_goto E dX13_readWhole_42 (tgt := 49) (by decide) ?_
      refine g_istore_n E dX13_readWhole_49 rfl (by decide) rfl (lo1 := [some (.ref 2000), some (.int (nI lo)), some (.int (nI hi)), some (.int (nI lo))]) rfl rfl ?_
      refine g_aload_n E dX13_readWhole_50 rfl rfl rfl ?_
      have y4 := (hTp.fr  (fun j9 a9 b9 => f3 j9 (by omega)))
      refine g_callV (k := 2000) (n9 := 0) (av := []) (st := []) E (ct_X13_goesOn l hF0 hm3 y4 (by omega) trivial trivial) gciX13 dX13_readWhole_51 hm3_a q1989 q1991 qs53 q135 q1992 (by decide +kernel) rfl rfl ⟨by decide, by decide⟩ ⟨by decide, by decide⟩ (Nat.le_of_ble_eq_true rfl) rfl (gPn.k (fun g5 h5 => ?_))
      obtain ⟨hm5, f5⟩ := h5
      have hm5 : pMr g5 F0 kw (.inl (4, t.2.2.1)) := hm5
      have hm5_o := hm5
      obtain ⟨hm5_F, hm5_a, hm5_r, hm5_9, hm5_12, hm5_13, hm5_k⟩ := hm5_o
      refine g_iload_n E dX13_readWhole_54 rfl rfl rfl ?_
      have he6 : zBd (.inr t) (zNu T n lo hi) = _ := zNu_b h3 (zIn_Nf (by omega) (by omega) (by omega) c25)
      exact g_iret E Rt dX13_readWhole_55 rfl (by decide) (by decide) (by rw [he6]; exact ⟨rfl, hm5, fun j9 h9 => (f5 j9 (by omega)).trans (f3 j9 (by omega))⟩)
  · have h3n : ¬ t.2.1 = 3 := fun h9 => c5 (zSo_3.mpr h9)
    refine g_aload_n E dX13_readWhole_8 rfl rfl rfl ?_
    refine g_iconst E (v := 1) dX13_readWhole_9 (by decide) rfl ?_
    refine g_callV (k := 2000) (n9 := 1) (av := [.int 1]) (st := []) E (ct_X13_flaw l 1 hM) gciX13 dX13_readWhole_10 hM_a q2052 q2054 qs59 q135 q2055 (by decide +kernel) rfl rfl ⟨by decide, by decide⟩ ⟨by decide, by decide⟩ (Nat.le_of_ble_eq_true rfl) rfl (gPn.k (fun g7 h7 => ?_))
    obtain ⟨hm7, f7⟩ := h7
    have hm7 : pMr g7 F0 kw (.inl (1, t.2.2.1)) := hm7
    have hm7_o := hm7
    obtain ⟨hm7_F, hm7_a, hm7_r, hm7_9, hm7_12, hm7_13, hm7_k⟩ := hm7_o
    refine g_goto E dX13_readWhole_13 (tgt := 33) (by decide) ?_
    refine g_aload_n E dX13_readWhole_33 rfl rfl rfl ?_
    refine g_getf E gciX13 dX13_readWhole_34 hm7_a 9 rfl (by decide) q1749 (.inl rfl) (.int 5) (hm7_9) rfl ?_
    refine g_iconst E (v := 5) dX13_readWhole_37 (by decide) rfl ?_
    refine g_icmp_ne E dX13_readWhole_38 (tgt := 45) (by decide) rfl (fun h9 => absurd h9 (by decide)) (fun _ => ?_)
    refine g_iload_n E dX13_readWhole_41 rfl rfl rfl ?_
    refine g_goto E dX13_readWhole_42 (tgt := 49) (by decide) ?_
    refine g_istore_n E dX13_readWhole_49 rfl (by decide) rfl (lo1 := [some (.ref 2000), some (.int (nI lo)), some (.int (nI hi)), some (.int (nI lo))]) rfl rfl ?_
    refine g_aload_n E dX13_readWhole_50 rfl rfl rfl ?_
    have y8 := (hTp.fr  (fun j9 a9 b9 => f7 j9 (by omega)))
    refine g_callV (k := 2000) (n9 := 0) (av := []) (st := []) E (ct_X13_goesOn l hF0 hm7 y8 (by omega) trivial trivial) gciX13 dX13_readWhole_51 hm7_a q1989 q1991 qs53 q135 q1992 (by decide +kernel) rfl rfl ⟨by decide, by decide⟩ ⟨by decide, by decide⟩ (Nat.le_of_ble_eq_true rfl) rfl (gPn.k (fun g9 h9 => ?_))
    obtain ⟨hm9, f9⟩ := h9
    have hm9 : pMr g9 F0 kw (.inl (1, t.2.2.1)) := hm9
    have hm9_o := hm9
    obtain ⟨hm9_F, hm9_a, hm9_r, hm9_9, hm9_12, hm9_13, hm9_k⟩ := hm9_o
    refine g_iload_n E dX13_readWhole_54 rfl rfl rfl ?_
    have he10 : zBd (.inr t) (zNu T n lo hi) = _ := zNu_n h3n
    exact g_iret E Rt dX13_readWhole_55 rfl (by decide) (by decide) (by rw [he10]; exact ⟨rfl, hm9, fun j9 h9 => (f9 j9 (by omega)).trans (f7 j9 (by omega))⟩)
set_option maxHeartbeats 400000 in
theorem ct_X13_readWhole_L (l : Launch) {g : gWM} {n mb : Nat} {T : Nat → Int32} {F0 : Nat → Value} {kw : Bool} {e : Nat × Nat} (lo hi : Nat) (hF0 : pF0 F0 mb n) (hM : pMr g F0 kw (.inl e)) (hTp : pTp g 2001 T n) (hn : n ≤ 1100) : gCt l yX13_readWhole cX13_readWhole 4 (some .int) 2 0 0 43 [.ref 2000, .int (nI lo), .int (nI hi)] g (gPi (nI lo) (fun g1 => pMr g1 F0 kw (.inl e) ∧ ∀ j, j ≠ 2000 → g1 j = g j)) := by
  refine gCt.of RX13 (by decide) rfl (lo := [some (.ref 2000), some (.int (nI lo)), some (.int (nI hi)), none]) 1 rfl (Nat.le_of_ble_eq_true rfl) (fun z E Rt => ?_)
  have hF0_o := hF0
  obtain ⟨hF0_4, hF0_5, hF0_7⟩ := hF0_o
  have hM_o := hM
  obtain ⟨hM_F, hM_a, hM_r, hM_9, hM_12, hM_13, hM_k⟩ := hM_o
  have hTp_o := hTp
  obtain ⟨hTp_f, hTp_a, hTp_b⟩ := hTp_o
  refine g_aload_n E dX13_readWhole_0 rfl rfl rfl ?_
  refine g_getf E gciX13 dX13_readWhole_1 hM_a 9 rfl (by decide) q1749 (.inl rfl) (.int 5) (hM_9) rfl ?_
  refine g_iconst E (v := 3) dX13_readWhole_4 (by decide) rfl ?_
  refine g_icmp_eq E dX13_readWhole_5 (tgt := 16) (by decide) rfl (fun h9 => absurd h9 (by decide)) (fun _ => ?_)
  refine g_aload_n E dX13_readWhole_8 rfl rfl rfl ?_
  refine g_iconst E (v := 1) dX13_readWhole_9 (by decide) rfl ?_
  refine g_callV (k := 2000) (n9 := 1) (av := [.int 1]) (st := []) E (ct_X13_flaw l 1 hM) gciX13 dX13_readWhole_10 hM_a q2052 q2054 qs59 q135 q2055 (by decide +kernel) rfl rfl ⟨by decide, by decide⟩ ⟨by decide, by decide⟩ (Nat.le_of_ble_eq_true rfl) rfl (gPn.k (fun g1 h1 => ?_))
  obtain ⟨hm1, f1⟩ := h1
  have hm1 : pMr g1 F0 kw (.inl e) := hm1
  have hm1_o := hm1
  obtain ⟨hm1_F, hm1_a, hm1_r, hm1_9, hm1_12, hm1_13, hm1_k⟩ := hm1_o
  refine g_goto E dX13_readWhole_13 (tgt := 33) (by decide) ?_
  refine g_aload_n E dX13_readWhole_33 rfl rfl rfl ?_
  refine g_getf E gciX13 dX13_readWhole_34 hm1_a 9 rfl (by decide) q1749 (.inl rfl) (.int 5) (hm1_9) rfl ?_
  refine g_iconst E (v := 5) dX13_readWhole_37 (by decide) rfl ?_
  refine g_icmp_ne E dX13_readWhole_38 (tgt := 45) (by decide) rfl (fun h9 => absurd h9 (by decide)) (fun _ => ?_)
  refine g_iload_n E dX13_readWhole_41 rfl rfl rfl ?_
  refine g_goto E dX13_readWhole_42 (tgt := 49) (by decide) ?_
  refine g_istore_n E dX13_readWhole_49 rfl (by decide) rfl (lo1 := [some (.ref 2000), some (.int (nI lo)), some (.int (nI hi)), some (.int (nI lo))]) rfl rfl ?_
  refine g_aload_n E dX13_readWhole_50 rfl rfl rfl ?_
  have y2 := (hTp.fr  (fun j9 a9 b9 => f1 j9 (by omega)))
  refine g_callV (k := 2000) (n9 := 0) (av := []) (st := []) E (ct_X13_goesOn l hF0 hm1 y2 (by omega) trivial trivial) gciX13 dX13_readWhole_51 hm1_a q1989 q1991 qs53 q135 q1992 (by decide +kernel) rfl rfl ⟨by decide, by decide⟩ ⟨by decide, by decide⟩ (Nat.le_of_ble_eq_true rfl) rfl (gPn.k (fun g3 h3 => ?_))
  obtain ⟨hm3, f3⟩ := h3
  have hm3 : pMr g3 F0 kw (.inl e) := hm3
  have hm3_o := hm3
  obtain ⟨hm3_F, hm3_a, hm3_r, hm3_9, hm3_12, hm3_13, hm3_k⟩ := hm3_o
  refine g_iload_n E dX13_readWhole_54 rfl rfl rfl ?_
  exact g_iret E Rt dX13_readWhole_55 rfl (by decide) (by decide) (⟨rfl, hm3, fun j9 h9 => (f3 j9 (by omega)).trans (f1 j9 (by omega))⟩)
theorem ct_X13_readWhole (l : Launch) {g : gWM} {n mb : Nat} {T : Nat → Int32} {F0 : Nat → Value} {kw : Bool} {x : zEr zTk} (lo hi : Nat) (hF0 : pF0 F0 mb n) (hM : pMr g F0 kw x) (hTp : pTp g 2001 T n) (hn : n ≤ 1100) (hok : xOk n x) (hl9 : lo ≤ 400) (hh9 : hi ≤ 400) : gCt l yX13_readWhole cX13_readWhole 4 (some .int) 2 0 0 43 [.ref 2000, .int (nI lo), .int (nI hi)] g (gPi (nI (zVl lo (zBd x (zNu T n lo hi)))) (fun g1 => pMr g1 F0 kw (zSt (zBd x (zNu T n lo hi))) ∧ ∀ j, j ≠ 2000 → g1 j = g j)) := by
  cases x with
  | inl e => exact ct_X13_readWhole_L l lo hi hF0 hM hTp hn
  | inr t => exact ct_X13_readWhole_R l lo hi hF0 hM hTp hn hok hl9 hh9
set_option maxHeartbeats 400000 in
theorem ct_X13_readPart (l : Launch) {g : gWM} {n mb : Nat} {T : Nat → Int32} {F0 : Nat → Value} {kw : Bool} {x : zEr zTk} {j : Nat} {q9 : String × Nat × String} (lo hi : Nat) (hF0 : pF0 F0 mb n) (hM : pMr g F0 kw (x)) (hTp : pTp g 2001 T n) (hn : n ≤ 1100) (hok : xOk n x) (hj : gSites[j]? = some q9) (hwo : zWo (gByt q9.2.2)) (hl9 : lo ≤ 400) (hh9 : hi ≤ 400) : gCt l yX13_readPart cX13_readPart 4 (some .int) 7 0 0 150 [.ref 2000, .ref (1 + 2 * j), .int (nI lo), .int (nI hi)] g (gPi (nI (zVl lo (zBd x (zAf T n (gByt q9.2.2) lo hi)))) (fun g1 => pMr g1 F0 kw (zSt (zBd x (zAf T n (gByt q9.2.2) lo hi))) ∧ ∀ j, j ≠ 2000 → g1 j = g j)) := by
  refine gCt.of RX13 (by decide) rfl (lo := [some (.ref 2000), some (.ref (1 + 2 * j)), some (.int (nI lo)), some (.int (nI hi))]) 0 rfl (Nat.le_of_ble_eq_true rfl) (fun z E Rt => ?_)
  have hF0_o := hF0
  obtain ⟨hF0_4, hF0_5, hF0_7⟩ := hF0_o
  have hM_o := hM
  obtain ⟨hM_F, hM_a, hM_r, hM_s⟩ := hM_o
  have hTp_o := hTp
  obtain ⟨hTp_f, hTp_a, hTp_b⟩ := hTp_o
  have hj_l := gS_l hj
  refine g_aload_n E dX13_readPart_0 rfl rfl rfl ?_
  refine g_aload_n E dX13_readPart_1 rfl rfl rfl ?_
  refine g_callV (k := 2000) (n9 := 1) (av := [.ref (1 + 2 * j)]) (st := []) E (ct_X13_needs l hF0 hM hTp (by omega) hok hj hwo) gciX13 dX13_readPart_2 hM_a q2061 q2063 qs61 q135 q2064 (by decide +kernel) rfl rfl ⟨by decide, by decide⟩ ⟨by decide, by decide⟩ (Nat.le_of_ble_eq_true rfl) rfl (gPn.k (fun g1 h1 => ?_))
  obtain ⟨hm1, f1⟩ := h1
  obtain ⟨x1, hx1⟩ : ∃ y, y = zBd x (zMu T n (gByt q9.2.2)) := ⟨_, rfl⟩
  rw [← hx1] at hm1
  have hm1_o := hm1
  obtain ⟨hm1_F, hm1_a, hm1_r, hm1_s⟩ := hm1_o
  refine g_aload_n E dX13_readPart_5 rfl rfl rfl ?_
  refine g_iload_n E dX13_readPart_6 rfl rfl rfl ?_
  refine g_iload_n E dX13_readPart_7 rfl rfl rfl ?_
  have y2 := (hTp.fr  (fun j9 a9 b9 => f1 j9 (by omega)))
  refine g_callV (k := 2000) (n9 := 2) (av := [.int (nI lo), .int (nI hi)]) (st := []) E (ct_X13_readWhole l lo hi hF0 hm1 y2 (by omega) (by rw [hx1]; exact zMu_x hok) (by omega) (by omega)) gciX13 dX13_readPart_8 hm1_a q2065 q2067 qs62 q135 q2068 (by decide +kernel) rfl rfl ⟨by decide, by decide⟩ ⟨by decide, by decide⟩ (Nat.le_of_ble_eq_true rfl) rfl (gPi.k (fun g3 h3 => ?_))
  obtain ⟨hm3, f3⟩ := h3
  obtain ⟨x3, hx3⟩ : ∃ y, y = zSt (zBd x1 (zNu T n lo hi)) := ⟨_, rfl⟩
  rw [← hx3] at hm3
  have hm3_o := hm3
  obtain ⟨hm3_F, hm3_a, hm3_r, hm3_s⟩ := hm3_o
  exact g_iret E Rt dX13_readPart_11 rfl (by decide) (by decide) (by rw [← zAf_x, ← hx1]; exact ⟨rfl, by rw [← hx3]; exact hm3, fun j9 h9 => (f3 j9 (by omega)).trans (f1 j9 (by omega))⟩)
