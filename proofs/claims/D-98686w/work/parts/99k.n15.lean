/-! THE MODEL, walks, fifteenth: the sign; the kind of a good -/
set_option maxRecDepth 100000
set_option maxHeartbeats 400000 in
theorem ct_X13_eatsSemicolon_R (l : Launch) {g : gWM} {n mb : Nat} {T : Nat → Int32} {F0 : Nat → Value} {kw : Bool} {t : zTk} (hF0 : pF0 F0 mb n) (hM : pMr g F0 kw (.inr t)) (hTp : pTp g 2001 T n) (hn : n ≤ 1100) (hok : zOk n t) (hki : zKi t) : gCt l yX13_eatsSemicolon cX13_eatsSemicolon 2 (some .boolean) 2 0 0 43 [.ref 2000] g (gPi (zb (decide (t.2.1 = 59))) (fun g1 => pMr g1 F0 kw (if t.2.1 = 59 then .inr (zTn T n t.1) else .inr t) ∧ ∀ j, j ≠ 2000 → g1 j = g j)) := by
  refine gCt.of RX13 (by decide) rfl (lo := [some (.ref 2000), none]) 1 rfl (Nat.le_of_ble_eq_true rfl) (fun z E Rt => ?_)
  have hF0_o := hF0
  obtain ⟨hF0_4, hF0_5, hF0_7⟩ := hF0_o
  have hM_o := hM
  obtain ⟨hM_F, hM_a, hM_r, hM_9, hM_12, hM_8, hM_10, hM_11, hM_14, hM_k⟩ := hM_o
  have hTp_o := hTp
  obtain ⟨hTp_f, hTp_a, hTp_b⟩ := hTp_o
  refine g_aload_n E dX13_eatsSemicolon_0 rfl rfl rfl ?_
  refine g_getf E gciX13 dX13_eatsSemicolon_1 hM_a 9 rfl (by decide) q1749 (.inl rfl) (.int (zSo t.2.1)) (hM_9) rfl ?_
  refine g_iconst E (v := 4) dX13_eatsSemicolon_4 (by decide) rfl ?_
  refine g_icmp_ne E dX13_eatsSemicolon_5 (tgt := 12) (by decide) rfl (fun c5 => ?_) (fun c5 => ?_)
  · have h59 : ¬ t.2.1 = 59 := fun h9 => c5 ((zSo_4 hki).mpr h9)
    refine g_iconst E (v := 0) dX13_eatsSemicolon_12 (by decide) rfl ?_
    refine g_istore_n E dX13_eatsSemicolon_13 rfl (by decide) rfl (lo1 := [some (.ref 2000), some (.int 0)]) rfl rfl ?_
    refine g_iload_n E dX13_eatsSemicolon_14 rfl rfl rfl ?_
    refine g_if_eq E dX13_eatsSemicolon_15 (tgt := 22) (by decide) rfl (fun _ => ?_) (fun h9 => absurd h9 (by decide))
    refine g_iload_n E dX13_eatsSemicolon_22 rfl rfl rfl ?_
    exact g_zret E Rt dX13_eatsSemicolon_23 rfl (by decide) (by decide) (by decide) (⟨congrArg (fun x => some (Value.int x)) (zbF h59), by rw [if_neg h59]; exact hM, fun j9 h9 => rfl⟩)
  · have h59 := (zSo_4 hki).mp (by first | exact c5 | exact Classical.not_not.mp c5)
    refine g_iconst E (v := 1) dX13_eatsSemicolon_8 (by decide) rfl ?_
    refine g_goto E dX13_eatsSemicolon_9 (tgt := 13) (by decide) ?_
    refine g_istore_n E dX13_eatsSemicolon_13 rfl (by decide) rfl (lo1 := [some (.ref 2000), some (.int 1)]) rfl rfl ?_
    refine g_iload_n E dX13_eatsSemicolon_14 rfl rfl rfl ?_
    refine g_if_eq E dX13_eatsSemicolon_15 (tgt := 22) (by decide) rfl (fun h9 => absurd h9 (by decide)) (fun _ => ?_)
    refine g_aload_n E dX13_eatsSemicolon_18 rfl rfl rfl ?_
    refine g_callV (k := 2000) (n9 := 0) (av := []) (st := []) E (ct_X13_goesOn l hF0 hM hTp (by omega) hok (show t.2.1 ≠ 1 by rw [h59]; decide)) gciX13 dX13_eatsSemicolon_19 hM_a q1989 q1991 qs53 q135 q1992 (by decide +kernel) rfl rfl ⟨by decide, by decide⟩ ⟨by decide, by decide⟩ (Nat.le_of_ble_eq_true rfl) rfl (gPn.k (fun g1 h1 => ?_))
    obtain ⟨hm1, f1⟩ := h1
    have hm1 : pMr g1 F0 kw (.inr (zTn T n t.1)) := hm1
    have hm1_o := hm1
    obtain ⟨hm1_F, hm1_a, hm1_r, hm1_9, hm1_12, hm1_8, hm1_10, hm1_11, hm1_14, hm1_k⟩ := hm1_o
    refine g_iload_n E dX13_eatsSemicolon_22 rfl rfl rfl ?_
    exact g_zret E Rt dX13_eatsSemicolon_23 rfl (by decide) (by decide) (by decide) (⟨congrArg (fun x => some (Value.int x)) (zbT h59), by rw [if_pos h59]; exact hm1, fun j9 h9 => f1 j9 (by omega)⟩)
set_option maxHeartbeats 400000 in
theorem ct_X13_eatsSemicolon_L (l : Launch) {g : gWM} {n mb : Nat} {T : Nat → Int32} {F0 : Nat → Value} {kw : Bool} {e : Nat × Nat} (hF0 : pF0 F0 mb n) (hM : pMr g F0 kw (.inl e)) (hTp : pTp g 2001 T n) (hn : n ≤ 1100) : gCt l yX13_eatsSemicolon cX13_eatsSemicolon 2 (some .boolean) 0 0 0 0 [.ref 2000] g (gPi 0 (fun g1 => pMr g1 F0 kw (.inl e) ∧ ∀ j, j ≠ 2000 → g1 j = g j)) := by
  refine gCt.of RX13 (by decide) rfl (lo := [some (.ref 2000), none]) 1 rfl (Nat.le_of_ble_eq_true rfl) (fun z E Rt => ?_)
  have hF0_o := hF0
  obtain ⟨hF0_4, hF0_5, hF0_7⟩ := hF0_o
  have hM_o := hM
  obtain ⟨hM_F, hM_a, hM_r, hM_9, hM_12, hM_13, hM_k⟩ := hM_o
  have hTp_o := hTp
  obtain ⟨hTp_f, hTp_a, hTp_b⟩ := hTp_o
  refine g_aload_n E dX13_eatsSemicolon_0 rfl rfl rfl ?_
  refine g_getf E gciX13 dX13_eatsSemicolon_1 hM_a 9 rfl (by decide) q1749 (.inl rfl) (.int 5) (hM_9) rfl ?_
  refine g_iconst E (v := 4) dX13_eatsSemicolon_4 (by decide) rfl ?_
  refine g_icmp_ne E dX13_eatsSemicolon_5 (tgt := 12) (by decide) rfl (fun _ => ?_) (fun h9 => absurd h9 (by decide))
  refine g_iconst E (v := 0) dX13_eatsSemicolon_12 (by decide) rfl ?_
  refine g_istore_n E dX13_eatsSemicolon_13 rfl (by decide) rfl (lo1 := [some (.ref 2000), some (.int 0)]) rfl rfl ?_
  refine g_iload_n E dX13_eatsSemicolon_14 rfl rfl rfl ?_
  refine g_if_eq E dX13_eatsSemicolon_15 (tgt := 22) (by decide) rfl (fun _ => ?_) (fun h9 => absurd h9 (by decide))
  refine g_iload_n E dX13_eatsSemicolon_22 rfl rfl rfl ?_
  exact g_zret E Rt dX13_eatsSemicolon_23 rfl (by decide) (by decide) (by decide) (⟨rfl, hM, fun j9 h9 => rfl⟩)
def zKv (x : zEr zTk) : Int32 := if wIs x (gByt "fresh") then 0 else if wIs x (gByt "plain") then 1 else if wIs x (gByt "wine") then 2 else if wIs x (gByt "old") then 3 else if wIs x (gByt "oath") then 4 else -1
set_option maxHeartbeats 400000 in
theorem ct_X13_kindOfGood (l : Launch) {g : gWM} {n : Nat} {F0 : Nat → Value} {kw : Bool} {x : zEr zTk} (hM : pMr g F0 kw (x)) (hok : xOk n x) : gCt l yX13_kindOfGood cX13_kindOfGood 1 (some .int) 6 0 0 129 [.ref 2000] g (gPu (.int (zKv x)) g) := by
  refine gCt.of RX13 (by decide) rfl (lo := [some (.ref 2000)]) 0 rfl (Nat.le_of_ble_eq_true rfl) (fun z E Rt => ?_)
  have hM_o := hM
  obtain ⟨hM_F, hM_a, hM_r, hM_s⟩ := hM_o
  refine g_aload_n E dX13_kindOfGood_0 rfl rfl rfl ?_
  refine g_ldcS E (j := 44) (tx := "fresh") rfl dX13_kindOfGood_1 rfl ?_
  refine g_callV (k := 2000) (n9 := 1) (av := [.ref (1 + 2 * 44)]) (st := []) E (ct_X13_isWord l hM hok rfl (wo_dec _ (by decide +kernel))) gciX13 dX13_kindOfGood_3 hM_a q2013 q2015 qs57 q135 q2016 (by decide +kernel) rfl rfl ⟨by decide, by decide⟩ ⟨by decide, by decide⟩ (Nat.le_of_ble_eq_true rfl) rfl (gPu.k ?_)
  refine g_if_eq E dX13_kindOfGood_6 (tgt := 11) (by decide) rfl (fun c6 => ?_) (fun c6 => ?_)
  · have c6 := zb_0.mp c6
    refine g_aload_n E dX13_kindOfGood_11 rfl rfl rfl ?_
    refine g_ldcwS E (j := 54) (tx := "plain") rfl dX13_kindOfGood_12 rfl ?_
    refine g_callV (k := 2000) (n9 := 1) (av := [.ref (1 + 2 * 54)]) (st := []) E (ct_X13_isWord l hM hok rfl (wo_dec _ (by decide +kernel))) gciX13 dX13_kindOfGood_15 hM_a q2013 q2015 qs57 q135 q2016 (by decide +kernel) rfl rfl ⟨by decide, by decide⟩ ⟨by decide, by decide⟩ (Nat.le_of_ble_eq_true rfl) rfl (gPu.k ?_)
    refine g_if_eq E dX13_kindOfGood_18 (tgt := 23) (by decide) rfl (fun c18 => ?_) (fun c18 => ?_)
    · have c18 := zb_0.mp c18
      refine g_aload_n E dX13_kindOfGood_23 rfl rfl rfl ?_
      refine g_ldcwS E (j := 55) (tx := "wine") rfl dX13_kindOfGood_24 rfl ?_
      refine g_callV (k := 2000) (n9 := 1) (av := [.ref (1 + 2 * 55)]) (st := []) E (ct_X13_isWord l hM hok rfl (wo_dec _ (by decide +kernel))) gciX13 dX13_kindOfGood_27 hM_a q2013 q2015 qs57 q135 q2016 (by decide +kernel) rfl rfl ⟨by decide, by decide⟩ ⟨by decide, by decide⟩ (Nat.le_of_ble_eq_true rfl) rfl (gPu.k ?_)
      refine g_if_eq E dX13_kindOfGood_30 (tgt := 35) (by decide) rfl (fun c30 => ?_) (fun c30 => ?_)
      · have c30 := zb_0.mp c30
        refine g_aload_n E dX13_kindOfGood_35 rfl rfl rfl ?_
        refine g_ldcwS E (j := 56) (tx := "old") rfl dX13_kindOfGood_36 rfl ?_
        refine g_callV (k := 2000) (n9 := 1) (av := [.ref (1 + 2 * 56)]) (st := []) E (ct_X13_isWord l hM hok rfl (wo_dec _ (by decide +kernel))) gciX13 dX13_kindOfGood_39 hM_a q2013 q2015 qs57 q135 q2016 (by decide +kernel) rfl rfl ⟨by decide, by decide⟩ ⟨by decide, by decide⟩ (Nat.le_of_ble_eq_true rfl) rfl (gPu.k ?_)
        refine g_if_eq E dX13_kindOfGood_42 (tgt := 47) (by decide) rfl (fun c42 => ?_) (fun c42 => ?_)
        · have c42 := zb_0.mp c42
          refine g_aload_n E dX13_kindOfGood_47 rfl rfl rfl ?_
          refine g_ldcwS E (j := 57) (tx := "oath") rfl dX13_kindOfGood_48 rfl ?_
          refine g_callV (k := 2000) (n9 := 1) (av := [.ref (1 + 2 * 57)]) (st := []) E (ct_X13_isWord l hM hok rfl (wo_dec _ (by decide +kernel))) gciX13 dX13_kindOfGood_51 hM_a q2013 q2015 qs57 q135 q2016 (by decide +kernel) rfl rfl ⟨by decide, by decide⟩ ⟨by decide, by decide⟩ (Nat.le_of_ble_eq_true rfl) rfl (gPu.k ?_)
          refine g_if_eq E dX13_kindOfGood_54 (tgt := 61) (by decide) rfl (fun c54 => ?_) (fun c54 => ?_)
          · have c54 := zb_0.mp c54
            refine g_iconst E (v := (-1)) dX13_kindOfGood_61 (by decide) rfl ?_
            exact g_iret E Rt dX13_kindOfGood_62 rfl (by decide) (by decide) (⟨congrArg (fun x => some (Value.int x)) (by simp [zKv, c6, c18, c30, c42, c54]), rfl⟩)
          · have c54 := zb_n0.mp c54
            refine g_iconst E (v := 4) dX13_kindOfGood_57 (by decide) rfl ?_
            refine g_goto E dX13_kindOfGood_58 (tgt := 62) (by decide) ?_
            exact g_iret E Rt dX13_kindOfGood_62 rfl (by decide) (by decide) (⟨congrArg (fun x => some (Value.int x)) (by simp [zKv, c6, c18, c30, c42, c54]), rfl⟩)
        · have c42 := zb_n0.mp c42
          refine g_iconst E (v := 3) dX13_kindOfGood_45 (by decide) rfl ?_
          exact g_iret E Rt dX13_kindOfGood_46 rfl (by decide) (by decide) (⟨congrArg (fun x => some (Value.int x)) (by simp [zKv, c6, c18, c30, c42]), rfl⟩)
      · have c30 := zb_n0.mp c30
        refine g_iconst E (v := 2) dX13_kindOfGood_33 (by decide) rfl ?_
        exact g_iret E Rt dX13_kindOfGood_34 rfl (by decide) (by decide) (⟨congrArg (fun x => some (Value.int x)) (by simp [zKv, c6, c18, c30]), rfl⟩)
    · have c18 := zb_n0.mp c18
      refine g_iconst E (v := 1) dX13_kindOfGood_21 (by decide) rfl ?_
      exact g_iret E Rt dX13_kindOfGood_22 rfl (by decide) (by decide) (⟨congrArg (fun x => some (Value.int x)) (by simp [zKv, c6, c18]), rfl⟩)
  · have c6 := zb_n0.mp c6
    refine g_iconst E (v := 0) dX13_kindOfGood_9 (by decide) rfl ?_
    exact g_iret E Rt dX13_kindOfGood_10 rfl (by decide) (by decide) (⟨congrArg (fun x => some (Value.int x)) (by simp [zKv, c6]), rfl⟩)
