/-! THE MODEL, walks, fifteenth: the sign; the kind of a good -/
set_option maxRecDepth 100000
set_option maxHeartbeats 400000 in
theorem ct_X13_eatsSemicolon_R (l : Launch) {g : gWM} {n mb : Nat} {T : Nat → Int32} {F0 : Nat → Value} {kw : Bool} {t : zTk} (hF0 : pF0 F0 mb n) (hM : pMr g F0 kw (.inr t)) (hTp : pTp g 2001 T n) (hn : n ≤ 1100) (hok : zOk n t) (hki : zKi t) : gCt l yX13_eatsSemicolon cX13_eatsSemicolon 2 (some .boolean) 2 0 0 43 [.ref 2000] g (gPi (zb (decide (t.2.1 = 59))) (fun g1 => pMr g1 F0 kw (if t.2.1 = 59 then .inr (zTn T n t.1) else .inr t) ∧ ∀ j, j ≠ 2000 → g1 j = g j)) := by
  refine gCt.of RX13 (by decide) rfl (lo := [some (.ref 2000), none]) 1 rfl (Nat.le_of_ble_eq_true rfl) (fun z E Rt => ?_)
  have hF0_o := hF0
  obtain ⟨hF0_4, hF0_5, hF0_7⟩ := hF0_o
  have hM_o := hM
  obtain ⟨hM_F, hM_a, hM_r, hM_9, hM_12, hM_8, hM_10, hM_11, hM_14, hM_k⟩ := hM_o
  have hTp_o := hTp
  obtain ⟨hTp_f, hTp_a, hTp_b⟩ := hTp_o
  refine g_aload_n E dX13_eatsSemicolon_0 rfl rfl rfl ?_
  refine g_getf E gciX13 dX13_eatsSemicolon_1 hM_a 9 rfl (by decide) q1749 (.inl rfl) (.int (zSo t.2.1)) (hM_9) rfl ?_
  refine g_iconst E (v := 4) dX13_eatsSemicolon_4 (by decide) rfl ?_
  refine g_icmp_ne E dX13_eatsSemicolon_5 (tgt := 12) (by decide) rfl (fun c5 => ?_) (fun c5 => ?_)
  · have h59 : ¬ t.2.1 = 59 := fun h9 => c5 ((zSo_4 hki).mpr h9)
    refine g_iconst E (v := 0) dX13_eatsSemicolon_12 (by decide) rfl ?_
    refine g_istore_n E dX13_eatsSemicolon_13 rfl (by decide) rfl (lo1 := [some (.ref 2000), some (.int 0)]) rfl rfl ?_
    refine g_iload_n E dX13_eatsSemicolon_14 rfl rfl rfl ?_
    refine g_if_eq E dX13_eatsSemicolon_15 (tgt := 22) (by decide) rfl (fun _ => ?_) (fun h9 => absurd h9 (by decide))
    refine g_iload_n E dX13_eatsSemicolon_22 rfl rfl rfl ?_
    exact g_zret E Rt dX13_eatsSemicolon_23 rfl (by decide) (by decide) (by decide) (⟨congrArg (fun x => some (Value.int x)) (zbF h59), by rw [if_neg h59]; exact hM, fun j9 h9 => rfl⟩)
  · have h59 := (zSo_4 hki).mp (by first | exact c5 | exact Classical.not_not.mp c5)
    refine g_iconst E (v := 1) dX13_eatsSemicolon_8 (by decide) rfl ?_
    refine g_goto E dX13_eatsSemicolon_9 (tgt := 13) (by decide) ?_
    refine g_istore_n E dX13_eatsSemicolon_13 rfl (by decide) rfl (lo1 := [some (.ref 2000), some (.int 1)]) rfl rfl ?_
    refine g_iload_n E dX13_eatsSemicolon_14 rfl rfl rfl ?_
    refine g_if_eq E dX13_eatsSemicolon_15 (tgt := 22) (by decide) rfl (fun h9 => absurd h9 (by decide)) (fun _ => ?_)
    refine g_aload_n E dX13_eatsSemicolon_18 rfl rfl rfl ?_
    refine g_callV (k := 2000) (n9 := 0) (av := []) (st := []) E (ct_X13_goesOn l hF0 hM hTp (by omega) hok (show t.2.1 ≠ 1 by rw [h59]; decide)) gciX13 dX13_eatsSemicolon_19 hM_a q1989 q1991 qs53 q135 q1992 (by decide +kernel) rfl rfl ⟨by decide, by decide⟩ ⟨by decide, by decide⟩ (Nat.le_of_ble_eq_true rfl) rfl (gPn.k (fun g1 h1 => ?_))
    obtain ⟨hm1, f1⟩ := h1
    have hm1 : pMr g1 F0 kw (.inr (zTn T n t.1)) := hm1
    have hm1_o := hm1
    obtain ⟨hm1_F, hm1_a, hm1_r, hm1_9, hm1_12, hm1_8, hm1_10, hm1_11, hm1_14, hm1_k⟩ := hm1_o
    refine g_iload_n E dX13_eatsSemicolon_22 rfl rfl rfl ?_
    exact g_zret E Rt dX13_eatsSemicolon_23 rfl (by decide) (by decide) (by decide) (⟨congrArg (fun x => some (Value.int x)) (zbT h59), by rw [if_pos h59]; exact hm1, fun j9 h9 => f1 j9 (by omega)⟩)
set_option maxHeartbeats 400000 in
theorem ct_X13_eatsSemicolon_L (l : Launch) {g : gWM} {n mb : Nat} {T : Nat → Int32} {F0 : Nat → Value} {kw : Bool} {e : Nat × Nat} (hF0 : pF0 F0 mb n) (hM : pMr g F0 kw (.inl e)) (hTp : pTp g 2001 T n) (hn : n ≤ 1100) : gCt l yX13_eatsSemicolon cX13_eatsSemicolon 2 (some .boolean) 0 0 0 0 [.ref 2000] g (gPi 0 (fun g1 => pMr g1 F0 kw (.inl e) ∧ ∀ j, j ≠ 2000 → g1 j = g j)) := by
  refine gCt.of RX13 (by decide) rfl (lo := [some (.ref 2000), none]) 1 rfl (Nat.le_of_ble_eq_true rfl) (fun z E Rt => ?_)
  have hF0_o := hF0
  obtain ⟨hF0_4, hF0_5, hF0_7⟩ := hF0_o
  have hM_o := hM
  obtain ⟨hM_F, hM_a, hM_r, hM_9, hM_12, hM_13, hM_k⟩ := hM_o
  have hTp_o := hTp
  obtain ⟨hTp_f, hTp_a, hTp_b⟩ := hTp_o
  refine g_aload_n E dX13_eatsSemicolon_0 rfl rfl rfl ?_
  refine g_getf E gciX13 dX13_eatsSemicolon_1 hM_a 9 rfl (by decide) q1749 (.inl rfl) (.int 5) (hM_9) rfl ?_
  refine g_iconst E (v := 4) dX13_eatsSemicolon_4 (by decide) rfl ?_
  refine g_icmp_ne E dX13_eatsSemicolon_5 (tgt := 12) (by decide) rfl (fun _ => ?_) (fun h9 => absurd h9 (by decide))
  refine g_iconst E (v := 0) dX13_eatsSemicolon_12 (by decide) rfl ?_
  refine g_istore_n E dX13_eatsSemicolon_13 rfl (by decide) rfl (lo1 := [some (.ref 2000), some (.int 0)]) rfl rfl ?_
  refine g_iload_n E dX13_eatsSemicolon_14 rfl rfl rfl ?_
  refine g_if_eq E dX13_eatsSemicolon_15 (tgt := 22) (by decide) rfl (fun _ => ?_) (fun h9 => absurd h9 (by decide))
  refine g_iload_n E dX13_eatsSemicolon_22 rfl rfl rfl ?_
  exact g_zret E Rt dX13_eatsSemicolon_23 rfl (by decide) (by decide) (by decide) (⟨rfl, hM, fun j9 h9 => rfl⟩)
