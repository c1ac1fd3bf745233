/-! THE MODEL, walks, second: questions -/
set_option maxRecDepth 100000
set_option maxHeartbeats 1000000 in
theorem ct_X13_age (l : Launch) {g : gWM} {mb : Nat} {B : gBar} {R : Nat → Int32} {d : Int32} {th tr wh fa : Int32} {tp ac mk : Nat} (p : Int32) (dy : Int32) (hw : wfB B) (hM : pMq g (.ref mb) th tr wh tp fa ac mk []) (hMb : pMb g mb B) (hV : pRw g 2002 B R d) (hX : pIx g 2003 18) (h9 : 10000 ≤ mb) : gCt l yX13_age cX13_age 4 (some .int) 2 0 0 44 [.ref 2000, .int p, .int dy] g (gPi (sAge B d p dy).1 (fun g1 => pMq g1 (.ref mb) 0 ((sAge B d p dy).2) (-1) tp fa ac mk [] ∧ pIx g1 2003 18 ∧ ∀ j, (j ≠ 2000 ∧ j ≠ 2003) → g1 j = g j)) := by
  refine gCt.of RX13 (by decide) rfl (lo := [some (.ref 2000), some (.int p), some (.int dy), none]) 1 rfl (Nat.le_of_ble_eq_true rfl) (fun z E Rt => ?_)
  have hw_n := hw.1
  have hM_o := hM
  obtain ⟨hM_F, hM_a, hM_0, hM_1, hM_2, hM_3, hM_5, hM_6, hM_12, hM_15, hM_16, hM_17, hM_18, hM_19, hM_20, hM_26, hM_28, hM_29, -⟩ := hM_o
  have hMb_o := hMb
  obtain ⟨⟨hMb_F, hMb_a, hMb_0, hMb_1, hMb_2, hMb_3, hMb_4, hMb_5, hMb_6, hMb_7, hMb_8, hMb_9, hMb_11, hMb_12, hMb_13, hMb_14, hMb_15, hMb_16, hMb_17, hMb_18, hMb_19, hMb_20, hMb_21, hMb_22, hMb_23, hMb_24, hMb_25, hMb_26, hMb_27, hMb_28, hMb_29, hMb_30, hMb_31⟩, ⟨hMb_f1, hMb_a1, hMb_b1⟩, ⟨hMb_f2, hMb_a2, hMb_b2⟩, ⟨hMb_f3, hMb_a3, hMb_b3⟩, ⟨hMb_f4, hMb_a4, hMb_b4⟩, ⟨hMb_f5, hMb_a5, hMb_b5⟩, ⟨hMb_f6, hMb_a6, hMb_b6⟩, ⟨hMb_f7, hMb_a7, hMb_b7⟩, ⟨hMb_f8, hMb_a8, hMb_b8⟩, ⟨hMb_f9, hMb_a9, hMb_b9⟩, ⟨hMb_f10, hMb_a10, hMb_b10⟩, ⟨hMb_f11, hMb_a11, hMb_b11⟩, ⟨hMb_f12, hMb_a12, hMb_b12⟩, ⟨hMb_f13, hMb_a13, hMb_b13⟩, ⟨hMb_f14, hMb_a14, hMb_b14⟩, ⟨hMb_f15, hMb_a15, hMb_b15⟩, ⟨hMb_f16, hMb_a16, hMb_b16⟩, ⟨hMb_f17, hMb_a17, hMb_b17⟩, ⟨hMb_f18, hMb_a18, hMb_b18⟩, ⟨hMb_f19, hMb_a19, hMb_b19⟩, ⟨hMb_f20, hMb_a20, hMb_b20⟩, ⟨hMb_f21, hMb_a21, hMb_b21⟩⟩ := hMb_o
  have hV_o := hV
  obtain ⟨hV_f, hV_a, hV_r, hV_d⟩ := hV_o
  have hX_o := hX
  obtain ⟨hX_f, hX_a⟩ := hX_o
  refine g_aload_n E dX13_age_0 rfl rfl rfl ?_
  refine g_iconst E (v := 0) dX13_age_1 (by decide) rfl ?_
  refine g_putf E gciX13 (v := .int 0) dX13_age_2 hM_a 0 rfl (by decide) q1740 (.inl rfl) rfl (fun _ => rfl) (fun _ => rfl) rfl (g_upk (fun g1 h1 f1 => ?_))
  refine g_aload_n E dX13_age_5 rfl rfl rfl ?_
  refine g_aload_n E dX13_age_6 rfl rfl rfl ?_
  refine g_iload_n E dX13_age_7 rfl rfl rfl ?_
  have hM2 : pMq g1 (.ref mb) 0 tr wh tp fa ac mk [] := ⟨_, h1, rfl, hM_1, hM_2, hM_3, hM_5, hM_6, hM_12, hM_15, hM_16, hM_17, hM_18, hM_19, hM_20, hM_26, hM_28, hM_29, trivial⟩
  have y3 := (hMb.fr  (fun j9 a9 b9 => f1 j9 (by omega)))
  refine g_callV (k := 2000) (n9 := 1) (av := [.int p]) (st := [.ref 2000]) E (ct_X13_isGood l p hw hM2 y3) gciX13 dX13_age_8 h1 q2197 q2199 qs81 q135 q2200 (by decide +kernel) rfl rfl ⟨by decide, by decide⟩ ⟨by decide, by decide⟩ (Nat.le_of_ble_eq_true rfl) rfl (gPu.k ?_)
  refine g_iload_n E dX13_age_11 rfl rfl rfl ?_
  have y4 := (hV.fr  (fun j9 a9 b9 => f1 j9 (by omega)))
  have x5 := (f1 (2003) (by omega)).trans (hX_a)
  refine g_callV (k := 2000) (n9 := 2) (av := [.int (zb (qI (B 0 3) p).isSome), .int dy]) (st := []) E (ct_X13_asks l ((qI (B 0 3) p).isSome) dy hw hM2 y4 (⟨_, x5⟩)) gciX13 dX13_age_12 h1 q2233 q2235 qs87 q135 q2236 (by decide +kernel) rfl rfl ⟨by decide, by decide⟩ ⟨by decide, by decide⟩ (Nat.le_of_ble_eq_true rfl) rfl (gPi.k (fun g6 h6 => ?_))
  obtain ⟨ha6, hx6, f6⟩ := h6
  have hx6_o := hx6
  obtain ⟨hx6_f, hx6_a⟩ := hx6_o
  refine g_istore_n E dX13_age_15 rfl (by decide) rfl (lo1 := [some (.ref 2000), some (.int p), some (.int dy), some (.int (qWy ((qI (B 0 3) p).isSome) dy))]) rfl rfl ?_
  refine g_iload_n E dX13_age_16 rfl rfl rfl ?_
  refine g_if_le E dX13_age_17 (tgt := 28) (by decide) rfl (fun c17 => ?_) (fun c17 => ?_)
  · have c17 := qWy_le (c17)
    have hr7 := ha6 c17
    have q8 := (qWy_0.mp c17).1
    have q8_z := (qWy_0.mp c17).2
    obtain ⟨j, q9⟩ := isSome_of q8
    obtain ⟨rfl, q9_l⟩ := qI_some (by omega) q9
    have hr7_o := hr7
    obtain ⟨hr7_f, hr7_a, hr7_r, hr7_d⟩ := hr7_o
    refine g_aload_n E dX13_age_28 rfl rfl rfl ?_
    refine g_aload_n E dX13_age_29 rfl rfl rfl ?_
    refine g_aload_n E dX13_age_30 rfl rfl rfl ?_
    have x10 := (f6 (2000) (by omega)).trans (h1)
    refine g_getf E gciX13 dX13_age_31 x10 16 rfl (by decide) q1756 (.inl rfl) (.ref 2003) (hM_16) rfl ?_
    refine g_iload_n E dX13_age_34 rfl rfl rfl ?_
    have hM11 : pMq g6 (.ref mb) 0 tr wh tp fa ac mk [] := ⟨_, x10, rfl, hM_1, hM_2, hM_3, hM_5, hM_6, hM_12, hM_15, hM_16, hM_17, hM_18, hM_19, hM_20, hM_26, hM_28, hM_29, trivial⟩
    have y12 := (y3.fr  (fun j9 a9 b9 => f6 j9 (by omega)))
    refine g_callV (k := 2000) (n9 := 2) (av := [.ref 2003, .int (nI j)]) (st := [.ref 2000]) E (ct_X13_ageIn l j hw hM11 y12 hr7 (by omega)) gciX13 dX13_age_35 x10 q2241 q2243 qs89 q135 q2244 (by decide +kernel) rfl rfl ⟨by decide, by decide⟩ ⟨by decide, by decide⟩ (Nat.le_of_ble_eq_true rfl) rfl (gPu.k ?_)
    refine g_callV (k := 2000) (n9 := 1) (av := [.int (zAge B j (d + dy))]) (st := []) E (ct_X13_fine l (zAge B j (d + dy)) hM11) gciX13 dX13_age_38 x10 q2181 q2183 qs80 q135 q2184 (by decide +kernel) rfl rfl ⟨by decide, by decide⟩ ⟨by decide, by decide⟩ (Nat.le_of_ble_eq_true rfl) rfl (gPi.k (fun g13 h13 => ?_))
    obtain ⟨hm13, f13⟩ := h13
    have hm13_o := hm13
    obtain ⟨hm13_F, hm13_a, hm13_0, hm13_1, hm13_2, hm13_3, hm13_5, hm13_6, hm13_12, hm13_15, hm13_16, hm13_17, hm13_18, hm13_19, hm13_20, hm13_26, hm13_28, hm13_29, -⟩ := hm13_o
    have hs14 : sAge B d (nI j) dy = (zAge B j (d + dy), 0) := by first | (simp [sAge, sG, c17, q9, q8_z]; done) | (simp [sAge, sG, c17, q9, q8_z, qWy]; done)
    have x15 := (f13 (2003) (by omega)).trans (hr7_a)
    exact g_iret E Rt dX13_age_41 rfl (by decide) (by decide) (by rw [hs14]; exact ⟨rfl, ⟨_, hm13_a, hm13_0, hm13_1, hm13_2, hm13_3, hm13_5, hm13_6, hm13_12, hm13_15, hm13_16, hm13_17, hm13_18, hm13_19, hm13_20, hm13_26, hm13_28, hm13_29, trivial⟩, ⟨_, x15⟩, fun j9 h9 => ((f13 j9 (by omega)).trans (f6 j9 (by omega))).trans (f1 j9 (by omega))⟩)
  · have c17 := qWy_gt (c17)
    refine g_aload_n E dX13_age_20 rfl rfl rfl ?_
    refine g_iload_n E dX13_age_21 rfl rfl rfl ?_
    have x16 := (f6 (2000) (by omega)).trans (h1)
    have hM17 : pMq g6 (.ref mb) 0 tr wh tp fa ac mk [] := ⟨_, x16, rfl, hM_1, hM_2, hM_3, hM_5, hM_6, hM_12, hM_15, hM_16, hM_17, hM_18, hM_19, hM_20, hM_26, hM_28, hM_29, trivial⟩
    refine g_callV (k := 2000) (n9 := 1) (av := [.int (qWy ((qI (B 0 3) p).isSome) dy)]) (st := []) E (ct_X13_refused l (qWy ((qI (B 0 3) p).isSome) dy) hM17) gciX13 dX13_age_22 x16 q1846 q1848 qs52 q135 q1849 (by decide +kernel) rfl rfl ⟨by decide, by decide⟩ ⟨by decide, by decide⟩ (Nat.le_of_ble_eq_true rfl) rfl (gPi.k (fun g18 h18 => ?_))
    obtain ⟨hm18, f18⟩ := h18
    have hm18_o := hm18
    obtain ⟨hm18_F, hm18_a, hm18_0, hm18_1, hm18_2, hm18_3, hm18_5, hm18_6, hm18_12, hm18_15, hm18_16, hm18_17, hm18_18, hm18_19, hm18_20, hm18_26, hm18_28, hm18_29, -⟩ := hm18_o
    refine g_goto E dX13_age_25 (tgt := 41) (by decide) ?_
    have hs19 : sAge B d p dy = ((-1), qWy ((qI (B 0 3) p).isSome) dy) := by first | (simp [sAge, sG, c17]; done) | (simp [sAge, sG, c17, qWy]; done)
    have x20 := (f18 (2003) (by omega)).trans (hx6_a)
    exact g_iret E Rt dX13_age_41 rfl (by decide) (by decide) (by rw [hs19]; exact ⟨rfl, ⟨_, hm18_a, hm18_0, hm18_1, hm18_2, hm18_3, hm18_5, hm18_6, hm18_12, hm18_15, hm18_16, hm18_17, hm18_18, hm18_19, hm18_20, hm18_26, hm18_28, hm18_29, trivial⟩, ⟨_, x20⟩, fun j9 h9 => ((f18 j9 (by omega)).trans (f6 j9 (by omega))).trans (f1 j9 (by omega))⟩)
set_option maxHeartbeats 1000000 in
theorem ct_X13_age_N (l : Launch) {g : gWM} {th tr wh fa : Int32} {tp ac mk : Nat} (p : Int32) (dy : Int32) (hM : pMq g .null th tr wh tp fa ac mk []) : gCt l yX13_age cX13_age 4 (some .int) 1 0 0 22 [.ref 2000, .int p, .int dy] g (gPi (sAge zB0 0 p dy).1 (fun g1 => pMq g1 .null 0 ((sAge zB0 0 p dy).2) (-1) tp fa ac mk [] ∧ ∀ j, j ≠ 2000 → g1 j = g j)) := by
  refine gCt.of RX13 (by decide) rfl (lo := [some (.ref 2000), some (.int p), some (.int dy), none]) 1 rfl (Nat.le_of_ble_eq_true rfl) (fun z E Rt => ?_)
  have hM_o := hM
  obtain ⟨hM_F, hM_a, hM_0, hM_1, hM_2, hM_3, hM_5, hM_6, hM_12, hM_15, hM_16, hM_17, hM_18, hM_19, hM_20, hM_26, hM_28, hM_29, -⟩ := hM_o
  refine g_aload_n E dX13_age_0 rfl rfl rfl ?_
  refine g_iconst E (v := 0) dX13_age_1 (by decide) rfl ?_
  refine g_putf E gciX13 (v := .int 0) dX13_age_2 hM_a 0 rfl (by decide) q1740 (.inl rfl) rfl (fun _ => rfl) (fun _ => rfl) rfl (g_upk (fun g1 h1 f1 => ?_))
  refine g_aload_n E dX13_age_5 rfl rfl rfl ?_
  refine g_aload_n E dX13_age_6 rfl rfl rfl ?_
  refine g_iload_n E dX13_age_7 rfl rfl rfl ?_
  have hM2 : pMq g1 .null 0 tr wh tp fa ac mk [] := ⟨_, h1, rfl, hM_1, hM_2, hM_3, hM_5, hM_6, hM_12, hM_15, hM_16, hM_17, hM_18, hM_19, hM_20, hM_26, hM_28, hM_29, trivial⟩
  refine g_callV (k := 2000) (n9 := 1) (av := [.int p]) (st := [.ref 2000]) E (ct_X13_isGood_N l p hM2) gciX13 dX13_age_8 h1 q2197 q2199 qs81 q135 q2200 (by decide +kernel) rfl rfl ⟨by decide, by decide⟩ ⟨by decide, by decide⟩ (Nat.le_of_ble_eq_true rfl) rfl (gPu.k ?_)
  refine g_iload_n E dX13_age_11 rfl rfl rfl ?_
  refine g_callV (k := 2000) (n9 := 2) (av := [.int 0, .int dy]) (st := []) E (ct_X13_asks_F l dy hM2) gciX13 dX13_age_12 h1 q2233 q2235 qs87 q135 q2236 (by decide +kernel) rfl rfl ⟨by decide, by decide⟩ ⟨by decide, by decide⟩ (Nat.le_of_ble_eq_true rfl) rfl (gPu.k ?_)
  refine g_istore_n E dX13_age_15 rfl (by decide) rfl (lo1 := [some (.ref 2000), some (.int p), some (.int dy), some (.int 1)]) rfl rfl ?_
  refine g_iload_n E dX13_age_16 rfl rfl rfl ?_
  refine g_if_le E dX13_age_17 (tgt := 28) (by decide) rfl (fun h9 => absurd h9 (by decide)) (fun _ => ?_)
  refine g_aload_n E dX13_age_20 rfl rfl rfl ?_
  refine g_iload_n E dX13_age_21 rfl rfl rfl ?_
  refine g_callV (k := 2000) (n9 := 1) (av := [.int 1]) (st := []) E (ct_X13_refused l 1 hM2) gciX13 dX13_age_22 h1 q1846 q1848 qs52 q135 q1849 (by decide +kernel) rfl rfl ⟨by decide, by decide⟩ ⟨by decide, by decide⟩ (Nat.le_of_ble_eq_true rfl) rfl (gPi.k (fun g3 h3 => ?_))
  obtain ⟨hm3, f3⟩ := h3
  have hm3_o := hm3
  obtain ⟨hm3_F, hm3_a, hm3_0, hm3_1, hm3_2, hm3_3, hm3_5, hm3_6, hm3_12, hm3_15, hm3_16, hm3_17, hm3_18, hm3_19, hm3_20, hm3_26, hm3_28, hm3_29, -⟩ := hm3_o
  refine g_goto E dX13_age_25 (tgt := 41) (by decide) ?_
  have hs4 : sAge zB0 0 p dy = ((-1), 1) := by first | (simp [sAge, sG, qI_z, qWy]; done) | (simp [sAge, sG, qI_z, qWy, qWy]; done)
  exact g_iret E Rt dX13_age_41 rfl (by decide) (by decide) (by rw [hs4]; exact ⟨rfl, ⟨_, hm3_a, hm3_0, hm3_1, hm3_2, hm3_3, hm3_5, hm3_6, hm3_12, hm3_15, hm3_16, hm3_17, hm3_18, hm3_19, hm3_20, hm3_26, hm3_28, hm3_29, trivial⟩, fun j9 h9 => (f3 j9 (by omega)).trans (f1 j9 (by omega))⟩)
set_option maxHeartbeats 1000000 in
theorem ct_X13_worth (l : Launch) {g : gWM} {mb : Nat} {B : gBar} {R : Nat → Int32} {d : Int32} {th tr wh fa : Int32} {tp ac mk : Nat} (p : Int32) (dy : Int32) (hw : wfB B) (hM : pMq g (.ref mb) th tr wh tp fa ac mk []) (hMb : pMb g mb B) (hV : pRw g 2002 B R d) (hX : pIx g 2003 18) (h9 : 10000 ≤ mb) : gCt l yX13_worth cX13_worth 4 (some .int) 3 0 0 66 [.ref 2000, .int p, .int dy] g (gPi (sWor B d p dy).1 (fun g1 => pMq g1 (.ref mb) 0 ((sWor B d p dy).2) (-1) tp fa ac mk [] ∧ pIx g1 2003 18 ∧ ∀ j, (j ≠ 2000 ∧ j ≠ 2003) → g1 j = g j)) := by
  refine gCt.of RX13 (by decide) rfl (lo := [some (.ref 2000), some (.int p), some (.int dy), none]) 1 rfl (Nat.le_of_ble_eq_true rfl) (fun z E Rt => ?_)
  have hw_n := hw.1
  have hM_o := hM
  obtain ⟨hM_F, hM_a, hM_0, hM_1, hM_2, hM_3, hM_5, hM_6, hM_12, hM_15, hM_16, hM_17, hM_18, hM_19, hM_20, hM_26, hM_28, hM_29, -⟩ := hM_o
  have hMb_o := hMb
  obtain ⟨⟨hMb_F, hMb_a, hMb_0, hMb_1, hMb_2, hMb_3, hMb_4, hMb_5, hMb_6, hMb_7, hMb_8, hMb_9, hMb_11, hMb_12, hMb_13, hMb_14, hMb_15, hMb_16, hMb_17, hMb_18, hMb_19, hMb_20, hMb_21, hMb_22, hMb_23, hMb_24, hMb_25, hMb_26, hMb_27, hMb_28, hMb_29, hMb_30, hMb_31⟩, ⟨hMb_f1, hMb_a1, hMb_b1⟩, ⟨hMb_f2, hMb_a2, hMb_b2⟩, ⟨hMb_f3, hMb_a3, hMb_b3⟩, ⟨hMb_f4, hMb_a4, hMb_b4⟩, ⟨hMb_f5, hMb_a5, hMb_b5⟩, ⟨hMb_f6, hMb_a6, hMb_b6⟩, ⟨hMb_f7, hMb_a7, hMb_b7⟩, ⟨hMb_f8, hMb_a8, hMb_b8⟩, ⟨hMb_f9, hMb_a9, hMb_b9⟩, ⟨hMb_f10, hMb_a10, hMb_b10⟩, ⟨hMb_f11, hMb_a11, hMb_b11⟩, ⟨hMb_f12, hMb_a12, hMb_b12⟩, ⟨hMb_f13, hMb_a13, hMb_b13⟩, ⟨hMb_f14, hMb_a14, hMb_b14⟩, ⟨hMb_f15, hMb_a15, hMb_b15⟩, ⟨hMb_f16, hMb_a16, hMb_b16⟩, ⟨hMb_f17, hMb_a17, hMb_b17⟩, ⟨hMb_f18, hMb_a18, hMb_b18⟩, ⟨hMb_f19, hMb_a19, hMb_b19⟩, ⟨hMb_f20, hMb_a20, hMb_b20⟩, ⟨hMb_f21, hMb_a21, hMb_b21⟩⟩ := hMb_o
  have hV_o := hV
  obtain ⟨hV_f, hV_a, hV_r, hV_d⟩ := hV_o
  have hX_o := hX
  obtain ⟨hX_f, hX_a⟩ := hX_o
  refine g_aload_n E dX13_worth_0 rfl rfl rfl ?_
  refine g_iconst E (v := 0) dX13_worth_1 (by decide) rfl ?_
  refine g_putf E gciX13 (v := .int 0) dX13_worth_2 hM_a 0 rfl (by decide) q1740 (.inl rfl) rfl (fun _ => rfl) (fun _ => rfl) rfl (g_upk (fun g1 h1 f1 => ?_))
  refine g_aload_n E dX13_worth_5 rfl rfl rfl ?_
  refine g_aload_n E dX13_worth_6 rfl rfl rfl ?_
  refine g_iload_n E dX13_worth_7 rfl rfl rfl ?_
  have hM2 : pMq g1 (.ref mb) 0 tr wh tp fa ac mk [] := ⟨_, h1, rfl, hM_1, hM_2, hM_3, hM_5, hM_6, hM_12, hM_15, hM_16, hM_17, hM_18, hM_19, hM_20, hM_26, hM_28, hM_29, trivial⟩
  have y3 := (hMb.fr  (fun j9 a9 b9 => f1 j9 (by omega)))
  refine g_callV (k := 2000) (n9 := 1) (av := [.int p]) (st := [.ref 2000]) E (ct_X13_isGood l p hw hM2 y3) gciX13 dX13_worth_8 h1 q2197 q2199 qs81 q135 q2200 (by decide +kernel) rfl rfl ⟨by decide, by decide⟩ ⟨by decide, by decide⟩ (Nat.le_of_ble_eq_true rfl) rfl (gPu.k ?_)
  refine g_iload_n E dX13_worth_11 rfl rfl rfl ?_
  have y4 := (hV.fr  (fun j9 a9 b9 => f1 j9 (by omega)))
  have x5 := (f1 (2003) (by omega)).trans (hX_a)
  refine g_callV (k := 2000) (n9 := 2) (av := [.int (zb (qI (B 0 3) p).isSome), .int dy]) (st := []) E (ct_X13_asks l ((qI (B 0 3) p).isSome) dy hw hM2 y4 (⟨_, x5⟩)) gciX13 dX13_worth_12 h1 q2233 q2235 qs87 q135 q2236 (by decide +kernel) rfl rfl ⟨by decide, by decide⟩ ⟨by decide, by decide⟩ (Nat.le_of_ble_eq_true rfl) rfl (gPi.k (fun g6 h6 => ?_))
  obtain ⟨ha6, hx6, f6⟩ := h6
  have hx6_o := hx6
  obtain ⟨hx6_f, hx6_a⟩ := hx6_o
  refine g_istore_n E dX13_worth_15 rfl (by decide) rfl (lo1 := [some (.ref 2000), some (.int p), some (.int dy), some (.int (qWy ((qI (B 0 3) p).isSome) dy))]) rfl rfl ?_
  refine g_iload_n E dX13_worth_16 rfl rfl rfl ?_
  refine g_if_le E dX13_worth_17 (tgt := 28) (by decide) rfl (fun c17 => ?_) (fun c17 => ?_)
  · have c17 := qWy_le (c17)
    have hr7 := ha6 c17
    have q8 := (qWy_0.mp c17).1
    have q8_z := (qWy_0.mp c17).2
    obtain ⟨j, q9⟩ := isSome_of q8
    obtain ⟨rfl, q9_l⟩ := qI_some (by omega) q9
    have hr7_o := hr7
    obtain ⟨hr7_f, hr7_a, hr7_r, hr7_d⟩ := hr7_o
    refine g_aload_n E dX13_worth_28 rfl rfl rfl ?_
    refine g_aload_n E dX13_worth_29 rfl rfl rfl ?_
    refine g_aload_n E dX13_worth_30 rfl rfl rfl ?_
    have x10 := (f6 (2000) (by omega)).trans (h1)
    refine g_getf E gciX13 dX13_worth_31 x10 16 rfl (by decide) q1756 (.inl rfl) (.ref 2003) (hM_16) rfl ?_
    refine g_iload_n E dX13_worth_34 rfl rfl rfl ?_
    have hM11 : pMq g6 (.ref mb) 0 tr wh tp fa ac mk [] := ⟨_, x10, rfl, hM_1, hM_2, hM_3, hM_5, hM_6, hM_12, hM_15, hM_16, hM_17, hM_18, hM_19, hM_20, hM_26, hM_28, hM_29, trivial⟩
    have y12 := (y3.fr  (fun j9 a9 b9 => f6 j9 (by omega)))
    refine g_callV (k := 2000) (n9 := 2) (av := [.ref 2003, .int (nI j)]) (st := [.ref 2000]) E (ct_X13_worthIn l j hw hM11 y12 hr7 (by omega)) gciX13 dX13_worth_35 x10 q2249 q2251 qs90 q135 q2252 (by decide +kernel) rfl rfl ⟨by decide, by decide⟩ ⟨by decide, by decide⟩ (Nat.le_of_ble_eq_true rfl) rfl (gPu.k ?_)
    refine g_callV (k := 2000) (n9 := 1) (av := [.int (zWor B j (d + dy))]) (st := []) E (ct_X13_fine l (zWor B j (d + dy)) hM11) gciX13 dX13_worth_38 x10 q2181 q2183 qs80 q135 q2184 (by decide +kernel) rfl rfl ⟨by decide, by decide⟩ ⟨by decide, by decide⟩ (Nat.le_of_ble_eq_true rfl) rfl (gPi.k (fun g13 h13 => ?_))
    obtain ⟨hm13, f13⟩ := h13
    have hm13_o := hm13
    obtain ⟨hm13_F, hm13_a, hm13_0, hm13_1, hm13_2, hm13_3, hm13_5, hm13_6, hm13_12, hm13_15, hm13_16, hm13_17, hm13_18, hm13_19, hm13_20, hm13_26, hm13_28, hm13_29, -⟩ := hm13_o
    have hs14 : sWor B d (nI j) dy = (zWor B j (d + dy), 0) := by first | (simp [sWor, sG, c17, q9, q8_z]; done) | (simp [sWor, sG, c17, q9, q8_z, qWy]; done)
    have x15 := (f13 (2003) (by omega)).trans (hr7_a)
    exact g_iret E Rt dX13_worth_41 rfl (by decide) (by decide) (by rw [hs14]; exact ⟨rfl, ⟨_, hm13_a, hm13_0, hm13_1, hm13_2, hm13_3, hm13_5, hm13_6, hm13_12, hm13_15, hm13_16, hm13_17, hm13_18, hm13_19, hm13_20, hm13_26, hm13_28, hm13_29, trivial⟩, ⟨_, x15⟩, fun j9 h9 => ((f13 j9 (by omega)).trans (f6 j9 (by omega))).trans (f1 j9 (by omega))⟩)
  · have c17 := qWy_gt (c17)
    refine g_aload_n E dX13_worth_20 rfl rfl rfl ?_
    refine g_iload_n E dX13_worth_21 rfl rfl rfl ?_
    have x16 := (f6 (2000) (by omega)).trans (h1)
    have hM17 : pMq g6 (.ref mb) 0 tr wh tp fa ac mk [] := ⟨_, x16, rfl, hM_1, hM_2, hM_3, hM_5, hM_6, hM_12, hM_15, hM_16, hM_17, hM_18, hM_19, hM_20, hM_26, hM_28, hM_29, trivial⟩
    refine g_callV (k := 2000) (n9 := 1) (av := [.int (qWy ((qI (B 0 3) p).isSome) dy)]) (st := []) E (ct_X13_refused l (qWy ((qI (B 0 3) p).isSome) dy) hM17) gciX13 dX13_worth_22 x16 q1846 q1848 qs52 q135 q1849 (by decide +kernel) rfl rfl ⟨by decide, by decide⟩ ⟨by decide, by decide⟩ (Nat.le_of_ble_eq_true rfl) rfl (gPi.k (fun g18 h18 => ?_))
    obtain ⟨hm18, f18⟩ := h18
    have hm18_o := hm18
    obtain ⟨hm18_F, hm18_a, hm18_0, hm18_1, hm18_2, hm18_3, hm18_5, hm18_6, hm18_12, hm18_15, hm18_16, hm18_17, hm18_18, hm18_19, hm18_20, hm18_26, hm18_28, hm18_29, -⟩ := hm18_o
    refine g_goto E dX13_worth_25 (tgt := 41) (by decide) ?_
    have hs19 : sWor B d p dy = ((-1), qWy ((qI (B 0 3) p).isSome) dy) := by first | (simp [sWor, sG, c17]; done) | (simp [sWor, sG, c17, qWy]; done)
    have x20 := (f18 (2003) (by omega)).trans (hx6_a)
    exact g_iret E Rt dX13_worth_41 rfl (by decide) (by decide) (by rw [hs19]; exact ⟨rfl, ⟨_, hm18_a, hm18_0, hm18_1, hm18_2, hm18_3, hm18_5, hm18_6, hm18_12, hm18_15, hm18_16, hm18_17, hm18_18, hm18_19, hm18_20, hm18_26, hm18_28, hm18_29, trivial⟩, ⟨_, x20⟩, fun j9 h9 => ((f18 j9 (by omega)).trans (f6 j9 (by omega))).trans (f1 j9 (by omega))⟩)
set_option maxHeartbeats 1000000 in
theorem ct_X13_worth_N (l : Launch) {g : gWM} {th tr wh fa : Int32} {tp ac mk : Nat} (p : Int32) (dy : Int32) (hM : pMq g .null th tr wh tp fa ac mk []) : gCt l yX13_worth cX13_worth 4 (some .int) 1 0 0 22 [.ref 2000, .int p, .int dy] g (gPi (sWor zB0 0 p dy).1 (fun g1 => pMq g1 .null 0 ((sWor zB0 0 p dy).2) (-1) tp fa ac mk [] ∧ ∀ j, j ≠ 2000 → g1 j = g j)) := by
  refine gCt.of RX13 (by decide) rfl (lo := [some (.ref 2000), some (.int p), some (.int dy), none]) 1 rfl (Nat.le_of_ble_eq_true rfl) (fun z E Rt => ?_)
  have hM_o := hM
  obtain ⟨hM_F, hM_a, hM_0, hM_1, hM_2, hM_3, hM_5, hM_6, hM_12, hM_15, hM_16, hM_17, hM_18, hM_19, hM_20, hM_26, hM_28, hM_29, -⟩ := hM_o
  refine g_aload_n E dX13_worth_0 rfl rfl rfl ?_
  refine g_iconst E (v := 0) dX13_worth_1 (by decide) rfl ?_
  refine g_putf E gciX13 (v := .int 0) dX13_worth_2 hM_a 0 rfl (by decide) q1740 (.inl rfl) rfl (fun _ => rfl) (fun _ => rfl) rfl (g_upk (fun g1 h1 f1 => ?_))
  refine g_aload_n E dX13_worth_5 rfl rfl rfl ?_
  refine g_aload_n E dX13_worth_6 rfl rfl rfl ?_
  refine g_iload_n E dX13_worth_7 rfl rfl rfl ?_
  have hM2 : pMq g1 .null 0 tr wh tp fa ac mk [] := ⟨_, h1, rfl, hM_1, hM_2, hM_3, hM_5, hM_6, hM_12, hM_15, hM_16, hM_17, hM_18, hM_19, hM_20, hM_26, hM_28, hM_29, trivial⟩
  refine g_callV (k := 2000) (n9 := 1) (av := [.int p]) (st := [.ref 2000]) E (ct_X13_isGood_N l p hM2) gciX13 dX13_worth_8 h1 q2197 q2199 qs81 q135 q2200 (by decide +kernel) rfl rfl ⟨by decide, by decide⟩ ⟨by decide, by decide⟩ (Nat.le_of_ble_eq_true rfl) rfl (gPu.k ?_)
  refine g_iload_n E dX13_worth_11 rfl rfl rfl ?_
  refine g_callV (k := 2000) (n9 := 2) (av := [.int 0, .int dy]) (st := []) E (ct_X13_asks_F l dy hM2) gciX13 dX13_worth_12 h1 q2233 q2235 qs87 q135 q2236 (by decide +kernel) rfl rfl ⟨by decide, by decide⟩ ⟨by decide, by decide⟩ (Nat.le_of_ble_eq_true rfl) rfl (gPu.k ?_)
  refine g_istore_n E dX13_worth_15 rfl (by decide) rfl (lo1 := [some (.ref 2000), some (.int p), some (.int dy), some (.int 1)]) rfl rfl ?_
  refine g_iload_n E dX13_worth_16 rfl rfl rfl ?_
  refine g_if_le E dX13_worth_17 (tgt := 28) (by decide) rfl (fun h9 => absurd h9 (by decide)) (fun _ => ?_)
  refine g_aload_n E dX13_worth_20 rfl rfl rfl ?_
  refine g_iload_n E dX13_worth_21 rfl rfl rfl ?_
  refine g_callV (k := 2000) (n9 := 1) (av := [.int 1]) (st := []) E (ct_X13_refused l 1 hM2) gciX13 dX13_worth_22 h1 q1846 q1848 qs52 q135 q1849 (by decide +kernel) rfl rfl ⟨by decide, by decide⟩ ⟨by decide, by decide⟩ (Nat.le_of_ble_eq_true rfl) rfl (gPi.k (fun g3 h3 => ?_))
  obtain ⟨hm3, f3⟩ := h3
  have hm3_o := hm3
  obtain ⟨hm3_F, hm3_a, hm3_0, hm3_1, hm3_2, hm3_3, hm3_5, hm3_6, hm3_12, hm3_15, hm3_16, hm3_17, hm3_18, hm3_19, hm3_20, hm3_26, hm3_28, hm3_29, -⟩ := hm3_o
  refine g_goto E dX13_worth_25 (tgt := 41) (by decide) ?_
  have hs4 : sWor zB0 0 p dy = ((-1), 1) := by first | (simp [sWor, sG, qI_z, qWy]; done) | (simp [sWor, sG, qI_z, qWy, qWy]; done)
  exact g_iret E Rt dX13_worth_41 rfl (by decide) (by decide) (by rw [hs4]; exact ⟨rfl, ⟨_, hm3_a, hm3_0, hm3_1, hm3_2, hm3_3, hm3_5, hm3_6, hm3_12, hm3_15, hm3_16, hm3_17, hm3_18, hm3_19, hm3_20, hm3_26, hm3_28, hm3_29, trivial⟩, fun j9 h9 => (f3 j9 (by omega)).trans (f1 j9 (by omega))⟩)
set_option maxHeartbeats 1000000 in
theorem ct_X13_duty (l : Launch) {g : gWM} {mb : Nat} {B : gBar} {R : Nat → Int32} {d : Int32} {th tr wh fa : Int32} {tp ac mk : Nat} (p : Int32) (dy : Int32) (hw : wfB B) (hM : pMq g (.ref mb) th tr wh tp fa ac mk []) (hMb : pMb g mb B) (hV : pRw g 2002 B R d) (hX : pIx g 2003 18) (h9 : 10000 ≤ mb) : gCt l yX13_duty cX13_duty 4 (some .int) 3 0 0 67 [.ref 2000, .int p, .int dy] g (gPi (sDut B d p dy).1 (fun g1 => pMq g1 (.ref mb) 0 ((sDut B d p dy).2) (-1) tp fa ac mk [] ∧ pIx g1 2003 18 ∧ ∀ j, (j ≠ 2000 ∧ j ≠ 2003) → g1 j = g j)) := by
  refine gCt.of RX13 (by decide) rfl (lo := [some (.ref 2000), some (.int p), some (.int dy), none]) 1 rfl (Nat.le_of_ble_eq_true rfl) (fun z E Rt => ?_)
  have hw_n := hw.1
  have hM_o := hM
  obtain ⟨hM_F, hM_a, hM_0, hM_1, hM_2, hM_3, hM_5, hM_6, hM_12, hM_15, hM_16, hM_17, hM_18, hM_19, hM_20, hM_26, hM_28, hM_29, -⟩ := hM_o
  have hMb_o := hMb
  obtain ⟨⟨hMb_F, hMb_a, hMb_0, hMb_1, hMb_2, hMb_3, hMb_4, hMb_5, hMb_6, hMb_7, hMb_8, hMb_9, hMb_11, hMb_12, hMb_13, hMb_14, hMb_15, hMb_16, hMb_17, hMb_18, hMb_19, hMb_20, hMb_21, hMb_22, hMb_23, hMb_24, hMb_25, hMb_26, hMb_27, hMb_28, hMb_29, hMb_30, hMb_31⟩, ⟨hMb_f1, hMb_a1, hMb_b1⟩, ⟨hMb_f2, hMb_a2, hMb_b2⟩, ⟨hMb_f3, hMb_a3, hMb_b3⟩, ⟨hMb_f4, hMb_a4, hMb_b4⟩, ⟨hMb_f5, hMb_a5, hMb_b5⟩, ⟨hMb_f6, hMb_a6, hMb_b6⟩, ⟨hMb_f7, hMb_a7, hMb_b7⟩, ⟨hMb_f8, hMb_a8, hMb_b8⟩, ⟨hMb_f9, hMb_a9, hMb_b9⟩, ⟨hMb_f10, hMb_a10, hMb_b10⟩, ⟨hMb_f11, hMb_a11, hMb_b11⟩, ⟨hMb_f12, hMb_a12, hMb_b12⟩, ⟨hMb_f13, hMb_a13, hMb_b13⟩, ⟨hMb_f14, hMb_a14, hMb_b14⟩, ⟨hMb_f15, hMb_a15, hMb_b15⟩, ⟨hMb_f16, hMb_a16, hMb_b16⟩, ⟨hMb_f17, hMb_a17, hMb_b17⟩, ⟨hMb_f18, hMb_a18, hMb_b18⟩, ⟨hMb_f19, hMb_a19, hMb_b19⟩, ⟨hMb_f20, hMb_a20, hMb_b20⟩, ⟨hMb_f21, hMb_a21, hMb_b21⟩⟩ := hMb_o
  have hV_o := hV
  obtain ⟨hV_f, hV_a, hV_r, hV_d⟩ := hV_o
  have hX_o := hX
  obtain ⟨hX_f, hX_a⟩ := hX_o
  refine g_aload_n E dX13_duty_0 rfl rfl rfl ?_
  refine g_iconst E (v := 0) dX13_duty_1 (by decide) rfl ?_
  refine g_putf E gciX13 (v := .int 0) dX13_duty_2 hM_a 0 rfl (by decide) q1740 (.inl rfl) rfl (fun _ => rfl) (fun _ => rfl) rfl (g_upk (fun g1 h1 f1 => ?_))
  refine g_aload_n E dX13_duty_5 rfl rfl rfl ?_
  refine g_aload_n E dX13_duty_6 rfl rfl rfl ?_
  refine g_iload_n E dX13_duty_7 rfl rfl rfl ?_
  have hM2 : pMq g1 (.ref mb) 0 tr wh tp fa ac mk [] := ⟨_, h1, rfl, hM_1, hM_2, hM_3, hM_5, hM_6, hM_12, hM_15, hM_16, hM_17, hM_18, hM_19, hM_20, hM_26, hM_28, hM_29, trivial⟩
  have y3 := (hMb.fr  (fun j9 a9 b9 => f1 j9 (by omega)))
  refine g_callV (k := 2000) (n9 := 1) (av := [.int p]) (st := [.ref 2000]) E (ct_X13_isGood l p hw hM2 y3) gciX13 dX13_duty_8 h1 q2197 q2199 qs81 q135 q2200 (by decide +kernel) rfl rfl ⟨by decide, by decide⟩ ⟨by decide, by decide⟩ (Nat.le_of_ble_eq_true rfl) rfl (gPu.k ?_)
  refine g_iload_n E dX13_duty_11 rfl rfl rfl ?_
  have y4 := (hV.fr  (fun j9 a9 b9 => f1 j9 (by omega)))
  have x5 := (f1 (2003) (by omega)).trans (hX_a)
  refine g_callV (k := 2000) (n9 := 2) (av := [.int (zb (qI (B 0 3) p).isSome), .int dy]) (st := []) E (ct_X13_asks l ((qI (B 0 3) p).isSome) dy hw hM2 y4 (⟨_, x5⟩)) gciX13 dX13_duty_12 h1 q2233 q2235 qs87 q135 q2236 (by decide +kernel) rfl rfl ⟨by decide, by decide⟩ ⟨by decide, by decide⟩ (Nat.le_of_ble_eq_true rfl) rfl (gPi.k (fun g6 h6 => ?_))
  obtain ⟨ha6, hx6, f6⟩ := h6
  have hx6_o := hx6
  obtain ⟨hx6_f, hx6_a⟩ := hx6_o
  refine g_istore_n E dX13_duty_15 rfl (by decide) rfl (lo1 := [some (.ref 2000), some (.int p), some (.int dy), some (.int (qWy ((qI (B 0 3) p).isSome) dy))]) rfl rfl ?_
  refine g_iload_n E dX13_duty_16 rfl rfl rfl ?_
  refine g_if_le E dX13_duty_17 (tgt := 28) (by decide) rfl (fun c17 => ?_) (fun c17 => ?_)
  · have c17 := qWy_le (c17)
    have hr7 := ha6 c17
    have q8 := (qWy_0.mp c17).1
    have q8_z := (qWy_0.mp c17).2
    obtain ⟨j, q9⟩ := isSome_of q8
    obtain ⟨rfl, q9_l⟩ := qI_some (by omega) q9
    have hr7_o := hr7
    obtain ⟨hr7_f, hr7_a, hr7_r, hr7_d⟩ := hr7_o
    refine g_aload_n E dX13_duty_28 rfl rfl rfl ?_
    refine g_aload_n E dX13_duty_29 rfl rfl rfl ?_
    refine g_aload_n E dX13_duty_30 rfl rfl rfl ?_
    have x10 := (f6 (2000) (by omega)).trans (h1)
    refine g_getf E gciX13 dX13_duty_31 x10 16 rfl (by decide) q1756 (.inl rfl) (.ref 2003) (hM_16) rfl ?_
    refine g_iload_n E dX13_duty_34 rfl rfl rfl ?_
    refine g_iconst E (v := 0) dX13_duty_35 (by decide) rfl ?_
    have hM11 : pMq g6 (.ref mb) 0 tr wh tp fa ac mk [] := ⟨_, x10, rfl, hM_1, hM_2, hM_3, hM_5, hM_6, hM_12, hM_15, hM_16, hM_17, hM_18, hM_19, hM_20, hM_26, hM_28, hM_29, trivial⟩
    have y12 := (y3.fr  (fun j9 a9 b9 => f6 j9 (by omega)))
    refine g_callV (k := 2000) (n9 := 3) (av := [.ref 2003, .int (nI j), .int 0]) (st := [.ref 2000]) E (ct_X13_dutyIn l j 0 hw hM11 y12 hr7 (by omega) (by omega)) gciX13 dX13_duty_36 x10 q2265 q2267 qs92 q135 q2268 (by decide +kernel) rfl rfl ⟨by decide, by decide⟩ ⟨by decide, by decide⟩ (Nat.le_of_ble_eq_true rfl) rfl (gPu.k ?_)
    refine g_callV (k := 2000) (n9 := 1) (av := [.int (zDut B 1 j (d + dy))]) (st := []) E (ct_X13_fine l (zDut B 1 j (d + dy)) hM11) gciX13 dX13_duty_39 x10 q2181 q2183 qs80 q135 q2184 (by decide +kernel) rfl rfl ⟨by decide, by decide⟩ ⟨by decide, by decide⟩ (Nat.le_of_ble_eq_true rfl) rfl (gPi.k (fun g13 h13 => ?_))
    obtain ⟨hm13, f13⟩ := h13
    have hm13_o := hm13
    obtain ⟨hm13_F, hm13_a, hm13_0, hm13_1, hm13_2, hm13_3, hm13_5, hm13_6, hm13_12, hm13_15, hm13_16, hm13_17, hm13_18, hm13_19, hm13_20, hm13_26, hm13_28, hm13_29, -⟩ := hm13_o
    have hs14 : sDut B d (nI j) dy = (zDut B 1 j (d + dy), 0) := by first | (simp [sDut, sG, c17, q9, q8_z]; done) | (simp [sDut, sG, c17, q9, q8_z, qWy]; done)
    have x15 := (f13 (2003) (by omega)).trans (hr7_a)
    exact g_iret E Rt dX13_duty_42 rfl (by decide) (by decide) (by rw [hs14]; exact ⟨rfl, ⟨_, hm13_a, hm13_0, hm13_1, hm13_2, hm13_3, hm13_5, hm13_6, hm13_12, hm13_15, hm13_16, hm13_17, hm13_18, hm13_19, hm13_20, hm13_26, hm13_28, hm13_29, trivial⟩, ⟨_, x15⟩, fun j9 h9 => ((f13 j9 (by omega)).trans (f6 j9 (by omega))).trans (f1 j9 (by omega))⟩)
  · have c17 := qWy_gt (c17)
    refine g_aload_n E dX13_duty_20 rfl rfl rfl ?_
    refine g_iload_n E dX13_duty_21 rfl rfl rfl ?_
    have x16 := (f6 (2000) (by omega)).trans (h1)
    have hM17 : pMq g6 (.ref mb) 0 tr wh tp fa ac mk [] := ⟨_, x16, rfl, hM_1, hM_2, hM_3, hM_5, hM_6, hM_12, hM_15, hM_16, hM_17, hM_18, hM_19, hM_20, hM_26, hM_28, hM_29, trivial⟩
    refine g_callV (k := 2000) (n9 := 1) (av := [.int (qWy ((qI (B 0 3) p).isSome) dy)]) (st := []) E (ct_X13_refused l (qWy ((qI (B 0 3) p).isSome) dy) hM17) gciX13 dX13_duty_22 x16 q1846 q1848 qs52 q135 q1849 (by decide +kernel) rfl rfl ⟨by decide, by decide⟩ ⟨by decide, by decide⟩ (Nat.le_of_ble_eq_true rfl) rfl (gPi.k (fun g18 h18 => ?_))
    obtain ⟨hm18, f18⟩ := h18
    have hm18_o := hm18
    obtain ⟨hm18_F, hm18_a, hm18_0, hm18_1, hm18_2, hm18_3, hm18_5, hm18_6, hm18_12, hm18_15, hm18_16, hm18_17, hm18_18, hm18_19, hm18_20, hm18_26, hm18_28, hm18_29, -⟩ := hm18_o
    refine g_goto E dX13_duty_25 (tgt := 42) (by decide) ?_
    have hs19 : sDut B d p dy = ((-1), qWy ((qI (B 0 3) p).isSome) dy) := by first | (simp [sDut, sG, c17]; done) | (simp [sDut, sG, c17, qWy]; done)
    have x20 := (f18 (2003) (by omega)).trans (hx6_a)
    exact g_iret E Rt dX13_duty_42 rfl (by decide) (by decide) (by rw [hs19]; exact ⟨rfl, ⟨_, hm18_a, hm18_0, hm18_1, hm18_2, hm18_3, hm18_5, hm18_6, hm18_12, hm18_15, hm18_16, hm18_17, hm18_18, hm18_19, hm18_20, hm18_26, hm18_28, hm18_29, trivial⟩, ⟨_, x20⟩, fun j9 h9 => ((f18 j9 (by omega)).trans (f6 j9 (by omega))).trans (f1 j9 (by omega))⟩)
set_option maxHeartbeats 1000000 in
theorem ct_X13_duty_N (l : Launch) {g : gWM} {th tr wh fa : Int32} {tp ac mk : Nat} (p : Int32) (dy : Int32) (hM : pMq g .null th tr wh tp fa ac mk []) : gCt l yX13_duty cX13_duty 4 (some .int) 1 0 0 22 [.ref 2000, .int p, .int dy] g (gPi (sDut zB0 0 p dy).1 (fun g1 => pMq g1 .null 0 ((sDut zB0 0 p dy).2) (-1) tp fa ac mk [] ∧ ∀ j, j ≠ 2000 → g1 j = g j)) := by
  refine gCt.of RX13 (by decide) rfl (lo := [some (.ref 2000), some (.int p), some (.int dy), none]) 1 rfl (Nat.le_of_ble_eq_true rfl) (fun z E Rt => ?_)
  have hM_o := hM
  obtain ⟨hM_F, hM_a, hM_0, hM_1, hM_2, hM_3, hM_5, hM_6, hM_12, hM_15, hM_16, hM_17, hM_18, hM_19, hM_20, hM_26, hM_28, hM_29, -⟩ := hM_o
  refine g_aload_n E dX13_duty_0 rfl rfl rfl ?_
  refine g_iconst E (v := 0) dX13_duty_1 (by decide) rfl ?_
  refine g_putf E gciX13 (v := .int 0) dX13_duty_2 hM_a 0 rfl (by decide) q1740 (.inl rfl) rfl (fun _ => rfl) (fun _ => rfl) rfl (g_upk (fun g1 h1 f1 => ?_))
  refine g_aload_n E dX13_duty_5 rfl rfl rfl ?_
  refine g_aload_n E dX13_duty_6 rfl rfl rfl ?_
  refine g_iload_n E dX13_duty_7 rfl rfl rfl ?_
  have hM2 : pMq g1 .null 0 tr wh tp fa ac mk [] := ⟨_, h1, rfl, hM_1, hM_2, hM_3, hM_5, hM_6, hM_12, hM_15, hM_16, hM_17, hM_18, hM_19, hM_20, hM_26, hM_28, hM_29, trivial⟩
  refine g_callV (k := 2000) (n9 := 1) (av := [.int p]) (st := [.ref 2000]) E (ct_X13_isGood_N l p hM2) gciX13 dX13_duty_8 h1 q2197 q2199 qs81 q135 q2200 (by decide +kernel) rfl rfl ⟨by decide, by decide⟩ ⟨by decide, by decide⟩ (Nat.le_of_ble_eq_true rfl) rfl (gPu.k ?_)
  refine g_iload_n E dX13_duty_11 rfl rfl rfl ?_
  refine g_callV (k := 2000) (n9 := 2) (av := [.int 0, .int dy]) (st := []) E (ct_X13_asks_F l dy hM2) gciX13 dX13_duty_12 h1 q2233 q2235 qs87 q135 q2236 (by decide +kernel) rfl rfl ⟨by decide, by decide⟩ ⟨by decide, by decide⟩ (Nat.le_of_ble_eq_true rfl) rfl (gPu.k ?_)
  refine g_istore_n E dX13_duty_15 rfl (by decide) rfl (lo1 := [some (.ref 2000), some (.int p), some (.int dy), some (.int 1)]) rfl rfl ?_
  refine g_iload_n E dX13_duty_16 rfl rfl rfl ?_
  refine g_if_le E dX13_duty_17 (tgt := 28) (by decide) rfl (fun h9 => absurd h9 (by decide)) (fun _ => ?_)
  refine g_aload_n E dX13_duty_20 rfl rfl rfl ?_
  refine g_iload_n E dX13_duty_21 rfl rfl rfl ?_
  refine g_callV (k := 2000) (n9 := 1) (av := [.int 1]) (st := []) E (ct_X13_refused l 1 hM2) gciX13 dX13_duty_22 h1 q1846 q1848 qs52 q135 q1849 (by decide +kernel) rfl rfl ⟨by decide, by decide⟩ ⟨by decide, by decide⟩ (Nat.le_of_ble_eq_true rfl) rfl (gPi.k (fun g3 h3 => ?_))
  obtain ⟨hm3, f3⟩ := h3
  have hm3_o := hm3
  obtain ⟨hm3_F, hm3_a, hm3_0, hm3_1, hm3_2, hm3_3, hm3_5, hm3_6, hm3_12, hm3_15, hm3_16, hm3_17, hm3_18, hm3_19, hm3_20, hm3_26, hm3_28, hm3_29, -⟩ := hm3_o
  refine g_goto E dX13_duty_25 (tgt := 42) (by decide) ?_
  have hs4 : sDut zB0 0 p dy = ((-1), 1) := by first | (simp [sDut, sG, qI_z, qWy]; done) | (simp [sDut, sG, qI_z, qWy, qWy]; done)
  exact g_iret E Rt dX13_duty_42 rfl (by decide) (by decide) (by rw [hs4]; exact ⟨rfl, ⟨_, hm3_a, hm3_0, hm3_1, hm3_2, hm3_3, hm3_5, hm3_6, hm3_12, hm3_15, hm3_16, hm3_17, hm3_18, hm3_19, hm3_20, hm3_26, hm3_28, hm3_29, trivial⟩, fun j9 h9 => (f3 j9 (by omega)).trans (f1 j9 (by omega))⟩)
set_option maxHeartbeats 1000000 in
theorem ct_X13_smell (l : Launch) {g : gWM} {mb : Nat} {B : gBar} {R : Nat → Int32} {d : Int32} {th tr wh fa : Int32} {tp ac mk : Nat} (p : Int32) (dy : Int32) (hw : wfB B) (hM : pMq g (.ref mb) th tr wh tp fa ac mk []) (hMb : pMb g mb B) (hV : pRw g 2002 B R d) (hX : pIx g 2003 18) (h9 : 10000 ≤ mb) : gCt l yX13_smell cX13_smell 4 (some .int) 4 0 0 92 [.ref 2000, .int p, .int dy] g (gPi (sSme B R d p dy).1 (fun g1 => pMq g1 (.ref mb) 0 ((sSme B R d p dy).2) (-1) tp fa ac mk [] ∧ pIx g1 2003 18 ∧ ∀ j, (j ≠ 2000 ∧ j ≠ 2003) → g1 j = g j)) := by
  refine gCt.of RX13 (by decide) rfl (lo := [some (.ref 2000), some (.int p), some (.int dy), none]) 1 rfl (Nat.le_of_ble_eq_true rfl) (fun z E Rt => ?_)
  have hw_n := hw.1
  have hM_o := hM
  obtain ⟨hM_F, hM_a, hM_0, hM_1, hM_2, hM_3, hM_5, hM_6, hM_12, hM_15, hM_16, hM_17, hM_18, hM_19, hM_20, hM_26, hM_28, hM_29, -⟩ := hM_o
  have hMb_o := hMb
  obtain ⟨⟨hMb_F, hMb_a, hMb_0, hMb_1, hMb_2, hMb_3, hMb_4, hMb_5, hMb_6, hMb_7, hMb_8, hMb_9, hMb_11, hMb_12, hMb_13, hMb_14, hMb_15, hMb_16, hMb_17, hMb_18, hMb_19, hMb_20, hMb_21, hMb_22, hMb_23, hMb_24, hMb_25, hMb_26, hMb_27, hMb_28, hMb_29, hMb_30, hMb_31⟩, ⟨hMb_f1, hMb_a1, hMb_b1⟩, ⟨hMb_f2, hMb_a2, hMb_b2⟩, ⟨hMb_f3, hMb_a3, hMb_b3⟩, ⟨hMb_f4, hMb_a4, hMb_b4⟩, ⟨hMb_f5, hMb_a5, hMb_b5⟩, ⟨hMb_f6, hMb_a6, hMb_b6⟩, ⟨hMb_f7, hMb_a7, hMb_b7⟩, ⟨hMb_f8, hMb_a8, hMb_b8⟩, ⟨hMb_f9, hMb_a9, hMb_b9⟩, ⟨hMb_f10, hMb_a10, hMb_b10⟩, ⟨hMb_f11, hMb_a11, hMb_b11⟩, ⟨hMb_f12, hMb_a12, hMb_b12⟩, ⟨hMb_f13, hMb_a13, hMb_b13⟩, ⟨hMb_f14, hMb_a14, hMb_b14⟩, ⟨hMb_f15, hMb_a15, hMb_b15⟩, ⟨hMb_f16, hMb_a16, hMb_b16⟩, ⟨hMb_f17, hMb_a17, hMb_b17⟩, ⟨hMb_f18, hMb_a18, hMb_b18⟩, ⟨hMb_f19, hMb_a19, hMb_b19⟩, ⟨hMb_f20, hMb_a20, hMb_b20⟩, ⟨hMb_f21, hMb_a21, hMb_b21⟩⟩ := hMb_o
  have hV_o := hV
  obtain ⟨hV_f, hV_a, hV_r, hV_d⟩ := hV_o
  have hX_o := hX
  obtain ⟨hX_f, hX_a⟩ := hX_o
  refine g_aload_n E dX13_smell_0 rfl rfl rfl ?_
  refine g_iconst E (v := 0) dX13_smell_1 (by decide) rfl ?_
  refine g_putf E gciX13 (v := .int 0) dX13_smell_2 hM_a 0 rfl (by decide) q1740 (.inl rfl) rfl (fun _ => rfl) (fun _ => rfl) rfl (g_upk (fun g1 h1 f1 => ?_))
  refine g_aload_n E dX13_smell_5 rfl rfl rfl ?_
  refine g_aload_n E dX13_smell_6 rfl rfl rfl ?_
  refine g_iload_n E dX13_smell_7 rfl rfl rfl ?_
  have hM2 : pMq g1 (.ref mb) 0 tr wh tp fa ac mk [] := ⟨_, h1, rfl, hM_1, hM_2, hM_3, hM_5, hM_6, hM_12, hM_15, hM_16, hM_17, hM_18, hM_19, hM_20, hM_26, hM_28, hM_29, trivial⟩
  have y3 := (hMb.fr  (fun j9 a9 b9 => f1 j9 (by omega)))
  refine g_callV (k := 2000) (n9 := 1) (av := [.int p]) (st := [.ref 2000]) E (ct_X13_isGood l p hw hM2 y3) gciX13 dX13_smell_8 h1 q2197 q2199 qs81 q135 q2200 (by decide +kernel) rfl rfl ⟨by decide, by decide⟩ ⟨by decide, by decide⟩ (Nat.le_of_ble_eq_true rfl) rfl (gPu.k ?_)
  refine g_iload_n E dX13_smell_11 rfl rfl rfl ?_
  have y4 := (hV.fr  (fun j9 a9 b9 => f1 j9 (by omega)))
  have x5 := (f1 (2003) (by omega)).trans (hX_a)
  refine g_callV (k := 2000) (n9 := 2) (av := [.int (zb (qI (B 0 3) p).isSome), .int dy]) (st := []) E (ct_X13_asks l ((qI (B 0 3) p).isSome) dy hw hM2 y4 (⟨_, x5⟩)) gciX13 dX13_smell_12 h1 q2233 q2235 qs87 q135 q2236 (by decide +kernel) rfl rfl ⟨by decide, by decide⟩ ⟨by decide, by decide⟩ (Nat.le_of_ble_eq_true rfl) rfl (gPi.k (fun g6 h6 => ?_))
  obtain ⟨ha6, hx6, f6⟩ := h6
  have hx6_o := hx6
  obtain ⟨hx6_f, hx6_a⟩ := hx6_o
  refine g_istore_n E dX13_smell_15 rfl (by decide) rfl (lo1 := [some (.ref 2000), some (.int p), some (.int dy), some (.int (qWy ((qI (B 0 3) p).isSome) dy))]) rfl rfl ?_
  refine g_iload_n E dX13_smell_16 rfl rfl rfl ?_
  refine g_if_le E dX13_smell_17 (tgt := 28) (by decide) rfl (fun c17 => ?_) (fun c17 => ?_)
  · have c17 := qWy_le (c17)
    have hr7 := ha6 c17
    have q8 := (qWy_0.mp c17).1
    have q8_z := (qWy_0.mp c17).2
    obtain ⟨j, q9⟩ := isSome_of q8
    obtain ⟨rfl, q9_l⟩ := qI_some (by omega) q9
    have hr7_o := hr7
    obtain ⟨hr7_f, hr7_a, hr7_r, hr7_d⟩ := hr7_o
    refine g_aload_n E dX13_smell_28 rfl rfl rfl ?_
    refine g_aload_n E dX13_smell_29 rfl rfl rfl ?_
    refine g_aload_n E dX13_smell_30 rfl rfl rfl ?_
    have x10 := (f6 (2000) (by omega)).trans (h1)
    refine g_getf E gciX13 dX13_smell_31 x10 16 rfl (by decide) q1756 (.inl rfl) (.ref 2003) (hM_16) rfl ?_
    refine g_iload_n E dX13_smell_34 rfl rfl rfl ?_
    refine g_iconst E (v := 0) dX13_smell_35 (by decide) rfl ?_
    have hM11 : pMq g6 (.ref mb) 0 tr wh tp fa ac mk [] := ⟨_, x10, rfl, hM_1, hM_2, hM_3, hM_5, hM_6, hM_12, hM_15, hM_16, hM_17, hM_18, hM_19, hM_20, hM_26, hM_28, hM_29, trivial⟩
    have y12 := (y3.fr  (fun j9 a9 b9 => f6 j9 (by omega)))
    refine g_callV (k := 2000) (n9 := 3) (av := [.ref 2003, .int (nI j), .int 0]) (st := [.ref 2000]) E (ct_X13_smellIn l j 0 hw hM11 y12 hr7 (by omega)) gciX13 dX13_smell_36 x10 q2273 q2275 qs93 q135 q2276 (by decide +kernel) rfl rfl ⟨by decide, by decide⟩ ⟨by decide, by decide⟩ (Nat.le_of_ble_eq_true rfl) rfl (gPu.k ?_)
    refine g_callV (k := 2000) (n9 := 1) (av := [.int (zSme B R j (d + dy) 0)]) (st := []) E (ct_X13_fine l (zSme B R j (d + dy) 0) hM11) gciX13 dX13_smell_39 x10 q2181 q2183 qs80 q135 q2184 (by decide +kernel) rfl rfl ⟨by decide, by decide⟩ ⟨by decide, by decide⟩ (Nat.le_of_ble_eq_true rfl) rfl (gPi.k (fun g13 h13 => ?_))
    obtain ⟨hm13, f13⟩ := h13
    have hm13_o := hm13
    obtain ⟨hm13_F, hm13_a, hm13_0, hm13_1, hm13_2, hm13_3, hm13_5, hm13_6, hm13_12, hm13_15, hm13_16, hm13_17, hm13_18, hm13_19, hm13_20, hm13_26, hm13_28, hm13_29, -⟩ := hm13_o
    have hs14 : sSme B R d (nI j) dy = (zSme B R j (d + dy) 0, 0) := by first | (simp [sSme, sG, c17, q9, q8_z]; done) | (simp [sSme, sG, c17, q9, q8_z, qWy]; done)
    have x15 := (f13 (2003) (by omega)).trans (hr7_a)
    exact g_iret E Rt dX13_smell_42 rfl (by decide) (by decide) (by rw [hs14]; exact ⟨rfl, ⟨_, hm13_a, hm13_0, hm13_1, hm13_2, hm13_3, hm13_5, hm13_6, hm13_12, hm13_15, hm13_16, hm13_17, hm13_18, hm13_19, hm13_20, hm13_26, hm13_28, hm13_29, trivial⟩, ⟨_, x15⟩, fun j9 h9 => ((f13 j9 (by omega)).trans (f6 j9 (by omega))).trans (f1 j9 (by omega))⟩)
  · have c17 := qWy_gt (c17)
    refine g_aload_n E dX13_smell_20 rfl rfl rfl ?_
    refine g_iload_n E dX13_smell_21 rfl rfl rfl ?_
    have x16 := (f6 (2000) (by omega)).trans (h1)
    have hM17 : pMq g6 (.ref mb) 0 tr wh tp fa ac mk [] := ⟨_, x16, rfl, hM_1, hM_2, hM_3, hM_5, hM_6, hM_12, hM_15, hM_16, hM_17, hM_18, hM_19, hM_20, hM_26, hM_28, hM_29, trivial⟩
    refine g_callV (k := 2000) (n9 := 1) (av := [.int (qWy ((qI (B 0 3) p).isSome) dy)]) (st := []) E (ct_X13_refused l (qWy ((qI (B 0 3) p).isSome) dy) hM17) gciX13 dX13_smell_22 x16 q1846 q1848 qs52 q135 q1849 (by decide +kernel) rfl rfl ⟨by decide, by decide⟩ ⟨by decide, by decide⟩ (Nat.le_of_ble_eq_true rfl) rfl (gPi.k (fun g18 h18 => ?_))
    obtain ⟨hm18, f18⟩ := h18
    have hm18_o := hm18
    obtain ⟨hm18_F, hm18_a, hm18_0, hm18_1, hm18_2, hm18_3, hm18_5, hm18_6, hm18_12, hm18_15, hm18_16, hm18_17, hm18_18, hm18_19, hm18_20, hm18_26, hm18_28, hm18_29, -⟩ := hm18_o
    refine g_goto E dX13_smell_25 (tgt := 42) (by decide) ?_
    have hs19 : sSme B R d p dy = ((-1), qWy ((qI (B 0 3) p).isSome) dy) := by first | (simp [sSme, sG, c17]; done) | (simp [sSme, sG, c17, qWy]; done)
    have x20 := (f18 (2003) (by omega)).trans (hx6_a)
    exact g_iret E Rt dX13_smell_42 rfl (by decide) (by decide) (by rw [hs19]; exact ⟨rfl, ⟨_, hm18_a, hm18_0, hm18_1, hm18_2, hm18_3, hm18_5, hm18_6, hm18_12, hm18_15, hm18_16, hm18_17, hm18_18, hm18_19, hm18_20, hm18_26, hm18_28, hm18_29, trivial⟩, ⟨_, x20⟩, fun j9 h9 => ((f18 j9 (by omega)).trans (f6 j9 (by omega))).trans (f1 j9 (by omega))⟩)
set_option maxHeartbeats 1000000 in
theorem ct_X13_smell_N (l : Launch) {g : gWM} {th tr wh fa : Int32} {tp ac mk : Nat} (p : Int32) (dy : Int32) (hM : pMq g .null th tr wh tp fa ac mk []) : gCt l yX13_smell cX13_smell 4 (some .int) 1 0 0 22 [.ref 2000, .int p, .int dy] g (gPi (sSme zB0 (fun _ => 0) 0 p dy).1 (fun g1 => pMq g1 .null 0 ((sSme zB0 (fun _ => 0) 0 p dy).2) (-1) tp fa ac mk [] ∧ ∀ j, j ≠ 2000 → g1 j = g j)) := by
  refine gCt.of RX13 (by decide) rfl (lo := [some (.ref 2000), some (.int p), some (.int dy), none]) 1 rfl (Nat.le_of_ble_eq_true rfl) (fun z E Rt => ?_)
  have hM_o := hM
  obtain ⟨hM_F, hM_a, hM_0, hM_1, hM_2, hM_3, hM_5, hM_6, hM_12, hM_15, hM_16, hM_17, hM_18, hM_19, hM_20, hM_26, hM_28, hM_29, -⟩ := hM_o
  refine g_aload_n E dX13_smell_0 rfl rfl rfl ?_
  refine g_iconst E (v := 0) dX13_smell_1 (by decide) rfl ?_
  refine g_putf E gciX13 (v := .int 0) dX13_smell_2 hM_a 0 rfl (by decide) q1740 (.inl rfl) rfl (fun _ => rfl) (fun _ => rfl) rfl (g_upk (fun g1 h1 f1 => ?_))
  refine g_aload_n E dX13_smell_5 rfl rfl rfl ?_
  refine g_aload_n E dX13_smell_6 rfl rfl rfl ?_
  refine g_iload_n E dX13_smell_7 rfl rfl rfl ?_
  have hM2 : pMq g1 .null 0 tr wh tp fa ac mk [] := ⟨_, h1, rfl, hM_1, hM_2, hM_3, hM_5, hM_6, hM_12, hM_15, hM_16, hM_17, hM_18, hM_19, hM_20, hM_26, hM_28, hM_29, trivial⟩
  refine g_callV (k := 2000) (n9 := 1) (av := [.int p]) (st := [.ref 2000]) E (ct_X13_isGood_N l p hM2) gciX13 dX13_smell_8 h1 q2197 q2199 qs81 q135 q2200 (by decide +kernel) rfl rfl ⟨by decide, by decide⟩ ⟨by decide, by decide⟩ (Nat.le_of_ble_eq_true rfl) rfl (gPu.k ?_)
  refine g_iload_n E dX13_smell_11 rfl rfl rfl ?_
  refine g_callV (k := 2000) (n9 := 2) (av := [.int 0, .int dy]) (st := []) E (ct_X13_asks_F l dy hM2) gciX13 dX13_smell_12 h1 q2233 q2235 qs87 q135 q2236 (by decide +kernel) rfl rfl ⟨by decide, by decide⟩ ⟨by decide, by decide⟩ (Nat.le_of_ble_eq_true rfl) rfl (gPu.k ?_)
  refine g_istore_n E dX13_smell_15 rfl (by decide) rfl (lo1 := [some (.ref 2000), some (.int p), some (.int dy), some (.int 1)]) rfl rfl ?_
  refine g_iload_n E dX13_smell_16 rfl rfl rfl ?_
  refine g_if_le E dX13_smell_17 (tgt := 28) (by decide) rfl (fun h9 => absurd h9 (by decide)) (fun _ => ?_)
  refine g_aload_n E dX13_smell_20 rfl rfl rfl ?_
  refine g_iload_n E dX13_smell_21 rfl rfl rfl ?_
  refine g_callV (k := 2000) (n9 := 1) (av := [.int 1]) (st := []) E (ct_X13_refused l 1 hM2) gciX13 dX13_smell_22 h1 q1846 q1848 qs52 q135 q1849 (by decide +kernel) rfl rfl ⟨by decide, by decide⟩ ⟨by decide, by decide⟩ (Nat.le_of_ble_eq_true rfl) rfl (gPi.k (fun g3 h3 => ?_))
  obtain ⟨hm3, f3⟩ := h3
  have hm3_o := hm3
  obtain ⟨hm3_F, hm3_a, hm3_0, hm3_1, hm3_2, hm3_3, hm3_5, hm3_6, hm3_12, hm3_15, hm3_16, hm3_17, hm3_18, hm3_19, hm3_20, hm3_26, hm3_28, hm3_29, -⟩ := hm3_o
  refine g_goto E dX13_smell_25 (tgt := 42) (by decide) ?_
  have hs4 : sSme zB0 (fun _ => 0) 0 p dy = ((-1), 1) := by first | (simp [sSme, sG, qI_z, qWy]; done) | (simp [sSme, sG, qI_z, qWy, qWy]; done)
  exact g_iret E Rt dX13_smell_42 rfl (by decide) (by decide) (by rw [hs4]; exact ⟨rfl, ⟨_, hm3_a, hm3_0, hm3_1, hm3_2, hm3_3, hm3_5, hm3_6, hm3_12, hm3_15, hm3_16, hm3_17, hm3_18, hm3_19, hm3_20, hm3_26, hm3_28, hm3_29, trivial⟩, fun j9 h9 => (f3 j9 (by omega)).trans (f1 j9 (by omega))⟩)
set_option maxHeartbeats 1000000 in
theorem ct_X13_asked (l : Launch) {g : gWM} {mb : Nat} {B : gBar} {R : Nat → Int32} {d : Int32} {th tr wh fa : Int32} {tp ac mk : Nat} (p : Int32) (q : Int32) (dy : Int32) (hw : wfB B) (hM : pMq g (.ref mb) th tr wh tp fa ac mk []) (hMb : pMb g mb B) (hV : pRw g 2002 B R d) (hX : pIx g 2003 18) (h9 : 10000 ≤ mb) : gCt l yX13_asked cX13_asked 5 (some .int) 6 0 0 141 [.ref 2000, .int p, .int q, .int dy] g (gPi (sAsk B R d p q dy).1 (fun g1 => pMq g1 (.ref mb) 0 ((sAsk B R d p q dy).2) (-1) tp fa ac mk [] ∧ pIx g1 2003 18 ∧ ∀ j, (j ≠ 2000 ∧ j ≠ 2003) → g1 j = g j)) := by
  refine gCt.of RX13 (by decide) rfl (lo := [some (.ref 2000), some (.int p), some (.int q), some (.int dy), none]) 1 rfl (Nat.le_of_ble_eq_true rfl) (fun z E Rt => ?_)
  have hw_n := hw.1
  have hM_o := hM
  obtain ⟨hM_F, hM_a, hM_0, hM_1, hM_2, hM_3, hM_5, hM_6, hM_12, hM_15, hM_16, hM_17, hM_18, hM_19, hM_20, hM_26, hM_28, hM_29, -⟩ := hM_o
  have hMb_o := hMb
  obtain ⟨⟨hMb_F, hMb_a, hMb_0, hMb_1, hMb_2, hMb_3, hMb_4, hMb_5, hMb_6, hMb_7, hMb_8, hMb_9, hMb_11, hMb_12, hMb_13, hMb_14, hMb_15, hMb_16, hMb_17, hMb_18, hMb_19, hMb_20, hMb_21, hMb_22, hMb_23, hMb_24, hMb_25, hMb_26, hMb_27, hMb_28, hMb_29, hMb_30, hMb_31⟩, ⟨hMb_f1, hMb_a1, hMb_b1⟩, ⟨hMb_f2, hMb_a2, hMb_b2⟩, ⟨hMb_f3, hMb_a3, hMb_b3⟩, ⟨hMb_f4, hMb_a4, hMb_b4⟩, ⟨hMb_f5, hMb_a5, hMb_b5⟩, ⟨hMb_f6, hMb_a6, hMb_b6⟩, ⟨hMb_f7, hMb_a7, hMb_b7⟩, ⟨hMb_f8, hMb_a8, hMb_b8⟩, ⟨hMb_f9, hMb_a9, hMb_b9⟩, ⟨hMb_f10, hMb_a10, hMb_b10⟩, ⟨hMb_f11, hMb_a11, hMb_b11⟩, ⟨hMb_f12, hMb_a12, hMb_b12⟩, ⟨hMb_f13, hMb_a13, hMb_b13⟩, ⟨hMb_f14, hMb_a14, hMb_b14⟩, ⟨hMb_f15, hMb_a15, hMb_b15⟩, ⟨hMb_f16, hMb_a16, hMb_b16⟩, ⟨hMb_f17, hMb_a17, hMb_b17⟩, ⟨hMb_f18, hMb_a18, hMb_b18⟩, ⟨hMb_f19, hMb_a19, hMb_b19⟩, ⟨hMb_f20, hMb_a20, hMb_b20⟩, ⟨hMb_f21, hMb_a21, hMb_b21⟩⟩ := hMb_o
  have hV_o := hV
  obtain ⟨hV_f, hV_a, hV_r, hV_d⟩ := hV_o
  have hX_o := hX
  obtain ⟨hX_f, hX_a⟩ := hX_o
  refine g_aload_n E dX13_asked_0 rfl rfl rfl ?_
  refine g_iconst E (v := 0) dX13_asked_1 (by decide) rfl ?_
  refine g_putf E gciX13 (v := .int 0) dX13_asked_2 hM_a 0 rfl (by decide) q1740 (.inl rfl) rfl (fun _ => rfl) (fun _ => rfl) rfl (g_upk (fun g1 h1 f1 => ?_))
  refine g_aload_n E dX13_asked_5 rfl rfl rfl ?_
  refine g_aload_n E dX13_asked_6 rfl rfl rfl ?_
  refine g_iload_n E dX13_asked_7 rfl rfl rfl ?_
  have hM2 : pMq g1 (.ref mb) 0 tr wh tp fa ac mk [] := ⟨_, h1, rfl, hM_1, hM_2, hM_3, hM_5, hM_6, hM_12, hM_15, hM_16, hM_17, hM_18, hM_19, hM_20, hM_26, hM_28, hM_29, trivial⟩
  have y3 := (hMb.fr  (fun j9 a9 b9 => f1 j9 (by omega)))
  refine g_callV (k := 2000) (n9 := 1) (av := [.int p]) (st := [.ref 2000]) E (ct_X13_isTraveller l p hw hM2 y3) gciX13 dX13_asked_8 h1 q2209 q2211 qs83 q135 q2212 (by decide +kernel) rfl rfl ⟨by decide, by decide⟩ ⟨by decide, by decide⟩ (Nat.le_of_ble_eq_true rfl) rfl (gPu.k ?_)
  refine g_if_eq E dX13_asked_11 (tgt := 26) (by decide) rfl (fun c11 => ?_) (fun c11 => ?_)
  · have c11 := zb_0.mp c11
    have q4 := isNone_of c11
    refine g_iconst E (v := 0) dX13_asked_26 (by decide) rfl ?_
    refine g_iload_n E dX13_asked_27 rfl rfl rfl ?_
    refine g_callV (k := 2000) (n9 := 2) (av := [.int 0, .int dy]) (st := []) E (ct_X13_asks_F l dy hM2) gciX13 dX13_asked_28 h1 q2233 q2235 qs87 q135 q2236 (by decide +kernel) rfl rfl ⟨by decide, by decide⟩ ⟨by decide, by decide⟩ (Nat.le_of_ble_eq_true rfl) rfl (gPu.k ?_)
    refine g_istore E dX13_asked_31 (by decide) rfl (lo1 := [some (.ref 2000), some (.int p), some (.int q), some (.int dy), some (.int 1)]) rfl rfl ?_
    refine g_iload E dX13_asked_33 rfl rfl ?_
    refine g_if_le E dX13_asked_35 (tgt := 47) (by decide) rfl (fun h9 => absurd h9 (by decide)) (fun _ => ?_)
    refine g_aload_n E dX13_asked_38 rfl rfl rfl ?_
    refine g_iload E dX13_asked_39 rfl rfl ?_
    refine g_callV (k := 2000) (n9 := 1) (av := [.int 1]) (st := []) E (ct_X13_refused l 1 hM2) gciX13 dX13_asked_41 h1 q1846 q1848 qs52 q135 q1849 (by decide +kernel) rfl rfl ⟨by decide, by decide⟩ ⟨by decide, by decide⟩ (Nat.le_of_ble_eq_true rfl) rfl (gPi.k (fun g5 h5 => ?_))
    obtain ⟨hm5, f5⟩ := h5
    have hm5_o := hm5
    obtain ⟨hm5_F, hm5_a, hm5_0, hm5_1, hm5_2, hm5_3, hm5_5, hm5_6, hm5_12, hm5_15, hm5_16, hm5_17, hm5_18, hm5_19, hm5_20, hm5_26, hm5_28, hm5_29, -⟩ := hm5_o
    refine g_goto E dX13_asked_44 (tgt := 61) (by decide) ?_
    have hs6 : sAsk B R d p q dy = ((-1), 1) := by first | (simp [sAsk, sX, c11, q4]; done) | (simp [sAsk, sX, c11, q4, qWy]; done)
    have x7 := (f5 (2003) (by omega)).trans ((f1 (2003) (by omega)).trans (hX_a))
    exact g_iret E Rt dX13_asked_61 rfl (by decide) (by decide) (by rw [hs6]; exact ⟨rfl, ⟨_, hm5_a, hm5_0, hm5_1, hm5_2, hm5_3, hm5_5, hm5_6, hm5_12, hm5_15, hm5_16, hm5_17, hm5_18, hm5_19, hm5_20, hm5_26, hm5_28, hm5_29, trivial⟩, ⟨_, x7⟩, fun j9 h9 => (f5 j9 (by omega)).trans (f1 j9 (by omega))⟩)
  · have c11 := zb_n0.mp c11
    obtain ⟨t, q8⟩ := isSome_of c11
    obtain ⟨rfl, q8_l⟩ := qI_some (by omega) q8
    refine g_aload_n E dX13_asked_14 rfl rfl rfl ?_
    refine g_iload_n E dX13_asked_15 rfl rfl rfl ?_
    refine g_callV (k := 2000) (n9 := 1) (av := [.int q]) (st := [.ref 2000]) E (ct_X13_isGate l q hw hM2 y3) gciX13 dX13_asked_16 h1 q2225 q2227 qs86 q135 q2228 (by decide +kernel) rfl rfl ⟨by decide, by decide⟩ ⟨by decide, by decide⟩ (Nat.le_of_ble_eq_true rfl) rfl (gPu.k ?_)
    refine g_if_eq E dX13_asked_19 (tgt := 26) (by decide) rfl (fun c19 => ?_) (fun c19 => ?_)
    · have c19 := zb_0.mp c19
      have q9 := isNone_of c19
      refine g_iconst E (v := 0) dX13_asked_26 (by decide) rfl ?_
      refine g_iload_n E dX13_asked_27 rfl rfl rfl ?_
      refine g_callV (k := 2000) (n9 := 2) (av := [.int 0, .int dy]) (st := []) E (ct_X13_asks_F l dy hM2) gciX13 dX13_asked_28 h1 q2233 q2235 qs87 q135 q2236 (by decide +kernel) rfl rfl ⟨by decide, by decide⟩ ⟨by decide, by decide⟩ (Nat.le_of_ble_eq_true rfl) rfl (gPu.k ?_)
      refine g_istore E dX13_asked_31 (by decide) rfl (lo1 := [some (.ref 2000), some (.int (nI t)), some (.int q), some (.int dy), some (.int 1)]) rfl rfl ?_
      refine g_iload E dX13_asked_33 rfl rfl ?_
      refine g_if_le E dX13_asked_35 (tgt := 47) (by decide) rfl (fun h9 => absurd h9 (by decide)) (fun _ => ?_)
      refine g_aload_n E dX13_asked_38 rfl rfl rfl ?_
      refine g_iload E dX13_asked_39 rfl rfl ?_
      refine g_callV (k := 2000) (n9 := 1) (av := [.int 1]) (st := []) E (ct_X13_refused l 1 hM2) gciX13 dX13_asked_41 h1 q1846 q1848 qs52 q135 q1849 (by decide +kernel) rfl rfl ⟨by decide, by decide⟩ ⟨by decide, by decide⟩ (Nat.le_of_ble_eq_true rfl) rfl (gPi.k (fun g10 h10 => ?_))
      obtain ⟨hm10, f10⟩ := h10
      have hm10_o := hm10
      obtain ⟨hm10_F, hm10_a, hm10_0, hm10_1, hm10_2, hm10_3, hm10_5, hm10_6, hm10_12, hm10_15, hm10_16, hm10_17, hm10_18, hm10_19, hm10_20, hm10_26, hm10_28, hm10_29, -⟩ := hm10_o
      refine g_goto E dX13_asked_44 (tgt := 61) (by decide) ?_
      have hs11 : sAsk B R d (nI t) q dy = ((-1), 1) := by first | (simp [sAsk, sX, c11, q8, c19, q9]; done) | (simp [sAsk, sX, c11, q8, c19, q9, qWy]; done)
      have x12 := (f10 (2003) (by omega)).trans ((f1 (2003) (by omega)).trans (hX_a))
      exact g_iret E Rt dX13_asked_61 rfl (by decide) (by decide) (by rw [hs11]; exact ⟨rfl, ⟨_, hm10_a, hm10_0, hm10_1, hm10_2, hm10_3, hm10_5, hm10_6, hm10_12, hm10_15, hm10_16, hm10_17, hm10_18, hm10_19, hm10_20, hm10_26, hm10_28, hm10_29, trivial⟩, ⟨_, x12⟩, fun j9 h9 => (f10 j9 (by omega)).trans (f1 j9 (by omega))⟩)
    · have c19 := zb_n0.mp c19
      obtain ⟨k9, q13⟩ := isSome_of c19
      obtain ⟨rfl, q13_l⟩ := qI_some (by omega) q13
      refine g_iconst E (v := 1) dX13_asked_22 (by decide) rfl ?_
      refine g_goto E dX13_asked_23 (tgt := 27) (by decide) ?_
      refine g_iload_n E dX13_asked_27 rfl rfl rfl ?_
      have y14 := (hV.fr  (fun j9 a9 b9 => f1 j9 (by omega)))
      have x15 := (f1 (2003) (by omega)).trans (hX_a)
      refine g_callV (k := 2000) (n9 := 2) (av := [.int 1, .int dy]) (st := []) E (ct_X13_asks l true dy hw hM2 y14 (⟨_, x15⟩)) gciX13 dX13_asked_28 h1 q2233 q2235 qs87 q135 q2236 (by decide +kernel) rfl rfl ⟨by decide, by decide⟩ ⟨by decide, by decide⟩ (Nat.le_of_ble_eq_true rfl) rfl (gPi.k (fun g16 h16 => ?_))
      obtain ⟨ha16, hx16, f16⟩ := h16
      have hx16_o := hx16
      obtain ⟨hx16_f, hx16_a⟩ := hx16_o
      refine g_istore E dX13_asked_31 (by decide) rfl (lo1 := [some (.ref 2000), some (.int (nI t)), some (.int (nI k9)), some (.int dy), some (.int (qWy true dy))]) rfl rfl ?_
      refine g_iload E dX13_asked_33 rfl rfl ?_
      refine g_if_le E dX13_asked_35 (tgt := 47) (by decide) rfl (fun c35 => ?_) (fun c35 => ?_)
      · have c35 := qWy_le (c35)
        have hr17 := ha16 c35
        have q18 := (qWy_0.mp c35).1
        have q18_z := (qWy_0.mp c35).2
        have hr17_o := hr17
        obtain ⟨hr17_f, hr17_a, hr17_r, hr17_d⟩ := hr17_o
        refine g_aload_n E dX13_asked_47 rfl rfl rfl ?_
        refine g_aload_n E dX13_asked_48 rfl rfl rfl ?_
        refine g_aload_n E dX13_asked_49 rfl rfl rfl ?_
        have x19 := (f16 (2000) (by omega)).trans (h1)
        refine g_getf E gciX13 dX13_asked_50 x19 16 rfl (by decide) q1756 (.inl rfl) (.ref 2003) (hM_16) rfl ?_
        refine g_iload_n E dX13_asked_53 rfl rfl rfl ?_
        refine g_iload_n E dX13_asked_54 rfl rfl rfl ?_
        have hM20 : pMq g16 (.ref mb) 0 tr wh tp fa ac mk [] := ⟨_, x19, rfl, hM_1, hM_2, hM_3, hM_5, hM_6, hM_12, hM_15, hM_16, hM_17, hM_18, hM_19, hM_20, hM_26, hM_28, hM_29, trivial⟩
        have y21 := (y3.fr  (fun j9 a9 b9 => f16 j9 (by omega)))
        refine g_callV (k := 2000) (n9 := 3) (av := [.ref 2003, .int (nI t), .int (nI k9)]) (st := [.ref 2000]) E (ct_X13_askedIn l t k9 hw hM20 y21 hr17 (by omega) (by omega)) gciX13 dX13_asked_55 x19 q2289 q2291 qs95 q135 q2292 (by decide +kernel) rfl rfl ⟨by decide, by decide⟩ ⟨by decide, by decide⟩ (Nat.le_of_ble_eq_true rfl) rfl (gPu.k ?_)
        refine g_callV (k := 2000) (n9 := 1) (av := [.int (zAo B R t k9 1 (d + dy))]) (st := []) E (ct_X13_fine l (zAo B R t k9 1 (d + dy)) hM20) gciX13 dX13_asked_58 x19 q2181 q2183 qs80 q135 q2184 (by decide +kernel) rfl rfl ⟨by decide, by decide⟩ ⟨by decide, by decide⟩ (Nat.le_of_ble_eq_true rfl) rfl (gPi.k (fun g22 h22 => ?_))
        obtain ⟨hm22, f22⟩ := h22
        have hm22_o := hm22
        obtain ⟨hm22_F, hm22_a, hm22_0, hm22_1, hm22_2, hm22_3, hm22_5, hm22_6, hm22_12, hm22_15, hm22_16, hm22_17, hm22_18, hm22_19, hm22_20, hm22_26, hm22_28, hm22_29, -⟩ := hm22_o
        have hs23 : sAsk B R d (nI t) (nI k9) dy = (zAo B R t k9 1 (d + dy), 0) := by first | (simp [sAsk, sX, c11, q8, c19, q13, c35, q18_z]; done) | (simp [sAsk, sX, c11, q8, c19, q13, c35, q18_z, qWy]; done)
        have x24 := (f22 (2003) (by omega)).trans (hr17_a)
        exact g_iret E Rt dX13_asked_61 rfl (by decide) (by decide) (by rw [hs23]; exact ⟨rfl, ⟨_, hm22_a, hm22_0, hm22_1, hm22_2, hm22_3, hm22_5, hm22_6, hm22_12, hm22_15, hm22_16, hm22_17, hm22_18, hm22_19, hm22_20, hm22_26, hm22_28, hm22_29, trivial⟩, ⟨_, x24⟩, fun j9 h9 => ((f22 j9 (by omega)).trans (f16 j9 (by omega))).trans (f1 j9 (by omega))⟩)
      · have c35 := qWy_gt (c35)
        refine g_aload_n E dX13_asked_38 rfl rfl rfl ?_
        refine g_iload E dX13_asked_39 rfl rfl ?_
        have x25 := (f16 (2000) (by omega)).trans (h1)
        have hM26 : pMq g16 (.ref mb) 0 tr wh tp fa ac mk [] := ⟨_, x25, rfl, hM_1, hM_2, hM_3, hM_5, hM_6, hM_12, hM_15, hM_16, hM_17, hM_18, hM_19, hM_20, hM_26, hM_28, hM_29, trivial⟩
        refine g_callV (k := 2000) (n9 := 1) (av := [.int (qWy true dy)]) (st := []) E (ct_X13_refused l (qWy true dy) hM26) gciX13 dX13_asked_41 x25 q1846 q1848 qs52 q135 q1849 (by decide +kernel) rfl rfl ⟨by decide, by decide⟩ ⟨by decide, by decide⟩ (Nat.le_of_ble_eq_true rfl) rfl (gPi.k (fun g27 h27 => ?_))
        obtain ⟨hm27, f27⟩ := h27
        have hm27_o := hm27
        obtain ⟨hm27_F, hm27_a, hm27_0, hm27_1, hm27_2, hm27_3, hm27_5, hm27_6, hm27_12, hm27_15, hm27_16, hm27_17, hm27_18, hm27_19, hm27_20, hm27_26, hm27_28, hm27_29, -⟩ := hm27_o
        refine g_goto E dX13_asked_44 (tgt := 61) (by decide) ?_
        have hs28 : sAsk B R d (nI t) (nI k9) dy = ((-1), qWy true dy) := by first | (simp [sAsk, sX, c11, q8, c19, q13, c35]; done) | (simp [sAsk, sX, c11, q8, c19, q13, c35, qWy]; done)
        have x29 := (f27 (2003) (by omega)).trans (hx16_a)
        exact g_iret E Rt dX13_asked_61 rfl (by decide) (by decide) (by rw [hs28]; exact ⟨rfl, ⟨_, hm27_a, hm27_0, hm27_1, hm27_2, hm27_3, hm27_5, hm27_6, hm27_12, hm27_15, hm27_16, hm27_17, hm27_18, hm27_19, hm27_20, hm27_26, hm27_28, hm27_29, trivial⟩, ⟨_, x29⟩, fun j9 h9 => ((f27 j9 (by omega)).trans (f16 j9 (by omega))).trans (f1 j9 (by omega))⟩)
set_option maxHeartbeats 1000000 in
theorem ct_X13_asked_N (l : Launch) {g : gWM} {th tr wh fa : Int32} {tp ac mk : Nat} (p : Int32) (q : Int32) (dy : Int32) (hM : pMq g .null th tr wh tp fa ac mk []) : gCt l yX13_asked cX13_asked 5 (some .int) 1 0 0 22 [.ref 2000, .int p, .int q, .int dy] g (gPi (sAsk zB0 (fun _ => 0) 0 p q dy).1 (fun g1 => pMq g1 .null 0 ((sAsk zB0 (fun _ => 0) 0 p q dy).2) (-1) tp fa ac mk [] ∧ ∀ j, j ≠ 2000 → g1 j = g j)) := by
  refine gCt.of RX13 (by decide) rfl (lo := [some (.ref 2000), some (.int p), some (.int q), some (.int dy), none]) 1 rfl (Nat.le_of_ble_eq_true rfl) (fun z E Rt => ?_)
  have hM_o := hM
  obtain ⟨hM_F, hM_a, hM_0, hM_1, hM_2, hM_3, hM_5, hM_6, hM_12, hM_15, hM_16, hM_17, hM_18, hM_19, hM_20, hM_26, hM_28, hM_29, -⟩ := hM_o
  refine g_aload_n E dX13_asked_0 rfl rfl rfl ?_
  refine g_iconst E (v := 0) dX13_asked_1 (by decide) rfl ?_
  refine g_putf E gciX13 (v := .int 0) dX13_asked_2 hM_a 0 rfl (by decide) q1740 (.inl rfl) rfl (fun _ => rfl) (fun _ => rfl) rfl (g_upk (fun g1 h1 f1 => ?_))
  refine g_aload_n E dX13_asked_5 rfl rfl rfl ?_
  refine g_aload_n E dX13_asked_6 rfl rfl rfl ?_
  refine g_iload_n E dX13_asked_7 rfl rfl rfl ?_
  have hM2 : pMq g1 .null 0 tr wh tp fa ac mk [] := ⟨_, h1, rfl, hM_1, hM_2, hM_3, hM_5, hM_6, hM_12, hM_15, hM_16, hM_17, hM_18, hM_19, hM_20, hM_26, hM_28, hM_29, trivial⟩
  refine g_callV (k := 2000) (n9 := 1) (av := [.int p]) (st := [.ref 2000]) E (ct_X13_isTraveller_N l p hM2) gciX13 dX13_asked_8 h1 q2209 q2211 qs83 q135 q2212 (by decide +kernel) rfl rfl ⟨by decide, by decide⟩ ⟨by decide, by decide⟩ (Nat.le_of_ble_eq_true rfl) rfl (gPu.k ?_)
  refine g_if_eq E dX13_asked_11 (tgt := 26) (by decide) rfl (fun _ => ?_) (fun h9 => absurd h9 (by decide))
  refine g_iconst E (v := 0) dX13_asked_26 (by decide) rfl ?_
  refine g_iload_n E dX13_asked_27 rfl rfl rfl ?_
  refine g_callV (k := 2000) (n9 := 2) (av := [.int 0, .int dy]) (st := []) E (ct_X13_asks_F l dy hM2) gciX13 dX13_asked_28 h1 q2233 q2235 qs87 q135 q2236 (by decide +kernel) rfl rfl ⟨by decide, by decide⟩ ⟨by decide, by decide⟩ (Nat.le_of_ble_eq_true rfl) rfl (gPu.k ?_)
  refine g_istore E dX13_asked_31 (by decide) rfl (lo1 := [some (.ref 2000), some (.int p), some (.int q), some (.int dy), some (.int 1)]) rfl rfl ?_
  refine g_iload E dX13_asked_33 rfl rfl ?_
  refine g_if_le E dX13_asked_35 (tgt := 47) (by decide) rfl (fun h9 => absurd h9 (by decide)) (fun _ => ?_)
  refine g_aload_n E dX13_asked_38 rfl rfl rfl ?_
  refine g_iload E dX13_asked_39 rfl rfl ?_
  refine g_callV (k := 2000) (n9 := 1) (av := [.int 1]) (st := []) E (ct_X13_refused l 1 hM2) gciX13 dX13_asked_41 h1 q1846 q1848 qs52 q135 q1849 (by decide +kernel) rfl rfl ⟨by decide, by decide⟩ ⟨by decide, by decide⟩ (Nat.le_of_ble_eq_true rfl) rfl (gPi.k (fun g3 h3 => ?_))
  obtain ⟨hm3, f3⟩ := h3
  have hm3_o := hm3
  obtain ⟨hm3_F, hm3_a, hm3_0, hm3_1, hm3_2, hm3_3, hm3_5, hm3_6, hm3_12, hm3_15, hm3_16, hm3_17, hm3_18, hm3_19, hm3_20, hm3_26, hm3_28, hm3_29, -⟩ := hm3_o
  refine g_goto E dX13_asked_44 (tgt := 61) (by decide) ?_
  have hs4 : sAsk zB0 (fun _ => 0) 0 p q dy = ((-1), 1) := by first | (simp [sAsk, sX, qI_z, qWy]; done) | (simp [sAsk, sX, qI_z, qWy, qWy]; done)
  exact g_iret E Rt dX13_asked_61 rfl (by decide) (by decide) (by rw [hs4]; exact ⟨rfl, ⟨_, hm3_a, hm3_0, hm3_1, hm3_2, hm3_3, hm3_5, hm3_6, hm3_12, hm3_15, hm3_16, hm3_17, hm3_18, hm3_19, hm3_20, hm3_26, hm3_28, hm3_29, trivial⟩, fun j9 h9 => (f3 j9 (by omega)).trans (f1 j9 (by omega))⟩)
set_option maxHeartbeats 1000000 in
theorem ct_X13_found (l : Launch) {g : gWM} {mb : Nat} {B : gBar} {R : Nat → Int32} {d : Int32} {th tr wh fa : Int32} {tp ac mk : Nat} (p : Int32) (q : Int32) (dy : Int32) (hw : wfB B) (hM : pMq g (.ref mb) th tr wh tp fa ac mk []) (hMb : pMb g mb B) (hV : pRw g 2002 B R d) (hX : pIx g 2003 18) (h9 : 10000 ≤ mb) : gCt l yX13_found cX13_found 5 (some .int) 5 0 0 118 [.ref 2000, .int p, .int q, .int dy] g (gPi (sFou B R d p q dy).1 (fun g1 => pMq g1 (.ref mb) 0 ((sFou B R d p q dy).2) (-1) tp fa ac mk [] ∧ pIx g1 2003 18 ∧ ∀ j, (j ≠ 2000 ∧ j ≠ 2003) → g1 j = g j)) := by
  refine gCt.of RX13 (by decide) rfl (lo := [some (.ref 2000), some (.int p), some (.int q), some (.int dy), none]) 1 rfl (Nat.le_of_ble_eq_true rfl) (fun z E Rt => ?_)
  have hw_n := hw.1
  have hM_o := hM
  obtain ⟨hM_F, hM_a, hM_0, hM_1, hM_2, hM_3, hM_5, hM_6, hM_12, hM_15, hM_16, hM_17, hM_18, hM_19, hM_20, hM_26, hM_28, hM_29, -⟩ := hM_o
  have hMb_o := hMb
  obtain ⟨⟨hMb_F, hMb_a, hMb_0, hMb_1, hMb_2, hMb_3, hMb_4, hMb_5, hMb_6, hMb_7, hMb_8, hMb_9, hMb_11, hMb_12, hMb_13, hMb_14, hMb_15, hMb_16, hMb_17, hMb_18, hMb_19, hMb_20, hMb_21, hMb_22, hMb_23, hMb_24, hMb_25, hMb_26, hMb_27, hMb_28, hMb_29, hMb_30, hMb_31⟩, ⟨hMb_f1, hMb_a1, hMb_b1⟩, ⟨hMb_f2, hMb_a2, hMb_b2⟩, ⟨hMb_f3, hMb_a3, hMb_b3⟩, ⟨hMb_f4, hMb_a4, hMb_b4⟩, ⟨hMb_f5, hMb_a5, hMb_b5⟩, ⟨hMb_f6, hMb_a6, hMb_b6⟩, ⟨hMb_f7, hMb_a7, hMb_b7⟩, ⟨hMb_f8, hMb_a8, hMb_b8⟩, ⟨hMb_f9, hMb_a9, hMb_b9⟩, ⟨hMb_f10, hMb_a10, hMb_b10⟩, ⟨hMb_f11, hMb_a11, hMb_b11⟩, ⟨hMb_f12, hMb_a12, hMb_b12⟩, ⟨hMb_f13, hMb_a13, hMb_b13⟩, ⟨hMb_f14, hMb_a14, hMb_b14⟩, ⟨hMb_f15, hMb_a15, hMb_b15⟩, ⟨hMb_f16, hMb_a16, hMb_b16⟩, ⟨hMb_f17, hMb_a17, hMb_b17⟩, ⟨hMb_f18, hMb_a18, hMb_b18⟩, ⟨hMb_f19, hMb_a19, hMb_b19⟩, ⟨hMb_f20, hMb_a20, hMb_b20⟩, ⟨hMb_f21, hMb_a21, hMb_b21⟩⟩ := hMb_o
  have hV_o := hV
  obtain ⟨hV_f, hV_a, hV_r, hV_d⟩ := hV_o
  have hX_o := hX
  obtain ⟨hX_f, hX_a⟩ := hX_o
  refine g_aload_n E dX13_found_0 rfl rfl rfl ?_
  refine g_iconst E (v := 0) dX13_found_1 (by decide) rfl ?_
  refine g_putf E gciX13 (v := .int 0) dX13_found_2 hM_a 0 rfl (by decide) q1740 (.inl rfl) rfl (fun _ => rfl) (fun _ => rfl) rfl (g_upk (fun g1 h1 f1 => ?_))
  refine g_aload_n E dX13_found_5 rfl rfl rfl ?_
  refine g_aload_n E dX13_found_6 rfl rfl rfl ?_
  refine g_iload_n E dX13_found_7 rfl rfl rfl ?_
  have hM2 : pMq g1 (.ref mb) 0 tr wh tp fa ac mk [] := ⟨_, h1, rfl, hM_1, hM_2, hM_3, hM_5, hM_6, hM_12, hM_15, hM_16, hM_17, hM_18, hM_19, hM_20, hM_26, hM_28, hM_29, trivial⟩
  have y3 := (hMb.fr  (fun j9 a9 b9 => f1 j9 (by omega)))
  refine g_callV (k := 2000) (n9 := 1) (av := [.int p]) (st := [.ref 2000]) E (ct_X13_isTraveller l p hw hM2 y3) gciX13 dX13_found_8 h1 q2209 q2211 qs83 q135 q2212 (by decide +kernel) rfl rfl ⟨by decide, by decide⟩ ⟨by decide, by decide⟩ (Nat.le_of_ble_eq_true rfl) rfl (gPu.k ?_)
  refine g_if_eq E dX13_found_11 (tgt := 26) (by decide) rfl (fun c11 => ?_) (fun c11 => ?_)
  · have c11 := zb_0.mp c11
    have q4 := isNone_of c11
    refine g_iconst E (v := 0) dX13_found_26 (by decide) rfl ?_
    refine g_iload_n E dX13_found_27 rfl rfl rfl ?_
    refine g_callV (k := 2000) (n9 := 2) (av := [.int 0, .int dy]) (st := []) E (ct_X13_asks_F l dy hM2) gciX13 dX13_found_28 h1 q2233 q2235 qs87 q135 q2236 (by decide +kernel) rfl rfl ⟨by decide, by decide⟩ ⟨by decide, by decide⟩ (Nat.le_of_ble_eq_true rfl) rfl (gPu.k ?_)
    refine g_istore E dX13_found_31 (by decide) rfl (lo1 := [some (.ref 2000), some (.int p), some (.int q), some (.int dy), some (.int 1)]) rfl rfl ?_
    refine g_iload E dX13_found_33 rfl rfl ?_
    refine g_if_le E dX13_found_35 (tgt := 47) (by decide) rfl (fun h9 => absurd h9 (by decide)) (fun _ => ?_)
    refine g_aload_n E dX13_found_38 rfl rfl rfl ?_
    refine g_iload E dX13_found_39 rfl rfl ?_
    refine g_callV (k := 2000) (n9 := 1) (av := [.int 1]) (st := []) E (ct_X13_refused l 1 hM2) gciX13 dX13_found_41 h1 q1846 q1848 qs52 q135 q1849 (by decide +kernel) rfl rfl ⟨by decide, by decide⟩ ⟨by decide, by decide⟩ (Nat.le_of_ble_eq_true rfl) rfl (gPi.k (fun g5 h5 => ?_))
    obtain ⟨hm5, f5⟩ := h5
    have hm5_o := hm5
    obtain ⟨hm5_F, hm5_a, hm5_0, hm5_1, hm5_2, hm5_3, hm5_5, hm5_6, hm5_12, hm5_15, hm5_16, hm5_17, hm5_18, hm5_19, hm5_20, hm5_26, hm5_28, hm5_29, -⟩ := hm5_o
    refine g_goto E dX13_found_44 (tgt := 62) (by decide) ?_
    have hs6 : sFou B R d p q dy = ((-1), 1) := by first | (simp [sFou, sX, c11, q4]; done) | (simp [sFou, sX, c11, q4, qWy]; done)
    have x7 := (f5 (2003) (by omega)).trans ((f1 (2003) (by omega)).trans (hX_a))
    exact g_iret E Rt dX13_found_62 rfl (by decide) (by decide) (by rw [hs6]; exact ⟨rfl, ⟨_, hm5_a, hm5_0, hm5_1, hm5_2, hm5_3, hm5_5, hm5_6, hm5_12, hm5_15, hm5_16, hm5_17, hm5_18, hm5_19, hm5_20, hm5_26, hm5_28, hm5_29, trivial⟩, ⟨_, x7⟩, fun j9 h9 => (f5 j9 (by omega)).trans (f1 j9 (by omega))⟩)
  · have c11 := zb_n0.mp c11
    obtain ⟨t, q8⟩ := isSome_of c11
    obtain ⟨rfl, q8_l⟩ := qI_some (by omega) q8
    refine g_aload_n E dX13_found_14 rfl rfl rfl ?_
    refine g_iload_n E dX13_found_15 rfl rfl rfl ?_
    refine g_callV (k := 2000) (n9 := 1) (av := [.int q]) (st := [.ref 2000]) E (ct_X13_isGate l q hw hM2 y3) gciX13 dX13_found_16 h1 q2225 q2227 qs86 q135 q2228 (by decide +kernel) rfl rfl ⟨by decide, by decide⟩ ⟨by decide, by decide⟩ (Nat.le_of_ble_eq_true rfl) rfl (gPu.k ?_)
    refine g_if_eq E dX13_found_19 (tgt := 26) (by decide) rfl (fun c19 => ?_) (fun c19 => ?_)
    · have c19 := zb_0.mp c19
      have q9 := isNone_of c19
      refine g_iconst E (v := 0) dX13_found_26 (by decide) rfl ?_
      refine g_iload_n E dX13_found_27 rfl rfl rfl ?_
      refine g_callV (k := 2000) (n9 := 2) (av := [.int 0, .int dy]) (st := []) E (ct_X13_asks_F l dy hM2) gciX13 dX13_found_28 h1 q2233 q2235 qs87 q135 q2236 (by decide +kernel) rfl rfl ⟨by decide, by decide⟩ ⟨by decide, by decide⟩ (Nat.le_of_ble_eq_true rfl) rfl (gPu.k ?_)
      refine g_istore E dX13_found_31 (by decide) rfl (lo1 := [some (.ref 2000), some (.int (nI t)), some (.int q), some (.int dy), some (.int 1)]) rfl rfl ?_
      refine g_iload E dX13_found_33 rfl rfl ?_
      refine g_if_le E dX13_found_35 (tgt := 47) (by decide) rfl (fun h9 => absurd h9 (by decide)) (fun _ => ?_)
      refine g_aload_n E dX13_found_38 rfl rfl rfl ?_
      refine g_iload E dX13_found_39 rfl rfl ?_
      refine g_callV (k := 2000) (n9 := 1) (av := [.int 1]) (st := []) E (ct_X13_refused l 1 hM2) gciX13 dX13_found_41 h1 q1846 q1848 qs52 q135 q1849 (by decide +kernel) rfl rfl ⟨by decide, by decide⟩ ⟨by decide, by decide⟩ (Nat.le_of_ble_eq_true rfl) rfl (gPi.k (fun g10 h10 => ?_))
      obtain ⟨hm10, f10⟩ := h10
      have hm10_o := hm10
      obtain ⟨hm10_F, hm10_a, hm10_0, hm10_1, hm10_2, hm10_3, hm10_5, hm10_6, hm10_12, hm10_15, hm10_16, hm10_17, hm10_18, hm10_19, hm10_20, hm10_26, hm10_28, hm10_29, -⟩ := hm10_o
      refine g_goto E dX13_found_44 (tgt := 62) (by decide) ?_
      have hs11 : sFou B R d (nI t) q dy = ((-1), 1) := by first | (simp [sFou, sX, c11, q8, c19, q9]; done) | (simp [sFou, sX, c11, q8, c19, q9, qWy]; done)
      have x12 := (f10 (2003) (by omega)).trans ((f1 (2003) (by omega)).trans (hX_a))
      exact g_iret E Rt dX13_found_62 rfl (by decide) (by decide) (by rw [hs11]; exact ⟨rfl, ⟨_, hm10_a, hm10_0, hm10_1, hm10_2, hm10_3, hm10_5, hm10_6, hm10_12, hm10_15, hm10_16, hm10_17, hm10_18, hm10_19, hm10_20, hm10_26, hm10_28, hm10_29, trivial⟩, ⟨_, x12⟩, fun j9 h9 => (f10 j9 (by omega)).trans (f1 j9 (by omega))⟩)
    · have c19 := zb_n0.mp c19
      obtain ⟨k9, q13⟩ := isSome_of c19
      obtain ⟨rfl, q13_l⟩ := qI_some (by omega) q13
      refine g_iconst E (v := 1) dX13_found_22 (by decide) rfl ?_
      refine g_goto E dX13_found_23 (tgt := 27) (by decide) ?_
      refine g_iload_n E dX13_found_27 rfl rfl rfl ?_
      have y14 := (hV.fr  (fun j9 a9 b9 => f1 j9 (by omega)))
      have x15 := (f1 (2003) (by omega)).trans (hX_a)
      refine g_callV (k := 2000) (n9 := 2) (av := [.int 1, .int dy]) (st := []) E (ct_X13_asks l true dy hw hM2 y14 (⟨_, x15⟩)) gciX13 dX13_found_28 h1 q2233 q2235 qs87 q135 q2236 (by decide +kernel) rfl rfl ⟨by decide, by decide⟩ ⟨by decide, by decide⟩ (Nat.le_of_ble_eq_true rfl) rfl (gPi.k (fun g16 h16 => ?_))
      obtain ⟨ha16, hx16, f16⟩ := h16
      have hx16_o := hx16
      obtain ⟨hx16_f, hx16_a⟩ := hx16_o
      refine g_istore E dX13_found_31 (by decide) rfl (lo1 := [some (.ref 2000), some (.int (nI t)), some (.int (nI k9)), some (.int dy), some (.int (qWy true dy))]) rfl rfl ?_
      refine g_iload E dX13_found_33 rfl rfl ?_
      refine g_if_le E dX13_found_35 (tgt := 47) (by decide) rfl (fun c35 => ?_) (fun c35 => ?_)
      · have c35 := qWy_le (c35)
        have hr17 := ha16 c35
        have q18 := (qWy_0.mp c35).1
        have q18_z := (qWy_0.mp c35).2
        have hr17_o := hr17
        obtain ⟨hr17_f, hr17_a, hr17_r, hr17_d⟩ := hr17_o
        refine g_aload_n E dX13_found_47 rfl rfl rfl ?_
        refine g_aload_n E dX13_found_48 rfl rfl rfl ?_
        refine g_aload_n E dX13_found_49 rfl rfl rfl ?_
        have x19 := (f16 (2000) (by omega)).trans (h1)
        refine g_getf E gciX13 dX13_found_50 x19 16 rfl (by decide) q1756 (.inl rfl) (.ref 2003) (hM_16) rfl ?_
        refine g_iload_n E dX13_found_53 rfl rfl rfl ?_
        refine g_iload_n E dX13_found_54 rfl rfl rfl ?_
        refine g_iconst E (v := 0) dX13_found_55 (by decide) rfl ?_
        have hM20 : pMq g16 (.ref mb) 0 tr wh tp fa ac mk [] := ⟨_, x19, rfl, hM_1, hM_2, hM_3, hM_5, hM_6, hM_12, hM_15, hM_16, hM_17, hM_18, hM_19, hM_20, hM_26, hM_28, hM_29, trivial⟩
        have y21 := (y3.fr  (fun j9 a9 b9 => f16 j9 (by omega)))
        refine g_callV (k := 2000) (n9 := 4) (av := [.ref 2003, .int (nI t), .int (nI k9), .int 0]) (st := [.ref 2000]) E (ct_X13_foundIn l t k9 0 hw hM20 y21 hr17 (by omega) (by omega)) gciX13 dX13_found_56 x19 q2293 q2295 qs96 q135 q2296 (by decide +kernel) rfl rfl ⟨by decide, by decide⟩ ⟨by decide, by decide⟩ (Nat.le_of_ble_eq_true rfl) rfl (gPu.k ?_)
        refine g_callV (k := 2000) (n9 := 1) (av := [.int (zFou B R t k9 (d + dy) 0)]) (st := []) E (ct_X13_fine l (zFou B R t k9 (d + dy) 0) hM20) gciX13 dX13_found_59 x19 q2181 q2183 qs80 q135 q2184 (by decide +kernel) rfl rfl ⟨by decide, by decide⟩ ⟨by decide, by decide⟩ (Nat.le_of_ble_eq_true rfl) rfl (gPi.k (fun g22 h22 => ?_))
        obtain ⟨hm22, f22⟩ := h22
        have hm22_o := hm22
        obtain ⟨hm22_F, hm22_a, hm22_0, hm22_1, hm22_2, hm22_3, hm22_5, hm22_6, hm22_12, hm22_15, hm22_16, hm22_17, hm22_18, hm22_19, hm22_20, hm22_26, hm22_28, hm22_29, -⟩ := hm22_o
        have hs23 : sFou B R d (nI t) (nI k9) dy = (zFou B R t k9 (d + dy) 0, 0) := by first | (simp [sFou, sX, c11, q8, c19, q13, c35, q18_z]; done) | (simp [sFou, sX, c11, q8, c19, q13, c35, q18_z, qWy]; done)
        have x24 := (f22 (2003) (by omega)).trans (hr17_a)
        exact g_iret E Rt dX13_found_62 rfl (by decide) (by decide) (by rw [hs23]; exact ⟨rfl, ⟨_, hm22_a, hm22_0, hm22_1, hm22_2, hm22_3, hm22_5, hm22_6, hm22_12, hm22_15, hm22_16, hm22_17, hm22_18, hm22_19, hm22_20, hm22_26, hm22_28, hm22_29, trivial⟩, ⟨_, x24⟩, fun j9 h9 => ((f22 j9 (by omega)).trans (f16 j9 (by omega))).trans (f1 j9 (by omega))⟩)
      · have c35 := qWy_gt (c35)
        refine g_aload_n E dX13_found_38 rfl rfl rfl ?_
        refine g_iload E dX13_found_39 rfl rfl ?_
        have x25 := (f16 (2000) (by omega)).trans (h1)
        have hM26 : pMq g16 (.ref mb) 0 tr wh tp fa ac mk [] := ⟨_, x25, rfl, hM_1, hM_2, hM_3, hM_5, hM_6, hM_12, hM_15, hM_16, hM_17, hM_18, hM_19, hM_20, hM_26, hM_28, hM_29, trivial⟩
        refine g_callV (k := 2000) (n9 := 1) (av := [.int (qWy true dy)]) (st := []) E (ct_X13_refused l (qWy true dy) hM26) gciX13 dX13_found_41 x25 q1846 q1848 qs52 q135 q1849 (by decide +kernel) rfl rfl ⟨by decide, by decide⟩ ⟨by decide, by decide⟩ (Nat.le_of_ble_eq_true rfl) rfl (gPi.k (fun g27 h27 => ?_))
        obtain ⟨hm27, f27⟩ := h27
        have hm27_o := hm27
        obtain ⟨hm27_F, hm27_a, hm27_0, hm27_1, hm27_2, hm27_3, hm27_5, hm27_6, hm27_12, hm27_15, hm27_16, hm27_17, hm27_18, hm27_19, hm27_20, hm27_26, hm27_28, hm27_29, -⟩ := hm27_o
        refine g_goto E dX13_found_44 (tgt := 62) (by decide) ?_
        have hs28 : sFou B R d (nI t) (nI k9) dy = ((-1), qWy true dy) := by first | (simp [sFou, sX, c11, q8, c19, q13, c35]; done) | (simp [sFou, sX, c11, q8, c19, q13, c35, qWy]; done)
        have x29 := (f27 (2003) (by omega)).trans (hx16_a)
        exact g_iret E Rt dX13_found_62 rfl (by decide) (by decide) (by rw [hs28]; exact ⟨rfl, ⟨_, hm27_a, hm27_0, hm27_1, hm27_2, hm27_3, hm27_5, hm27_6, hm27_12, hm27_15, hm27_16, hm27_17, hm27_18, hm27_19, hm27_20, hm27_26, hm27_28, hm27_29, trivial⟩, ⟨_, x29⟩, fun j9 h9 => ((f27 j9 (by omega)).trans (f16 j9 (by omega))).trans (f1 j9 (by omega))⟩)
set_option maxHeartbeats 1000000 in
theorem ct_X13_found_N (l : Launch) {g : gWM} {th tr wh fa : Int32} {tp ac mk : Nat} (p : Int32) (q : Int32) (dy : Int32) (hM : pMq g .null th tr wh tp fa ac mk []) : gCt l yX13_found cX13_found 5 (some .int) 1 0 0 22 [.ref 2000, .int p, .int q, .int dy] g (gPi (sFou zB0 (fun _ => 0) 0 p q dy).1 (fun g1 => pMq g1 .null 0 ((sFou zB0 (fun _ => 0) 0 p q dy).2) (-1) tp fa ac mk [] ∧ ∀ j, j ≠ 2000 → g1 j = g j)) := by
  refine gCt.of RX13 (by decide) rfl (lo := [some (.ref 2000), some (.int p), some (.int q), some (.int dy), none]) 1 rfl (Nat.le_of_ble_eq_true rfl) (fun z E Rt => ?_)
  have hM_o := hM
  obtain ⟨hM_F, hM_a, hM_0, hM_1, hM_2, hM_3, hM_5, hM_6, hM_12, hM_15, hM_16, hM_17, hM_18, hM_19, hM_20, hM_26, hM_28, hM_29, -⟩ := hM_o
  refine g_aload_n E dX13_found_0 rfl rfl rfl ?_
  refine g_iconst E (v := 0) dX13_found_1 (by decide) rfl ?_
  refine g_putf E gciX13 (v := .int 0) dX13_found_2 hM_a 0 rfl (by decide) q1740 (.inl rfl) rfl (fun _ => rfl) (fun _ => rfl) rfl (g_upk (fun g1 h1 f1 => ?_))
  refine g_aload_n E dX13_found_5 rfl rfl rfl ?_
  refine g_aload_n E dX13_found_6 rfl rfl rfl ?_
  refine g_iload_n E dX13_found_7 rfl rfl rfl ?_
  have hM2 : pMq g1 .null 0 tr wh tp fa ac mk [] := ⟨_, h1, rfl, hM_1, hM_2, hM_3, hM_5, hM_6, hM_12, hM_15, hM_16, hM_17, hM_18, hM_19, hM_20, hM_26, hM_28, hM_29, trivial⟩
  refine g_callV (k := 2000) (n9 := 1) (av := [.int p]) (st := [.ref 2000]) E (ct_X13_isTraveller_N l p hM2) gciX13 dX13_found_8 h1 q2209 q2211 qs83 q135 q2212 (by decide +kernel) rfl rfl ⟨by decide, by decide⟩ ⟨by decide, by decide⟩ (Nat.le_of_ble_eq_true rfl) rfl (gPu.k ?_)
  refine g_if_eq E dX13_found_11 (tgt := 26) (by decide) rfl (fun _ => ?_) (fun h9 => absurd h9 (by decide))
  refine g_iconst E (v := 0) dX13_found_26 (by decide) rfl ?_
  refine g_iload_n E dX13_found_27 rfl rfl rfl ?_
  refine g_callV (k := 2000) (n9 := 2) (av := [.int 0, .int dy]) (st := []) E (ct_X13_asks_F l dy hM2) gciX13 dX13_found_28 h1 q2233 q2235 qs87 q135 q2236 (by decide +kernel) rfl rfl ⟨by decide, by decide⟩ ⟨by decide, by decide⟩ (Nat.le_of_ble_eq_true rfl) rfl (gPu.k ?_)
  refine g_istore E dX13_found_31 (by decide) rfl (lo1 := [some (.ref 2000), some (.int p), some (.int q), some (.int dy), some (.int 1)]) rfl rfl ?_
  refine g_iload E dX13_found_33 rfl rfl ?_
  refine g_if_le E dX13_found_35 (tgt := 47) (by decide) rfl (fun h9 => absurd h9 (by decide)) (fun _ => ?_)
  refine g_aload_n E dX13_found_38 rfl rfl rfl ?_
  refine g_iload E dX13_found_39 rfl rfl ?_
  refine g_callV (k := 2000) (n9 := 1) (av := [.int 1]) (st := []) E (ct_X13_refused l 1 hM2) gciX13 dX13_found_41 h1 q1846 q1848 qs52 q135 q1849 (by decide +kernel) rfl rfl ⟨by decide, by decide⟩ ⟨by decide, by decide⟩ (Nat.le_of_ble_eq_true rfl) rfl (gPi.k (fun g3 h3 => ?_))
  obtain ⟨hm3, f3⟩ := h3
  have hm3_o := hm3
  obtain ⟨hm3_F, hm3_a, hm3_0, hm3_1, hm3_2, hm3_3, hm3_5, hm3_6, hm3_12, hm3_15, hm3_16, hm3_17, hm3_18, hm3_19, hm3_20, hm3_26, hm3_28, hm3_29, -⟩ := hm3_o
  refine g_goto E dX13_found_44 (tgt := 62) (by decide) ?_
  have hs4 : sFou zB0 (fun _ => 0) 0 p q dy = ((-1), 1) := by first | (simp [sFou, sX, qI_z, qWy]; done) | (simp [sFou, sX, qI_z, qWy, qWy]; done)
  exact g_iret E Rt dX13_found_62 rfl (by decide) (by decide) (by rw [hs4]; exact ⟨rfl, ⟨_, hm3_a, hm3_0, hm3_1, hm3_2, hm3_3, hm3_5, hm3_6, hm3_12, hm3_15, hm3_16, hm3_17, hm3_18, hm3_19, hm3_20, hm3_26, hm3_28, hm3_29, trivial⟩, fun j9 h9 => (f3 j9 (by omega)).trans (f1 j9 (by omega))⟩)
set_option maxHeartbeats 1000000 in
theorem ct_X13_otherLaw (l : Launch) {g : gWM} {mb : Nat} {B : gBar} {R : Nat → Int32} {d : Int32} {th tr wh fa : Int32} {tp ac mk : Nat} (p : Int32) (q : Int32) (dy : Int32) (hw : wfB B) (hM : pMq g (.ref mb) th tr wh tp fa ac mk []) (hMb : pMb g mb B) (hV : pRw g 2002 B R d) (hX : pIx g 2003 18) (h9 : 10000 ≤ mb) : gCt l yX13_otherLaw cX13_otherLaw 5 (some .int) 5 0 0 118 [.ref 2000, .int p, .int q, .int dy] g (gPi (sOth B R d p q dy).1 (fun g1 => pMq g1 (.ref mb) 0 ((sOth B R d p q dy).2) (-1) tp fa ac mk [] ∧ pIx g1 2003 18 ∧ ∀ j, (j ≠ 2000 ∧ j ≠ 2003) → g1 j = g j)) := by
  refine gCt.of RX13 (by decide) rfl (lo := [some (.ref 2000), some (.int p), some (.int q), some (.int dy), none]) 1 rfl (Nat.le_of_ble_eq_true rfl) (fun z E Rt => ?_)
  have hw_n := hw.1
  have hM_o := hM
  obtain ⟨hM_F, hM_a, hM_0, hM_1, hM_2, hM_3, hM_5, hM_6, hM_12, hM_15, hM_16, hM_17, hM_18, hM_19, hM_20, hM_26, hM_28, hM_29, -⟩ := hM_o
  have hMb_o := hMb
  obtain ⟨⟨hMb_F, hMb_a, hMb_0, hMb_1, hMb_2, hMb_3, hMb_4, hMb_5, hMb_6, hMb_7, hMb_8, hMb_9, hMb_11, hMb_12, hMb_13, hMb_14, hMb_15, hMb_16, hMb_17, hMb_18, hMb_19, hMb_20, hMb_21, hMb_22, hMb_23, hMb_24, hMb_25, hMb_26, hMb_27, hMb_28, hMb_29, hMb_30, hMb_31⟩, ⟨hMb_f1, hMb_a1, hMb_b1⟩, ⟨hMb_f2, hMb_a2, hMb_b2⟩, ⟨hMb_f3, hMb_a3, hMb_b3⟩, ⟨hMb_f4, hMb_a4, hMb_b4⟩, ⟨hMb_f5, hMb_a5, hMb_b5⟩, ⟨hMb_f6, hMb_a6, hMb_b6⟩, ⟨hMb_f7, hMb_a7, hMb_b7⟩, ⟨hMb_f8, hMb_a8, hMb_b8⟩, ⟨hMb_f9, hMb_a9, hMb_b9⟩, ⟨hMb_f10, hMb_a10, hMb_b10⟩, ⟨hMb_f11, hMb_a11, hMb_b11⟩, ⟨hMb_f12, hMb_a12, hMb_b12⟩, ⟨hMb_f13, hMb_a13, hMb_b13⟩, ⟨hMb_f14, hMb_a14, hMb_b14⟩, ⟨hMb_f15, hMb_a15, hMb_b15⟩, ⟨hMb_f16, hMb_a16, hMb_b16⟩, ⟨hMb_f17, hMb_a17, hMb_b17⟩, ⟨hMb_f18, hMb_a18, hMb_b18⟩, ⟨hMb_f19, hMb_a19, hMb_b19⟩, ⟨hMb_f20, hMb_a20, hMb_b20⟩, ⟨hMb_f21, hMb_a21, hMb_b21⟩⟩ := hMb_o
  have hV_o := hV
  obtain ⟨hV_f, hV_a, hV_r, hV_d⟩ := hV_o
  have hX_o := hX
  obtain ⟨hX_f, hX_a⟩ := hX_o
  refine g_aload_n E dX13_otherLaw_0 rfl rfl rfl ?_
  refine g_iconst E (v := 0) dX13_otherLaw_1 (by decide) rfl ?_
  refine g_putf E gciX13 (v := .int 0) dX13_otherLaw_2 hM_a 0 rfl (by decide) q1740 (.inl rfl) rfl (fun _ => rfl) (fun _ => rfl) rfl (g_upk (fun g1 h1 f1 => ?_))
  refine g_aload_n E dX13_otherLaw_5 rfl rfl rfl ?_
  refine g_aload_n E dX13_otherLaw_6 rfl rfl rfl ?_
  refine g_iload_n E dX13_otherLaw_7 rfl rfl rfl ?_
  have hM2 : pMq g1 (.ref mb) 0 tr wh tp fa ac mk [] := ⟨_, h1, rfl, hM_1, hM_2, hM_3, hM_5, hM_6, hM_12, hM_15, hM_16, hM_17, hM_18, hM_19, hM_20, hM_26, hM_28, hM_29, trivial⟩
  have y3 := (hMb.fr  (fun j9 a9 b9 => f1 j9 (by omega)))
  refine g_callV (k := 2000) (n9 := 1) (av := [.int p]) (st := [.ref 2000]) E (ct_X13_isTraveller l p hw hM2 y3) gciX13 dX13_otherLaw_8 h1 q2209 q2211 qs83 q135 q2212 (by decide +kernel) rfl rfl ⟨by decide, by decide⟩ ⟨by decide, by decide⟩ (Nat.le_of_ble_eq_true rfl) rfl (gPu.k ?_)
  refine g_if_eq E dX13_otherLaw_11 (tgt := 26) (by decide) rfl (fun c11 => ?_) (fun c11 => ?_)
  · have c11 := zb_0.mp c11
    have q4 := isNone_of c11
    refine g_iconst E (v := 0) dX13_otherLaw_26 (by decide) rfl ?_
    refine g_iload_n E dX13_otherLaw_27 rfl rfl rfl ?_
    refine g_callV (k := 2000) (n9 := 2) (av := [.int 0, .int dy]) (st := []) E (ct_X13_asks_F l dy hM2) gciX13 dX13_otherLaw_28 h1 q2233 q2235 qs87 q135 q2236 (by decide +kernel) rfl rfl ⟨by decide, by decide⟩ ⟨by decide, by decide⟩ (Nat.le_of_ble_eq_true rfl) rfl (gPu.k ?_)
    refine g_istore E dX13_otherLaw_31 (by decide) rfl (lo1 := [some (.ref 2000), some (.int p), some (.int q), some (.int dy), some (.int 1)]) rfl rfl ?_
    refine g_iload E dX13_otherLaw_33 rfl rfl ?_
    refine g_if_le E dX13_otherLaw_35 (tgt := 47) (by decide) rfl (fun h9 => absurd h9 (by decide)) (fun _ => ?_)
    refine g_aload_n E dX13_otherLaw_38 rfl rfl rfl ?_
    refine g_iload E dX13_otherLaw_39 rfl rfl ?_
    refine g_callV (k := 2000) (n9 := 1) (av := [.int 1]) (st := []) E (ct_X13_refused l 1 hM2) gciX13 dX13_otherLaw_41 h1 q1846 q1848 qs52 q135 q1849 (by decide +kernel) rfl rfl ⟨by decide, by decide⟩ ⟨by decide, by decide⟩ (Nat.le_of_ble_eq_true rfl) rfl (gPi.k (fun g5 h5 => ?_))
    obtain ⟨hm5, f5⟩ := h5
    have hm5_o := hm5
    obtain ⟨hm5_F, hm5_a, hm5_0, hm5_1, hm5_2, hm5_3, hm5_5, hm5_6, hm5_12, hm5_15, hm5_16, hm5_17, hm5_18, hm5_19, hm5_20, hm5_26, hm5_28, hm5_29, -⟩ := hm5_o
    refine g_goto E dX13_otherLaw_44 (tgt := 72) (by decide) ?_
    have hs6 : sOth B R d p q dy = ((-1), 1) := by first | (simp [sOth, sX, zAo, c11, q4]; done) | (simp [sOth, sX, zAo, c11, q4, qWy]; done)
    have x7 := (f5 (2003) (by omega)).trans ((f1 (2003) (by omega)).trans (hX_a))
    exact g_iret E Rt dX13_otherLaw_72 rfl (by decide) (by decide) (by rw [hs6]; exact ⟨rfl, ⟨_, hm5_a, hm5_0, hm5_1, hm5_2, hm5_3, hm5_5, hm5_6, hm5_12, hm5_15, hm5_16, hm5_17, hm5_18, hm5_19, hm5_20, hm5_26, hm5_28, hm5_29, trivial⟩, ⟨_, x7⟩, fun j9 h9 => (f5 j9 (by omega)).trans (f1 j9 (by omega))⟩)
  · have c11 := zb_n0.mp c11
    obtain ⟨t, q8⟩ := isSome_of c11
    obtain ⟨rfl, q8_l⟩ := qI_some (by omega) q8
    refine g_aload_n E dX13_otherLaw_14 rfl rfl rfl ?_
    refine g_iload_n E dX13_otherLaw_15 rfl rfl rfl ?_
    refine g_callV (k := 2000) (n9 := 1) (av := [.int q]) (st := [.ref 2000]) E (ct_X13_isGate l q hw hM2 y3) gciX13 dX13_otherLaw_16 h1 q2225 q2227 qs86 q135 q2228 (by decide +kernel) rfl rfl ⟨by decide, by decide⟩ ⟨by decide, by decide⟩ (Nat.le_of_ble_eq_true rfl) rfl (gPu.k ?_)
    refine g_if_eq E dX13_otherLaw_19 (tgt := 26) (by decide) rfl (fun c19 => ?_) (fun c19 => ?_)
    · have c19 := zb_0.mp c19
      have q9 := isNone_of c19
      refine g_iconst E (v := 0) dX13_otherLaw_26 (by decide) rfl ?_
      refine g_iload_n E dX13_otherLaw_27 rfl rfl rfl ?_
      refine g_callV (k := 2000) (n9 := 2) (av := [.int 0, .int dy]) (st := []) E (ct_X13_asks_F l dy hM2) gciX13 dX13_otherLaw_28 h1 q2233 q2235 qs87 q135 q2236 (by decide +kernel) rfl rfl ⟨by decide, by decide⟩ ⟨by decide, by decide⟩ (Nat.le_of_ble_eq_true rfl) rfl (gPu.k ?_)
      refine g_istore E dX13_otherLaw_31 (by decide) rfl (lo1 := [some (.ref 2000), some (.int (nI t)), some (.int q), some (.int dy), some (.int 1)]) rfl rfl ?_
      refine g_iload E dX13_otherLaw_33 rfl rfl ?_
      refine g_if_le E dX13_otherLaw_35 (tgt := 47) (by decide) rfl (fun h9 => absurd h9 (by decide)) (fun _ => ?_)
      refine g_aload_n E dX13_otherLaw_38 rfl rfl rfl ?_
      refine g_iload E dX13_otherLaw_39 rfl rfl ?_
      refine g_callV (k := 2000) (n9 := 1) (av := [.int 1]) (st := []) E (ct_X13_refused l 1 hM2) gciX13 dX13_otherLaw_41 h1 q1846 q1848 qs52 q135 q1849 (by decide +kernel) rfl rfl ⟨by decide, by decide⟩ ⟨by decide, by decide⟩ (Nat.le_of_ble_eq_true rfl) rfl (gPi.k (fun g10 h10 => ?_))
      obtain ⟨hm10, f10⟩ := h10
      have hm10_o := hm10
      obtain ⟨hm10_F, hm10_a, hm10_0, hm10_1, hm10_2, hm10_3, hm10_5, hm10_6, hm10_12, hm10_15, hm10_16, hm10_17, hm10_18, hm10_19, hm10_20, hm10_26, hm10_28, hm10_29, -⟩ := hm10_o
      refine g_goto E dX13_otherLaw_44 (tgt := 72) (by decide) ?_
      have hs11 : sOth B R d (nI t) q dy = ((-1), 1) := by first | (simp [sOth, sX, zAo, c11, q8, c19, q9]; done) | (simp [sOth, sX, zAo, c11, q8, c19, q9, qWy]; done)
      have x12 := (f10 (2003) (by omega)).trans ((f1 (2003) (by omega)).trans (hX_a))
      exact g_iret E Rt dX13_otherLaw_72 rfl (by decide) (by decide) (by rw [hs11]; exact ⟨rfl, ⟨_, hm10_a, hm10_0, hm10_1, hm10_2, hm10_3, hm10_5, hm10_6, hm10_12, hm10_15, hm10_16, hm10_17, hm10_18, hm10_19, hm10_20, hm10_26, hm10_28, hm10_29, trivial⟩, ⟨_, x12⟩, fun j9 h9 => (f10 j9 (by omega)).trans (f1 j9 (by omega))⟩)
    · have c19 := zb_n0.mp c19
      obtain ⟨k9, q13⟩ := isSome_of c19
      obtain ⟨rfl, q13_l⟩ := qI_some (by omega) q13
      refine g_iconst E (v := 1) dX13_otherLaw_22 (by decide) rfl ?_
      refine g_goto E dX13_otherLaw_23 (tgt := 27) (by decide) ?_
      refine g_iload_n E dX13_otherLaw_27 rfl rfl rfl ?_
      have y14 := (hV.fr  (fun j9 a9 b9 => f1 j9 (by omega)))
      have x15 := (f1 (2003) (by omega)).trans (hX_a)
      refine g_callV (k := 2000) (n9 := 2) (av := [.int 1, .int dy]) (st := []) E (ct_X13_asks l true dy hw hM2 y14 (⟨_, x15⟩)) gciX13 dX13_otherLaw_28 h1 q2233 q2235 qs87 q135 q2236 (by decide +kernel) rfl rfl ⟨by decide, by decide⟩ ⟨by decide, by decide⟩ (Nat.le_of_ble_eq_true rfl) rfl (gPi.k (fun g16 h16 => ?_))
      obtain ⟨ha16, hx16, f16⟩ := h16
      have hx16_o := hx16
      obtain ⟨hx16_f, hx16_a⟩ := hx16_o
      refine g_istore E dX13_otherLaw_31 (by decide) rfl (lo1 := [some (.ref 2000), some (.int (nI t)), some (.int (nI k9)), some (.int dy), some (.int (qWy true dy))]) rfl rfl ?_
      refine g_iload E dX13_otherLaw_33 rfl rfl ?_
      refine g_if_le E dX13_otherLaw_35 (tgt := 47) (by decide) rfl (fun c35 => ?_) (fun c35 => ?_)
      · have c35 := qWy_le (c35)
        have hr17 := ha16 c35
        have q18 := (qWy_0.mp c35).1
        have q18_z := (qWy_0.mp c35).2
        have hr17_o := hr17
        obtain ⟨hr17_f, hr17_a, hr17_r, hr17_d⟩ := hr17_o
        refine g_aload_n E dX13_otherLaw_47 rfl rfl rfl ?_
        refine g_aload_n E dX13_otherLaw_48 rfl rfl rfl ?_
        refine g_aload_n E dX13_otherLaw_49 rfl rfl rfl ?_
        have x19 := (f16 (2000) (by omega)).trans (h1)
        refine g_getf E gciX13 dX13_otherLaw_50 x19 16 rfl (by decide) q1756 (.inl rfl) (.ref 2003) (hM_16) rfl ?_
        refine g_iload_n E dX13_otherLaw_53 rfl rfl rfl ?_
        refine g_aload_n E dX13_otherLaw_54 rfl rfl rfl ?_
        refine g_aload_n E dX13_otherLaw_55 rfl rfl rfl ?_
        refine g_getf E gciX13 dX13_otherLaw_56 x19 16 rfl (by decide) q1756 (.inl rfl) (.ref 2003) (hM_16) rfl ?_
        refine g_iload_n E dX13_otherLaw_59 rfl rfl rfl ?_
        refine g_iload_n E dX13_otherLaw_60 rfl rfl rfl ?_
        refine g_iconst E (v := 0) dX13_otherLaw_61 (by decide) rfl ?_
        have hM20 : pMq g16 (.ref mb) 0 tr wh tp fa ac mk [] := ⟨_, x19, rfl, hM_1, hM_2, hM_3, hM_5, hM_6, hM_12, hM_15, hM_16, hM_17, hM_18, hM_19, hM_20, hM_26, hM_28, hM_29, trivial⟩
        have y21 := (y3.fr  (fun j9 a9 b9 => f16 j9 (by omega)))
        refine g_callV (k := 2000) (n9 := 4) (av := [.ref 2003, .int (nI t), .int (nI k9), .int 0]) (st := [.int (nI t), .ref 2003, .ref 2000, .ref 2000]) E (ct_X13_foundIn l t k9 0 hw hM20 y21 hr17 (by omega) (by omega)) gciX13 dX13_otherLaw_62 x19 q2293 q2295 qs96 q135 q2296 (by decide +kernel) rfl rfl ⟨by decide, by decide⟩ ⟨by decide, by decide⟩ (Nat.le_of_ble_eq_true rfl) rfl (gPu.k ?_)
        refine g_iconst E (v := 1) dX13_otherLaw_65 (by decide) rfl ?_
        refine g_callV (k := 2000) (n9 := 4) (av := [.ref 2003, .int (nI t), .int (zFou B R t k9 (d + dy) 0), .int 1]) (st := [.ref 2000]) E (ct_X13_askedBy l t 1 (zFou B R t k9 (d + dy) 0) hw hM20 y21 hr17 (by omega) (by omega) (zFok_fou hw)) gciX13 dX13_otherLaw_66 x19 q2297 q2299 qs97 q135 q2300 (by decide +kernel) rfl rfl ⟨by decide, by decide⟩ ⟨by decide, by decide⟩ (Nat.le_of_ble_eq_true rfl) rfl (gPu.k ?_)
        refine g_callV (k := 2000) (n9 := 1) (av := [.int (zAsk B R t (zFou B R t k9 (d + dy) 0) 2 (d + dy))]) (st := []) E (ct_X13_fine l (zAsk B R t (zFou B R t k9 (d + dy) 0) 2 (d + dy)) hM20) gciX13 dX13_otherLaw_69 x19 q2181 q2183 qs80 q135 q2184 (by decide +kernel) rfl rfl ⟨by decide, by decide⟩ ⟨by decide, by decide⟩ (Nat.le_of_ble_eq_true rfl) rfl (gPi.k (fun g22 h22 => ?_))
        obtain ⟨hm22, f22⟩ := h22
        have hm22_o := hm22
        obtain ⟨hm22_F, hm22_a, hm22_0, hm22_1, hm22_2, hm22_3, hm22_5, hm22_6, hm22_12, hm22_15, hm22_16, hm22_17, hm22_18, hm22_19, hm22_20, hm22_26, hm22_28, hm22_29, -⟩ := hm22_o
        have hs23 : sOth B R d (nI t) (nI k9) dy = (zAsk B R t (zFou B R t k9 (d + dy) 0) 2 (d + dy), 0) := by first | (simp [sOth, sX, zAo, c11, q8, c19, q13, c35, q18_z]; done) | (simp [sOth, sX, zAo, c11, q8, c19, q13, c35, q18_z, qWy]; done)
        have x24 := (f22 (2003) (by omega)).trans (hr17_a)
        exact g_iret E Rt dX13_otherLaw_72 rfl (by decide) (by decide) (by rw [hs23]; exact ⟨rfl, ⟨_, hm22_a, hm22_0, hm22_1, hm22_2, hm22_3, hm22_5, hm22_6, hm22_12, hm22_15, hm22_16, hm22_17, hm22_18, hm22_19, hm22_20, hm22_26, hm22_28, hm22_29, trivial⟩, ⟨_, x24⟩, fun j9 h9 => ((f22 j9 (by omega)).trans (f16 j9 (by omega))).trans (f1 j9 (by omega))⟩)
      · have c35 := qWy_gt (c35)
        refine g_aload_n E dX13_otherLaw_38 rfl rfl rfl ?_
        refine g_iload E dX13_otherLaw_39 rfl rfl ?_
        have x25 := (f16 (2000) (by omega)).trans (h1)
        have hM26 : pMq g16 (.ref mb) 0 tr wh tp fa ac mk [] := ⟨_, x25, rfl, hM_1, hM_2, hM_3, hM_5, hM_6, hM_12, hM_15, hM_16, hM_17, hM_18, hM_19, hM_20, hM_26, hM_28, hM_29, trivial⟩
        refine g_callV (k := 2000) (n9 := 1) (av := [.int (qWy true dy)]) (st := []) E (ct_X13_refused l (qWy true dy) hM26) gciX13 dX13_otherLaw_41 x25 q1846 q1848 qs52 q135 q1849 (by decide +kernel) rfl rfl ⟨by decide, by decide⟩ ⟨by decide, by decide⟩ (Nat.le_of_ble_eq_true rfl) rfl (gPi.k (fun g27 h27 => ?_))
        obtain ⟨hm27, f27⟩ := h27
        have hm27_o := hm27
        obtain ⟨hm27_F, hm27_a, hm27_0, hm27_1, hm27_2, hm27_3, hm27_5, hm27_6, hm27_12, hm27_15, hm27_16, hm27_17, hm27_18, hm27_19, hm27_20, hm27_26, hm27_28, hm27_29, -⟩ := hm27_o
        refine g_goto E dX13_otherLaw_44 (tgt := 72) (by decide) ?_
        have hs28 : sOth B R d (nI t) (nI k9) dy = ((-1), qWy true dy) := by first | (simp [sOth, sX, zAo, c11, q8, c19, q13, c35]; done) | (simp [sOth, sX, zAo, c11, q8, c19, q13, c35, qWy]; done)
        have x29 := (f27 (2003) (by omega)).trans (hx16_a)
        exact g_iret E Rt dX13_otherLaw_72 rfl (by decide) (by decide) (by rw [hs28]; exact ⟨rfl, ⟨_, hm27_a, hm27_0, hm27_1, hm27_2, hm27_3, hm27_5, hm27_6, hm27_12, hm27_15, hm27_16, hm27_17, hm27_18, hm27_19, hm27_20, hm27_26, hm27_28, hm27_29, trivial⟩, ⟨_, x29⟩, fun j9 h9 => ((f27 j9 (by omega)).trans (f16 j9 (by omega))).trans (f1 j9 (by omega))⟩)
set_option maxHeartbeats 1000000 in
theorem ct_X13_otherLaw_N (l : Launch) {g : gWM} {th tr wh fa : Int32} {tp ac mk : Nat} (p : Int32) (q : Int32) (dy : Int32) (hM : pMq g .null th tr wh tp fa ac mk []) : gCt l yX13_otherLaw cX13_otherLaw 5 (some .int) 1 0 0 22 [.ref 2000, .int p, .int q, .int dy] g (gPi (sOth zB0 (fun _ => 0) 0 p q dy).1 (fun g1 => pMq g1 .null 0 ((sOth zB0 (fun _ => 0) 0 p q dy).2) (-1) tp fa ac mk [] ∧ ∀ j, j ≠ 2000 → g1 j = g j)) := by
  refine gCt.of RX13 (by decide) rfl (lo := [some (.ref 2000), some (.int p), some (.int q), some (.int dy), none]) 1 rfl (Nat.le_of_ble_eq_true rfl) (fun z E Rt => ?_)
  have hM_o := hM
  obtain ⟨hM_F, hM_a, hM_0, hM_1, hM_2, hM_3, hM_5, hM_6, hM_12, hM_15, hM_16, hM_17, hM_18, hM_19, hM_20, hM_26, hM_28, hM_29, -⟩ := hM_o
  refine g_aload_n E dX13_otherLaw_0 rfl rfl rfl ?_
  refine g_iconst E (v := 0) dX13_otherLaw_1 (by decide) rfl ?_
  refine g_putf E gciX13 (v := .int 0) dX13_otherLaw_2 hM_a 0 rfl (by decide) q1740 (.inl rfl) rfl (fun _ => rfl) (fun _ => rfl) rfl (g_upk (fun g1 h1 f1 => ?_))
  refine g_aload_n E dX13_otherLaw_5 rfl rfl rfl ?_
  refine g_aload_n E dX13_otherLaw_6 rfl rfl rfl ?_
  refine g_iload_n E dX13_otherLaw_7 rfl rfl rfl ?_
  have hM2 : pMq g1 .null 0 tr wh tp fa ac mk [] := ⟨_, h1, rfl, hM_1, hM_2, hM_3, hM_5, hM_6, hM_12, hM_15, hM_16, hM_17, hM_18, hM_19, hM_20, hM_26, hM_28, hM_29, trivial⟩
  refine g_callV (k := 2000) (n9 := 1) (av := [.int p]) (st := [.ref 2000]) E (ct_X13_isTraveller_N l p hM2) gciX13 dX13_otherLaw_8 h1 q2209 q2211 qs83 q135 q2212 (by decide +kernel) rfl rfl ⟨by decide, by decide⟩ ⟨by decide, by decide⟩ (Nat.le_of_ble_eq_true rfl) rfl (gPu.k ?_)
  refine g_if_eq E dX13_otherLaw_11 (tgt := 26) (by decide) rfl (fun _ => ?_) (fun h9 => absurd h9 (by decide))
  refine g_iconst E (v := 0) dX13_otherLaw_26 (by decide) rfl ?_
  refine g_iload_n E dX13_otherLaw_27 rfl rfl rfl ?_
  refine g_callV (k := 2000) (n9 := 2) (av := [.int 0, .int dy]) (st := []) E (ct_X13_asks_F l dy hM2) gciX13 dX13_otherLaw_28 h1 q2233 q2235 qs87 q135 q2236 (by decide +kernel) rfl rfl ⟨by decide, by decide⟩ ⟨by decide, by decide⟩ (Nat.le_of_ble_eq_true rfl) rfl (gPu.k ?_)
  refine g_istore E dX13_otherLaw_31 (by decide) rfl (lo1 := [some (.ref 2000), some (.int p), some (.int q), some (.int dy), some (.int 1)]) rfl rfl ?_
  refine g_iload E dX13_otherLaw_33 rfl rfl ?_
  refine g_if_le E dX13_otherLaw_35 (tgt := 47) (by decide) rfl (fun h9 => absurd h9 (by decide)) (fun _ => ?_)
  refine g_aload_n E dX13_otherLaw_38 rfl rfl rfl ?_
  refine g_iload E dX13_otherLaw_39 rfl rfl ?_
  refine g_callV (k := 2000) (n9 := 1) (av := [.int 1]) (st := []) E (ct_X13_refused l 1 hM2) gciX13 dX13_otherLaw_41 h1 q1846 q1848 qs52 q135 q1849 (by decide +kernel) rfl rfl ⟨by decide, by decide⟩ ⟨by decide, by decide⟩ (Nat.le_of_ble_eq_true rfl) rfl (gPi.k (fun g3 h3 => ?_))
  obtain ⟨hm3, f3⟩ := h3
  have hm3_o := hm3
  obtain ⟨hm3_F, hm3_a, hm3_0, hm3_1, hm3_2, hm3_3, hm3_5, hm3_6, hm3_12, hm3_15, hm3_16, hm3_17, hm3_18, hm3_19, hm3_20, hm3_26, hm3_28, hm3_29, -⟩ := hm3_o
  refine g_goto E dX13_otherLaw_44 (tgt := 72) (by decide) ?_
  have hs4 : sOth zB0 (fun _ => 0) 0 p q dy = ((-1), 1) := by first | (simp [sOth, sX, zAo, qI_z, qWy]; done) | (simp [sOth, sX, zAo, qI_z, qWy, qWy]; done)
  exact g_iret E Rt dX13_otherLaw_72 rfl (by decide) (by decide) (by rw [hs4]; exact ⟨rfl, ⟨_, hm3_a, hm3_0, hm3_1, hm3_2, hm3_3, hm3_5, hm3_6, hm3_12, hm3_15, hm3_16, hm3_17, hm3_18, hm3_19, hm3_20, hm3_26, hm3_28, hm3_29, trivial⟩, fun j9 h9 => (f3 j9 (by omega)).trans (f1 j9 (by omega))⟩)
set_option maxHeartbeats 1000000 in
theorem ct_X13_good (l : Launch) {g : gWM} {mb : Nat} {B : gBar} {R : Nat → Int32} {d : Int32} {th tr wh fa : Int32} {tp ac mk : Nat} (p : Int32) (w : Int32) (hw : wfB B) (hM : pMq g (.ref mb) th tr wh tp fa ac mk []) (hMb : pMb g mb B) (hV : pRw g 2002 B R d) (hX : pIx g 2003 18) (h9 : 10000 ≤ mb) : gCt l yX13_good cX13_good 3 (some .int) 2 0 0 43 [.ref 2000, .int p, .int w] g (gPi (sGood B R p w).1 (fun g1 => pMq g1 (.ref mb) 0 ((sGood B R p w).2) (-1) tp fa ac mk [] ∧ pIx g1 2003 18 ∧ ∀ j, (j ≠ 2000 ∧ j ≠ 2003) → g1 j = g j)) := by
  refine gCt.of RX13 (by decide) rfl (lo := [some (.ref 2000), some (.int p), some (.int w)]) 0 rfl (Nat.le_of_ble_eq_true rfl) (fun z E Rt => ?_)
  have hw_n := hw.1
  have hM_o := hM
  obtain ⟨hM_F, hM_a, hM_0, hM_1, hM_2, hM_3, hM_5, hM_6, hM_12, hM_15, hM_16, hM_17, hM_18, hM_19, hM_20, hM_26, hM_28, hM_29, -⟩ := hM_o
  have hMb_o := hMb
  obtain ⟨⟨hMb_F, hMb_a, hMb_0, hMb_1, hMb_2, hMb_3, hMb_4, hMb_5, hMb_6, hMb_7, hMb_8, hMb_9, hMb_11, hMb_12, hMb_13, hMb_14, hMb_15, hMb_16, hMb_17, hMb_18, hMb_19, hMb_20, hMb_21, hMb_22, hMb_23, hMb_24, hMb_25, hMb_26, hMb_27, hMb_28, hMb_29, hMb_30, hMb_31⟩, ⟨hMb_f1, hMb_a1, hMb_b1⟩, ⟨hMb_f2, hMb_a2, hMb_b2⟩, ⟨hMb_f3, hMb_a3, hMb_b3⟩, ⟨hMb_f4, hMb_a4, hMb_b4⟩, ⟨hMb_f5, hMb_a5, hMb_b5⟩, ⟨hMb_f6, hMb_a6, hMb_b6⟩, ⟨hMb_f7, hMb_a7, hMb_b7⟩, ⟨hMb_f8, hMb_a8, hMb_b8⟩, ⟨hMb_f9, hMb_a9, hMb_b9⟩, ⟨hMb_f10, hMb_a10, hMb_b10⟩, ⟨hMb_f11, hMb_a11, hMb_b11⟩, ⟨hMb_f12, hMb_a12, hMb_b12⟩, ⟨hMb_f13, hMb_a13, hMb_b13⟩, ⟨hMb_f14, hMb_a14, hMb_b14⟩, ⟨hMb_f15, hMb_a15, hMb_b15⟩, ⟨hMb_f16, hMb_a16, hMb_b16⟩, ⟨hMb_f17, hMb_a17, hMb_b17⟩, ⟨hMb_f18, hMb_a18, hMb_b18⟩, ⟨hMb_f19, hMb_a19, hMb_b19⟩, ⟨hMb_f20, hMb_a20, hMb_b20⟩, ⟨hMb_f21, hMb_a21, hMb_b21⟩⟩ := hMb_o
  have hV_o := hV
  obtain ⟨hV_f, hV_a, hV_r, hV_d⟩ := hV_o
  have hX_o := hX
  obtain ⟨hX_f, hX_a⟩ := hX_o
  refine g_aload_n E dX13_good_0 rfl rfl rfl ?_
  refine g_iconst E (v := 0) dX13_good_1 (by decide) rfl ?_
  refine g_putf E gciX13 (v := .int 0) dX13_good_2 hM_a 0 rfl (by decide) q1740 (.inl rfl) rfl (fun _ => rfl) (fun _ => rfl) rfl (g_upk (fun g1 h1 f1 => ?_))
  refine g_aload_n E dX13_good_5 rfl rfl rfl ?_
  refine g_iload_n E dX13_good_6 rfl rfl rfl ?_
  have hM2 : pMq g1 (.ref mb) 0 tr wh tp fa ac mk [] := ⟨_, h1, rfl, hM_1, hM_2, hM_3, hM_5, hM_6, hM_12, hM_15, hM_16, hM_17, hM_18, hM_19, hM_20, hM_26, hM_28, hM_29, trivial⟩
  have y3 := (hMb.fr  (fun j9 a9 b9 => f1 j9 (by omega)))
  refine g_callV (k := 2000) (n9 := 1) (av := [.int p]) (st := []) E (ct_X13_isGood l p hw hM2 y3) gciX13 dX13_good_7 h1 q2197 q2199 qs81 q135 q2200 (by decide +kernel) rfl rfl ⟨by decide, by decide⟩ ⟨by decide, by decide⟩ (Nat.le_of_ble_eq_true rfl) rfl (gPu.k ?_)
  refine g_if_eq E dX13_good_10 (tgt := 22) (by decide) rfl (fun c10 => ?_) (fun c10 => ?_)
  · have c10 := zb_0.mp c10
    have q4 := isNone_of c10
    refine g_aload_n E dX13_good_22 rfl rfl rfl ?_
    refine g_iconst E (v := 1) dX13_good_23 (by decide) rfl ?_
    refine g_callV (k := 2000) (n9 := 1) (av := [.int 1]) (st := []) E (ct_X13_refused l 1 hM2) gciX13 dX13_good_24 h1 q1846 q1848 qs52 q135 q1849 (by decide +kernel) rfl rfl ⟨by decide, by decide⟩ ⟨by decide, by decide⟩ (Nat.le_of_ble_eq_true rfl) rfl (gPi.k (fun g5 h5 => ?_))
    obtain ⟨hm5, f5⟩ := h5
    have hm5_o := hm5
    obtain ⟨hm5_F, hm5_a, hm5_0, hm5_1, hm5_2, hm5_3, hm5_5, hm5_6, hm5_12, hm5_15, hm5_16, hm5_17, hm5_18, hm5_19, hm5_20, hm5_26, hm5_28, hm5_29, -⟩ := hm5_o
    have hs6 : sGood B R p w = ((-1), 1) := by first | (simp [sGood, zb, c10, q4]; done) | (simp [sGood, zb, c10, q4, qWy]; done)
    have x7 := (f5 (2003) (by omega)).trans ((f1 (2003) (by omega)).trans (hX_a))
    exact g_iret E Rt dX13_good_27 rfl (by decide) (by decide) (by rw [hs6]; exact ⟨rfl, ⟨_, hm5_a, hm5_0, hm5_1, hm5_2, hm5_3, hm5_5, hm5_6, hm5_12, hm5_15, hm5_16, hm5_17, hm5_18, hm5_19, hm5_20, hm5_26, hm5_28, hm5_29, trivial⟩, ⟨_, x7⟩, fun j9 h9 => (f5 j9 (by omega)).trans (f1 j9 (by omega))⟩)
  · have c10 := zb_n0.mp c10
    obtain ⟨j, q8⟩ := isSome_of c10
    obtain ⟨rfl, q8_l⟩ := qI_some (by omega) q8
    refine g_iload_n E dX13_good_13 rfl rfl rfl ?_
    refine g_iconst E (v := 0) dX13_good_14 (by decide) rfl ?_
    refine g_iconst E (v := 5) dX13_good_15 (by decide) rfl ?_
    refine g_callS (n9 := 3) (av := [.int w, .int 0, .int 5]) (st := []) E (ct_X13_in l w 0 5) dX13_good_16 q2069 q2070 q135 q2071 (by decide +kernel) rfl rfl ⟨by decide, by decide⟩ ⟨by decide, by decide⟩ (Nat.le_of_ble_eq_true rfl) rfl (gPu.k ?_)
    refine g_if_ne E dX13_good_19 (tgt := 28) (by decide) rfl (fun c19 => ?_) (fun c19 => ?_)
    · have c19 := zb_n0.mp c19
      refine g_iload_n E dX13_good_28 rfl rfl rfl ?_
      rcases g_cases w (a := 0) (n := 5) (by decide) with c29 | ⟨j9, hj9, c29⟩
      · refine g_tabOut E dX13_good_29 (by have := c29; omega) (tgt := 133) (by decide) ?_
        have h5_ : w = 5 := zIn5 c19 c29
        refine g_aload_n E dX13_good_133 rfl rfl rfl ?_
        refine g_aload_n E dX13_good_134 rfl rfl rfl ?_
        refine g_aload_n E dX13_good_135 rfl rfl rfl ?_
        refine g_getf E gciX13 dX13_good_136 h1 15 rfl (by decide) q1755 (.inl rfl) (.ref 2002) (hM_15) rfl ?_
        refine g_iload_n E dX13_good_139 rfl rfl rfl ?_
        have y9 := (hV.fr  (fun j9 a9 b9 => f1 j9 (by omega)))
        refine g_callV (k := 2000) (n9 := 2) (av := [.ref 2002, .int (nI j)]) (st := [.ref 2000]) E (ct_X13_isHiddenIn l j hw hM2 y3 y9 (by omega)) gciX13 dX13_good_140 h1 q2201 q2203 qs82 q135 q2204 (by decide +kernel) rfl rfl ⟨by decide, by decide⟩ ⟨by decide, by decide⟩ (Nat.le_of_ble_eq_true rfl) rfl (gPu.k ?_)
        refine g_if_eq E dX13_good_143 (tgt := 150) (by decide) rfl (fun c143 => ?_) (fun c143 => ?_)
        · have c143 := zb_0.mp c143
          refine g_iconst E (v := 0) dX13_good_150 (by decide) rfl ?_
          refine g_callV (k := 2000) (n9 := 1) (av := [.int 0]) (st := []) E (ct_X13_fine l 0 hM2) gciX13 dX13_good_151 h1 q2181 q2183 qs80 q135 q2184 (by decide +kernel) rfl rfl ⟨by decide, by decide⟩ ⟨by decide, by decide⟩ (Nat.le_of_ble_eq_true rfl) rfl (gPi.k (fun g10 h10 => ?_))
          obtain ⟨hm10, f10⟩ := h10
          have hm10_o := hm10
          obtain ⟨hm10_F, hm10_a, hm10_0, hm10_1, hm10_2, hm10_3, hm10_5, hm10_6, hm10_12, hm10_15, hm10_16, hm10_17, hm10_18, hm10_19, hm10_20, hm10_26, hm10_28, hm10_29, -⟩ := hm10_o
          have hs11 : sGood B R (nI j) w = (0, 0) := by first | (simp [sGood, zb, c10, q8, h5_, c143]; done) | (simp [sGood, zb, c10, q8, h5_, c143, qWy]; done)
          have x12 := (f10 (2003) (by omega)).trans ((f1 (2003) (by omega)).trans (hX_a))
          exact g_iret E Rt dX13_good_154 rfl (by decide) (by decide) (by rw [hs11]; exact ⟨rfl, ⟨_, hm10_a, hm10_0, hm10_1, hm10_2, hm10_3, hm10_5, hm10_6, hm10_12, hm10_15, hm10_16, hm10_17, hm10_18, hm10_19, hm10_20, hm10_26, hm10_28, hm10_29, trivial⟩, ⟨_, x12⟩, fun j9 h9 => (f10 j9 (by omega)).trans (f1 j9 (by omega))⟩)
        · have c143 := zb_n0.mp c143
          refine g_iconst E (v := 1) dX13_good_146 (by decide) rfl ?_
          refine g_goto E dX13_good_147 (tgt := 151) (by decide) ?_
          refine g_callV (k := 2000) (n9 := 1) (av := [.int 1]) (st := []) E (ct_X13_fine l 1 hM2) gciX13 dX13_good_151 h1 q2181 q2183 qs80 q135 q2184 (by decide +kernel) rfl rfl ⟨by decide, by decide⟩ ⟨by decide, by decide⟩ (Nat.le_of_ble_eq_true rfl) rfl (gPi.k (fun g13 h13 => ?_))
          obtain ⟨hm13, f13⟩ := h13
          have hm13_o := hm13
          obtain ⟨hm13_F, hm13_a, hm13_0, hm13_1, hm13_2, hm13_3, hm13_5, hm13_6, hm13_12, hm13_15, hm13_16, hm13_17, hm13_18, hm13_19, hm13_20, hm13_26, hm13_28, hm13_29, -⟩ := hm13_o
          have hs14 : sGood B R (nI j) w = (1, 0) := by first | (simp [sGood, zb, c10, q8, h5_, c143]; done) | (simp [sGood, zb, c10, q8, h5_, c143, qWy]; done)
          have x15 := (f13 (2003) (by omega)).trans ((f1 (2003) (by omega)).trans (hX_a))
          exact g_iret E Rt dX13_good_154 rfl (by decide) (by decide) (by rw [hs14]; exact ⟨rfl, ⟨_, hm13_a, hm13_0, hm13_1, hm13_2, hm13_3, hm13_5, hm13_6, hm13_12, hm13_15, hm13_16, hm13_17, hm13_18, hm13_19, hm13_20, hm13_26, hm13_28, hm13_29, trivial⟩, ⟨_, x15⟩, fun j9 h9 => (f13 j9 (by omega)).trans (f1 j9 (by omega))⟩)
      · match j9, hj9, c29 with
        | 0, _, c29 =>
          have c29 : w = 0 := c29
          refine g_tabIn E dX13_good_29 (by rw [c29]; decide) (by rw [c29]; decide) (off := 35) (by rw [c29]; rfl) (tgt := 64) (by decide) ?_
          refine g_aload_n E dX13_good_64 rfl rfl rfl ?_
          refine g_aload_n E dX13_good_65 rfl rfl rfl ?_
          refine g_getf E gciX13 dX13_good_66 h1 3 rfl (by decide) q1743 (.inl rfl) (.ref mb) (hM_3) rfl ?_
          have x16 := (f1 (mb) (by omega)).trans (hMb_a)
          refine g_getfN E gciX27 dX13_good_69 x16 20 rfl (by decide) q1888 (.inl rfl) (.ref (mb + 10)) (hMb_20) rfl ?_
          refine g_iload_n E dX13_good_72 rfl rfl rfl ?_
          have x17 := (f1 (mb + 10) (by omega)).trans (hMb_a10)
          refine g_iald E dX13_good_73 (j := j) x17 (rfl) (by omega) (by decide) (v := nI (B 12 j)) (hMb_b10 j (by omega)) rfl ?_
          refine g_callV (k := 2000) (n9 := 1) (av := [.int (nI (B 12 j))]) (st := []) E (ct_X13_fine l (nI (B 12 j)) hM2) gciX13 dX13_good_74 h1 q2181 q2183 qs80 q135 q2184 (by decide +kernel) rfl rfl ⟨by decide, by decide⟩ ⟨by decide, by decide⟩ (Nat.le_of_ble_eq_true rfl) rfl (gPi.k (fun g18 h18 => ?_))
          obtain ⟨hm18, f18⟩ := h18
          have hm18_o := hm18
          obtain ⟨hm18_F, hm18_a, hm18_0, hm18_1, hm18_2, hm18_3, hm18_5, hm18_6, hm18_12, hm18_15, hm18_16, hm18_17, hm18_18, hm18_19, hm18_20, hm18_26, hm18_28, hm18_29, -⟩ := hm18_o
          have hs19 : sGood B R (nI j) w = (nI (B 12 j), 0) := by first | (simp [sGood, zb, c10, q8, c29]; done) | (simp [sGood, zb, c10, q8, c29, qWy]; done)
          have x20 := (f18 (2003) (by omega)).trans ((f1 (2003) (by omega)).trans (hX_a))
          exact g_iret E Rt dX13_good_77 rfl (by decide) (by decide) (by rw [hs19]; exact ⟨rfl, ⟨_, hm18_a, hm18_0, hm18_1, hm18_2, hm18_3, hm18_5, hm18_6, hm18_12, hm18_15, hm18_16, hm18_17, hm18_18, hm18_19, hm18_20, hm18_26, hm18_28, hm18_29, trivial⟩, ⟨_, x20⟩, fun j9 h9 => (f18 j9 (by omega)).trans (f1 j9 (by omega))⟩)
        | 1, _, c29 =>
          have c29 : w = 1 := c29
          refine g_tabIn E dX13_good_29 (by rw [c29]; decide) (by rw [c29]; decide) (off := 49) (by rw [c29]; rfl) (tgt := 78) (by decide) ?_
          refine g_aload_n E dX13_good_78 rfl rfl rfl ?_
          refine g_aload_n E dX13_good_79 rfl rfl rfl ?_
          refine g_getf E gciX13 dX13_good_80 h1 3 rfl (by decide) q1743 (.inl rfl) (.ref mb) (hM_3) rfl ?_
          have x21 := (f1 (mb) (by omega)).trans (hMb_a)
          refine g_getfN E gciX27 dX13_good_83 x21 21 rfl (by decide) q1890 (.inl rfl) (.ref (mb + 11)) (hMb_21) rfl ?_
          refine g_iload_n E dX13_good_86 rfl rfl rfl ?_
          have x22 := (f1 (mb + 11) (by omega)).trans (hMb_a11)
          refine g_iald E dX13_good_87 (j := j) x22 (rfl) (by omega) (by decide) (v := if B 12 j = 0 then -2 else nI (B 13 j)) (hMb_b11 j (by omega)) rfl ?_
          refine g_callV (k := 2000) (n9 := 1) (av := [.int (if B 12 j = 0 then -2 else nI (B 13 j))]) (st := []) E (ct_X13_fine l (if B 12 j = 0 then -2 else nI (B 13 j)) hM2) gciX13 dX13_good_88 h1 q2181 q2183 qs80 q135 q2184 (by decide +kernel) rfl rfl ⟨by decide, by decide⟩ ⟨by decide, by decide⟩ (Nat.le_of_ble_eq_true rfl) rfl (gPi.k (fun g23 h23 => ?_))
          obtain ⟨hm23, f23⟩ := h23
          have hm23_o := hm23
          obtain ⟨hm23_F, hm23_a, hm23_0, hm23_1, hm23_2, hm23_3, hm23_5, hm23_6, hm23_12, hm23_15, hm23_16, hm23_17, hm23_18, hm23_19, hm23_20, hm23_26, hm23_28, hm23_29, -⟩ := hm23_o
          have hs24 : sGood B R (nI j) w = (if B 12 j = 0 then -2 else nI (B 13 j), 0) := by first | (simp [sGood, zb, c10, q8, c29]; done) | (simp [sGood, zb, c10, q8, c29, qWy]; done)
          have x25 := (f23 (2003) (by omega)).trans ((f1 (2003) (by omega)).trans (hX_a))
          exact g_iret E Rt dX13_good_91 rfl (by decide) (by decide) (by rw [hs24]; exact ⟨rfl, ⟨_, hm23_a, hm23_0, hm23_1, hm23_2, hm23_3, hm23_5, hm23_6, hm23_12, hm23_15, hm23_16, hm23_17, hm23_18, hm23_19, hm23_20, hm23_26, hm23_28, hm23_29, trivial⟩, ⟨_, x25⟩, fun j9 h9 => (f23 j9 (by omega)).trans (f1 j9 (by omega))⟩)
        | 2, _, c29 =>
          have c29 : w = 2 := c29
          refine g_tabIn E dX13_good_29 (by rw [c29]; decide) (by rw [c29]; decide) (off := 63) (by rw [c29]; rfl) (tgt := 92) (by decide) ?_
          refine g_aload_n E dX13_good_92 rfl rfl rfl ?_
          refine g_aload_n E dX13_good_93 rfl rfl rfl ?_
          refine g_getf E gciX13 dX13_good_94 h1 3 rfl (by decide) q1743 (.inl rfl) (.ref mb) (hM_3) rfl ?_
          have x26 := (f1 (mb) (by omega)).trans (hMb_a)
          refine g_getfN E gciX27 dX13_good_97 x26 22 rfl (by decide) q1892 (.inl rfl) (.ref (mb + 12)) (hMb_22) rfl ?_
          refine g_iload_n E dX13_good_100 rfl rfl rfl ?_
          have x27 := (f1 (mb + 12) (by omega)).trans (hMb_a12)
          refine g_iald E dX13_good_101 (j := j) x27 (rfl) (by omega) (by decide) (v := nI (B 14 j)) (hMb_b12 j (by omega)) rfl ?_
          refine g_callV (k := 2000) (n9 := 1) (av := [.int (nI (B 14 j))]) (st := []) E (ct_X13_fine l (nI (B 14 j)) hM2) gciX13 dX13_good_102 h1 q2181 q2183 qs80 q135 q2184 (by decide +kernel) rfl rfl ⟨by decide, by decide⟩ ⟨by decide, by decide⟩ (Nat.le_of_ble_eq_true rfl) rfl (gPi.k (fun g28 h28 => ?_))
          obtain ⟨hm28, f28⟩ := h28
          have hm28_o := hm28
          obtain ⟨hm28_F, hm28_a, hm28_0, hm28_1, hm28_2, hm28_3, hm28_5, hm28_6, hm28_12, hm28_15, hm28_16, hm28_17, hm28_18, hm28_19, hm28_20, hm28_26, hm28_28, hm28_29, -⟩ := hm28_o
          have hs29 : sGood B R (nI j) w = (nI (B 14 j), 0) := by first | (simp [sGood, zb, c10, q8, c29]; done) | (simp [sGood, zb, c10, q8, c29, qWy]; done)
          have x30 := (f28 (2003) (by omega)).trans ((f1 (2003) (by omega)).trans (hX_a))
          exact g_iret E Rt dX13_good_105 rfl (by decide) (by decide) (by rw [hs29]; exact ⟨rfl, ⟨_, hm28_a, hm28_0, hm28_1, hm28_2, hm28_3, hm28_5, hm28_6, hm28_12, hm28_15, hm28_16, hm28_17, hm28_18, hm28_19, hm28_20, hm28_26, hm28_28, hm28_29, trivial⟩, ⟨_, x30⟩, fun j9 h9 => (f28 j9 (by omega)).trans (f1 j9 (by omega))⟩)
        | 3, _, c29 =>
          have c29 : w = 3 := c29
          refine g_tabIn E dX13_good_29 (by rw [c29]; decide) (by rw [c29]; decide) (off := 77) (by rw [c29]; rfl) (tgt := 106) (by decide) ?_
          refine g_aload_n E dX13_good_106 rfl rfl rfl ?_
          refine g_aload_n E dX13_good_107 rfl rfl rfl ?_
          refine g_getf E gciX13 dX13_good_108 h1 3 rfl (by decide) q1743 (.inl rfl) (.ref mb) (hM_3) rfl ?_
          have x31 := (f1 (mb) (by omega)).trans (hMb_a)
          refine g_getfN E gciX27 dX13_good_111 x31 24 rfl (by decide) q1896 (.inl rfl) (.ref (mb + 14)) (hMb_24) rfl ?_
          refine g_iload_n E dX13_good_114 rfl rfl rfl ?_
          have x32 := (f1 (mb + 14) (by omega)).trans (hMb_a14)
          refine g_iald E dX13_good_115 (j := j) x32 (rfl) (by omega) (by decide) (v := nI (B 16 j)) (hMb_b14 j (by omega)) rfl ?_
          refine g_callV (k := 2000) (n9 := 1) (av := [.int (nI (B 16 j))]) (st := []) E (ct_X13_fine l (nI (B 16 j)) hM2) gciX13 dX13_good_116 h1 q2181 q2183 qs80 q135 q2184 (by decide +kernel) rfl rfl ⟨by decide, by decide⟩ ⟨by decide, by decide⟩ (Nat.le_of_ble_eq_true rfl) rfl (gPi.k (fun g33 h33 => ?_))
          obtain ⟨hm33, f33⟩ := h33
          have hm33_o := hm33
          obtain ⟨hm33_F, hm33_a, hm33_0, hm33_1, hm33_2, hm33_3, hm33_5, hm33_6, hm33_12, hm33_15, hm33_16, hm33_17, hm33_18, hm33_19, hm33_20, hm33_26, hm33_28, hm33_29, -⟩ := hm33_o
          have hs34 : sGood B R (nI j) w = (nI (B 16 j), 0) := by first | (simp [sGood, zb, c10, q8, c29]; done) | (simp [sGood, zb, c10, q8, c29, qWy]; done)
          have x35 := (f33 (2003) (by omega)).trans ((f1 (2003) (by omega)).trans (hX_a))
          exact g_iret E Rt dX13_good_119 rfl (by decide) (by decide) (by rw [hs34]; exact ⟨rfl, ⟨_, hm33_a, hm33_0, hm33_1, hm33_2, hm33_3, hm33_5, hm33_6, hm33_12, hm33_15, hm33_16, hm33_17, hm33_18, hm33_19, hm33_20, hm33_26, hm33_28, hm33_29, trivial⟩, ⟨_, x35⟩, fun j9 h9 => (f33 j9 (by omega)).trans (f1 j9 (by omega))⟩)
        | 4, _, c29 =>
          have c29 : w = 4 := c29
          refine g_tabIn E dX13_good_29 (by rw [c29]; decide) (by rw [c29]; decide) (off := 91) (by rw [c29]; rfl) (tgt := 120) (by decide) ?_
          refine g_aload_n E dX13_good_120 rfl rfl rfl ?_
          refine g_aload_n E dX13_good_121 rfl rfl rfl ?_
          refine g_getf E gciX13 dX13_good_122 h1 15 rfl (by decide) q1755 (.inl rfl) (.ref 2002) (hM_15) rfl ?_
          refine g_iconst E (v := 0) dX13_good_125 (by decide) rfl ?_
          refine g_iload_n E dX13_good_126 rfl rfl rfl ?_
          refine g_iadd E dX13_good_127 rfl ?_
          refine g_as (y := nI j) (Int32.zero_add _) ?_
          have x36 := (f1 (2002) (by omega)).trans (hV_a)
          refine g_iald E dX13_good_128 (j := j) x36 (rfl) (by omega) (by decide) (v := R j) (hV_r j (by unfold zRel; omega)) rfl ?_
          refine g_callV (k := 2000) (n9 := 1) (av := [.int (R j)]) (st := []) E (ct_X13_fine l (R j) hM2) gciX13 dX13_good_129 h1 q2181 q2183 qs80 q135 q2184 (by decide +kernel) rfl rfl ⟨by decide, by decide⟩ ⟨by decide, by decide⟩ (Nat.le_of_ble_eq_true rfl) rfl (gPi.k (fun g37 h37 => ?_))
          obtain ⟨hm37, f37⟩ := h37
          have hm37_o := hm37
          obtain ⟨hm37_F, hm37_a, hm37_0, hm37_1, hm37_2, hm37_3, hm37_5, hm37_6, hm37_12, hm37_15, hm37_16, hm37_17, hm37_18, hm37_19, hm37_20, hm37_26, hm37_28, hm37_29, -⟩ := hm37_o
          have hs38 : sGood B R (nI j) w = (R j, 0) := by first | (simp [sGood, zb, c10, q8, c29]; done) | (simp [sGood, zb, c10, q8, c29, qWy]; done)
          have x39 := (f37 (2003) (by omega)).trans ((f1 (2003) (by omega)).trans (hX_a))
          exact g_iret E Rt dX13_good_132 rfl (by decide) (by decide) (by rw [hs38]; exact ⟨rfl, ⟨_, hm37_a, hm37_0, hm37_1, hm37_2, hm37_3, hm37_5, hm37_6, hm37_12, hm37_15, hm37_16, hm37_17, hm37_18, hm37_19, hm37_20, hm37_26, hm37_28, hm37_29, trivial⟩, ⟨_, x39⟩, fun j9 h9 => (f37 j9 (by omega)).trans (f1 j9 (by omega))⟩)
    · have c19 := zb_0.mp c19
      have w0_ : ¬ w = 0 := by intro h9; rw [h9] at c19; revert c19; decide
      have w1_ : ¬ w = 1 := by intro h9; rw [h9] at c19; revert c19; decide
      have w2_ : ¬ w = 2 := by intro h9; rw [h9] at c19; revert c19; decide
      have w3_ : ¬ w = 3 := by intro h9; rw [h9] at c19; revert c19; decide
      have w4_ : ¬ w = 4 := by intro h9; rw [h9] at c19; revert c19; decide
      have w5_ : ¬ w = 5 := by intro h9; rw [h9] at c19; revert c19; decide
      refine g_aload_n E dX13_good_22 rfl rfl rfl ?_
      refine g_iconst E (v := 1) dX13_good_23 (by decide) rfl ?_
      refine g_callV (k := 2000) (n9 := 1) (av := [.int 1]) (st := []) E (ct_X13_refused l 1 hM2) gciX13 dX13_good_24 h1 q1846 q1848 qs52 q135 q1849 (by decide +kernel) rfl rfl ⟨by decide, by decide⟩ ⟨by decide, by decide⟩ (Nat.le_of_ble_eq_true rfl) rfl (gPi.k (fun g40 h40 => ?_))
      obtain ⟨hm40, f40⟩ := h40
      have hm40_o := hm40
      obtain ⟨hm40_F, hm40_a, hm40_0, hm40_1, hm40_2, hm40_3, hm40_5, hm40_6, hm40_12, hm40_15, hm40_16, hm40_17, hm40_18, hm40_19, hm40_20, hm40_26, hm40_28, hm40_29, -⟩ := hm40_o
      have hs41 : sGood B R (nI j) w = ((-1), 1) := by first | (simp [sGood, zb, c10, q8, w0_, w1_, w2_, w3_, w4_, w5_]; done) | (simp [sGood, zb, c10, q8, w0_, w1_, w2_, w3_, w4_, w5_, qWy]; done)
      have x42 := (f40 (2003) (by omega)).trans ((f1 (2003) (by omega)).trans (hX_a))
      exact g_iret E Rt dX13_good_27 rfl (by decide) (by decide) (by rw [hs41]; exact ⟨rfl, ⟨_, hm40_a, hm40_0, hm40_1, hm40_2, hm40_3, hm40_5, hm40_6, hm40_12, hm40_15, hm40_16, hm40_17, hm40_18, hm40_19, hm40_20, hm40_26, hm40_28, hm40_29, trivial⟩, ⟨_, x42⟩, fun j9 h9 => (f40 j9 (by omega)).trans (f1 j9 (by omega))⟩)
set_option maxHeartbeats 1000000 in
theorem ct_X13_good_N (l : Launch) {g : gWM} {th tr wh fa : Int32} {tp ac mk : Nat} (p : Int32) (w : Int32) (hM : pMq g .null th tr wh tp fa ac mk []) : gCt l yX13_good cX13_good 3 (some .int) 1 0 0 21 [.ref 2000, .int p, .int w] g (gPi (sGood zB0 (fun _ => 0) p w).1 (fun g1 => pMq g1 .null 0 ((sGood zB0 (fun _ => 0) p w).2) (-1) tp fa ac mk [] ∧ ∀ j, j ≠ 2000 → g1 j = g j)) := by
  refine gCt.of RX13 (by decide) rfl (lo := [some (.ref 2000), some (.int p), some (.int w)]) 0 rfl (Nat.le_of_ble_eq_true rfl) (fun z E Rt => ?_)
  have hM_o := hM
  obtain ⟨hM_F, hM_a, hM_0, hM_1, hM_2, hM_3, hM_5, hM_6, hM_12, hM_15, hM_16, hM_17, hM_18, hM_19, hM_20, hM_26, hM_28, hM_29, -⟩ := hM_o
  refine g_aload_n E dX13_good_0 rfl rfl rfl ?_
  refine g_iconst E (v := 0) dX13_good_1 (by decide) rfl ?_
  refine g_putf E gciX13 (v := .int 0) dX13_good_2 hM_a 0 rfl (by decide) q1740 (.inl rfl) rfl (fun _ => rfl) (fun _ => rfl) rfl (g_upk (fun g1 h1 f1 => ?_))
  refine g_aload_n E dX13_good_5 rfl rfl rfl ?_
  refine g_iload_n E dX13_good_6 rfl rfl rfl ?_
  have hM2 : pMq g1 .null 0 tr wh tp fa ac mk [] := ⟨_, h1, rfl, hM_1, hM_2, hM_3, hM_5, hM_6, hM_12, hM_15, hM_16, hM_17, hM_18, hM_19, hM_20, hM_26, hM_28, hM_29, trivial⟩
  refine g_callV (k := 2000) (n9 := 1) (av := [.int p]) (st := []) E (ct_X13_isGood_N l p hM2) gciX13 dX13_good_7 h1 q2197 q2199 qs81 q135 q2200 (by decide +kernel) rfl rfl ⟨by decide, by decide⟩ ⟨by decide, by decide⟩ (Nat.le_of_ble_eq_true rfl) rfl (gPu.k ?_)
  refine g_if_eq E dX13_good_10 (tgt := 22) (by decide) rfl (fun _ => ?_) (fun h9 => absurd h9 (by decide))
  refine g_aload_n E dX13_good_22 rfl rfl rfl ?_
  refine g_iconst E (v := 1) dX13_good_23 (by decide) rfl ?_
  refine g_callV (k := 2000) (n9 := 1) (av := [.int 1]) (st := []) E (ct_X13_refused l 1 hM2) gciX13 dX13_good_24 h1 q1846 q1848 qs52 q135 q1849 (by decide +kernel) rfl rfl ⟨by decide, by decide⟩ ⟨by decide, by decide⟩ (Nat.le_of_ble_eq_true rfl) rfl (gPi.k (fun g3 h3 => ?_))
  obtain ⟨hm3, f3⟩ := h3
  have hm3_o := hm3
  obtain ⟨hm3_F, hm3_a, hm3_0, hm3_1, hm3_2, hm3_3, hm3_5, hm3_6, hm3_12, hm3_15, hm3_16, hm3_17, hm3_18, hm3_19, hm3_20, hm3_26, hm3_28, hm3_29, -⟩ := hm3_o
  have hs4 : sGood zB0 (fun _ => 0) p w = ((-1), 1) := by first | (simp [sGood, zb, qI_z, qWy]; done) | (simp [sGood, zb, qI_z, qWy, qWy]; done)
  exact g_iret E Rt dX13_good_27 rfl (by decide) (by decide) (by rw [hs4]; exact ⟨rfl, ⟨_, hm3_a, hm3_0, hm3_1, hm3_2, hm3_3, hm3_5, hm3_6, hm3_12, hm3_15, hm3_16, hm3_17, hm3_18, hm3_19, hm3_20, hm3_26, hm3_28, hm3_29, trivial⟩, fun j9 h9 => (f3 j9 (by omega)).trans (f1 j9 (by omega))⟩)
set_option maxHeartbeats 1000000 in
theorem ct_X13_traveller (l : Launch) {g : gWM} {mb : Nat} {B : gBar} {R : Nat → Int32} {d : Int32} {th tr wh fa : Int32} {tp ac mk : Nat} (p : Int32) (w : Int32) (hw : wfB B) (hM : pMq g (.ref mb) th tr wh tp fa ac mk []) (hMb : pMb g mb B) (hV : pRw g 2002 B R d) (hX : pIx g 2003 18) (h9 : 10000 ≤ mb) : gCt l yX13_traveller cX13_traveller 3 (some .int) 2 0 0 46 [.ref 2000, .int p, .int w] g (gPi (sTrav B R p w).1 (fun g1 => pMq g1 (.ref mb) 0 ((sTrav B R p w).2) (-1) tp fa ac mk [] ∧ pIx g1 2003 18 ∧ ∀ j, (j ≠ 2000 ∧ j ≠ 2003) → g1 j = g j)) := by
  refine gCt.of RX13 (by decide) rfl (lo := [some (.ref 2000), some (.int p), some (.int w)]) 0 rfl (Nat.le_of_ble_eq_true rfl) (fun z E Rt => ?_)
  have hw_n := hw.1
  have hM_o := hM
  obtain ⟨hM_F, hM_a, hM_0, hM_1, hM_2, hM_3, hM_5, hM_6, hM_12, hM_15, hM_16, hM_17, hM_18, hM_19, hM_20, hM_26, hM_28, hM_29, -⟩ := hM_o
  have hMb_o := hMb
  obtain ⟨⟨hMb_F, hMb_a, hMb_0, hMb_1, hMb_2, hMb_3, hMb_4, hMb_5, hMb_6, hMb_7, hMb_8, hMb_9, hMb_11, hMb_12, hMb_13, hMb_14, hMb_15, hMb_16, hMb_17, hMb_18, hMb_19, hMb_20, hMb_21, hMb_22, hMb_23, hMb_24, hMb_25, hMb_26, hMb_27, hMb_28, hMb_29, hMb_30, hMb_31⟩, ⟨hMb_f1, hMb_a1, hMb_b1⟩, ⟨hMb_f2, hMb_a2, hMb_b2⟩, ⟨hMb_f3, hMb_a3, hMb_b3⟩, ⟨hMb_f4, hMb_a4, hMb_b4⟩, ⟨hMb_f5, hMb_a5, hMb_b5⟩, ⟨hMb_f6, hMb_a6, hMb_b6⟩, ⟨hMb_f7, hMb_a7, hMb_b7⟩, ⟨hMb_f8, hMb_a8, hMb_b8⟩, ⟨hMb_f9, hMb_a9, hMb_b9⟩, ⟨hMb_f10, hMb_a10, hMb_b10⟩, ⟨hMb_f11, hMb_a11, hMb_b11⟩, ⟨hMb_f12, hMb_a12, hMb_b12⟩, ⟨hMb_f13, hMb_a13, hMb_b13⟩, ⟨hMb_f14, hMb_a14, hMb_b14⟩, ⟨hMb_f15, hMb_a15, hMb_b15⟩, ⟨hMb_f16, hMb_a16, hMb_b16⟩, ⟨hMb_f17, hMb_a17, hMb_b17⟩, ⟨hMb_f18, hMb_a18, hMb_b18⟩, ⟨hMb_f19, hMb_a19, hMb_b19⟩, ⟨hMb_f20, hMb_a20, hMb_b20⟩, ⟨hMb_f21, hMb_a21, hMb_b21⟩⟩ := hMb_o
  have hV_o := hV
  obtain ⟨hV_f, hV_a, hV_r, hV_d⟩ := hV_o
  have hX_o := hX
  obtain ⟨hX_f, hX_a⟩ := hX_o
  refine g_aload_n E dX13_traveller_0 rfl rfl rfl ?_
  refine g_iconst E (v := 0) dX13_traveller_1 (by decide) rfl ?_
  refine g_putf E gciX13 (v := .int 0) dX13_traveller_2 hM_a 0 rfl (by decide) q1740 (.inl rfl) rfl (fun _ => rfl) (fun _ => rfl) rfl (g_upk (fun g1 h1 f1 => ?_))
  refine g_aload_n E dX13_traveller_5 rfl rfl rfl ?_
  refine g_iload_n E dX13_traveller_6 rfl rfl rfl ?_
  have hM2 : pMq g1 (.ref mb) 0 tr wh tp fa ac mk [] := ⟨_, h1, rfl, hM_1, hM_2, hM_3, hM_5, hM_6, hM_12, hM_15, hM_16, hM_17, hM_18, hM_19, hM_20, hM_26, hM_28, hM_29, trivial⟩
  have y3 := (hMb.fr  (fun j9 a9 b9 => f1 j9 (by omega)))
  refine g_callV (k := 2000) (n9 := 1) (av := [.int p]) (st := []) E (ct_X13_isTraveller l p hw hM2 y3) gciX13 dX13_traveller_7 h1 q2209 q2211 qs83 q135 q2212 (by decide +kernel) rfl rfl ⟨by decide, by decide⟩ ⟨by decide, by decide⟩ (Nat.le_of_ble_eq_true rfl) rfl (gPu.k ?_)
  refine g_if_eq E dX13_traveller_10 (tgt := 22) (by decide) rfl (fun c10 => ?_) (fun c10 => ?_)
  · have c10 := zb_0.mp c10
    have q4 := isNone_of c10
    refine g_aload_n E dX13_traveller_22 rfl rfl rfl ?_
    refine g_iconst E (v := 1) dX13_traveller_23 (by decide) rfl ?_
    refine g_callV (k := 2000) (n9 := 1) (av := [.int 1]) (st := []) E (ct_X13_refused l 1 hM2) gciX13 dX13_traveller_24 h1 q1846 q1848 qs52 q135 q1849 (by decide +kernel) rfl rfl ⟨by decide, by decide⟩ ⟨by decide, by decide⟩ (Nat.le_of_ble_eq_true rfl) rfl (gPi.k (fun g5 h5 => ?_))
    obtain ⟨hm5, f5⟩ := h5
    have hm5_o := hm5
    obtain ⟨hm5_F, hm5_a, hm5_0, hm5_1, hm5_2, hm5_3, hm5_5, hm5_6, hm5_12, hm5_15, hm5_16, hm5_17, hm5_18, hm5_19, hm5_20, hm5_26, hm5_28, hm5_29, -⟩ := hm5_o
    have hs6 : sTrav B R p w = ((-1), 1) := by first | (simp [sTrav, c10, q4]; done) | (simp [sTrav, c10, q4, qWy]; done)
    have x7 := (f5 (2003) (by omega)).trans ((f1 (2003) (by omega)).trans (hX_a))
    exact g_iret E Rt dX13_traveller_27 rfl (by decide) (by decide) (by rw [hs6]; exact ⟨rfl, ⟨_, hm5_a, hm5_0, hm5_1, hm5_2, hm5_3, hm5_5, hm5_6, hm5_12, hm5_15, hm5_16, hm5_17, hm5_18, hm5_19, hm5_20, hm5_26, hm5_28, hm5_29, trivial⟩, ⟨_, x7⟩, fun j9 h9 => (f5 j9 (by omega)).trans (f1 j9 (by omega))⟩)
  · have c10 := zb_n0.mp c10
    obtain ⟨t, q8⟩ := isSome_of c10
    obtain ⟨rfl, q8_l⟩ := qI_some (by omega) q8
    refine g_iload_n E dX13_traveller_13 rfl rfl rfl ?_
    refine g_iconst E (v := 0) dX13_traveller_14 (by decide) rfl ?_
    refine g_iconst E (v := 3) dX13_traveller_15 (by decide) rfl ?_
    refine g_callS (n9 := 3) (av := [.int w, .int 0, .int 3]) (st := []) E (ct_X13_in l w 0 3) dX13_traveller_16 q2069 q2070 q135 q2071 (by decide +kernel) rfl rfl ⟨by decide, by decide⟩ ⟨by decide, by decide⟩ (Nat.le_of_ble_eq_true rfl) rfl (gPu.k ?_)
    refine g_if_ne E dX13_traveller_19 (tgt := 28) (by decide) rfl (fun c19 => ?_) (fun c19 => ?_)
    · have c19 := zb_n0.mp c19
      refine g_aload_n E dX13_traveller_28 rfl rfl rfl ?_
      refine g_iload_n E dX13_traveller_29 rfl rfl rfl ?_
      refine g_if_ne E dX13_traveller_30 (tgt := 45) (by decide) rfl (fun c30 => ?_) (fun c30 => ?_)
      · refine g_iload_n E dX13_traveller_45 rfl rfl rfl ?_
        refine g_iconst E (v := 1) dX13_traveller_46 (by decide) rfl ?_
        refine g_icmp_ne E dX13_traveller_47 (tgt := 62) (by decide) rfl (fun c47 => ?_) (fun c47 => ?_)
        · refine g_iload_n E dX13_traveller_62 rfl rfl rfl ?_
          refine g_iconst E (v := 2) dX13_traveller_63 (by decide) rfl ?_
          refine g_icmp_ne E dX13_traveller_64 (tgt := 79) (by decide) rfl (fun c64 => ?_) (fun c64 => ?_)
          · have h3_ : w = 3 := zIn3 c19 c30 c47 c64
            refine g_aload_n E dX13_traveller_79 rfl rfl rfl ?_
            refine g_iload_n E dX13_traveller_80 rfl rfl rfl ?_
            have y9 := (hV.fr  (fun j9 a9 b9 => f1 j9 (by omega)))
            refine g_callV (k := 2000) (n9 := 1) (av := [.int (nI t)]) (st := [.ref 2000]) E (ct_X13_setOf l t hw hM2 y3 y9 (by omega)) gciX13 dX13_traveller_81 h1 q2213 q2215 qs84 q135 q2216 (by decide +kernel) rfl rfl ⟨by decide, by decide⟩ ⟨by decide, by decide⟩ (Nat.le_of_ble_eq_true rfl) rfl (gPu.k ?_)
            refine g_callV (k := 2000) (n9 := 1) (av := [.int (zHas B R t)]) (st := []) E (ct_X13_fine l (zHas B R t) hM2) gciX13 dX13_traveller_84 h1 q2181 q2183 qs80 q135 q2184 (by decide +kernel) rfl rfl ⟨by decide, by decide⟩ ⟨by decide, by decide⟩ (Nat.le_of_ble_eq_true rfl) rfl (gPi.k (fun g10 h10 => ?_))
            obtain ⟨hm10, f10⟩ := h10
            have hm10_o := hm10
            obtain ⟨hm10_F, hm10_a, hm10_0, hm10_1, hm10_2, hm10_3, hm10_5, hm10_6, hm10_12, hm10_15, hm10_16, hm10_17, hm10_18, hm10_19, hm10_20, hm10_26, hm10_28, hm10_29, -⟩ := hm10_o
            have hs11 : sTrav B R (nI t) w = (zHas B R t, 0) := by first | (simp [sTrav, c10, q8, h3_]; done) | (simp [sTrav, c10, q8, h3_, qWy]; done)
            have x12 := (f10 (2003) (by omega)).trans ((f1 (2003) (by omega)).trans (hX_a))
            exact g_iret E Rt dX13_traveller_87 rfl (by decide) (by decide) (by rw [hs11]; exact ⟨rfl, ⟨_, hm10_a, hm10_0, hm10_1, hm10_2, hm10_3, hm10_5, hm10_6, hm10_12, hm10_15, hm10_16, hm10_17, hm10_18, hm10_19, hm10_20, hm10_26, hm10_28, hm10_29, trivial⟩, ⟨_, x12⟩, fun j9 h9 => (f10 j9 (by omega)).trans (f1 j9 (by omega))⟩)
          · refine g_aload_n E dX13_traveller_67 rfl rfl rfl ?_
            refine g_getf E gciX13 dX13_traveller_68 h1 15 rfl (by decide) q1755 (.inl rfl) (.ref 2002) (hM_15) rfl ?_
            refine g_bipush E (v := 12) dX13_traveller_71 (by decide) rfl ?_
            refine g_iload_n E dX13_traveller_73 rfl rfl rfl ?_
            refine g_iadd E dX13_traveller_74 rfl ?_
            refine g_as (y := nI (12 + t)) (by rw [show (12 : Int32) = nI 12 from rfl, nI_add]) ?_
            have x13 := (f1 (2002) (by omega)).trans (hV_a)
            refine g_iald E dX13_traveller_75 (j := 12 + t) x13 (rfl) (by omega) (by decide) (v := R (12 + t)) (hV_r (12 + t) (by unfold zRel; omega)) rfl ?_
            refine g_goto E dX13_traveller_76 (tgt := 84) (by decide) ?_
            refine g_callV (k := 2000) (n9 := 1) (av := [.int (R (12 + t))]) (st := []) E (ct_X13_fine l (R (12 + t)) hM2) gciX13 dX13_traveller_84 h1 q2181 q2183 qs80 q135 q2184 (by decide +kernel) rfl rfl ⟨by decide, by decide⟩ ⟨by decide, by decide⟩ (Nat.le_of_ble_eq_true rfl) rfl (gPi.k (fun g14 h14 => ?_))
            obtain ⟨hm14, f14⟩ := h14
            have hm14_o := hm14
            obtain ⟨hm14_F, hm14_a, hm14_0, hm14_1, hm14_2, hm14_3, hm14_5, hm14_6, hm14_12, hm14_15, hm14_16, hm14_17, hm14_18, hm14_19, hm14_20, hm14_26, hm14_28, hm14_29, -⟩ := hm14_o
            have hs15 : sTrav B R (nI t) w = (R (12 + t), 0) := by first | (simp [sTrav, c10, q8, c30, c47, c64]; done) | (simp [sTrav, c10, q8, c30, c47, c64, qWy]; done)
            have x16 := (f14 (2003) (by omega)).trans ((f1 (2003) (by omega)).trans (hX_a))
            exact g_iret E Rt dX13_traveller_87 rfl (by decide) (by decide) (by rw [hs15]; exact ⟨rfl, ⟨_, hm14_a, hm14_0, hm14_1, hm14_2, hm14_3, hm14_5, hm14_6, hm14_12, hm14_15, hm14_16, hm14_17, hm14_18, hm14_19, hm14_20, hm14_26, hm14_28, hm14_29, trivial⟩, ⟨_, x16⟩, fun j9 h9 => (f14 j9 (by omega)).trans (f1 j9 (by omega))⟩)
        · refine g_aload_n E dX13_traveller_50 rfl rfl rfl ?_
          refine g_getf E gciX13 dX13_traveller_51 h1 15 rfl (by decide) q1755 (.inl rfl) (.ref 2002) (hM_15) rfl ?_
          refine g_bipush E (v := 8) dX13_traveller_54 (by decide) rfl ?_
          refine g_iload_n E dX13_traveller_56 rfl rfl rfl ?_
          refine g_iadd E dX13_traveller_57 rfl ?_
          refine g_as (y := nI (8 + t)) (by rw [show (8 : Int32) = nI 8 from rfl, nI_add]) ?_
          have x17 := (f1 (2002) (by omega)).trans (hV_a)
          refine g_iald E dX13_traveller_58 (j := 8 + t) x17 (rfl) (by omega) (by decide) (v := R (8 + t)) (hV_r (8 + t) (by unfold zRel; omega)) rfl ?_
          refine g_goto E dX13_traveller_59 (tgt := 84) (by decide) ?_
          refine g_callV (k := 2000) (n9 := 1) (av := [.int (R (8 + t))]) (st := []) E (ct_X13_fine l (R (8 + t)) hM2) gciX13 dX13_traveller_84 h1 q2181 q2183 qs80 q135 q2184 (by decide +kernel) rfl rfl ⟨by decide, by decide⟩ ⟨by decide, by decide⟩ (Nat.le_of_ble_eq_true rfl) rfl (gPi.k (fun g18 h18 => ?_))
          obtain ⟨hm18, f18⟩ := h18
          have hm18_o := hm18
          obtain ⟨hm18_F, hm18_a, hm18_0, hm18_1, hm18_2, hm18_3, hm18_5, hm18_6, hm18_12, hm18_15, hm18_16, hm18_17, hm18_18, hm18_19, hm18_20, hm18_26, hm18_28, hm18_29, -⟩ := hm18_o
          have hs19 : sTrav B R (nI t) w = (R (8 + t), 0) := by first | (simp [sTrav, c10, q8, c30, c47]; done) | (simp [sTrav, c10, q8, c30, c47, qWy]; done)
          have x20 := (f18 (2003) (by omega)).trans ((f1 (2003) (by omega)).trans (hX_a))
          exact g_iret E Rt dX13_traveller_87 rfl (by decide) (by decide) (by rw [hs19]; exact ⟨rfl, ⟨_, hm18_a, hm18_0, hm18_1, hm18_2, hm18_3, hm18_5, hm18_6, hm18_12, hm18_15, hm18_16, hm18_17, hm18_18, hm18_19, hm18_20, hm18_26, hm18_28, hm18_29, trivial⟩, ⟨_, x20⟩, fun j9 h9 => (f18 j9 (by omega)).trans (f1 j9 (by omega))⟩)
      · refine g_aload_n E dX13_traveller_33 rfl rfl rfl ?_
        refine g_getf E gciX13 dX13_traveller_34 h1 3 rfl (by decide) q1743 (.inl rfl) (.ref mb) (hM_3) rfl ?_
        have x21 := (f1 (mb) (by omega)).trans (hMb_a)
        refine g_getfN E gciX27 dX13_traveller_37 x21 15 rfl (by decide) q1878 (.inl rfl) (.ref (mb + 5)) (hMb_15) rfl ?_
        refine g_iload_n E dX13_traveller_40 rfl rfl rfl ?_
        have x22 := (f1 (mb + 5) (by omega)).trans (hMb_a5)
        refine g_iald E dX13_traveller_41 (j := t) x22 (rfl) (by omega) (by decide) (v := nI (B 7 t)) (hMb_b5 t (by omega)) rfl ?_
        refine g_goto E dX13_traveller_42 (tgt := 84) (by decide) ?_
        refine g_callV (k := 2000) (n9 := 1) (av := [.int (nI (B 7 t))]) (st := []) E (ct_X13_fine l (nI (B 7 t)) hM2) gciX13 dX13_traveller_84 h1 q2181 q2183 qs80 q135 q2184 (by decide +kernel) rfl rfl ⟨by decide, by decide⟩ ⟨by decide, by decide⟩ (Nat.le_of_ble_eq_true rfl) rfl (gPi.k (fun g23 h23 => ?_))
        obtain ⟨hm23, f23⟩ := h23
        have hm23_o := hm23
        obtain ⟨hm23_F, hm23_a, hm23_0, hm23_1, hm23_2, hm23_3, hm23_5, hm23_6, hm23_12, hm23_15, hm23_16, hm23_17, hm23_18, hm23_19, hm23_20, hm23_26, hm23_28, hm23_29, -⟩ := hm23_o
        have hs24 : sTrav B R (nI t) w = (nI (B 7 t), 0) := by first | (simp [sTrav, c10, q8, c30]; done) | (simp [sTrav, c10, q8, c30, qWy]; done)
        have x25 := (f23 (2003) (by omega)).trans ((f1 (2003) (by omega)).trans (hX_a))
        exact g_iret E Rt dX13_traveller_87 rfl (by decide) (by decide) (by rw [hs24]; exact ⟨rfl, ⟨_, hm23_a, hm23_0, hm23_1, hm23_2, hm23_3, hm23_5, hm23_6, hm23_12, hm23_15, hm23_16, hm23_17, hm23_18, hm23_19, hm23_20, hm23_26, hm23_28, hm23_29, trivial⟩, ⟨_, x25⟩, fun j9 h9 => (f23 j9 (by omega)).trans (f1 j9 (by omega))⟩)
    · have c19 := zb_0.mp c19
      have w0_ : ¬ w = 0 := by intro h9; rw [h9] at c19; revert c19; decide
      have w1_ : ¬ w = 1 := by intro h9; rw [h9] at c19; revert c19; decide
      have w2_ : ¬ w = 2 := by intro h9; rw [h9] at c19; revert c19; decide
      have w3_ : ¬ w = 3 := by intro h9; rw [h9] at c19; revert c19; decide
      refine g_aload_n E dX13_traveller_22 rfl rfl rfl ?_
      refine g_iconst E (v := 1) dX13_traveller_23 (by decide) rfl ?_
      refine g_callV (k := 2000) (n9 := 1) (av := [.int 1]) (st := []) E (ct_X13_refused l 1 hM2) gciX13 dX13_traveller_24 h1 q1846 q1848 qs52 q135 q1849 (by decide +kernel) rfl rfl ⟨by decide, by decide⟩ ⟨by decide, by decide⟩ (Nat.le_of_ble_eq_true rfl) rfl (gPi.k (fun g26 h26 => ?_))
      obtain ⟨hm26, f26⟩ := h26
      have hm26_o := hm26
      obtain ⟨hm26_F, hm26_a, hm26_0, hm26_1, hm26_2, hm26_3, hm26_5, hm26_6, hm26_12, hm26_15, hm26_16, hm26_17, hm26_18, hm26_19, hm26_20, hm26_26, hm26_28, hm26_29, -⟩ := hm26_o
      have hs27 : sTrav B R (nI t) w = ((-1), 1) := by first | (simp [sTrav, c10, q8, w0_, w1_, w2_, w3_]; done) | (simp [sTrav, c10, q8, w0_, w1_, w2_, w3_, qWy]; done)
      have x28 := (f26 (2003) (by omega)).trans ((f1 (2003) (by omega)).trans (hX_a))
      exact g_iret E Rt dX13_traveller_27 rfl (by decide) (by decide) (by rw [hs27]; exact ⟨rfl, ⟨_, hm26_a, hm26_0, hm26_1, hm26_2, hm26_3, hm26_5, hm26_6, hm26_12, hm26_15, hm26_16, hm26_17, hm26_18, hm26_19, hm26_20, hm26_26, hm26_28, hm26_29, trivial⟩, ⟨_, x28⟩, fun j9 h9 => (f26 j9 (by omega)).trans (f1 j9 (by omega))⟩)
set_option maxHeartbeats 1000000 in
theorem ct_X13_traveller_N (l : Launch) {g : gWM} {th tr wh fa : Int32} {tp ac mk : Nat} (p : Int32) (w : Int32) (hM : pMq g .null th tr wh tp fa ac mk []) : gCt l yX13_traveller cX13_traveller 3 (some .int) 1 0 0 21 [.ref 2000, .int p, .int w] g (gPi (sTrav zB0 (fun _ => 0) p w).1 (fun g1 => pMq g1 .null 0 ((sTrav zB0 (fun _ => 0) p w).2) (-1) tp fa ac mk [] ∧ ∀ j, j ≠ 2000 → g1 j = g j)) := by
  refine gCt.of RX13 (by decide) rfl (lo := [some (.ref 2000), some (.int p), some (.int w)]) 0 rfl (Nat.le_of_ble_eq_true rfl) (fun z E Rt => ?_)
  have hM_o := hM
  obtain ⟨hM_F, hM_a, hM_0, hM_1, hM_2, hM_3, hM_5, hM_6, hM_12, hM_15, hM_16, hM_17, hM_18, hM_19, hM_20, hM_26, hM_28, hM_29, -⟩ := hM_o
  refine g_aload_n E dX13_traveller_0 rfl rfl rfl ?_
  refine g_iconst E (v := 0) dX13_traveller_1 (by decide) rfl ?_
  refine g_putf E gciX13 (v := .int 0) dX13_traveller_2 hM_a 0 rfl (by decide) q1740 (.inl rfl) rfl (fun _ => rfl) (fun _ => rfl) rfl (g_upk (fun g1 h1 f1 => ?_))
  refine g_aload_n E dX13_traveller_5 rfl rfl rfl ?_
  refine g_iload_n E dX13_traveller_6 rfl rfl rfl ?_
  have hM2 : pMq g1 .null 0 tr wh tp fa ac mk [] := ⟨_, h1, rfl, hM_1, hM_2, hM_3, hM_5, hM_6, hM_12, hM_15, hM_16, hM_17, hM_18, hM_19, hM_20, hM_26, hM_28, hM_29, trivial⟩
  refine g_callV (k := 2000) (n9 := 1) (av := [.int p]) (st := []) E (ct_X13_isTraveller_N l p hM2) gciX13 dX13_traveller_7 h1 q2209 q2211 qs83 q135 q2212 (by decide +kernel) rfl rfl ⟨by decide, by decide⟩ ⟨by decide, by decide⟩ (Nat.le_of_ble_eq_true rfl) rfl (gPu.k ?_)
  refine g_if_eq E dX13_traveller_10 (tgt := 22) (by decide) rfl (fun _ => ?_) (fun h9 => absurd h9 (by decide))
  refine g_aload_n E dX13_traveller_22 rfl rfl rfl ?_
  refine g_iconst E (v := 1) dX13_traveller_23 (by decide) rfl ?_
  refine g_callV (k := 2000) (n9 := 1) (av := [.int 1]) (st := []) E (ct_X13_refused l 1 hM2) gciX13 dX13_traveller_24 h1 q1846 q1848 qs52 q135 q1849 (by decide +kernel) rfl rfl ⟨by decide, by decide⟩ ⟨by decide, by decide⟩ (Nat.le_of_ble_eq_true rfl) rfl (gPi.k (fun g3 h3 => ?_))
  obtain ⟨hm3, f3⟩ := h3
  have hm3_o := hm3
  obtain ⟨hm3_F, hm3_a, hm3_0, hm3_1, hm3_2, hm3_3, hm3_5, hm3_6, hm3_12, hm3_15, hm3_16, hm3_17, hm3_18, hm3_19, hm3_20, hm3_26, hm3_28, hm3_29, -⟩ := hm3_o
  have hs4 : sTrav zB0 (fun _ => 0) p w = ((-1), 1) := by first | (simp [sTrav, qI_z, qWy]; done) | (simp [sTrav, qI_z, qWy, qWy]; done)
  exact g_iret E Rt dX13_traveller_27 rfl (by decide) (by decide) (by rw [hs4]; exact ⟨rfl, ⟨_, hm3_a, hm3_0, hm3_1, hm3_2, hm3_3, hm3_5, hm3_6, hm3_12, hm3_15, hm3_16, hm3_17, hm3_18, hm3_19, hm3_20, hm3_26, hm3_28, hm3_29, trivial⟩, fun j9 h9 => (f3 j9 (by omega)).trans (f1 j9 (by omega))⟩)
set_option maxHeartbeats 1000000 in
theorem ct_X13_gate (l : Launch) {g : gWM} {mb : Nat} {B : gBar} {R : Nat → Int32} {d : Int32} {th tr wh fa : Int32} {tp ac mk : Nat} (p : Int32) (w : Int32) (hw : wfB B) (hM : pMq g (.ref mb) th tr wh tp fa ac mk []) (hMb : pMb g mb B) (hV : pRw g 2002 B R d) (hX : pIx g 2003 18) (h9 : 10000 ≤ mb) : gCt l yX13_gate cX13_gate 3 (some .int) 1 0 0 22 [.ref 2000, .int p, .int w] g (gPi (sGate B p w).1 (fun g1 => pMq g1 (.ref mb) 0 ((sGate B p w).2) (-1) tp fa ac mk [] ∧ pIx g1 2003 18 ∧ ∀ j, (j ≠ 2000 ∧ j ≠ 2003) → g1 j = g j)) := by
  refine gCt.of RX13 (by decide) rfl (lo := [some (.ref 2000), some (.int p), some (.int w)]) 0 rfl (Nat.le_of_ble_eq_true rfl) (fun z E Rt => ?_)
  have hw_n := hw.1
  have hM_o := hM
  obtain ⟨hM_F, hM_a, hM_0, hM_1, hM_2, hM_3, hM_5, hM_6, hM_12, hM_15, hM_16, hM_17, hM_18, hM_19, hM_20, hM_26, hM_28, hM_29, -⟩ := hM_o
  have hMb_o := hMb
  obtain ⟨⟨hMb_F, hMb_a, hMb_0, hMb_1, hMb_2, hMb_3, hMb_4, hMb_5, hMb_6, hMb_7, hMb_8, hMb_9, hMb_11, hMb_12, hMb_13, hMb_14, hMb_15, hMb_16, hMb_17, hMb_18, hMb_19, hMb_20, hMb_21, hMb_22, hMb_23, hMb_24, hMb_25, hMb_26, hMb_27, hMb_28, hMb_29, hMb_30, hMb_31⟩, ⟨hMb_f1, hMb_a1, hMb_b1⟩, ⟨hMb_f2, hMb_a2, hMb_b2⟩, ⟨hMb_f3, hMb_a3, hMb_b3⟩, ⟨hMb_f4, hMb_a4, hMb_b4⟩, ⟨hMb_f5, hMb_a5, hMb_b5⟩, ⟨hMb_f6, hMb_a6, hMb_b6⟩, ⟨hMb_f7, hMb_a7, hMb_b7⟩, ⟨hMb_f8, hMb_a8, hMb_b8⟩, ⟨hMb_f9, hMb_a9, hMb_b9⟩, ⟨hMb_f10, hMb_a10, hMb_b10⟩, ⟨hMb_f11, hMb_a11, hMb_b11⟩, ⟨hMb_f12, hMb_a12, hMb_b12⟩, ⟨hMb_f13, hMb_a13, hMb_b13⟩, ⟨hMb_f14, hMb_a14, hMb_b14⟩, ⟨hMb_f15, hMb_a15, hMb_b15⟩, ⟨hMb_f16, hMb_a16, hMb_b16⟩, ⟨hMb_f17, hMb_a17, hMb_b17⟩, ⟨hMb_f18, hMb_a18, hMb_b18⟩, ⟨hMb_f19, hMb_a19, hMb_b19⟩, ⟨hMb_f20, hMb_a20, hMb_b20⟩, ⟨hMb_f21, hMb_a21, hMb_b21⟩⟩ := hMb_o
  have hV_o := hV
  obtain ⟨hV_f, hV_a, hV_r, hV_d⟩ := hV_o
  have hX_o := hX
  obtain ⟨hX_f, hX_a⟩ := hX_o
  refine g_aload_n E dX13_gate_0 rfl rfl rfl ?_
  refine g_iconst E (v := 0) dX13_gate_1 (by decide) rfl ?_
  refine g_putf E gciX13 (v := .int 0) dX13_gate_2 hM_a 0 rfl (by decide) q1740 (.inl rfl) rfl (fun _ => rfl) (fun _ => rfl) rfl (g_upk (fun g1 h1 f1 => ?_))
  refine g_aload_n E dX13_gate_5 rfl rfl rfl ?_
  refine g_iload_n E dX13_gate_6 rfl rfl rfl ?_
  have hM2 : pMq g1 (.ref mb) 0 tr wh tp fa ac mk [] := ⟨_, h1, rfl, hM_1, hM_2, hM_3, hM_5, hM_6, hM_12, hM_15, hM_16, hM_17, hM_18, hM_19, hM_20, hM_26, hM_28, hM_29, trivial⟩
  have y3 := (hMb.fr  (fun j9 a9 b9 => f1 j9 (by omega)))
  refine g_callV (k := 2000) (n9 := 1) (av := [.int p]) (st := []) E (ct_X13_isGate l p hw hM2 y3) gciX13 dX13_gate_7 h1 q2225 q2227 qs86 q135 q2228 (by decide +kernel) rfl rfl ⟨by decide, by decide⟩ ⟨by decide, by decide⟩ (Nat.le_of_ble_eq_true rfl) rfl (gPu.k ?_)
  refine g_if_eq E dX13_gate_10 (tgt := 22) (by decide) rfl (fun c10 => ?_) (fun c10 => ?_)
  · have c10 := zb_0.mp c10
    have q4 := isNone_of c10
    refine g_aload_n E dX13_gate_22 rfl rfl rfl ?_
    refine g_iconst E (v := 1) dX13_gate_23 (by decide) rfl ?_
    refine g_callV (k := 2000) (n9 := 1) (av := [.int 1]) (st := []) E (ct_X13_refused l 1 hM2) gciX13 dX13_gate_24 h1 q1846 q1848 qs52 q135 q1849 (by decide +kernel) rfl rfl ⟨by decide, by decide⟩ ⟨by decide, by decide⟩ (Nat.le_of_ble_eq_true rfl) rfl (gPi.k (fun g5 h5 => ?_))
    obtain ⟨hm5, f5⟩ := h5
    have hm5_o := hm5
    obtain ⟨hm5_F, hm5_a, hm5_0, hm5_1, hm5_2, hm5_3, hm5_5, hm5_6, hm5_12, hm5_15, hm5_16, hm5_17, hm5_18, hm5_19, hm5_20, hm5_26, hm5_28, hm5_29, -⟩ := hm5_o
    have hs6 : sGate B p w = ((-1), 1) := by first | (simp [sGate, c10, q4]; done) | (simp [sGate, c10, q4, qWy]; done)
    have x7 := (f5 (2003) (by omega)).trans ((f1 (2003) (by omega)).trans (hX_a))
    exact g_iret E Rt dX13_gate_27 rfl (by decide) (by decide) (by rw [hs6]; exact ⟨rfl, ⟨_, hm5_a, hm5_0, hm5_1, hm5_2, hm5_3, hm5_5, hm5_6, hm5_12, hm5_15, hm5_16, hm5_17, hm5_18, hm5_19, hm5_20, hm5_26, hm5_28, hm5_29, trivial⟩, ⟨_, x7⟩, fun j9 h9 => (f5 j9 (by omega)).trans (f1 j9 (by omega))⟩)
  · have c10 := zb_n0.mp c10
    obtain ⟨k9, q8⟩ := isSome_of c10
    obtain ⟨rfl, q8_l⟩ := qI_some (by omega) q8
    refine g_iload_n E dX13_gate_13 rfl rfl rfl ?_
    refine g_iconst E (v := 0) dX13_gate_14 (by decide) rfl ?_
    refine g_iconst E (v := 2) dX13_gate_15 (by decide) rfl ?_
    refine g_callS (n9 := 3) (av := [.int w, .int 0, .int 2]) (st := []) E (ct_X13_in l w 0 2) dX13_gate_16 q2069 q2070 q135 q2071 (by decide +kernel) rfl rfl ⟨by decide, by decide⟩ ⟨by decide, by decide⟩ (Nat.le_of_ble_eq_true rfl) rfl (gPu.k ?_)
    refine g_if_ne E dX13_gate_19 (tgt := 28) (by decide) rfl (fun c19 => ?_) (fun c19 => ?_)
    · have c19 := zb_n0.mp c19
      refine g_aload_n E dX13_gate_28 rfl rfl rfl ?_
      refine g_iload_n E dX13_gate_29 rfl rfl rfl ?_
      refine g_if_ne E dX13_gate_30 (tgt := 45) (by decide) rfl (fun c30 => ?_) (fun c30 => ?_)
      · refine g_iload_n E dX13_gate_45 rfl rfl rfl ?_
        refine g_iconst E (v := 1) dX13_gate_46 (by decide) rfl ?_
        refine g_icmp_ne E dX13_gate_47 (tgt := 62) (by decide) rfl (fun c47 => ?_) (fun c47 => ?_)
        · have h2_ : w = 2 := zIn2 c19 c30 c47
          refine g_aload_n E dX13_gate_62 rfl rfl rfl ?_
          refine g_getf E gciX13 dX13_gate_63 h1 3 rfl (by decide) q1743 (.inl rfl) (.ref mb) (hM_3) rfl ?_
          have x9 := (f1 (mb) (by omega)).trans (hMb_a)
          refine g_getfN E gciX27 dX13_gate_66 x9 19 rfl (by decide) q1886 (.inl rfl) (.ref (mb + 9)) (hMb_19) rfl ?_
          refine g_iload_n E dX13_gate_69 rfl rfl rfl ?_
          have x10 := (f1 (mb + 9) (by omega)).trans (hMb_a9)
          refine g_iald E dX13_gate_70 (j := k9) x10 (rfl) (by omega) (by decide) (v := nI (B 11 k9)) (hMb_b9 k9 (by omega)) rfl ?_
          refine g_callV (k := 2000) (n9 := 1) (av := [.int (nI (B 11 k9))]) (st := []) E (ct_X13_fine l (nI (B 11 k9)) hM2) gciX13 dX13_gate_71 h1 q2181 q2183 qs80 q135 q2184 (by decide +kernel) rfl rfl ⟨by decide, by decide⟩ ⟨by decide, by decide⟩ (Nat.le_of_ble_eq_true rfl) rfl (gPi.k (fun g11 h11 => ?_))
          obtain ⟨hm11, f11⟩ := h11
          have hm11_o := hm11
          obtain ⟨hm11_F, hm11_a, hm11_0, hm11_1, hm11_2, hm11_3, hm11_5, hm11_6, hm11_12, hm11_15, hm11_16, hm11_17, hm11_18, hm11_19, hm11_20, hm11_26, hm11_28, hm11_29, -⟩ := hm11_o
          have hs12 : sGate B (nI k9) w = (nI (B 11 k9), 0) := by first | (simp [sGate, c10, q8, h2_]; done) | (simp [sGate, c10, q8, h2_, qWy]; done)
          have x13 := (f11 (2003) (by omega)).trans ((f1 (2003) (by omega)).trans (hX_a))
          exact g_iret E Rt dX13_gate_74 rfl (by decide) (by decide) (by rw [hs12]; exact ⟨rfl, ⟨_, hm11_a, hm11_0, hm11_1, hm11_2, hm11_3, hm11_5, hm11_6, hm11_12, hm11_15, hm11_16, hm11_17, hm11_18, hm11_19, hm11_20, hm11_26, hm11_28, hm11_29, trivial⟩, ⟨_, x13⟩, fun j9 h9 => (f11 j9 (by omega)).trans (f1 j9 (by omega))⟩)
        · refine g_aload_n E dX13_gate_50 rfl rfl rfl ?_
          refine g_getf E gciX13 dX13_gate_51 h1 3 rfl (by decide) q1743 (.inl rfl) (.ref mb) (hM_3) rfl ?_
          have x14 := (f1 (mb) (by omega)).trans (hMb_a)
          refine g_getfN E gciX27 dX13_gate_54 x14 18 rfl (by decide) q1884 (.inl rfl) (.ref (mb + 8)) (hMb_18) rfl ?_
          refine g_iload_n E dX13_gate_57 rfl rfl rfl ?_
          have x15 := (f1 (mb + 8) (by omega)).trans (hMb_a8)
          refine g_iald E dX13_gate_58 (j := k9) x15 (rfl) (by omega) (by decide) (v := nI (B 10 k9)) (hMb_b8 k9 (by omega)) rfl ?_
          refine g_goto E dX13_gate_59 (tgt := 71) (by decide) ?_
          refine g_callV (k := 2000) (n9 := 1) (av := [.int (nI (B 10 k9))]) (st := []) E (ct_X13_fine l (nI (B 10 k9)) hM2) gciX13 dX13_gate_71 h1 q2181 q2183 qs80 q135 q2184 (by decide +kernel) rfl rfl ⟨by decide, by decide⟩ ⟨by decide, by decide⟩ (Nat.le_of_ble_eq_true rfl) rfl (gPi.k (fun g16 h16 => ?_))
          obtain ⟨hm16, f16⟩ := h16
          have hm16_o := hm16
          obtain ⟨hm16_F, hm16_a, hm16_0, hm16_1, hm16_2, hm16_3, hm16_5, hm16_6, hm16_12, hm16_15, hm16_16, hm16_17, hm16_18, hm16_19, hm16_20, hm16_26, hm16_28, hm16_29, -⟩ := hm16_o
          have hs17 : sGate B (nI k9) w = (nI (B 10 k9), 0) := by first | (simp [sGate, c10, q8, c30, c47]; done) | (simp [sGate, c10, q8, c30, c47, qWy]; done)
          have x18 := (f16 (2003) (by omega)).trans ((f1 (2003) (by omega)).trans (hX_a))
          exact g_iret E Rt dX13_gate_74 rfl (by decide) (by decide) (by rw [hs17]; exact ⟨rfl, ⟨_, hm16_a, hm16_0, hm16_1, hm16_2, hm16_3, hm16_5, hm16_6, hm16_12, hm16_15, hm16_16, hm16_17, hm16_18, hm16_19, hm16_20, hm16_26, hm16_28, hm16_29, trivial⟩, ⟨_, x18⟩, fun j9 h9 => (f16 j9 (by omega)).trans (f1 j9 (by omega))⟩)
      · refine g_aload_n E dX13_gate_33 rfl rfl rfl ?_
        refine g_getf E gciX13 dX13_gate_34 h1 3 rfl (by decide) q1743 (.inl rfl) (.ref mb) (hM_3) rfl ?_
        have x19 := (f1 (mb) (by omega)).trans (hMb_a)
        refine g_getfN E gciX27 dX13_gate_37 x19 17 rfl (by decide) q1882 (.inl rfl) (.ref (mb + 7)) (hMb_17) rfl ?_
        refine g_iload_n E dX13_gate_40 rfl rfl rfl ?_
        have x20 := (f1 (mb + 7) (by omega)).trans (hMb_a7)
        refine g_iald E dX13_gate_41 (j := k9) x20 (rfl) (by omega) (by decide) (v := nI (B 9 k9)) (hMb_b7 k9 (by omega)) rfl ?_
        refine g_goto E dX13_gate_42 (tgt := 71) (by decide) ?_
        refine g_callV (k := 2000) (n9 := 1) (av := [.int (nI (B 9 k9))]) (st := []) E (ct_X13_fine l (nI (B 9 k9)) hM2) gciX13 dX13_gate_71 h1 q2181 q2183 qs80 q135 q2184 (by decide +kernel) rfl rfl ⟨by decide, by decide⟩ ⟨by decide, by decide⟩ (Nat.le_of_ble_eq_true rfl) rfl (gPi.k (fun g21 h21 => ?_))
        obtain ⟨hm21, f21⟩ := h21
        have hm21_o := hm21
        obtain ⟨hm21_F, hm21_a, hm21_0, hm21_1, hm21_2, hm21_3, hm21_5, hm21_6, hm21_12, hm21_15, hm21_16, hm21_17, hm21_18, hm21_19, hm21_20, hm21_26, hm21_28, hm21_29, -⟩ := hm21_o
        have hs22 : sGate B (nI k9) w = (nI (B 9 k9), 0) := by first | (simp [sGate, c10, q8, c30]; done) | (simp [sGate, c10, q8, c30, qWy]; done)
        have x23 := (f21 (2003) (by omega)).trans ((f1 (2003) (by omega)).trans (hX_a))
        exact g_iret E Rt dX13_gate_74 rfl (by decide) (by decide) (by rw [hs22]; exact ⟨rfl, ⟨_, hm21_a, hm21_0, hm21_1, hm21_2, hm21_3, hm21_5, hm21_6, hm21_12, hm21_15, hm21_16, hm21_17, hm21_18, hm21_19, hm21_20, hm21_26, hm21_28, hm21_29, trivial⟩, ⟨_, x23⟩, fun j9 h9 => (f21 j9 (by omega)).trans (f1 j9 (by omega))⟩)
    · have c19 := zb_0.mp c19
      have w0_ : ¬ w = 0 := by intro h9; rw [h9] at c19; revert c19; decide
      have w1_ : ¬ w = 1 := by intro h9; rw [h9] at c19; revert c19; decide
      have w2_ : ¬ w = 2 := by intro h9; rw [h9] at c19; revert c19; decide
      refine g_aload_n E dX13_gate_22 rfl rfl rfl ?_
      refine g_iconst E (v := 1) dX13_gate_23 (by decide) rfl ?_
      refine g_callV (k := 2000) (n9 := 1) (av := [.int 1]) (st := []) E (ct_X13_refused l 1 hM2) gciX13 dX13_gate_24 h1 q1846 q1848 qs52 q135 q1849 (by decide +kernel) rfl rfl ⟨by decide, by decide⟩ ⟨by decide, by decide⟩ (Nat.le_of_ble_eq_true rfl) rfl (gPi.k (fun g24 h24 => ?_))
      obtain ⟨hm24, f24⟩ := h24
      have hm24_o := hm24
      obtain ⟨hm24_F, hm24_a, hm24_0, hm24_1, hm24_2, hm24_3, hm24_5, hm24_6, hm24_12, hm24_15, hm24_16, hm24_17, hm24_18, hm24_19, hm24_20, hm24_26, hm24_28, hm24_29, -⟩ := hm24_o
      have hs25 : sGate B (nI k9) w = ((-1), 1) := by first | (simp [sGate, c10, q8, w0_, w1_, w2_]; done) | (simp [sGate, c10, q8, w0_, w1_, w2_, qWy]; done)
      have x26 := (f24 (2003) (by omega)).trans ((f1 (2003) (by omega)).trans (hX_a))
      exact g_iret E Rt dX13_gate_27 rfl (by decide) (by decide) (by rw [hs25]; exact ⟨rfl, ⟨_, hm24_a, hm24_0, hm24_1, hm24_2, hm24_3, hm24_5, hm24_6, hm24_12, hm24_15, hm24_16, hm24_17, hm24_18, hm24_19, hm24_20, hm24_26, hm24_28, hm24_29, trivial⟩, ⟨_, x26⟩, fun j9 h9 => (f24 j9 (by omega)).trans (f1 j9 (by omega))⟩)
set_option maxHeartbeats 1000000 in
theorem ct_X13_gate_N (l : Launch) {g : gWM} {th tr wh fa : Int32} {tp ac mk : Nat} (p : Int32) (w : Int32) (hM : pMq g .null th tr wh tp fa ac mk []) : gCt l yX13_gate cX13_gate 3 (some .int) 1 0 0 21 [.ref 2000, .int p, .int w] g (gPi (sGate zB0 p w).1 (fun g1 => pMq g1 .null 0 ((sGate zB0 p w).2) (-1) tp fa ac mk [] ∧ ∀ j, j ≠ 2000 → g1 j = g j)) := by
  refine gCt.of RX13 (by decide) rfl (lo := [some (.ref 2000), some (.int p), some (.int w)]) 0 rfl (Nat.le_of_ble_eq_true rfl) (fun z E Rt => ?_)
  have hM_o := hM
  obtain ⟨hM_F, hM_a, hM_0, hM_1, hM_2, hM_3, hM_5, hM_6, hM_12, hM_15, hM_16, hM_17, hM_18, hM_19, hM_20, hM_26, hM_28, hM_29, -⟩ := hM_o
  refine g_aload_n E dX13_gate_0 rfl rfl rfl ?_
  refine g_iconst E (v := 0) dX13_gate_1 (by decide) rfl ?_
  refine g_putf E gciX13 (v := .int 0) dX13_gate_2 hM_a 0 rfl (by decide) q1740 (.inl rfl) rfl (fun _ => rfl) (fun _ => rfl) rfl (g_upk (fun g1 h1 f1 => ?_))
  refine g_aload_n E dX13_gate_5 rfl rfl rfl ?_
  refine g_iload_n E dX13_gate_6 rfl rfl rfl ?_
  have hM2 : pMq g1 .null 0 tr wh tp fa ac mk [] := ⟨_, h1, rfl, hM_1, hM_2, hM_3, hM_5, hM_6, hM_12, hM_15, hM_16, hM_17, hM_18, hM_19, hM_20, hM_26, hM_28, hM_29, trivial⟩
  refine g_callV (k := 2000) (n9 := 1) (av := [.int p]) (st := []) E (ct_X13_isGate_N l p hM2) gciX13 dX13_gate_7 h1 q2225 q2227 qs86 q135 q2228 (by decide +kernel) rfl rfl ⟨by decide, by decide⟩ ⟨by decide, by decide⟩ (Nat.le_of_ble_eq_true rfl) rfl (gPu.k ?_)
  refine g_if_eq E dX13_gate_10 (tgt := 22) (by decide) rfl (fun _ => ?_) (fun h9 => absurd h9 (by decide))
  refine g_aload_n E dX13_gate_22 rfl rfl rfl ?_
  refine g_iconst E (v := 1) dX13_gate_23 (by decide) rfl ?_
  refine g_callV (k := 2000) (n9 := 1) (av := [.int 1]) (st := []) E (ct_X13_refused l 1 hM2) gciX13 dX13_gate_24 h1 q1846 q1848 qs52 q135 q1849 (by decide +kernel) rfl rfl ⟨by decide, by decide⟩ ⟨by decide, by decide⟩ (Nat.le_of_ble_eq_true rfl) rfl (gPi.k (fun g3 h3 => ?_))
  obtain ⟨hm3, f3⟩ := h3
  have hm3_o := hm3
  obtain ⟨hm3_F, hm3_a, hm3_0, hm3_1, hm3_2, hm3_3, hm3_5, hm3_6, hm3_12, hm3_15, hm3_16, hm3_17, hm3_18, hm3_19, hm3_20, hm3_26, hm3_28, hm3_29, -⟩ := hm3_o
  have hs4 : sGate zB0 p w = ((-1), 1) := by first | (simp [sGate, qI_z, qWy]; done) | (simp [sGate, qI_z, qWy, qWy]; done)
  exact g_iret E Rt dX13_gate_27 rfl (by decide) (by decide) (by rw [hs4]; exact ⟨rfl, ⟨_, hm3_a, hm3_0, hm3_1, hm3_2, hm3_3, hm3_5, hm3_6, hm3_12, hm3_15, hm3_16, hm3_17, hm3_18, hm3_19, hm3_20, hm3_26, hm3_28, hm3_29, trivial⟩, fun j9 h9 => (f3 j9 (by omega)).trans (f1 j9 (by omega))⟩)
set_option maxHeartbeats 1000000 in
theorem ct_X13_turned (l : Launch) {g : gWM} {mb : Nat} {B : gBar} {R : Nat → Int32} {d : Int32} {th tr wh fa : Int32} {tp ac mk : Nat} (p : Int32) (hw : wfB B) (hM : pMq g (.ref mb) th tr wh tp fa ac mk []) (hMb : pMb g mb B) (hV : pRw g 2002 B R d) (hX : pIx g 2003 18) (h9 : 10000 ≤ mb) : gCt l yX13_turned cX13_turned 3 (some .int) 1 0 0 22 [.ref 2000, .int p] g (gPi (sTur B d p).1 (fun g1 => pMq g1 (.ref mb) 0 ((sTur B d p).2) (-1) tp fa ac mk [] ∧ pIx g1 2003 18 ∧ ∀ j, (j ≠ 2000 ∧ j ≠ 2003) → g1 j = g j)) := by
  refine gCt.of RX13 (by decide) rfl (lo := [some (.ref 2000), some (.int p), none]) 1 rfl (Nat.le_of_ble_eq_true rfl) (fun z E Rt => ?_)
  have hw_n := hw.1
  have hM_o := hM
  obtain ⟨hM_F, hM_a, hM_0, hM_1, hM_2, hM_3, hM_5, hM_6, hM_12, hM_15, hM_16, hM_17, hM_18, hM_19, hM_20, hM_26, hM_28, hM_29, -⟩ := hM_o
  have hMb_o := hMb
  obtain ⟨⟨hMb_F, hMb_a, hMb_0, hMb_1, hMb_2, hMb_3, hMb_4, hMb_5, hMb_6, hMb_7, hMb_8, hMb_9, hMb_11, hMb_12, hMb_13, hMb_14, hMb_15, hMb_16, hMb_17, hMb_18, hMb_19, hMb_20, hMb_21, hMb_22, hMb_23, hMb_24, hMb_25, hMb_26, hMb_27, hMb_28, hMb_29, hMb_30, hMb_31⟩, ⟨hMb_f1, hMb_a1, hMb_b1⟩, ⟨hMb_f2, hMb_a2, hMb_b2⟩, ⟨hMb_f3, hMb_a3, hMb_b3⟩, ⟨hMb_f4, hMb_a4, hMb_b4⟩, ⟨hMb_f5, hMb_a5, hMb_b5⟩, ⟨hMb_f6, hMb_a6, hMb_b6⟩, ⟨hMb_f7, hMb_a7, hMb_b7⟩, ⟨hMb_f8, hMb_a8, hMb_b8⟩, ⟨hMb_f9, hMb_a9, hMb_b9⟩, ⟨hMb_f10, hMb_a10, hMb_b10⟩, ⟨hMb_f11, hMb_a11, hMb_b11⟩, ⟨hMb_f12, hMb_a12, hMb_b12⟩, ⟨hMb_f13, hMb_a13, hMb_b13⟩, ⟨hMb_f14, hMb_a14, hMb_b14⟩, ⟨hMb_f15, hMb_a15, hMb_b15⟩, ⟨hMb_f16, hMb_a16, hMb_b16⟩, ⟨hMb_f17, hMb_a17, hMb_b17⟩, ⟨hMb_f18, hMb_a18, hMb_b18⟩, ⟨hMb_f19, hMb_a19, hMb_b19⟩, ⟨hMb_f20, hMb_a20, hMb_b20⟩, ⟨hMb_f21, hMb_a21, hMb_b21⟩⟩ := hMb_o
  have hV_o := hV
  obtain ⟨hV_f, hV_a, hV_r, hV_d⟩ := hV_o
  have hX_o := hX
  obtain ⟨hX_f, hX_a⟩ := hX_o
  refine g_aload_n E dX13_turned_0 rfl rfl rfl ?_
  refine g_iconst E (v := 0) dX13_turned_1 (by decide) rfl ?_
  refine g_putf E gciX13 (v := .int 0) dX13_turned_2 hM_a 0 rfl (by decide) q1740 (.inl rfl) rfl (fun _ => rfl) (fun _ => rfl) rfl (g_upk (fun g1 h1 f1 => ?_))
  refine g_aload_n E dX13_turned_5 rfl rfl rfl ?_
  refine g_iload_n E dX13_turned_6 rfl rfl rfl ?_
  have hM2 : pMq g1 (.ref mb) 0 tr wh tp fa ac mk [] := ⟨_, h1, rfl, hM_1, hM_2, hM_3, hM_5, hM_6, hM_12, hM_15, hM_16, hM_17, hM_18, hM_19, hM_20, hM_26, hM_28, hM_29, trivial⟩
  have y3 := (hMb.fr  (fun j9 a9 b9 => f1 j9 (by omega)))
  refine g_callV (k := 2000) (n9 := 1) (av := [.int p]) (st := []) E (ct_X13_isGood l p hw hM2 y3) gciX13 dX13_turned_7 h1 q2197 q2199 qs81 q135 q2200 (by decide +kernel) rfl rfl ⟨by decide, by decide⟩ ⟨by decide, by decide⟩ (Nat.le_of_ble_eq_true rfl) rfl (gPu.k ?_)
  refine g_if_ne E dX13_turned_10 (tgt := 19) (by decide) rfl (fun c10 => ?_) (fun c10 => ?_)
  · have c10 := zb_n0.mp c10
    obtain ⟨j, q4⟩ := isSome_of c10
    obtain ⟨rfl, q4_l⟩ := qI_some (by omega) q4
    refine g_iconst E (v := 0) dX13_turned_19 (by decide) rfl ?_
    refine g_istore_n E dX13_turned_20 rfl (by decide) rfl (lo1 := [some (.ref 2000), some (.int (nI j)), some (.int 0)]) rfl rfl ?_
    have lp21 : ∀ (r9 : Nat) (k : Nat), (k ≤ 302) → (zTd B j d 302 0 = zTd B j d (302 - k) k) → (302 - k < r9) → gV z g1 0 0 21 [some (.ref 2000), some (.int (nI j)), some (.int (nI k))] [] := by
      intro r9
      induction r9 with
      | zero => intro k hk hz hm; exact absurd hm (Nat.not_lt_zero _)
      | succ r9 ih21 =>
        intro k hk hz hm
        refine g_iload_n E dX13_turned_21 rfl rfl rfl ?_
        refine g_sipush E (v := 301) dX13_turned_22 (by decide) rfl ?_
        refine g_icmp_gt E dX13_turned_25 (tgt := 62) (by decide) rfl (fun c25 => ?_) (fun c25 => ?_)
        · have c25 := (nI_ltI (a := 301) (b := k) (by omega) (by omega)).mp c25
          refine g_aload_n E dX13_turned_62 rfl rfl rfl ?_
          refine g_bipush E (v := (-2)) dX13_turned_63 (by decide) rfl ?_
          refine g_callV (k := 2000) (n9 := 1) (av := [.int (-2)]) (st := []) E (ct_X13_fine l (-2) hM2) gciX13 dX13_turned_65 h1 q2181 q2183 qs80 q135 q2184 (by decide +kernel) rfl rfl ⟨by decide, by decide⟩ ⟨by decide, by decide⟩ (Nat.le_of_ble_eq_true rfl) rfl (gPi.k (fun g5 h5 => ?_))
          obtain ⟨hm5, f5⟩ := h5
          have hm5_o := hm5
          obtain ⟨hm5_F, hm5_a, hm5_0, hm5_1, hm5_2, hm5_3, hm5_5, hm5_6, hm5_12, hm5_15, hm5_16, hm5_17, hm5_18, hm5_19, hm5_20, hm5_26, hm5_28, hm5_29, -⟩ := hm5_o
          have hs6 : sTur B d (nI j) = ((-2), 0) := by simp [sTur, q4]; rw [hz, show k = 302 by omega]; rfl
          have x7 := (f5 (2003) (by omega)).trans ((f1 (2003) (by omega)).trans (hX_a))
          exact g_iret E Rt dX13_turned_68 rfl (by decide) (by decide) (by rw [hs6]; exact ⟨rfl, ⟨_, hm5_a, hm5_0, hm5_1, hm5_2, hm5_3, hm5_5, hm5_6, hm5_12, hm5_15, hm5_16, hm5_17, hm5_18, hm5_19, hm5_20, hm5_26, hm5_28, hm5_29, trivial⟩, ⟨_, x7⟩, fun j9 h9 => (f5 j9 (by omega)).trans (f1 j9 (by omega))⟩)
        · have c25 := mt (nI_ltI (a := 301) (b := k) (by omega) (by omega)).mpr c25
          refine g_aload_n E dX13_turned_28 rfl rfl rfl ?_
          refine g_getf E gciX13 dX13_turned_29 h1 3 rfl (by decide) q1743 (.inl rfl) (.ref mb) (hM_3) rfl ?_
          refine g_iload_n E dX13_turned_32 rfl rfl rfl ?_
          refine g_aload_n E dX13_turned_33 rfl rfl rfl ?_
          refine g_aload_n E dX13_turned_34 rfl rfl rfl ?_
          refine g_getf E gciX13 dX13_turned_35 h1 15 rfl (by decide) q1755 (.inl rfl) (.ref 2002) (hM_15) rfl ?_
          refine g_iload_n E dX13_turned_38 rfl rfl rfl ?_
          have y8 := (hV.fr  (fun j9 a9 b9 => f1 j9 (by omega)))
          refine g_callV (k := 2000) (n9 := 2) (av := [.ref 2002, .int (nI j)]) (st := [.int (nI j), .ref mb]) E (ct_X13_ageIn l j hw hM2 y3 y8 (by omega)) gciX13 dX13_turned_39 h1 q2241 q2243 qs89 q135 q2244 (by decide +kernel) rfl rfl ⟨by decide, by decide⟩ ⟨by decide, by decide⟩ (Nat.le_of_ble_eq_true rfl) rfl (gPu.k ?_)
          refine g_iload_n E dX13_turned_42 rfl rfl rfl ?_
          refine g_iadd E dX13_turned_43 rfl ?_
          refine g_as (y := zAge B j (d + nI k)) (zAge_add) ?_
          have x9 := (f1 (mb) (by omega)).trans (hMb_a)
          refine g_callV (k := mb) (n9 := 2) (av := [.int (nI j), .int (zAge B j (d + nI k))]) (st := []) E (ct_X27_isTurned l j (zAge B j (d + nI k)) hw y3 (by omega)) gciX27 dX13_turned_44 x9 q2257 q2258 q2259 q155 q2260 (by decide +kernel) rfl rfl ⟨by decide, by decide⟩ ⟨by decide, by decide⟩ (Nat.le_of_ble_eq_true rfl) rfl (gPu.k ?_)
          refine g_if_eq E dX13_turned_47 (tgt := 56) (by decide) rfl (fun c47 => ?_) (fun c47 => ?_)
          · have c47 := zb_0.mp c47
            refine g_iinc E dX13_turned_56 rfl (v := nI (k + 1)) (nI_c _) (by decide) rfl (lo1 := [some (.ref 2000), some (.int (nI j)), some (.int (nI (k + 1)))]) rfl rfl ?_
            refine g_goto E dX13_turned_59 (tgt := 21) (by decide) ?_
            exact ih21 (k + 1) (by omega) (hz.trans (zTd_f (by omega) c47)) (by omega)
          · have c47 := zb_n0.mp c47
            refine g_aload_n E dX13_turned_50 rfl rfl rfl ?_
            refine g_iload_n E dX13_turned_51 rfl rfl rfl ?_
            refine g_callV (k := 2000) (n9 := 1) (av := [.int (nI k)]) (st := []) E (ct_X13_fine l (nI k) hM2) gciX13 dX13_turned_52 h1 q2181 q2183 qs80 q135 q2184 (by decide +kernel) rfl rfl ⟨by decide, by decide⟩ ⟨by decide, by decide⟩ (Nat.le_of_ble_eq_true rfl) rfl (gPi.k (fun g10 h10 => ?_))
            obtain ⟨hm10, f10⟩ := h10
            have hm10_o := hm10
            obtain ⟨hm10_F, hm10_a, hm10_0, hm10_1, hm10_2, hm10_3, hm10_5, hm10_6, hm10_12, hm10_15, hm10_16, hm10_17, hm10_18, hm10_19, hm10_20, hm10_26, hm10_28, hm10_29, -⟩ := hm10_o
            have hs11 : sTur B d (nI j) = (nI k, 0) := by simp [sTur, q4]; exact hz.trans (zTd_t (by omega) c47)
            have x12 := (f10 (2003) (by omega)).trans ((f1 (2003) (by omega)).trans (hX_a))
            exact g_iret E Rt dX13_turned_55 rfl (by decide) (by decide) (by rw [hs11]; exact ⟨rfl, ⟨_, hm10_a, hm10_0, hm10_1, hm10_2, hm10_3, hm10_5, hm10_6, hm10_12, hm10_15, hm10_16, hm10_17, hm10_18, hm10_19, hm10_20, hm10_26, hm10_28, hm10_29, trivial⟩, ⟨_, x12⟩, fun j9 h9 => (f10 j9 (by omega)).trans (f1 j9 (by omega))⟩)
    exact lp21 303 0 (Nat.zero_le _) rfl (by omega)
  · have c10 := zb_0.mp c10
    have q13 := isNone_of c10
    refine g_aload_n E dX13_turned_13 rfl rfl rfl ?_
    refine g_iconst E (v := 1) dX13_turned_14 (by decide) rfl ?_
    refine g_callV (k := 2000) (n9 := 1) (av := [.int 1]) (st := []) E (ct_X13_refused l 1 hM2) gciX13 dX13_turned_15 h1 q1846 q1848 qs52 q135 q1849 (by decide +kernel) rfl rfl ⟨by decide, by decide⟩ ⟨by decide, by decide⟩ (Nat.le_of_ble_eq_true rfl) rfl (gPi.k (fun g14 h14 => ?_))
    obtain ⟨hm14, f14⟩ := h14
    have hm14_o := hm14
    obtain ⟨hm14_F, hm14_a, hm14_0, hm14_1, hm14_2, hm14_3, hm14_5, hm14_6, hm14_12, hm14_15, hm14_16, hm14_17, hm14_18, hm14_19, hm14_20, hm14_26, hm14_28, hm14_29, -⟩ := hm14_o
    have hs15 : sTur B d p = ((-1), 1) := by first | (simp [sTur, c10, q13]; done) | (simp [sTur, c10, q13, qWy]; done)
    have x16 := (f14 (2003) (by omega)).trans ((f1 (2003) (by omega)).trans (hX_a))
    exact g_iret E Rt dX13_turned_18 rfl (by decide) (by decide) (by rw [hs15]; exact ⟨rfl, ⟨_, hm14_a, hm14_0, hm14_1, hm14_2, hm14_3, hm14_5, hm14_6, hm14_12, hm14_15, hm14_16, hm14_17, hm14_18, hm14_19, hm14_20, hm14_26, hm14_28, hm14_29, trivial⟩, ⟨_, x16⟩, fun j9 h9 => (f14 j9 (by omega)).trans (f1 j9 (by omega))⟩)
set_option maxHeartbeats 1000000 in
theorem ct_X13_turned_N (l : Launch) {g : gWM} {th tr wh fa : Int32} {tp ac mk : Nat} (p : Int32) (hM : pMq g .null th tr wh tp fa ac mk []) : gCt l yX13_turned cX13_turned 3 (some .int) 1 0 0 21 [.ref 2000, .int p] g (gPi (sTur zB0 0 p).1 (fun g1 => pMq g1 .null 0 ((sTur zB0 0 p).2) (-1) tp fa ac mk [] ∧ ∀ j, j ≠ 2000 → g1 j = g j)) := by
  refine gCt.of RX13 (by decide) rfl (lo := [some (.ref 2000), some (.int p), none]) 1 rfl (Nat.le_of_ble_eq_true rfl) (fun z E Rt => ?_)
  have hM_o := hM
  obtain ⟨hM_F, hM_a, hM_0, hM_1, hM_2, hM_3, hM_5, hM_6, hM_12, hM_15, hM_16, hM_17, hM_18, hM_19, hM_20, hM_26, hM_28, hM_29, -⟩ := hM_o
  refine g_aload_n E dX13_turned_0 rfl rfl rfl ?_
  refine g_iconst E (v := 0) dX13_turned_1 (by decide) rfl ?_
  refine g_putf E gciX13 (v := .int 0) dX13_turned_2 hM_a 0 rfl (by decide) q1740 (.inl rfl) rfl (fun _ => rfl) (fun _ => rfl) rfl (g_upk (fun g1 h1 f1 => ?_))
  refine g_aload_n E dX13_turned_5 rfl rfl rfl ?_
  refine g_iload_n E dX13_turned_6 rfl rfl rfl ?_
  have hM2 : pMq g1 .null 0 tr wh tp fa ac mk [] := ⟨_, h1, rfl, hM_1, hM_2, hM_3, hM_5, hM_6, hM_12, hM_15, hM_16, hM_17, hM_18, hM_19, hM_20, hM_26, hM_28, hM_29, trivial⟩
  refine g_callV (k := 2000) (n9 := 1) (av := [.int p]) (st := []) E (ct_X13_isGood_N l p hM2) gciX13 dX13_turned_7 h1 q2197 q2199 qs81 q135 q2200 (by decide +kernel) rfl rfl ⟨by decide, by decide⟩ ⟨by decide, by decide⟩ (Nat.le_of_ble_eq_true rfl) rfl (gPu.k ?_)
  refine g_if_ne E dX13_turned_10 (tgt := 19) (by decide) rfl (fun h9 => absurd h9 (by decide)) (fun _ => ?_)
  refine g_aload_n E dX13_turned_13 rfl rfl rfl ?_
  refine g_iconst E (v := 1) dX13_turned_14 (by decide) rfl ?_
  refine g_callV (k := 2000) (n9 := 1) (av := [.int 1]) (st := []) E (ct_X13_refused l 1 hM2) gciX13 dX13_turned_15 h1 q1846 q1848 qs52 q135 q1849 (by decide +kernel) rfl rfl ⟨by decide, by decide⟩ ⟨by decide, by decide⟩ (Nat.le_of_ble_eq_true rfl) rfl (gPi.k (fun g3 h3 => ?_))
  obtain ⟨hm3, f3⟩ := h3
  have hm3_o := hm3
  obtain ⟨hm3_F, hm3_a, hm3_0, hm3_1, hm3_2, hm3_3, hm3_5, hm3_6, hm3_12, hm3_15, hm3_16, hm3_17, hm3_18, hm3_19, hm3_20, hm3_26, hm3_28, hm3_29, -⟩ := hm3_o
  have hs4 : sTur zB0 0 p = ((-1), 1) := by first | (simp [sTur, qI_z, qWy]; done) | (simp [sTur, qI_z, qWy, qWy]; done)
  exact g_iret E Rt dX13_turned_18 rfl (by decide) (by decide) (by rw [hs4]; exact ⟨rfl, ⟨_, hm3_a, hm3_0, hm3_1, hm3_2, hm3_3, hm3_5, hm3_6, hm3_12, hm3_15, hm3_16, hm3_17, hm3_18, hm3_19, hm3_20, hm3_26, hm3_28, hm3_29, trivial⟩, fun j9 h9 => (f3 j9 (by omega)).trans (f1 j9 (by omega))⟩)
set_option maxHeartbeats 1000000 in
theorem ct_X13_carries (l : Launch) {g : gWM} {mb : Nat} {B : gBar} {R : Nat → Int32} {d : Int32} {th tr wh fa : Int32} {tp ac mk : Nat} (p : Int32) (dy : Int32) (hw : wfB B) (hM : pMq g (.ref mb) th tr wh tp fa ac mk []) (hMb : pMb g mb B) (hV : pRw g 2002 B R d) (hX : pIx g 2003 18) (h9 : 10000 ≤ mb) : gCt l yX13_carries cX13_carries 6 (some .int) 3 0 0 66 [.ref 2000, .int p, .int dy] g (gPi (sCar B R d p dy).1 (fun g1 => pMq g1 (.ref mb) 0 ((sCar B R d p dy).2) (-1) tp fa ac mk [] ∧ pIx g1 2003 18 ∧ ∀ j, (j ≠ 2000 ∧ j ≠ 2003) → g1 j = g j)) := by
  refine gCt.of RX13 (by decide) rfl (lo := [some (.ref 2000), some (.int p), some (.int dy), none, none, none]) 3 rfl (Nat.le_of_ble_eq_true rfl) (fun z E Rt => ?_)
  have hw_n := hw.1
  have hM_o := hM
  obtain ⟨hM_F, hM_a, hM_0, hM_1, hM_2, hM_3, hM_5, hM_6, hM_12, hM_15, hM_16, hM_17, hM_18, hM_19, hM_20, hM_26, hM_28, hM_29, -⟩ := hM_o
  have hMb_o := hMb
  obtain ⟨⟨hMb_F, hMb_a, hMb_0, hMb_1, hMb_2, hMb_3, hMb_4, hMb_5, hMb_6, hMb_7, hMb_8, hMb_9, hMb_11, hMb_12, hMb_13, hMb_14, hMb_15, hMb_16, hMb_17, hMb_18, hMb_19, hMb_20, hMb_21, hMb_22, hMb_23, hMb_24, hMb_25, hMb_26, hMb_27, hMb_28, hMb_29, hMb_30, hMb_31⟩, ⟨hMb_f1, hMb_a1, hMb_b1⟩, ⟨hMb_f2, hMb_a2, hMb_b2⟩, ⟨hMb_f3, hMb_a3, hMb_b3⟩, ⟨hMb_f4, hMb_a4, hMb_b4⟩, ⟨hMb_f5, hMb_a5, hMb_b5⟩, ⟨hMb_f6, hMb_a6, hMb_b6⟩, ⟨hMb_f7, hMb_a7, hMb_b7⟩, ⟨hMb_f8, hMb_a8, hMb_b8⟩, ⟨hMb_f9, hMb_a9, hMb_b9⟩, ⟨hMb_f10, hMb_a10, hMb_b10⟩, ⟨hMb_f11, hMb_a11, hMb_b11⟩, ⟨hMb_f12, hMb_a12, hMb_b12⟩, ⟨hMb_f13, hMb_a13, hMb_b13⟩, ⟨hMb_f14, hMb_a14, hMb_b14⟩, ⟨hMb_f15, hMb_a15, hMb_b15⟩, ⟨hMb_f16, hMb_a16, hMb_b16⟩, ⟨hMb_f17, hMb_a17, hMb_b17⟩, ⟨hMb_f18, hMb_a18, hMb_b18⟩, ⟨hMb_f19, hMb_a19, hMb_b19⟩, ⟨hMb_f20, hMb_a20, hMb_b20⟩, ⟨hMb_f21, hMb_a21, hMb_b21⟩⟩ := hMb_o
  have hV_o := hV
  obtain ⟨hV_f, hV_a, hV_r, hV_d⟩ := hV_o
  have hX_o := hX
  obtain ⟨hX_f, hX_a⟩ := hX_o
  refine g_aload_n E dX13_carries_0 rfl rfl rfl ?_
  refine g_iconst E (v := 0) dX13_carries_1 (by decide) rfl ?_
  refine g_putf E gciX13 (v := .int 0) dX13_carries_2 hM_a 0 rfl (by decide) q1740 (.inl rfl) rfl (fun _ => rfl) (fun _ => rfl) rfl (g_upk (fun g1 h1 f1 => ?_))
  refine g_aload_n E dX13_carries_5 rfl rfl rfl ?_
  refine g_aload_n E dX13_carries_6 rfl rfl rfl ?_
  refine g_iload_n E dX13_carries_7 rfl rfl rfl ?_
  have hM2 : pMq g1 (.ref mb) 0 tr wh tp fa ac mk [] := ⟨_, h1, rfl, hM_1, hM_2, hM_3, hM_5, hM_6, hM_12, hM_15, hM_16, hM_17, hM_18, hM_19, hM_20, hM_26, hM_28, hM_29, trivial⟩
  have y3 := (hMb.fr  (fun j9 a9 b9 => f1 j9 (by omega)))
  refine g_callV (k := 2000) (n9 := 1) (av := [.int p]) (st := [.ref 2000]) E (ct_X13_isTraveller l p hw hM2 y3) gciX13 dX13_carries_8 h1 q2209 q2211 qs83 q135 q2212 (by decide +kernel) rfl rfl ⟨by decide, by decide⟩ ⟨by decide, by decide⟩ (Nat.le_of_ble_eq_true rfl) rfl (gPu.k ?_)
  refine g_iload_n E dX13_carries_11 rfl rfl rfl ?_
  have y4 := (hV.fr  (fun j9 a9 b9 => f1 j9 (by omega)))
  have x5 := (f1 (2003) (by omega)).trans (hX_a)
  refine g_callV (k := 2000) (n9 := 2) (av := [.int (zb (qI (B 0 1) p).isSome), .int dy]) (st := []) E (ct_X13_asks l ((qI (B 0 1) p).isSome) dy hw hM2 y4 (⟨_, x5⟩)) gciX13 dX13_carries_12 h1 q2233 q2235 qs87 q135 q2236 (by decide +kernel) rfl rfl ⟨by decide, by decide⟩ ⟨by decide, by decide⟩ (Nat.le_of_ble_eq_true rfl) rfl (gPi.k (fun g6 h6 => ?_))
  obtain ⟨ha6, hx6, f6⟩ := h6
  have hx6_o := hx6
  obtain ⟨hx6_f, hx6_a⟩ := hx6_o
  refine g_istore_n E dX13_carries_15 rfl (by decide) rfl (lo1 := [some (.ref 2000), some (.int p), some (.int dy), some (.int (qWy ((qI (B 0 1) p).isSome) dy)), none, none]) rfl rfl ?_
  refine g_iload_n E dX13_carries_16 rfl rfl rfl ?_
  refine g_if_le E dX13_carries_17 (tgt := 26) (by decide) rfl (fun c17 => ?_) (fun c17 => ?_)
  · have c17 := qWy_le (c17)
    have hr7 := ha6 c17
    have q8 := (qWy_0.mp c17).1
    have q8_z := (qWy_0.mp c17).2
    obtain ⟨t, q9⟩ := isSome_of q8
    obtain ⟨rfl, q9_l⟩ := qI_some (by omega) q9
    have hr7_o := hr7
    obtain ⟨hr7_f, hr7_a, hr7_r, hr7_d⟩ := hr7_o
    refine g_iconst E (v := 0) dX13_carries_26 (by decide) rfl ?_
    refine g_istore E dX13_carries_27 (by decide) rfl (lo1 := [some (.ref 2000), some (.int (nI t)), some (.int dy), some (.int (qWy ((qI (B 0 1) (nI t)).isSome) dy)), some (.int 0), none]) rfl rfl ?_
    refine g_iconst E (v := 0) dX13_carries_29 (by decide) rfl ?_
    refine g_istore E dX13_carries_30 (by decide) rfl (lo1 := [some (.ref 2000), some (.int (nI t)), some (.int dy), some (.int (qWy ((qI (B 0 1) (nI t)).isSome) dy)), some (.int 0), some (.int 0)]) rfl rfl ?_
    have lp32 : ∀ (r9 : Nat) (k : Nat), (k ≤ B 0 3) → (B 0 3 - k < r9) → gV z g6 0 0 32 [some (.ref 2000), some (.int (nI t)), some (.int dy), some (.int (qWy ((qI (B 0 1) (nI t)).isSome) dy)), some (.int (sumTo (zCar B R (d + dy) t) k)), some (.int (nI k))] [] := by
      intro r9
      induction r9 with
      | zero => intro k hk hm; exact absurd hm (Nat.not_lt_zero _)
      | succ r9 ih32 =>
        intro k hk hm
        refine g_iload E dX13_carries_32 rfl rfl ?_
        refine g_aload_n E dX13_carries_34 rfl rfl rfl ?_
        have x10 := (f6 (2000) (by omega)).trans (h1)
        refine g_getf E gciX13 dX13_carries_35 x10 3 rfl (by decide) q1743 (.inl rfl) (.ref mb) (hM_3) rfl ?_
        have x11 := (f6 (mb) (by omega)).trans ((f1 (mb) (by omega)).trans (hMb_a))
        refine g_getfN E gciX27 dX13_carries_38 x11 5 rfl (by decide) q1862 (.inl rfl) (.int (nI (B 0 3))) (hMb_5) rfl ?_
        refine g_icmp_ge E dX13_carries_41 (tgt := 83) (by decide) rfl (fun c41 => ?_) (fun c41 => ?_)
        · have c41 := (nI_leI (a := B 0 3) (b := k) (by omega) (by omega)).mp c41
          obtain rfl : k = B 0 3 := by omega
          refine g_aload_n E dX13_carries_83 rfl rfl rfl ?_
          refine g_iload E dX13_carries_84 rfl rfl ?_
          have hM12 : pMq g6 (.ref mb) 0 tr wh tp fa ac mk [] := ⟨_, x10, rfl, hM_1, hM_2, hM_3, hM_5, hM_6, hM_12, hM_15, hM_16, hM_17, hM_18, hM_19, hM_20, hM_26, hM_28, hM_29, trivial⟩
          refine g_callV (k := 2000) (n9 := 1) (av := [.int (sumTo (zCar B R (d + dy) t) (B 0 3))]) (st := []) E (ct_X13_fine l (sumTo (zCar B R (d + dy) t) (B 0 3)) hM12) gciX13 dX13_carries_86 x10 q2181 q2183 qs80 q135 q2184 (by decide +kernel) rfl rfl ⟨by decide, by decide⟩ ⟨by decide, by decide⟩ (Nat.le_of_ble_eq_true rfl) rfl (gPi.k (fun g13 h13 => ?_))
          obtain ⟨hm13, f13⟩ := h13
          have hm13_o := hm13
          obtain ⟨hm13_F, hm13_a, hm13_0, hm13_1, hm13_2, hm13_3, hm13_5, hm13_6, hm13_12, hm13_15, hm13_16, hm13_17, hm13_18, hm13_19, hm13_20, hm13_26, hm13_28, hm13_29, -⟩ := hm13_o
          have hs14 : sCar B R d (nI t) dy = (sumTo (zCar B R (d + dy) t) (B 0 3), 0) := by first | (simp [sCar, sT, c17, q9, q8_z, c41]; done) | (simp [sCar, sT, c17, q9, q8_z, c41, qWy]; done)
          have x15 := (f13 (2003) (by omega)).trans (hr7_a)
          exact g_iret E Rt dX13_carries_89 rfl (by decide) (by decide) (by rw [hs14]; exact ⟨rfl, ⟨_, hm13_a, hm13_0, hm13_1, hm13_2, hm13_3, hm13_5, hm13_6, hm13_12, hm13_15, hm13_16, hm13_17, hm13_18, hm13_19, hm13_20, hm13_26, hm13_28, hm13_29, trivial⟩, ⟨_, x15⟩, fun j9 h9 => ((f13 j9 (by omega)).trans (f6 j9 (by omega))).trans (f1 j9 (by omega))⟩)
        · have c41 := mt (nI_leI (a := B 0 3) (b := k) (by omega) (by omega)).mpr c41
          refine g_iload E dX13_carries_44 rfl rfl ?_
          refine g_aload_n E dX13_carries_46 rfl rfl rfl ?_
          refine g_aload_n E dX13_carries_47 rfl rfl rfl ?_
          refine g_getf E gciX13 dX13_carries_48 x10 16 rfl (by decide) q1756 (.inl rfl) (.ref 2003) (hM_16) rfl ?_
          refine g_iload_n E dX13_carries_51 rfl rfl rfl ?_
          refine g_iload E dX13_carries_52 rfl rfl ?_
          have hM16 : pMq g6 (.ref mb) 0 tr wh tp fa ac mk [] := ⟨_, x10, rfl, hM_1, hM_2, hM_3, hM_5, hM_6, hM_12, hM_15, hM_16, hM_17, hM_18, hM_19, hM_20, hM_26, hM_28, hM_29, trivial⟩
          have y17 := (y3.fr  (fun j9 a9 b9 => f6 j9 (by omega)))
          refine g_callV (k := 2000) (n9 := 3) (av := [.ref 2003, .int (nI t), .int (nI k)]) (st := [.int (sumTo (zCar B R (d + dy) t) k)]) E (ct_X13_hasIn l t k hw hM16 y17 hr7 (by omega) (by omega)) gciX13 dX13_carries_54 x10 q2217 q2219 qs85 q135 q2220 (by decide +kernel) rfl rfl ⟨by decide, by decide⟩ ⟨by decide, by decide⟩ (Nat.le_of_ble_eq_true rfl) rfl (gPu.k ?_)
          refine g_if_eq E dX13_carries_57 (tgt := 73) (by decide) rfl (fun c57 => ?_) (fun c57 => ?_)
          · have c57 := zb_0.mp c57
            refine g_iconst E (v := 0) dX13_carries_73 (by decide) rfl ?_
            refine g_iadd E dX13_carries_74 rfl ?_
            refine g_as (y := sumTo (zCar B R (d + dy) t) (k + 1)) (sumTo_s (by simp [zCar, c57])) ?_
            refine g_istore E dX13_carries_75 (by decide) rfl (lo1 := [some (.ref 2000), some (.int (nI t)), some (.int dy), some (.int (qWy ((qI (B 0 1) (nI t)).isSome) dy)), some (.int (sumTo (zCar B R (d + dy) t) (k + 1))), some (.int (nI k))]) rfl rfl ?_
            refine g_iinc E dX13_carries_77 rfl (v := nI (k + 1)) (nI_c _) (by decide) rfl (lo1 := [some (.ref 2000), some (.int (nI t)), some (.int dy), some (.int (qWy ((qI (B 0 1) (nI t)).isSome) dy)), some (.int (sumTo (zCar B R (d + dy) t) (k + 1))), some (.int (nI (k + 1)))]) rfl rfl ?_
            refine g_goto E dX13_carries_80 (tgt := 32) (by decide) ?_
            exact ih32 (k + 1) (by omega) (by omega)
          · have c57 := zb_n0.mp c57
            refine g_aload_n E dX13_carries_60 rfl rfl rfl ?_
            refine g_aload_n E dX13_carries_61 rfl rfl rfl ?_
            refine g_getf E gciX13 dX13_carries_62 x10 16 rfl (by decide) q1756 (.inl rfl) (.ref 2003) (hM_16) rfl ?_
            refine g_iload E dX13_carries_65 rfl rfl ?_
            refine g_callV (k := 2000) (n9 := 2) (av := [.ref 2003, .int (nI k)]) (st := [.int (sumTo (zCar B R (d + dy) t) k)]) E (ct_X13_worthIn l k hw hM16 y17 hr7 (by omega)) gciX13 dX13_carries_67 x10 q2249 q2251 qs90 q135 q2252 (by decide +kernel) rfl rfl ⟨by decide, by decide⟩ ⟨by decide, by decide⟩ (Nat.le_of_ble_eq_true rfl) rfl (gPu.k ?_)
            refine g_goto E dX13_carries_70 (tgt := 74) (by decide) ?_
            refine g_iadd E dX13_carries_74 rfl ?_
            refine g_as (y := sumTo (zCar B R (d + dy) t) (k + 1)) (sumTo_s (by simp [zCar, c57])) ?_
            refine g_istore E dX13_carries_75 (by decide) rfl (lo1 := [some (.ref 2000), some (.int (nI t)), some (.int dy), some (.int (qWy ((qI (B 0 1) (nI t)).isSome) dy)), some (.int (sumTo (zCar B R (d + dy) t) (k + 1))), some (.int (nI k))]) rfl rfl ?_
            refine g_iinc E dX13_carries_77 rfl (v := nI (k + 1)) (nI_c _) (by decide) rfl (lo1 := [some (.ref 2000), some (.int (nI t)), some (.int dy), some (.int (qWy ((qI (B 0 1) (nI t)).isSome) dy)), some (.int (sumTo (zCar B R (d + dy) t) (k + 1))), some (.int (nI (k + 1)))]) rfl rfl ?_
            refine g_goto E dX13_carries_80 (tgt := 32) (by decide) ?_
            exact ih32 (k + 1) (by omega) (by omega)
    exact lp32 ((B 0 3) + 1) 0 (Nat.zero_le _) (Nat.lt_succ_of_le (Nat.sub_le _ _))
  · have c17 := qWy_gt (c17)
    refine g_aload_n E dX13_carries_20 rfl rfl rfl ?_
    refine g_iload_n E dX13_carries_21 rfl rfl rfl ?_
    have x18 := (f6 (2000) (by omega)).trans (h1)
    have hM19 : pMq g6 (.ref mb) 0 tr wh tp fa ac mk [] := ⟨_, x18, rfl, hM_1, hM_2, hM_3, hM_5, hM_6, hM_12, hM_15, hM_16, hM_17, hM_18, hM_19, hM_20, hM_26, hM_28, hM_29, trivial⟩
    refine g_callV (k := 2000) (n9 := 1) (av := [.int (qWy ((qI (B 0 1) p).isSome) dy)]) (st := []) E (ct_X13_refused l (qWy ((qI (B 0 1) p).isSome) dy) hM19) gciX13 dX13_carries_22 x18 q1846 q1848 qs52 q135 q1849 (by decide +kernel) rfl rfl ⟨by decide, by decide⟩ ⟨by decide, by decide⟩ (Nat.le_of_ble_eq_true rfl) rfl (gPi.k (fun g20 h20 => ?_))
    obtain ⟨hm20, f20⟩ := h20
    have hm20_o := hm20
    obtain ⟨hm20_F, hm20_a, hm20_0, hm20_1, hm20_2, hm20_3, hm20_5, hm20_6, hm20_12, hm20_15, hm20_16, hm20_17, hm20_18, hm20_19, hm20_20, hm20_26, hm20_28, hm20_29, -⟩ := hm20_o
    have hs21 : sCar B R d p dy = ((-1), qWy ((qI (B 0 1) p).isSome) dy) := by first | (simp [sCar, sT, c17]; done) | (simp [sCar, sT, c17, qWy]; done)
    have x22 := (f20 (2003) (by omega)).trans (hx6_a)
    exact g_iret E Rt dX13_carries_25 rfl (by decide) (by decide) (by rw [hs21]; exact ⟨rfl, ⟨_, hm20_a, hm20_0, hm20_1, hm20_2, hm20_3, hm20_5, hm20_6, hm20_12, hm20_15, hm20_16, hm20_17, hm20_18, hm20_19, hm20_20, hm20_26, hm20_28, hm20_29, trivial⟩, ⟨_, x22⟩, fun j9 h9 => ((f20 j9 (by omega)).trans (f6 j9 (by omega))).trans (f1 j9 (by omega))⟩)
set_option maxHeartbeats 1000000 in
theorem ct_X13_carries_N (l : Launch) {g : gWM} {th tr wh fa : Int32} {tp ac mk : Nat} (p : Int32) (dy : Int32) (hM : pMq g .null th tr wh tp fa ac mk []) : gCt l yX13_carries cX13_carries 6 (some .int) 1 0 0 22 [.ref 2000, .int p, .int dy] g (gPi (sCar zB0 (fun _ => 0) 0 p dy).1 (fun g1 => pMq g1 .null 0 ((sCar zB0 (fun _ => 0) 0 p dy).2) (-1) tp fa ac mk [] ∧ ∀ j, j ≠ 2000 → g1 j = g j)) := by
  refine gCt.of RX13 (by decide) rfl (lo := [some (.ref 2000), some (.int p), some (.int dy), none, none, none]) 3 rfl (Nat.le_of_ble_eq_true rfl) (fun z E Rt => ?_)
  have hM_o := hM
  obtain ⟨hM_F, hM_a, hM_0, hM_1, hM_2, hM_3, hM_5, hM_6, hM_12, hM_15, hM_16, hM_17, hM_18, hM_19, hM_20, hM_26, hM_28, hM_29, -⟩ := hM_o
  refine g_aload_n E dX13_carries_0 rfl rfl rfl ?_
  refine g_iconst E (v := 0) dX13_carries_1 (by decide) rfl ?_
  refine g_putf E gciX13 (v := .int 0) dX13_carries_2 hM_a 0 rfl (by decide) q1740 (.inl rfl) rfl (fun _ => rfl) (fun _ => rfl) rfl (g_upk (fun g1 h1 f1 => ?_))
  refine g_aload_n E dX13_carries_5 rfl rfl rfl ?_
  refine g_aload_n E dX13_carries_6 rfl rfl rfl ?_
  refine g_iload_n E dX13_carries_7 rfl rfl rfl ?_
  have hM2 : pMq g1 .null 0 tr wh tp fa ac mk [] := ⟨_, h1, rfl, hM_1, hM_2, hM_3, hM_5, hM_6, hM_12, hM_15, hM_16, hM_17, hM_18, hM_19, hM_20, hM_26, hM_28, hM_29, trivial⟩
  refine g_callV (k := 2000) (n9 := 1) (av := [.int p]) (st := [.ref 2000]) E (ct_X13_isTraveller_N l p hM2) gciX13 dX13_carries_8 h1 q2209 q2211 qs83 q135 q2212 (by decide +kernel) rfl rfl ⟨by decide, by decide⟩ ⟨by decide, by decide⟩ (Nat.le_of_ble_eq_true rfl) rfl (gPu.k ?_)
  refine g_iload_n E dX13_carries_11 rfl rfl rfl ?_
  refine g_callV (k := 2000) (n9 := 2) (av := [.int 0, .int dy]) (st := []) E (ct_X13_asks_F l dy hM2) gciX13 dX13_carries_12 h1 q2233 q2235 qs87 q135 q2236 (by decide +kernel) rfl rfl ⟨by decide, by decide⟩ ⟨by decide, by decide⟩ (Nat.le_of_ble_eq_true rfl) rfl (gPu.k ?_)
  refine g_istore_n E dX13_carries_15 rfl (by decide) rfl (lo1 := [some (.ref 2000), some (.int p), some (.int dy), some (.int 1), none, none]) rfl rfl ?_
  refine g_iload_n E dX13_carries_16 rfl rfl rfl ?_
  refine g_if_le E dX13_carries_17 (tgt := 26) (by decide) rfl (fun h9 => absurd h9 (by decide)) (fun _ => ?_)
  refine g_aload_n E dX13_carries_20 rfl rfl rfl ?_
  refine g_iload_n E dX13_carries_21 rfl rfl rfl ?_
  refine g_callV (k := 2000) (n9 := 1) (av := [.int 1]) (st := []) E (ct_X13_refused l 1 hM2) gciX13 dX13_carries_22 h1 q1846 q1848 qs52 q135 q1849 (by decide +kernel) rfl rfl ⟨by decide, by decide⟩ ⟨by decide, by decide⟩ (Nat.le_of_ble_eq_true rfl) rfl (gPi.k (fun g3 h3 => ?_))
  obtain ⟨hm3, f3⟩ := h3
  have hm3_o := hm3
  obtain ⟨hm3_F, hm3_a, hm3_0, hm3_1, hm3_2, hm3_3, hm3_5, hm3_6, hm3_12, hm3_15, hm3_16, hm3_17, hm3_18, hm3_19, hm3_20, hm3_26, hm3_28, hm3_29, -⟩ := hm3_o
  have hs4 : sCar zB0 (fun _ => 0) 0 p dy = ((-1), 1) := by first | (simp [sCar, sT, qI_z, qWy]; done) | (simp [sCar, sT, qI_z, qWy, qWy]; done)
  exact g_iret E Rt dX13_carries_25 rfl (by decide) (by decide) (by rw [hs4]; exact ⟨rfl, ⟨_, hm3_a, hm3_0, hm3_1, hm3_2, hm3_3, hm3_5, hm3_6, hm3_12, hm3_15, hm3_16, hm3_17, hm3_18, hm3_19, hm3_20, hm3_26, hm3_28, hm3_29, trivial⟩, fun j9 h9 => (f3 j9 (by omega)).trans (f1 j9 (by omega))⟩)
set_option maxHeartbeats 1000000 in
theorem ct_X13_dutyBy (l : Launch) {g : gWM} {mb : Nat} {B : gBar} {R : Nat → Int32} {d : Int32} {th tr wh fa : Int32} {tp ac mk : Nat} (p : Int32) (dy : Int32) (hw : wfB B) (hM : pMq g (.ref mb) th tr wh tp fa ac mk []) (hMb : pMb g mb B) (hV : pRw g 2002 B R d) (hX : pIx g 2003 18) (h9 : 10000 ≤ mb) : gCt l yX13_dutyBy cX13_dutyBy 6 (some .int) 3 0 0 67 [.ref 2000, .int p, .int dy] g (gPi (sDby B R d p dy).1 (fun g1 => pMq g1 (.ref mb) 0 ((sDby B R d p dy).2) (-1) tp fa ac mk [] ∧ pIx g1 2003 18 ∧ ∀ j, (j ≠ 2000 ∧ j ≠ 2003) → g1 j = g j)) := by
  refine gCt.of RX13 (by decide) rfl (lo := [some (.ref 2000), some (.int p), some (.int dy), none, none, none]) 3 rfl (Nat.le_of_ble_eq_true rfl) (fun z E Rt => ?_)
  have hw_n := hw.1
  have hM_o := hM
  obtain ⟨hM_F, hM_a, hM_0, hM_1, hM_2, hM_3, hM_5, hM_6, hM_12, hM_15, hM_16, hM_17, hM_18, hM_19, hM_20, hM_26, hM_28, hM_29, -⟩ := hM_o
  have hMb_o := hMb
  obtain ⟨⟨hMb_F, hMb_a, hMb_0, hMb_1, hMb_2, hMb_3, hMb_4, hMb_5, hMb_6, hMb_7, hMb_8, hMb_9, hMb_11, hMb_12, hMb_13, hMb_14, hMb_15, hMb_16, hMb_17, hMb_18, hMb_19, hMb_20, hMb_21, hMb_22, hMb_23, hMb_24, hMb_25, hMb_26, hMb_27, hMb_28, hMb_29, hMb_30, hMb_31⟩, ⟨hMb_f1, hMb_a1, hMb_b1⟩, ⟨hMb_f2, hMb_a2, hMb_b2⟩, ⟨hMb_f3, hMb_a3, hMb_b3⟩, ⟨hMb_f4, hMb_a4, hMb_b4⟩, ⟨hMb_f5, hMb_a5, hMb_b5⟩, ⟨hMb_f6, hMb_a6, hMb_b6⟩, ⟨hMb_f7, hMb_a7, hMb_b7⟩, ⟨hMb_f8, hMb_a8, hMb_b8⟩, ⟨hMb_f9, hMb_a9, hMb_b9⟩, ⟨hMb_f10, hMb_a10, hMb_b10⟩, ⟨hMb_f11, hMb_a11, hMb_b11⟩, ⟨hMb_f12, hMb_a12, hMb_b12⟩, ⟨hMb_f13, hMb_a13, hMb_b13⟩, ⟨hMb_f14, hMb_a14, hMb_b14⟩, ⟨hMb_f15, hMb_a15, hMb_b15⟩, ⟨hMb_f16, hMb_a16, hMb_b16⟩, ⟨hMb_f17, hMb_a17, hMb_b17⟩, ⟨hMb_f18, hMb_a18, hMb_b18⟩, ⟨hMb_f19, hMb_a19, hMb_b19⟩, ⟨hMb_f20, hMb_a20, hMb_b20⟩, ⟨hMb_f21, hMb_a21, hMb_b21⟩⟩ := hMb_o
  have hV_o := hV
  obtain ⟨hV_f, hV_a, hV_r, hV_d⟩ := hV_o
  have hX_o := hX
  obtain ⟨hX_f, hX_a⟩ := hX_o
  refine g_aload_n E dX13_dutyBy_0 rfl rfl rfl ?_
  refine g_iconst E (v := 0) dX13_dutyBy_1 (by decide) rfl ?_
  refine g_putf E gciX13 (v := .int 0) dX13_dutyBy_2 hM_a 0 rfl (by decide) q1740 (.inl rfl) rfl (fun _ => rfl) (fun _ => rfl) rfl (g_upk (fun g1 h1 f1 => ?_))
  refine g_aload_n E dX13_dutyBy_5 rfl rfl rfl ?_
  refine g_aload_n E dX13_dutyBy_6 rfl rfl rfl ?_
  refine g_iload_n E dX13_dutyBy_7 rfl rfl rfl ?_
  have hM2 : pMq g1 (.ref mb) 0 tr wh tp fa ac mk [] := ⟨_, h1, rfl, hM_1, hM_2, hM_3, hM_5, hM_6, hM_12, hM_15, hM_16, hM_17, hM_18, hM_19, hM_20, hM_26, hM_28, hM_29, trivial⟩
  have y3 := (hMb.fr  (fun j9 a9 b9 => f1 j9 (by omega)))
  refine g_callV (k := 2000) (n9 := 1) (av := [.int p]) (st := [.ref 2000]) E (ct_X13_isMeans l p hw hM2 y3) gciX13 dX13_dutyBy_8 h1 q2317 q2319 qs98 q135 q2320 (by decide +kernel) rfl rfl ⟨by decide, by decide⟩ ⟨by decide, by decide⟩ (Nat.le_of_ble_eq_true rfl) rfl (gPu.k ?_)
  refine g_iload_n E dX13_dutyBy_11 rfl rfl rfl ?_
  have y4 := (hV.fr  (fun j9 a9 b9 => f1 j9 (by omega)))
  have x5 := (f1 (2003) (by omega)).trans (hX_a)
  refine g_callV (k := 2000) (n9 := 2) (av := [.int (zb (qI (B 0 0) p).isSome), .int dy]) (st := []) E (ct_X13_asks l ((qI (B 0 0) p).isSome) dy hw hM2 y4 (⟨_, x5⟩)) gciX13 dX13_dutyBy_12 h1 q2233 q2235 qs87 q135 q2236 (by decide +kernel) rfl rfl ⟨by decide, by decide⟩ ⟨by decide, by decide⟩ (Nat.le_of_ble_eq_true rfl) rfl (gPi.k (fun g6 h6 => ?_))
  obtain ⟨ha6, hx6, f6⟩ := h6
  have hx6_o := hx6
  obtain ⟨hx6_f, hx6_a⟩ := hx6_o
  refine g_istore_n E dX13_dutyBy_15 rfl (by decide) rfl (lo1 := [some (.ref 2000), some (.int p), some (.int dy), some (.int (qWy ((qI (B 0 0) p).isSome) dy)), none, none]) rfl rfl ?_
  refine g_iload_n E dX13_dutyBy_16 rfl rfl rfl ?_
  refine g_if_le E dX13_dutyBy_17 (tgt := 26) (by decide) rfl (fun c17 => ?_) (fun c17 => ?_)
  · have c17 := qWy_le (c17)
    have hr7 := ha6 c17
    have q8 := (qWy_0.mp c17).1
    have q8_z := (qWy_0.mp c17).2
    obtain ⟨i9, q9⟩ := isSome_of q8
    obtain ⟨rfl, q9_l⟩ := qI_some (by omega) q9
    have hr7_o := hr7
    obtain ⟨hr7_f, hr7_a, hr7_r, hr7_d⟩ := hr7_o
    refine g_iconst E (v := 0) dX13_dutyBy_26 (by decide) rfl ?_
    refine g_istore E dX13_dutyBy_27 (by decide) rfl (lo1 := [some (.ref 2000), some (.int (nI i9)), some (.int dy), some (.int (qWy ((qI (B 0 0) (nI i9)).isSome) dy)), some (.int 0), none]) rfl rfl ?_
    refine g_iconst E (v := 0) dX13_dutyBy_29 (by decide) rfl ?_
    refine g_istore E dX13_dutyBy_30 (by decide) rfl (lo1 := [some (.ref 2000), some (.int (nI i9)), some (.int dy), some (.int (qWy ((qI (B 0 0) (nI i9)).isSome) dy)), some (.int 0), some (.int 0)]) rfl rfl ?_
    have lp32 : ∀ (r9 : Nat) (k : Nat), (k ≤ B 0 3) → (B 0 3 - k < r9) → gV z g6 0 0 32 [some (.ref 2000), some (.int (nI i9)), some (.int dy), some (.int (qWy ((qI (B 0 0) (nI i9)).isSome) dy)), some (.int (sumTo (zDb B R (d + dy) i9) k)), some (.int (nI k))] [] := by
      intro r9
      induction r9 with
      | zero => intro k hk hm; exact absurd hm (Nat.not_lt_zero _)
      | succ r9 ih32 =>
        intro k hk hm
        refine g_iload E dX13_dutyBy_32 rfl rfl ?_
        refine g_aload_n E dX13_dutyBy_34 rfl rfl rfl ?_
        have x10 := (f6 (2000) (by omega)).trans (h1)
        refine g_getf E gciX13 dX13_dutyBy_35 x10 3 rfl (by decide) q1743 (.inl rfl) (.ref mb) (hM_3) rfl ?_
        have x11 := (f6 (mb) (by omega)).trans ((f1 (mb) (by omega)).trans (hMb_a))
        refine g_getfN E gciX27 dX13_dutyBy_38 x11 5 rfl (by decide) q1862 (.inl rfl) (.int (nI (B 0 3))) (hMb_5) rfl ?_
        refine g_icmp_ge E dX13_dutyBy_41 (tgt := 96) (by decide) rfl (fun c41 => ?_) (fun c41 => ?_)
        · have c41 := (nI_leI (a := B 0 3) (b := k) (by omega) (by omega)).mp c41
          obtain rfl : k = B 0 3 := by omega
          refine g_aload_n E dX13_dutyBy_96 rfl rfl rfl ?_
          refine g_iload E dX13_dutyBy_97 rfl rfl ?_
          have hM12 : pMq g6 (.ref mb) 0 tr wh tp fa ac mk [] := ⟨_, x10, rfl, hM_1, hM_2, hM_3, hM_5, hM_6, hM_12, hM_15, hM_16, hM_17, hM_18, hM_19, hM_20, hM_26, hM_28, hM_29, trivial⟩
          refine g_callV (k := 2000) (n9 := 1) (av := [.int (sumTo (zDb B R (d + dy) i9) (B 0 3))]) (st := []) E (ct_X13_fine l (sumTo (zDb B R (d + dy) i9) (B 0 3)) hM12) gciX13 dX13_dutyBy_99 x10 q2181 q2183 qs80 q135 q2184 (by decide +kernel) rfl rfl ⟨by decide, by decide⟩ ⟨by decide, by decide⟩ (Nat.le_of_ble_eq_true rfl) rfl (gPi.k (fun g13 h13 => ?_))
          obtain ⟨hm13, f13⟩ := h13
          have hm13_o := hm13
          obtain ⟨hm13_F, hm13_a, hm13_0, hm13_1, hm13_2, hm13_3, hm13_5, hm13_6, hm13_12, hm13_15, hm13_16, hm13_17, hm13_18, hm13_19, hm13_20, hm13_26, hm13_28, hm13_29, -⟩ := hm13_o
          have hs14 : sDby B R d (nI i9) dy = (sumTo (zDb B R (d + dy) i9) (B 0 3), 0) := by first | (simp [sDby, c17, q9, q8_z, c41]; done) | (simp [sDby, c17, q9, q8_z, c41, qWy]; done)
          have x15 := (f13 (2003) (by omega)).trans (hr7_a)
          exact g_iret E Rt dX13_dutyBy_102 rfl (by decide) (by decide) (by rw [hs14]; exact ⟨rfl, ⟨_, hm13_a, hm13_0, hm13_1, hm13_2, hm13_3, hm13_5, hm13_6, hm13_12, hm13_15, hm13_16, hm13_17, hm13_18, hm13_19, hm13_20, hm13_26, hm13_28, hm13_29, trivial⟩, ⟨_, x15⟩, fun j9 h9 => ((f13 j9 (by omega)).trans (f6 j9 (by omega))).trans (f1 j9 (by omega))⟩)
        · have c41 := mt (nI_leI (a := B 0 3) (b := k) (by omega) (by omega)).mpr c41
          refine g_iload E dX13_dutyBy_44 rfl rfl ?_
          refine g_aload_n E dX13_dutyBy_46 rfl rfl rfl ?_
          refine g_getf E gciX13 dX13_dutyBy_47 x10 3 rfl (by decide) q1743 (.inl rfl) (.ref mb) (hM_3) rfl ?_
          refine g_getfN E gciX27 dX13_dutyBy_50 x11 21 rfl (by decide) q1890 (.inl rfl) (.ref (mb + 11)) (hMb_21) rfl ?_
          refine g_iload E dX13_dutyBy_53 rfl rfl ?_
          have x16 := (f6 (mb + 11) (by omega)).trans ((f1 (mb + 11) (by omega)).trans (hMb_a11))
          refine g_iald E dX13_dutyBy_55 (j := k) x16 (rfl) (by omega) (by decide) (v := if B 12 k = 0 then -2 else nI (B 13 k)) (hMb_b11 k (by omega)) rfl ?_
          refine g_iload_n E dX13_dutyBy_56 rfl rfl rfl ?_
          refine g_icmp_ne E dX13_dutyBy_57 (tgt := 86) (by decide) rfl (fun c57 => ?_) (fun c57 => ?_)
          · have hby := by_no c57 (by omega)
            refine g_iconst E (v := 0) dX13_dutyBy_86 (by decide) rfl ?_
            refine g_iadd E dX13_dutyBy_87 rfl ?_
            refine g_as (y := sumTo (zDb B R (d + dy) i9) (k + 1)) (sumTo_s (zDb_n hby)) ?_
            refine g_istore E dX13_dutyBy_88 (by decide) rfl (lo1 := [some (.ref 2000), some (.int (nI i9)), some (.int dy), some (.int (qWy ((qI (B 0 0) (nI i9)).isSome) dy)), some (.int (sumTo (zDb B R (d + dy) i9) (k + 1))), some (.int (nI k))]) rfl rfl ?_
            refine g_iinc E dX13_dutyBy_90 rfl (v := nI (k + 1)) (nI_c _) (by decide) rfl (lo1 := [some (.ref 2000), some (.int (nI i9)), some (.int dy), some (.int (qWy ((qI (B 0 0) (nI i9)).isSome) dy)), some (.int (sumTo (zDb B R (d + dy) i9) (k + 1))), some (.int (nI (k + 1)))]) rfl rfl ?_
            refine g_goto E dX13_dutyBy_93 (tgt := 32) (by decide) ?_
            exact ih32 (k + 1) (by omega) (by omega)
          · have hby := by_yes c57 (by have := hw.goods (j := k) (by omega); omega) (by omega)
            refine g_aload_n E dX13_dutyBy_60 rfl rfl rfl ?_
            refine g_getf E gciX13 dX13_dutyBy_61 x10 16 rfl (by decide) q1756 (.inl rfl) (.ref 2003) (hM_16) rfl ?_
            refine g_iconst E (v := 0) dX13_dutyBy_64 (by decide) rfl ?_
            refine g_iload E dX13_dutyBy_65 rfl rfl ?_
            refine g_iadd E dX13_dutyBy_67 rfl ?_
            refine g_as (y := nI k) (Int32.zero_add _) ?_
            refine g_iald E dX13_dutyBy_68 (j := k) hr7_a (rfl) (by omega) (by decide) (v := R k) (hr7_r k (by unfold zRel; omega)) rfl ?_
            refine g_if_ne E dX13_dutyBy_69 (tgt := 86) (by decide) rfl (fun c69 => ?_) (fun c69 => ?_)
            · refine g_iconst E (v := 0) dX13_dutyBy_86 (by decide) rfl ?_
              refine g_iadd E dX13_dutyBy_87 rfl ?_
              refine g_as (y := sumTo (zDb B R (d + dy) i9) (k + 1)) (sumTo_s (zDb_z c69)) ?_
              refine g_istore E dX13_dutyBy_88 (by decide) rfl (lo1 := [some (.ref 2000), some (.int (nI i9)), some (.int dy), some (.int (qWy ((qI (B 0 0) (nI i9)).isSome) dy)), some (.int (sumTo (zDb B R (d + dy) i9) (k + 1))), some (.int (nI k))]) rfl rfl ?_
              refine g_iinc E dX13_dutyBy_90 rfl (v := nI (k + 1)) (nI_c _) (by decide) rfl (lo1 := [some (.ref 2000), some (.int (nI i9)), some (.int dy), some (.int (qWy ((qI (B 0 0) (nI i9)).isSome) dy)), some (.int (sumTo (zDb B R (d + dy) i9) (k + 1))), some (.int (nI (k + 1)))]) rfl rfl ?_
              refine g_goto E dX13_dutyBy_93 (tgt := 32) (by decide) ?_
              exact ih32 (k + 1) (by omega) (by omega)
            · refine g_aload_n E dX13_dutyBy_72 rfl rfl rfl ?_
              refine g_aload_n E dX13_dutyBy_73 rfl rfl rfl ?_
              refine g_getf E gciX13 dX13_dutyBy_74 x10 16 rfl (by decide) q1756 (.inl rfl) (.ref 2003) (hM_16) rfl ?_
              refine g_iload E dX13_dutyBy_77 rfl rfl ?_
              refine g_iconst E (v := 0) dX13_dutyBy_79 (by decide) rfl ?_
              have hM17 : pMq g6 (.ref mb) 0 tr wh tp fa ac mk [] := ⟨_, x10, rfl, hM_1, hM_2, hM_3, hM_5, hM_6, hM_12, hM_15, hM_16, hM_17, hM_18, hM_19, hM_20, hM_26, hM_28, hM_29, trivial⟩
              have y18 := (y3.fr  (fun j9 a9 b9 => f6 j9 (by omega)))
              refine g_callV (k := 2000) (n9 := 3) (av := [.ref 2003, .int (nI k), .int 0]) (st := [.int (sumTo (zDb B R (d + dy) i9) k)]) E (ct_X13_dutyIn l k 0 hw hM17 y18 hr7 (by omega) (by omega)) gciX13 dX13_dutyBy_80 x10 q2265 q2267 qs92 q135 q2268 (by decide +kernel) rfl rfl ⟨by decide, by decide⟩ ⟨by decide, by decide⟩ (Nat.le_of_ble_eq_true rfl) rfl (gPu.k ?_)
              refine g_goto E dX13_dutyBy_83 (tgt := 87) (by decide) ?_
              refine g_iadd E dX13_dutyBy_87 rfl ?_
              refine g_as (y := sumTo (zDb B R (d + dy) i9) (k + 1)) (sumTo_s (zDb_y hby c69)) ?_
              refine g_istore E dX13_dutyBy_88 (by decide) rfl (lo1 := [some (.ref 2000), some (.int (nI i9)), some (.int dy), some (.int (qWy ((qI (B 0 0) (nI i9)).isSome) dy)), some (.int (sumTo (zDb B R (d + dy) i9) (k + 1))), some (.int (nI k))]) rfl rfl ?_
              refine g_iinc E dX13_dutyBy_90 rfl (v := nI (k + 1)) (nI_c _) (by decide) rfl (lo1 := [some (.ref 2000), some (.int (nI i9)), some (.int dy), some (.int (qWy ((qI (B 0 0) (nI i9)).isSome) dy)), some (.int (sumTo (zDb B R (d + dy) i9) (k + 1))), some (.int (nI (k + 1)))]) rfl rfl ?_
              refine g_goto E dX13_dutyBy_93 (tgt := 32) (by decide) ?_
              exact ih32 (k + 1) (by omega) (by omega)
    exact lp32 ((B 0 3) + 1) 0 (Nat.zero_le _) (Nat.lt_succ_of_le (Nat.sub_le _ _))
  · have c17 := qWy_gt (c17)
    refine g_aload_n E dX13_dutyBy_20 rfl rfl rfl ?_
    refine g_iload_n E dX13_dutyBy_21 rfl rfl rfl ?_
    have x19 := (f6 (2000) (by omega)).trans (h1)
    have hM20 : pMq g6 (.ref mb) 0 tr wh tp fa ac mk [] := ⟨_, x19, rfl, hM_1, hM_2, hM_3, hM_5, hM_6, hM_12, hM_15, hM_16, hM_17, hM_18, hM_19, hM_20, hM_26, hM_28, hM_29, trivial⟩
    refine g_callV (k := 2000) (n9 := 1) (av := [.int (qWy ((qI (B 0 0) p).isSome) dy)]) (st := []) E (ct_X13_refused l (qWy ((qI (B 0 0) p).isSome) dy) hM20) gciX13 dX13_dutyBy_22 x19 q1846 q1848 qs52 q135 q1849 (by decide +kernel) rfl rfl ⟨by decide, by decide⟩ ⟨by decide, by decide⟩ (Nat.le_of_ble_eq_true rfl) rfl (gPi.k (fun g21 h21 => ?_))
    obtain ⟨hm21, f21⟩ := h21
    have hm21_o := hm21
    obtain ⟨hm21_F, hm21_a, hm21_0, hm21_1, hm21_2, hm21_3, hm21_5, hm21_6, hm21_12, hm21_15, hm21_16, hm21_17, hm21_18, hm21_19, hm21_20, hm21_26, hm21_28, hm21_29, -⟩ := hm21_o
    have hs22 : sDby B R d p dy = ((-1), qWy ((qI (B 0 0) p).isSome) dy) := by first | (simp [sDby, c17]; done) | (simp [sDby, c17, qWy]; done)
    have x23 := (f21 (2003) (by omega)).trans (hx6_a)
    exact g_iret E Rt dX13_dutyBy_25 rfl (by decide) (by decide) (by rw [hs22]; exact ⟨rfl, ⟨_, hm21_a, hm21_0, hm21_1, hm21_2, hm21_3, hm21_5, hm21_6, hm21_12, hm21_15, hm21_16, hm21_17, hm21_18, hm21_19, hm21_20, hm21_26, hm21_28, hm21_29, trivial⟩, ⟨_, x23⟩, fun j9 h9 => ((f21 j9 (by omega)).trans (f6 j9 (by omega))).trans (f1 j9 (by omega))⟩)
set_option maxHeartbeats 1000000 in
theorem ct_X13_dutyBy_N (l : Launch) {g : gWM} {th tr wh fa : Int32} {tp ac mk : Nat} (p : Int32) (dy : Int32) (hM : pMq g .null th tr wh tp fa ac mk []) : gCt l yX13_dutyBy cX13_dutyBy 6 (some .int) 1 0 0 22 [.ref 2000, .int p, .int dy] g (gPi (sDby zB0 (fun _ => 0) 0 p dy).1 (fun g1 => pMq g1 .null 0 ((sDby zB0 (fun _ => 0) 0 p dy).2) (-1) tp fa ac mk [] ∧ ∀ j, j ≠ 2000 → g1 j = g j)) := by
  refine gCt.of RX13 (by decide) rfl (lo := [some (.ref 2000), some (.int p), some (.int dy), none, none, none]) 3 rfl (Nat.le_of_ble_eq_true rfl) (fun z E Rt => ?_)
  have hM_o := hM
  obtain ⟨hM_F, hM_a, hM_0, hM_1, hM_2, hM_3, hM_5, hM_6, hM_12, hM_15, hM_16, hM_17, hM_18, hM_19, hM_20, hM_26, hM_28, hM_29, -⟩ := hM_o
  refine g_aload_n E dX13_dutyBy_0 rfl rfl rfl ?_
  refine g_iconst E (v := 0) dX13_dutyBy_1 (by decide) rfl ?_
  refine g_putf E gciX13 (v := .int 0) dX13_dutyBy_2 hM_a 0 rfl (by decide) q1740 (.inl rfl) rfl (fun _ => rfl) (fun _ => rfl) rfl (g_upk (fun g1 h1 f1 => ?_))
  refine g_aload_n E dX13_dutyBy_5 rfl rfl rfl ?_
  refine g_aload_n E dX13_dutyBy_6 rfl rfl rfl ?_
  refine g_iload_n E dX13_dutyBy_7 rfl rfl rfl ?_
  have hM2 : pMq g1 .null 0 tr wh tp fa ac mk [] := ⟨_, h1, rfl, hM_1, hM_2, hM_3, hM_5, hM_6, hM_12, hM_15, hM_16, hM_17, hM_18, hM_19, hM_20, hM_26, hM_28, hM_29, trivial⟩
  refine g_callV (k := 2000) (n9 := 1) (av := [.int p]) (st := [.ref 2000]) E (ct_X13_isMeans_N l p hM2) gciX13 dX13_dutyBy_8 h1 q2317 q2319 qs98 q135 q2320 (by decide +kernel) rfl rfl ⟨by decide, by decide⟩ ⟨by decide, by decide⟩ (Nat.le_of_ble_eq_true rfl) rfl (gPu.k ?_)
  refine g_iload_n E dX13_dutyBy_11 rfl rfl rfl ?_
  refine g_callV (k := 2000) (n9 := 2) (av := [.int 0, .int dy]) (st := []) E (ct_X13_asks_F l dy hM2) gciX13 dX13_dutyBy_12 h1 q2233 q2235 qs87 q135 q2236 (by decide +kernel) rfl rfl ⟨by decide, by decide⟩ ⟨by decide, by decide⟩ (Nat.le_of_ble_eq_true rfl) rfl (gPu.k ?_)
  refine g_istore_n E dX13_dutyBy_15 rfl (by decide) rfl (lo1 := [some (.ref 2000), some (.int p), some (.int dy), some (.int 1), none, none]) rfl rfl ?_
  refine g_iload_n E dX13_dutyBy_16 rfl rfl rfl ?_
  refine g_if_le E dX13_dutyBy_17 (tgt := 26) (by decide) rfl (fun h9 => absurd h9 (by decide)) (fun _ => ?_)
  refine g_aload_n E dX13_dutyBy_20 rfl rfl rfl ?_
  refine g_iload_n E dX13_dutyBy_21 rfl rfl rfl ?_
  refine g_callV (k := 2000) (n9 := 1) (av := [.int 1]) (st := []) E (ct_X13_refused l 1 hM2) gciX13 dX13_dutyBy_22 h1 q1846 q1848 qs52 q135 q1849 (by decide +kernel) rfl rfl ⟨by decide, by decide⟩ ⟨by decide, by decide⟩ (Nat.le_of_ble_eq_true rfl) rfl (gPi.k (fun g3 h3 => ?_))
  obtain ⟨hm3, f3⟩ := h3
  have hm3_o := hm3
  obtain ⟨hm3_F, hm3_a, hm3_0, hm3_1, hm3_2, hm3_3, hm3_5, hm3_6, hm3_12, hm3_15, hm3_16, hm3_17, hm3_18, hm3_19, hm3_20, hm3_26, hm3_28, hm3_29, -⟩ := hm3_o
  have hs4 : sDby zB0 (fun _ => 0) 0 p dy = ((-1), 1) := by first | (simp [sDby, qI_z, qWy]; done) | (simp [sDby, qI_z, qWy, qWy]; done)
  exact g_iret E Rt dX13_dutyBy_25 rfl (by decide) (by decide) (by rw [hs4]; exact ⟨rfl, ⟨_, hm3_a, hm3_0, hm3_1, hm3_2, hm3_3, hm3_5, hm3_6, hm3_12, hm3_15, hm3_16, hm3_17, hm3_18, hm3_19, hm3_20, hm3_26, hm3_28, hm3_29, trivial⟩, fun j9 h9 => (f3 j9 (by omega)).trans (f1 j9 (by omega))⟩)
set_option maxHeartbeats 1000000 in
theorem ct_X13_nearest (l : Launch) {g : gWM} {mb : Nat} {B : gBar} {R : Nat → Int32} {d : Int32} {th tr wh fa : Int32} {tp ac mk : Nat} (p : Int32) (q : Int32) (dy : Int32) (hw : wfB B) (hM : pMq g (.ref mb) th tr wh tp fa ac mk []) (hMb : pMb g mb B) (hV : pRw g 2002 B R d) (hX : pIx g 2003 18) (h9 : 10000 ≤ mb) : gCt l yX13_nearest cX13_nearest 8 (some .int) 5 0 0 118 [.ref 2000, .int p, .int q, .int dy] g (gPi (sNea B R d p q dy).1 (fun g1 => pMq g1 (.ref mb) 0 ((sNea B R d p q dy).2) (-1) tp fa ac mk [] ∧ pIx g1 2003 18 ∧ ∀ j, (j ≠ 2000 ∧ j ≠ 2003) → g1 j = g j)) := by
  refine gCt.of RX13 (by decide) rfl (lo := [some (.ref 2000), some (.int p), some (.int q), some (.int dy), none, none, none, none]) 4 rfl (Nat.le_of_ble_eq_true rfl) (fun z E Rt => ?_)
  have hw_n := hw.1
  have hM_o := hM
  obtain ⟨hM_F, hM_a, hM_0, hM_1, hM_2, hM_3, hM_5, hM_6, hM_12, hM_15, hM_16, hM_17, hM_18, hM_19, hM_20, hM_26, hM_28, hM_29, -⟩ := hM_o
  have hMb_o := hMb
  obtain ⟨⟨hMb_F, hMb_a, hMb_0, hMb_1, hMb_2, hMb_3, hMb_4, hMb_5, hMb_6, hMb_7, hMb_8, hMb_9, hMb_11, hMb_12, hMb_13, hMb_14, hMb_15, hMb_16, hMb_17, hMb_18, hMb_19, hMb_20, hMb_21, hMb_22, hMb_23, hMb_24, hMb_25, hMb_26, hMb_27, hMb_28, hMb_29, hMb_30, hMb_31⟩, ⟨hMb_f1, hMb_a1, hMb_b1⟩, ⟨hMb_f2, hMb_a2, hMb_b2⟩, ⟨hMb_f3, hMb_a3, hMb_b3⟩, ⟨hMb_f4, hMb_a4, hMb_b4⟩, ⟨hMb_f5, hMb_a5, hMb_b5⟩, ⟨hMb_f6, hMb_a6, hMb_b6⟩, ⟨hMb_f7, hMb_a7, hMb_b7⟩, ⟨hMb_f8, hMb_a8, hMb_b8⟩, ⟨hMb_f9, hMb_a9, hMb_b9⟩, ⟨hMb_f10, hMb_a10, hMb_b10⟩, ⟨hMb_f11, hMb_a11, hMb_b11⟩, ⟨hMb_f12, hMb_a12, hMb_b12⟩, ⟨hMb_f13, hMb_a13, hMb_b13⟩, ⟨hMb_f14, hMb_a14, hMb_b14⟩, ⟨hMb_f15, hMb_a15, hMb_b15⟩, ⟨hMb_f16, hMb_a16, hMb_b16⟩, ⟨hMb_f17, hMb_a17, hMb_b17⟩, ⟨hMb_f18, hMb_a18, hMb_b18⟩, ⟨hMb_f19, hMb_a19, hMb_b19⟩, ⟨hMb_f20, hMb_a20, hMb_b20⟩, ⟨hMb_f21, hMb_a21, hMb_b21⟩⟩ := hMb_o
  have hV_o := hV
  obtain ⟨hV_f, hV_a, hV_r, hV_d⟩ := hV_o
  have hX_o := hX
  obtain ⟨hX_f, hX_a⟩ := hX_o
  refine g_aload_n E dX13_nearest_0 rfl rfl rfl ?_
  refine g_iconst E (v := 0) dX13_nearest_1 (by decide) rfl ?_
  refine g_putf E gciX13 (v := .int 0) dX13_nearest_2 hM_a 0 rfl (by decide) q1740 (.inl rfl) rfl (fun _ => rfl) (fun _ => rfl) rfl (g_upk (fun g1 h1 f1 => ?_))
  refine g_aload_n E dX13_nearest_5 rfl rfl rfl ?_
  refine g_aload_n E dX13_nearest_6 rfl rfl rfl ?_
  refine g_iload_n E dX13_nearest_7 rfl rfl rfl ?_
  have hM2 : pMq g1 (.ref mb) 0 tr wh tp fa ac mk [] := ⟨_, h1, rfl, hM_1, hM_2, hM_3, hM_5, hM_6, hM_12, hM_15, hM_16, hM_17, hM_18, hM_19, hM_20, hM_26, hM_28, hM_29, trivial⟩
  have y3 := (hMb.fr  (fun j9 a9 b9 => f1 j9 (by omega)))
  refine g_callV (k := 2000) (n9 := 1) (av := [.int p]) (st := [.ref 2000]) E (ct_X13_isTraveller l p hw hM2 y3) gciX13 dX13_nearest_8 h1 q2209 q2211 qs83 q135 q2212 (by decide +kernel) rfl rfl ⟨by decide, by decide⟩ ⟨by decide, by decide⟩ (Nat.le_of_ble_eq_true rfl) rfl (gPu.k ?_)
  refine g_if_eq E dX13_nearest_11 (tgt := 26) (by decide) rfl (fun c11 => ?_) (fun c11 => ?_)
  · have c11 := zb_0.mp c11
    have q4 := isNone_of c11
    refine g_iconst E (v := 0) dX13_nearest_26 (by decide) rfl ?_
    refine g_iload_n E dX13_nearest_27 rfl rfl rfl ?_
    refine g_callV (k := 2000) (n9 := 2) (av := [.int 0, .int dy]) (st := []) E (ct_X13_asks_F l dy hM2) gciX13 dX13_nearest_28 h1 q2233 q2235 qs87 q135 q2236 (by decide +kernel) rfl rfl ⟨by decide, by decide⟩ ⟨by decide, by decide⟩ (Nat.le_of_ble_eq_true rfl) rfl (gPu.k ?_)
    refine g_istore E dX13_nearest_31 (by decide) rfl (lo1 := [some (.ref 2000), some (.int p), some (.int q), some (.int dy), some (.int 1), none, none, none]) rfl rfl ?_
    refine g_iload E dX13_nearest_33 rfl rfl ?_
    refine g_if_le E dX13_nearest_35 (tgt := 45) (by decide) rfl (fun h9 => absurd h9 (by decide)) (fun _ => ?_)
    refine g_aload_n E dX13_nearest_38 rfl rfl rfl ?_
    refine g_iload E dX13_nearest_39 rfl rfl ?_
    refine g_callV (k := 2000) (n9 := 1) (av := [.int 1]) (st := []) E (ct_X13_refused l 1 hM2) gciX13 dX13_nearest_41 h1 q1846 q1848 qs52 q135 q1849 (by decide +kernel) rfl rfl ⟨by decide, by decide⟩ ⟨by decide, by decide⟩ (Nat.le_of_ble_eq_true rfl) rfl (gPi.k (fun g5 h5 => ?_))
    obtain ⟨hm5, f5⟩ := h5
    have hm5_o := hm5
    obtain ⟨hm5_F, hm5_a, hm5_0, hm5_1, hm5_2, hm5_3, hm5_5, hm5_6, hm5_12, hm5_15, hm5_16, hm5_17, hm5_18, hm5_19, hm5_20, hm5_26, hm5_28, hm5_29, -⟩ := hm5_o
    have hs6 : sNea B R d p q dy = ((-1), 1) := by first | (simp [sNea, sX, c11, q4]; done) | (simp [sNea, sX, c11, q4, qWy]; done)
    have x7 := (f5 (2003) (by omega)).trans ((f1 (2003) (by omega)).trans (hX_a))
    exact g_iret E Rt dX13_nearest_44 rfl (by decide) (by decide) (by rw [hs6]; exact ⟨rfl, ⟨_, hm5_a, hm5_0, hm5_1, hm5_2, hm5_3, hm5_5, hm5_6, hm5_12, hm5_15, hm5_16, hm5_17, hm5_18, hm5_19, hm5_20, hm5_26, hm5_28, hm5_29, trivial⟩, ⟨_, x7⟩, fun j9 h9 => (f5 j9 (by omega)).trans (f1 j9 (by omega))⟩)
  · have c11 := zb_n0.mp c11
    obtain ⟨t, q8⟩ := isSome_of c11
    obtain ⟨rfl, q8_l⟩ := qI_some (by omega) q8
    refine g_aload_n E dX13_nearest_14 rfl rfl rfl ?_
    refine g_iload_n E dX13_nearest_15 rfl rfl rfl ?_
    refine g_callV (k := 2000) (n9 := 1) (av := [.int q]) (st := [.ref 2000]) E (ct_X13_isGate l q hw hM2 y3) gciX13 dX13_nearest_16 h1 q2225 q2227 qs86 q135 q2228 (by decide +kernel) rfl rfl ⟨by decide, by decide⟩ ⟨by decide, by decide⟩ (Nat.le_of_ble_eq_true rfl) rfl (gPu.k ?_)
    refine g_if_eq E dX13_nearest_19 (tgt := 26) (by decide) rfl (fun c19 => ?_) (fun c19 => ?_)
    · have c19 := zb_0.mp c19
      have q9 := isNone_of c19
      refine g_iconst E (v := 0) dX13_nearest_26 (by decide) rfl ?_
      refine g_iload_n E dX13_nearest_27 rfl rfl rfl ?_
      refine g_callV (k := 2000) (n9 := 2) (av := [.int 0, .int dy]) (st := []) E (ct_X13_asks_F l dy hM2) gciX13 dX13_nearest_28 h1 q2233 q2235 qs87 q135 q2236 (by decide +kernel) rfl rfl ⟨by decide, by decide⟩ ⟨by decide, by decide⟩ (Nat.le_of_ble_eq_true rfl) rfl (gPu.k ?_)
      refine g_istore E dX13_nearest_31 (by decide) rfl (lo1 := [some (.ref 2000), some (.int (nI t)), some (.int q), some (.int dy), some (.int 1), none, none, none]) rfl rfl ?_
      refine g_iload E dX13_nearest_33 rfl rfl ?_
      refine g_if_le E dX13_nearest_35 (tgt := 45) (by decide) rfl (fun h9 => absurd h9 (by decide)) (fun _ => ?_)
      refine g_aload_n E dX13_nearest_38 rfl rfl rfl ?_
      refine g_iload E dX13_nearest_39 rfl rfl ?_
      refine g_callV (k := 2000) (n9 := 1) (av := [.int 1]) (st := []) E (ct_X13_refused l 1 hM2) gciX13 dX13_nearest_41 h1 q1846 q1848 qs52 q135 q1849 (by decide +kernel) rfl rfl ⟨by decide, by decide⟩ ⟨by decide, by decide⟩ (Nat.le_of_ble_eq_true rfl) rfl (gPi.k (fun g10 h10 => ?_))
      obtain ⟨hm10, f10⟩ := h10
      have hm10_o := hm10
      obtain ⟨hm10_F, hm10_a, hm10_0, hm10_1, hm10_2, hm10_3, hm10_5, hm10_6, hm10_12, hm10_15, hm10_16, hm10_17, hm10_18, hm10_19, hm10_20, hm10_26, hm10_28, hm10_29, -⟩ := hm10_o
      have hs11 : sNea B R d (nI t) q dy = ((-1), 1) := by first | (simp [sNea, sX, c11, q8, c19, q9]; done) | (simp [sNea, sX, c11, q8, c19, q9, qWy]; done)
      have x12 := (f10 (2003) (by omega)).trans ((f1 (2003) (by omega)).trans (hX_a))
      exact g_iret E Rt dX13_nearest_44 rfl (by decide) (by decide) (by rw [hs11]; exact ⟨rfl, ⟨_, hm10_a, hm10_0, hm10_1, hm10_2, hm10_3, hm10_5, hm10_6, hm10_12, hm10_15, hm10_16, hm10_17, hm10_18, hm10_19, hm10_20, hm10_26, hm10_28, hm10_29, trivial⟩, ⟨_, x12⟩, fun j9 h9 => (f10 j9 (by omega)).trans (f1 j9 (by omega))⟩)
    · have c19 := zb_n0.mp c19
      obtain ⟨k9, q13⟩ := isSome_of c19
      obtain ⟨rfl, q13_l⟩ := qI_some (by omega) q13
      refine g_iconst E (v := 1) dX13_nearest_22 (by decide) rfl ?_
      refine g_goto E dX13_nearest_23 (tgt := 27) (by decide) ?_
      refine g_iload_n E dX13_nearest_27 rfl rfl rfl ?_
      have y14 := (hV.fr  (fun j9 a9 b9 => f1 j9 (by omega)))
      have x15 := (f1 (2003) (by omega)).trans (hX_a)
      refine g_callV (k := 2000) (n9 := 2) (av := [.int 1, .int dy]) (st := []) E (ct_X13_asks l true dy hw hM2 y14 (⟨_, x15⟩)) gciX13 dX13_nearest_28 h1 q2233 q2235 qs87 q135 q2236 (by decide +kernel) rfl rfl ⟨by decide, by decide⟩ ⟨by decide, by decide⟩ (Nat.le_of_ble_eq_true rfl) rfl (gPi.k (fun g16 h16 => ?_))
      obtain ⟨ha16, hx16, f16⟩ := h16
      have hx16_o := hx16
      obtain ⟨hx16_f, hx16_a⟩ := hx16_o
      refine g_istore E dX13_nearest_31 (by decide) rfl (lo1 := [some (.ref 2000), some (.int (nI t)), some (.int (nI k9)), some (.int dy), some (.int (qWy true dy)), none, none, none]) rfl rfl ?_
      refine g_iload E dX13_nearest_33 rfl rfl ?_
      refine g_if_le E dX13_nearest_35 (tgt := 45) (by decide) rfl (fun c35 => ?_) (fun c35 => ?_)
      · have c35 := qWy_le (c35)
        have hr17 := ha16 c35
        have q18 := (qWy_0.mp c35).1
        have q18_z := (qWy_0.mp c35).2
        have hr17_o := hr17
        obtain ⟨hr17_f, hr17_a, hr17_r, hr17_d⟩ := hr17_o
        refine g_aload_n E dX13_nearest_45 rfl rfl rfl ?_
        refine g_aload_n E dX13_nearest_46 rfl rfl rfl ?_
        have x19 := (f16 (2000) (by omega)).trans (h1)
        refine g_getf E gciX13 dX13_nearest_47 x19 16 rfl (by decide) q1756 (.inl rfl) (.ref 2003) (hM_16) rfl ?_
        refine g_iload_n E dX13_nearest_50 rfl rfl rfl ?_
        refine g_iload_n E dX13_nearest_51 rfl rfl rfl ?_
        refine g_iconst E (v := 0) dX13_nearest_52 (by decide) rfl ?_
        have hM20 : pMq g16 (.ref mb) 0 tr wh tp fa ac mk [] := ⟨_, x19, rfl, hM_1, hM_2, hM_3, hM_5, hM_6, hM_12, hM_15, hM_16, hM_17, hM_18, hM_19, hM_20, hM_26, hM_28, hM_29, trivial⟩
        have y21 := (y3.fr  (fun j9 a9 b9 => f16 j9 (by omega)))
        refine g_callV (k := 2000) (n9 := 4) (av := [.ref 2003, .int (nI t), .int (nI k9), .int 0]) (st := []) E (ct_X13_foundIn l t k9 0 hw hM20 y21 hr17 (by omega) (by omega)) gciX13 dX13_nearest_53 x19 q2293 q2295 qs96 q135 q2296 (by decide +kernel) rfl rfl ⟨by decide, by decide⟩ ⟨by decide, by decide⟩ (Nat.le_of_ble_eq_true rfl) rfl (gPu.k ?_)
        refine g_istore E dX13_nearest_56 (by decide) rfl (lo1 := [some (.ref 2000), some (.int (nI t)), some (.int (nI k9)), some (.int dy), some (.int (qWy true dy)), some (.int (zFou B R t k9 (d + dy) 0)), none, none]) rfl rfl ?_
        refine g_bipush E (v := (-2)) dX13_nearest_58 (by decide) rfl ?_
        refine g_istore E dX13_nearest_60 (by decide) rfl (lo1 := [some (.ref 2000), some (.int (nI t)), some (.int (nI k9)), some (.int dy), some (.int (qWy true dy)), some (.int (zFou B R t k9 (d + dy) 0)), some (.int (-2)), none]) rfl rfl ?_
        refine g_iconst E (v := 0) dX13_nearest_62 (by decide) rfl ?_
        refine g_istore E dX13_nearest_63 (by decide) rfl (lo1 := [some (.ref 2000), some (.int (nI t)), some (.int (nI k9)), some (.int dy), some (.int (qWy true dy)), some (.int (zFou B R t k9 (d + dy) 0)), some (.int (-2)), some (.int 0)]) rfl rfl ?_
        have lp65 : ∀ (r9 : Nat) (k : Nat), (k ≤ B 0 3) → (B 0 3 - k < r9) → gV z g16 0 0 65 [some (.ref 2000), some (.int (nI t)), some (.int (nI k9)), some (.int dy), some (.int (qWy true dy)), some (.int (zFou B R t k9 (d + dy) 0)), some (.int (oI (zNe B R t k9 (d + dy) k))), some (.int (nI k))] [] := by
          intro r9
          induction r9 with
          | zero => intro k hk hm; exact absurd hm (Nat.not_lt_zero _)
          | succ r9 ih65 =>
            intro k hk hm
            refine g_iload E dX13_nearest_65 rfl rfl ?_
            refine g_aload_n E dX13_nearest_67 rfl rfl rfl ?_
            refine g_getf E gciX13 dX13_nearest_68 x19 3 rfl (by decide) q1743 (.inl rfl) (.ref mb) (hM_3) rfl ?_
            have x22 := (f16 (mb) (by omega)).trans ((f1 (mb) (by omega)).trans (hMb_a))
            refine g_getfN E gciX27 dX13_nearest_71 x22 5 rfl (by decide) q1862 (.inl rfl) (.int (nI (B 0 3))) (hMb_5) rfl ?_
            refine g_icmp_ge E dX13_nearest_74 (tgt := 159) (by decide) rfl (fun c74 => ?_) (fun c74 => ?_)
            · have c74 := (nI_leI (a := B 0 3) (b := k) (by omega) (by omega)).mp c74
              obtain rfl : k = B 0 3 := by omega
              refine g_aload_n E dX13_nearest_159 rfl rfl rfl ?_
              refine g_iload E dX13_nearest_160 rfl rfl ?_
              refine g_callV (k := 2000) (n9 := 1) (av := [.int (oI (zNe B R t k9 (d + dy) (B 0 3)))]) (st := []) E (ct_X13_fine l (oI (zNe B R t k9 (d + dy) (B 0 3))) hM20) gciX13 dX13_nearest_162 x19 q2181 q2183 qs80 q135 q2184 (by decide +kernel) rfl rfl ⟨by decide, by decide⟩ ⟨by decide, by decide⟩ (Nat.le_of_ble_eq_true rfl) rfl (gPi.k (fun g23 h23 => ?_))
              obtain ⟨hm23, f23⟩ := h23
              have hm23_o := hm23
              obtain ⟨hm23_F, hm23_a, hm23_0, hm23_1, hm23_2, hm23_3, hm23_5, hm23_6, hm23_12, hm23_15, hm23_16, hm23_17, hm23_18, hm23_19, hm23_20, hm23_26, hm23_28, hm23_29, -⟩ := hm23_o
              have hs24 : sNea B R d (nI t) (nI k9) dy = (oI (zNe B R t k9 (d + dy) (B 0 3)), 0) := by first | (simp [sNea, sX, c11, q8, c19, q13, c35, q18_z, c74]; done) | (simp [sNea, sX, c11, q8, c19, q13, c35, q18_z, c74, qWy]; done)
              have x25 := (f23 (2003) (by omega)).trans (hr17_a)
              exact g_iret E Rt dX13_nearest_165 rfl (by decide) (by decide) (by rw [hs24]; exact ⟨rfl, ⟨_, hm23_a, hm23_0, hm23_1, hm23_2, hm23_3, hm23_5, hm23_6, hm23_12, hm23_15, hm23_16, hm23_17, hm23_18, hm23_19, hm23_20, hm23_26, hm23_28, hm23_29, trivial⟩, ⟨_, x25⟩, fun j9 h9 => ((f23 j9 (by omega)).trans (f16 j9 (by omega))).trans (f1 j9 (by omega))⟩)
            · have c74 := mt (nI_leI (a := B 0 3) (b := k) (by omega) (by omega)).mpr c74
              refine g_aload_n E dX13_nearest_77 rfl rfl rfl ?_
              refine g_aload_n E dX13_nearest_78 rfl rfl rfl ?_
              refine g_getf E gciX13 dX13_nearest_79 x19 16 rfl (by decide) q1756 (.inl rfl) (.ref 2003) (hM_16) rfl ?_
              refine g_iload_n E dX13_nearest_82 rfl rfl rfl ?_
              refine g_iload E dX13_nearest_83 rfl rfl ?_
              refine g_callV (k := 2000) (n9 := 3) (av := [.ref 2003, .int (nI t), .int (nI k)]) (st := []) E (ct_X13_hasIn l t k hw hM20 y21 hr17 (by omega) (by omega)) gciX13 dX13_nearest_85 x19 q2217 q2219 qs85 q135 q2220 (by decide +kernel) rfl rfl ⟨by decide, by decide⟩ ⟨by decide, by decide⟩ (Nat.le_of_ble_eq_true rfl) rfl (gPu.k ?_)
              refine g_if_eq E dX13_nearest_88 (tgt := 153) (by decide) rfl (fun c88 => ?_) (fun c88 => ?_)
              · have c88 := zb_0.mp c88
                have h9 : zNe B R t k9 (d + dy) (k + 1) = zNe B R t k9 (d + dy) k := by simp [zNe, zSf, c88]
                refine g_lo (lo1 := [some (.ref 2000), some (.int (nI t)), some (.int (nI k9)), some (.int dy), some (.int (qWy true dy)), some (.int (zFou B R t k9 (d + dy) 0)), some (.int (oI (zNe B R t k9 (d + dy) (k + 1)))), some (.int (nI k))]) (by rw [h9]) ?_
                refine g_iinc E dX13_nearest_153 rfl (v := nI (k + 1)) (nI_c _) (by decide) rfl (lo1 := [some (.ref 2000), some (.int (nI t)), some (.int (nI k9)), some (.int dy), some (.int (qWy true dy)), some (.int (zFou B R t k9 (d + dy) 0)), some (.int (oI (zNe B R t k9 (d + dy) (k + 1)))), some (.int (nI (k + 1)))]) rfl rfl ?_
                refine g_goto E dX13_nearest_156 (tgt := 65) (by decide) ?_
                exact ih65 (k + 1) (by omega) (by omega)
              · have c88 := zb_n0.mp c88
                refine g_aload_n E dX13_nearest_91 rfl rfl rfl ?_
                refine g_aload_n E dX13_nearest_92 rfl rfl rfl ?_
                refine g_getf E gciX13 dX13_nearest_93 x19 16 rfl (by decide) q1756 (.inl rfl) (.ref 2003) (hM_16) rfl ?_
                refine g_iload E dX13_nearest_96 rfl rfl ?_
                refine g_callV (k := 2000) (n9 := 2) (av := [.ref 2003, .int (nI k)]) (st := []) E (ct_X13_isHiddenIn l k hw hM20 y21 hr17 (by omega)) gciX13 dX13_nearest_98 x19 q2201 q2203 qs82 q135 q2204 (by decide +kernel) rfl rfl ⟨by decide, by decide⟩ ⟨by decide, by decide⟩ (Nat.le_of_ble_eq_true rfl) rfl (gPu.k ?_)
                refine g_if_eq E dX13_nearest_101 (tgt := 153) (by decide) rfl (fun c101 => ?_) (fun c101 => ?_)
                · have c101 := zb_0.mp c101
                  have h9 : zNe B R t k9 (d + dy) (k + 1) = zNe B R t k9 (d + dy) k := by simp [zNe, zSf, c88, c101]
                  refine g_lo (lo1 := [some (.ref 2000), some (.int (nI t)), some (.int (nI k9)), some (.int dy), some (.int (qWy true dy)), some (.int (zFou B R t k9 (d + dy) 0)), some (.int (oI (zNe B R t k9 (d + dy) (k + 1)))), some (.int (nI k))]) (by rw [h9]) ?_
                  refine g_iinc E dX13_nearest_153 rfl (v := nI (k + 1)) (nI_c _) (by decide) rfl (lo1 := [some (.ref 2000), some (.int (nI t)), some (.int (nI k9)), some (.int dy), some (.int (qWy true dy)), some (.int (zFou B R t k9 (d + dy) 0)), some (.int (oI (zNe B R t k9 (d + dy) (k + 1)))), some (.int (nI (k + 1)))]) rfl rfl ?_
                  refine g_goto E dX13_nearest_156 (tgt := 65) (by decide) ?_
                  exact ih65 (k + 1) (by omega) (by omega)
                · have c101 := zb_n0.mp c101
                  refine g_iload E dX13_nearest_104 rfl rfl ?_
                  refine g_iload E dX13_nearest_106 rfl rfl ?_
                  refine g_callS (n9 := 2) (av := [.int (zFou B R t k9 (d + dy) 0), .int (nI k)]) (st := []) E (ct_X13_bit l (zFou B R t k9 (d + dy) 0) k) dX13_nearest_108 q2150 q2151 q135 q2152 (by decide +kernel) rfl rfl ⟨by decide, by decide⟩ ⟨by decide, by decide⟩ (Nat.le_of_ble_eq_true rfl) rfl (gPu.k ?_)
                  refine g_as (y := zb (zFp B R t k9 (d + dy) 0 k)) (by rw [zBit_fou (by omega) (by omega)]) ?_
                  refine g_if_eq E dX13_nearest_111 (tgt := 117) (by decide) rfl (fun c111 => ?_) (fun c111 => ?_)
                  · have c111 := zb_0.mp c111
                    refine g_iload E dX13_nearest_117 rfl rfl ?_
                    refine g_bipush E (v := (-2)) dX13_nearest_119 (by decide) rfl ?_
                    refine g_icmp_eq E dX13_nearest_121 (tgt := 149) (by decide) rfl (fun c121 => ?_) (fun c121 => ?_)
                    · have c121 := oI_none (n := k) (by omega) (fun i9 h9 => zNe_lt h9) c121
                      refine g_iload E dX13_nearest_149 rfl rfl ?_
                      refine g_istore E dX13_nearest_151 (by decide) rfl (lo1 := [some (.ref 2000), some (.int (nI t)), some (.int (nI k9)), some (.int dy), some (.int (qWy true dy)), some (.int (zFou B R t k9 (d + dy) 0)), some (.int (nI k)), some (.int (nI k))]) rfl rfl ?_
                      have h9 : zNe B R t k9 (d + dy) (k + 1) = some k := by simp [zNe, zSf, c88, c101, c111, c121]
                      refine g_lo (lo1 := [some (.ref 2000), some (.int (nI t)), some (.int (nI k9)), some (.int dy), some (.int (qWy true dy)), some (.int (zFou B R t k9 (d + dy) 0)), some (.int (oI (zNe B R t k9 (d + dy) (k + 1)))), some (.int (nI k))]) (by rw [h9]; rfl) ?_
                      refine g_iinc E dX13_nearest_153 rfl (v := nI (k + 1)) (nI_c _) (by decide) rfl (lo1 := [some (.ref 2000), some (.int (nI t)), some (.int (nI k9)), some (.int dy), some (.int (qWy true dy)), some (.int (zFou B R t k9 (d + dy) 0)), some (.int (oI (zNe B R t k9 (d + dy) (k + 1)))), some (.int (nI (k + 1)))]) rfl rfl ?_
                      refine g_goto E dX13_nearest_156 (tgt := 65) (by decide) ?_
                      exact ih65 (k + 1) (by omega) (by omega)
                    · obtain ⟨i, hi⟩ := oI_some c121
                      have hil := zNe_lt hi
                      refine g_lo (lo1 := [some (.ref 2000), some (.int (nI t)), some (.int (nI k9)), some (.int dy), some (.int (qWy true dy)), some (.int (zFou B R t k9 (d + dy) 0)), some (.int (nI i)), some (.int (nI k))]) (by rw [hi]; rfl) ?_
                      refine g_aload_n E dX13_nearest_124 rfl rfl rfl ?_
                      refine g_aload_n E dX13_nearest_125 rfl rfl rfl ?_
                      refine g_getf E gciX13 dX13_nearest_126 x19 16 rfl (by decide) q1756 (.inl rfl) (.ref 2003) (hM_16) rfl ?_
                      refine g_iload E dX13_nearest_129 rfl rfl ?_
                      refine g_iconst E (v := 0) dX13_nearest_131 (by decide) rfl ?_
                      refine g_callV (k := 2000) (n9 := 3) (av := [.ref 2003, .int (nI k), .int 0]) (st := []) E (ct_X13_smellIn l k 0 hw hM20 y21 hr17 (by omega)) gciX13 dX13_nearest_132 x19 q2273 q2275 qs93 q135 q2276 (by decide +kernel) rfl rfl ⟨by decide, by decide⟩ ⟨by decide, by decide⟩ (Nat.le_of_ble_eq_true rfl) rfl (gPu.k ?_)
                      refine g_aload_n E dX13_nearest_135 rfl rfl rfl ?_
                      refine g_aload_n E dX13_nearest_136 rfl rfl rfl ?_
                      refine g_getf E gciX13 dX13_nearest_137 x19 16 rfl (by decide) q1756 (.inl rfl) (.ref 2003) (hM_16) rfl ?_
                      refine g_iload E dX13_nearest_140 rfl rfl ?_
                      refine g_iconst E (v := 0) dX13_nearest_142 (by decide) rfl ?_
                      refine g_callV (k := 2000) (n9 := 3) (av := [.ref 2003, .int (nI i), .int 0]) (st := [.int (zSme B R k (d + dy) 0)]) E (ct_X13_smellIn l i 0 hw hM20 y21 hr17 (by omega)) gciX13 dX13_nearest_143 x19 q2273 q2275 qs93 q135 q2276 (by decide +kernel) rfl rfl ⟨by decide, by decide⟩ ⟨by decide, by decide⟩ (Nat.le_of_ble_eq_true rfl) rfl (gPu.k ?_)
                      refine g_icmp_le E dX13_nearest_146 (tgt := 153) (by decide) rfl (fun c146 => ?_) (fun c146 => ?_)
                      · have h9 : zNe B R t k9 (d + dy) (k + 1) = some i := by simp [zNe, zSf, c88, c101, c111, hi, c146]
                        refine g_lo (lo1 := [some (.ref 2000), some (.int (nI t)), some (.int (nI k9)), some (.int dy), some (.int (qWy true dy)), some (.int (zFou B R t k9 (d + dy) 0)), some (.int (oI (zNe B R t k9 (d + dy) (k + 1)))), some (.int (nI k))]) (by rw [h9]; rfl) ?_
                        refine g_iinc E dX13_nearest_153 rfl (v := nI (k + 1)) (nI_c _) (by decide) rfl (lo1 := [some (.ref 2000), some (.int (nI t)), some (.int (nI k9)), some (.int dy), some (.int (qWy true dy)), some (.int (zFou B R t k9 (d + dy) 0)), some (.int (oI (zNe B R t k9 (d + dy) (k + 1)))), some (.int (nI (k + 1)))]) rfl rfl ?_
                        refine g_goto E dX13_nearest_156 (tgt := 65) (by decide) ?_
                        exact ih65 (k + 1) (by omega) (by omega)
                      · refine g_iload E dX13_nearest_149 rfl rfl ?_
                        refine g_istore E dX13_nearest_151 (by decide) rfl (lo1 := [some (.ref 2000), some (.int (nI t)), some (.int (nI k9)), some (.int dy), some (.int (qWy true dy)), some (.int (zFou B R t k9 (d + dy) 0)), some (.int (nI k)), some (.int (nI k))]) rfl rfl ?_
                        have h9 : zNe B R t k9 (d + dy) (k + 1) = some k := by simp [zNe, zSf, c88, c101, c111, hi, c146]
                        refine g_lo (lo1 := [some (.ref 2000), some (.int (nI t)), some (.int (nI k9)), some (.int dy), some (.int (qWy true dy)), some (.int (zFou B R t k9 (d + dy) 0)), some (.int (oI (zNe B R t k9 (d + dy) (k + 1)))), some (.int (nI k))]) (by rw [h9]; rfl) ?_
                        refine g_iinc E dX13_nearest_153 rfl (v := nI (k + 1)) (nI_c _) (by decide) rfl (lo1 := [some (.ref 2000), some (.int (nI t)), some (.int (nI k9)), some (.int dy), some (.int (qWy true dy)), some (.int (zFou B R t k9 (d + dy) 0)), some (.int (oI (zNe B R t k9 (d + dy) (k + 1)))), some (.int (nI (k + 1)))]) rfl rfl ?_
                        refine g_goto E dX13_nearest_156 (tgt := 65) (by decide) ?_
                        exact ih65 (k + 1) (by omega) (by omega)
                  · have c111 := zb_n0.mp c111
                    refine g_goto E dX13_nearest_114 (tgt := 153) (by decide) ?_
                    have h9 : zNe B R t k9 (d + dy) (k + 1) = zNe B R t k9 (d + dy) k := by simp [zNe, zSf, c88, c101, c111]
                    refine g_lo (lo1 := [some (.ref 2000), some (.int (nI t)), some (.int (nI k9)), some (.int dy), some (.int (qWy true dy)), some (.int (zFou B R t k9 (d + dy) 0)), some (.int (oI (zNe B R t k9 (d + dy) (k + 1)))), some (.int (nI k))]) (by rw [h9]) ?_
                    refine g_iinc E dX13_nearest_153 rfl (v := nI (k + 1)) (nI_c _) (by decide) rfl (lo1 := [some (.ref 2000), some (.int (nI t)), some (.int (nI k9)), some (.int dy), some (.int (qWy true dy)), some (.int (zFou B R t k9 (d + dy) 0)), some (.int (oI (zNe B R t k9 (d + dy) (k + 1)))), some (.int (nI (k + 1)))]) rfl rfl ?_
                    refine g_goto E dX13_nearest_156 (tgt := 65) (by decide) ?_
                    exact ih65 (k + 1) (by omega) (by omega)
        exact lp65 ((B 0 3) + 1) 0 (Nat.zero_le _) (Nat.lt_succ_of_le (Nat.sub_le _ _))
      · have c35 := qWy_gt (c35)
        refine g_aload_n E dX13_nearest_38 rfl rfl rfl ?_
        refine g_iload E dX13_nearest_39 rfl rfl ?_
        have x26 := (f16 (2000) (by omega)).trans (h1)
        have hM27 : pMq g16 (.ref mb) 0 tr wh tp fa ac mk [] := ⟨_, x26, rfl, hM_1, hM_2, hM_3, hM_5, hM_6, hM_12, hM_15, hM_16, hM_17, hM_18, hM_19, hM_20, hM_26, hM_28, hM_29, trivial⟩
        refine g_callV (k := 2000) (n9 := 1) (av := [.int (qWy true dy)]) (st := []) E (ct_X13_refused l (qWy true dy) hM27) gciX13 dX13_nearest_41 x26 q1846 q1848 qs52 q135 q1849 (by decide +kernel) rfl rfl ⟨by decide, by decide⟩ ⟨by decide, by decide⟩ (Nat.le_of_ble_eq_true rfl) rfl (gPi.k (fun g28 h28 => ?_))
        obtain ⟨hm28, f28⟩ := h28
        have hm28_o := hm28
        obtain ⟨hm28_F, hm28_a, hm28_0, hm28_1, hm28_2, hm28_3, hm28_5, hm28_6, hm28_12, hm28_15, hm28_16, hm28_17, hm28_18, hm28_19, hm28_20, hm28_26, hm28_28, hm28_29, -⟩ := hm28_o
        have hs29 : sNea B R d (nI t) (nI k9) dy = ((-1), qWy true dy) := by first | (simp [sNea, sX, c11, q8, c19, q13, c35]; done) | (simp [sNea, sX, c11, q8, c19, q13, c35, qWy]; done)
        have x30 := (f28 (2003) (by omega)).trans (hx16_a)
        exact g_iret E Rt dX13_nearest_44 rfl (by decide) (by decide) (by rw [hs29]; exact ⟨rfl, ⟨_, hm28_a, hm28_0, hm28_1, hm28_2, hm28_3, hm28_5, hm28_6, hm28_12, hm28_15, hm28_16, hm28_17, hm28_18, hm28_19, hm28_20, hm28_26, hm28_28, hm28_29, trivial⟩, ⟨_, x30⟩, fun j9 h9 => ((f28 j9 (by omega)).trans (f16 j9 (by omega))).trans (f1 j9 (by omega))⟩)
set_option maxHeartbeats 1000000 in
theorem ct_X13_nearest_N (l : Launch) {g : gWM} {th tr wh fa : Int32} {tp ac mk : Nat} (p : Int32) (q : Int32) (dy : Int32) (hM : pMq g .null th tr wh tp fa ac mk []) : gCt l yX13_nearest cX13_nearest 8 (some .int) 1 0 0 22 [.ref 2000, .int p, .int q, .int dy] g (gPi (sNea zB0 (fun _ => 0) 0 p q dy).1 (fun g1 => pMq g1 .null 0 ((sNea zB0 (fun _ => 0) 0 p q dy).2) (-1) tp fa ac mk [] ∧ ∀ j, j ≠ 2000 → g1 j = g j)) := by
  refine gCt.of RX13 (by decide) rfl (lo := [some (.ref 2000), some (.int p), some (.int q), some (.int dy), none, none, none, none]) 4 rfl (Nat.le_of_ble_eq_true rfl) (fun z E Rt => ?_)
  have hM_o := hM
  obtain ⟨hM_F, hM_a, hM_0, hM_1, hM_2, hM_3, hM_5, hM_6, hM_12, hM_15, hM_16, hM_17, hM_18, hM_19, hM_20, hM_26, hM_28, hM_29, -⟩ := hM_o
  refine g_aload_n E dX13_nearest_0 rfl rfl rfl ?_
  refine g_iconst E (v := 0) dX13_nearest_1 (by decide) rfl ?_
  refine g_putf E gciX13 (v := .int 0) dX13_nearest_2 hM_a 0 rfl (by decide) q1740 (.inl rfl) rfl (fun _ => rfl) (fun _ => rfl) rfl (g_upk (fun g1 h1 f1 => ?_))
  refine g_aload_n E dX13_nearest_5 rfl rfl rfl ?_
  refine g_aload_n E dX13_nearest_6 rfl rfl rfl ?_
  refine g_iload_n E dX13_nearest_7 rfl rfl rfl ?_
  have hM2 : pMq g1 .null 0 tr wh tp fa ac mk [] := ⟨_, h1, rfl, hM_1, hM_2, hM_3, hM_5, hM_6, hM_12, hM_15, hM_16, hM_17, hM_18, hM_19, hM_20, hM_26, hM_28, hM_29, trivial⟩
  refine g_callV (k := 2000) (n9 := 1) (av := [.int p]) (st := [.ref 2000]) E (ct_X13_isTraveller_N l p hM2) gciX13 dX13_nearest_8 h1 q2209 q2211 qs83 q135 q2212 (by decide +kernel) rfl rfl ⟨by decide, by decide⟩ ⟨by decide, by decide⟩ (Nat.le_of_ble_eq_true rfl) rfl (gPu.k ?_)
  refine g_if_eq E dX13_nearest_11 (tgt := 26) (by decide) rfl (fun _ => ?_) (fun h9 => absurd h9 (by decide))
  refine g_iconst E (v := 0) dX13_nearest_26 (by decide) rfl ?_
  refine g_iload_n E dX13_nearest_27 rfl rfl rfl ?_
  refine g_callV (k := 2000) (n9 := 2) (av := [.int 0, .int dy]) (st := []) E (ct_X13_asks_F l dy hM2) gciX13 dX13_nearest_28 h1 q2233 q2235 qs87 q135 q2236 (by decide +kernel) rfl rfl ⟨by decide, by decide⟩ ⟨by decide, by decide⟩ (Nat.le_of_ble_eq_true rfl) rfl (gPu.k ?_)
  refine g_istore E dX13_nearest_31 (by decide) rfl (lo1 := [some (.ref 2000), some (.int p), some (.int q), some (.int dy), some (.int 1), none, none, none]) rfl rfl ?_
  refine g_iload E dX13_nearest_33 rfl rfl ?_
  refine g_if_le E dX13_nearest_35 (tgt := 45) (by decide) rfl (fun h9 => absurd h9 (by decide)) (fun _ => ?_)
  refine g_aload_n E dX13_nearest_38 rfl rfl rfl ?_
  refine g_iload E dX13_nearest_39 rfl rfl ?_
  refine g_callV (k := 2000) (n9 := 1) (av := [.int 1]) (st := []) E (ct_X13_refused l 1 hM2) gciX13 dX13_nearest_41 h1 q1846 q1848 qs52 q135 q1849 (by decide +kernel) rfl rfl ⟨by decide, by decide⟩ ⟨by decide, by decide⟩ (Nat.le_of_ble_eq_true rfl) rfl (gPi.k (fun g3 h3 => ?_))
  obtain ⟨hm3, f3⟩ := h3
  have hm3_o := hm3
  obtain ⟨hm3_F, hm3_a, hm3_0, hm3_1, hm3_2, hm3_3, hm3_5, hm3_6, hm3_12, hm3_15, hm3_16, hm3_17, hm3_18, hm3_19, hm3_20, hm3_26, hm3_28, hm3_29, -⟩ := hm3_o
  have hs4 : sNea zB0 (fun _ => 0) 0 p q dy = ((-1), 1) := by first | (simp [sNea, sX, qI_z, qWy]; done) | (simp [sNea, sX, qI_z, qWy, qWy]; done)
  exact g_iret E Rt dX13_nearest_44 rfl (by decide) (by decide) (by rw [hs4]; exact ⟨rfl, ⟨_, hm3_a, hm3_0, hm3_1, hm3_2, hm3_3, hm3_5, hm3_6, hm3_12, hm3_15, hm3_16, hm3_17, hm3_18, hm3_19, hm3_20, hm3_26, hm3_28, hm3_29, trivial⟩, fun j9 h9 => (f3 j9 (by omega)).trans (f1 j9 (by omega))⟩)
set_option maxHeartbeats 1000000 in
theorem ct_X13_bestGate (l : Launch) {g : gWM} {mb : Nat} {B : gBar} {R : Nat → Int32} {d : Int32} {th tr wh fa : Int32} {tp ac mk : Nat} (p : Int32) (dy : Int32) (hw : wfB B) (hM : pMq g (.ref mb) th tr wh tp fa ac mk []) (hMb : pMb g mb B) (hV : pRw g 2002 B R d) (hX : pIx g 2003 18) (h9 : 10000 ≤ mb) : gCt l yX13_bestGate cX13_bestGate 6 (some .int) 6 0 0 141 [.ref 2000, .int p, .int dy] g (gPi (sBga B R d p dy).1 (fun g1 => pMq g1 (.ref mb) 0 ((sBga B R d p dy).2) (-1) tp fa ac mk [] ∧ pIx g1 2003 18 ∧ ∀ j, (j ≠ 2000 ∧ j ≠ 2003) → g1 j = g j)) := by
  refine gCt.of RX13 (by decide) rfl (lo := [some (.ref 2000), some (.int p), some (.int dy), none, none, none]) 3 rfl (Nat.le_of_ble_eq_true rfl) (fun z E Rt => ?_)
  have hw_n := hw.1
  have hM_o := hM
  obtain ⟨hM_F, hM_a, hM_0, hM_1, hM_2, hM_3, hM_5, hM_6, hM_12, hM_15, hM_16, hM_17, hM_18, hM_19, hM_20, hM_26, hM_28, hM_29, -⟩ := hM_o
  have hMb_o := hMb
  obtain ⟨⟨hMb_F, hMb_a, hMb_0, hMb_1, hMb_2, hMb_3, hMb_4, hMb_5, hMb_6, hMb_7, hMb_8, hMb_9, hMb_11, hMb_12, hMb_13, hMb_14, hMb_15, hMb_16, hMb_17, hMb_18, hMb_19, hMb_20, hMb_21, hMb_22, hMb_23, hMb_24, hMb_25, hMb_26, hMb_27, hMb_28, hMb_29, hMb_30, hMb_31⟩, ⟨hMb_f1, hMb_a1, hMb_b1⟩, ⟨hMb_f2, hMb_a2, hMb_b2⟩, ⟨hMb_f3, hMb_a3, hMb_b3⟩, ⟨hMb_f4, hMb_a4, hMb_b4⟩, ⟨hMb_f5, hMb_a5, hMb_b5⟩, ⟨hMb_f6, hMb_a6, hMb_b6⟩, ⟨hMb_f7, hMb_a7, hMb_b7⟩, ⟨hMb_f8, hMb_a8, hMb_b8⟩, ⟨hMb_f9, hMb_a9, hMb_b9⟩, ⟨hMb_f10, hMb_a10, hMb_b10⟩, ⟨hMb_f11, hMb_a11, hMb_b11⟩, ⟨hMb_f12, hMb_a12, hMb_b12⟩, ⟨hMb_f13, hMb_a13, hMb_b13⟩, ⟨hMb_f14, hMb_a14, hMb_b14⟩, ⟨hMb_f15, hMb_a15, hMb_b15⟩, ⟨hMb_f16, hMb_a16, hMb_b16⟩, ⟨hMb_f17, hMb_a17, hMb_b17⟩, ⟨hMb_f18, hMb_a18, hMb_b18⟩, ⟨hMb_f19, hMb_a19, hMb_b19⟩, ⟨hMb_f20, hMb_a20, hMb_b20⟩, ⟨hMb_f21, hMb_a21, hMb_b21⟩⟩ := hMb_o
  have hV_o := hV
  obtain ⟨hV_f, hV_a, hV_r, hV_d⟩ := hV_o
  have hX_o := hX
  obtain ⟨hX_f, hX_a⟩ := hX_o
  refine g_aload_n E dX13_bestGate_0 rfl rfl rfl ?_
  refine g_iconst E (v := 0) dX13_bestGate_1 (by decide) rfl ?_
  refine g_putf E gciX13 (v := .int 0) dX13_bestGate_2 hM_a 0 rfl (by decide) q1740 (.inl rfl) rfl (fun _ => rfl) (fun _ => rfl) rfl (g_upk (fun g1 h1 f1 => ?_))
  refine g_aload_n E dX13_bestGate_5 rfl rfl rfl ?_
  refine g_aload_n E dX13_bestGate_6 rfl rfl rfl ?_
  refine g_iload_n E dX13_bestGate_7 rfl rfl rfl ?_
  have hM2 : pMq g1 (.ref mb) 0 tr wh tp fa ac mk [] := ⟨_, h1, rfl, hM_1, hM_2, hM_3, hM_5, hM_6, hM_12, hM_15, hM_16, hM_17, hM_18, hM_19, hM_20, hM_26, hM_28, hM_29, trivial⟩
  have y3 := (hMb.fr  (fun j9 a9 b9 => f1 j9 (by omega)))
  refine g_callV (k := 2000) (n9 := 1) (av := [.int p]) (st := [.ref 2000]) E (ct_X13_isTraveller l p hw hM2 y3) gciX13 dX13_bestGate_8 h1 q2209 q2211 qs83 q135 q2212 (by decide +kernel) rfl rfl ⟨by decide, by decide⟩ ⟨by decide, by decide⟩ (Nat.le_of_ble_eq_true rfl) rfl (gPu.k ?_)
  refine g_iload_n E dX13_bestGate_11 rfl rfl rfl ?_
  have y4 := (hV.fr  (fun j9 a9 b9 => f1 j9 (by omega)))
  have x5 := (f1 (2003) (by omega)).trans (hX_a)
  refine g_callV (k := 2000) (n9 := 2) (av := [.int (zb (qI (B 0 1) p).isSome), .int dy]) (st := []) E (ct_X13_asks l ((qI (B 0 1) p).isSome) dy hw hM2 y4 (⟨_, x5⟩)) gciX13 dX13_bestGate_12 h1 q2233 q2235 qs87 q135 q2236 (by decide +kernel) rfl rfl ⟨by decide, by decide⟩ ⟨by decide, by decide⟩ (Nat.le_of_ble_eq_true rfl) rfl (gPi.k (fun g6 h6 => ?_))
  obtain ⟨ha6, hx6, f6⟩ := h6
  have hx6_o := hx6
  obtain ⟨hx6_f, hx6_a⟩ := hx6_o
  refine g_istore_n E dX13_bestGate_15 rfl (by decide) rfl (lo1 := [some (.ref 2000), some (.int p), some (.int dy), some (.int (qWy ((qI (B 0 1) p).isSome) dy)), none, none]) rfl rfl ?_
  refine g_iload_n E dX13_bestGate_16 rfl rfl rfl ?_
  refine g_if_le E dX13_bestGate_17 (tgt := 26) (by decide) rfl (fun c17 => ?_) (fun c17 => ?_)
  · have c17 := qWy_le (c17)
    have hr7 := ha6 c17
    have q8 := (qWy_0.mp c17).1
    have q8_z := (qWy_0.mp c17).2
    obtain ⟨t, q9⟩ := isSome_of q8
    obtain ⟨rfl, q9_l⟩ := qI_some (by omega) q9
    have hr7_o := hr7
    obtain ⟨hr7_f, hr7_a, hr7_r, hr7_d⟩ := hr7_o
    refine g_iconst E (v := 0) dX13_bestGate_26 (by decide) rfl ?_
    refine g_istore E dX13_bestGate_27 (by decide) rfl (lo1 := [some (.ref 2000), some (.int (nI t)), some (.int dy), some (.int (qWy ((qI (B 0 1) (nI t)).isSome) dy)), some (.int 0), none]) rfl rfl ?_
    refine g_iconst E (v := 1) dX13_bestGate_29 (by decide) rfl ?_
    refine g_istore E dX13_bestGate_30 (by decide) rfl (lo1 := [some (.ref 2000), some (.int (nI t)), some (.int dy), some (.int (qWy ((qI (B 0 1) (nI t)).isSome) dy)), some (.int 0), some (.int 1)]) rfl rfl ?_
    have lp32 : ∀ (r9 : Nat) (k : Nat), (k ≤ B 0 2 - 1) → (B 0 2 - k < r9) → gV z g6 0 0 32 [some (.ref 2000), some (.int (nI t)), some (.int dy), some (.int (qWy ((qI (B 0 1) (nI t)).isSome) dy)), some (.int (nI (zLst (fun n7 => zAo B R t n7 1 (d + dy)) k))), some (.int (nI (k + 1)))] [] := by
      intro r9
      induction r9 with
      | zero => intro k hk hm; exact absurd hm (Nat.not_lt_zero _)
      | succ r9 ih32 =>
        intro k hk hm
        refine g_iload E dX13_bestGate_32 rfl rfl ?_
        refine g_aload_n E dX13_bestGate_34 rfl rfl rfl ?_
        have x10 := (f6 (2000) (by omega)).trans (h1)
        refine g_getf E gciX13 dX13_bestGate_35 x10 3 rfl (by decide) q1743 (.inl rfl) (.ref mb) (hM_3) rfl ?_
        have x11 := (f6 (mb) (by omega)).trans ((f1 (mb) (by omega)).trans (hMb_a))
        refine g_getfN E gciX27 dX13_bestGate_38 x11 4 rfl (by decide) q1861 (.inl rfl) (.int (nI (B 0 2))) (hMb_4) rfl ?_
        refine g_icmp_ge E dX13_bestGate_41 (tgt := 79) (by decide) rfl (fun c41 => ?_) (fun c41 => ?_)
        · have c41 := (nI_leI (a := B 0 2) (b := k + 1) (by omega) (by omega)).mp c41
          obtain rfl : k = B 0 2 - 1 := by omega
          refine g_aload_n E dX13_bestGate_79 rfl rfl rfl ?_
          refine g_iload E dX13_bestGate_80 rfl rfl ?_
          have hM12 : pMq g6 (.ref mb) 0 tr wh tp fa ac mk [] := ⟨_, x10, rfl, hM_1, hM_2, hM_3, hM_5, hM_6, hM_12, hM_15, hM_16, hM_17, hM_18, hM_19, hM_20, hM_26, hM_28, hM_29, trivial⟩
          refine g_callV (k := 2000) (n9 := 1) (av := [.int (nI (zLst (fun n7 => zAo B R t n7 1 (d + dy)) (B 0 2 - 1)))]) (st := []) E (ct_X13_fine l (nI (zLst (fun n7 => zAo B R t n7 1 (d + dy)) (B 0 2 - 1))) hM12) gciX13 dX13_bestGate_82 x10 q2181 q2183 qs80 q135 q2184 (by decide +kernel) rfl rfl ⟨by decide, by decide⟩ ⟨by decide, by decide⟩ (Nat.le_of_ble_eq_true rfl) rfl (gPi.k (fun g13 h13 => ?_))
          obtain ⟨hm13, f13⟩ := h13
          have hm13_o := hm13
          obtain ⟨hm13_F, hm13_a, hm13_0, hm13_1, hm13_2, hm13_3, hm13_5, hm13_6, hm13_12, hm13_15, hm13_16, hm13_17, hm13_18, hm13_19, hm13_20, hm13_26, hm13_28, hm13_29, -⟩ := hm13_o
          have hs14 : sBga B R d (nI t) dy = (nI (zLst (fun n7 => zAo B R t n7 1 (d + dy)) (B 0 2 - 1)), 0) := by first | (simp [sBga, sT, c17, q9, q8_z, c41]; done) | (simp [sBga, sT, c17, q9, q8_z, c41, qWy]; done)
          have x15 := (f13 (2003) (by omega)).trans (hr7_a)
          exact g_iret E Rt dX13_bestGate_85 rfl (by decide) (by decide) (by rw [hs14]; exact ⟨rfl, ⟨_, hm13_a, hm13_0, hm13_1, hm13_2, hm13_3, hm13_5, hm13_6, hm13_12, hm13_15, hm13_16, hm13_17, hm13_18, hm13_19, hm13_20, hm13_26, hm13_28, hm13_29, trivial⟩, ⟨_, x15⟩, fun j9 h9 => ((f13 j9 (by omega)).trans (f6 j9 (by omega))).trans (f1 j9 (by omega))⟩)
        · have c41 := mt (nI_leI (a := B 0 2) (b := k + 1) (by omega) (by omega)).mpr c41
          have hz := zLst_le (fun n7 => zAo B R t n7 1 (d + dy)) k
          refine g_aload_n E dX13_bestGate_44 rfl rfl rfl ?_
          refine g_aload_n E dX13_bestGate_45 rfl rfl rfl ?_
          refine g_getf E gciX13 dX13_bestGate_46 x10 16 rfl (by decide) q1756 (.inl rfl) (.ref 2003) (hM_16) rfl ?_
          refine g_iload_n E dX13_bestGate_49 rfl rfl rfl ?_
          refine g_iload E dX13_bestGate_50 rfl rfl ?_
          have hM16 : pMq g6 (.ref mb) 0 tr wh tp fa ac mk [] := ⟨_, x10, rfl, hM_1, hM_2, hM_3, hM_5, hM_6, hM_12, hM_15, hM_16, hM_17, hM_18, hM_19, hM_20, hM_26, hM_28, hM_29, trivial⟩
          have y17 := (y3.fr  (fun j9 a9 b9 => f6 j9 (by omega)))
          refine g_callV (k := 2000) (n9 := 3) (av := [.ref 2003, .int (nI t), .int (nI (k + 1))]) (st := []) E (ct_X13_askedIn l t (k + 1) hw hM16 y17 hr7 (by omega) (by omega)) gciX13 dX13_bestGate_52 x10 q2289 q2291 qs95 q135 q2292 (by decide +kernel) rfl rfl ⟨by decide, by decide⟩ ⟨by decide, by decide⟩ (Nat.le_of_ble_eq_true rfl) rfl (gPu.k ?_)
          refine g_aload_n E dX13_bestGate_55 rfl rfl rfl ?_
          refine g_aload_n E dX13_bestGate_56 rfl rfl rfl ?_
          refine g_getf E gciX13 dX13_bestGate_57 x10 16 rfl (by decide) q1756 (.inl rfl) (.ref 2003) (hM_16) rfl ?_
          refine g_iload_n E dX13_bestGate_60 rfl rfl rfl ?_
          refine g_iload E dX13_bestGate_61 rfl rfl ?_
          refine g_callV (k := 2000) (n9 := 3) (av := [.ref 2003, .int (nI t), .int (nI (zLst (fun n7 => zAo B R t n7 1 (d + dy)) k))]) (st := [.int (zAo B R t (k + 1) 1 (d + dy))]) E (ct_X13_askedIn l t (zLst (fun n7 => zAo B R t n7 1 (d + dy)) k) hw hM16 y17 hr7 (by omega) (by omega)) gciX13 dX13_bestGate_63 x10 q2289 q2291 qs95 q135 q2292 (by decide +kernel) rfl rfl ⟨by decide, by decide⟩ ⟨by decide, by decide⟩ (Nat.le_of_ble_eq_true rfl) rfl (gPu.k ?_)
          refine g_icmp_ge E dX13_bestGate_66 (tgt := 73) (by decide) rfl (fun c66 => ?_) (fun c66 => ?_)
          · refine g_lo (lo1 := [some (.ref 2000), some (.int (nI t)), some (.int dy), some (.int (qWy ((qI (B 0 1) (nI t)).isSome) dy)), some (.int (nI (zLst (fun n7 => zAo B R t n7 1 (d + dy)) (k + 1)))), some (.int (nI (k + 1)))]) (by rw [zLst_f (f := fun n7 => zAo B R t n7 1 (d + dy)) (c66)]) ?_
            refine g_iinc E dX13_bestGate_73 rfl (v := nI (k + 1 + 1)) (nI_c _) (by decide) rfl (lo1 := [some (.ref 2000), some (.int (nI t)), some (.int dy), some (.int (qWy ((qI (B 0 1) (nI t)).isSome) dy)), some (.int (nI (zLst (fun n7 => zAo B R t n7 1 (d + dy)) (k + 1)))), some (.int (nI (k + 1 + 1)))]) rfl rfl ?_
            refine g_goto E dX13_bestGate_76 (tgt := 32) (by decide) ?_
            exact ih32 (k + 1) (by omega) (by omega)
          · refine g_iload E dX13_bestGate_69 rfl rfl ?_
            refine g_istore E dX13_bestGate_71 (by decide) rfl (lo1 := [some (.ref 2000), some (.int (nI t)), some (.int dy), some (.int (qWy ((qI (B 0 1) (nI t)).isSome) dy)), some (.int (nI (k + 1))), some (.int (nI (k + 1)))]) rfl rfl ?_
            refine g_lo (lo1 := [some (.ref 2000), some (.int (nI t)), some (.int dy), some (.int (qWy ((qI (B 0 1) (nI t)).isSome) dy)), some (.int (nI (zLst (fun n7 => zAo B R t n7 1 (d + dy)) (k + 1)))), some (.int (nI (k + 1)))]) (by rw [zLst_t (f := fun n7 => zAo B R t n7 1 (d + dy)) (c66)]) ?_
            refine g_iinc E dX13_bestGate_73 rfl (v := nI (k + 1 + 1)) (nI_c _) (by decide) rfl (lo1 := [some (.ref 2000), some (.int (nI t)), some (.int dy), some (.int (qWy ((qI (B 0 1) (nI t)).isSome) dy)), some (.int (nI (zLst (fun n7 => zAo B R t n7 1 (d + dy)) (k + 1)))), some (.int (nI (k + 1 + 1)))]) rfl rfl ?_
            refine g_goto E dX13_bestGate_76 (tgt := 32) (by decide) ?_
            exact ih32 (k + 1) (by omega) (by omega)
    exact lp32 (B 0 2 + 1) 0 (Nat.zero_le _) (by omega)
  · have c17 := qWy_gt (c17)
    refine g_aload_n E dX13_bestGate_20 rfl rfl rfl ?_
    refine g_iload_n E dX13_bestGate_21 rfl rfl rfl ?_
    have x18 := (f6 (2000) (by omega)).trans (h1)
    have hM19 : pMq g6 (.ref mb) 0 tr wh tp fa ac mk [] := ⟨_, x18, rfl, hM_1, hM_2, hM_3, hM_5, hM_6, hM_12, hM_15, hM_16, hM_17, hM_18, hM_19, hM_20, hM_26, hM_28, hM_29, trivial⟩
    refine g_callV (k := 2000) (n9 := 1) (av := [.int (qWy ((qI (B 0 1) p).isSome) dy)]) (st := []) E (ct_X13_refused l (qWy ((qI (B 0 1) p).isSome) dy) hM19) gciX13 dX13_bestGate_22 x18 q1846 q1848 qs52 q135 q1849 (by decide +kernel) rfl rfl ⟨by decide, by decide⟩ ⟨by decide, by decide⟩ (Nat.le_of_ble_eq_true rfl) rfl (gPi.k (fun g20 h20 => ?_))
    obtain ⟨hm20, f20⟩ := h20
    have hm20_o := hm20
    obtain ⟨hm20_F, hm20_a, hm20_0, hm20_1, hm20_2, hm20_3, hm20_5, hm20_6, hm20_12, hm20_15, hm20_16, hm20_17, hm20_18, hm20_19, hm20_20, hm20_26, hm20_28, hm20_29, -⟩ := hm20_o
    have hs21 : sBga B R d p dy = ((-1), qWy ((qI (B 0 1) p).isSome) dy) := by first | (simp [sBga, sT, c17]; done) | (simp [sBga, sT, c17, qWy]; done)
    have x22 := (f20 (2003) (by omega)).trans (hx6_a)
    exact g_iret E Rt dX13_bestGate_25 rfl (by decide) (by decide) (by rw [hs21]; exact ⟨rfl, ⟨_, hm20_a, hm20_0, hm20_1, hm20_2, hm20_3, hm20_5, hm20_6, hm20_12, hm20_15, hm20_16, hm20_17, hm20_18, hm20_19, hm20_20, hm20_26, hm20_28, hm20_29, trivial⟩, ⟨_, x22⟩, fun j9 h9 => ((f20 j9 (by omega)).trans (f6 j9 (by omega))).trans (f1 j9 (by omega))⟩)
set_option maxHeartbeats 1000000 in
theorem ct_X13_bestGate_N (l : Launch) {g : gWM} {th tr wh fa : Int32} {tp ac mk : Nat} (p : Int32) (dy : Int32) (hM : pMq g .null th tr wh tp fa ac mk []) : gCt l yX13_bestGate cX13_bestGate 6 (some .int) 1 0 0 22 [.ref 2000, .int p, .int dy] g (gPi (sBga zB0 (fun _ => 0) 0 p dy).1 (fun g1 => pMq g1 .null 0 ((sBga zB0 (fun _ => 0) 0 p dy).2) (-1) tp fa ac mk [] ∧ ∀ j, j ≠ 2000 → g1 j = g j)) := by
  refine gCt.of RX13 (by decide) rfl (lo := [some (.ref 2000), some (.int p), some (.int dy), none, none, none]) 3 rfl (Nat.le_of_ble_eq_true rfl) (fun z E Rt => ?_)
  have hM_o := hM
  obtain ⟨hM_F, hM_a, hM_0, hM_1, hM_2, hM_3, hM_5, hM_6, hM_12, hM_15, hM_16, hM_17, hM_18, hM_19, hM_20, hM_26, hM_28, hM_29, -⟩ := hM_o
  refine g_aload_n E dX13_bestGate_0 rfl rfl rfl ?_
  refine g_iconst E (v := 0) dX13_bestGate_1 (by decide) rfl ?_
  refine g_putf E gciX13 (v := .int 0) dX13_bestGate_2 hM_a 0 rfl (by decide) q1740 (.inl rfl) rfl (fun _ => rfl) (fun _ => rfl) rfl (g_upk (fun g1 h1 f1 => ?_))
  refine g_aload_n E dX13_bestGate_5 rfl rfl rfl ?_
  refine g_aload_n E dX13_bestGate_6 rfl rfl rfl ?_
  refine g_iload_n E dX13_bestGate_7 rfl rfl rfl ?_
  have hM2 : pMq g1 .null 0 tr wh tp fa ac mk [] := ⟨_, h1, rfl, hM_1, hM_2, hM_3, hM_5, hM_6, hM_12, hM_15, hM_16, hM_17, hM_18, hM_19, hM_20, hM_26, hM_28, hM_29, trivial⟩
  refine g_callV (k := 2000) (n9 := 1) (av := [.int p]) (st := [.ref 2000]) E (ct_X13_isTraveller_N l p hM2) gciX13 dX13_bestGate_8 h1 q2209 q2211 qs83 q135 q2212 (by decide +kernel) rfl rfl ⟨by decide, by decide⟩ ⟨by decide, by decide⟩ (Nat.le_of_ble_eq_true rfl) rfl (gPu.k ?_)
  refine g_iload_n E dX13_bestGate_11 rfl rfl rfl ?_
  refine g_callV (k := 2000) (n9 := 2) (av := [.int 0, .int dy]) (st := []) E (ct_X13_asks_F l dy hM2) gciX13 dX13_bestGate_12 h1 q2233 q2235 qs87 q135 q2236 (by decide +kernel) rfl rfl ⟨by decide, by decide⟩ ⟨by decide, by decide⟩ (Nat.le_of_ble_eq_true rfl) rfl (gPu.k ?_)
  refine g_istore_n E dX13_bestGate_15 rfl (by decide) rfl (lo1 := [some (.ref 2000), some (.int p), some (.int dy), some (.int 1), none, none]) rfl rfl ?_
  refine g_iload_n E dX13_bestGate_16 rfl rfl rfl ?_
  refine g_if_le E dX13_bestGate_17 (tgt := 26) (by decide) rfl (fun h9 => absurd h9 (by decide)) (fun _ => ?_)
  refine g_aload_n E dX13_bestGate_20 rfl rfl rfl ?_
  refine g_iload_n E dX13_bestGate_21 rfl rfl rfl ?_
  refine g_callV (k := 2000) (n9 := 1) (av := [.int 1]) (st := []) E (ct_X13_refused l 1 hM2) gciX13 dX13_bestGate_22 h1 q1846 q1848 qs52 q135 q1849 (by decide +kernel) rfl rfl ⟨by decide, by decide⟩ ⟨by decide, by decide⟩ (Nat.le_of_ble_eq_true rfl) rfl (gPi.k (fun g3 h3 => ?_))
  obtain ⟨hm3, f3⟩ := h3
  have hm3_o := hm3
  obtain ⟨hm3_F, hm3_a, hm3_0, hm3_1, hm3_2, hm3_3, hm3_5, hm3_6, hm3_12, hm3_15, hm3_16, hm3_17, hm3_18, hm3_19, hm3_20, hm3_26, hm3_28, hm3_29, -⟩ := hm3_o
  have hs4 : sBga zB0 (fun _ => 0) 0 p dy = ((-1), 1) := by first | (simp [sBga, sT, qI_z, qWy]; done) | (simp [sBga, sT, qI_z, qWy, qWy]; done)
  exact g_iret E Rt dX13_bestGate_25 rfl (by decide) (by decide) (by rw [hs4]; exact ⟨rfl, ⟨_, hm3_a, hm3_0, hm3_1, hm3_2, hm3_3, hm3_5, hm3_6, hm3_12, hm3_15, hm3_16, hm3_17, hm3_18, hm3_19, hm3_20, hm3_26, hm3_28, hm3_29, trivial⟩, fun j9 h9 => (f3 j9 (by omega)).trans (f1 j9 (by omega))⟩)
