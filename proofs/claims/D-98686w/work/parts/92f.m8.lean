/-! WALKS, eighth: the plan -/
set_option maxRecDepth 100000
set_option maxHeartbeats 400000 in
theorem ct_X8_drawn (l : Launch) {g : gWM} {co bb lw c9 sd : Nat} {dr : Bool} {B : gBar} {R : Nat → Int32} {sm : Int32} (hw : wfB B) (hc : c9 < B 0 4) (hCo : pCo g co bb lw dr sd sm) (hLd : pLd g (co + 2) (.ref bb) B R 0) (hBr : pBr g bb B) (hX : pCx g (bb + 50 + c9) B c9) (hsd : sd < 65537) (hs : co + 6 ≤ bb) : gCt l yX8_drawn cX8_drawn 5 (some .int) 4 0 0 89 [.ref co, .ref (bb + 50 + c9)] g (gPi (zDr B R (B 19 c9) (nI (B 21 c9)) sd (B 0 3)).1 (fun g1 => pCo g1 co bb lw dr (zDr B R (B 19 c9) (nI (B 21 c9)) sd (B 0 3)).2 sm ∧ ∀ j, j ≠ co → g1 j = g j)) := by
  refine gCt.of RX8 (by decide) rfl (lo := [some (.ref co), some (.ref (bb + 50 + c9)), none, none, none]) 3 rfl (Nat.le_of_ble_eq_true rfl) (fun z E Rt => ?_)
  have hw_n := hw.1
  have hCo_o := hCo
  obtain ⟨hCo_F, hCo_a, hCo_0, hCo_1, hCo_2, hCo_3, hCo_4, hCo_5, hCo_6⟩ := hCo_o
  have hLd_o := hLd
  obtain ⟨⟨hLd_F, hLd_a, hLd_0, hLd_1, hLd_2, hLd_3, hLd_4, hLd_5⟩, ⟨hLd_s, hLd_sa, hLd_sb⟩, ⟨hLd_e, hLd_ea, hLd_eb⟩, hLd_p, hLd_pa, hLd_pb⟩ := hLd_o
  have hBr_o := hBr
  obtain ⟨⟨hBr_F, hBr_a, hBr_0, hBr_1, hBr_2, hBr_3, hBr_4, hBr_5, hBr_6, hBr_7, hBr_8, hBr_9, hBr_10, hBr_11, hBr_12, hBr_13, hBr_14, hBr_15⟩, ⟨hBr_f1, hBr_a1, hBr_b1⟩, ⟨hBr_f2, hBr_a2, hBr_b2⟩, ⟨hBr_f3, hBr_a3, hBr_b3⟩, ⟨hBr_f4, hBr_a4, hBr_b4⟩, ⟨hBr_f5, hBr_a5, hBr_b5⟩, ⟨hBr_f6, hBr_a6, hBr_b6⟩, ⟨hBr_f7, hBr_a7, hBr_b7⟩, hBr_c1, hBr_c2, hBr_c3, hBr_c4, hBr_c5⟩ := hBr_o
  have hX_o := hX
  obtain ⟨hX_F, hX_a, hX_0, hX_1, hX_2, hX_3⟩ := hX_o
  have hX_w := wfB.cross hw (c := c9) (by omega)
  refine g_iconst E (v := 0) dX8_drawn_0 (by decide) rfl ?_
  refine g_istore_n E dX8_drawn_1 rfl (by decide) rfl (lo1 := [some (.ref co), some (.ref (bb + 50 + c9)), some (.int 0), none, none]) rfl rfl ?_
  refine g_aload_n E dX8_drawn_2 rfl rfl rfl ?_
  refine g_getf E gciX8 dX8_drawn_3 hCo_a 0 rfl (by decide) q337 (.inl rfl) (.ref (co + 2)) (hCo_0) rfl ?_
  refine g_aload_n E dX8_drawn_6 rfl rfl rfl ?_
  refine g_getf E gciX26 dX8_drawn_7 hX_a 0 rfl (by decide) q1108 (.inl rfl) (.int (nI (B 19 c9))) (hX_0) rfl ?_
  refine g_callV (k := co + 2) (n9 := 1) (av := [.int (nI (B 19 c9))]) (st := []) E (ct_X4_has l (B 19 c9) hw hLd hBr (by omega)) gciX4 dX8_drawn_10 hLd_a q1159 q1160 q1161 q126 q1162 (by decide +kernel) rfl rfl ⟨by decide, by decide⟩ ⟨by decide, by decide⟩ (Nat.le_of_ble_eq_true rfl) rfl (gPu.k ?_)
  refine g_aload_n E dX8_drawn_13 rfl rfl rfl ?_
  refine g_getf E gciX8 dX8_drawn_14 hCo_a 0 rfl (by decide) q337 (.inl rfl) (.ref (co + 2)) (hCo_0) rfl ?_
  refine g_getf E gciX4 dX8_drawn_17 hLd_a 4 rfl (by decide) q294 (.inl rfl) (.int (R 16)) (hLd_4) rfl ?_
  refine g_iand E dX8_drawn_20 rfl ?_
  refine g_istore_n E dX8_drawn_21 rfl (by decide) rfl (lo1 := [some (.ref co), some (.ref (bb + 50 + c9)), some (.int 0), some (.int ((zHas B R (B 19 c9)) &&& (R 16))), none]) rfl rfl ?_
  refine g_iconst E (v := 0) dX8_drawn_22 (by decide) rfl ?_
  refine g_istore E dX8_drawn_23 (by decide) rfl (lo1 := [some (.ref co), some (.ref (bb + 50 + c9)), some (.int 0), some (.int ((zHas B R (B 19 c9)) &&& (R 16))), some (.int 0)]) rfl rfl ?_
  have lp25 : ∀ (r9 : Nat) (k : Nat) (gw : gWM), (k ≤ B 0 3) → (B 0 3 - k < r9) → (pCo gw co bb lw dr (zDr B R (B 19 c9) (nI (B 21 c9)) sd k).2 sm) → (∀ j, j ≠ co → gw j = g j) → gV z gw 0 0 25 [some (.ref co), some (.ref (bb + 50 + c9)), some (.int ((zDr B R (B 19 c9) (nI (B 21 c9)) sd k).1)), some (.int ((zHas B R (B 19 c9)) &&& (R 16))), some (.int (nI k))] [] := by
    intro r9
    induction r9 with
    | zero => intro k gw hk hm hCw hfw; exact absurd hm (Nat.not_lt_zero _)
    | succ r9 ih25 =>
      intro k gw hk hm hCw hfw
      have hCw_o := hCw
      obtain ⟨hCw_F, hCw_a, hCw_0, hCw_1, hCw_2, hCw_3, hCw_4, hCw_5, hCw_6⟩ := hCw_o
      have hsl := zDr_lt (B := B) (R := R) (t := B 19 c9) (d := nI (B 21 c9)) hsd k
      refine g_iload E dX8_drawn_25 rfl rfl ?_
      refine g_aload_n E dX8_drawn_27 rfl rfl rfl ?_
      refine g_getf E gciX8 dX8_drawn_28 hCw_a 2 rfl (by decide) q339 (.inl rfl) (.ref bb) (hCw_2) rfl ?_
      have x1 := (hfw (bb) (by omega)).trans (hBr_a)
      refine g_getf E gciX14 dX8_drawn_31 x1 12 rfl (by decide) q571 (.inl rfl) (.int (nI (B 0 3))) (hBr_12) rfl ?_
      refine g_icmp_ge E dX8_drawn_34 (tgt := 106) (by decide) rfl (fun c34 => ?_) (fun c34 => ?_)
      · have c34 := (nI_leI (a := B 0 3) (b := k) (by omega) (by omega)).mp c34
        obtain rfl : k = B 0 3 := by omega
        refine g_iload_n E dX8_drawn_106 rfl rfl rfl ?_
        exact g_iret E Rt dX8_drawn_107 rfl (by decide) (by decide) (⟨rfl, hCw, hfw⟩)
      · have c34 := mt (nI_leI (a := B 0 3) (b := k) (by omega) (by omega)).mpr c34
        refine g_iload_n E dX8_drawn_37 rfl rfl rfl ?_
        refine g_iload E dX8_drawn_38 rfl rfl ?_
        refine g_callSN (n9 := 2) (av := [.int ((zHas B R (B 19 c9)) &&& (R 16)), .int (nI k)]) (st := []) E (ct_X1_has l ((zHas B R (B 19 c9)) &&& (R 16)) k) dX8_drawn_40 q1163 q1164 q120 q1165 (by decide +kernel) rfl rfl ⟨by decide, by decide⟩ ⟨by decide, by decide⟩ (Nat.le_of_ble_eq_true rfl) rfl (gPu.k ?_)
        refine g_as (y := zb (zHp B R (B 19 c9) k && zBit (R 16) k)) (by rw [zBit_and (by omega), zBit_has (by omega) (by omega)]) ?_
        refine g_if_ne E dX8_drawn_43 (tgt := 49) (by decide) rfl (fun c43 => ?_) (fun c43 => ?_)
        · have c43 := zb_n0.mp c43
          refine g_aload_n E dX8_drawn_49 rfl rfl rfl ?_
          refine g_bipush E (v := 75) dX8_drawn_50 (by decide) rfl ?_
          refine g_aload_n E dX8_drawn_52 rfl rfl rfl ?_
          refine g_getf E gciX8 dX8_drawn_53 hCw_a 4 rfl (by decide) q341 (.inl rfl) (.int (nI ((zDr B R (B 19 c9) (nI (B 21 c9)) sd k).2))) (hCw_4) rfl ?_
          refine g_imul E dX8_drawn_56 rfl ?_
          refine g_as (y := nI (75 * (zDr B R (B 19 c9) (nI (B 21 c9)) sd k).2)) (pk_mul 75 _) ?_
          refine g_bipush E (v := 74) dX8_drawn_57 (by decide) rfl ?_
          refine g_iadd E dX8_drawn_59 rfl ?_
          refine g_as (y := nI (75 * (zDr B R (B 19 c9) (nI (B 21 c9)) sd k).2 + 74)) (nI_add _ 74) ?_
          refine g_ldc E 65537 dX8_drawn_60 q1166 rfl ?_
          refine g_irem E dX8_drawn_62 (by decide) rfl ?_
          refine g_as (y := nI (zNx (zDr B R (B 19 c9) (nI (B 21 c9)) sd k).2)) (pk_rem (a := 75 * (zDr B R (B 19 c9) (nI (B 21 c9)) sd k).2 + 74) (d := 65537) (by omega) (by decide) (by decide)) ?_
          refine g_putf E gciX8 (v := .int (nI (zNx (zDr B R (B 19 c9) (nI (B 21 c9)) sd k).2))) dX8_drawn_63 hCw_a 4 rfl (by decide) q341 (.inl rfl) rfl (fun _ => rfl) (fun _ => rfl) rfl (g_upk (fun g2 h2 f2 => ?_))
          refine g_iload_n E dX8_drawn_66 rfl rfl rfl ?_
          refine g_aload_n E dX8_drawn_67 rfl rfl rfl ?_
          refine g_getf E gciX8 dX8_drawn_68 h2 4 rfl (by decide) q341 (.inl rfl) (.int (nI (zNx (zDr B R (B 19 c9) (nI (B 21 c9)) sd k).2))) (rfl) rfl ?_
          refine g_bipush E (v := 100) dX8_drawn_71 (by decide) rfl ?_
          refine g_irem E dX8_drawn_73 (by decide) rfl ?_
          refine g_as (y := nI (zNx (zDr B R (B 19 c9) (nI (B 21 c9)) sd k).2 % 100)) (pk_rem (a := zNx (zDr B R (B 19 c9) (nI (B 21 c9)) sd k).2) (d := 100) (by have := Nat.mod_lt (75 * (zDr B R (B 19 c9) (nI (B 21 c9)) sd k).2 + 74) (show 0 < 65537 by decide); unfold zNx; omega) (by decide) (by decide)) ?_
          refine g_aload_n E dX8_drawn_74 rfl rfl rfl ?_
          refine g_getf E gciX8 dX8_drawn_75 h2 0 rfl (by decide) q337 (.inl rfl) (.ref (co + 2)) (hCw_0) rfl ?_
          refine g_iload E dX8_drawn_78 rfl rfl ?_
          refine g_aload_n E dX8_drawn_80 rfl rfl rfl ?_
          have x3 := (f2 (bb + 50 + c9) (by omega)).trans ((hfw (bb + 50 + c9) (by omega)).trans (hX_a))
          refine g_getf E gciX26 dX8_drawn_81 x3 2 rfl (by decide) q1112 (.inl rfl) (.int (nI (B 21 c9))) (hX_2) rfl ?_
          have x4 := (f2 (co + 2) (by omega)).trans ((hfw (co + 2) (by omega)).trans (hLd_a))
          have y5 := ((hLd.fr  (fun j9 a9 b9 => hfw j9 (by omega))).fr  (fun j9 a9 b9 => f2 j9 (by omega)))
          have y6 := ((hBr.fr hw (fun j9 a9 b9 => hfw j9 (by omega))).fr hw (fun j9 a9 b9 => f2 j9 (by omega)))
          refine g_callV (k := co + 2) (n9 := 2) (av := [.int (nI k), .int (nI (B 21 c9))]) (st := [.int (nI (zNx (zDr B R (B 19 c9) (nI (B 21 c9)) sd k).2 % 100)), .int ((zDr B R (B 19 c9) (nI (B 21 c9)) sd k).1)]) E (ct_X4_smell l k (nI (B 21 c9)) hw y5 y6 (by omega)) gciX4 dX8_drawn_84 x4 q1167 q1168 q1169 q126 q1170 (by decide +kernel) rfl rfl ⟨by decide, by decide⟩ ⟨by decide, by decide⟩ (Nat.le_of_ble_eq_true rfl) rfl (gPu.k ?_)
          refine g_icmp_ge E dX8_drawn_87 (tgt := 97) (by decide) rfl (fun c87 => ?_) (fun c87 => ?_)
          · refine g_iconst E (v := 0) dX8_drawn_97 (by decide) rfl ?_
            refine g_ior E dX8_drawn_98 rfl ?_
            refine g_as (y := (zDr B R (B 19 c9) (nI (B 21 c9)) sd (k + 1)).1) (by simp [zDr, c43, c87]) ?_
            refine g_istore_n E dX8_drawn_99 rfl (by decide) rfl (lo1 := [some (.ref co), some (.ref (bb + 50 + c9)), some (.int ((zDr B R (B 19 c9) (nI (B 21 c9)) sd (k + 1)).1)), some (.int ((zHas B R (B 19 c9)) &&& (R 16))), some (.int (nI k))]) rfl rfl ?_
            refine g_iinc E dX8_drawn_100 rfl (v := nI (k + 1)) (nI_c _) (by decide) rfl (lo1 := [some (.ref co), some (.ref (bb + 50 + c9)), some (.int ((zDr B R (B 19 c9) (nI (B 21 c9)) sd (k + 1)).1)), some (.int ((zHas B R (B 19 c9)) &&& (R 16))), some (.int (nI (k + 1)))]) rfl rfl ?_
            refine g_goto E dX8_drawn_103 (tgt := 25) (by decide) ?_
            exact ih25 (k + 1) g2 (by omega) (by omega) (by rw [show (zDr B R (B 19 c9) (nI (B 21 c9)) sd (k + 1)).2 = zNx (zDr B R (B 19 c9) (nI (B 21 c9)) sd k).2 by simp [zDr, c43]]; exact ⟨_, h2, hCw_0, hCw_1, hCw_2, hCw_3, rfl, hCw_5, hCw_6⟩) (fun j9 h9 => (f2 j9 (by omega)).trans (hfw j9 (by omega)))
          · refine g_iconst E (v := 1) dX8_drawn_90 (by decide) rfl ?_
            refine g_iload E dX8_drawn_91 rfl rfl ?_
            refine g_ishl E dX8_drawn_93 rfl ?_
            refine g_goto E dX8_drawn_94 (tgt := 98) (by decide) ?_
            refine g_ior E dX8_drawn_98 rfl ?_
            refine g_as (y := (zDr B R (B 19 c9) (nI (B 21 c9)) sd (k + 1)).1) (by simp [zDr, c43, c87]) ?_
            refine g_istore_n E dX8_drawn_99 rfl (by decide) rfl (lo1 := [some (.ref co), some (.ref (bb + 50 + c9)), some (.int ((zDr B R (B 19 c9) (nI (B 21 c9)) sd (k + 1)).1)), some (.int ((zHas B R (B 19 c9)) &&& (R 16))), some (.int (nI k))]) rfl rfl ?_
            refine g_iinc E dX8_drawn_100 rfl (v := nI (k + 1)) (nI_c _) (by decide) rfl (lo1 := [some (.ref co), some (.ref (bb + 50 + c9)), some (.int ((zDr B R (B 19 c9) (nI (B 21 c9)) sd (k + 1)).1)), some (.int ((zHas B R (B 19 c9)) &&& (R 16))), some (.int (nI (k + 1)))]) rfl rfl ?_
            refine g_goto E dX8_drawn_103 (tgt := 25) (by decide) ?_
            exact ih25 (k + 1) g2 (by omega) (by omega) (by rw [show (zDr B R (B 19 c9) (nI (B 21 c9)) sd (k + 1)).2 = zNx (zDr B R (B 19 c9) (nI (B 21 c9)) sd k).2 by simp [zDr, c43]]; exact ⟨_, h2, hCw_0, hCw_1, hCw_2, hCw_3, rfl, hCw_5, hCw_6⟩) (fun j9 h9 => (f2 j9 (by omega)).trans (hfw j9 (by omega)))
        · have c43 := zb_0.mp c43
          refine g_goto E dX8_drawn_46 (tgt := 100) (by decide) ?_
          refine g_lo (lo1 := [some (.ref co), some (.ref (bb + 50 + c9)), some (.int ((zDr B R (B 19 c9) (nI (B 21 c9)) sd (k + 1)).1)), some (.int ((zHas B R (B 19 c9)) &&& (R 16))), some (.int (nI k))]) (by rw [show zDr B R (B 19 c9) (nI (B 21 c9)) sd (k + 1) = zDr B R (B 19 c9) (nI (B 21 c9)) sd k by simp [zDr, c43]]) ?_
          refine g_iinc E dX8_drawn_100 rfl (v := nI (k + 1)) (nI_c _) (by decide) rfl (lo1 := [some (.ref co), some (.ref (bb + 50 + c9)), some (.int ((zDr B R (B 19 c9) (nI (B 21 c9)) sd (k + 1)).1)), some (.int ((zHas B R (B 19 c9)) &&& (R 16))), some (.int (nI (k + 1)))]) rfl rfl ?_
          refine g_goto E dX8_drawn_103 (tgt := 25) (by decide) ?_
          exact ih25 (k + 1) gw (by omega) (by omega) (by rw [show zDr B R (B 19 c9) (nI (B 21 c9)) sd (k + 1) = zDr B R (B 19 c9) (nI (B 21 c9)) sd k by simp [zDr, c43]]; exact hCw) hfw
  exact lp25 (B 0 3 + 1) 0 g (Nat.zero_le _) (by omega) hCo (fun j9 h9 => rfl)
set_option maxHeartbeats 1000000 in
theorem ct_X8_crosses (l : Launch) {g : gWM} {co bb lw c9 sd : Nat} {dr : Bool} {B : gBar} {R : Nat → Int32} {sm : Int32} (hw : wfB B) (hc : c9 < B 0 4) (hCo : pCo g co bb lw dr sd sm) (hLd : pLd g (co + 2) (.ref bb) B R 0) (hBr : pBr g bb B) (hX : pCx g (bb + 50 + c9) B c9) (hsd : sd < 65537) (hs : co + 6 ≤ bb) (hL : pLw g lw 1) (hs2 : lw < co) : gCt l yX8_crosses cX8_crosses 3 (some .int) 5 0 0 120 [.ref co, .ref (bb + 50 + c9)] g (gPi (zRr B dr R sd c9) (fun g1 => pCo g1 co bb lw dr (zRd B dr R sd c9) sm ∧ pLd g1 (co + 2) (.ref bb) B (zRn B dr R sd c9) 0 ∧ ∀ j, (j < co ∨ co + 6 ≤ j ∨ j = co + 1) → g1 j = g j)) := by
  refine gCt.of RX8 (by decide) rfl (lo := [some (.ref co), some (.ref (bb + 50 + c9)), none]) 1 rfl (Nat.le_of_ble_eq_true rfl) (fun z E Rt => ?_)
  have hw_n := hw.1
  have hCo_o := hCo
  obtain ⟨hCo_F, hCo_a, hCo_0, hCo_1, hCo_2, hCo_3, hCo_4, hCo_5, hCo_6⟩ := hCo_o
  have hLd_o := hLd
  obtain ⟨⟨hLd_F, hLd_a, hLd_0, hLd_1, hLd_2, hLd_3, hLd_4, hLd_5⟩, ⟨hLd_s, hLd_sa, hLd_sb⟩, ⟨hLd_e, hLd_ea, hLd_eb⟩, hLd_p, hLd_pa, hLd_pb⟩ := hLd_o
  have hBr_o := hBr
  obtain ⟨⟨hBr_F, hBr_a, hBr_0, hBr_1, hBr_2, hBr_3, hBr_4, hBr_5, hBr_6, hBr_7, hBr_8, hBr_9, hBr_10, hBr_11, hBr_12, hBr_13, hBr_14, hBr_15⟩, ⟨hBr_f1, hBr_a1, hBr_b1⟩, ⟨hBr_f2, hBr_a2, hBr_b2⟩, ⟨hBr_f3, hBr_a3, hBr_b3⟩, ⟨hBr_f4, hBr_a4, hBr_b4⟩, ⟨hBr_f5, hBr_a5, hBr_b5⟩, ⟨hBr_f6, hBr_a6, hBr_b6⟩, ⟨hBr_f7, hBr_a7, hBr_b7⟩, hBr_c1, hBr_c2, hBr_c3, hBr_c4, hBr_c5⟩ := hBr_o
  have hX_o := hX
  obtain ⟨hX_F, hX_a, hX_0, hX_1, hX_2, hX_3⟩ := hX_o
  have hX_w := wfB.cross hw (c := c9) (by omega)
  refine g_aload_n E dX8_crosses_0 rfl rfl rfl ?_
  refine g_getf E gciX8 dX8_crosses_1 hCo_a 2 rfl (by decide) q339 (.inl rfl) (.ref bb) (hCo_2) rfl ?_
  refine g_getf E gciX14 dX8_crosses_4 hBr_a 2 rfl (by decide) q535 (.inl rfl) (.ref (bb + 3)) (hBr_2) rfl ?_
  refine g_aload_n E dX8_crosses_7 rfl rfl rfl ?_
  refine g_getf E gciX26 dX8_crosses_8 hX_a 1 rfl (by decide) q1110 (.inl rfl) (.int (nI (B 20 c9))) (hX_1) rfl ?_
  refine g_aald E dX8_crosses_11 (j := B 20 c9) hBr_a3 (fun _ => rfl) (rfl) (by omega) (by decide) (b := bb + 30 + (B 20 c9)) (hBr_b3 (B 20 c9) (by omega)) rfl ?_
  have e1_h := pBr.gates hBr (B 20 c9) (by omega)
  obtain ⟨e1_F, e1_a, e1_1, e1_2, e1_3, e1_4⟩ := e1_h
  refine g_astore_n E dX8_crosses_12 rfl (by decide) rfl (lo1 := [some (.ref co), some (.ref (bb + 50 + c9)), some (.ref (bb + 30 + (B 20 c9)))]) rfl rfl ?_
  refine g_aload_n E dX8_crosses_13 rfl rfl rfl ?_
  refine g_getf E gciX26 dX8_crosses_14 hX_a 3 rfl (by decide) q1114 (.inl rfl) (.int (nI (B 22 c9))) (hX_3) rfl ?_
  refine g_aload_n E dX8_crosses_17 rfl rfl rfl ?_
  refine g_getf E gciX18 dX8_crosses_18 e1_a 3 rfl (by decide) q927 (.inl rfl) (.int (nI (B 10 (B 20 c9)))) (e1_3) rfl ?_
  refine g_aload_n E dX8_crosses_21 rfl rfl rfl ?_
  refine g_getf E gciX18 dX8_crosses_22 e1_a 4 rfl (by decide) q930 (.inl rfl) (.int (nI (B 11 (B 20 c9)))) (e1_4) rfl ?_
  refine g_callSN (n9 := 3) (av := [.int (nI (B 22 c9)), .int (nI (B 10 (B 20 c9))), .int (nI (B 11 (B 20 c9)))]) (st := []) E (ct_X1_in l (nI (B 22 c9)) (nI (B 10 (B 20 c9))) (nI (B 11 (B 20 c9)))) dX8_crosses_25 q1154 q501 q120 q502 (by decide +kernel) rfl rfl ⟨by decide, by decide⟩ ⟨by decide, by decide⟩ (Nat.le_of_ble_eq_true rfl) rfl (gPu.k ?_)
  refine g_if_ne E dX8_crosses_28 (tgt := 34) (by decide) rfl (fun c28 => ?_) (fun c28 => ?_)
  · have c28 := zb_n0.mp c28
    refine g_aload_n E dX8_crosses_34 rfl rfl rfl ?_
    refine g_getf E gciX8 dX8_crosses_35 hCo_a 0 rfl (by decide) q337 (.inl rfl) (.ref (co + 2)) (hCo_0) rfl ?_
    refine g_aload_n E dX8_crosses_38 rfl rfl rfl ?_
    refine g_getf E gciX26 dX8_crosses_39 hX_a 0 rfl (by decide) q1108 (.inl rfl) (.int (nI (B 19 c9))) (hX_0) rfl ?_
    refine g_aload_n E dX8_crosses_42 rfl rfl rfl ?_
    refine g_getf E gciX8 dX8_crosses_43 hCo_a 6 rfl (by decide) q343 (.inl rfl) (.int (zb dr)) (hCo_6) rfl ?_
    refine g_if_eq E dX8_crosses_46 (tgt := 57) (by decide) rfl (fun c46 => ?_) (fun c46 => ?_)
    · have c46 := zb_0.mp c46
      refine g_aload_n E dX8_crosses_57 rfl rfl rfl ?_
      refine g_getf E gciX8 dX8_crosses_58 hCo_a 0 rfl (by decide) q337 (.inl rfl) (.ref (co + 2)) (hCo_0) rfl ?_
      refine g_aload_n E dX8_crosses_61 rfl rfl rfl ?_
      refine g_getf E gciX26 dX8_crosses_62 hX_a 0 rfl (by decide) q1108 (.inl rfl) (.int (nI (B 19 c9))) (hX_0) rfl ?_
      refine g_aload_n E dX8_crosses_65 rfl rfl rfl ?_
      refine g_getf E gciX26 dX8_crosses_66 hX_a 1 rfl (by decide) q1110 (.inl rfl) (.int (nI (B 20 c9))) (hX_1) rfl ?_
      refine g_aload_n E dX8_crosses_69 rfl rfl rfl ?_
      refine g_getf E gciX26 dX8_crosses_70 hX_a 2 rfl (by decide) q1112 (.inl rfl) (.int (nI (B 21 c9))) (hX_2) rfl ?_
      refine g_callV (k := co + 2) (n9 := 3) (av := [.int (nI (B 19 c9)), .int (nI (B 20 c9)), .int (nI (B 21 c9))]) (st := [.int (nI (B 19 c9)), .ref (co + 2)]) E (ct_X4_found l (B 19 c9) (B 20 c9) (nI (B 21 c9)) hw hLd hBr (by omega) (by omega)) gciX4 dX8_crosses_73 hLd_a q1233 q1234 q1235 q126 q1236 (by decide +kernel) rfl rfl ⟨by decide, by decide⟩ ⟨by decide, by decide⟩ (Nat.le_of_ble_eq_true rfl) rfl (gPu.k ?_)
      refine g_aload_n E dX8_crosses_76 rfl rfl rfl ?_
      refine g_getf E gciX26 dX8_crosses_77 hX_a 2 rfl (by decide) q1112 (.inl rfl) (.int (nI (B 21 c9))) (hX_2) rfl ?_
      refine g_aload_n E dX8_crosses_80 rfl rfl rfl ?_
      refine g_getf E gciX8 dX8_crosses_81 hCo_a 3 rfl (by decide) q340 (.inl rfl) (.ref lw) (hCo_3) rfl ?_
      refine g_callV (k := co + 2) (n9 := 4) (av := [.int (nI (B 19 c9)), .int (zFou B R (B 19 c9) (B 20 c9) (nI (B 21 c9)) 0), .int (nI (B 21 c9)), .ref lw]) (st := []) E (ct_X4_crosses l (B 19 c9) (zFou B R (B 19 c9) (B 20 c9) (nI (B 21 c9)) 0) (nI (B 21 c9)) hw hLd hBr hL (by omega) (by omega)) gciX4 dX8_crosses_84 hLd_a q1240 q1241 q1242 q126 q1243 (by decide +kernel) rfl rfl ⟨by decide, by decide⟩ ⟨by decide, by decide⟩ (Nat.le_of_ble_eq_true rfl) rfl (gPi.k (fun g2 h2 => ?_))
      obtain ⟨hl2, f2⟩ := h2
      have hl2_o := hl2
      obtain ⟨⟨hl2_F, hl2_a, hl2_0, hl2_1, hl2_2, hl2_3, hl2_4, hl2_5⟩, ⟨hl2_s, hl2_sa, hl2_sb⟩, ⟨hl2_e, hl2_ea, hl2_eb⟩, hl2_p, hl2_pa, hl2_pb⟩ := hl2_o
      have z3a : zRr B dr R sd c9 = zAsk B R (B 19 c9) (zFou B R (B 19 c9) (B 20 c9) (nI (B 21 c9)) 0) 1 (nI (B 21 c9)) := by simp [zRr, zOp, zFd, c28, c46]
      have z3b : zRd B dr R sd c9 = sd := by simp [zRd, zOp, zFd, c28, c46]
      have z3c : zRn B dr R sd c9 = (zCro B R (B 19 c9) (zFou B R (B 19 c9) (B 20 c9) (nI (B 21 c9)) 0) (zAsk B R (B 19 c9) (zFou B R (B 19 c9) (B 20 c9) (nI (B 21 c9)) 0) 1 (nI (B 21 c9)))) := by simp [zRn, zOp, zFd, c28, c46]
      have x4 := (f2 (co) (by omega)).trans (hCo_a)
      exact g_iret E Rt dX8_crosses_87 rfl (by decide) (by decide) (by rw [z3a, z3b, z3c]; exact ⟨rfl, ⟨_, x4, hCo_0, hCo_1, hCo_2, hCo_3, hCo_4, hCo_5, hCo_6⟩, hl2, fun j9 h9 => f2 j9 (by omega)⟩)
    · have c46 := zb_n0.mp c46
      refine g_aload_n E dX8_crosses_49 rfl rfl rfl ?_
      refine g_aload_n E dX8_crosses_50 rfl rfl rfl ?_
      refine g_callV (k := co) (n9 := 1) (av := [.ref (bb + 50 + c9)]) (st := [.int (nI (B 19 c9)), .ref (co + 2)]) E (ct_X8_drawn l hw (by omega) hCo hLd hBr (pBr.cross hBr c9 (by omega)) hsd hs) gciX8 dX8_crosses_51 hCo_a q1155 q1157 qs32 q130 q1158 (by decide +kernel) rfl rfl ⟨by decide, by decide⟩ ⟨by decide, by decide⟩ (Nat.le_of_ble_eq_true rfl) rfl (gPi.k (fun g5 h5 => ?_))
      obtain ⟨hc5, f5⟩ := h5
      have hc5_o := hc5
      obtain ⟨hc5_F, hc5_a, hc5_0, hc5_1, hc5_2, hc5_3, hc5_4, hc5_5, hc5_6⟩ := hc5_o
      refine g_goto E dX8_crosses_54 (tgt := 76) (by decide) ?_
      refine g_aload_n E dX8_crosses_76 rfl rfl rfl ?_
      have x6 := (f5 (bb + 50 + c9) (by omega)).trans (hX_a)
      refine g_getf E gciX26 dX8_crosses_77 x6 2 rfl (by decide) q1112 (.inl rfl) (.int (nI (B 21 c9))) (hX_2) rfl ?_
      refine g_aload_n E dX8_crosses_80 rfl rfl rfl ?_
      refine g_getf E gciX8 dX8_crosses_81 hc5_a 3 rfl (by decide) q340 (.inl rfl) (.ref lw) (hc5_3) rfl ?_
      have x7 := (f5 (co + 2) (by omega)).trans (hLd_a)
      have y8 := (hLd.fr  (fun j9 a9 b9 => f5 j9 (by omega)))
      have y9 := (hBr.fr hw (fun j9 a9 b9 => f5 j9 (by omega)))
      have y10 := (hL.fr  (fun j9 a9 b9 => f5 j9 (by omega)))
      refine g_callV (k := co + 2) (n9 := 4) (av := [.int (nI (B 19 c9)), .int ((zDr B R (B 19 c9) (nI (B 21 c9)) sd (B 0 3)).1), .int (nI (B 21 c9)), .ref lw]) (st := []) E (ct_X4_crosses l (B 19 c9) ((zDr B R (B 19 c9) (nI (B 21 c9)) sd (B 0 3)).1) (nI (B 21 c9)) hw y8 y9 y10 (by omega) (by omega)) gciX4 dX8_crosses_84 x7 q1240 q1241 q1242 q126 q1243 (by decide +kernel) rfl rfl ⟨by decide, by decide⟩ ⟨by decide, by decide⟩ (Nat.le_of_ble_eq_true rfl) rfl (gPi.k (fun g11 h11 => ?_))
      obtain ⟨hl11, f11⟩ := h11
      have hl11_o := hl11
      obtain ⟨⟨hl11_F, hl11_a, hl11_0, hl11_1, hl11_2, hl11_3, hl11_4, hl11_5⟩, ⟨hl11_s, hl11_sa, hl11_sb⟩, ⟨hl11_e, hl11_ea, hl11_eb⟩, hl11_p, hl11_pa, hl11_pb⟩ := hl11_o
      have z12a : zRr B dr R sd c9 = zAsk B R (B 19 c9) ((zDr B R (B 19 c9) (nI (B 21 c9)) sd (B 0 3)).1) 1 (nI (B 21 c9)) := by simp [zRr, zOp, zFd, c28, c46]
      have z12b : zRd B dr R sd c9 = (zDr B R (B 19 c9) (nI (B 21 c9)) sd (B 0 3)).2 := by simp [zRd, zOp, zFd, c28, c46]
      have z12c : zRn B dr R sd c9 = (zCro B R (B 19 c9) ((zDr B R (B 19 c9) (nI (B 21 c9)) sd (B 0 3)).1) (zAsk B R (B 19 c9) ((zDr B R (B 19 c9) (nI (B 21 c9)) sd (B 0 3)).1) 1 (nI (B 21 c9)))) := by simp [zRn, zOp, zFd, c28, c46]
      have x13 := (f11 (co) (by omega)).trans (hc5_a)
      exact g_iret E Rt dX8_crosses_87 rfl (by decide) (by decide) (by rw [z12a, z12b, z12c]; exact ⟨rfl, ⟨_, x13, hc5_0, hc5_1, hc5_2, hc5_3, hc5_4, hc5_5, hc5_6⟩, hl11, fun j9 h9 => (f11 j9 (by omega)).trans (f5 j9 (by omega))⟩)
  · have c28 := zb_0.mp c28
    refine g_bipush E (v := (-2)) dX8_crosses_31 (by decide) rfl ?_
    have z14a : zRr B dr R sd c9 = (-2) := by simp [zRr, zOp, zFd, c28]
    have z14b : zRd B dr R sd c9 = sd := by simp [zRd, zOp, zFd, c28]
    have z14c : zRn B dr R sd c9 = R := by simp [zRn, zOp, zFd, c28]
    exact g_iret E Rt dX8_crosses_33 rfl (by decide) (by decide) (by rw [z14a, z14b, z14c]; exact ⟨rfl, ⟨_, hCo_a, hCo_0, hCo_1, hCo_2, hCo_3, hCo_4, hCo_5, hCo_6⟩, hLd, fun j9 h9 => rfl⟩)
set_option maxHeartbeats 1000000 in
theorem ct_X8_run (l : Launch) {g : gWM} {co bb lw : Nat} (sd : Nat) (dr : Bool) {B : gBar} (hw : wfB B) (hCs : pCs g co) (hBr : pBr g bb B) (hL : pLw g lw 1) (hsd : sd < 65537) (hs : co + 6 ≤ bb) (hs2 : lw < co) : gCt l yX8_run cX8_run 6 (some .int) 6 0 0 142 [.ref co, .ref bb, .ref lw, .int (zb dr), .int (nI sd)] g (gPi (nI (zPl B dr sd (B 0 4)).2.1) (fun g1 => pCo g1 co bb lw dr (zPl B dr sd (B 0 4)).2.1 (zPl B dr sd (B 0 4)).2.2 ∧ pLd g1 (co + 2) (.ref bb) B (zPl B dr sd (B 0 4)).1 0 ∧ pAr g1 (co + 1) B dr sd (B 0 4) ∧ ∀ j, (j < co ∨ co + 6 ≤ j) → g1 j = g j)) := by
  refine gCt.of RX8 (by decide) rfl (lo := [some (.ref co), some (.ref bb), some (.ref lw), some (.int (zb dr)), some (.int (nI sd)), none]) 1 rfl (Nat.le_of_ble_eq_true rfl) (fun z E Rt => ?_)
  have hw_n := hw.1
  have hCs_o := hCs
  obtain ⟨⟨hCs_F, hCs_a, hCs_0, hCs_1⟩, ⟨hCs_f, hCs_b⟩, hCs_l⟩ := hCs_o
  have hCs_l_o := hCs_l
  obtain ⟨⟨hCs_l_F, hCs_l_a, hCs_l_0, hCs_l_1, hCs_l_2⟩, ⟨hCs_l_s, hCs_l_sa⟩, ⟨hCs_l_e, hCs_l_ea⟩, hCs_l_p, hCs_l_pa⟩ := hCs_l_o
  have hBr_o := hBr
  obtain ⟨⟨hBr_F, hBr_a, hBr_0, hBr_1, hBr_2, hBr_3, hBr_4, hBr_5, hBr_6, hBr_7, hBr_8, hBr_9, hBr_10, hBr_11, hBr_12, hBr_13, hBr_14, hBr_15⟩, ⟨hBr_f1, hBr_a1, hBr_b1⟩, ⟨hBr_f2, hBr_a2, hBr_b2⟩, ⟨hBr_f3, hBr_a3, hBr_b3⟩, ⟨hBr_f4, hBr_a4, hBr_b4⟩, ⟨hBr_f5, hBr_a5, hBr_b5⟩, ⟨hBr_f6, hBr_a6, hBr_b6⟩, ⟨hBr_f7, hBr_a7, hBr_b7⟩, hBr_c1, hBr_c2, hBr_c3, hBr_c4, hBr_c5⟩ := hBr_o
  refine g_aload_n E dX8_run_0 rfl rfl rfl ?_
  refine g_aload_n E dX8_run_1 rfl rfl rfl ?_
  refine g_putf E gciX8 (v := .ref bb) dX8_run_2 hCs_a 2 rfl (by decide) q339 (.inl rfl) rfl (fun _ => rfl) (fun _ => rfl) rfl (g_upk (fun g1 h1 f1 => ?_))
  refine g_aload_n E dX8_run_5 rfl rfl rfl ?_
  refine g_aload_n E dX8_run_6 rfl rfl rfl ?_
  refine g_putf E gciX8 (v := .ref lw) dX8_run_7 h1 3 rfl (by decide) q340 (.inl rfl) rfl (fun _ => rfl) (fun _ => rfl) rfl (g_upk (fun g2 h2 f2 => ?_))
  refine g_aload_n E dX8_run_10 rfl rfl rfl ?_
  refine g_iload_n E dX8_run_11 rfl rfl rfl ?_
  refine g_putf E gciX8 (v := .int (zb dr)) dX8_run_12 h2 6 rfl (by decide) q343 (.inl rfl) rfl (fun _ => zb_nar) (fun _ => zb_fit) rfl (g_upk (fun g3 h3 f3 => ?_))
  refine g_aload_n E dX8_run_15 rfl rfl rfl ?_
  refine g_iload E dX8_run_16 rfl rfl ?_
  refine g_putf E gciX8 (v := .int (nI sd)) dX8_run_18 h3 4 rfl (by decide) q341 (.inl rfl) rfl (fun _ => rfl) (fun _ => rfl) rfl (g_upk (fun g4 h4 f4 => ?_))
  refine g_aload_n E dX8_run_21 rfl rfl rfl ?_
  refine g_iconst E (v := 0) dX8_run_22 (by decide) rfl ?_
  refine g_putf E gciX8 (v := .int 0) dX8_run_23 h4 5 rfl (by decide) q342 (.inl rfl) rfl (fun _ => rfl) (fun _ => rfl) rfl (g_upk (fun g5 h5 f5 => ?_))
  refine g_aload_n E dX8_run_26 rfl rfl rfl ?_
  refine g_getf E gciX8 dX8_run_27 h5 0 rfl (by decide) q337 (.inl rfl) (.ref (co + 2)) (hCs_0) rfl ?_
  refine g_aload_n E dX8_run_30 rfl rfl rfl ?_
  have x6 := (f5 (co + 2) (by omega)).trans ((f4 (co + 2) (by omega)).trans ((f3 (co + 2) (by omega)).trans ((f2 (co + 2) (by omega)).trans ((f1 (co + 2) (by omega)).trans (hCs_l_a)))))
  have y7 := (((((hCs_l.fr  (fun j9 a9 b9 => f1 j9 (by omega))).fr  (fun j9 a9 b9 => f2 j9 (by omega))).fr  (fun j9 a9 b9 => f3 j9 (by omega))).fr  (fun j9 a9 b9 => f4 j9 (by omega))).fr  (fun j9 a9 b9 => f5 j9 (by omega)))
  have y8 := (((((hBr.fr hw (fun j9 a9 b9 => f1 j9 (by omega))).fr hw (fun j9 a9 b9 => f2 j9 (by omega))).fr hw (fun j9 a9 b9 => f3 j9 (by omega))).fr hw (fun j9 a9 b9 => f4 j9 (by omega))).fr hw (fun j9 a9 b9 => f5 j9 (by omega)))
  refine g_callV (k := co + 2) (n9 := 1) (av := [.ref bb]) (st := []) E (ct_X4_begin l hw y7 y8 (by omega)) gciX4 dX8_run_31 x6 q1149 q1142 q1143 q126 q1144 (by decide +kernel) rfl rfl ⟨by decide, by decide⟩ ⟨by decide, by decide⟩ (Nat.le_of_ble_eq_true rfl) rfl (gPn.k (fun g9 h9 => ?_))
  obtain ⟨hl9, f9⟩ := h9
  have hl9_o := hl9
  obtain ⟨⟨hl9_F, hl9_a, hl9_0, hl9_1, hl9_2, hl9_3, hl9_4, hl9_5⟩, ⟨hl9_s, hl9_sa, hl9_sb⟩, ⟨hl9_e, hl9_ea, hl9_eb⟩, hl9_p, hl9_pa, hl9_pb⟩ := hl9_o
  refine g_iconst E (v := 0) dX8_run_34 (by decide) rfl ?_
  refine g_istore E dX8_run_35 (by decide) rfl (lo1 := [some (.ref co), some (.ref bb), some (.ref lw), some (.int (zb dr)), some (.int (nI sd)), some (.int 0)]) rfl rfl ?_
  have lp37 : ∀ (r9 : Nat) (k : Nat) (gw : gWM), (k ≤ B 0 4) → (B 0 4 - k < r9) → (pCo gw co bb lw dr (zPl B dr sd k).2.1 (zPl B dr sd k).2.2) → (pLd gw (co + 2) (.ref bb) B (zPl B dr sd k).1 0) → (pAr gw (co + 1) B dr sd k) → (∀ j, (j < co ∨ co + 6 ≤ j) → gw j = g j) → gV z gw 0 0 37 [some (.ref co), some (.ref bb), some (.ref lw), some (.int (zb dr)), some (.int (nI sd)), some (.int (nI k))] [] := by
    intro r9
    induction r9 with
    | zero => intro k gw hk hm hCw hLw hAw hfw; exact absurd hm (Nat.not_lt_zero _)
    | succ r9 ih37 =>
      intro k gw hk hm hCw hLw hAw hfw
      have hCw_o := hCw
      obtain ⟨hCw_F, hCw_a, hCw_0, hCw_1, hCw_2, hCw_3, hCw_4, hCw_5, hCw_6⟩ := hCw_o
      have hLw_o := hLw
      obtain ⟨⟨hLw_F, hLw_a, hLw_0, hLw_1, hLw_2, hLw_3, hLw_4, hLw_5⟩, ⟨hLw_s, hLw_sa, hLw_sb⟩, ⟨hLw_e, hLw_ea, hLw_eb⟩, hLw_p, hLw_pa, hLw_pb⟩ := hLw_o
      have hAw_o := hAw
      obtain ⟨hAw_f, hAw_a, hAw_b⟩ := hAw_o
      have hsl := zPl_lt (B := B) (dr := dr) hsd k
      refine g_iload E dX8_run_37 rfl rfl ?_
      refine g_aload_n E dX8_run_39 rfl rfl rfl ?_
      have x10 := (hfw (bb) (by omega)).trans (hBr_a)
      refine g_getf E gciX14 dX8_run_40 x10 13 rfl (by decide) q574 (.inl rfl) (.int (nI (B 0 4))) (hBr_13) rfl ?_
      refine g_icmp_ge E dX8_run_43 (tgt := 90) (by decide) rfl (fun c43 => ?_) (fun c43 => ?_)
      · have c43 := (nI_leI (a := B 0 4) (b := k) (by omega) (by omega)).mp c43
        obtain rfl : k = B 0 4 := by omega
        have hCw_o := hCw
        obtain ⟨hCw_F, hCw_a, hCw_0, hCw_1, hCw_2, hCw_3, hCw_4, hCw_5, hCw_6⟩ := hCw_o
        have hLw_o := hLw
        obtain ⟨⟨hLw_F, hLw_a, hLw_0, hLw_1, hLw_2, hLw_3, hLw_4, hLw_5⟩, ⟨hLw_s, hLw_sa, hLw_sb⟩, ⟨hLw_e, hLw_ea, hLw_eb⟩, hLw_p, hLw_pa, hLw_pb⟩ := hLw_o
        have hAw_o := hAw
        obtain ⟨hAw_f, hAw_a, hAw_b⟩ := hAw_o
        refine g_aload_n E dX8_run_90 rfl rfl rfl ?_
        refine g_getf E gciX8 dX8_run_91 hCw_a 4 rfl (by decide) q341 (.inl rfl) (.int (nI ((zPl B dr sd (B 0 4)).2.1))) (hCw_4) rfl ?_
        exact g_iret E Rt dX8_run_94 rfl (by decide) (by decide) (⟨rfl, hCw, hLw, hAw, hfw⟩)
      · have c43 := mt (nI_leI (a := B 0 4) (b := k) (by omega) (by omega)).mpr c43
        refine g_aload_n E dX8_run_46 rfl rfl rfl ?_
        refine g_getf E gciX8 dX8_run_47 hCw_a 1 rfl (by decide) q338 (.inl rfl) (.ref (co + 1)) (hCw_1) rfl ?_
        refine g_iload E dX8_run_50 rfl rfl ?_
        refine g_aload_n E dX8_run_52 rfl rfl rfl ?_
        refine g_aload_n E dX8_run_53 rfl rfl rfl ?_
        refine g_getf E gciX14 dX8_run_54 x10 4 rfl (by decide) q545 (.inl rfl) (.ref (bb + 5)) (hBr_4) rfl ?_
        refine g_iload E dX8_run_57 rfl rfl ?_
        have x11 := (hfw (bb + 5) (by omega)).trans (hBr_a5)
        refine g_aald E dX8_run_59 (j := k) x11 (fun _ => rfl) (rfl) (by omega) (by decide) (b := bb + 50 + k) (hBr_b5 k (by omega)) rfl ?_
        have y13 := (hBr.fr hw (fun j9 a9 b9 => hfw j9 (by omega)))
        have e12_h := pBr.cross y13 k (by omega)
        obtain ⟨e12_F, e12_a, e12_0, e12_1, e12_2, e12_3⟩ := e12_h
        have y14 := (hL.fr  (fun j9 a9 b9 => hfw j9 (by omega)))
        refine g_callV (k := co) (n9 := 1) (av := [.ref (bb + 50 + k)]) (st := [.int (nI k), .ref (co + 1)]) E (ct_X8_crosses l hw (by omega) hCw hLw y13 (pBr.cross y13 k (by omega)) hsl hs y14 (by omega)) gciX8 dX8_run_60 hCw_a q1150 q1152 qs31 q130 q1153 (by decide +kernel) rfl rfl ⟨by decide, by decide⟩ ⟨by decide, by decide⟩ (Nat.le_of_ble_eq_true rfl) rfl (gPi.k (fun g15 h15 => ?_))
        obtain ⟨hc15, hl15, f15⟩ := h15
        have hc15_o := hc15
        obtain ⟨hc15_F, hc15_a, hc15_0, hc15_1, hc15_2, hc15_3, hc15_4, hc15_5, hc15_6⟩ := hc15_o
        have hl15_o := hl15
        obtain ⟨⟨hl15_F, hl15_a, hl15_0, hl15_1, hl15_2, hl15_3, hl15_4, hl15_5⟩, ⟨hl15_s, hl15_sa, hl15_sb⟩, ⟨hl15_e, hl15_ea, hl15_eb⟩, hl15_p, hl15_pa, hl15_pb⟩ := hl15_o
        have x16 := (f15 (co + 1) (by omega)).trans (hAw_a)
        refine g_iast E dX8_run_63 (j := k) x16 (rfl) (by omega) (by decide) rfl (g_upk (fun g17 h17 f17 => ?_))
        refine g_aload_n E dX8_run_64 rfl rfl rfl ?_
        refine g_dup E dX8_run_65 rfl rfl ?_
        have x18 := (f17 (co) (by omega)).trans (hc15_a)
        refine g_getf E gciX8 dX8_run_66 x18 5 rfl (by decide) q342 (.inl rfl) (.int ((zPl B dr sd k).2.2)) (hc15_5) rfl ?_
        refine g_iconst E (v := 0) dX8_run_69 (by decide) rfl ?_
        refine g_aload_n E dX8_run_70 rfl rfl rfl ?_
        refine g_getf E gciX8 dX8_run_71 x18 1 rfl (by decide) q338 (.inl rfl) (.ref (co + 1)) (hc15_1) rfl ?_
        refine g_iload E dX8_run_74 rfl rfl ?_
        refine g_iald E dX8_run_76 (j := k) h17 (rfl) (by omega) (by decide) (v := (upd hAw_f k (zRr B dr ((zPl B dr sd k).1) ((zPl B dr sd k).2.1) k)) k) (rfl) rfl ?_
        refine g_as (y := zRs B dr sd k) (if_pos rfl) ?_
        refine g_mmax E dX8_run_77 q1270 q1231 q154 q1232 ⟨by decide, by decide⟩ (by decide) (by decide) (Nat.le_of_ble_eq_true rfl) rfl ?_
        refine g_as (y := zPos (zRs B dr sd k)) (rfl) ?_
        refine g_iadd E dX8_run_80 rfl ?_
        refine g_putf E gciX8 (v := .int (((zPl B dr sd k).2.2) + (zPos (zRs B dr sd k)))) dX8_run_81 x18 5 rfl (by decide) q342 (.inl rfl) rfl (fun _ => rfl) (fun _ => rfl) rfl (g_upk (fun g19 h19 f19 => ?_))
        refine g_iinc E dX8_run_84 rfl (v := nI (k + 1)) (nI_c _) (by decide) rfl (lo1 := [some (.ref co), some (.ref bb), some (.ref lw), some (.int (zb dr)), some (.int (nI sd)), some (.int (nI (k + 1)))]) rfl rfl ?_
        refine g_goto E dX8_run_87 (tgt := 37) (by decide) ?_
        have x20 := (f19 (co + 1) (by omega)).trans (h17)
        have y21 := ((hl15.fr  (fun j9 a9 b9 => f17 j9 (by omega))).fr  (fun j9 a9 b9 => f19 j9 (by omega)))
        exact ih37 (k + 1) g19 (by omega) (by omega) (⟨_, h19, hc15_0, hc15_1, hc15_2, hc15_3, hc15_4, rfl, hc15_6⟩) y21 (pAr.up hAw_b x20) (fun j9 h9 => (((f19 j9 (by omega)).trans (f17 j9 (by omega))).trans (f15 j9 (by omega))).trans (hfw j9 (by omega)))
  have x22 := (f9 (co + 1) (by omega)).trans ((f5 (co + 1) (by omega)).trans ((f4 (co + 1) (by omega)).trans ((f3 (co + 1) (by omega)).trans ((f2 (co + 1) (by omega)).trans ((f1 (co + 1) (by omega)).trans (hCs_b))))))
  have x23 := (f9 (co) (by omega)).trans (h5)
  exact lp37 (B 0 4 + 1) 0 g9 (Nat.zero_le _) (by omega) (⟨_, x23, hCs_0, hCs_1, rfl, rfl, rfl, rfl, rfl⟩) hl9 (⟨_, x22, fun i9 h9 => absurd h9 (Nat.not_lt_zero i9)⟩) (fun j9 h9 => (((((f9 j9 (by omega)).trans (f5 j9 (by omega))).trans (f4 j9 (by omega))).trans (f3 j9 (by omega))).trans (f2 j9 (by omega))).trans (f1 j9 (by omega)))
set_option maxHeartbeats 400000 in
theorem ct_X8_asked (l : Launch) {g : gWM} {co bb lw sd sd2 k : Nat} {dr dr2 : Bool} {B : gBar} {sm : Int32} (i : Nat) (hCo : pCo g co bb lw dr2 sd2 sm) (hA : pAr g (co + 1) B dr sd k) (hi : i < k) (hk6 : k ≤ 6) : gCt l yX8_asked cX8_asked 2 (some .int) 0 0 0 0 [.ref co, .int (nI i)] g (gPu (.int (zRs B dr sd i)) g) := by
  refine gCt.of RX8 (by decide) rfl (lo := [some (.ref co), some (.int (nI i))]) 0 rfl (Nat.le_of_ble_eq_true rfl) (fun z E Rt => ?_)
  have hCo_o := hCo
  obtain ⟨hCo_F, hCo_a, hCo_0, hCo_1, hCo_2, hCo_3, hCo_4, hCo_5, hCo_6⟩ := hCo_o
  have hA_o := hA
  obtain ⟨hA_f, hA_a, hA_b⟩ := hA_o
  refine g_aload_n E dX8_asked_0 rfl rfl rfl ?_
  refine g_getf E gciX8 dX8_asked_1 hCo_a 1 rfl (by decide) q338 (.inl rfl) (.ref (co + 1)) (hCo_1) rfl ?_
  refine g_iload_n E dX8_asked_4 rfl rfl rfl ?_
  refine g_iald E dX8_asked_5 (j := i) hA_a (rfl) (by omega) (by decide) (v := zRs B dr sd i) (hA_b i (by omega)) rfl ?_
  exact g_iret E Rt dX8_asked_6 rfl (by decide) (by decide) (⟨rfl, rfl⟩)
set_option maxHeartbeats 400000 in
theorem ct_X8_sum (l : Launch) {g : gWM} {co bb lw sd : Nat} {dr : Bool} {sm : Int32} (hCo : pCo g co bb lw dr sd sm) : gCt l yX8_sum cX8_sum 1 (some .int) 0 0 0 0 [.ref co] g (gPu (.int sm) g) := by
  refine gCt.of RX8 (by decide) rfl (lo := [some (.ref co)]) 0 rfl (Nat.le_of_ble_eq_true rfl) (fun z E Rt => ?_)
  have hCo_o := hCo
  obtain ⟨hCo_F, hCo_a, hCo_0, hCo_1, hCo_2, hCo_3, hCo_4, hCo_5, hCo_6⟩ := hCo_o
  refine g_aload_n E dX8_sum_0 rfl rfl rfl ?_
  refine g_getf E gciX8 dX8_sum_1 hCo_a 5 rfl (by decide) q342 (.inl rfl) (.int sm) (hCo_5) rfl ?_
  exact g_iret E Rt dX8_sum_4 rfl (by decide) (by decide) (⟨rfl, rfl⟩)
set_option maxHeartbeats 400000 in
theorem ct_X8_all (l : Launch) {g : gWM} {co bb lw sd : Nat} {dr : Bool} {B : gBar} {R : Nat → Int32} {sm : Int32} (c : Int32) (hw : wfB B) (hCo : pCo g co bb lw dr sd sm) (hLd : pLd g (co + 2) (.ref bb) B R 0) (hBr : pBr g bb B) : gCt l yX8_all cX8_all 2 (some .int) 1 0 0 23 [.ref co, .int c] g (gPu (.int (zAll B R c)) g) := by
  refine gCt.of RX8 (by decide) rfl (lo := [some (.ref co), some (.int c)]) 0 rfl (Nat.le_of_ble_eq_true rfl) (fun z E Rt => ?_)
  have hw_n := hw.1
  have hCo_o := hCo
  obtain ⟨hCo_F, hCo_a, hCo_0, hCo_1, hCo_2, hCo_3, hCo_4, hCo_5, hCo_6⟩ := hCo_o
  have hLd_o := hLd
  obtain ⟨⟨hLd_F, hLd_a, hLd_0, hLd_1, hLd_2, hLd_3, hLd_4, hLd_5⟩, ⟨hLd_s, hLd_sa, hLd_sb⟩, ⟨hLd_e, hLd_ea, hLd_eb⟩, hLd_p, hLd_pa, hLd_pb⟩ := hLd_o
  have hBr_o := hBr
  obtain ⟨⟨hBr_F, hBr_a, hBr_0, hBr_1, hBr_2, hBr_3, hBr_4, hBr_5, hBr_6, hBr_7, hBr_8, hBr_9, hBr_10, hBr_11, hBr_12, hBr_13, hBr_14, hBr_15⟩, ⟨hBr_f1, hBr_a1, hBr_b1⟩, ⟨hBr_f2, hBr_a2, hBr_b2⟩, ⟨hBr_f3, hBr_a3, hBr_b3⟩, ⟨hBr_f4, hBr_a4, hBr_b4⟩, ⟨hBr_f5, hBr_a5, hBr_b5⟩, ⟨hBr_f6, hBr_a6, hBr_b6⟩, ⟨hBr_f7, hBr_a7, hBr_b7⟩, hBr_c1, hBr_c2, hBr_c3, hBr_c4, hBr_c5⟩ := hBr_o
  refine g_aload_n E dX8_all_0 rfl rfl rfl ?_
  refine g_getf E gciX8 dX8_all_1 hCo_a 0 rfl (by decide) q337 (.inl rfl) (.ref (co + 2)) (hCo_0) rfl ?_
  refine g_iload_n E dX8_all_4 rfl rfl rfl ?_
  refine g_callV (k := co + 2) (n9 := 1) (av := [.int c]) (st := []) E (ct_X4_all l c hw hLd hBr) gciX4 dX8_all_5 hLd_a q1591 q1592 q1593 q126 q1594 (by decide +kernel) rfl rfl ⟨by decide, by decide⟩ ⟨by decide, by decide⟩ (Nat.le_of_ble_eq_true rfl) rfl (gPu.k ?_)
  exact g_iret E Rt dX8_all_8 rfl (by decide) (by decide) (⟨rfl, rfl⟩)
