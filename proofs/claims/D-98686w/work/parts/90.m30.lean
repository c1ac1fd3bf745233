/-! WALKS, thirtieth: a line -/
set_option maxRecDepth 100000
set_option maxHeartbeats 4000000 in
theorem ct_X2_line (l : Launch) {g : gWM} {n bb M N : Nat} {t : zTk} {T : Nat → Int32} {B : gBar} {Nm : zNm} (hT : pTk g n bb t M N T) (hn : n ≤ 1100) (hok : zOk n t) (hbb : 10000 ≤ bb) (hM : bb + 100 ≤ M) (hMN : M ≤ N) (hw : wfB B) (hQ : pBq g bb B Nm M) (hnl : ∀ s k, s < 4 → k < B 0 s → (Nm s k).length < 1000) (hx : zXs B) (hS9 : pSl g bb B) : gXt l yX2_line cX2_line 3 none 10 33 216 229 [.ref 1002] g (gPe (zLn T n (t, B, Nm)) (fun _ => none) (fun P g1 => pLl g1 g n bb P M T)) (fun g1 => ∃ e, zLn T n (t, B, Nm) = .inl e ∧ pXx g1 g bb e) := by
  refine gXt.of RX2 (by decide) rfl (lo := [some (.ref 1002), none, none]) 2 rfl (Nat.le_of_ble_eq_true rfl) (fun z E Rx => ?_)
  have hT_o := hT
  obtain ⟨⟨hT_F, hT_a, hT_0, hT_1, hT_2, hT_3, hT_4, hT_5, hT_6, hT_7, hT_8, hT_9⟩, hT_s, ⟨hT_G, hT_b⟩, ⟨hT_l, hT_c⟩, hT_t, hT_z⟩ := hT_o
  have hT_t_o := hT_t
  obtain ⟨hT_t_f, hT_t_a, hT_t_b⟩ := hT_t_o
  have hw_n := hw.1
  have hQ_r := hQ.1
  have hQ_n := hQ.2.2
  have hQ_r_o := hQ_r
  obtain ⟨⟨hQ_r_F, hQ_r_a, hQ_r_0, hQ_r_1, hQ_r_2, hQ_r_3, hQ_r_4, hQ_r_5, hQ_r_6, hQ_r_7, hQ_r_8, hQ_r_9, hQ_r_10, hQ_r_11, hQ_r_12, hQ_r_13, hQ_r_14, hQ_r_15⟩, ⟨hQ_r_f1, hQ_r_a1, hQ_r_b1⟩, ⟨hQ_r_f2, hQ_r_a2, hQ_r_b2⟩, ⟨hQ_r_f3, hQ_r_a3, hQ_r_b3⟩, ⟨hQ_r_f4, hQ_r_a4, hQ_r_b4⟩, ⟨hQ_r_f5, hQ_r_a5, hQ_r_b5⟩, ⟨hQ_r_f6, hQ_r_a6, hQ_r_b6⟩, ⟨hQ_r_f7, hQ_r_a7, hQ_r_b7⟩, hQ_r_c1, hQ_r_c2, hQ_r_c3, hQ_r_c4, hQ_r_c5⟩ := hQ_r_o
  obtain ⟨hQ_G, hQ_ga, hQ_gb⟩ := hQ.2.1
  obtain rfl := inj_obj hQ_r_a hQ_ga
  have hok_o := hok
  obtain ⟨hok_1, hok_2, hok_3, hok_4, hok_5⟩ := hok_o
  have hx9 : B 0 9 ≤ 1 := hx.2.2
  refine g_aload_n E dX2_line_0 rfl rfl rfl ?_
  refine g_getf E gciX2 dX2_line_1 hT_a 5 rfl (by decide) q251 (.inl rfl) (.int (nI (t.2.1))) (hT_5) rfl ?_
  refine g_iconst E (v := 2) dX2_line_4 (by decide) rfl ?_
  refine g_icmp_eq E dX2_line_5 (tgt := 14) (by decide) rfl (fun c5 => ?_) (fun c5 => ?_)
  · have c5 := (nI_eq (a := t.2.1) (b := 2) (by omega) (by omega)).mp c5
    have hW1 := hT_s c5
    have hW1_1 := hW1.1
    have hW1_2 := hW1.2
    have hW1_w := hok.2.2.2.1 c5
    have hW1_wl := hW1_w.2.1
    have hW1_1_o := hW1_1
    obtain ⟨hW1_1_F, hW1_1_h, hW1_1_iz, hW1_1_a, hW1_1_0, hW1_1_1, hW1_1_2, hW1_1_3, hW1_1_4, hW1_1_5, hW1_1_f, hW1_1_b, hW1_1_c⟩ := hW1_1_o
    refine g_aload_n E dX2_line_14 rfl rfl rfl ?_
    refine g_getf E gciX2 dX2_line_15 hT_a 8 rfl (by decide) q254 (.inl rfl) (.ref M) (hT_8 c5) rfl ?_
    refine g_astore_n E dX2_line_18 rfl (by decide) rfl (lo1 := [some (.ref 1002), some (.ref M), none]) rfl rfl ?_
    refine g_iconst E (v := (-1)) dX2_line_19 (by decide) rfl ?_
    refine g_istore_n E dX2_line_20 rfl (by decide) rfl (lo1 := [some (.ref 1002), some (.ref M), some (.int (-1))]) rfl rfl ?_
    refine g_aload_n E dX2_line_21 rfl rfl rfl ?_
    refine g_callV (k := M) (n9 := 0) (av := []) (st := []) E (ct_J3_hashCode l hW1_1 (by omega)) gciJ3 dX2_line_22 hW1_1_a q724 q725 q726 q137 q727 (by decide +kernel) rfl rfl ⟨by decide, by decide⟩ ⟨by decide, by decide⟩ (Nat.le_of_ble_eq_true rfl) rfl (gPi.k (fun g2 h2 => ?_))
    obtain ⟨hst2, f2⟩ := h2
    have hst2_o := hst2
    obtain ⟨hst2_F, hst2_h, hst2_iz, hst2_a, hst2_0, hst2_1, hst2_2, hst2_3, hst2_4, hst2_5, hst2_f, hst2_b, hst2_c⟩ := hst2_o
    by_cases l25_0 : zHs t.2.2.2.2 = (-333143113)
    · refine g_lookup E dX2_line_25 (by decide) (by rw [l25_0] <;> rfl) (tgt := 108) (by decide) ?_
      refine g_aload_n E dX2_line_108 rfl rfl rfl ?_
      refine g_ldcS E (j := 1) (tx := "barrier") rfl dX2_line_109 rfl ?_
      refine g_callV (k := M) (n9 := 1) (av := [.ref (1 + 2 * 1)]) (st := []) E (ct_J3_equals_L l hst2 (by omega) rfl) gciJ3 dX2_line_111 hst2_a q778 q779 q780 q137 q781 (by decide +kernel) rfl rfl ⟨by decide, by decide⟩ ⟨by decide, by decide⟩ (Nat.le_of_ble_eq_true rfl) rfl (gPu.k ?_)
      refine g_if_eq E dX2_line_114 (tgt := 234) (by decide) rfl (fun c114 => ?_) (fun c114 => ?_)
      · have c114 := zb_0.mp c114
        refine g_iload_n E dX2_line_234 rfl rfl rfl ?_
        refine g_tabOut E dX2_line_235 (by decide) (tgt := 347) (by decide) ?_
        refine g_aload_n E dX2_line_347 rfl rfl rfl ?_
        refine g_iconst E (v := 1) dX2_line_348 (by decide) rfl ?_
        have x3 := (f2 (1002) (by omega)).trans (hT_a)
        have x4 := (f2 (1003) (by omega)).trans (hT_b)
        refine g_callV (k := 1002) (n9 := 1) (av := [.int 1]) (st := []) E (ct_X2_fail l 1 (⟨_, x3, hT_0, hT_6⟩) (⟨_, x4⟩)) gciX2 dX2_line_349 x3 q716 q718 qs7 q121 q719 (by decide +kernel) rfl rfl ⟨by decide, by decide⟩ ⟨by decide, by decide⟩ (Nat.le_of_ble_eq_true rfl) rfl (gPr.k (fun g5 h5 => ?_))
        obtain ⟨⟨F5, h5, h5a, h5b⟩, f5⟩ := h5
        have x6 := (f5 (1002) (by omega)).trans (x3)
        have x7 := (f5 (1004) (by omega)).trans ((f2 (1004) (by omega)).trans (hT_c))
        exact g_athrow E Rx dX2_line_352 h5 (by decide) (by decide) (⟨(1, t.2.2.1), zLn_x c5 (lws_no l25_0 (by decide +kernel) (of_decide_eq_false c114)), ⟨⟨_, h5, h5a, h5b⟩, ⟨_, x6, hT_0, hT_1, hT_2⟩, ⟨_, x7⟩, ⟨N, by omega, fun j9 a9 => (f5 j9 (by omega)).trans ((f2 j9 (by omega)).trans (hT_z j9 (by omega)))⟩, fun j9 h9 => (f5 j9 (by omega)).trans (f2 j9 (by omega))⟩⟩)
      · have c114 := zb_n0.mp c114
        refine g_iconst E (v := 0) dX2_line_117 (by decide) rfl ?_
        refine g_istore_n E dX2_line_118 rfl (by decide) rfl (lo1 := [some (.ref 1002), some (.ref M), some (.int 0)]) rfl rfl ?_
        refine g_goto E dX2_line_119 (tgt := 234) (by decide) ?_
        refine g_iload_n E dX2_line_234 rfl rfl rfl ?_
        refine g_tabIn E dX2_line_235 (by decide) (by decide) (off := 49) (by rfl) (tgt := 284) (by decide) ?_
        refine g_aload_n E dX2_line_284 rfl rfl rfl ?_
        have x8 := (f2 (1002) (by omega)).trans (hT_a)
        have x10 := (f2 (1003) (by omega)).trans (hT_b)
        have x11 := (f2 (1004) (by omega)).trans (hT_c)
        have y12 := (hT_t.fr  (fun j9 a9 b9 => f2 j9 (by omega)))
        have hT9 : pTk g2 n bb t M N T := ⟨⟨_, x8, hT_0, hT_1, hT_2, hT_3, hT_4, hT_5, hT_6, hT_7, hT_8, hT_9⟩, (fun _ => ⟨hst2, hW1.2⟩), ⟨_, x10⟩, ⟨_, x11⟩, y12, fun j9 a9 => (f2 j9 (by omega)).trans (hT_z j9 (by omega))⟩
        have y13 := (hQ.fr hw (by omega) (fun j9 a9 b9 => f2 j9 (by omega)))
        have y14 := (hS9.fr  (fun j9 a9 b9 => f2 j9 (by omega)))
        refine g_callVX (k := 1002) (n9 := 0) (av := []) (st := []) E Rx (ct_X2_barrierLine l hT9 (by omega) hok (by omega) (by omega) (by omega) hw (pBq.mono y13 (by omega)) hnl hx y14) gciX2 dX2_line_285 x8 q794 q796 qs8 q121 q797 (by decide +kernel) rfl rfl ⟨by decide, by decide⟩ ⟨by decide, by decide⟩ (Nat.le_of_ble_eq_true rfl) rfl (fun g9 ⟨e9, h9e, h9p⟩ => ⟨e9, by rw [zLn_0 c5 (of_decide_eq_true c114), h9e] <;> rfl, h9p.tr (fun j9 h9 => f2 j9 (by omega))⟩) (gPe.kn (fun a15 g15 he15 h15 => ?_))
        obtain ⟨M15, N15, hM15, hN15, hT15, hQ15, hS15, f15⟩ := h15
        refine g_goto E dX2_line_288 (tgt := 353) (by decide) ?_
        exact (gRx_leave Rx E).elim (fun z9 h9z => h9z.2.2 _ _ _ _ _ _ (g_vret h9z.2.1 h9z.1 dX2_line_353 rfl (by decide) (by decide) (⟨a15, by rw [zLn_0 c5 (of_decide_eq_true c114)]; exact he15, rfl, M15, N15, by omega, hN15, hT15, hQ15, hS15, fun j9 h9 => (f15 j9 (by omega)).trans (f2 j9 (by omega))⟩)))
    have n25_0 := l25_0
    by_cases l25_1 : zHs t.2.2.2.2 = 3165387
    · refine g_lookup E dX2_line_25 (by decide) (by rw [l25_1] <;> rfl) (tgt := 150) (by decide) ?_
      refine g_aload_n E dX2_line_150 rfl rfl rfl ?_
      refine g_ldcS E (j := 4) (tx := "gate") rfl dX2_line_151 rfl ?_
      refine g_callV (k := M) (n9 := 1) (av := [.ref (1 + 2 * 4)]) (st := []) E (ct_J3_equals_L l hst2 (by omega) rfl) gciJ3 dX2_line_153 hst2_a q778 q779 q780 q137 q781 (by decide +kernel) rfl rfl ⟨by decide, by decide⟩ ⟨by decide, by decide⟩ (Nat.le_of_ble_eq_true rfl) rfl (gPu.k ?_)
      refine g_if_eq E dX2_line_156 (tgt := 234) (by decide) rfl (fun c156 => ?_) (fun c156 => ?_)
      · have c156 := zb_0.mp c156
        refine g_iload_n E dX2_line_234 rfl rfl rfl ?_
        refine g_tabOut E dX2_line_235 (by decide) (tgt := 347) (by decide) ?_
        refine g_aload_n E dX2_line_347 rfl rfl rfl ?_
        refine g_iconst E (v := 1) dX2_line_348 (by decide) rfl ?_
        have x16 := (f2 (1002) (by omega)).trans (hT_a)
        have x17 := (f2 (1003) (by omega)).trans (hT_b)
        refine g_callV (k := 1002) (n9 := 1) (av := [.int 1]) (st := []) E (ct_X2_fail l 1 (⟨_, x16, hT_0, hT_6⟩) (⟨_, x17⟩)) gciX2 dX2_line_349 x16 q716 q718 qs7 q121 q719 (by decide +kernel) rfl rfl ⟨by decide, by decide⟩ ⟨by decide, by decide⟩ (Nat.le_of_ble_eq_true rfl) rfl (gPr.k (fun g18 h18 => ?_))
        obtain ⟨⟨F18, h18, h18a, h18b⟩, f18⟩ := h18
        have x19 := (f18 (1002) (by omega)).trans (x16)
        have x20 := (f18 (1004) (by omega)).trans ((f2 (1004) (by omega)).trans (hT_c))
        exact g_athrow E Rx dX2_line_352 h18 (by decide) (by decide) (⟨(1, t.2.2.1), zLn_x c5 (lws_no l25_1 (by decide +kernel) (of_decide_eq_false c156)), ⟨⟨_, h18, h18a, h18b⟩, ⟨_, x19, hT_0, hT_1, hT_2⟩, ⟨_, x20⟩, ⟨N, by omega, fun j9 a9 => (f18 j9 (by omega)).trans ((f2 j9 (by omega)).trans (hT_z j9 (by omega)))⟩, fun j9 h9 => (f18 j9 (by omega)).trans (f2 j9 (by omega))⟩⟩)
      · have c156 := zb_n0.mp c156
        refine g_iconst E (v := 3) dX2_line_159 (by decide) rfl ?_
        refine g_istore_n E dX2_line_160 rfl (by decide) rfl (lo1 := [some (.ref 1002), some (.ref M), some (.int 3)]) rfl rfl ?_
        refine g_goto E dX2_line_161 (tgt := 234) (by decide) ?_
        refine g_iload_n E dX2_line_234 rfl rfl rfl ?_
        refine g_tabIn E dX2_line_235 (by decide) (by decide) (off := 70) (by rfl) (tgt := 305) (by decide) ?_
        refine g_aload_n E dX2_line_305 rfl rfl rfl ?_
        have x21 := (f2 (1002) (by omega)).trans (hT_a)
        have x23 := (f2 (1003) (by omega)).trans (hT_b)
        have x24 := (f2 (1004) (by omega)).trans (hT_c)
        have y25 := (hT_t.fr  (fun j9 a9 b9 => f2 j9 (by omega)))
        have hT22 : pTk g2 n bb t M N T := ⟨⟨_, x21, hT_0, hT_1, hT_2, hT_3, hT_4, hT_5, hT_6, hT_7, hT_8, hT_9⟩, (fun _ => ⟨hst2, hW1.2⟩), ⟨_, x23⟩, ⟨_, x24⟩, y25, fun j9 a9 => (f2 j9 (by omega)).trans (hT_z j9 (by omega))⟩
        have y26 := (hQ.fr hw (by omega) (fun j9 a9 b9 => f2 j9 (by omega)))
        have y27 := (hS9.fr  (fun j9 a9 b9 => f2 j9 (by omega)))
        refine g_callVX (k := 1002) (n9 := 0) (av := []) (st := []) E Rx (ct_X2_gateLine l hT22 (by omega) hok (by omega) (by omega) (by omega) hw (pBq.mono y26 (by omega)) hnl hx y27) gciX2 dX2_line_306 x21 q914 q916 qs18 q121 q917 (by decide +kernel) rfl rfl ⟨by decide, by decide⟩ ⟨by decide, by decide⟩ (Nat.le_of_ble_eq_true rfl) rfl (fun g9 ⟨e9, h9e, h9p⟩ => ⟨e9, by rw [zLn_3 c5 (of_decide_eq_true c156), h9e] <;> rfl, h9p.tr (fun j9 h9 => f2 j9 (by omega))⟩) (gPe.kn (fun a28 g28 he28 h28 => ?_))
        obtain ⟨M28, N28, hM28, hN28, hT28, hQ28, hS28, f28⟩ := h28
        refine g_goto E dX2_line_309 (tgt := 353) (by decide) ?_
        exact (gRx_leave Rx E).elim (fun z9 h9z => h9z.2.2 _ _ _ _ _ _ (g_vret h9z.2.1 h9z.1 dX2_line_353 rfl (by decide) (by decide) (⟨a28, by rw [zLn_3 c5 (of_decide_eq_true c156)]; exact he28, rfl, M28, N28, by omega, hN28, hT28, hQ28, hS28, fun j9 h9 => (f28 j9 (by omega)).trans (f2 j9 (by omega))⟩)))
    have n25_1 := l25_1
    by_cases l25_2 : zHs t.2.2.2.2 = 3178685
    · refine g_lookup E dX2_line_25 (by decide) (by rw [l25_2] <;> rfl) (tgt := 164) (by decide) ?_
      refine g_aload_n E dX2_line_164 rfl rfl rfl ?_
      refine g_ldcS E (j := 5) (tx := "good") rfl dX2_line_165 rfl ?_
      refine g_callV (k := M) (n9 := 1) (av := [.ref (1 + 2 * 5)]) (st := []) E (ct_J3_equals_L l hst2 (by omega) rfl) gciJ3 dX2_line_167 hst2_a q778 q779 q780 q137 q781 (by decide +kernel) rfl rfl ⟨by decide, by decide⟩ ⟨by decide, by decide⟩ (Nat.le_of_ble_eq_true rfl) rfl (gPu.k ?_)
      refine g_if_eq E dX2_line_170 (tgt := 234) (by decide) rfl (fun c170 => ?_) (fun c170 => ?_)
      · have c170 := zb_0.mp c170
        refine g_iload_n E dX2_line_234 rfl rfl rfl ?_
        refine g_tabOut E dX2_line_235 (by decide) (tgt := 347) (by decide) ?_
        refine g_aload_n E dX2_line_347 rfl rfl rfl ?_
        refine g_iconst E (v := 1) dX2_line_348 (by decide) rfl ?_
        have x29 := (f2 (1002) (by omega)).trans (hT_a)
        have x30 := (f2 (1003) (by omega)).trans (hT_b)
        refine g_callV (k := 1002) (n9 := 1) (av := [.int 1]) (st := []) E (ct_X2_fail l 1 (⟨_, x29, hT_0, hT_6⟩) (⟨_, x30⟩)) gciX2 dX2_line_349 x29 q716 q718 qs7 q121 q719 (by decide +kernel) rfl rfl ⟨by decide, by decide⟩ ⟨by decide, by decide⟩ (Nat.le_of_ble_eq_true rfl) rfl (gPr.k (fun g31 h31 => ?_))
        obtain ⟨⟨F31, h31, h31a, h31b⟩, f31⟩ := h31
        have x32 := (f31 (1002) (by omega)).trans (x29)
        have x33 := (f31 (1004) (by omega)).trans ((f2 (1004) (by omega)).trans (hT_c))
        exact g_athrow E Rx dX2_line_352 h31 (by decide) (by decide) (⟨(1, t.2.2.1), zLn_x c5 (lws_no l25_2 (by decide +kernel) (of_decide_eq_false c170)), ⟨⟨_, h31, h31a, h31b⟩, ⟨_, x32, hT_0, hT_1, hT_2⟩, ⟨_, x33⟩, ⟨N, by omega, fun j9 a9 => (f31 j9 (by omega)).trans ((f2 j9 (by omega)).trans (hT_z j9 (by omega)))⟩, fun j9 h9 => (f31 j9 (by omega)).trans (f2 j9 (by omega))⟩⟩)
      · have c170 := zb_n0.mp c170
        refine g_iconst E (v := 4) dX2_line_173 (by decide) rfl ?_
        refine g_istore_n E dX2_line_174 rfl (by decide) rfl (lo1 := [some (.ref 1002), some (.ref M), some (.int 4)]) rfl rfl ?_
        refine g_goto E dX2_line_175 (tgt := 234) (by decide) ?_
        refine g_iload_n E dX2_line_234 rfl rfl rfl ?_
        refine g_tabIn E dX2_line_235 (by decide) (by decide) (off := 77) (by rfl) (tgt := 312) (by decide) ?_
        refine g_aload_n E dX2_line_312 rfl rfl rfl ?_
        have x34 := (f2 (1002) (by omega)).trans (hT_a)
        have x36 := (f2 (1003) (by omega)).trans (hT_b)
        have x37 := (f2 (1004) (by omega)).trans (hT_c)
        have y38 := (hT_t.fr  (fun j9 a9 b9 => f2 j9 (by omega)))
        have hT35 : pTk g2 n bb t M N T := ⟨⟨_, x34, hT_0, hT_1, hT_2, hT_3, hT_4, hT_5, hT_6, hT_7, hT_8, hT_9⟩, (fun _ => ⟨hst2, hW1.2⟩), ⟨_, x36⟩, ⟨_, x37⟩, y38, fun j9 a9 => (f2 j9 (by omega)).trans (hT_z j9 (by omega))⟩
        have y39 := (hQ.fr hw (by omega) (fun j9 a9 b9 => f2 j9 (by omega)))
        have y40 := (hS9.fr  (fun j9 a9 b9 => f2 j9 (by omega)))
        refine g_callVX (k := 1002) (n9 := 0) (av := []) (st := []) E Rx (ct_X2_good l hT35 (by omega) hok (by omega) (by omega) (by omega) hw (pBq.mono y39 (by omega)) hnl hx y40) gciX2 dX2_line_313 x34 q945 q947 qs19 q121 q948 (by decide +kernel) rfl rfl ⟨by decide, by decide⟩ ⟨by decide, by decide⟩ (Nat.le_of_ble_eq_true rfl) rfl (fun g9 ⟨e9, h9e, h9p⟩ => ⟨e9, by rw [zLn_4 c5 (of_decide_eq_true c170), h9e] <;> rfl, h9p.tr (fun j9 h9 => f2 j9 (by omega))⟩) (gPe.kn (fun a41 g41 he41 h41 => ?_))
        obtain ⟨M41, N41, hM41, hN41, hT41, hQ41, hS41, f41⟩ := h41
        refine g_goto E dX2_line_316 (tgt := 353) (by decide) ?_
        exact (gRx_leave Rx E).elim (fun z9 h9z => h9z.2.2 _ _ _ _ _ _ (g_vret h9z.2.1 h9z.1 dX2_line_353 rfl (by decide) (by decide) (⟨a41, by rw [zLn_4 c5 (of_decide_eq_true c170)]; exact he41, rfl, M41, N41, by omega, hN41, hT41, hQ41, hS41, fun j9 h9 => (f41 j9 (by omega)).trans (f2 j9 (by omega))⟩)))
    have n25_2 := l25_2
    by_cases l25_3 : zHs t.2.2.2.2 = 94940667
    · refine g_lookup E dX2_line_25 (by decide) (by rw [l25_3] <;> rfl) (tgt := 222) (by decide) ?_
      refine g_aload_n E dX2_line_222 rfl rfl rfl ?_
      refine g_ldcS E (j := 9) (tx := "crumb") rfl dX2_line_223 rfl ?_
      refine g_callV (k := M) (n9 := 1) (av := [.ref (1 + 2 * 9)]) (st := []) E (ct_J3_equals_L l hst2 (by omega) rfl) gciJ3 dX2_line_225 hst2_a q778 q779 q780 q137 q781 (by decide +kernel) rfl rfl ⟨by decide, by decide⟩ ⟨by decide, by decide⟩ (Nat.le_of_ble_eq_true rfl) rfl (gPu.k ?_)
      refine g_if_eq E dX2_line_228 (tgt := 234) (by decide) rfl (fun c228 => ?_) (fun c228 => ?_)
      · have c228 := zb_0.mp c228
        refine g_iload_n E dX2_line_234 rfl rfl rfl ?_
        refine g_tabOut E dX2_line_235 (by decide) (tgt := 347) (by decide) ?_
        refine g_aload_n E dX2_line_347 rfl rfl rfl ?_
        refine g_iconst E (v := 1) dX2_line_348 (by decide) rfl ?_
        have x42 := (f2 (1002) (by omega)).trans (hT_a)
        have x43 := (f2 (1003) (by omega)).trans (hT_b)
        refine g_callV (k := 1002) (n9 := 1) (av := [.int 1]) (st := []) E (ct_X2_fail l 1 (⟨_, x42, hT_0, hT_6⟩) (⟨_, x43⟩)) gciX2 dX2_line_349 x42 q716 q718 qs7 q121 q719 (by decide +kernel) rfl rfl ⟨by decide, by decide⟩ ⟨by decide, by decide⟩ (Nat.le_of_ble_eq_true rfl) rfl (gPr.k (fun g44 h44 => ?_))
        obtain ⟨⟨F44, h44, h44a, h44b⟩, f44⟩ := h44
        have x45 := (f44 (1002) (by omega)).trans (x42)
        have x46 := (f44 (1004) (by omega)).trans ((f2 (1004) (by omega)).trans (hT_c))
        exact g_athrow E Rx dX2_line_352 h44 (by decide) (by decide) (⟨(1, t.2.2.1), zLn_x c5 (lws_no l25_3 (by decide +kernel) (of_decide_eq_false c228)), ⟨⟨_, h44, h44a, h44b⟩, ⟨_, x45, hT_0, hT_1, hT_2⟩, ⟨_, x46⟩, ⟨N, by omega, fun j9 a9 => (f44 j9 (by omega)).trans ((f2 j9 (by omega)).trans (hT_z j9 (by omega)))⟩, fun j9 h9 => (f44 j9 (by omega)).trans (f2 j9 (by omega))⟩⟩)
      · have c228 := zb_n0.mp c228
        refine g_bipush E (v := 8) dX2_line_231 (by decide) rfl ?_
        refine g_istore_n E dX2_line_233 rfl (by decide) rfl (lo1 := [some (.ref 1002), some (.ref M), some (.int 8)]) rfl rfl ?_
        refine g_iload_n E dX2_line_234 rfl rfl rfl ?_
        refine g_tabIn E dX2_line_235 (by decide) (by decide) (off := 105) (by rfl) (tgt := 340) (by decide) ?_
        refine g_aload_n E dX2_line_340 rfl rfl rfl ?_
        have x47 := (f2 (1002) (by omega)).trans (hT_a)
        have x49 := (f2 (1003) (by omega)).trans (hT_b)
        have x50 := (f2 (1004) (by omega)).trans (hT_c)
        have y51 := (hT_t.fr  (fun j9 a9 b9 => f2 j9 (by omega)))
        have hT48 : pTk g2 n bb t M N T := ⟨⟨_, x47, hT_0, hT_1, hT_2, hT_3, hT_4, hT_5, hT_6, hT_7, hT_8, hT_9⟩, (fun _ => ⟨hst2, hW1.2⟩), ⟨_, x49⟩, ⟨_, x50⟩, y51, fun j9 a9 => (f2 j9 (by omega)).trans (hT_z j9 (by omega))⟩
        have y52 := (hQ.fr hw (by omega) (fun j9 a9 b9 => f2 j9 (by omega)))
        have y53 := (hS9.fr  (fun j9 a9 b9 => f2 j9 (by omega)))
        refine g_callVX (k := 1002) (n9 := 0) (av := []) (st := []) E Rx (ct_X2_crumb l hT48 (by omega) hok (by omega) (by omega) (by omega) hw (pBq.mono y52 (by omega)) hnl hx y53) gciX2 dX2_line_341 x47 q1137 q1139 qs30 q121 q1140 (by decide +kernel) rfl rfl ⟨by decide, by decide⟩ ⟨by decide, by decide⟩ (Nat.le_of_ble_eq_true rfl) rfl (fun g9 ⟨e9, h9e, h9p⟩ => ⟨e9, by rw [zLn_8 c5 (of_decide_eq_true c228), h9e] <;> rfl, h9p.tr (fun j9 h9 => f2 j9 (by omega))⟩) (gPe.kn (fun a54 g54 he54 h54 => ?_))
        obtain ⟨M54, N54, hM54, hN54, hT54, hQ54, hS54, f54⟩ := h54
        refine g_goto E dX2_line_344 (tgt := 353) (by decide) ?_
        exact (gRx_leave Rx E).elim (fun z9 h9z => h9z.2.2 _ _ _ _ _ _ (g_vret h9z.2.1 h9z.1 dX2_line_353 rfl (by decide) (by decide) (⟨a54, by rw [zLn_8 c5 (of_decide_eq_true c228)]; exact he54, rfl, M54, N54, by omega, hN54, hT54, hQ54, hS54, fun j9 h9 => (f54 j9 (by omega)).trans (f2 j9 (by omega))⟩)))
    have n25_3 := l25_3
    by_cases l25_4 : zHs t.2.2.2.2 = 99273585
    · refine g_lookup E dX2_line_25 (by decide) (by rw [l25_4] <;> rfl) (tgt := 178) (by decide) ?_
      refine g_aload_n E dX2_line_178 rfl rfl rfl ?_
      refine g_ldcS E (j := 6) (tx := "hides") rfl dX2_line_179 rfl ?_
      refine g_callV (k := M) (n9 := 1) (av := [.ref (1 + 2 * 6)]) (st := []) E (ct_J3_equals_L l hst2 (by omega) rfl) gciJ3 dX2_line_181 hst2_a q778 q779 q780 q137 q781 (by decide +kernel) rfl rfl ⟨by decide, by decide⟩ ⟨by decide, by decide⟩ (Nat.le_of_ble_eq_true rfl) rfl (gPu.k ?_)
      refine g_if_eq E dX2_line_184 (tgt := 234) (by decide) rfl (fun c184 => ?_) (fun c184 => ?_)
      · have c184 := zb_0.mp c184
        refine g_iload_n E dX2_line_234 rfl rfl rfl ?_
        refine g_tabOut E dX2_line_235 (by decide) (tgt := 347) (by decide) ?_
        refine g_aload_n E dX2_line_347 rfl rfl rfl ?_
        refine g_iconst E (v := 1) dX2_line_348 (by decide) rfl ?_
        have x55 := (f2 (1002) (by omega)).trans (hT_a)
        have x56 := (f2 (1003) (by omega)).trans (hT_b)
        refine g_callV (k := 1002) (n9 := 1) (av := [.int 1]) (st := []) E (ct_X2_fail l 1 (⟨_, x55, hT_0, hT_6⟩) (⟨_, x56⟩)) gciX2 dX2_line_349 x55 q716 q718 qs7 q121 q719 (by decide +kernel) rfl rfl ⟨by decide, by decide⟩ ⟨by decide, by decide⟩ (Nat.le_of_ble_eq_true rfl) rfl (gPr.k (fun g57 h57 => ?_))
        obtain ⟨⟨F57, h57, h57a, h57b⟩, f57⟩ := h57
        have x58 := (f57 (1002) (by omega)).trans (x55)
        have x59 := (f57 (1004) (by omega)).trans ((f2 (1004) (by omega)).trans (hT_c))
        exact g_athrow E Rx dX2_line_352 h57 (by decide) (by decide) (⟨(1, t.2.2.1), zLn_x c5 (lws_no l25_4 (by decide +kernel) (of_decide_eq_false c184)), ⟨⟨_, h57, h57a, h57b⟩, ⟨_, x58, hT_0, hT_1, hT_2⟩, ⟨_, x59⟩, ⟨N, by omega, fun j9 a9 => (f57 j9 (by omega)).trans ((f2 j9 (by omega)).trans (hT_z j9 (by omega)))⟩, fun j9 h9 => (f57 j9 (by omega)).trans (f2 j9 (by omega))⟩⟩)
      · have c184 := zb_n0.mp c184
        refine g_iconst E (v := 5) dX2_line_187 (by decide) rfl ?_
        refine g_istore_n E dX2_line_188 rfl (by decide) rfl (lo1 := [some (.ref 1002), some (.ref M), some (.int 5)]) rfl rfl ?_
        refine g_goto E dX2_line_189 (tgt := 234) (by decide) ?_
        refine g_iload_n E dX2_line_234 rfl rfl rfl ?_
        refine g_tabIn E dX2_line_235 (by decide) (by decide) (off := 84) (by rfl) (tgt := 319) (by decide) ?_
        refine g_aload_n E dX2_line_319 rfl rfl rfl ?_
        have x60 := (f2 (1002) (by omega)).trans (hT_a)
        have x62 := (f2 (1003) (by omega)).trans (hT_b)
        have x63 := (f2 (1004) (by omega)).trans (hT_c)
        have y64 := (hT_t.fr  (fun j9 a9 b9 => f2 j9 (by omega)))
        have hT61 : pTk g2 n bb t M N T := ⟨⟨_, x60, hT_0, hT_1, hT_2, hT_3, hT_4, hT_5, hT_6, hT_7, hT_8, hT_9⟩, (fun _ => ⟨hst2, hW1.2⟩), ⟨_, x62⟩, ⟨_, x63⟩, y64, fun j9 a9 => (f2 j9 (by omega)).trans (hT_z j9 (by omega))⟩
        have y65 := (hQ.fr hw (by omega) (fun j9 a9 b9 => f2 j9 (by omega)))
        have y66 := (hS9.fr  (fun j9 a9 b9 => f2 j9 (by omega)))
        refine g_callVX (k := 1002) (n9 := 0) (av := []) (st := []) E Rx (ct_X2_hides l hT61 (by omega) hok (by omega) (by omega) (by omega) hw (pBq.mono y65 (by omega)) hnl hx y66) gciX2 dX2_line_320 x60 q1093 q1095 qs26 q121 q1096 (by decide +kernel) rfl rfl ⟨by decide, by decide⟩ ⟨by decide, by decide⟩ (Nat.le_of_ble_eq_true rfl) rfl (fun g9 ⟨e9, h9e, h9p⟩ => ⟨e9, by rw [zLn_5 c5 (of_decide_eq_true c184), h9e] <;> rfl, h9p.tr (fun j9 h9 => f2 j9 (by omega))⟩) (gPe.kn (fun a67 g67 he67 h67 => ?_))
        obtain ⟨M67, N67, hM67, hN67, hT67, hQ67, hS67, f67⟩ := h67
        refine g_goto E dX2_line_323 (tgt := 353) (by decide) ?_
        exact (gRx_leave Rx E).elim (fun z9 h9z => h9z.2.2 _ _ _ _ _ _ (g_vret h9z.2.1 h9z.1 dX2_line_353 rfl (by decide) (by decide) (⟨a67, by rw [zLn_5 c5 (of_decide_eq_true c184)]; exact he67, rfl, M67, N67, by omega, hN67, hT67, hQ67, hS67, fun j9 h9 => (f67 j9 (by omega)).trans (f2 j9 (by omega))⟩)))
    have n25_4 := l25_4
    by_cases l25_5 : zHs t.2.2.2.2 = 103769422
    · refine g_lookup E dX2_line_25 (by decide) (by rw [l25_5] <;> rfl) (tgt := 122) (by decide) ?_
      refine g_aload_n E dX2_line_122 rfl rfl rfl ?_
      refine g_ldcS E (j := 2) (tx := "means") rfl dX2_line_123 rfl ?_
      refine g_callV (k := M) (n9 := 1) (av := [.ref (1 + 2 * 2)]) (st := []) E (ct_J3_equals_L l hst2 (by omega) rfl) gciJ3 dX2_line_125 hst2_a q778 q779 q780 q137 q781 (by decide +kernel) rfl rfl ⟨by decide, by decide⟩ ⟨by decide, by decide⟩ (Nat.le_of_ble_eq_true rfl) rfl (gPu.k ?_)
      refine g_if_eq E dX2_line_128 (tgt := 234) (by decide) rfl (fun c128 => ?_) (fun c128 => ?_)
      · have c128 := zb_0.mp c128
        refine g_iload_n E dX2_line_234 rfl rfl rfl ?_
        refine g_tabOut E dX2_line_235 (by decide) (tgt := 347) (by decide) ?_
        refine g_aload_n E dX2_line_347 rfl rfl rfl ?_
        refine g_iconst E (v := 1) dX2_line_348 (by decide) rfl ?_
        have x68 := (f2 (1002) (by omega)).trans (hT_a)
        have x69 := (f2 (1003) (by omega)).trans (hT_b)
        refine g_callV (k := 1002) (n9 := 1) (av := [.int 1]) (st := []) E (ct_X2_fail l 1 (⟨_, x68, hT_0, hT_6⟩) (⟨_, x69⟩)) gciX2 dX2_line_349 x68 q716 q718 qs7 q121 q719 (by decide +kernel) rfl rfl ⟨by decide, by decide⟩ ⟨by decide, by decide⟩ (Nat.le_of_ble_eq_true rfl) rfl (gPr.k (fun g70 h70 => ?_))
        obtain ⟨⟨F70, h70, h70a, h70b⟩, f70⟩ := h70
        have x71 := (f70 (1002) (by omega)).trans (x68)
        have x72 := (f70 (1004) (by omega)).trans ((f2 (1004) (by omega)).trans (hT_c))
        exact g_athrow E Rx dX2_line_352 h70 (by decide) (by decide) (⟨(1, t.2.2.1), zLn_x c5 (lws_no l25_5 (by decide +kernel) (of_decide_eq_false c128)), ⟨⟨_, h70, h70a, h70b⟩, ⟨_, x71, hT_0, hT_1, hT_2⟩, ⟨_, x72⟩, ⟨N, by omega, fun j9 a9 => (f70 j9 (by omega)).trans ((f2 j9 (by omega)).trans (hT_z j9 (by omega)))⟩, fun j9 h9 => (f70 j9 (by omega)).trans (f2 j9 (by omega))⟩⟩)
      · have c128 := zb_n0.mp c128
        refine g_iconst E (v := 1) dX2_line_131 (by decide) rfl ?_
        refine g_istore_n E dX2_line_132 rfl (by decide) rfl (lo1 := [some (.ref 1002), some (.ref M), some (.int 1)]) rfl rfl ?_
        refine g_goto E dX2_line_133 (tgt := 234) (by decide) ?_
        refine g_iload_n E dX2_line_234 rfl rfl rfl ?_
        refine g_tabIn E dX2_line_235 (by decide) (by decide) (off := 56) (by rfl) (tgt := 291) (by decide) ?_
        refine g_aload_n E dX2_line_291 rfl rfl rfl ?_
        have x73 := (f2 (1002) (by omega)).trans (hT_a)
        have x75 := (f2 (1003) (by omega)).trans (hT_b)
        have x76 := (f2 (1004) (by omega)).trans (hT_c)
        have y77 := (hT_t.fr  (fun j9 a9 b9 => f2 j9 (by omega)))
        have hT74 : pTk g2 n bb t M N T := ⟨⟨_, x73, hT_0, hT_1, hT_2, hT_3, hT_4, hT_5, hT_6, hT_7, hT_8, hT_9⟩, (fun _ => ⟨hst2, hW1.2⟩), ⟨_, x75⟩, ⟨_, x76⟩, y77, fun j9 a9 => (f2 j9 (by omega)).trans (hT_z j9 (by omega))⟩
        have y78 := (hQ.fr hw (by omega) (fun j9 a9 b9 => f2 j9 (by omega)))
        have y79 := (hS9.fr  (fun j9 a9 b9 => f2 j9 (by omega)))
        refine g_callVX (k := 1002) (n9 := 0) (av := []) (st := []) E Rx (ct_X2_meansLine l hT74 (by omega) hok (by omega) (by omega) (by omega) hw (pBq.mono y78 (by omega)) hnl hx y79) gciX2 dX2_line_292 x73 q816 q818 qs13 q121 q819 (by decide +kernel) rfl rfl ⟨by decide, by decide⟩ ⟨by decide, by decide⟩ (Nat.le_of_ble_eq_true rfl) rfl (fun g9 ⟨e9, h9e, h9p⟩ => ⟨e9, by rw [zLn_1 c5 (of_decide_eq_true c128), h9e] <;> rfl, h9p.tr (fun j9 h9 => f2 j9 (by omega))⟩) (gPe.kn (fun a80 g80 he80 h80 => ?_))
        obtain ⟨M80, N80, hM80, hN80, hT80, hQ80, hS80, f80⟩ := h80
        refine g_goto E dX2_line_295 (tgt := 353) (by decide) ?_
        exact (gRx_leave Rx E).elim (fun z9 h9z => h9z.2.2 _ _ _ _ _ _ (g_vret h9z.2.1 h9z.1 dX2_line_353 rfl (by decide) (by decide) (⟨a80, by rw [zLn_1 c5 (of_decide_eq_true c128)]; exact he80, rfl, M80, N80, by omega, hN80, hT80, hQ80, hS80, fun j9 h9 => (f80 j9 (by omega)).trans (f2 j9 (by omega))⟩)))
    have n25_5 := l25_5
    by_cases l25_6 : zHs t.2.2.2.2 = 106934601
    · refine g_lookup E dX2_line_25 (by decide) (by rw [l25_6] <;> rfl) (tgt := 207) (by decide) ?_
      refine g_aload_n E dX2_line_207 rfl rfl rfl ?_
      refine g_ldcS E (j := 8) (tx := "price") rfl dX2_line_208 rfl ?_
      refine g_callV (k := M) (n9 := 1) (av := [.ref (1 + 2 * 8)]) (st := []) E (ct_J3_equals_L l hst2 (by omega) rfl) gciJ3 dX2_line_210 hst2_a q778 q779 q780 q137 q781 (by decide +kernel) rfl rfl ⟨by decide, by decide⟩ ⟨by decide, by decide⟩ (Nat.le_of_ble_eq_true rfl) rfl (gPu.k ?_)
      refine g_if_eq E dX2_line_213 (tgt := 234) (by decide) rfl (fun c213 => ?_) (fun c213 => ?_)
      · have c213 := zb_0.mp c213
        refine g_iload_n E dX2_line_234 rfl rfl rfl ?_
        refine g_tabOut E dX2_line_235 (by decide) (tgt := 347) (by decide) ?_
        refine g_aload_n E dX2_line_347 rfl rfl rfl ?_
        refine g_iconst E (v := 1) dX2_line_348 (by decide) rfl ?_
        have x81 := (f2 (1002) (by omega)).trans (hT_a)
        have x82 := (f2 (1003) (by omega)).trans (hT_b)
        refine g_callV (k := 1002) (n9 := 1) (av := [.int 1]) (st := []) E (ct_X2_fail l 1 (⟨_, x81, hT_0, hT_6⟩) (⟨_, x82⟩)) gciX2 dX2_line_349 x81 q716 q718 qs7 q121 q719 (by decide +kernel) rfl rfl ⟨by decide, by decide⟩ ⟨by decide, by decide⟩ (Nat.le_of_ble_eq_true rfl) rfl (gPr.k (fun g83 h83 => ?_))
        obtain ⟨⟨F83, h83, h83a, h83b⟩, f83⟩ := h83
        have x84 := (f83 (1002) (by omega)).trans (x81)
        have x85 := (f83 (1004) (by omega)).trans ((f2 (1004) (by omega)).trans (hT_c))
        exact g_athrow E Rx dX2_line_352 h83 (by decide) (by decide) (⟨(1, t.2.2.1), zLn_x c5 (lws_no l25_6 (by decide +kernel) (of_decide_eq_false c213)), ⟨⟨_, h83, h83a, h83b⟩, ⟨_, x84, hT_0, hT_1, hT_2⟩, ⟨_, x85⟩, ⟨N, by omega, fun j9 a9 => (f83 j9 (by omega)).trans ((f2 j9 (by omega)).trans (hT_z j9 (by omega)))⟩, fun j9 h9 => (f83 j9 (by omega)).trans (f2 j9 (by omega))⟩⟩)
      · have c213 := zb_n0.mp c213
        refine g_bipush E (v := 7) dX2_line_216 (by decide) rfl ?_
        refine g_istore_n E dX2_line_218 rfl (by decide) rfl (lo1 := [some (.ref 1002), some (.ref M), some (.int 7)]) rfl rfl ?_
        refine g_goto E dX2_line_219 (tgt := 234) (by decide) ?_
        refine g_iload_n E dX2_line_234 rfl rfl rfl ?_
        refine g_tabIn E dX2_line_235 (by decide) (by decide) (off := 98) (by rfl) (tgt := 333) (by decide) ?_
        refine g_aload_n E dX2_line_333 rfl rfl rfl ?_
        have x86 := (f2 (1002) (by omega)).trans (hT_a)
        have x88 := (f2 (1003) (by omega)).trans (hT_b)
        have x89 := (f2 (1004) (by omega)).trans (hT_c)
        have y90 := (hT_t.fr  (fun j9 a9 b9 => f2 j9 (by omega)))
        have hT87 : pTk g2 n bb t M N T := ⟨⟨_, x86, hT_0, hT_1, hT_2, hT_3, hT_4, hT_5, hT_6, hT_7, hT_8, hT_9⟩, (fun _ => ⟨hst2, hW1.2⟩), ⟨_, x88⟩, ⟨_, x89⟩, y90, fun j9 a9 => (f2 j9 (by omega)).trans (hT_z j9 (by omega))⟩
        have y91 := (hQ.fr hw (by omega) (fun j9 a9 b9 => f2 j9 (by omega)))
        have y92 := (hS9.fr  (fun j9 a9 b9 => f2 j9 (by omega)))
        refine g_callVX (k := 1002) (n9 := 0) (av := []) (st := []) E Rx (ct_X2_price l hT87 (by omega) hok (by omega) (by omega) (by omega) hw (pBq.mono y91 (by omega)) hnl hx y92) gciX2 dX2_line_334 x86 q1131 q1133 qs29 q121 q1134 (by decide +kernel) rfl rfl ⟨by decide, by decide⟩ ⟨by decide, by decide⟩ (Nat.le_of_ble_eq_true rfl) rfl (fun g9 ⟨e9, h9e, h9p⟩ => ⟨e9, by rw [zLn_7 c5 (of_decide_eq_true c213), h9e] <;> rfl, h9p.tr (fun j9 h9 => f2 j9 (by omega))⟩) (gPe.kn (fun a93 g93 he93 h93 => ?_))
        obtain ⟨M93, N93, hM93, hN93, hT93, hQ93, hS93, f93⟩ := h93
        refine g_goto E dX2_line_337 (tgt := 353) (by decide) ?_
        exact (gRx_leave Rx E).elim (fun z9 h9z => h9z.2.2 _ _ _ _ _ _ (g_vret h9z.2.1 h9z.1 dX2_line_353 rfl (by decide) (by decide) (⟨a93, by rw [zLn_7 c5 (of_decide_eq_true c213)]; exact he93, rfl, M93, N93, by omega, hN93, hT93, hQ93, hS93, fun j9 h9 => (f93 j9 (by omega)).trans (f2 j9 (by omega))⟩)))
    have n25_6 := l25_6
    by_cases l25_7 : zHs t.2.2.2.2 = 1038324974
    · refine g_lookup E dX2_line_25 (by decide) (by rw [l25_7] <;> rfl) (tgt := 192) (by decide) ?_
      refine g_aload_n E dX2_line_192 rfl rfl rfl ?_
      refine g_ldcS E (j := 7) (tx := "crosses") rfl dX2_line_193 rfl ?_
      refine g_callV (k := M) (n9 := 1) (av := [.ref (1 + 2 * 7)]) (st := []) E (ct_J3_equals_L l hst2 (by omega) rfl) gciJ3 dX2_line_195 hst2_a q778 q779 q780 q137 q781 (by decide +kernel) rfl rfl ⟨by decide, by decide⟩ ⟨by decide, by decide⟩ (Nat.le_of_ble_eq_true rfl) rfl (gPu.k ?_)
      refine g_if_eq E dX2_line_198 (tgt := 234) (by decide) rfl (fun c198 => ?_) (fun c198 => ?_)
      · have c198 := zb_0.mp c198
        refine g_iload_n E dX2_line_234 rfl rfl rfl ?_
        refine g_tabOut E dX2_line_235 (by decide) (tgt := 347) (by decide) ?_
        refine g_aload_n E dX2_line_347 rfl rfl rfl ?_
        refine g_iconst E (v := 1) dX2_line_348 (by decide) rfl ?_
        have x94 := (f2 (1002) (by omega)).trans (hT_a)
        have x95 := (f2 (1003) (by omega)).trans (hT_b)
        refine g_callV (k := 1002) (n9 := 1) (av := [.int 1]) (st := []) E (ct_X2_fail l 1 (⟨_, x94, hT_0, hT_6⟩) (⟨_, x95⟩)) gciX2 dX2_line_349 x94 q716 q718 qs7 q121 q719 (by decide +kernel) rfl rfl ⟨by decide, by decide⟩ ⟨by decide, by decide⟩ (Nat.le_of_ble_eq_true rfl) rfl (gPr.k (fun g96 h96 => ?_))
        obtain ⟨⟨F96, h96, h96a, h96b⟩, f96⟩ := h96
        have x97 := (f96 (1002) (by omega)).trans (x94)
        have x98 := (f96 (1004) (by omega)).trans ((f2 (1004) (by omega)).trans (hT_c))
        exact g_athrow E Rx dX2_line_352 h96 (by decide) (by decide) (⟨(1, t.2.2.1), zLn_x c5 (lws_no l25_7 (by decide +kernel) (of_decide_eq_false c198)), ⟨⟨_, h96, h96a, h96b⟩, ⟨_, x97, hT_0, hT_1, hT_2⟩, ⟨_, x98⟩, ⟨N, by omega, fun j9 a9 => (f96 j9 (by omega)).trans ((f2 j9 (by omega)).trans (hT_z j9 (by omega)))⟩, fun j9 h9 => (f96 j9 (by omega)).trans (f2 j9 (by omega))⟩⟩)
      · have c198 := zb_n0.mp c198
        refine g_bipush E (v := 6) dX2_line_201 (by decide) rfl ?_
        refine g_istore_n E dX2_line_203 rfl (by decide) rfl (lo1 := [some (.ref 1002), some (.ref M), some (.int 6)]) rfl rfl ?_
        refine g_goto E dX2_line_204 (tgt := 234) (by decide) ?_
        refine g_iload_n E dX2_line_234 rfl rfl rfl ?_
        refine g_tabIn E dX2_line_235 (by decide) (by decide) (off := 91) (by rfl) (tgt := 326) (by decide) ?_
        refine g_aload_n E dX2_line_326 rfl rfl rfl ?_
        have x99 := (f2 (1002) (by omega)).trans (hT_a)
        have x101 := (f2 (1003) (by omega)).trans (hT_b)
        have x102 := (f2 (1004) (by omega)).trans (hT_c)
        have y103 := (hT_t.fr  (fun j9 a9 b9 => f2 j9 (by omega)))
        have hT100 : pTk g2 n bb t M N T := ⟨⟨_, x99, hT_0, hT_1, hT_2, hT_3, hT_4, hT_5, hT_6, hT_7, hT_8, hT_9⟩, (fun _ => ⟨hst2, hW1.2⟩), ⟨_, x101⟩, ⟨_, x102⟩, y103, fun j9 a9 => (f2 j9 (by omega)).trans (hT_z j9 (by omega))⟩
        have y104 := (hQ.fr hw (by omega) (fun j9 a9 b9 => f2 j9 (by omega)))
        have y105 := (hS9.fr  (fun j9 a9 b9 => f2 j9 (by omega)))
        refine g_callVX (k := 1002) (n9 := 0) (av := []) (st := []) E Rx (ct_X2_crosses l hT100 (by omega) hok (by omega) (by omega) (by omega) hw (pBq.mono y104 (by omega)) hnl hx y105) gciX2 dX2_line_327 x99 q1098 q1100 qs27 q121 q1101 (by decide +kernel) rfl rfl ⟨by decide, by decide⟩ ⟨by decide, by decide⟩ (Nat.le_of_ble_eq_true rfl) rfl (fun g9 ⟨e9, h9e, h9p⟩ => ⟨e9, by rw [zLn_6 c5 (of_decide_eq_true c198), h9e] <;> rfl, h9p.tr (fun j9 h9 => f2 j9 (by omega))⟩) (gPe.kn (fun a106 g106 he106 h106 => ?_))
        obtain ⟨M106, N106, hM106, hN106, hT106, hQ106, hS106, f106⟩ := h106
        refine g_goto E dX2_line_330 (tgt := 353) (by decide) ?_
        exact (gRx_leave Rx E).elim (fun z9 h9z => h9z.2.2 _ _ _ _ _ _ (g_vret h9z.2.1 h9z.1 dX2_line_353 rfl (by decide) (by decide) (⟨a106, by rw [zLn_6 c5 (of_decide_eq_true c198)]; exact he106, rfl, M106, N106, by omega, hN106, hT106, hQ106, hS106, fun j9 h9 => (f106 j9 (by omega)).trans (f2 j9 (by omega))⟩)))
    have n25_7 := l25_7
    by_cases l25_8 : zHs t.2.2.2.2 = 1268946111
    · refine g_lookup E dX2_line_25 (by decide) (by rw [l25_8] <;> rfl) (tgt := 136) (by decide) ?_
      refine g_aload_n E dX2_line_136 rfl rfl rfl ?_
      refine g_ldcS E (j := 3) (tx := "traveller") rfl dX2_line_137 rfl ?_
      refine g_callV (k := M) (n9 := 1) (av := [.ref (1 + 2 * 3)]) (st := []) E (ct_J3_equals_L l hst2 (by omega) rfl) gciJ3 dX2_line_139 hst2_a q778 q779 q780 q137 q781 (by decide +kernel) rfl rfl ⟨by decide, by decide⟩ ⟨by decide, by decide⟩ (Nat.le_of_ble_eq_true rfl) rfl (gPu.k ?_)
      refine g_if_eq E dX2_line_142 (tgt := 234) (by decide) rfl (fun c142 => ?_) (fun c142 => ?_)
      · have c142 := zb_0.mp c142
        refine g_iload_n E dX2_line_234 rfl rfl rfl ?_
        refine g_tabOut E dX2_line_235 (by decide) (tgt := 347) (by decide) ?_
        refine g_aload_n E dX2_line_347 rfl rfl rfl ?_
        refine g_iconst E (v := 1) dX2_line_348 (by decide) rfl ?_
        have x107 := (f2 (1002) (by omega)).trans (hT_a)
        have x108 := (f2 (1003) (by omega)).trans (hT_b)
        refine g_callV (k := 1002) (n9 := 1) (av := [.int 1]) (st := []) E (ct_X2_fail l 1 (⟨_, x107, hT_0, hT_6⟩) (⟨_, x108⟩)) gciX2 dX2_line_349 x107 q716 q718 qs7 q121 q719 (by decide +kernel) rfl rfl ⟨by decide, by decide⟩ ⟨by decide, by decide⟩ (Nat.le_of_ble_eq_true rfl) rfl (gPr.k (fun g109 h109 => ?_))
        obtain ⟨⟨F109, h109, h109a, h109b⟩, f109⟩ := h109
        have x110 := (f109 (1002) (by omega)).trans (x107)
        have x111 := (f109 (1004) (by omega)).trans ((f2 (1004) (by omega)).trans (hT_c))
        exact g_athrow E Rx dX2_line_352 h109 (by decide) (by decide) (⟨(1, t.2.2.1), zLn_x c5 (lws_no l25_8 (by decide +kernel) (of_decide_eq_false c142)), ⟨⟨_, h109, h109a, h109b⟩, ⟨_, x110, hT_0, hT_1, hT_2⟩, ⟨_, x111⟩, ⟨N, by omega, fun j9 a9 => (f109 j9 (by omega)).trans ((f2 j9 (by omega)).trans (hT_z j9 (by omega)))⟩, fun j9 h9 => (f109 j9 (by omega)).trans (f2 j9 (by omega))⟩⟩)
      · have c142 := zb_n0.mp c142
        refine g_iconst E (v := 2) dX2_line_145 (by decide) rfl ?_
        refine g_istore_n E dX2_line_146 rfl (by decide) rfl (lo1 := [some (.ref 1002), some (.ref M), some (.int 2)]) rfl rfl ?_
        refine g_goto E dX2_line_147 (tgt := 234) (by decide) ?_
        refine g_iload_n E dX2_line_234 rfl rfl rfl ?_
        refine g_tabIn E dX2_line_235 (by decide) (by decide) (off := 63) (by rfl) (tgt := 298) (by decide) ?_
        refine g_aload_n E dX2_line_298 rfl rfl rfl ?_
        have x112 := (f2 (1002) (by omega)).trans (hT_a)
        have x114 := (f2 (1003) (by omega)).trans (hT_b)
        have x115 := (f2 (1004) (by omega)).trans (hT_c)
        have y116 := (hT_t.fr  (fun j9 a9 b9 => f2 j9 (by omega)))
        have hT113 : pTk g2 n bb t M N T := ⟨⟨_, x112, hT_0, hT_1, hT_2, hT_3, hT_4, hT_5, hT_6, hT_7, hT_8, hT_9⟩, (fun _ => ⟨hst2, hW1.2⟩), ⟨_, x114⟩, ⟨_, x115⟩, y116, fun j9 a9 => (f2 j9 (by omega)).trans (hT_z j9 (by omega))⟩
        have y117 := (hQ.fr hw (by omega) (fun j9 a9 b9 => f2 j9 (by omega)))
        have y118 := (hS9.fr  (fun j9 a9 b9 => f2 j9 (by omega)))
        refine g_callVX (k := 1002) (n9 := 0) (av := []) (st := []) E Rx (ct_X2_travellerLine l hT113 (by omega) hok (by omega) (by omega) (by omega) hw (pBq.mono y117 (by omega)) hnl hx y118) gciX2 dX2_line_299 x112 q890 q892 qs17 q121 q893 (by decide +kernel) rfl rfl ⟨by decide, by decide⟩ ⟨by decide, by decide⟩ (Nat.le_of_ble_eq_true rfl) rfl (fun g9 ⟨e9, h9e, h9p⟩ => ⟨e9, by rw [zLn_2 c5 (of_decide_eq_true c142), h9e] <;> rfl, h9p.tr (fun j9 h9 => f2 j9 (by omega))⟩) (gPe.kn (fun a119 g119 he119 h119 => ?_))
        obtain ⟨M119, N119, hM119, hN119, hT119, hQ119, hS119, f119⟩ := h119
        refine g_goto E dX2_line_302 (tgt := 353) (by decide) ?_
        exact (gRx_leave Rx E).elim (fun z9 h9z => h9z.2.2 _ _ _ _ _ _ (g_vret h9z.2.1 h9z.1 dX2_line_353 rfl (by decide) (by decide) (⟨a119, by rw [zLn_2 c5 (of_decide_eq_true c142)]; exact he119, rfl, M119, N119, by omega, hN119, hT119, hQ119, hS119, fun j9 h9 => (f119 j9 (by omega)).trans (f2 j9 (by omega))⟩)))
    have n25_8 := l25_8
    refine g_lookup E dX2_line_25 (by decide) (show Op.lookupswitch.offset [((-333143113), 83), (3165387, 125), (3178685, 139), (94940667, 197), (99273585, 153), (103769422, 97), (106934601, 182), (1038324974, 167), (1268946111, 111)] 209 (zHs t.2.2.2.2).toInt = 209 by rw [Op.lookupswitch.offset_cons, if_neg (fun h9 => n25_0 (Int32.toInt_inj.mp h9.symm)), Op.lookupswitch.offset_cons, if_neg (fun h9 => n25_1 (Int32.toInt_inj.mp h9.symm)), Op.lookupswitch.offset_cons, if_neg (fun h9 => n25_2 (Int32.toInt_inj.mp h9.symm)), Op.lookupswitch.offset_cons, if_neg (fun h9 => n25_3 (Int32.toInt_inj.mp h9.symm)), Op.lookupswitch.offset_cons, if_neg (fun h9 => n25_4 (Int32.toInt_inj.mp h9.symm)), Op.lookupswitch.offset_cons, if_neg (fun h9 => n25_5 (Int32.toInt_inj.mp h9.symm)), Op.lookupswitch.offset_cons, if_neg (fun h9 => n25_6 (Int32.toInt_inj.mp h9.symm)), Op.lookupswitch.offset_cons, if_neg (fun h9 => n25_7 (Int32.toInt_inj.mp h9.symm)), Op.lookupswitch.offset_cons, if_neg (fun h9 => n25_8 (Int32.toInt_inj.mp h9.symm)), Op.lookupswitch.offset_nil]) (tgt := 234) (by decide) ?_
    refine g_iload_n E dX2_line_234 rfl rfl rfl ?_
    refine g_tabOut E dX2_line_235 (by decide) (tgt := 347) (by decide) ?_
    refine g_aload_n E dX2_line_347 rfl rfl rfl ?_
    refine g_iconst E (v := 1) dX2_line_348 (by decide) rfl ?_
    have x120 := (f2 (1002) (by omega)).trans (hT_a)
    have x121 := (f2 (1003) (by omega)).trans (hT_b)
    refine g_callV (k := 1002) (n9 := 1) (av := [.int 1]) (st := []) E (ct_X2_fail l 1 (⟨_, x120, hT_0, hT_6⟩) (⟨_, x121⟩)) gciX2 dX2_line_349 x120 q716 q718 qs7 q121 q719 (by decide +kernel) rfl rfl ⟨by decide, by decide⟩ ⟨by decide, by decide⟩ (Nat.le_of_ble_eq_true rfl) rfl (gPr.k (fun g122 h122 => ?_))
    obtain ⟨⟨F122, h122, h122a, h122b⟩, f122⟩ := h122
    have x123 := (f122 (1002) (by omega)).trans (x120)
    have x124 := (f122 (1004) (by omega)).trans ((f2 (1004) (by omega)).trans (hT_c))
    exact g_athrow E Rx dX2_line_352 h122 (by decide) (by decide) (⟨(1, t.2.2.1), zLn_x c5 (fun hm9 => by rcases lws_h _ hm9 with h9 | h9 | h9 | h9 | h9 | h9 | h9 | h9 | h9 <;> contradiction), ⟨⟨_, h122, h122a, h122b⟩, ⟨_, x123, hT_0, hT_1, hT_2⟩, ⟨_, x124⟩, ⟨N, by omega, fun j9 a9 => (f122 j9 (by omega)).trans ((f2 j9 (by omega)).trans (hT_z j9 (by omega)))⟩, fun j9 h9 => (f122 j9 (by omega)).trans (f2 j9 (by omega))⟩⟩)
  · have c5 := mt (nI_eq (a := t.2.1) (b := 2) (by omega) (by omega)).mpr c5
    refine g_aload_n E dX2_line_8 rfl rfl rfl ?_
    refine g_iconst E (v := 1) dX2_line_9 (by decide) rfl ?_
    refine g_callV (k := 1002) (n9 := 1) (av := [.int 1]) (st := []) E (ct_X2_fail l 1 (⟨_, hT_a, hT_0, hT_6⟩) (⟨_, hT_b⟩)) gciX2 dX2_line_10 hT_a q716 q718 qs7 q121 q719 (by decide +kernel) rfl rfl ⟨by decide, by decide⟩ ⟨by decide, by decide⟩ (Nat.le_of_ble_eq_true rfl) rfl (gPr.k (fun g125 h125 => ?_))
    obtain ⟨⟨F125, h125, h125a, h125b⟩, f125⟩ := h125
    have x126 := (f125 (1002) (by omega)).trans (hT_a)
    have x127 := (f125 (1004) (by omega)).trans (hT_c)
    exact g_athrow E Rx dX2_line_13 h125 (by decide) (by decide) (⟨(1, t.2.2.1), zLn_n c5, ⟨⟨_, h125, h125a, h125b⟩, ⟨_, x126, hT_0, hT_1, hT_2⟩, ⟨_, x127⟩, ⟨N, by omega, fun j9 a9 => (f125 j9 (by omega)).trans (hT_z j9 (by omega))⟩, fun j9 h9 => f125 j9 (by omega)⟩⟩)
