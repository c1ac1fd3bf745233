/-! WALKS, twenty-seventh: names -/
set_option maxRecDepth 100000
set_option maxHeartbeats 2000000 in
theorem ct_X2_mustName (l : Launch) {g : gWM} {n bb M N : Nat} {t : zTk} {T : Nat → Int32} (hT : pTk g n bb t M N T) (hn : n ≤ 1100) (hok : zOk n t) (hbb : 10000 ≤ bb) (hM : bb + 100 ≤ M) (hMN : M ≤ N) : gXt l yX2_mustName cX2_mustName 3 none 4 0 0 90 [.ref 1002] g (gPe (zMn t) (fun _ => none) (fun _ g1 => pTk g1 n bb t M N T ∧ t.2.1 = 2 ∧ ∀ j, j < M → g1 j = g j)) (fun g1 => ∃ e, zMn t = .inl e ∧ pXx g1 g bb e) := by
  refine gXt.of RX2 (by decide) rfl (lo := [some (.ref 1002), none, none]) 2 rfl (Nat.le_of_ble_eq_true rfl) (fun z E Rx => ?_)
  have hT_o := hT
  obtain ⟨⟨hT_F, hT_a, hT_0, hT_1, hT_2, hT_3, hT_4, hT_5, hT_6, hT_7, hT_8, hT_9⟩, hT_s, ⟨hT_G, hT_b⟩, ⟨hT_l, hT_c⟩, hT_t, hT_z⟩ := hT_o
  have hT_t_o := hT_t
  obtain ⟨hT_t_f, hT_t_a, hT_t_b⟩ := hT_t_o
  have hok_o := hok
  obtain ⟨hok_1, hok_2, hok_3, hok_4, hok_5⟩ := hok_o
  refine g_aload_n E dX2_mustName_0 rfl rfl rfl ?_
  refine g_getf E gciX2 dX2_mustName_1 hT_a 5 rfl (by decide) q251 (.inl rfl) (.int (nI (t.2.1))) (hT_5) rfl ?_
  refine g_iconst E (v := 2) dX2_mustName_4 (by decide) rfl ?_
  refine g_icmp_eq E dX2_mustName_5 (tgt := 14) (by decide) rfl (fun c5 => ?_) (fun c5 => ?_)
  · have c5 := (nI_eq (a := t.2.1) (b := 2) (by omega) (by omega)).mp c5
    have hW1 := hT_s c5
    have hW1_1 := hW1.1
    have hW1_2 := hW1.2
    have hW1_w := hok.2.2.2.1 c5
    have hW1_wl := hW1_w.2.1
    have hW1_1_o := hW1_1
    obtain ⟨hW1_1_F, hW1_1_h, hW1_1_iz, hW1_1_a, hW1_1_0, hW1_1_1, hW1_1_2, hW1_1_3, hW1_1_4, hW1_1_5, hW1_1_f, hW1_1_b, hW1_1_c⟩ := hW1_1_o
    refine g_aload_n E dX2_mustName_14 rfl rfl rfl ?_
    refine g_getf E gciX2 dX2_mustName_15 hT_a 8 rfl (by decide) q254 (.inl rfl) (.ref M) (hT_8 c5) rfl ?_
    refine g_astore_n E dX2_mustName_18 rfl (by decide) rfl (lo1 := [some (.ref 1002), some (.ref M), none]) rfl rfl ?_
    refine g_iconst E (v := (-1)) dX2_mustName_19 (by decide) rfl ?_
    refine g_istore_n E dX2_mustName_20 rfl (by decide) rfl (lo1 := [some (.ref 1002), some (.ref M), some (.int (-1))]) rfl rfl ?_
    refine g_aload_n E dX2_mustName_21 rfl rfl rfl ?_
    refine g_callV (k := M) (n9 := 0) (av := []) (st := []) E (ct_J3_hashCode l hW1_1 (by omega)) gciJ3 dX2_mustName_22 hW1_1_a q724 q725 q726 q137 q727 (by decide +kernel) rfl rfl ⟨by decide, by decide⟩ ⟨by decide, by decide⟩ (Nat.le_of_ble_eq_true rfl) rfl (gPi.k (fun g2 h2 => ?_))
    obtain ⟨hst2, f2⟩ := h2
    have hst2_o := hst2
    obtain ⟨hst2_F, hst2_h, hst2_iz, hst2_a, hst2_0, hst2_1, hst2_2, hst2_3, hst2_4, hst2_5, hst2_f, hst2_b, hst2_c⟩ := hst2_o
    by_cases l25_0 : zHs t.2.2.2.2 = (-333143113)
    · refine g_lookup E dX2_mustName_25 (by decide) (by rw [l25_0] <;> rfl) (tgt := 124) (by decide) ?_
      refine g_aload_n E dX2_mustName_124 rfl rfl rfl ?_
      refine g_ldcS E (j := 1) (tx := "barrier") rfl dX2_mustName_125 rfl ?_
      refine g_callV (k := M) (n9 := 1) (av := [.ref (1 + 2 * 1)]) (st := []) E (ct_J3_equals_L l hst2 (by omega) rfl) gciJ3 dX2_mustName_127 hst2_a q778 q779 q780 q137 q781 (by decide +kernel) rfl rfl ⟨by decide, by decide⟩ ⟨by decide, by decide⟩ (Nat.le_of_ble_eq_true rfl) rfl (gPu.k ?_)
      refine g_if_eq E dX2_mustName_130 (tgt := 280) (by decide) rfl (fun c130 => ?_) (fun c130 => ?_)
      · have c130 := zb_0.mp c130
        refine g_iload_n E dX2_mustName_280 rfl rfl rfl ?_
        refine g_tabOut E dX2_mustName_281 (by decide) (tgt := 346) (by decide) ?_
        have x3 := (f2 (1002) (by omega)).trans (hT_a)
        have x5 := (f2 (1003) (by omega)).trans (hT_b)
        have x6 := (f2 (1004) (by omega)).trans (hT_c)
        have y7 := (hT_t.fr  (fun j9 a9 b9 => f2 j9 (by omega)))
        have hT4 : pTk g2 n bb t M N T := ⟨⟨_, x3, hT_0, hT_1, hT_2, hT_3, hT_4, hT_5, hT_6, hT_7, hT_8, hT_9⟩, (fun _ => ⟨hst2, hW1.2⟩), ⟨_, x5⟩, ⟨_, x6⟩, y7, fun j9 a9 => (f2 j9 (by omega)).trans (hT_z j9 (by omega))⟩
        exact (gRx_leave Rx E).elim (fun z9 h9z => h9z.2.2 _ _ _ _ _ _ (g_vret h9z.2.1 h9z.1 dX2_mustName_346 rfl (by decide) (by decide) (⟨(), zMn_y c5 (rsv_no l25_0 (by decide +kernel) (of_decide_eq_false c130)), rfl, hT4, c5, fun j9 h9 => f2 j9 (by omega)⟩)))
      · have c130 := zb_n0.mp c130
        refine g_iconst E (v := 0) dX2_mustName_133 (by decide) rfl ?_
        refine g_istore_n E dX2_mustName_134 rfl (by decide) rfl (lo1 := [some (.ref 1002), some (.ref M), some (.int 0)]) rfl rfl ?_
        refine g_goto E dX2_mustName_135 (tgt := 280) (by decide) ?_
        refine g_iload_n E dX2_mustName_280 rfl rfl rfl ?_
        refine g_tabIn E dX2_mustName_281 (by decide) (by decide) (off := 59) (by rfl) (tgt := 340) (by decide) ?_
        refine g_aload_n E dX2_mustName_340 rfl rfl rfl ?_
        refine g_iconst E (v := 1) dX2_mustName_341 (by decide) rfl ?_
        have x8 := (f2 (1002) (by omega)).trans (hT_a)
        have x9 := (f2 (1003) (by omega)).trans (hT_b)
        refine g_callV (k := 1002) (n9 := 1) (av := [.int 1]) (st := []) E (ct_X2_fail l 1 (⟨_, x8, hT_0, hT_6⟩) (⟨_, x9⟩)) gciX2 dX2_mustName_342 x8 q716 q718 qs7 q121 q719 (by decide +kernel) rfl rfl ⟨by decide, by decide⟩ ⟨by decide, by decide⟩ (Nat.le_of_ble_eq_true rfl) rfl (gPr.k (fun g10 h10 => ?_))
        obtain ⟨⟨F10, h10, h10a, h10b⟩, f10⟩ := h10
        have x11 := (f10 (1002) (by omega)).trans (x8)
        have x12 := (f10 (1004) (by omega)).trans ((f2 (1004) (by omega)).trans (hT_c))
        exact g_athrow E Rx dX2_mustName_345 h10 (by decide) (by decide) (⟨(1, t.2.2.1), zMn_r (of_decide_eq_true c130) (by decide +kernel), ⟨⟨_, h10, h10a, h10b⟩, ⟨_, x11, hT_0, hT_1, hT_2⟩, ⟨_, x12⟩, ⟨N, by omega, fun j9 a9 => (f10 j9 (by omega)).trans ((f2 j9 (by omega)).trans (hT_z j9 (by omega)))⟩, fun j9 h9 => (f10 j9 (by omega)).trans (f2 j9 (by omega))⟩⟩)
    have n25_0 := l25_0
    by_cases l25_1 : zHs t.2.2.2.2 = 3159
    · refine g_lookup E dX2_mustName_25 (by decide) (by rw [l25_1] <;> rfl) (tgt := 268) (by decide) ?_
      refine g_aload_n E dX2_mustName_268 rfl rfl rfl ?_
      refine g_ldcS E (j := 13) (tx := "by") rfl dX2_mustName_269 rfl ?_
      refine g_callV (k := M) (n9 := 1) (av := [.ref (1 + 2 * 13)]) (st := []) E (ct_J3_equals_L l hst2 (by omega) rfl) gciJ3 dX2_mustName_271 hst2_a q778 q779 q780 q137 q781 (by decide +kernel) rfl rfl ⟨by decide, by decide⟩ ⟨by decide, by decide⟩ (Nat.le_of_ble_eq_true rfl) rfl (gPu.k ?_)
      refine g_if_eq E dX2_mustName_274 (tgt := 280) (by decide) rfl (fun c274 => ?_) (fun c274 => ?_)
      · have c274 := zb_0.mp c274
        refine g_iload_n E dX2_mustName_280 rfl rfl rfl ?_
        refine g_tabOut E dX2_mustName_281 (by decide) (tgt := 346) (by decide) ?_
        have x13 := (f2 (1002) (by omega)).trans (hT_a)
        have x15 := (f2 (1003) (by omega)).trans (hT_b)
        have x16 := (f2 (1004) (by omega)).trans (hT_c)
        have y17 := (hT_t.fr  (fun j9 a9 b9 => f2 j9 (by omega)))
        have hT14 : pTk g2 n bb t M N T := ⟨⟨_, x13, hT_0, hT_1, hT_2, hT_3, hT_4, hT_5, hT_6, hT_7, hT_8, hT_9⟩, (fun _ => ⟨hst2, hW1.2⟩), ⟨_, x15⟩, ⟨_, x16⟩, y17, fun j9 a9 => (f2 j9 (by omega)).trans (hT_z j9 (by omega))⟩
        exact (gRx_leave Rx E).elim (fun z9 h9z => h9z.2.2 _ _ _ _ _ _ (g_vret h9z.2.1 h9z.1 dX2_mustName_346 rfl (by decide) (by decide) (⟨(), zMn_y c5 (rsv_no l25_1 (by decide +kernel) (of_decide_eq_false c274)), rfl, hT14, c5, fun j9 h9 => f2 j9 (by omega)⟩)))
      · have c274 := zb_n0.mp c274
        refine g_bipush E (v := 10) dX2_mustName_277 (by decide) rfl ?_
        refine g_istore_n E dX2_mustName_279 rfl (by decide) rfl (lo1 := [some (.ref 1002), some (.ref M), some (.int 10)]) rfl rfl ?_
        refine g_iload_n E dX2_mustName_280 rfl rfl rfl ?_
        refine g_tabIn E dX2_mustName_281 (by decide) (by decide) (off := 59) (by rfl) (tgt := 340) (by decide) ?_
        refine g_aload_n E dX2_mustName_340 rfl rfl rfl ?_
        refine g_iconst E (v := 1) dX2_mustName_341 (by decide) rfl ?_
        have x18 := (f2 (1002) (by omega)).trans (hT_a)
        have x19 := (f2 (1003) (by omega)).trans (hT_b)
        refine g_callV (k := 1002) (n9 := 1) (av := [.int 1]) (st := []) E (ct_X2_fail l 1 (⟨_, x18, hT_0, hT_6⟩) (⟨_, x19⟩)) gciX2 dX2_mustName_342 x18 q716 q718 qs7 q121 q719 (by decide +kernel) rfl rfl ⟨by decide, by decide⟩ ⟨by decide, by decide⟩ (Nat.le_of_ble_eq_true rfl) rfl (gPr.k (fun g20 h20 => ?_))
        obtain ⟨⟨F20, h20, h20a, h20b⟩, f20⟩ := h20
        have x21 := (f20 (1002) (by omega)).trans (x18)
        have x22 := (f20 (1004) (by omega)).trans ((f2 (1004) (by omega)).trans (hT_c))
        exact g_athrow E Rx dX2_mustName_345 h20 (by decide) (by decide) (⟨(1, t.2.2.1), zMn_r (of_decide_eq_true c274) (by decide +kernel), ⟨⟨_, h20, h20a, h20b⟩, ⟨_, x21, hT_0, hT_1, hT_2⟩, ⟨_, x22⟩, ⟨N, by omega, fun j9 a9 => (f20 j9 (by omega)).trans ((f2 j9 (by omega)).trans (hT_z j9 (by omega)))⟩, fun j9 h9 => (f20 j9 (by omega)).trans (f2 j9 (by omega))⟩⟩)
    have n25_1 := l25_1
    by_cases l25_2 : zHs t.2.2.2.2 = 3165387
    · refine g_lookup E dX2_mustName_25 (by decide) (by rw [l25_2] <;> rfl) (tgt := 166) (by decide) ?_
      refine g_aload_n E dX2_mustName_166 rfl rfl rfl ?_
      refine g_ldcS E (j := 4) (tx := "gate") rfl dX2_mustName_167 rfl ?_
      refine g_callV (k := M) (n9 := 1) (av := [.ref (1 + 2 * 4)]) (st := []) E (ct_J3_equals_L l hst2 (by omega) rfl) gciJ3 dX2_mustName_169 hst2_a q778 q779 q780 q137 q781 (by decide +kernel) rfl rfl ⟨by decide, by decide⟩ ⟨by decide, by decide⟩ (Nat.le_of_ble_eq_true rfl) rfl (gPu.k ?_)
      refine g_if_eq E dX2_mustName_172 (tgt := 280) (by decide) rfl (fun c172 => ?_) (fun c172 => ?_)
      · have c172 := zb_0.mp c172
        refine g_iload_n E dX2_mustName_280 rfl rfl rfl ?_
        refine g_tabOut E dX2_mustName_281 (by decide) (tgt := 346) (by decide) ?_
        have x23 := (f2 (1002) (by omega)).trans (hT_a)
        have x25 := (f2 (1003) (by omega)).trans (hT_b)
        have x26 := (f2 (1004) (by omega)).trans (hT_c)
        have y27 := (hT_t.fr  (fun j9 a9 b9 => f2 j9 (by omega)))
        have hT24 : pTk g2 n bb t M N T := ⟨⟨_, x23, hT_0, hT_1, hT_2, hT_3, hT_4, hT_5, hT_6, hT_7, hT_8, hT_9⟩, (fun _ => ⟨hst2, hW1.2⟩), ⟨_, x25⟩, ⟨_, x26⟩, y27, fun j9 a9 => (f2 j9 (by omega)).trans (hT_z j9 (by omega))⟩
        exact (gRx_leave Rx E).elim (fun z9 h9z => h9z.2.2 _ _ _ _ _ _ (g_vret h9z.2.1 h9z.1 dX2_mustName_346 rfl (by decide) (by decide) (⟨(), zMn_y c5 (rsv_no l25_2 (by decide +kernel) (of_decide_eq_false c172)), rfl, hT24, c5, fun j9 h9 => f2 j9 (by omega)⟩)))
      · have c172 := zb_n0.mp c172
        refine g_iconst E (v := 3) dX2_mustName_175 (by decide) rfl ?_
        refine g_istore_n E dX2_mustName_176 rfl (by decide) rfl (lo1 := [some (.ref 1002), some (.ref M), some (.int 3)]) rfl rfl ?_
        refine g_goto E dX2_mustName_177 (tgt := 280) (by decide) ?_
        refine g_iload_n E dX2_mustName_280 rfl rfl rfl ?_
        refine g_tabIn E dX2_mustName_281 (by decide) (by decide) (off := 59) (by rfl) (tgt := 340) (by decide) ?_
        refine g_aload_n E dX2_mustName_340 rfl rfl rfl ?_
        refine g_iconst E (v := 1) dX2_mustName_341 (by decide) rfl ?_
        have x28 := (f2 (1002) (by omega)).trans (hT_a)
        have x29 := (f2 (1003) (by omega)).trans (hT_b)
        refine g_callV (k := 1002) (n9 := 1) (av := [.int 1]) (st := []) E (ct_X2_fail l 1 (⟨_, x28, hT_0, hT_6⟩) (⟨_, x29⟩)) gciX2 dX2_mustName_342 x28 q716 q718 qs7 q121 q719 (by decide +kernel) rfl rfl ⟨by decide, by decide⟩ ⟨by decide, by decide⟩ (Nat.le_of_ble_eq_true rfl) rfl (gPr.k (fun g30 h30 => ?_))
        obtain ⟨⟨F30, h30, h30a, h30b⟩, f30⟩ := h30
        have x31 := (f30 (1002) (by omega)).trans (x28)
        have x32 := (f30 (1004) (by omega)).trans ((f2 (1004) (by omega)).trans (hT_c))
        exact g_athrow E Rx dX2_mustName_345 h30 (by decide) (by decide) (⟨(1, t.2.2.1), zMn_r (of_decide_eq_true c172) (by decide +kernel), ⟨⟨_, h30, h30a, h30b⟩, ⟨_, x31, hT_0, hT_1, hT_2⟩, ⟨_, x32⟩, ⟨N, by omega, fun j9 a9 => (f30 j9 (by omega)).trans ((f2 j9 (by omega)).trans (hT_z j9 (by omega)))⟩, fun j9 h9 => (f30 j9 (by omega)).trans (f2 j9 (by omega))⟩⟩)
    have n25_2 := l25_2
    by_cases l25_3 : zHs t.2.2.2.2 = 3178685
    · refine g_lookup E dX2_mustName_25 (by decide) (by rw [l25_3] <;> rfl) (tgt := 180) (by decide) ?_
      refine g_aload_n E dX2_mustName_180 rfl rfl rfl ?_
      refine g_ldcS E (j := 5) (tx := "good") rfl dX2_mustName_181 rfl ?_
      refine g_callV (k := M) (n9 := 1) (av := [.ref (1 + 2 * 5)]) (st := []) E (ct_J3_equals_L l hst2 (by omega) rfl) gciJ3 dX2_mustName_183 hst2_a q778 q779 q780 q137 q781 (by decide +kernel) rfl rfl ⟨by decide, by decide⟩ ⟨by decide, by decide⟩ (Nat.le_of_ble_eq_true rfl) rfl (gPu.k ?_)
      refine g_if_eq E dX2_mustName_186 (tgt := 280) (by decide) rfl (fun c186 => ?_) (fun c186 => ?_)
      · have c186 := zb_0.mp c186
        refine g_iload_n E dX2_mustName_280 rfl rfl rfl ?_
        refine g_tabOut E dX2_mustName_281 (by decide) (tgt := 346) (by decide) ?_
        have x33 := (f2 (1002) (by omega)).trans (hT_a)
        have x35 := (f2 (1003) (by omega)).trans (hT_b)
        have x36 := (f2 (1004) (by omega)).trans (hT_c)
        have y37 := (hT_t.fr  (fun j9 a9 b9 => f2 j9 (by omega)))
        have hT34 : pTk g2 n bb t M N T := ⟨⟨_, x33, hT_0, hT_1, hT_2, hT_3, hT_4, hT_5, hT_6, hT_7, hT_8, hT_9⟩, (fun _ => ⟨hst2, hW1.2⟩), ⟨_, x35⟩, ⟨_, x36⟩, y37, fun j9 a9 => (f2 j9 (by omega)).trans (hT_z j9 (by omega))⟩
        exact (gRx_leave Rx E).elim (fun z9 h9z => h9z.2.2 _ _ _ _ _ _ (g_vret h9z.2.1 h9z.1 dX2_mustName_346 rfl (by decide) (by decide) (⟨(), zMn_y c5 (rsv_no l25_3 (by decide +kernel) (of_decide_eq_false c186)), rfl, hT34, c5, fun j9 h9 => f2 j9 (by omega)⟩)))
      · have c186 := zb_n0.mp c186
        refine g_iconst E (v := 4) dX2_mustName_189 (by decide) rfl ?_
        refine g_istore_n E dX2_mustName_190 rfl (by decide) rfl (lo1 := [some (.ref 1002), some (.ref M), some (.int 4)]) rfl rfl ?_
        refine g_goto E dX2_mustName_191 (tgt := 280) (by decide) ?_
        refine g_iload_n E dX2_mustName_280 rfl rfl rfl ?_
        refine g_tabIn E dX2_mustName_281 (by decide) (by decide) (off := 59) (by rfl) (tgt := 340) (by decide) ?_
        refine g_aload_n E dX2_mustName_340 rfl rfl rfl ?_
        refine g_iconst E (v := 1) dX2_mustName_341 (by decide) rfl ?_
        have x38 := (f2 (1002) (by omega)).trans (hT_a)
        have x39 := (f2 (1003) (by omega)).trans (hT_b)
        refine g_callV (k := 1002) (n9 := 1) (av := [.int 1]) (st := []) E (ct_X2_fail l 1 (⟨_, x38, hT_0, hT_6⟩) (⟨_, x39⟩)) gciX2 dX2_mustName_342 x38 q716 q718 qs7 q121 q719 (by decide +kernel) rfl rfl ⟨by decide, by decide⟩ ⟨by decide, by decide⟩ (Nat.le_of_ble_eq_true rfl) rfl (gPr.k (fun g40 h40 => ?_))
        obtain ⟨⟨F40, h40, h40a, h40b⟩, f40⟩ := h40
        have x41 := (f40 (1002) (by omega)).trans (x38)
        have x42 := (f40 (1004) (by omega)).trans ((f2 (1004) (by omega)).trans (hT_c))
        exact g_athrow E Rx dX2_mustName_345 h40 (by decide) (by decide) (⟨(1, t.2.2.1), zMn_r (of_decide_eq_true c186) (by decide +kernel), ⟨⟨_, h40, h40a, h40b⟩, ⟨_, x41, hT_0, hT_1, hT_2⟩, ⟨_, x42⟩, ⟨N, by omega, fun j9 a9 => (f40 j9 (by omega)).trans ((f2 j9 (by omega)).trans (hT_z j9 (by omega)))⟩, fun j9 h9 => (f40 j9 (by omega)).trans (f2 j9 (by omega))⟩⟩)
    have n25_3 := l25_3
    by_cases l25_4 : zHs t.2.2.2.2 = 94940667
    · refine g_lookup E dX2_mustName_25 (by decide) (by rw [l25_4] <;> rfl) (tgt := 238) (by decide) ?_
      refine g_aload_n E dX2_mustName_238 rfl rfl rfl ?_
      refine g_ldcS E (j := 9) (tx := "crumb") rfl dX2_mustName_239 rfl ?_
      refine g_callV (k := M) (n9 := 1) (av := [.ref (1 + 2 * 9)]) (st := []) E (ct_J3_equals_L l hst2 (by omega) rfl) gciJ3 dX2_mustName_241 hst2_a q778 q779 q780 q137 q781 (by decide +kernel) rfl rfl ⟨by decide, by decide⟩ ⟨by decide, by decide⟩ (Nat.le_of_ble_eq_true rfl) rfl (gPu.k ?_)
      refine g_if_eq E dX2_mustName_244 (tgt := 280) (by decide) rfl (fun c244 => ?_) (fun c244 => ?_)
      · have c244 := zb_0.mp c244
        refine g_iload_n E dX2_mustName_280 rfl rfl rfl ?_
        refine g_tabOut E dX2_mustName_281 (by decide) (tgt := 346) (by decide) ?_
        have x43 := (f2 (1002) (by omega)).trans (hT_a)
        have x45 := (f2 (1003) (by omega)).trans (hT_b)
        have x46 := (f2 (1004) (by omega)).trans (hT_c)
        have y47 := (hT_t.fr  (fun j9 a9 b9 => f2 j9 (by omega)))
        have hT44 : pTk g2 n bb t M N T := ⟨⟨_, x43, hT_0, hT_1, hT_2, hT_3, hT_4, hT_5, hT_6, hT_7, hT_8, hT_9⟩, (fun _ => ⟨hst2, hW1.2⟩), ⟨_, x45⟩, ⟨_, x46⟩, y47, fun j9 a9 => (f2 j9 (by omega)).trans (hT_z j9 (by omega))⟩
        exact (gRx_leave Rx E).elim (fun z9 h9z => h9z.2.2 _ _ _ _ _ _ (g_vret h9z.2.1 h9z.1 dX2_mustName_346 rfl (by decide) (by decide) (⟨(), zMn_y c5 (rsv_no l25_4 (by decide +kernel) (of_decide_eq_false c244)), rfl, hT44, c5, fun j9 h9 => f2 j9 (by omega)⟩)))
      · have c244 := zb_n0.mp c244
        refine g_bipush E (v := 8) dX2_mustName_247 (by decide) rfl ?_
        refine g_istore_n E dX2_mustName_249 rfl (by decide) rfl (lo1 := [some (.ref 1002), some (.ref M), some (.int 8)]) rfl rfl ?_
        refine g_goto E dX2_mustName_250 (tgt := 280) (by decide) ?_
        refine g_iload_n E dX2_mustName_280 rfl rfl rfl ?_
        refine g_tabIn E dX2_mustName_281 (by decide) (by decide) (off := 59) (by rfl) (tgt := 340) (by decide) ?_
        refine g_aload_n E dX2_mustName_340 rfl rfl rfl ?_
        refine g_iconst E (v := 1) dX2_mustName_341 (by decide) rfl ?_
        have x48 := (f2 (1002) (by omega)).trans (hT_a)
        have x49 := (f2 (1003) (by omega)).trans (hT_b)
        refine g_callV (k := 1002) (n9 := 1) (av := [.int 1]) (st := []) E (ct_X2_fail l 1 (⟨_, x48, hT_0, hT_6⟩) (⟨_, x49⟩)) gciX2 dX2_mustName_342 x48 q716 q718 qs7 q121 q719 (by decide +kernel) rfl rfl ⟨by decide, by decide⟩ ⟨by decide, by decide⟩ (Nat.le_of_ble_eq_true rfl) rfl (gPr.k (fun g50 h50 => ?_))
        obtain ⟨⟨F50, h50, h50a, h50b⟩, f50⟩ := h50
        have x51 := (f50 (1002) (by omega)).trans (x48)
        have x52 := (f50 (1004) (by omega)).trans ((f2 (1004) (by omega)).trans (hT_c))
        exact g_athrow E Rx dX2_mustName_345 h50 (by decide) (by decide) (⟨(1, t.2.2.1), zMn_r (of_decide_eq_true c244) (by decide +kernel), ⟨⟨_, h50, h50a, h50b⟩, ⟨_, x51, hT_0, hT_1, hT_2⟩, ⟨_, x52⟩, ⟨N, by omega, fun j9 a9 => (f50 j9 (by omega)).trans ((f2 j9 (by omega)).trans (hT_z j9 (by omega)))⟩, fun j9 h9 => (f50 j9 (by omega)).trans (f2 j9 (by omega))⟩⟩)
    have n25_4 := l25_4
    by_cases l25_5 : zHs t.2.2.2.2 = 97696046
    · refine g_lookup E dX2_mustName_25 (by decide) (by rw [l25_5] <;> rfl) (tgt := 253) (by decide) ?_
      refine g_aload_n E dX2_mustName_253 rfl rfl rfl ?_
      refine g_ldcS E (j := 12) (tx := "fresh") rfl dX2_mustName_254 rfl ?_
      refine g_callV (k := M) (n9 := 1) (av := [.ref (1 + 2 * 12)]) (st := []) E (ct_J3_equals_L l hst2 (by omega) rfl) gciJ3 dX2_mustName_256 hst2_a q778 q779 q780 q137 q781 (by decide +kernel) rfl rfl ⟨by decide, by decide⟩ ⟨by decide, by decide⟩ (Nat.le_of_ble_eq_true rfl) rfl (gPu.k ?_)
      refine g_if_eq E dX2_mustName_259 (tgt := 280) (by decide) rfl (fun c259 => ?_) (fun c259 => ?_)
      · have c259 := zb_0.mp c259
        refine g_iload_n E dX2_mustName_280 rfl rfl rfl ?_
        refine g_tabOut E dX2_mustName_281 (by decide) (tgt := 346) (by decide) ?_
        have x53 := (f2 (1002) (by omega)).trans (hT_a)
        have x55 := (f2 (1003) (by omega)).trans (hT_b)
        have x56 := (f2 (1004) (by omega)).trans (hT_c)
        have y57 := (hT_t.fr  (fun j9 a9 b9 => f2 j9 (by omega)))
        have hT54 : pTk g2 n bb t M N T := ⟨⟨_, x53, hT_0, hT_1, hT_2, hT_3, hT_4, hT_5, hT_6, hT_7, hT_8, hT_9⟩, (fun _ => ⟨hst2, hW1.2⟩), ⟨_, x55⟩, ⟨_, x56⟩, y57, fun j9 a9 => (f2 j9 (by omega)).trans (hT_z j9 (by omega))⟩
        exact (gRx_leave Rx E).elim (fun z9 h9z => h9z.2.2 _ _ _ _ _ _ (g_vret h9z.2.1 h9z.1 dX2_mustName_346 rfl (by decide) (by decide) (⟨(), zMn_y c5 (rsv_no l25_5 (by decide +kernel) (of_decide_eq_false c259)), rfl, hT54, c5, fun j9 h9 => f2 j9 (by omega)⟩)))
      · have c259 := zb_n0.mp c259
        refine g_bipush E (v := 9) dX2_mustName_262 (by decide) rfl ?_
        refine g_istore_n E dX2_mustName_264 rfl (by decide) rfl (lo1 := [some (.ref 1002), some (.ref M), some (.int 9)]) rfl rfl ?_
        refine g_goto E dX2_mustName_265 (tgt := 280) (by decide) ?_
        refine g_iload_n E dX2_mustName_280 rfl rfl rfl ?_
        refine g_tabIn E dX2_mustName_281 (by decide) (by decide) (off := 59) (by rfl) (tgt := 340) (by decide) ?_
        refine g_aload_n E dX2_mustName_340 rfl rfl rfl ?_
        refine g_iconst E (v := 1) dX2_mustName_341 (by decide) rfl ?_
        have x58 := (f2 (1002) (by omega)).trans (hT_a)
        have x59 := (f2 (1003) (by omega)).trans (hT_b)
        refine g_callV (k := 1002) (n9 := 1) (av := [.int 1]) (st := []) E (ct_X2_fail l 1 (⟨_, x58, hT_0, hT_6⟩) (⟨_, x59⟩)) gciX2 dX2_mustName_342 x58 q716 q718 qs7 q121 q719 (by decide +kernel) rfl rfl ⟨by decide, by decide⟩ ⟨by decide, by decide⟩ (Nat.le_of_ble_eq_true rfl) rfl (gPr.k (fun g60 h60 => ?_))
        obtain ⟨⟨F60, h60, h60a, h60b⟩, f60⟩ := h60
        have x61 := (f60 (1002) (by omega)).trans (x58)
        have x62 := (f60 (1004) (by omega)).trans ((f2 (1004) (by omega)).trans (hT_c))
        exact g_athrow E Rx dX2_mustName_345 h60 (by decide) (by decide) (⟨(1, t.2.2.1), zMn_r (of_decide_eq_true c259) (by decide +kernel), ⟨⟨_, h60, h60a, h60b⟩, ⟨_, x61, hT_0, hT_1, hT_2⟩, ⟨_, x62⟩, ⟨N, by omega, fun j9 a9 => (f60 j9 (by omega)).trans ((f2 j9 (by omega)).trans (hT_z j9 (by omega)))⟩, fun j9 h9 => (f60 j9 (by omega)).trans (f2 j9 (by omega))⟩⟩)
    have n25_5 := l25_5
    by_cases l25_6 : zHs t.2.2.2.2 = 99273585
    · refine g_lookup E dX2_mustName_25 (by decide) (by rw [l25_6] <;> rfl) (tgt := 194) (by decide) ?_
      refine g_aload_n E dX2_mustName_194 rfl rfl rfl ?_
      refine g_ldcS E (j := 6) (tx := "hides") rfl dX2_mustName_195 rfl ?_
      refine g_callV (k := M) (n9 := 1) (av := [.ref (1 + 2 * 6)]) (st := []) E (ct_J3_equals_L l hst2 (by omega) rfl) gciJ3 dX2_mustName_197 hst2_a q778 q779 q780 q137 q781 (by decide +kernel) rfl rfl ⟨by decide, by decide⟩ ⟨by decide, by decide⟩ (Nat.le_of_ble_eq_true rfl) rfl (gPu.k ?_)
      refine g_if_eq E dX2_mustName_200 (tgt := 280) (by decide) rfl (fun c200 => ?_) (fun c200 => ?_)
      · have c200 := zb_0.mp c200
        refine g_iload_n E dX2_mustName_280 rfl rfl rfl ?_
        refine g_tabOut E dX2_mustName_281 (by decide) (tgt := 346) (by decide) ?_
        have x63 := (f2 (1002) (by omega)).trans (hT_a)
        have x65 := (f2 (1003) (by omega)).trans (hT_b)
        have x66 := (f2 (1004) (by omega)).trans (hT_c)
        have y67 := (hT_t.fr  (fun j9 a9 b9 => f2 j9 (by omega)))
        have hT64 : pTk g2 n bb t M N T := ⟨⟨_, x63, hT_0, hT_1, hT_2, hT_3, hT_4, hT_5, hT_6, hT_7, hT_8, hT_9⟩, (fun _ => ⟨hst2, hW1.2⟩), ⟨_, x65⟩, ⟨_, x66⟩, y67, fun j9 a9 => (f2 j9 (by omega)).trans (hT_z j9 (by omega))⟩
        exact (gRx_leave Rx E).elim (fun z9 h9z => h9z.2.2 _ _ _ _ _ _ (g_vret h9z.2.1 h9z.1 dX2_mustName_346 rfl (by decide) (by decide) (⟨(), zMn_y c5 (rsv_no l25_6 (by decide +kernel) (of_decide_eq_false c200)), rfl, hT64, c5, fun j9 h9 => f2 j9 (by omega)⟩)))
      · have c200 := zb_n0.mp c200
        refine g_iconst E (v := 5) dX2_mustName_203 (by decide) rfl ?_
        refine g_istore_n E dX2_mustName_204 rfl (by decide) rfl (lo1 := [some (.ref 1002), some (.ref M), some (.int 5)]) rfl rfl ?_
        refine g_goto E dX2_mustName_205 (tgt := 280) (by decide) ?_
        refine g_iload_n E dX2_mustName_280 rfl rfl rfl ?_
        refine g_tabIn E dX2_mustName_281 (by decide) (by decide) (off := 59) (by rfl) (tgt := 340) (by decide) ?_
        refine g_aload_n E dX2_mustName_340 rfl rfl rfl ?_
        refine g_iconst E (v := 1) dX2_mustName_341 (by decide) rfl ?_
        have x68 := (f2 (1002) (by omega)).trans (hT_a)
        have x69 := (f2 (1003) (by omega)).trans (hT_b)
        refine g_callV (k := 1002) (n9 := 1) (av := [.int 1]) (st := []) E (ct_X2_fail l 1 (⟨_, x68, hT_0, hT_6⟩) (⟨_, x69⟩)) gciX2 dX2_mustName_342 x68 q716 q718 qs7 q121 q719 (by decide +kernel) rfl rfl ⟨by decide, by decide⟩ ⟨by decide, by decide⟩ (Nat.le_of_ble_eq_true rfl) rfl (gPr.k (fun g70 h70 => ?_))
        obtain ⟨⟨F70, h70, h70a, h70b⟩, f70⟩ := h70
        have x71 := (f70 (1002) (by omega)).trans (x68)
        have x72 := (f70 (1004) (by omega)).trans ((f2 (1004) (by omega)).trans (hT_c))
        exact g_athrow E Rx dX2_mustName_345 h70 (by decide) (by decide) (⟨(1, t.2.2.1), zMn_r (of_decide_eq_true c200) (by decide +kernel), ⟨⟨_, h70, h70a, h70b⟩, ⟨_, x71, hT_0, hT_1, hT_2⟩, ⟨_, x72⟩, ⟨N, by omega, fun j9 a9 => (f70 j9 (by omega)).trans ((f2 j9 (by omega)).trans (hT_z j9 (by omega)))⟩, fun j9 h9 => (f70 j9 (by omega)).trans (f2 j9 (by omega))⟩⟩)
    have n25_6 := l25_6
    by_cases l25_7 : zHs t.2.2.2.2 = 103769422
    · refine g_lookup E dX2_mustName_25 (by decide) (by rw [l25_7] <;> rfl) (tgt := 138) (by decide) ?_
      refine g_aload_n E dX2_mustName_138 rfl rfl rfl ?_
      refine g_ldcS E (j := 2) (tx := "means") rfl dX2_mustName_139 rfl ?_
      refine g_callV (k := M) (n9 := 1) (av := [.ref (1 + 2 * 2)]) (st := []) E (ct_J3_equals_L l hst2 (by omega) rfl) gciJ3 dX2_mustName_141 hst2_a q778 q779 q780 q137 q781 (by decide +kernel) rfl rfl ⟨by decide, by decide⟩ ⟨by decide, by decide⟩ (Nat.le_of_ble_eq_true rfl) rfl (gPu.k ?_)
      refine g_if_eq E dX2_mustName_144 (tgt := 280) (by decide) rfl (fun c144 => ?_) (fun c144 => ?_)
      · have c144 := zb_0.mp c144
        refine g_iload_n E dX2_mustName_280 rfl rfl rfl ?_
        refine g_tabOut E dX2_mustName_281 (by decide) (tgt := 346) (by decide) ?_
        have x73 := (f2 (1002) (by omega)).trans (hT_a)
        have x75 := (f2 (1003) (by omega)).trans (hT_b)
        have x76 := (f2 (1004) (by omega)).trans (hT_c)
        have y77 := (hT_t.fr  (fun j9 a9 b9 => f2 j9 (by omega)))
        have hT74 : pTk g2 n bb t M N T := ⟨⟨_, x73, hT_0, hT_1, hT_2, hT_3, hT_4, hT_5, hT_6, hT_7, hT_8, hT_9⟩, (fun _ => ⟨hst2, hW1.2⟩), ⟨_, x75⟩, ⟨_, x76⟩, y77, fun j9 a9 => (f2 j9 (by omega)).trans (hT_z j9 (by omega))⟩
        exact (gRx_leave Rx E).elim (fun z9 h9z => h9z.2.2 _ _ _ _ _ _ (g_vret h9z.2.1 h9z.1 dX2_mustName_346 rfl (by decide) (by decide) (⟨(), zMn_y c5 (rsv_no l25_7 (by decide +kernel) (of_decide_eq_false c144)), rfl, hT74, c5, fun j9 h9 => f2 j9 (by omega)⟩)))
      · have c144 := zb_n0.mp c144
        refine g_iconst E (v := 1) dX2_mustName_147 (by decide) rfl ?_
        refine g_istore_n E dX2_mustName_148 rfl (by decide) rfl (lo1 := [some (.ref 1002), some (.ref M), some (.int 1)]) rfl rfl ?_
        refine g_goto E dX2_mustName_149 (tgt := 280) (by decide) ?_
        refine g_iload_n E dX2_mustName_280 rfl rfl rfl ?_
        refine g_tabIn E dX2_mustName_281 (by decide) (by decide) (off := 59) (by rfl) (tgt := 340) (by decide) ?_
        refine g_aload_n E dX2_mustName_340 rfl rfl rfl ?_
        refine g_iconst E (v := 1) dX2_mustName_341 (by decide) rfl ?_
        have x78 := (f2 (1002) (by omega)).trans (hT_a)
        have x79 := (f2 (1003) (by omega)).trans (hT_b)
        refine g_callV (k := 1002) (n9 := 1) (av := [.int 1]) (st := []) E (ct_X2_fail l 1 (⟨_, x78, hT_0, hT_6⟩) (⟨_, x79⟩)) gciX2 dX2_mustName_342 x78 q716 q718 qs7 q121 q719 (by decide +kernel) rfl rfl ⟨by decide, by decide⟩ ⟨by decide, by decide⟩ (Nat.le_of_ble_eq_true rfl) rfl (gPr.k (fun g80 h80 => ?_))
        obtain ⟨⟨F80, h80, h80a, h80b⟩, f80⟩ := h80
        have x81 := (f80 (1002) (by omega)).trans (x78)
        have x82 := (f80 (1004) (by omega)).trans ((f2 (1004) (by omega)).trans (hT_c))
        exact g_athrow E Rx dX2_mustName_345 h80 (by decide) (by decide) (⟨(1, t.2.2.1), zMn_r (of_decide_eq_true c144) (by decide +kernel), ⟨⟨_, h80, h80a, h80b⟩, ⟨_, x81, hT_0, hT_1, hT_2⟩, ⟨_, x82⟩, ⟨N, by omega, fun j9 a9 => (f80 j9 (by omega)).trans ((f2 j9 (by omega)).trans (hT_z j9 (by omega)))⟩, fun j9 h9 => (f80 j9 (by omega)).trans (f2 j9 (by omega))⟩⟩)
    have n25_7 := l25_7
    by_cases l25_8 : zHs t.2.2.2.2 = 106934601
    · refine g_lookup E dX2_mustName_25 (by decide) (by rw [l25_8] <;> rfl) (tgt := 223) (by decide) ?_
      refine g_aload_n E dX2_mustName_223 rfl rfl rfl ?_
      refine g_ldcS E (j := 8) (tx := "price") rfl dX2_mustName_224 rfl ?_
      refine g_callV (k := M) (n9 := 1) (av := [.ref (1 + 2 * 8)]) (st := []) E (ct_J3_equals_L l hst2 (by omega) rfl) gciJ3 dX2_mustName_226 hst2_a q778 q779 q780 q137 q781 (by decide +kernel) rfl rfl ⟨by decide, by decide⟩ ⟨by decide, by decide⟩ (Nat.le_of_ble_eq_true rfl) rfl (gPu.k ?_)
      refine g_if_eq E dX2_mustName_229 (tgt := 280) (by decide) rfl (fun c229 => ?_) (fun c229 => ?_)
      · have c229 := zb_0.mp c229
        refine g_iload_n E dX2_mustName_280 rfl rfl rfl ?_
        refine g_tabOut E dX2_mustName_281 (by decide) (tgt := 346) (by decide) ?_
        have x83 := (f2 (1002) (by omega)).trans (hT_a)
        have x85 := (f2 (1003) (by omega)).trans (hT_b)
        have x86 := (f2 (1004) (by omega)).trans (hT_c)
        have y87 := (hT_t.fr  (fun j9 a9 b9 => f2 j9 (by omega)))
        have hT84 : pTk g2 n bb t M N T := ⟨⟨_, x83, hT_0, hT_1, hT_2, hT_3, hT_4, hT_5, hT_6, hT_7, hT_8, hT_9⟩, (fun _ => ⟨hst2, hW1.2⟩), ⟨_, x85⟩, ⟨_, x86⟩, y87, fun j9 a9 => (f2 j9 (by omega)).trans (hT_z j9 (by omega))⟩
        exact (gRx_leave Rx E).elim (fun z9 h9z => h9z.2.2 _ _ _ _ _ _ (g_vret h9z.2.1 h9z.1 dX2_mustName_346 rfl (by decide) (by decide) (⟨(), zMn_y c5 (rsv_no l25_8 (by decide +kernel) (of_decide_eq_false c229)), rfl, hT84, c5, fun j9 h9 => f2 j9 (by omega)⟩)))
      · have c229 := zb_n0.mp c229
        refine g_bipush E (v := 7) dX2_mustName_232 (by decide) rfl ?_
        refine g_istore_n E dX2_mustName_234 rfl (by decide) rfl (lo1 := [some (.ref 1002), some (.ref M), some (.int 7)]) rfl rfl ?_
        refine g_goto E dX2_mustName_235 (tgt := 280) (by decide) ?_
        refine g_iload_n E dX2_mustName_280 rfl rfl rfl ?_
        refine g_tabIn E dX2_mustName_281 (by decide) (by decide) (off := 59) (by rfl) (tgt := 340) (by decide) ?_
        refine g_aload_n E dX2_mustName_340 rfl rfl rfl ?_
        refine g_iconst E (v := 1) dX2_mustName_341 (by decide) rfl ?_
        have x88 := (f2 (1002) (by omega)).trans (hT_a)
        have x89 := (f2 (1003) (by omega)).trans (hT_b)
        refine g_callV (k := 1002) (n9 := 1) (av := [.int 1]) (st := []) E (ct_X2_fail l 1 (⟨_, x88, hT_0, hT_6⟩) (⟨_, x89⟩)) gciX2 dX2_mustName_342 x88 q716 q718 qs7 q121 q719 (by decide +kernel) rfl rfl ⟨by decide, by decide⟩ ⟨by decide, by decide⟩ (Nat.le_of_ble_eq_true rfl) rfl (gPr.k (fun g90 h90 => ?_))
        obtain ⟨⟨F90, h90, h90a, h90b⟩, f90⟩ := h90
        have x91 := (f90 (1002) (by omega)).trans (x88)
        have x92 := (f90 (1004) (by omega)).trans ((f2 (1004) (by omega)).trans (hT_c))
        exact g_athrow E Rx dX2_mustName_345 h90 (by decide) (by decide) (⟨(1, t.2.2.1), zMn_r (of_decide_eq_true c229) (by decide +kernel), ⟨⟨_, h90, h90a, h90b⟩, ⟨_, x91, hT_0, hT_1, hT_2⟩, ⟨_, x92⟩, ⟨N, by omega, fun j9 a9 => (f90 j9 (by omega)).trans ((f2 j9 (by omega)).trans (hT_z j9 (by omega)))⟩, fun j9 h9 => (f90 j9 (by omega)).trans (f2 j9 (by omega))⟩⟩)
    have n25_8 := l25_8
    by_cases l25_9 : zHs t.2.2.2.2 = 1038324974
    · refine g_lookup E dX2_mustName_25 (by decide) (by rw [l25_9] <;> rfl) (tgt := 208) (by decide) ?_
      refine g_aload_n E dX2_mustName_208 rfl rfl rfl ?_
      refine g_ldcS E (j := 7) (tx := "crosses") rfl dX2_mustName_209 rfl ?_
      refine g_callV (k := M) (n9 := 1) (av := [.ref (1 + 2 * 7)]) (st := []) E (ct_J3_equals_L l hst2 (by omega) rfl) gciJ3 dX2_mustName_211 hst2_a q778 q779 q780 q137 q781 (by decide +kernel) rfl rfl ⟨by decide, by decide⟩ ⟨by decide, by decide⟩ (Nat.le_of_ble_eq_true rfl) rfl (gPu.k ?_)
      refine g_if_eq E dX2_mustName_214 (tgt := 280) (by decide) rfl (fun c214 => ?_) (fun c214 => ?_)
      · have c214 := zb_0.mp c214
        refine g_iload_n E dX2_mustName_280 rfl rfl rfl ?_
        refine g_tabOut E dX2_mustName_281 (by decide) (tgt := 346) (by decide) ?_
        have x93 := (f2 (1002) (by omega)).trans (hT_a)
        have x95 := (f2 (1003) (by omega)).trans (hT_b)
        have x96 := (f2 (1004) (by omega)).trans (hT_c)
        have y97 := (hT_t.fr  (fun j9 a9 b9 => f2 j9 (by omega)))
        have hT94 : pTk g2 n bb t M N T := ⟨⟨_, x93, hT_0, hT_1, hT_2, hT_3, hT_4, hT_5, hT_6, hT_7, hT_8, hT_9⟩, (fun _ => ⟨hst2, hW1.2⟩), ⟨_, x95⟩, ⟨_, x96⟩, y97, fun j9 a9 => (f2 j9 (by omega)).trans (hT_z j9 (by omega))⟩
        exact (gRx_leave Rx E).elim (fun z9 h9z => h9z.2.2 _ _ _ _ _ _ (g_vret h9z.2.1 h9z.1 dX2_mustName_346 rfl (by decide) (by decide) (⟨(), zMn_y c5 (rsv_no l25_9 (by decide +kernel) (of_decide_eq_false c214)), rfl, hT94, c5, fun j9 h9 => f2 j9 (by omega)⟩)))
      · have c214 := zb_n0.mp c214
        refine g_bipush E (v := 6) dX2_mustName_217 (by decide) rfl ?_
        refine g_istore_n E dX2_mustName_219 rfl (by decide) rfl (lo1 := [some (.ref 1002), some (.ref M), some (.int 6)]) rfl rfl ?_
        refine g_goto E dX2_mustName_220 (tgt := 280) (by decide) ?_
        refine g_iload_n E dX2_mustName_280 rfl rfl rfl ?_
        refine g_tabIn E dX2_mustName_281 (by decide) (by decide) (off := 59) (by rfl) (tgt := 340) (by decide) ?_
        refine g_aload_n E dX2_mustName_340 rfl rfl rfl ?_
        refine g_iconst E (v := 1) dX2_mustName_341 (by decide) rfl ?_
        have x98 := (f2 (1002) (by omega)).trans (hT_a)
        have x99 := (f2 (1003) (by omega)).trans (hT_b)
        refine g_callV (k := 1002) (n9 := 1) (av := [.int 1]) (st := []) E (ct_X2_fail l 1 (⟨_, x98, hT_0, hT_6⟩) (⟨_, x99⟩)) gciX2 dX2_mustName_342 x98 q716 q718 qs7 q121 q719 (by decide +kernel) rfl rfl ⟨by decide, by decide⟩ ⟨by decide, by decide⟩ (Nat.le_of_ble_eq_true rfl) rfl (gPr.k (fun g100 h100 => ?_))
        obtain ⟨⟨F100, h100, h100a, h100b⟩, f100⟩ := h100
        have x101 := (f100 (1002) (by omega)).trans (x98)
        have x102 := (f100 (1004) (by omega)).trans ((f2 (1004) (by omega)).trans (hT_c))
        exact g_athrow E Rx dX2_mustName_345 h100 (by decide) (by decide) (⟨(1, t.2.2.1), zMn_r (of_decide_eq_true c214) (by decide +kernel), ⟨⟨_, h100, h100a, h100b⟩, ⟨_, x101, hT_0, hT_1, hT_2⟩, ⟨_, x102⟩, ⟨N, by omega, fun j9 a9 => (f100 j9 (by omega)).trans ((f2 j9 (by omega)).trans (hT_z j9 (by omega)))⟩, fun j9 h9 => (f100 j9 (by omega)).trans (f2 j9 (by omega))⟩⟩)
    have n25_9 := l25_9
    by_cases l25_10 : zHs t.2.2.2.2 = 1268946111
    · refine g_lookup E dX2_mustName_25 (by decide) (by rw [l25_10] <;> rfl) (tgt := 152) (by decide) ?_
      refine g_aload_n E dX2_mustName_152 rfl rfl rfl ?_
      refine g_ldcS E (j := 3) (tx := "traveller") rfl dX2_mustName_153 rfl ?_
      refine g_callV (k := M) (n9 := 1) (av := [.ref (1 + 2 * 3)]) (st := []) E (ct_J3_equals_L l hst2 (by omega) rfl) gciJ3 dX2_mustName_155 hst2_a q778 q779 q780 q137 q781 (by decide +kernel) rfl rfl ⟨by decide, by decide⟩ ⟨by decide, by decide⟩ (Nat.le_of_ble_eq_true rfl) rfl (gPu.k ?_)
      refine g_if_eq E dX2_mustName_158 (tgt := 280) (by decide) rfl (fun c158 => ?_) (fun c158 => ?_)
      · have c158 := zb_0.mp c158
        refine g_iload_n E dX2_mustName_280 rfl rfl rfl ?_
        refine g_tabOut E dX2_mustName_281 (by decide) (tgt := 346) (by decide) ?_
        have x103 := (f2 (1002) (by omega)).trans (hT_a)
        have x105 := (f2 (1003) (by omega)).trans (hT_b)
        have x106 := (f2 (1004) (by omega)).trans (hT_c)
        have y107 := (hT_t.fr  (fun j9 a9 b9 => f2 j9 (by omega)))
        have hT104 : pTk g2 n bb t M N T := ⟨⟨_, x103, hT_0, hT_1, hT_2, hT_3, hT_4, hT_5, hT_6, hT_7, hT_8, hT_9⟩, (fun _ => ⟨hst2, hW1.2⟩), ⟨_, x105⟩, ⟨_, x106⟩, y107, fun j9 a9 => (f2 j9 (by omega)).trans (hT_z j9 (by omega))⟩
        exact (gRx_leave Rx E).elim (fun z9 h9z => h9z.2.2 _ _ _ _ _ _ (g_vret h9z.2.1 h9z.1 dX2_mustName_346 rfl (by decide) (by decide) (⟨(), zMn_y c5 (rsv_no l25_10 (by decide +kernel) (of_decide_eq_false c158)), rfl, hT104, c5, fun j9 h9 => f2 j9 (by omega)⟩)))
      · have c158 := zb_n0.mp c158
        refine g_iconst E (v := 2) dX2_mustName_161 (by decide) rfl ?_
        refine g_istore_n E dX2_mustName_162 rfl (by decide) rfl (lo1 := [some (.ref 1002), some (.ref M), some (.int 2)]) rfl rfl ?_
        refine g_goto E dX2_mustName_163 (tgt := 280) (by decide) ?_
        refine g_iload_n E dX2_mustName_280 rfl rfl rfl ?_
        refine g_tabIn E dX2_mustName_281 (by decide) (by decide) (off := 59) (by rfl) (tgt := 340) (by decide) ?_
        refine g_aload_n E dX2_mustName_340 rfl rfl rfl ?_
        refine g_iconst E (v := 1) dX2_mustName_341 (by decide) rfl ?_
        have x108 := (f2 (1002) (by omega)).trans (hT_a)
        have x109 := (f2 (1003) (by omega)).trans (hT_b)
        refine g_callV (k := 1002) (n9 := 1) (av := [.int 1]) (st := []) E (ct_X2_fail l 1 (⟨_, x108, hT_0, hT_6⟩) (⟨_, x109⟩)) gciX2 dX2_mustName_342 x108 q716 q718 qs7 q121 q719 (by decide +kernel) rfl rfl ⟨by decide, by decide⟩ ⟨by decide, by decide⟩ (Nat.le_of_ble_eq_true rfl) rfl (gPr.k (fun g110 h110 => ?_))
        obtain ⟨⟨F110, h110, h110a, h110b⟩, f110⟩ := h110
        have x111 := (f110 (1002) (by omega)).trans (x108)
        have x112 := (f110 (1004) (by omega)).trans ((f2 (1004) (by omega)).trans (hT_c))
        exact g_athrow E Rx dX2_mustName_345 h110 (by decide) (by decide) (⟨(1, t.2.2.1), zMn_r (of_decide_eq_true c158) (by decide +kernel), ⟨⟨_, h110, h110a, h110b⟩, ⟨_, x111, hT_0, hT_1, hT_2⟩, ⟨_, x112⟩, ⟨N, by omega, fun j9 a9 => (f110 j9 (by omega)).trans ((f2 j9 (by omega)).trans (hT_z j9 (by omega)))⟩, fun j9 h9 => (f110 j9 (by omega)).trans (f2 j9 (by omega))⟩⟩)
    have n25_10 := l25_10
    refine g_lookup E dX2_mustName_25 (by decide) (show Op.lookupswitch.offset [((-333143113), 99), (3159, 243), (3165387, 141), (3178685, 155), (94940667, 213), (97696046, 228), (99273585, 169), (103769422, 113), (106934601, 198), (1038324974, 183), (1268946111, 127)] 255 (zHs t.2.2.2.2).toInt = 255 by rw [Op.lookupswitch.offset_cons, if_neg (fun h9 => n25_0 (Int32.toInt_inj.mp h9.symm)), Op.lookupswitch.offset_cons, if_neg (fun h9 => n25_1 (Int32.toInt_inj.mp h9.symm)), Op.lookupswitch.offset_cons, if_neg (fun h9 => n25_2 (Int32.toInt_inj.mp h9.symm)), Op.lookupswitch.offset_cons, if_neg (fun h9 => n25_3 (Int32.toInt_inj.mp h9.symm)), Op.lookupswitch.offset_cons, if_neg (fun h9 => n25_4 (Int32.toInt_inj.mp h9.symm)), Op.lookupswitch.offset_cons, if_neg (fun h9 => n25_5 (Int32.toInt_inj.mp h9.symm)), Op.lookupswitch.offset_cons, if_neg (fun h9 => n25_6 (Int32.toInt_inj.mp h9.symm)), Op.lookupswitch.offset_cons, if_neg (fun h9 => n25_7 (Int32.toInt_inj.mp h9.symm)), Op.lookupswitch.offset_cons, if_neg (fun h9 => n25_8 (Int32.toInt_inj.mp h9.symm)), Op.lookupswitch.offset_cons, if_neg (fun h9 => n25_9 (Int32.toInt_inj.mp h9.symm)), Op.lookupswitch.offset_cons, if_neg (fun h9 => n25_10 (Int32.toInt_inj.mp h9.symm)), Op.lookupswitch.offset_nil]) (tgt := 280) (by decide) ?_
    refine g_iload_n E dX2_mustName_280 rfl rfl rfl ?_
    refine g_tabOut E dX2_mustName_281 (by decide) (tgt := 346) (by decide) ?_
    have x113 := (f2 (1002) (by omega)).trans (hT_a)
    have x115 := (f2 (1003) (by omega)).trans (hT_b)
    have x116 := (f2 (1004) (by omega)).trans (hT_c)
    have y117 := (hT_t.fr  (fun j9 a9 b9 => f2 j9 (by omega)))
    have hT114 : pTk g2 n bb t M N T := ⟨⟨_, x113, hT_0, hT_1, hT_2, hT_3, hT_4, hT_5, hT_6, hT_7, hT_8, hT_9⟩, (fun _ => ⟨hst2, hW1.2⟩), ⟨_, x115⟩, ⟨_, x116⟩, y117, fun j9 a9 => (f2 j9 (by omega)).trans (hT_z j9 (by omega))⟩
    exact (gRx_leave Rx E).elim (fun z9 h9z => h9z.2.2 _ _ _ _ _ _ (g_vret h9z.2.1 h9z.1 dX2_mustName_346 rfl (by decide) (by decide) (⟨(), zMn_y c5 (fun hm9 => by rcases rsv_h _ hm9 with h9 | h9 | h9 | h9 | h9 | h9 | h9 | h9 | h9 | h9 | h9 <;> contradiction), rfl, hT114, c5, fun j9 h9 => f2 j9 (by omega)⟩)))
  · have c5 := mt (nI_eq (a := t.2.1) (b := 2) (by omega) (by omega)).mpr c5
    refine g_aload_n E dX2_mustName_8 rfl rfl rfl ?_
    refine g_iconst E (v := 1) dX2_mustName_9 (by decide) rfl ?_
    refine g_callV (k := 1002) (n9 := 1) (av := [.int 1]) (st := []) E (ct_X2_fail l 1 (⟨_, hT_a, hT_0, hT_6⟩) (⟨_, hT_b⟩)) gciX2 dX2_mustName_10 hT_a q716 q718 qs7 q121 q719 (by decide +kernel) rfl rfl ⟨by decide, by decide⟩ ⟨by decide, by decide⟩ (Nat.le_of_ble_eq_true rfl) rfl (gPr.k (fun g118 h118 => ?_))
    obtain ⟨⟨F118, h118, h118a, h118b⟩, f118⟩ := h118
    have x119 := (f118 (1002) (by omega)).trans (hT_a)
    have x120 := (f118 (1004) (by omega)).trans (hT_c)
    exact g_athrow E Rx dX2_mustName_13 h118 (by decide) (by decide) (⟨(1, t.2.2.1), zMn_n c5, ⟨⟨_, h118, h118a, h118b⟩, ⟨_, x119, hT_0, hT_1, hT_2⟩, ⟨_, x120⟩, ⟨N, by omega, fun j9 a9 => (f118 j9 (by omega)).trans (hT_z j9 (by omega))⟩, fun j9 h9 => f118 j9 (by omega)⟩⟩)
set_option maxHeartbeats 400000 in
theorem ct_X14_among_0 (l : Launch) {g : gWM} {bb M k2 : Nat} {B : gBar} {Nm : zNm} {v : List Int32} (hw : wfB B) (hQ : pBq g bb B Nm M) (hV : pSt g k2 v) (hvl : v.length < 1000) (hnl : ∀ s k, s < 4 → k < B 0 s → (Nm s k).length < 1000) (hbM : bb + 100 ≤ M) : gCt l yX14_among cX14_among 4 (some (.object "SaltedGate$Named")) 2 0 0 44 [.ref (bb + 1), .int (nI (B 0 0)), .ref k2] g (gAm ((zFi Nm v 0 (B 0 0)).map (fun k => bb + 10 + k)) g) := by
  refine gCt.of RX14 (by decide) rfl (lo := [some (.ref (bb + 1)), some (.int (nI (B 0 0))), some (.ref k2), none]) 1 rfl (Nat.le_of_ble_eq_true rfl) (fun z E Rt => ?_)
  have hw_n := hw.1
  have hQ_r := hQ.1
  have hQ_n := hQ.2.2
  have hQ_r_o := hQ_r
  obtain ⟨⟨hQ_r_F, hQ_r_a, hQ_r_0, hQ_r_1, hQ_r_2, hQ_r_3, hQ_r_4, hQ_r_5, hQ_r_6, hQ_r_7, hQ_r_8, hQ_r_9, hQ_r_10, hQ_r_11, hQ_r_12, hQ_r_13, hQ_r_14, hQ_r_15⟩, ⟨hQ_r_f1, hQ_r_a1, hQ_r_b1⟩, ⟨hQ_r_f2, hQ_r_a2, hQ_r_b2⟩, ⟨hQ_r_f3, hQ_r_a3, hQ_r_b3⟩, ⟨hQ_r_f4, hQ_r_a4, hQ_r_b4⟩, ⟨hQ_r_f5, hQ_r_a5, hQ_r_b5⟩, ⟨hQ_r_f6, hQ_r_a6, hQ_r_b6⟩, ⟨hQ_r_f7, hQ_r_a7, hQ_r_b7⟩, hQ_r_c1, hQ_r_c2, hQ_r_c3, hQ_r_c4, hQ_r_c5⟩ := hQ_r_o
  obtain ⟨hQ_G, hQ_ga, hQ_gb⟩ := hQ.2.1
  obtain rfl := inj_obj hQ_r_a hQ_ga
  have hV_o := hV
  obtain ⟨hV_F, hV_h, hV_iz, hV_a, hV_0, hV_1, hV_2, hV_3, hV_4, hV_5, hV_f, hV_b, hV_c⟩ := hV_o
  refine g_iconst E (v := 0) dX14_among_0 (by decide) rfl ?_
  refine g_istore_n E dX14_among_1 rfl (by decide) rfl (lo1 := [some (.ref (bb + 1)), some (.int (nI (B 0 0))), some (.ref k2), some (.int 0)]) rfl rfl ?_
  have lp2 : ∀ (r9 : Nat) (k : Nat), (k ≤ B 0 0) → (zFi Nm v 0 k = none) → (B 0 0 - k < r9) → gV z g 0 0 2 [some (.ref (bb + 1)), some (.int (nI (B 0 0))), some (.ref k2), some (.int (nI k))] [] := by
    intro r9
    induction r9 with
    | zero => intro k hk hz hm; exact absurd hm (Nat.not_lt_zero _)
    | succ r9 ih2 =>
      intro k hk hz hm
      refine g_iload_n E dX14_among_2 rfl rfl rfl ?_
      refine g_iload_n E dX14_among_3 rfl rfl rfl ?_
      refine g_icmp_ge E dX14_among_4 (tgt := 30) (by decide) rfl (fun c4 => ?_) (fun c4 => ?_)
      · have c4 := (nI_leI (a := B 0 0) (b := k) (by omega) (by omega)).mp c4
        refine g_null E dX14_among_30 rfl ?_
        exact g_aretN E Rt dX14_among_31 rfl (Or.inl ⟨_, rfl⟩) (by decide) (by decide) (⟨by rw [show k = B 0 0 by omega] at hz; rw [hz]; rfl, rfl⟩)
      · have c4 := mt (nI_leI (a := B 0 0) (b := k) (by omega) (by omega)).mpr c4
        refine g_aload_n E dX14_among_7 rfl rfl rfl ?_
        refine g_iload_n E dX14_among_8 rfl rfl rfl ?_
        refine g_aald E dX14_among_9 (j := k) hQ_r_a1 (fun _ => rfl) (rfl) (by omega) (by decide) (b := bb + 10 + k) (hQ_r_b1 k (by omega)) rfl ?_
        obtain ⟨nm1_F, nm1_w, nm1_a0, nm1_b0, nm1_s, nm1_l, nm1_u⟩ := hQ.2.2 0 k (by decide) (by omega)
        have nm1_a : g (bb + 10 + k) = some (.inr (12, nm1_F)) := nm1_a0
        have nm1_b : nm1_F 0 = .ref nm1_w := nm1_b0
        have nm1_s_o := nm1_s
        obtain ⟨nm1_s_F, nm1_s_h, nm1_s_iz, nm1_s_a, nm1_s_0, nm1_s_1, nm1_s_2, nm1_s_3, nm1_s_4, nm1_s_5, nm1_s_f, nm1_s_b, nm1_s_c⟩ := nm1_s_o
        refine g_getf E gciX16 dX14_among_10 nm1_a 0 rfl (by decide) q863 (.inl rfl) (.ref nm1_w) (nm1_b) rfl ?_
        refine g_aload_n E dX14_among_13 rfl rfl rfl ?_
        have hnk := hnl 0 k (by decide) (by omega)
        refine g_callV (k := nm1_w) (n9 := 1) (av := [.ref k2]) (st := []) E (ct_J3_equals l nm1_s (by omega) hV (by omega)) gciJ3 dX14_among_14 nm1_s_a q843 q779 q780 q137 q781 (by decide +kernel) rfl rfl ⟨by decide, by decide⟩ ⟨by decide, by decide⟩ (Nat.le_of_ble_eq_true rfl) rfl (gPu.k ?_)
        refine g_if_eq E dX14_among_17 (tgt := 24) (by decide) rfl (fun c17 => ?_) (fun c17 => ?_)
        · have c17 := zb_0.mp c17
          refine g_iinc E dX14_among_24 rfl (v := nI (k + 1)) (nI_c _) (by decide) rfl (lo1 := [some (.ref (bb + 1)), some (.int (nI (B 0 0))), some (.ref k2), some (.int (nI (k + 1)))]) rfl rfl ?_
          refine g_goto E dX14_among_27 (tgt := 2) (by decide) ?_
          exact ih2 (k + 1) (by omega) (zFi_n hz (of_decide_eq_false c17)) (by omega)
        · have c17 := zb_n0.mp c17
          refine g_aload_n E dX14_among_20 rfl rfl rfl ?_
          refine g_iload_n E dX14_among_21 rfl rfl rfl ?_
          refine g_aald E dX14_among_22 (j := k) hQ_r_a1 (fun _ => rfl) (rfl) (by omega) (by decide) (b := bb + 10 + k) (hQ_r_b1 k (by omega)) rfl ?_
          obtain ⟨nm2_F, nm2_w, nm2_a0, nm2_b0, nm2_s, nm2_l, nm2_u⟩ := hQ.2.2 0 k (by decide) (by omega)
          have nm2_a : g (bb + 10 + k) = some (.inr (12, nm2_F)) := nm2_a0
          have nm2_b : nm2_F 0 = .ref nm2_w := nm2_b0
          have nm2_s_o := nm2_s
          obtain ⟨nm2_s_F, nm2_s_h, nm2_s_iz, nm2_s_a, nm2_s_0, nm2_s_1, nm2_s_2, nm2_s_3, nm2_s_4, nm2_s_5, nm2_s_f, nm2_s_b, nm2_s_c⟩ := nm2_s_o
          exact g_aret E Rt dX14_among_23 rfl (Or.inl ⟨_, rfl⟩) (by decide) (by decide) (⟨by rw [zFi_y hz (of_decide_eq_true c17) (show k < B 0 0 by omega)]; rfl, rfl⟩)
  exact lp2 (B 0 0 + 1) 0 (Nat.zero_le _) rfl (by omega)
set_option maxHeartbeats 400000 in
theorem ct_X14_among_1 (l : Launch) {g : gWM} {bb M k2 : Nat} {B : gBar} {Nm : zNm} {v : List Int32} (hw : wfB B) (hQ : pBq g bb B Nm M) (hV : pSt g k2 v) (hvl : v.length < 1000) (hnl : ∀ s k, s < 4 → k < B 0 s → (Nm s k).length < 1000) (hbM : bb + 100 ≤ M) : gCt l yX14_among cX14_among 4 (some (.object "SaltedGate$Named")) 2 0 0 44 [.ref (bb + 2), .int (nI (B 0 1)), .ref k2] g (gAm ((zFi Nm v 1 (B 0 1)).map (fun k => bb + 20 + k)) g) := by
  refine gCt.of RX14 (by decide) rfl (lo := [some (.ref (bb + 2)), some (.int (nI (B 0 1))), some (.ref k2), none]) 1 rfl (Nat.le_of_ble_eq_true rfl) (fun z E Rt => ?_)
  have hw_n := hw.1
  have hQ_r := hQ.1
  have hQ_n := hQ.2.2
  have hQ_r_o := hQ_r
  obtain ⟨⟨hQ_r_F, hQ_r_a, hQ_r_0, hQ_r_1, hQ_r_2, hQ_r_3, hQ_r_4, hQ_r_5, hQ_r_6, hQ_r_7, hQ_r_8, hQ_r_9, hQ_r_10, hQ_r_11, hQ_r_12, hQ_r_13, hQ_r_14, hQ_r_15⟩, ⟨hQ_r_f1, hQ_r_a1, hQ_r_b1⟩, ⟨hQ_r_f2, hQ_r_a2, hQ_r_b2⟩, ⟨hQ_r_f3, hQ_r_a3, hQ_r_b3⟩, ⟨hQ_r_f4, hQ_r_a4, hQ_r_b4⟩, ⟨hQ_r_f5, hQ_r_a5, hQ_r_b5⟩, ⟨hQ_r_f6, hQ_r_a6, hQ_r_b6⟩, ⟨hQ_r_f7, hQ_r_a7, hQ_r_b7⟩, hQ_r_c1, hQ_r_c2, hQ_r_c3, hQ_r_c4, hQ_r_c5⟩ := hQ_r_o
  obtain ⟨hQ_G, hQ_ga, hQ_gb⟩ := hQ.2.1
  obtain rfl := inj_obj hQ_r_a hQ_ga
  have hV_o := hV
  obtain ⟨hV_F, hV_h, hV_iz, hV_a, hV_0, hV_1, hV_2, hV_3, hV_4, hV_5, hV_f, hV_b, hV_c⟩ := hV_o
  refine g_iconst E (v := 0) dX14_among_0 (by decide) rfl ?_
  refine g_istore_n E dX14_among_1 rfl (by decide) rfl (lo1 := [some (.ref (bb + 2)), some (.int (nI (B 0 1))), some (.ref k2), some (.int 0)]) rfl rfl ?_
  have lp2 : ∀ (r9 : Nat) (k : Nat), (k ≤ B 0 1) → (zFi Nm v 1 k = none) → (B 0 1 - k < r9) → gV z g 0 0 2 [some (.ref (bb + 2)), some (.int (nI (B 0 1))), some (.ref k2), some (.int (nI k))] [] := by
    intro r9
    induction r9 with
    | zero => intro k hk hz hm; exact absurd hm (Nat.not_lt_zero _)
    | succ r9 ih2 =>
      intro k hk hz hm
      refine g_iload_n E dX14_among_2 rfl rfl rfl ?_
      refine g_iload_n E dX14_among_3 rfl rfl rfl ?_
      refine g_icmp_ge E dX14_among_4 (tgt := 30) (by decide) rfl (fun c4 => ?_) (fun c4 => ?_)
      · have c4 := (nI_leI (a := B 0 1) (b := k) (by omega) (by omega)).mp c4
        refine g_null E dX14_among_30 rfl ?_
        exact g_aretN E Rt dX14_among_31 rfl (Or.inl ⟨_, rfl⟩) (by decide) (by decide) (⟨by rw [show k = B 0 1 by omega] at hz; rw [hz]; rfl, rfl⟩)
      · have c4 := mt (nI_leI (a := B 0 1) (b := k) (by omega) (by omega)).mpr c4
        refine g_aload_n E dX14_among_7 rfl rfl rfl ?_
        refine g_iload_n E dX14_among_8 rfl rfl rfl ?_
        refine g_aald E dX14_among_9 (j := k) hQ_r_a2 (fun _ => rfl) (rfl) (by omega) (by decide) (b := bb + 20 + k) (hQ_r_b2 k (by omega)) rfl ?_
        obtain ⟨nm1_F, nm1_w, nm1_a0, nm1_b0, nm1_s, nm1_l, nm1_u⟩ := hQ.2.2 1 k (by decide) (by omega)
        have nm1_a : g (bb + 20 + k) = some (.inr (13, nm1_F)) := nm1_a0
        have nm1_b : nm1_F 0 = .ref nm1_w := nm1_b0
        have nm1_s_o := nm1_s
        obtain ⟨nm1_s_F, nm1_s_h, nm1_s_iz, nm1_s_a, nm1_s_0, nm1_s_1, nm1_s_2, nm1_s_3, nm1_s_4, nm1_s_5, nm1_s_f, nm1_s_b, nm1_s_c⟩ := nm1_s_o
        refine g_getf E gciX17 dX14_among_10 nm1_a 0 rfl (by decide) q863 (.inl rfl) (.ref nm1_w) (nm1_b) rfl ?_
        refine g_aload_n E dX14_among_13 rfl rfl rfl ?_
        have hnk := hnl 1 k (by decide) (by omega)
        refine g_callV (k := nm1_w) (n9 := 1) (av := [.ref k2]) (st := []) E (ct_J3_equals l nm1_s (by omega) hV (by omega)) gciJ3 dX14_among_14 nm1_s_a q843 q779 q780 q137 q781 (by decide +kernel) rfl rfl ⟨by decide, by decide⟩ ⟨by decide, by decide⟩ (Nat.le_of_ble_eq_true rfl) rfl (gPu.k ?_)
        refine g_if_eq E dX14_among_17 (tgt := 24) (by decide) rfl (fun c17 => ?_) (fun c17 => ?_)
        · have c17 := zb_0.mp c17
          refine g_iinc E dX14_among_24 rfl (v := nI (k + 1)) (nI_c _) (by decide) rfl (lo1 := [some (.ref (bb + 2)), some (.int (nI (B 0 1))), some (.ref k2), some (.int (nI (k + 1)))]) rfl rfl ?_
          refine g_goto E dX14_among_27 (tgt := 2) (by decide) ?_
          exact ih2 (k + 1) (by omega) (zFi_n hz (of_decide_eq_false c17)) (by omega)
        · have c17 := zb_n0.mp c17
          refine g_aload_n E dX14_among_20 rfl rfl rfl ?_
          refine g_iload_n E dX14_among_21 rfl rfl rfl ?_
          refine g_aald E dX14_among_22 (j := k) hQ_r_a2 (fun _ => rfl) (rfl) (by omega) (by decide) (b := bb + 20 + k) (hQ_r_b2 k (by omega)) rfl ?_
          obtain ⟨nm2_F, nm2_w, nm2_a0, nm2_b0, nm2_s, nm2_l, nm2_u⟩ := hQ.2.2 1 k (by decide) (by omega)
          have nm2_a : g (bb + 20 + k) = some (.inr (13, nm2_F)) := nm2_a0
          have nm2_b : nm2_F 0 = .ref nm2_w := nm2_b0
          have nm2_s_o := nm2_s
          obtain ⟨nm2_s_F, nm2_s_h, nm2_s_iz, nm2_s_a, nm2_s_0, nm2_s_1, nm2_s_2, nm2_s_3, nm2_s_4, nm2_s_5, nm2_s_f, nm2_s_b, nm2_s_c⟩ := nm2_s_o
          exact g_aret E Rt dX14_among_23 rfl (Or.inl ⟨_, rfl⟩) (by decide) (by decide) (⟨by rw [zFi_y hz (of_decide_eq_true c17) (show k < B 0 1 by omega)]; rfl, rfl⟩)
  exact lp2 (B 0 1 + 1) 0 (Nat.zero_le _) rfl (by omega)
set_option maxHeartbeats 400000 in
theorem ct_X14_among_2 (l : Launch) {g : gWM} {bb M k2 : Nat} {B : gBar} {Nm : zNm} {v : List Int32} (hw : wfB B) (hQ : pBq g bb B Nm M) (hV : pSt g k2 v) (hvl : v.length < 1000) (hnl : ∀ s k, s < 4 → k < B 0 s → (Nm s k).length < 1000) (hbM : bb + 100 ≤ M) : gCt l yX14_among cX14_among 4 (some (.object "SaltedGate$Named")) 2 0 0 44 [.ref (bb + 3), .int (nI (B 0 2)), .ref k2] g (gAm ((zFi Nm v 2 (B 0 2)).map (fun k => bb + 30 + k)) g) := by
  refine gCt.of RX14 (by decide) rfl (lo := [some (.ref (bb + 3)), some (.int (nI (B 0 2))), some (.ref k2), none]) 1 rfl (Nat.le_of_ble_eq_true rfl) (fun z E Rt => ?_)
  have hw_n := hw.1
  have hQ_r := hQ.1
  have hQ_n := hQ.2.2
  have hQ_r_o := hQ_r
  obtain ⟨⟨hQ_r_F, hQ_r_a, hQ_r_0, hQ_r_1, hQ_r_2, hQ_r_3, hQ_r_4, hQ_r_5, hQ_r_6, hQ_r_7, hQ_r_8, hQ_r_9, hQ_r_10, hQ_r_11, hQ_r_12, hQ_r_13, hQ_r_14, hQ_r_15⟩, ⟨hQ_r_f1, hQ_r_a1, hQ_r_b1⟩, ⟨hQ_r_f2, hQ_r_a2, hQ_r_b2⟩, ⟨hQ_r_f3, hQ_r_a3, hQ_r_b3⟩, ⟨hQ_r_f4, hQ_r_a4, hQ_r_b4⟩, ⟨hQ_r_f5, hQ_r_a5, hQ_r_b5⟩, ⟨hQ_r_f6, hQ_r_a6, hQ_r_b6⟩, ⟨hQ_r_f7, hQ_r_a7, hQ_r_b7⟩, hQ_r_c1, hQ_r_c2, hQ_r_c3, hQ_r_c4, hQ_r_c5⟩ := hQ_r_o
  obtain ⟨hQ_G, hQ_ga, hQ_gb⟩ := hQ.2.1
  obtain rfl := inj_obj hQ_r_a hQ_ga
  have hV_o := hV
  obtain ⟨hV_F, hV_h, hV_iz, hV_a, hV_0, hV_1, hV_2, hV_3, hV_4, hV_5, hV_f, hV_b, hV_c⟩ := hV_o
  refine g_iconst E (v := 0) dX14_among_0 (by decide) rfl ?_
  refine g_istore_n E dX14_among_1 rfl (by decide) rfl (lo1 := [some (.ref (bb + 3)), some (.int (nI (B 0 2))), some (.ref k2), some (.int 0)]) rfl rfl ?_
  have lp2 : ∀ (r9 : Nat) (k : Nat), (k ≤ B 0 2) → (zFi Nm v 2 k = none) → (B 0 2 - k < r9) → gV z g 0 0 2 [some (.ref (bb + 3)), some (.int (nI (B 0 2))), some (.ref k2), some (.int (nI k))] [] := by
    intro r9
    induction r9 with
    | zero => intro k hk hz hm; exact absurd hm (Nat.not_lt_zero _)
    | succ r9 ih2 =>
      intro k hk hz hm
      refine g_iload_n E dX14_among_2 rfl rfl rfl ?_
      refine g_iload_n E dX14_among_3 rfl rfl rfl ?_
      refine g_icmp_ge E dX14_among_4 (tgt := 30) (by decide) rfl (fun c4 => ?_) (fun c4 => ?_)
      · have c4 := (nI_leI (a := B 0 2) (b := k) (by omega) (by omega)).mp c4
        refine g_null E dX14_among_30 rfl ?_
        exact g_aretN E Rt dX14_among_31 rfl (Or.inl ⟨_, rfl⟩) (by decide) (by decide) (⟨by rw [show k = B 0 2 by omega] at hz; rw [hz]; rfl, rfl⟩)
      · have c4 := mt (nI_leI (a := B 0 2) (b := k) (by omega) (by omega)).mpr c4
        refine g_aload_n E dX14_among_7 rfl rfl rfl ?_
        refine g_iload_n E dX14_among_8 rfl rfl rfl ?_
        refine g_aald E dX14_among_9 (j := k) hQ_r_a3 (fun _ => rfl) (rfl) (by omega) (by decide) (b := bb + 30 + k) (hQ_r_b3 k (by omega)) rfl ?_
        obtain ⟨nm1_F, nm1_w, nm1_a0, nm1_b0, nm1_s, nm1_l, nm1_u⟩ := hQ.2.2 2 k (by decide) (by omega)
        have nm1_a : g (bb + 30 + k) = some (.inr (14, nm1_F)) := nm1_a0
        have nm1_b : nm1_F 0 = .ref nm1_w := nm1_b0
        have nm1_s_o := nm1_s
        obtain ⟨nm1_s_F, nm1_s_h, nm1_s_iz, nm1_s_a, nm1_s_0, nm1_s_1, nm1_s_2, nm1_s_3, nm1_s_4, nm1_s_5, nm1_s_f, nm1_s_b, nm1_s_c⟩ := nm1_s_o
        refine g_getf E gciX18 dX14_among_10 nm1_a 0 rfl (by decide) q863 (.inl rfl) (.ref nm1_w) (nm1_b) rfl ?_
        refine g_aload_n E dX14_among_13 rfl rfl rfl ?_
        have hnk := hnl 2 k (by decide) (by omega)
        refine g_callV (k := nm1_w) (n9 := 1) (av := [.ref k2]) (st := []) E (ct_J3_equals l nm1_s (by omega) hV (by omega)) gciJ3 dX14_among_14 nm1_s_a q843 q779 q780 q137 q781 (by decide +kernel) rfl rfl ⟨by decide, by decide⟩ ⟨by decide, by decide⟩ (Nat.le_of_ble_eq_true rfl) rfl (gPu.k ?_)
        refine g_if_eq E dX14_among_17 (tgt := 24) (by decide) rfl (fun c17 => ?_) (fun c17 => ?_)
        · have c17 := zb_0.mp c17
          refine g_iinc E dX14_among_24 rfl (v := nI (k + 1)) (nI_c _) (by decide) rfl (lo1 := [some (.ref (bb + 3)), some (.int (nI (B 0 2))), some (.ref k2), some (.int (nI (k + 1)))]) rfl rfl ?_
          refine g_goto E dX14_among_27 (tgt := 2) (by decide) ?_
          exact ih2 (k + 1) (by omega) (zFi_n hz (of_decide_eq_false c17)) (by omega)
        · have c17 := zb_n0.mp c17
          refine g_aload_n E dX14_among_20 rfl rfl rfl ?_
          refine g_iload_n E dX14_among_21 rfl rfl rfl ?_
          refine g_aald E dX14_among_22 (j := k) hQ_r_a3 (fun _ => rfl) (rfl) (by omega) (by decide) (b := bb + 30 + k) (hQ_r_b3 k (by omega)) rfl ?_
          obtain ⟨nm2_F, nm2_w, nm2_a0, nm2_b0, nm2_s, nm2_l, nm2_u⟩ := hQ.2.2 2 k (by decide) (by omega)
          have nm2_a : g (bb + 30 + k) = some (.inr (14, nm2_F)) := nm2_a0
          have nm2_b : nm2_F 0 = .ref nm2_w := nm2_b0
          have nm2_s_o := nm2_s
          obtain ⟨nm2_s_F, nm2_s_h, nm2_s_iz, nm2_s_a, nm2_s_0, nm2_s_1, nm2_s_2, nm2_s_3, nm2_s_4, nm2_s_5, nm2_s_f, nm2_s_b, nm2_s_c⟩ := nm2_s_o
          exact g_aret E Rt dX14_among_23 rfl (Or.inl ⟨_, rfl⟩) (by decide) (by decide) (⟨by rw [zFi_y hz (of_decide_eq_true c17) (show k < B 0 2 by omega)]; rfl, rfl⟩)
  exact lp2 (B 0 2 + 1) 0 (Nat.zero_le _) rfl (by omega)
set_option maxHeartbeats 400000 in
theorem ct_X14_among_3 (l : Launch) {g : gWM} {bb M k2 : Nat} {B : gBar} {Nm : zNm} {v : List Int32} (hw : wfB B) (hQ : pBq g bb B Nm M) (hV : pSt g k2 v) (hvl : v.length < 1000) (hnl : ∀ s k, s < 4 → k < B 0 s → (Nm s k).length < 1000) (hbM : bb + 100 ≤ M) : gCt l yX14_among cX14_among 4 (some (.object "SaltedGate$Named")) 2 0 0 44 [.ref (bb + 4), .int (nI (B 0 3)), .ref k2] g (gAm ((zFi Nm v 3 (B 0 3)).map (fun k => bb + 40 + k)) g) := by
  refine gCt.of RX14 (by decide) rfl (lo := [some (.ref (bb + 4)), some (.int (nI (B 0 3))), some (.ref k2), none]) 1 rfl (Nat.le_of_ble_eq_true rfl) (fun z E Rt => ?_)
  have hw_n := hw.1
  have hQ_r := hQ.1
  have hQ_n := hQ.2.2
  have hQ_r_o := hQ_r
  obtain ⟨⟨hQ_r_F, hQ_r_a, hQ_r_0, hQ_r_1, hQ_r_2, hQ_r_3, hQ_r_4, hQ_r_5, hQ_r_6, hQ_r_7, hQ_r_8, hQ_r_9, hQ_r_10, hQ_r_11, hQ_r_12, hQ_r_13, hQ_r_14, hQ_r_15⟩, ⟨hQ_r_f1, hQ_r_a1, hQ_r_b1⟩, ⟨hQ_r_f2, hQ_r_a2, hQ_r_b2⟩, ⟨hQ_r_f3, hQ_r_a3, hQ_r_b3⟩, ⟨hQ_r_f4, hQ_r_a4, hQ_r_b4⟩, ⟨hQ_r_f5, hQ_r_a5, hQ_r_b5⟩, ⟨hQ_r_f6, hQ_r_a6, hQ_r_b6⟩, ⟨hQ_r_f7, hQ_r_a7, hQ_r_b7⟩, hQ_r_c1, hQ_r_c2, hQ_r_c3, hQ_r_c4, hQ_r_c5⟩ := hQ_r_o
  obtain ⟨hQ_G, hQ_ga, hQ_gb⟩ := hQ.2.1
  obtain rfl := inj_obj hQ_r_a hQ_ga
  have hV_o := hV
  obtain ⟨hV_F, hV_h, hV_iz, hV_a, hV_0, hV_1, hV_2, hV_3, hV_4, hV_5, hV_f, hV_b, hV_c⟩ := hV_o
  refine g_iconst E (v := 0) dX14_among_0 (by decide) rfl ?_
  refine g_istore_n E dX14_among_1 rfl (by decide) rfl (lo1 := [some (.ref (bb + 4)), some (.int (nI (B 0 3))), some (.ref k2), some (.int 0)]) rfl rfl ?_
  have lp2 : ∀ (r9 : Nat) (k : Nat), (k ≤ B 0 3) → (zFi Nm v 3 k = none) → (B 0 3 - k < r9) → gV z g 0 0 2 [some (.ref (bb + 4)), some (.int (nI (B 0 3))), some (.ref k2), some (.int (nI k))] [] := by
    intro r9
    induction r9 with
    | zero => intro k hk hz hm; exact absurd hm (Nat.not_lt_zero _)
    | succ r9 ih2 =>
      intro k hk hz hm
      refine g_iload_n E dX14_among_2 rfl rfl rfl ?_
      refine g_iload_n E dX14_among_3 rfl rfl rfl ?_
      refine g_icmp_ge E dX14_among_4 (tgt := 30) (by decide) rfl (fun c4 => ?_) (fun c4 => ?_)
      · have c4 := (nI_leI (a := B 0 3) (b := k) (by omega) (by omega)).mp c4
        refine g_null E dX14_among_30 rfl ?_
        exact g_aretN E Rt dX14_among_31 rfl (Or.inl ⟨_, rfl⟩) (by decide) (by decide) (⟨by rw [show k = B 0 3 by omega] at hz; rw [hz]; rfl, rfl⟩)
      · have c4 := mt (nI_leI (a := B 0 3) (b := k) (by omega) (by omega)).mpr c4
        refine g_aload_n E dX14_among_7 rfl rfl rfl ?_
        refine g_iload_n E dX14_among_8 rfl rfl rfl ?_
        refine g_aald E dX14_among_9 (j := k) hQ_r_a4 (fun _ => rfl) (rfl) (by omega) (by decide) (b := bb + 40 + k) (hQ_r_b4 k (by omega)) rfl ?_
        obtain ⟨nm1_F, nm1_w, nm1_a0, nm1_b0, nm1_s, nm1_l, nm1_u⟩ := hQ.2.2 3 k (by decide) (by omega)
        have nm1_a : g (bb + 40 + k) = some (.inr (15 + B 12 k, nm1_F)) := nm1_a0
        have nm1_b : nm1_F 5 = .ref nm1_w := nm1_b0
        have nm1_s_o := nm1_s
        obtain ⟨nm1_s_F, nm1_s_h, nm1_s_iz, nm1_s_a, nm1_s_0, nm1_s_1, nm1_s_2, nm1_s_3, nm1_s_4, nm1_s_5, nm1_s_f, nm1_s_b, nm1_s_c⟩ := nm1_s_o
        refine g_getG E dX14_among_10 nm1_a ((hw.goods (j := k) (by omega)).1) 5 (by decide) rfl rfl rfl rfl rfl q863 (.inl rfl) (.ref nm1_w) (nm1_b) rfl ?_
        refine g_aload_n E dX14_among_13 rfl rfl rfl ?_
        have hnk := hnl 3 k (by decide) (by omega)
        refine g_callV (k := nm1_w) (n9 := 1) (av := [.ref k2]) (st := []) E (ct_J3_equals l nm1_s (by omega) hV (by omega)) gciJ3 dX14_among_14 nm1_s_a q843 q779 q780 q137 q781 (by decide +kernel) rfl rfl ⟨by decide, by decide⟩ ⟨by decide, by decide⟩ (Nat.le_of_ble_eq_true rfl) rfl (gPu.k ?_)
        refine g_if_eq E dX14_among_17 (tgt := 24) (by decide) rfl (fun c17 => ?_) (fun c17 => ?_)
        · have c17 := zb_0.mp c17
          refine g_iinc E dX14_among_24 rfl (v := nI (k + 1)) (nI_c _) (by decide) rfl (lo1 := [some (.ref (bb + 4)), some (.int (nI (B 0 3))), some (.ref k2), some (.int (nI (k + 1)))]) rfl rfl ?_
          refine g_goto E dX14_among_27 (tgt := 2) (by decide) ?_
          exact ih2 (k + 1) (by omega) (zFi_n hz (of_decide_eq_false c17)) (by omega)
        · have c17 := zb_n0.mp c17
          refine g_aload_n E dX14_among_20 rfl rfl rfl ?_
          refine g_iload_n E dX14_among_21 rfl rfl rfl ?_
          refine g_aald E dX14_among_22 (j := k) hQ_r_a4 (fun _ => rfl) (rfl) (by omega) (by decide) (b := bb + 40 + k) (hQ_r_b4 k (by omega)) rfl ?_
          obtain ⟨nm2_F, nm2_w, nm2_a0, nm2_b0, nm2_s, nm2_l, nm2_u⟩ := hQ.2.2 3 k (by decide) (by omega)
          have nm2_a : g (bb + 40 + k) = some (.inr (15 + B 12 k, nm2_F)) := nm2_a0
          have nm2_b : nm2_F 5 = .ref nm2_w := nm2_b0
          have nm2_s_o := nm2_s
          obtain ⟨nm2_s_F, nm2_s_h, nm2_s_iz, nm2_s_a, nm2_s_0, nm2_s_1, nm2_s_2, nm2_s_3, nm2_s_4, nm2_s_5, nm2_s_f, nm2_s_b, nm2_s_c⟩ := nm2_s_o
          exact g_aret E Rt dX14_among_23 rfl (Or.inl ⟨_, rfl⟩) (by decide) (by decide) (⟨by rw [zFi_y hz (of_decide_eq_true c17) (show k < B 0 3 by omega)]; rfl, rfl⟩)
  exact lp2 (B 0 3 + 1) 0 (Nat.zero_le _) rfl (by omega)
set_option maxHeartbeats 400000 in
theorem ct_X14_find (l : Launch) {g : gWM} {bb M k2 : Nat} {B : gBar} {Nm : zNm} {v : List Int32} (hw : wfB B) (hQ : pBq g bb B Nm M) (hV : pSt g k2 v) (hvl : v.length < 1000) (hnl : ∀ s k, s < 4 → k < B 0 s → (Nm s k).length < 1000) (hbM : bb + 100 ≤ M) : gCt l yX14_find cX14_find 3 (some (.object "SaltedGate$Named")) 3 0 0 67 [.ref bb, .ref k2] g (gAm ((zFind B Nm v).map (zNo bb)) g) := by
  refine gCt.of RX14 (by decide) rfl (lo := [some (.ref bb), some (.ref k2), none]) 1 rfl (Nat.le_of_ble_eq_true rfl) (fun z E Rt => ?_)
  have hw_n := hw.1
  have hQ_r := hQ.1
  have hQ_n := hQ.2.2
  have hQ_r_o := hQ_r
  obtain ⟨⟨hQ_r_F, hQ_r_a, hQ_r_0, hQ_r_1, hQ_r_2, hQ_r_3, hQ_r_4, hQ_r_5, hQ_r_6, hQ_r_7, hQ_r_8, hQ_r_9, hQ_r_10, hQ_r_11, hQ_r_12, hQ_r_13, hQ_r_14, hQ_r_15⟩, ⟨hQ_r_f1, hQ_r_a1, hQ_r_b1⟩, ⟨hQ_r_f2, hQ_r_a2, hQ_r_b2⟩, ⟨hQ_r_f3, hQ_r_a3, hQ_r_b3⟩, ⟨hQ_r_f4, hQ_r_a4, hQ_r_b4⟩, ⟨hQ_r_f5, hQ_r_a5, hQ_r_b5⟩, ⟨hQ_r_f6, hQ_r_a6, hQ_r_b6⟩, ⟨hQ_r_f7, hQ_r_a7, hQ_r_b7⟩, hQ_r_c1, hQ_r_c2, hQ_r_c3, hQ_r_c4, hQ_r_c5⟩ := hQ_r_o
  obtain ⟨hQ_G, hQ_ga, hQ_gb⟩ := hQ.2.1
  obtain rfl := inj_obj hQ_r_a hQ_ga
  have hV_o := hV
  obtain ⟨hV_F, hV_h, hV_iz, hV_a, hV_0, hV_1, hV_2, hV_3, hV_4, hV_5, hV_f, hV_b, hV_c⟩ := hV_o
  refine g_aload_n E dX14_find_0 rfl rfl rfl ?_
  refine g_getf E gciX14 dX14_find_1 hQ_r_a 0 rfl (by decide) q527 (.inl rfl) (.ref (bb + 1)) (hQ_r_0) rfl ?_
  refine g_aload_n E dX14_find_4 rfl rfl rfl ?_
  refine g_getf E gciX14 dX14_find_5 hQ_r_a 9 rfl (by decide) q557 (.inl rfl) (.int (nI (B 0 0))) (hQ_r_9) rfl ?_
  refine g_aload_n E dX14_find_8 rfl rfl rfl ?_
  refine g_callS (n9 := 3) (av := [.ref (bb + 1), .int (nI (B 0 0)), .ref k2]) (st := []) E (ct_X14_among_0 l hw hQ hV (by omega) hnl (by omega)) dX14_find_9 q840 q841 q136 q842 (by decide +kernel) rfl rfl ⟨by decide, by decide⟩ ⟨by decide, by decide⟩ (Nat.le_of_ble_eq_true rfl) rfl (gAm.k (fun k1 hk1 => ?_) (fun hk1 => ?_))
  · obtain ⟨i1, hi1, rfl⟩ := Option.map_eq_some_iff.mp hk1
    refine g_astore_n E dX14_find_12 rfl (by decide) rfl (lo1 := [some (.ref bb), some (.ref k2), some (.ref (bb + 10 + i1))]) rfl rfl ?_
    refine g_aload_n E dX14_find_13 rfl rfl rfl ?_
    refine g_ifnonnullY E dX14_find_14 (tgt := 30) (by decide) ?_
    refine g_aload_n E dX14_find_30 rfl rfl rfl ?_
    refine g_ifnonnullY E dX14_find_31 (tgt := 47) (by decide) ?_
    refine g_aload_n E dX14_find_47 rfl rfl rfl ?_
    refine g_ifnonnullY E dX14_find_48 (tgt := 66) (by decide) ?_
    refine g_aload_n E dX14_find_66 rfl rfl rfl ?_
    exact g_aret E Rt dX14_find_67 rfl (Or.inl ⟨_, rfl⟩) (by decide) (by decide) (⟨by rw [zFind_0 hi1]; rfl, rfl⟩)
  · have hi1 := Option.map_eq_none_iff.mp hk1
    refine g_astore_nN E dX14_find_12 rfl (by decide) rfl (lo1 := [some (.ref bb), some (.ref k2), some (.null)]) rfl rfl ?_
    refine g_aload_nN E dX14_find_13 rfl rfl rfl ?_
    refine g_ifnonnullN E dX14_find_14 rfl ?_
    refine g_aload_n E dX14_find_17 rfl rfl rfl ?_
    refine g_getf E gciX14 dX14_find_18 hQ_r_a 1 rfl (by decide) q530 (.inl rfl) (.ref (bb + 2)) (hQ_r_1) rfl ?_
    refine g_aload_n E dX14_find_21 rfl rfl rfl ?_
    refine g_getf E gciX14 dX14_find_22 hQ_r_a 10 rfl (by decide) q560 (.inl rfl) (.int (nI (B 0 1))) (hQ_r_10) rfl ?_
    refine g_aload_n E dX14_find_25 rfl rfl rfl ?_
    refine g_callS (n9 := 3) (av := [.ref (bb + 2), .int (nI (B 0 1)), .ref k2]) (st := []) E (ct_X14_among_1 l hw hQ hV (by omega) hnl (by omega)) dX14_find_26 q840 q841 q136 q842 (by decide +kernel) rfl rfl ⟨by decide, by decide⟩ ⟨by decide, by decide⟩ (Nat.le_of_ble_eq_true rfl) rfl (gAm.k (fun k2 hk2 => ?_) (fun hk2 => ?_))
    · obtain ⟨i2, hi2, rfl⟩ := Option.map_eq_some_iff.mp hk2
      refine g_astore_n E dX14_find_29 rfl (by decide) rfl (lo1 := [some (.ref bb), some (.ref k2), some (.ref (bb + 20 + i2))]) rfl rfl ?_
      refine g_aload_n E dX14_find_30 rfl rfl rfl ?_
      refine g_ifnonnullY E dX14_find_31 (tgt := 47) (by decide) ?_
      refine g_aload_n E dX14_find_47 rfl rfl rfl ?_
      refine g_ifnonnullY E dX14_find_48 (tgt := 66) (by decide) ?_
      refine g_aload_n E dX14_find_66 rfl rfl rfl ?_
      exact g_aret E Rt dX14_find_67 rfl (Or.inl ⟨_, rfl⟩) (by decide) (by decide) (⟨by rw [zFind_1 hi1 hi2]; rfl, rfl⟩)
    · have hi2 := Option.map_eq_none_iff.mp hk2
      refine g_astore_nN E dX14_find_29 rfl (by decide) rfl (lo1 := [some (.ref bb), some (.ref k2), some (.null)]) rfl rfl ?_
      refine g_aload_nN E dX14_find_30 rfl rfl rfl ?_
      refine g_ifnonnullN E dX14_find_31 rfl ?_
      refine g_aload_n E dX14_find_34 rfl rfl rfl ?_
      refine g_getf E gciX14 dX14_find_35 hQ_r_a 2 rfl (by decide) q534 (.inl rfl) (.ref (bb + 3)) (hQ_r_2) rfl ?_
      refine g_aload_n E dX14_find_38 rfl rfl rfl ?_
      refine g_getf E gciX14 dX14_find_39 hQ_r_a 11 rfl (by decide) q564 (.inl rfl) (.int (nI (B 0 2))) (hQ_r_11) rfl ?_
      refine g_aload_n E dX14_find_42 rfl rfl rfl ?_
      refine g_callS (n9 := 3) (av := [.ref (bb + 3), .int (nI (B 0 2)), .ref k2]) (st := []) E (ct_X14_among_2 l hw hQ hV (by omega) hnl (by omega)) dX14_find_43 q840 q841 q136 q842 (by decide +kernel) rfl rfl ⟨by decide, by decide⟩ ⟨by decide, by decide⟩ (Nat.le_of_ble_eq_true rfl) rfl (gAm.k (fun k3 hk3 => ?_) (fun hk3 => ?_))
      · obtain ⟨i3, hi3, rfl⟩ := Option.map_eq_some_iff.mp hk3
        refine g_astore_n E dX14_find_46 rfl (by decide) rfl (lo1 := [some (.ref bb), some (.ref k2), some (.ref (bb + 30 + i3))]) rfl rfl ?_
        refine g_aload_n E dX14_find_47 rfl rfl rfl ?_
        refine g_ifnonnullY E dX14_find_48 (tgt := 66) (by decide) ?_
        refine g_aload_n E dX14_find_66 rfl rfl rfl ?_
        exact g_aret E Rt dX14_find_67 rfl (Or.inl ⟨_, rfl⟩) (by decide) (by decide) (⟨by rw [zFind_2 hi1 hi2 hi3]; rfl, rfl⟩)
      · have hi3 := Option.map_eq_none_iff.mp hk3
        refine g_astore_nN E dX14_find_46 rfl (by decide) rfl (lo1 := [some (.ref bb), some (.ref k2), some (.null)]) rfl rfl ?_
        refine g_aload_nN E dX14_find_47 rfl rfl rfl ?_
        refine g_ifnonnullN E dX14_find_48 rfl ?_
        refine g_aload_n E dX14_find_51 rfl rfl rfl ?_
        refine g_getf E gciX14 dX14_find_52 hQ_r_a 3 rfl (by decide) q539 (.inl rfl) (.ref (bb + 4)) (hQ_r_3) rfl ?_
        refine g_aload_n E dX14_find_55 rfl rfl rfl ?_
        refine g_getf E gciX14 dX14_find_56 hQ_r_a 12 rfl (by decide) q570 (.inl rfl) (.int (nI (B 0 3))) (hQ_r_12) rfl ?_
        refine g_aload_n E dX14_find_59 rfl rfl rfl ?_
        refine g_callS (n9 := 3) (av := [.ref (bb + 4), .int (nI (B 0 3)), .ref k2]) (st := []) E (ct_X14_among_3 l hw hQ hV (by omega) hnl (by omega)) dX14_find_60 q840 q841 q136 q842 (by decide +kernel) rfl rfl ⟨by decide, by decide⟩ ⟨by decide, by decide⟩ (Nat.le_of_ble_eq_true rfl) rfl (gAm.k (fun k4 hk4 => ?_) (fun hk4 => ?_))
        · obtain ⟨i4, hi4, rfl⟩ := Option.map_eq_some_iff.mp hk4
          refine g_goto E dX14_find_63 (tgt := 67) (by decide) ?_
          exact g_aret E Rt dX14_find_67 rfl (Or.inl ⟨_, rfl⟩) (by decide) (by decide) (⟨by rw [zFind_3 hi1 hi2 hi3 hi4]; rfl, rfl⟩)
        · have hi4 := Option.map_eq_none_iff.mp hk4
          refine g_goto E dX14_find_63 (tgt := 67) (by decide) ?_
          exact g_aretN E Rt dX14_find_67 rfl (Or.inl ⟨_, rfl⟩) (by decide) (by decide) (⟨by rw [zFind_n hi1 hi2 hi3 hi4]; rfl, rfl⟩)
set_option maxHeartbeats 1000000 in
theorem ct_X2_newName (l : Launch) {g : gWM} {n bb M N : Nat} {t : zTk} {T : Nat → Int32} {B : gBar} {Nm : zNm} (hT : pTk g n bb t M N T) (hn : n ≤ 1100) (hok : zOk n t) (hbb : 10000 ≤ bb) (hM : bb + 100 ≤ M) (hMN : M ≤ N) (hw : wfB B) (hQ : pBq g bb B Nm M) (hnl : ∀ s k, s < 4 → k < B 0 s → (Nm s k).length < 1000) : gXt l yX2_newName cX2_newName 2 (some (.object "java/lang/String")) 5 2 13 121 [.ref 1002] g (gPe (zNw T n B Nm t) (fun _ => some (.ref M)) (fun a g1 => pSt g1 M a.1 ∧ M + 2 ≤ N ∧ pSp g1 g n bb a.2 M N T)) (fun g1 => ∃ e, zNw T n B Nm t = .inl e ∧ pXx g1 g bb e) := by
  refine gXt.of RX2 (by decide) rfl (lo := [some (.ref 1002), none]) 1 rfl (Nat.le_of_ble_eq_true rfl) (fun z E Rx => ?_)
  have hT_o := hT
  obtain ⟨⟨hT_F, hT_a, hT_0, hT_1, hT_2, hT_3, hT_4, hT_5, hT_6, hT_7, hT_8, hT_9⟩, hT_s, ⟨hT_G, hT_b⟩, ⟨hT_l, hT_c⟩, hT_t, hT_z⟩ := hT_o
  have hT_t_o := hT_t
  obtain ⟨hT_t_f, hT_t_a, hT_t_b⟩ := hT_t_o
  have hw_n := hw.1
  have hQ_r := hQ.1
  have hQ_n := hQ.2.2
  have hQ_r_o := hQ_r
  obtain ⟨⟨hQ_r_F, hQ_r_a, hQ_r_0, hQ_r_1, hQ_r_2, hQ_r_3, hQ_r_4, hQ_r_5, hQ_r_6, hQ_r_7, hQ_r_8, hQ_r_9, hQ_r_10, hQ_r_11, hQ_r_12, hQ_r_13, hQ_r_14, hQ_r_15⟩, ⟨hQ_r_f1, hQ_r_a1, hQ_r_b1⟩, ⟨hQ_r_f2, hQ_r_a2, hQ_r_b2⟩, ⟨hQ_r_f3, hQ_r_a3, hQ_r_b3⟩, ⟨hQ_r_f4, hQ_r_a4, hQ_r_b4⟩, ⟨hQ_r_f5, hQ_r_a5, hQ_r_b5⟩, ⟨hQ_r_f6, hQ_r_a6, hQ_r_b6⟩, ⟨hQ_r_f7, hQ_r_a7, hQ_r_b7⟩, hQ_r_c1, hQ_r_c2, hQ_r_c3, hQ_r_c4, hQ_r_c5⟩ := hQ_r_o
  obtain ⟨hQ_G, hQ_ga, hQ_gb⟩ := hQ.2.1
  obtain rfl := inj_obj hQ_r_a hQ_ga
  have hok_o := hok
  obtain ⟨hok_1, hok_2, hok_3, hok_4, hok_5⟩ := hok_o
  refine g_aload_n E dX2_newName_0 rfl rfl rfl ?_
  refine g_callVX (k := 1002) (n9 := 0) (av := []) (st := []) E Rx (ct_X2_mustName l hT (by omega) hok (by omega) (by omega) (by omega)) gciX2 dX2_newName_1 hT_a q830 q832 qs16 q121 q833 (by decide +kernel) rfl rfl ⟨by decide, by decide⟩ ⟨by decide, by decide⟩ (Nat.le_of_ble_eq_true rfl) rfl (fun g9 ⟨e9, h9e, h9p⟩ => ⟨e9, by unfold zNw; rw [zBd_l h9e] <;> rfl, h9p.tr (fun j9 h9 => rfl)⟩) (gPe.kn (fun a1 g1 he1 h1 => ?_))
  obtain ⟨hT1, h21, f1⟩ := h1
  have hT1_o := hT1
  obtain ⟨⟨hT1_F, hT1_a, hT1_0, hT1_1, hT1_2, hT1_3, hT1_4, hT1_5, hT1_6, hT1_7, hT1_8, hT1_9⟩, hT1_s, ⟨hT1_G, hT1_b⟩, ⟨hT1_l, hT1_c⟩, hT1_t, hT1_z⟩ := hT1_o
  have hT1_t_o := hT1_t
  obtain ⟨hT1_t_f, hT1_t_a, hT1_t_b⟩ := hT1_t_o
  have hW2 := hT1_s h21
  have hW2_1 := hW2.1
  have hW2_2 := hW2.2
  have hW2_w := hok.2.2.2.1 h21
  have hW2_wl := hW2_w.2.1
  have hW2_1_o := hW2_1
  obtain ⟨hW2_1_F, hW2_1_h, hW2_1_iz, hW2_1_a, hW2_1_0, hW2_1_1, hW2_1_2, hW2_1_3, hW2_1_4, hW2_1_5, hW2_1_f, hW2_1_b, hW2_1_c⟩ := hW2_1_o
  refine g_aload_n E dX2_newName_4 rfl rfl rfl ?_
  refine g_getf E gciX2 dX2_newName_5 hT1_a 9 rfl (by decide) q255 (.inl rfl) (.ref bb) (hT1_9) rfl ?_
  refine g_aload_n E dX2_newName_8 rfl rfl rfl ?_
  refine g_getf E gciX2 dX2_newName_9 hT1_a 8 rfl (by decide) q254 (.inl rfl) (.ref M) (hT1_8 h21) rfl ?_
  have x3 := (f1 (bb) (by omega)).trans (hQ_r_a)
  have y4 := (hQ.fr hw (by omega) (fun j9 a9 b9 => f1 j9 (by omega)))
  refine g_callV (k := bb) (n9 := 1) (av := [.ref M]) (st := []) E (ct_X14_find l hw y4 hW2_1 (by omega) hnl (by omega)) gciX14 dX2_newName_12 x3 q836 q837 q838 q136 q839 (by decide +kernel) rfl rfl ⟨by decide, by decide⟩ ⟨by decide, by decide⟩ (Nat.le_of_ble_eq_true rfl) rfl (gAm.k (fun k5 hk5 => ?_) (fun hk5 => ?_))
  · obtain ⟨q5, hi5, rfl⟩ := Option.map_eq_some_iff.mp hk5
    refine g_ifnullN E dX2_newName_15 rfl ?_
    refine g_aload_n E dX2_newName_18 rfl rfl rfl ?_
    refine g_iconst E (v := 3) dX2_newName_19 (by decide) rfl ?_
    refine g_callV (k := 1002) (n9 := 1) (av := [.int 3]) (st := []) E (ct_X2_fail l 3 (⟨_, hT1_a, hT1_0, hT1_6⟩) (⟨_, hT1_b⟩)) gciX2 dX2_newName_20 hT1_a q716 q718 qs7 q121 q719 (by decide +kernel) rfl rfl ⟨by decide, by decide⟩ ⟨by decide, by decide⟩ (Nat.le_of_ble_eq_true rfl) rfl (gPr.k (fun g6 h6 => ?_))
    obtain ⟨⟨F6, h6, h6a, h6b⟩, f6⟩ := h6
    have x7 := (f6 (1002) (by omega)).trans (hT1_a)
    have x8 := (f6 (1004) (by omega)).trans (hT1_c)
    exact g_athrow E Rx dX2_newName_23 h6 (by decide) (by decide) (⟨(3, t.2.2.1), by unfold zNw; rw [zBd_r he1, hi5], ⟨⟨_, h6, h6a, h6b⟩, ⟨_, x7, hT1_0, hT1_1, hT1_2⟩, ⟨_, x8⟩, ⟨N, by omega, fun j9 a9 => (f6 j9 (by omega)).trans (hT1_z j9 (by omega))⟩, fun j9 h9 => (f6 j9 (by omega)).trans (f1 j9 (by omega))⟩⟩)
  · have hi5 := Option.map_eq_none_iff.mp hk5
    refine g_ifnullY E dX2_newName_15 (tgt := 24) (by decide) ?_
    refine g_aload_n E dX2_newName_24 rfl rfl rfl ?_
    refine g_getf E gciX2 dX2_newName_25 hT1_a 8 rfl (by decide) q254 (.inl rfl) (.ref M) (hT1_8 h21) rfl ?_
    refine g_astore_n E dX2_newName_28 rfl (by decide) rfl (lo1 := [some (.ref 1002), some (.ref M)]) rfl rfl ?_
    refine g_aload_n E dX2_newName_29 rfl rfl rfl ?_
    refine g_callV (k := 1002) (n9 := 0) (av := []) (st := []) E (ct_X2_next l hT1.q (by omega) hok.1 (by omega) (by omega)) gciX2 dX2_newName_30 hT1_a q618 q620 qs4 q121 q621 (by decide +kernel) rfl rfl ⟨by decide, by decide⟩ ⟨by decide, by decide⟩ (Nat.le_of_ble_eq_true rfl) rfl (gPn.k (fun g9 h9 => ?_))
    obtain ⟨M9, N9, hM9, hN9, hT9, f9⟩ := h9
    have hT9_o := hT9
    obtain ⟨⟨hT9_F, hT9_a, hT9_0, hT9_1, hT9_2, hT9_3, hT9_4, hT9_5, hT9_6, hT9_7, hT9_8, hT9_9⟩, hT9_s, ⟨hT9_G, hT9_b⟩, ⟨hT9_l, hT9_c⟩, hT9_t, hT9_z⟩ := hT9_o
    have hT9_t_o := hT9_t
    obtain ⟨hT9_t_f, hT9_t_a, hT9_t_b⟩ := hT9_t_o
    have hok9 : zOk n (zTn T n t.1) := zTn_ok hok.1
    have hok9_o := hok9
    obtain ⟨hok9_1, hok9_2, hok9_3, hok9_4, hok9_5⟩ := hok9_o
    refine g_aload_n E dX2_newName_33 rfl rfl rfl ?_
    have y10 := (hW2_1.fr  (fun j9 a9 b9 => f9 j9 (by omega)))
    exact (gRx_leave Rx E).elim (fun z9 h9z => h9z.2.2 _ _ _ _ _ _ (g_aret h9z.2.1 h9z.1 dX2_newName_34 rfl (Or.inl ⟨_, rfl⟩) (by decide) (by decide) (⟨(t.2.2.2.2, zTn T n t.1), by unfold zNw; rw [zBd_r he1, hi5], rfl, y10, hW2.2, M9, N9, by omega, by omega, hT9, fun j9 h9 => (f9 j9 (by omega)).trans (f1 j9 (by omega))⟩)))
set_option maxHeartbeats 400000 in
theorem ct_X2_named (l : Launch) {g : gWM} {n bb M N : Nat} {t : zTk} {T : Nat → Int32} {B : gBar} {Nm : zNm} (hT : pTk g n bb t M N T) (hn : n ≤ 1100) (hok : zOk n t) (hbb : 10000 ≤ bb) (hM : bb + 100 ≤ M) (hMN : M ≤ N) (hw : wfB B) (hQ : pBq g bb B Nm M) (hnl : ∀ s k, s < 4 → k < B 0 s → (Nm s k).length < 1000) : gXt l yX2_named cX2_named 2 (some (.object "SaltedGate$Named")) 5 0 0 112 [.ref 1002] g (gPe (zKn B Nm t) (fun q => some (.ref (zNo bb q))) (fun _ g1 => pTk g1 n bb t M N T ∧ ∀ j, j < M → g1 j = g j)) (fun g1 => ∃ e, zKn B Nm t = .inl e ∧ pXx g1 g bb e) := by
  refine gXt.of RX2 (by decide) rfl (lo := [some (.ref 1002), none]) 1 rfl (Nat.le_of_ble_eq_true rfl) (fun z E Rx => ?_)
  have hT_o := hT
  obtain ⟨⟨hT_F, hT_a, hT_0, hT_1, hT_2, hT_3, hT_4, hT_5, hT_6, hT_7, hT_8, hT_9⟩, hT_s, ⟨hT_G, hT_b⟩, ⟨hT_l, hT_c⟩, hT_t, hT_z⟩ := hT_o
  have hT_t_o := hT_t
  obtain ⟨hT_t_f, hT_t_a, hT_t_b⟩ := hT_t_o
  have hw_n := hw.1
  have hQ_r := hQ.1
  have hQ_n := hQ.2.2
  have hQ_r_o := hQ_r
  obtain ⟨⟨hQ_r_F, hQ_r_a, hQ_r_0, hQ_r_1, hQ_r_2, hQ_r_3, hQ_r_4, hQ_r_5, hQ_r_6, hQ_r_7, hQ_r_8, hQ_r_9, hQ_r_10, hQ_r_11, hQ_r_12, hQ_r_13, hQ_r_14, hQ_r_15⟩, ⟨hQ_r_f1, hQ_r_a1, hQ_r_b1⟩, ⟨hQ_r_f2, hQ_r_a2, hQ_r_b2⟩, ⟨hQ_r_f3, hQ_r_a3, hQ_r_b3⟩, ⟨hQ_r_f4, hQ_r_a4, hQ_r_b4⟩, ⟨hQ_r_f5, hQ_r_a5, hQ_r_b5⟩, ⟨hQ_r_f6, hQ_r_a6, hQ_r_b6⟩, ⟨hQ_r_f7, hQ_r_a7, hQ_r_b7⟩, hQ_r_c1, hQ_r_c2, hQ_r_c3, hQ_r_c4, hQ_r_c5⟩ := hQ_r_o
  obtain ⟨hQ_G, hQ_ga, hQ_gb⟩ := hQ.2.1
  obtain rfl := inj_obj hQ_r_a hQ_ga
  have hok_o := hok
  obtain ⟨hok_1, hok_2, hok_3, hok_4, hok_5⟩ := hok_o
  refine g_aload_n E dX2_named_0 rfl rfl rfl ?_
  refine g_callVX (k := 1002) (n9 := 0) (av := []) (st := []) E Rx (ct_X2_mustName l hT (by omega) hok (by omega) (by omega) (by omega)) gciX2 dX2_named_1 hT_a q830 q832 qs16 q121 q833 (by decide +kernel) rfl rfl ⟨by decide, by decide⟩ ⟨by decide, by decide⟩ (Nat.le_of_ble_eq_true rfl) rfl (fun g9 ⟨e9, h9e, h9p⟩ => ⟨e9, by unfold zKn; rw [zBd_l h9e] <;> rfl, h9p.tr (fun j9 h9 => rfl)⟩) (gPe.kn (fun a1 g1 he1 h1 => ?_))
  obtain ⟨hT1, h21, f1⟩ := h1
  have hT1_o := hT1
  obtain ⟨⟨hT1_F, hT1_a, hT1_0, hT1_1, hT1_2, hT1_3, hT1_4, hT1_5, hT1_6, hT1_7, hT1_8, hT1_9⟩, hT1_s, ⟨hT1_G, hT1_b⟩, ⟨hT1_l, hT1_c⟩, hT1_t, hT1_z⟩ := hT1_o
  have hT1_t_o := hT1_t
  obtain ⟨hT1_t_f, hT1_t_a, hT1_t_b⟩ := hT1_t_o
  have hW2 := hT1_s h21
  have hW2_1 := hW2.1
  have hW2_2 := hW2.2
  have hW2_w := hok.2.2.2.1 h21
  have hW2_wl := hW2_w.2.1
  have hW2_1_o := hW2_1
  obtain ⟨hW2_1_F, hW2_1_h, hW2_1_iz, hW2_1_a, hW2_1_0, hW2_1_1, hW2_1_2, hW2_1_3, hW2_1_4, hW2_1_5, hW2_1_f, hW2_1_b, hW2_1_c⟩ := hW2_1_o
  refine g_aload_n E dX2_named_4 rfl rfl rfl ?_
  refine g_getf E gciX2 dX2_named_5 hT1_a 9 rfl (by decide) q255 (.inl rfl) (.ref bb) (hT1_9) rfl ?_
  refine g_aload_n E dX2_named_8 rfl rfl rfl ?_
  refine g_getf E gciX2 dX2_named_9 hT1_a 8 rfl (by decide) q254 (.inl rfl) (.ref M) (hT1_8 h21) rfl ?_
  have x3 := (f1 (bb) (by omega)).trans (hQ_r_a)
  have y4 := (hQ.fr hw (by omega) (fun j9 a9 b9 => f1 j9 (by omega)))
  refine g_callV (k := bb) (n9 := 1) (av := [.ref M]) (st := []) E (ct_X14_find l hw y4 hW2_1 (by omega) hnl (by omega)) gciX14 dX2_named_12 x3 q836 q837 q838 q136 q839 (by decide +kernel) rfl rfl ⟨by decide, by decide⟩ ⟨by decide, by decide⟩ (Nat.le_of_ble_eq_true rfl) rfl (gAm.k (fun k5 hk5 => ?_) (fun hk5 => ?_))
  · obtain ⟨q5, hi5, rfl⟩ := Option.map_eq_some_iff.mp hk5
    refine g_astore_n E dX2_named_15 rfl (by decide) rfl (lo1 := [some (.ref 1002), some (.ref (zNo bb q5))]) rfl rfl ?_
    refine g_aload_n E dX2_named_16 rfl rfl rfl ?_
    refine g_ifnonnullY E dX2_named_17 (tgt := 26) (by decide) ?_
    refine g_aload_n E dX2_named_26 rfl rfl rfl ?_
    exact (gRx_leave Rx E).elim (fun z9 h9z => h9z.2.2 _ _ _ _ _ _ (g_aret h9z.2.1 h9z.1 dX2_named_27 rfl (Or.inl ⟨_, rfl⟩) (by decide) (by decide) (⟨q5, by unfold zKn; rw [zBd_r he1, hi5], rfl, hT1, fun j9 h9 => f1 j9 (by omega)⟩)))
  · have hi5 := Option.map_eq_none_iff.mp hk5
    refine g_astore_nN E dX2_named_15 rfl (by decide) rfl (lo1 := [some (.ref 1002), some (.null)]) rfl rfl ?_
    refine g_aload_nN E dX2_named_16 rfl rfl rfl ?_
    refine g_ifnonnullN E dX2_named_17 rfl ?_
    refine g_aload_n E dX2_named_20 rfl rfl rfl ?_
    refine g_iconst E (v := 2) dX2_named_21 (by decide) rfl ?_
    refine g_callV (k := 1002) (n9 := 1) (av := [.int 2]) (st := []) E (ct_X2_fail l 2 (⟨_, hT1_a, hT1_0, hT1_6⟩) (⟨_, hT1_b⟩)) gciX2 dX2_named_22 hT1_a q716 q718 qs7 q121 q719 (by decide +kernel) rfl rfl ⟨by decide, by decide⟩ ⟨by decide, by decide⟩ (Nat.le_of_ble_eq_true rfl) rfl (gPr.k (fun g6 h6 => ?_))
    obtain ⟨⟨F6, h6, h6a, h6b⟩, f6⟩ := h6
    have x7 := (f6 (1002) (by omega)).trans (hT1_a)
    have x8 := (f6 (1004) (by omega)).trans (hT1_c)
    exact g_athrow E Rx dX2_named_25 h6 (by decide) (by decide) (⟨(2, t.2.2.1), by unfold zKn; rw [zBd_r he1, hi5], ⟨⟨_, h6, h6a, h6b⟩, ⟨_, x7, hT1_0, hT1_1, hT1_2⟩, ⟨_, x8⟩, ⟨N, by omega, fun j9 a9 => (f6 j9 (by omega)).trans (hT1_z j9 (by omega))⟩, fun j9 h9 => (f6 j9 (by omega)).trans (f1 j9 (by omega))⟩⟩)
set_option maxHeartbeats 1000000 in
theorem ct_X2_traveller (l : Launch) {g : gWM} {n bb M N : Nat} {t : zTk} {T : Nat → Int32} {B : gBar} {Nm : zNm} (hT : pTk g n bb t M N T) (hn : n ≤ 1100) (hok : zOk n t) (hbb : 10000 ≤ bb) (hM : bb + 100 ≤ M) (hMN : M ≤ N) (hw : wfB B) (hQ : pBq g bb B Nm M) (hnl : ∀ s k, s < 4 → k < B 0 s → (Nm s k).length < 1000) : gXt l yX2_traveller cX2_traveller 2 (some .int) 6 2 13 133 [.ref 1002] g (gPe (zKx T n 1 B Nm t) (fun a => some (.int (nI a.1))) (fun a g1 => pSp g1 g n bb a.2 M N T)) (fun g1 => ∃ e, zKx T n 1 B Nm t = .inl e ∧ pXx g1 g bb e) := by
  refine gXt.of RX2 (by decide) rfl (lo := [some (.ref 1002), none]) 1 rfl (Nat.le_of_ble_eq_true rfl) (fun z E Rx => ?_)
  have hT_o := hT
  obtain ⟨⟨hT_F, hT_a, hT_0, hT_1, hT_2, hT_3, hT_4, hT_5, hT_6, hT_7, hT_8, hT_9⟩, hT_s, ⟨hT_G, hT_b⟩, ⟨hT_l, hT_c⟩, hT_t, hT_z⟩ := hT_o
  have hT_t_o := hT_t
  obtain ⟨hT_t_f, hT_t_a, hT_t_b⟩ := hT_t_o
  have hw_n := hw.1
  have hQ_r := hQ.1
  have hQ_n := hQ.2.2
  have hQ_r_o := hQ_r
  obtain ⟨⟨hQ_r_F, hQ_r_a, hQ_r_0, hQ_r_1, hQ_r_2, hQ_r_3, hQ_r_4, hQ_r_5, hQ_r_6, hQ_r_7, hQ_r_8, hQ_r_9, hQ_r_10, hQ_r_11, hQ_r_12, hQ_r_13, hQ_r_14, hQ_r_15⟩, ⟨hQ_r_f1, hQ_r_a1, hQ_r_b1⟩, ⟨hQ_r_f2, hQ_r_a2, hQ_r_b2⟩, ⟨hQ_r_f3, hQ_r_a3, hQ_r_b3⟩, ⟨hQ_r_f4, hQ_r_a4, hQ_r_b4⟩, ⟨hQ_r_f5, hQ_r_a5, hQ_r_b5⟩, ⟨hQ_r_f6, hQ_r_a6, hQ_r_b6⟩, ⟨hQ_r_f7, hQ_r_a7, hQ_r_b7⟩, hQ_r_c1, hQ_r_c2, hQ_r_c3, hQ_r_c4, hQ_r_c5⟩ := hQ_r_o
  obtain ⟨hQ_G, hQ_ga, hQ_gb⟩ := hQ.2.1
  obtain rfl := inj_obj hQ_r_a hQ_ga
  have hok_o := hok
  obtain ⟨hok_1, hok_2, hok_3, hok_4, hok_5⟩ := hok_o
  refine g_aload_n E dX2_traveller_0 rfl rfl rfl ?_
  refine g_callVX (k := 1002) (n9 := 0) (av := []) (st := []) E Rx (ct_X2_named l hT (by omega) hok (by omega) (by omega) (by omega) hw hQ hnl) gciX2 dX2_traveller_1 hT_a q997 q999 qs22 q121 q1000 (by decide +kernel) rfl rfl ⟨by decide, by decide⟩ ⟨by decide, by decide⟩ (Nat.le_of_ble_eq_true rfl) rfl (fun g9 ⟨e9, h9e, h9p⟩ => ⟨e9, by unfold zKx zKs; rw [zBd_l h9e] <;> rfl, h9p.tr (fun j9 h9 => rfl)⟩) (gPe.kr (fun a1 g1 he1 h1 => ?_))
  obtain ⟨hT1, f1⟩ := h1
  have hT1_o := hT1
  obtain ⟨⟨hT1_F, hT1_a, hT1_0, hT1_1, hT1_2, hT1_3, hT1_4, hT1_5, hT1_6, hT1_7, hT1_8, hT1_9⟩, hT1_s, ⟨hT1_G, hT1_b⟩, ⟨hT1_l, hT1_c⟩, hT1_t, hT1_z⟩ := hT1_o
  have hT1_t_o := hT1_t
  obtain ⟨hT1_t_f, hT1_t_a, hT1_t_b⟩ := hT1_t_o
  have hlt1 := zKn_lt he1
  obtain ⟨s1, k1⟩ := a1
  obtain ⟨hs1, hk1⟩ := hlt1
  rcases (show s1 = 0 ∨ s1 = 1 ∨ s1 = 2 ∨ s1 = 3 by have : s1 < 4 := hs1; omega) with rfl | rfl | rfl | rfl
  · have hk1 : k1 < B 0 0 := hk1
    refine g_asr (b := bb + 10 + k1) rfl ?_
    have y2 := (hQ.fr hw (by omega) (fun j9 a9 b9 => f1 j9 (by omega)))
    obtain ⟨m3_F, m3_a, m3_1, m3_2, m3_3, m3_4, m3_5, m3_6, m3_7⟩ := pBr.means y2.1 k1 (by omega)
    refine g_astore_n E dX2_traveller_4 rfl (by decide) rfl (lo1 := [some (.ref 1002), some (.ref (bb + 10 + k1))]) rfl rfl ?_
    refine g_aload_n E dX2_traveller_5 rfl rfl rfl ?_
    refine g_instNo (n9 := 0) E gciX16 dX2_traveller_6 m3_a q894 (by decide +kernel) rfl ?_
    refine g_if_ne E dX2_traveller_9 (tgt := 18) (by decide) rfl (fun h9 => absurd h9 (by decide)) (fun _ => ?_)
    refine g_aload_n E dX2_traveller_12 rfl rfl rfl ?_
    refine g_iconst E (v := 2) dX2_traveller_13 (by decide) rfl ?_
    refine g_callV (k := 1002) (n9 := 1) (av := [.int 2]) (st := []) E (ct_X2_fail l 2 (⟨_, hT1_a, hT1_0, hT1_6⟩) (⟨_, hT1_b⟩)) gciX2 dX2_traveller_14 hT1_a q716 q718 qs7 q121 q719 (by decide +kernel) rfl rfl ⟨by decide, by decide⟩ ⟨by decide, by decide⟩ (Nat.le_of_ble_eq_true rfl) rfl (gPr.k (fun g4 h4 => ?_))
    obtain ⟨⟨F4, h4, h4a, h4b⟩, f4⟩ := h4
    have x5 := (f4 (1002) (by omega)).trans (hT1_a)
    have x6 := (f4 (1004) (by omega)).trans (hT1_c)
    exact g_athrow E Rx dX2_traveller_17 h4 (by decide) (by decide) (⟨(2, t.2.2.1), by unfold zKx zKs; rw [zBd_r he1]; rfl, ⟨⟨_, h4, h4a, h4b⟩, ⟨_, x5, hT1_0, hT1_1, hT1_2⟩, ⟨_, x6⟩, ⟨N, by omega, fun j9 a9 => (f4 j9 (by omega)).trans (hT1_z j9 (by omega))⟩, fun j9 h9 => (f4 j9 (by omega)).trans (f1 j9 (by omega))⟩⟩)
  · have hk1 : k1 < B 0 1 := hk1
    refine g_asr (b := bb + 20 + k1) rfl ?_
    have y7 := (hQ.fr hw (by omega) (fun j9 a9 b9 => f1 j9 (by omega)))
    have e8_h := pBr.people y7.1 k1 (by omega)
    obtain ⟨e8_F, e8_a, e8_1, e8_2, e8_3⟩ := e8_h
    refine g_astore_n E dX2_traveller_4 rfl (by decide) rfl (lo1 := [some (.ref 1002), some (.ref (bb + 20 + k1))]) rfl rfl ?_
    refine g_aload_n E dX2_traveller_5 rfl rfl rfl ?_
    refine g_instY (n9 := 0) E gciX17 dX2_traveller_6 e8_a q894 (.inl rfl) rfl ?_
    refine g_if_ne E dX2_traveller_9 (tgt := 18) (by decide) rfl (fun _ => ?_) (fun h9 => absurd h9 (by decide))
    refine g_aload_n E dX2_traveller_18 rfl rfl rfl ?_
    refine g_callV (k := 1002) (n9 := 0) (av := []) (st := []) E (ct_X2_next l hT1.q (by omega) hok.1 (by omega) (by omega)) gciX2 dX2_traveller_19 hT1_a q618 q620 qs4 q121 q621 (by decide +kernel) rfl rfl ⟨by decide, by decide⟩ ⟨by decide, by decide⟩ (Nat.le_of_ble_eq_true rfl) rfl (gPn.k (fun g9 h9 => ?_))
    obtain ⟨M9, N9, hM9, hN9, hT9, f9⟩ := h9
    have hT9_o := hT9
    obtain ⟨⟨hT9_F, hT9_a, hT9_0, hT9_1, hT9_2, hT9_3, hT9_4, hT9_5, hT9_6, hT9_7, hT9_8, hT9_9⟩, hT9_s, ⟨hT9_G, hT9_b⟩, ⟨hT9_l, hT9_c⟩, hT9_t, hT9_z⟩ := hT9_o
    have hT9_t_o := hT9_t
    obtain ⟨hT9_t_f, hT9_t_a, hT9_t_b⟩ := hT9_t_o
    have hok9 : zOk n (zTn T n t.1) := zTn_ok hok.1
    have hok9_o := hok9
    obtain ⟨hok9_1, hok9_2, hok9_3, hok9_4, hok9_5⟩ := hok9_o
    refine g_aload_n E dX2_traveller_22 rfl rfl rfl ?_
    have x10 := (f9 (bb + 20 + k1) (by omega)).trans (e8_a)
    refine g_getf E gciX17 dX2_traveller_23 x10 1 rfl (by decide) q867 (.inl rfl) (.int (nI (k1))) (e8_1) rfl ?_
    exact (gRx_leave Rx E).elim (fun z9 h9z => h9z.2.2 _ _ _ _ _ _ (g_iret h9z.2.1 h9z.1 dX2_traveller_26 rfl (by decide) (by decide) (⟨(k1, zTn T n t.1), by unfold zKx zKs; rw [zBd_r he1]; rfl, rfl, M9, N9, by omega, by omega, hT9, fun j9 h9 => (f9 j9 (by omega)).trans (f1 j9 (by omega))⟩)))
  · have hk1 : k1 < B 0 2 := hk1
    refine g_asr (b := bb + 30 + k1) rfl ?_
    have y11 := (hQ.fr hw (by omega) (fun j9 a9 b9 => f1 j9 (by omega)))
    have e12_h := pBr.gates y11.1 k1 (by omega)
    obtain ⟨e12_F, e12_a, e12_1, e12_2, e12_3, e12_4⟩ := e12_h
    refine g_astore_n E dX2_traveller_4 rfl (by decide) rfl (lo1 := [some (.ref 1002), some (.ref (bb + 30 + k1))]) rfl rfl ?_
    refine g_aload_n E dX2_traveller_5 rfl rfl rfl ?_
    refine g_instNo (n9 := 0) E gciX18 dX2_traveller_6 e12_a q894 (by decide +kernel) rfl ?_
    refine g_if_ne E dX2_traveller_9 (tgt := 18) (by decide) rfl (fun h9 => absurd h9 (by decide)) (fun _ => ?_)
    refine g_aload_n E dX2_traveller_12 rfl rfl rfl ?_
    refine g_iconst E (v := 2) dX2_traveller_13 (by decide) rfl ?_
    refine g_callV (k := 1002) (n9 := 1) (av := [.int 2]) (st := []) E (ct_X2_fail l 2 (⟨_, hT1_a, hT1_0, hT1_6⟩) (⟨_, hT1_b⟩)) gciX2 dX2_traveller_14 hT1_a q716 q718 qs7 q121 q719 (by decide +kernel) rfl rfl ⟨by decide, by decide⟩ ⟨by decide, by decide⟩ (Nat.le_of_ble_eq_true rfl) rfl (gPr.k (fun g13 h13 => ?_))
    obtain ⟨⟨F13, h13, h13a, h13b⟩, f13⟩ := h13
    have x14 := (f13 (1002) (by omega)).trans (hT1_a)
    have x15 := (f13 (1004) (by omega)).trans (hT1_c)
    exact g_athrow E Rx dX2_traveller_17 h13 (by decide) (by decide) (⟨(2, t.2.2.1), by unfold zKx zKs; rw [zBd_r he1]; rfl, ⟨⟨_, h13, h13a, h13b⟩, ⟨_, x14, hT1_0, hT1_1, hT1_2⟩, ⟨_, x15⟩, ⟨N, by omega, fun j9 a9 => (f13 j9 (by omega)).trans (hT1_z j9 (by omega))⟩, fun j9 h9 => (f13 j9 (by omega)).trans (f1 j9 (by omega))⟩⟩)
  · have hk1 : k1 < B 0 3 := hk1
    refine g_asr (b := bb + 40 + k1) rfl ?_
    have y16 := (hQ.fr hw (by omega) (fun j9 a9 b9 => f1 j9 (by omega)))
    have u17 := pBr.good y16.1 hw (j := k1) (by omega)
    have u17_b := wfB.goods hw (j := k1) (by omega)
    have o18 := u17
    obtain ⟨⟨o18_F, o18_a, o18_0, o18_1, o18_2, o18_3, o18_4, o18_7⟩, o18_m, o18_k⟩ := o18
    refine g_astore_n E dX2_traveller_4 rfl (by decide) rfl (lo1 := [some (.ref 1002), some (.ref (bb + 40 + k1))]) rfl rfl ?_
    refine g_aload_n E dX2_traveller_5 rfl rfl rfl ?_
    refine g_instGN E dX2_traveller_6 o18_a (o18_k) q894 (by decide +kernel) (by decide +kernel) (by decide +kernel) (by decide +kernel) (by decide +kernel) rfl ?_
    refine g_if_ne E dX2_traveller_9 (tgt := 18) (by decide) rfl (fun h9 => absurd h9 (by decide)) (fun _ => ?_)
    refine g_aload_n E dX2_traveller_12 rfl rfl rfl ?_
    refine g_iconst E (v := 2) dX2_traveller_13 (by decide) rfl ?_
    refine g_callV (k := 1002) (n9 := 1) (av := [.int 2]) (st := []) E (ct_X2_fail l 2 (⟨_, hT1_a, hT1_0, hT1_6⟩) (⟨_, hT1_b⟩)) gciX2 dX2_traveller_14 hT1_a q716 q718 qs7 q121 q719 (by decide +kernel) rfl rfl ⟨by decide, by decide⟩ ⟨by decide, by decide⟩ (Nat.le_of_ble_eq_true rfl) rfl (gPr.k (fun g19 h19 => ?_))
    obtain ⟨⟨F19, h19, h19a, h19b⟩, f19⟩ := h19
    have x20 := (f19 (1002) (by omega)).trans (hT1_a)
    have x21 := (f19 (1004) (by omega)).trans (hT1_c)
    exact g_athrow E Rx dX2_traveller_17 h19 (by decide) (by decide) (⟨(2, t.2.2.1), by unfold zKx zKs; rw [zBd_r he1]; rfl, ⟨⟨_, h19, h19a, h19b⟩, ⟨_, x20, hT1_0, hT1_1, hT1_2⟩, ⟨_, x21⟩, ⟨N, by omega, fun j9 a9 => (f19 j9 (by omega)).trans (hT1_z j9 (by omega))⟩, fun j9 h9 => (f19 j9 (by omega)).trans (f1 j9 (by omega))⟩⟩)
set_option maxHeartbeats 1000000 in
theorem ct_X2_gate (l : Launch) {g : gWM} {n bb M N : Nat} {t : zTk} {T : Nat → Int32} {B : gBar} {Nm : zNm} (hT : pTk g n bb t M N T) (hn : n ≤ 1100) (hok : zOk n t) (hbb : 10000 ≤ bb) (hM : bb + 100 ≤ M) (hMN : M ≤ N) (hw : wfB B) (hQ : pBq g bb B Nm M) (hnl : ∀ s k, s < 4 → k < B 0 s → (Nm s k).length < 1000) : gXt l yX2_gate cX2_gate 2 (some .int) 6 2 13 133 [.ref 1002] g (gPe (zKx T n 2 B Nm t) (fun a => some (.int (nI a.1))) (fun a g1 => pSp g1 g n bb a.2 M N T)) (fun g1 => ∃ e, zKx T n 2 B Nm t = .inl e ∧ pXx g1 g bb e) := by
  refine gXt.of RX2 (by decide) rfl (lo := [some (.ref 1002), none]) 1 rfl (Nat.le_of_ble_eq_true rfl) (fun z E Rx => ?_)
  have hT_o := hT
  obtain ⟨⟨hT_F, hT_a, hT_0, hT_1, hT_2, hT_3, hT_4, hT_5, hT_6, hT_7, hT_8, hT_9⟩, hT_s, ⟨hT_G, hT_b⟩, ⟨hT_l, hT_c⟩, hT_t, hT_z⟩ := hT_o
  have hT_t_o := hT_t
  obtain ⟨hT_t_f, hT_t_a, hT_t_b⟩ := hT_t_o
  have hw_n := hw.1
  have hQ_r := hQ.1
  have hQ_n := hQ.2.2
  have hQ_r_o := hQ_r
  obtain ⟨⟨hQ_r_F, hQ_r_a, hQ_r_0, hQ_r_1, hQ_r_2, hQ_r_3, hQ_r_4, hQ_r_5, hQ_r_6, hQ_r_7, hQ_r_8, hQ_r_9, hQ_r_10, hQ_r_11, hQ_r_12, hQ_r_13, hQ_r_14, hQ_r_15⟩, ⟨hQ_r_f1, hQ_r_a1, hQ_r_b1⟩, ⟨hQ_r_f2, hQ_r_a2, hQ_r_b2⟩, ⟨hQ_r_f3, hQ_r_a3, hQ_r_b3⟩, ⟨hQ_r_f4, hQ_r_a4, hQ_r_b4⟩, ⟨hQ_r_f5, hQ_r_a5, hQ_r_b5⟩, ⟨hQ_r_f6, hQ_r_a6, hQ_r_b6⟩, ⟨hQ_r_f7, hQ_r_a7, hQ_r_b7⟩, hQ_r_c1, hQ_r_c2, hQ_r_c3, hQ_r_c4, hQ_r_c5⟩ := hQ_r_o
  obtain ⟨hQ_G, hQ_ga, hQ_gb⟩ := hQ.2.1
  obtain rfl := inj_obj hQ_r_a hQ_ga
  have hok_o := hok
  obtain ⟨hok_1, hok_2, hok_3, hok_4, hok_5⟩ := hok_o
  refine g_aload_n E dX2_gate_0 rfl rfl rfl ?_
  refine g_callVX (k := 1002) (n9 := 0) (av := []) (st := []) E Rx (ct_X2_named l hT (by omega) hok (by omega) (by omega) (by omega) hw hQ hnl) gciX2 dX2_gate_1 hT_a q997 q999 qs22 q121 q1000 (by decide +kernel) rfl rfl ⟨by decide, by decide⟩ ⟨by decide, by decide⟩ (Nat.le_of_ble_eq_true rfl) rfl (fun g9 ⟨e9, h9e, h9p⟩ => ⟨e9, by unfold zKx zKs; rw [zBd_l h9e] <;> rfl, h9p.tr (fun j9 h9 => rfl)⟩) (gPe.kr (fun a1 g1 he1 h1 => ?_))
  obtain ⟨hT1, f1⟩ := h1
  have hT1_o := hT1
  obtain ⟨⟨hT1_F, hT1_a, hT1_0, hT1_1, hT1_2, hT1_3, hT1_4, hT1_5, hT1_6, hT1_7, hT1_8, hT1_9⟩, hT1_s, ⟨hT1_G, hT1_b⟩, ⟨hT1_l, hT1_c⟩, hT1_t, hT1_z⟩ := hT1_o
  have hT1_t_o := hT1_t
  obtain ⟨hT1_t_f, hT1_t_a, hT1_t_b⟩ := hT1_t_o
  have hlt1 := zKn_lt he1
  obtain ⟨s1, k1⟩ := a1
  obtain ⟨hs1, hk1⟩ := hlt1
  rcases (show s1 = 0 ∨ s1 = 1 ∨ s1 = 2 ∨ s1 = 3 by have : s1 < 4 := hs1; omega) with rfl | rfl | rfl | rfl
  · have hk1 : k1 < B 0 0 := hk1
    refine g_asr (b := bb + 10 + k1) rfl ?_
    have y2 := (hQ.fr hw (by omega) (fun j9 a9 b9 => f1 j9 (by omega)))
    obtain ⟨m3_F, m3_a, m3_1, m3_2, m3_3, m3_4, m3_5, m3_6, m3_7⟩ := pBr.means y2.1 k1 (by omega)
    refine g_astore_n E dX2_gate_4 rfl (by decide) rfl (lo1 := [some (.ref 1002), some (.ref (bb + 10 + k1))]) rfl rfl ?_
    refine g_aload_n E dX2_gate_5 rfl rfl rfl ?_
    refine g_instNo (n9 := 0) E gciX16 dX2_gate_6 m3_a q918 (by decide +kernel) rfl ?_
    refine g_if_ne E dX2_gate_9 (tgt := 18) (by decide) rfl (fun h9 => absurd h9 (by decide)) (fun _ => ?_)
    refine g_aload_n E dX2_gate_12 rfl rfl rfl ?_
    refine g_iconst E (v := 2) dX2_gate_13 (by decide) rfl ?_
    refine g_callV (k := 1002) (n9 := 1) (av := [.int 2]) (st := []) E (ct_X2_fail l 2 (⟨_, hT1_a, hT1_0, hT1_6⟩) (⟨_, hT1_b⟩)) gciX2 dX2_gate_14 hT1_a q716 q718 qs7 q121 q719 (by decide +kernel) rfl rfl ⟨by decide, by decide⟩ ⟨by decide, by decide⟩ (Nat.le_of_ble_eq_true rfl) rfl (gPr.k (fun g4 h4 => ?_))
    obtain ⟨⟨F4, h4, h4a, h4b⟩, f4⟩ := h4
    have x5 := (f4 (1002) (by omega)).trans (hT1_a)
    have x6 := (f4 (1004) (by omega)).trans (hT1_c)
    exact g_athrow E Rx dX2_gate_17 h4 (by decide) (by decide) (⟨(2, t.2.2.1), by unfold zKx zKs; rw [zBd_r he1]; rfl, ⟨⟨_, h4, h4a, h4b⟩, ⟨_, x5, hT1_0, hT1_1, hT1_2⟩, ⟨_, x6⟩, ⟨N, by omega, fun j9 a9 => (f4 j9 (by omega)).trans (hT1_z j9 (by omega))⟩, fun j9 h9 => (f4 j9 (by omega)).trans (f1 j9 (by omega))⟩⟩)
  · have hk1 : k1 < B 0 1 := hk1
    refine g_asr (b := bb + 20 + k1) rfl ?_
    have y7 := (hQ.fr hw (by omega) (fun j9 a9 b9 => f1 j9 (by omega)))
    have e8_h := pBr.people y7.1 k1 (by omega)
    obtain ⟨e8_F, e8_a, e8_1, e8_2, e8_3⟩ := e8_h
    refine g_astore_n E dX2_gate_4 rfl (by decide) rfl (lo1 := [some (.ref 1002), some (.ref (bb + 20 + k1))]) rfl rfl ?_
    refine g_aload_n E dX2_gate_5 rfl rfl rfl ?_
    refine g_instNo (n9 := 0) E gciX17 dX2_gate_6 e8_a q918 (by decide +kernel) rfl ?_
    refine g_if_ne E dX2_gate_9 (tgt := 18) (by decide) rfl (fun h9 => absurd h9 (by decide)) (fun _ => ?_)
    refine g_aload_n E dX2_gate_12 rfl rfl rfl ?_
    refine g_iconst E (v := 2) dX2_gate_13 (by decide) rfl ?_
    refine g_callV (k := 1002) (n9 := 1) (av := [.int 2]) (st := []) E (ct_X2_fail l 2 (⟨_, hT1_a, hT1_0, hT1_6⟩) (⟨_, hT1_b⟩)) gciX2 dX2_gate_14 hT1_a q716 q718 qs7 q121 q719 (by decide +kernel) rfl rfl ⟨by decide, by decide⟩ ⟨by decide, by decide⟩ (Nat.le_of_ble_eq_true rfl) rfl (gPr.k (fun g9 h9 => ?_))
    obtain ⟨⟨F9, h9, h9a, h9b⟩, f9⟩ := h9
    have x10 := (f9 (1002) (by omega)).trans (hT1_a)
    have x11 := (f9 (1004) (by omega)).trans (hT1_c)
    exact g_athrow E Rx dX2_gate_17 h9 (by decide) (by decide) (⟨(2, t.2.2.1), by unfold zKx zKs; rw [zBd_r he1]; rfl, ⟨⟨_, h9, h9a, h9b⟩, ⟨_, x10, hT1_0, hT1_1, hT1_2⟩, ⟨_, x11⟩, ⟨N, by omega, fun j9 a9 => (f9 j9 (by omega)).trans (hT1_z j9 (by omega))⟩, fun j9 h9 => (f9 j9 (by omega)).trans (f1 j9 (by omega))⟩⟩)
  · have hk1 : k1 < B 0 2 := hk1
    refine g_asr (b := bb + 30 + k1) rfl ?_
    have y12 := (hQ.fr hw (by omega) (fun j9 a9 b9 => f1 j9 (by omega)))
    have e13_h := pBr.gates y12.1 k1 (by omega)
    obtain ⟨e13_F, e13_a, e13_1, e13_2, e13_3, e13_4⟩ := e13_h
    refine g_astore_n E dX2_gate_4 rfl (by decide) rfl (lo1 := [some (.ref 1002), some (.ref (bb + 30 + k1))]) rfl rfl ?_
    refine g_aload_n E dX2_gate_5 rfl rfl rfl ?_
    refine g_instY (n9 := 0) E gciX18 dX2_gate_6 e13_a q918 (.inl rfl) rfl ?_
    refine g_if_ne E dX2_gate_9 (tgt := 18) (by decide) rfl (fun _ => ?_) (fun h9 => absurd h9 (by decide))
    refine g_aload_n E dX2_gate_18 rfl rfl rfl ?_
    refine g_callV (k := 1002) (n9 := 0) (av := []) (st := []) E (ct_X2_next l hT1.q (by omega) hok.1 (by omega) (by omega)) gciX2 dX2_gate_19 hT1_a q618 q620 qs4 q121 q621 (by decide +kernel) rfl rfl ⟨by decide, by decide⟩ ⟨by decide, by decide⟩ (Nat.le_of_ble_eq_true rfl) rfl (gPn.k (fun g14 h14 => ?_))
    obtain ⟨M14, N14, hM14, hN14, hT14, f14⟩ := h14
    have hT14_o := hT14
    obtain ⟨⟨hT14_F, hT14_a, hT14_0, hT14_1, hT14_2, hT14_3, hT14_4, hT14_5, hT14_6, hT14_7, hT14_8, hT14_9⟩, hT14_s, ⟨hT14_G, hT14_b⟩, ⟨hT14_l, hT14_c⟩, hT14_t, hT14_z⟩ := hT14_o
    have hT14_t_o := hT14_t
    obtain ⟨hT14_t_f, hT14_t_a, hT14_t_b⟩ := hT14_t_o
    have hok14 : zOk n (zTn T n t.1) := zTn_ok hok.1
    have hok14_o := hok14
    obtain ⟨hok14_1, hok14_2, hok14_3, hok14_4, hok14_5⟩ := hok14_o
    refine g_aload_n E dX2_gate_22 rfl rfl rfl ?_
    have x15 := (f14 (bb + 30 + k1) (by omega)).trans (e13_a)
    refine g_getf E gciX18 dX2_gate_23 x15 1 rfl (by decide) q867 (.inl rfl) (.int (nI (k1))) (e13_1) rfl ?_
    exact (gRx_leave Rx E).elim (fun z9 h9z => h9z.2.2 _ _ _ _ _ _ (g_iret h9z.2.1 h9z.1 dX2_gate_26 rfl (by decide) (by decide) (⟨(k1, zTn T n t.1), by unfold zKx zKs; rw [zBd_r he1]; rfl, rfl, M14, N14, by omega, by omega, hT14, fun j9 h9 => (f14 j9 (by omega)).trans (f1 j9 (by omega))⟩)))
  · have hk1 : k1 < B 0 3 := hk1
    refine g_asr (b := bb + 40 + k1) rfl ?_
    have y16 := (hQ.fr hw (by omega) (fun j9 a9 b9 => f1 j9 (by omega)))
    have u17 := pBr.good y16.1 hw (j := k1) (by omega)
    have u17_b := wfB.goods hw (j := k1) (by omega)
    have o18 := u17
    obtain ⟨⟨o18_F, o18_a, o18_0, o18_1, o18_2, o18_3, o18_4, o18_7⟩, o18_m, o18_k⟩ := o18
    refine g_astore_n E dX2_gate_4 rfl (by decide) rfl (lo1 := [some (.ref 1002), some (.ref (bb + 40 + k1))]) rfl rfl ?_
    refine g_aload_n E dX2_gate_5 rfl rfl rfl ?_
    refine g_instGN E dX2_gate_6 o18_a (o18_k) q918 (by decide +kernel) (by decide +kernel) (by decide +kernel) (by decide +kernel) (by decide +kernel) rfl ?_
    refine g_if_ne E dX2_gate_9 (tgt := 18) (by decide) rfl (fun h9 => absurd h9 (by decide)) (fun _ => ?_)
    refine g_aload_n E dX2_gate_12 rfl rfl rfl ?_
    refine g_iconst E (v := 2) dX2_gate_13 (by decide) rfl ?_
    refine g_callV (k := 1002) (n9 := 1) (av := [.int 2]) (st := []) E (ct_X2_fail l 2 (⟨_, hT1_a, hT1_0, hT1_6⟩) (⟨_, hT1_b⟩)) gciX2 dX2_gate_14 hT1_a q716 q718 qs7 q121 q719 (by decide +kernel) rfl rfl ⟨by decide, by decide⟩ ⟨by decide, by decide⟩ (Nat.le_of_ble_eq_true rfl) rfl (gPr.k (fun g19 h19 => ?_))
    obtain ⟨⟨F19, h19, h19a, h19b⟩, f19⟩ := h19
    have x20 := (f19 (1002) (by omega)).trans (hT1_a)
    have x21 := (f19 (1004) (by omega)).trans (hT1_c)
    exact g_athrow E Rx dX2_gate_17 h19 (by decide) (by decide) (⟨(2, t.2.2.1), by unfold zKx zKs; rw [zBd_r he1]; rfl, ⟨⟨_, h19, h19a, h19b⟩, ⟨_, x20, hT1_0, hT1_1, hT1_2⟩, ⟨_, x21⟩, ⟨N, by omega, fun j9 a9 => (f19 j9 (by omega)).trans (hT1_z j9 (by omega))⟩, fun j9 h9 => (f19 j9 (by omega)).trans (f1 j9 (by omega))⟩⟩)
set_option maxHeartbeats 1000000 in
theorem ct_X2_meansHere (l : Launch) {g : gWM} {n bb M N : Nat} {t : zTk} {T : Nat → Int32} {B : gBar} {Nm : zNm} (hT : pTk g n bb t M N T) (hn : n ≤ 1100) (hok : zOk n t) (hbb : 10000 ≤ bb) (hM : bb + 100 ≤ M) (hMN : M ≤ N) (hw : wfB B) (hQ : pBq g bb B Nm M) (hnl : ∀ s k, s < 4 → k < B 0 s → (Nm s k).length < 1000) : gXt l yX2_meansHere cX2_meansHere 2 (some (.object "SaltedGate$Means")) 6 0 0 133 [.ref 1002] g (gPe (zKs 0 B Nm t) (fun k => some (.ref (bb + 10 + k))) (fun _ g1 => pTk g1 n bb t M N T ∧ ∀ j, j < M → g1 j = g j)) (fun g1 => ∃ e, zKs 0 B Nm t = .inl e ∧ pXx g1 g bb e) := by
  refine gXt.of RX2 (by decide) rfl (lo := [some (.ref 1002), none]) 1 rfl (Nat.le_of_ble_eq_true rfl) (fun z E Rx => ?_)
  have hT_o := hT
  obtain ⟨⟨hT_F, hT_a, hT_0, hT_1, hT_2, hT_3, hT_4, hT_5, hT_6, hT_7, hT_8, hT_9⟩, hT_s, ⟨hT_G, hT_b⟩, ⟨hT_l, hT_c⟩, hT_t, hT_z⟩ := hT_o
  have hT_t_o := hT_t
  obtain ⟨hT_t_f, hT_t_a, hT_t_b⟩ := hT_t_o
  have hw_n := hw.1
  have hQ_r := hQ.1
  have hQ_n := hQ.2.2
  have hQ_r_o := hQ_r
  obtain ⟨⟨hQ_r_F, hQ_r_a, hQ_r_0, hQ_r_1, hQ_r_2, hQ_r_3, hQ_r_4, hQ_r_5, hQ_r_6, hQ_r_7, hQ_r_8, hQ_r_9, hQ_r_10, hQ_r_11, hQ_r_12, hQ_r_13, hQ_r_14, hQ_r_15⟩, ⟨hQ_r_f1, hQ_r_a1, hQ_r_b1⟩, ⟨hQ_r_f2, hQ_r_a2, hQ_r_b2⟩, ⟨hQ_r_f3, hQ_r_a3, hQ_r_b3⟩, ⟨hQ_r_f4, hQ_r_a4, hQ_r_b4⟩, ⟨hQ_r_f5, hQ_r_a5, hQ_r_b5⟩, ⟨hQ_r_f6, hQ_r_a6, hQ_r_b6⟩, ⟨hQ_r_f7, hQ_r_a7, hQ_r_b7⟩, hQ_r_c1, hQ_r_c2, hQ_r_c3, hQ_r_c4, hQ_r_c5⟩ := hQ_r_o
  obtain ⟨hQ_G, hQ_ga, hQ_gb⟩ := hQ.2.1
  obtain rfl := inj_obj hQ_r_a hQ_ga
  have hok_o := hok
  obtain ⟨hok_1, hok_2, hok_3, hok_4, hok_5⟩ := hok_o
  refine g_aload_n E dX2_meansHere_0 rfl rfl rfl ?_
  refine g_callVX (k := 1002) (n9 := 0) (av := []) (st := []) E Rx (ct_X2_named l hT (by omega) hok (by omega) (by omega) (by omega) hw hQ hnl) gciX2 dX2_meansHere_1 hT_a q997 q999 qs22 q121 q1000 (by decide +kernel) rfl rfl ⟨by decide, by decide⟩ ⟨by decide, by decide⟩ (Nat.le_of_ble_eq_true rfl) rfl (fun g9 ⟨e9, h9e, h9p⟩ => ⟨e9, by unfold zKs; rw [zBd_l h9e] <;> rfl, h9p.tr (fun j9 h9 => rfl)⟩) (gPe.kr (fun a1 g1 he1 h1 => ?_))
  obtain ⟨hT1, f1⟩ := h1
  have hT1_o := hT1
  obtain ⟨⟨hT1_F, hT1_a, hT1_0, hT1_1, hT1_2, hT1_3, hT1_4, hT1_5, hT1_6, hT1_7, hT1_8, hT1_9⟩, hT1_s, ⟨hT1_G, hT1_b⟩, ⟨hT1_l, hT1_c⟩, hT1_t, hT1_z⟩ := hT1_o
  have hT1_t_o := hT1_t
  obtain ⟨hT1_t_f, hT1_t_a, hT1_t_b⟩ := hT1_t_o
  have hlt1 := zKn_lt he1
  obtain ⟨s1, k1⟩ := a1
  obtain ⟨hs1, hk1⟩ := hlt1
  rcases (show s1 = 0 ∨ s1 = 1 ∨ s1 = 2 ∨ s1 = 3 by have : s1 < 4 := hs1; omega) with rfl | rfl | rfl | rfl
  · have hk1 : k1 < B 0 0 := hk1
    refine g_asr (b := bb + 10 + k1) rfl ?_
    have y2 := (hQ.fr hw (by omega) (fun j9 a9 b9 => f1 j9 (by omega)))
    obtain ⟨m3_F, m3_a, m3_1, m3_2, m3_3, m3_4, m3_5, m3_6, m3_7⟩ := pBr.means y2.1 k1 (by omega)
    refine g_astore_n E dX2_meansHere_4 rfl (by decide) rfl (lo1 := [some (.ref 1002), some (.ref (bb + 10 + k1))]) rfl rfl ?_
    refine g_aload_n E dX2_meansHere_5 rfl rfl rfl ?_
    refine g_instY (n9 := 0) E gciX16 dX2_meansHere_6 m3_a q824 (.inl rfl) rfl ?_
    refine g_if_ne E dX2_meansHere_9 (tgt := 18) (by decide) rfl (fun _ => ?_) (fun h9 => absurd h9 (by decide))
    refine g_aload_n E dX2_meansHere_18 rfl rfl rfl ?_
    refine g_cast1 (n9 := 0) E gciX16 dX2_meansHere_19 m3_a q824 (.inl rfl) rfl ?_
    exact (gRx_leave Rx E).elim (fun z9 h9z => h9z.2.2 _ _ _ _ _ _ (g_aret h9z.2.1 h9z.1 dX2_meansHere_22 rfl (Or.inl ⟨_, rfl⟩) (by decide) (by decide) (⟨k1, by unfold zKs; rw [zBd_r he1]; rfl, rfl, hT1, fun j9 h9 => f1 j9 (by omega)⟩)))
  · have hk1 : k1 < B 0 1 := hk1
    refine g_asr (b := bb + 20 + k1) rfl ?_
    have y4 := (hQ.fr hw (by omega) (fun j9 a9 b9 => f1 j9 (by omega)))
    have e5_h := pBr.people y4.1 k1 (by omega)
    obtain ⟨e5_F, e5_a, e5_1, e5_2, e5_3⟩ := e5_h
    refine g_astore_n E dX2_meansHere_4 rfl (by decide) rfl (lo1 := [some (.ref 1002), some (.ref (bb + 20 + k1))]) rfl rfl ?_
    refine g_aload_n E dX2_meansHere_5 rfl rfl rfl ?_
    refine g_instNo (n9 := 0) E gciX17 dX2_meansHere_6 e5_a q824 (by decide +kernel) rfl ?_
    refine g_if_ne E dX2_meansHere_9 (tgt := 18) (by decide) rfl (fun h9 => absurd h9 (by decide)) (fun _ => ?_)
    refine g_aload_n E dX2_meansHere_12 rfl rfl rfl ?_
    refine g_iconst E (v := 2) dX2_meansHere_13 (by decide) rfl ?_
    refine g_callV (k := 1002) (n9 := 1) (av := [.int 2]) (st := []) E (ct_X2_fail l 2 (⟨_, hT1_a, hT1_0, hT1_6⟩) (⟨_, hT1_b⟩)) gciX2 dX2_meansHere_14 hT1_a q716 q718 qs7 q121 q719 (by decide +kernel) rfl rfl ⟨by decide, by decide⟩ ⟨by decide, by decide⟩ (Nat.le_of_ble_eq_true rfl) rfl (gPr.k (fun g6 h6 => ?_))
    obtain ⟨⟨F6, h6, h6a, h6b⟩, f6⟩ := h6
    have x7 := (f6 (1002) (by omega)).trans (hT1_a)
    have x8 := (f6 (1004) (by omega)).trans (hT1_c)
    exact g_athrow E Rx dX2_meansHere_17 h6 (by decide) (by decide) (⟨(2, t.2.2.1), by unfold zKs; rw [zBd_r he1]; rfl, ⟨⟨_, h6, h6a, h6b⟩, ⟨_, x7, hT1_0, hT1_1, hT1_2⟩, ⟨_, x8⟩, ⟨N, by omega, fun j9 a9 => (f6 j9 (by omega)).trans (hT1_z j9 (by omega))⟩, fun j9 h9 => (f6 j9 (by omega)).trans (f1 j9 (by omega))⟩⟩)
  · have hk1 : k1 < B 0 2 := hk1
    refine g_asr (b := bb + 30 + k1) rfl ?_
    have y9 := (hQ.fr hw (by omega) (fun j9 a9 b9 => f1 j9 (by omega)))
    have e10_h := pBr.gates y9.1 k1 (by omega)
    obtain ⟨e10_F, e10_a, e10_1, e10_2, e10_3, e10_4⟩ := e10_h
    refine g_astore_n E dX2_meansHere_4 rfl (by decide) rfl (lo1 := [some (.ref 1002), some (.ref (bb + 30 + k1))]) rfl rfl ?_
    refine g_aload_n E dX2_meansHere_5 rfl rfl rfl ?_
    refine g_instNo (n9 := 0) E gciX18 dX2_meansHere_6 e10_a q824 (by decide +kernel) rfl ?_
    refine g_if_ne E dX2_meansHere_9 (tgt := 18) (by decide) rfl (fun h9 => absurd h9 (by decide)) (fun _ => ?_)
    refine g_aload_n E dX2_meansHere_12 rfl rfl rfl ?_
    refine g_iconst E (v := 2) dX2_meansHere_13 (by decide) rfl ?_
    refine g_callV (k := 1002) (n9 := 1) (av := [.int 2]) (st := []) E (ct_X2_fail l 2 (⟨_, hT1_a, hT1_0, hT1_6⟩) (⟨_, hT1_b⟩)) gciX2 dX2_meansHere_14 hT1_a q716 q718 qs7 q121 q719 (by decide +kernel) rfl rfl ⟨by decide, by decide⟩ ⟨by decide, by decide⟩ (Nat.le_of_ble_eq_true rfl) rfl (gPr.k (fun g11 h11 => ?_))
    obtain ⟨⟨F11, h11, h11a, h11b⟩, f11⟩ := h11
    have x12 := (f11 (1002) (by omega)).trans (hT1_a)
    have x13 := (f11 (1004) (by omega)).trans (hT1_c)
    exact g_athrow E Rx dX2_meansHere_17 h11 (by decide) (by decide) (⟨(2, t.2.2.1), by unfold zKs; rw [zBd_r he1]; rfl, ⟨⟨_, h11, h11a, h11b⟩, ⟨_, x12, hT1_0, hT1_1, hT1_2⟩, ⟨_, x13⟩, ⟨N, by omega, fun j9 a9 => (f11 j9 (by omega)).trans (hT1_z j9 (by omega))⟩, fun j9 h9 => (f11 j9 (by omega)).trans (f1 j9 (by omega))⟩⟩)
  · have hk1 : k1 < B 0 3 := hk1
    refine g_asr (b := bb + 40 + k1) rfl ?_
    have y14 := (hQ.fr hw (by omega) (fun j9 a9 b9 => f1 j9 (by omega)))
    have u15 := pBr.good y14.1 hw (j := k1) (by omega)
    have u15_b := wfB.goods hw (j := k1) (by omega)
    have o16 := u15
    obtain ⟨⟨o16_F, o16_a, o16_0, o16_1, o16_2, o16_3, o16_4, o16_7⟩, o16_m, o16_k⟩ := o16
    refine g_astore_n E dX2_meansHere_4 rfl (by decide) rfl (lo1 := [some (.ref 1002), some (.ref (bb + 40 + k1))]) rfl rfl ?_
    refine g_aload_n E dX2_meansHere_5 rfl rfl rfl ?_
    refine g_instGN E dX2_meansHere_6 o16_a (o16_k) q824 (by decide +kernel) (by decide +kernel) (by decide +kernel) (by decide +kernel) (by decide +kernel) rfl ?_
    refine g_if_ne E dX2_meansHere_9 (tgt := 18) (by decide) rfl (fun h9 => absurd h9 (by decide)) (fun _ => ?_)
    refine g_aload_n E dX2_meansHere_12 rfl rfl rfl ?_
    refine g_iconst E (v := 2) dX2_meansHere_13 (by decide) rfl ?_
    refine g_callV (k := 1002) (n9 := 1) (av := [.int 2]) (st := []) E (ct_X2_fail l 2 (⟨_, hT1_a, hT1_0, hT1_6⟩) (⟨_, hT1_b⟩)) gciX2 dX2_meansHere_14 hT1_a q716 q718 qs7 q121 q719 (by decide +kernel) rfl rfl ⟨by decide, by decide⟩ ⟨by decide, by decide⟩ (Nat.le_of_ble_eq_true rfl) rfl (gPr.k (fun g17 h17 => ?_))
    obtain ⟨⟨F17, h17, h17a, h17b⟩, f17⟩ := h17
    have x18 := (f17 (1002) (by omega)).trans (hT1_a)
    have x19 := (f17 (1004) (by omega)).trans (hT1_c)
    exact g_athrow E Rx dX2_meansHere_17 h17 (by decide) (by decide) (⟨(2, t.2.2.1), by unfold zKs; rw [zBd_r he1]; rfl, ⟨⟨_, h17, h17a, h17b⟩, ⟨_, x18, hT1_0, hT1_1, hT1_2⟩, ⟨_, x19⟩, ⟨N, by omega, fun j9 a9 => (f17 j9 (by omega)).trans (hT1_z j9 (by omega))⟩, fun j9 h9 => (f17 j9 (by omega)).trans (f1 j9 (by omega))⟩⟩)
set_option maxHeartbeats 400000 in
theorem ct_X2_means (l : Launch) {g : gWM} {n bb M N : Nat} {t : zTk} {T : Nat → Int32} {B : gBar} {Nm : zNm} (hT : pTk g n bb t M N T) (hn : n ≤ 1100) (hok : zOk n t) (hbb : 10000 ≤ bb) (hM : bb + 100 ≤ M) (hMN : M ≤ N) (hw : wfB B) (hQ : pBq g bb B Nm M) (hnl : ∀ s k, s < 4 → k < B 0 s → (Nm s k).length < 1000) : gXt l yX2_means cX2_means 2 (some (.object "SaltedGate$Means")) 7 2 13 154 [.ref 1002] g (gPe (zKx T n 0 B Nm t) (fun a => some (.ref (bb + 10 + a.1))) (fun a g1 => pSp g1 g n bb a.2 M N T)) (fun g1 => ∃ e, zKx T n 0 B Nm t = .inl e ∧ pXx g1 g bb e) := by
  refine gXt.of RX2 (by decide) rfl (lo := [some (.ref 1002), none]) 1 rfl (Nat.le_of_ble_eq_true rfl) (fun z E Rx => ?_)
  have hT_o := hT
  obtain ⟨⟨hT_F, hT_a, hT_0, hT_1, hT_2, hT_3, hT_4, hT_5, hT_6, hT_7, hT_8, hT_9⟩, hT_s, ⟨hT_G, hT_b⟩, ⟨hT_l, hT_c⟩, hT_t, hT_z⟩ := hT_o
  have hT_t_o := hT_t
  obtain ⟨hT_t_f, hT_t_a, hT_t_b⟩ := hT_t_o
  have hw_n := hw.1
  have hQ_r := hQ.1
  have hQ_n := hQ.2.2
  have hQ_r_o := hQ_r
  obtain ⟨⟨hQ_r_F, hQ_r_a, hQ_r_0, hQ_r_1, hQ_r_2, hQ_r_3, hQ_r_4, hQ_r_5, hQ_r_6, hQ_r_7, hQ_r_8, hQ_r_9, hQ_r_10, hQ_r_11, hQ_r_12, hQ_r_13, hQ_r_14, hQ_r_15⟩, ⟨hQ_r_f1, hQ_r_a1, hQ_r_b1⟩, ⟨hQ_r_f2, hQ_r_a2, hQ_r_b2⟩, ⟨hQ_r_f3, hQ_r_a3, hQ_r_b3⟩, ⟨hQ_r_f4, hQ_r_a4, hQ_r_b4⟩, ⟨hQ_r_f5, hQ_r_a5, hQ_r_b5⟩, ⟨hQ_r_f6, hQ_r_a6, hQ_r_b6⟩, ⟨hQ_r_f7, hQ_r_a7, hQ_r_b7⟩, hQ_r_c1, hQ_r_c2, hQ_r_c3, hQ_r_c4, hQ_r_c5⟩ := hQ_r_o
  obtain ⟨hQ_G, hQ_ga, hQ_gb⟩ := hQ.2.1
  obtain rfl := inj_obj hQ_r_a hQ_ga
  have hok_o := hok
  obtain ⟨hok_1, hok_2, hok_3, hok_4, hok_5⟩ := hok_o
  refine g_aload_n E dX2_means_0 rfl rfl rfl ?_
  refine g_callVX (k := 1002) (n9 := 0) (av := []) (st := []) E Rx (ct_X2_meansHere l hT (by omega) hok (by omega) (by omega) (by omega) hw hQ hnl) gciX2 dX2_means_1 hT_a q1078 q1080 qs25 q121 q1081 (by decide +kernel) rfl rfl ⟨by decide, by decide⟩ ⟨by decide, by decide⟩ (Nat.le_of_ble_eq_true rfl) rfl (fun g9 ⟨e9, h9e, h9p⟩ => ⟨e9, by unfold zKx; rw [zBd_l h9e] <;> rfl, h9p.tr (fun j9 h9 => rfl)⟩) (gPe.kr (fun a1 g1 he1 h1 => ?_))
  obtain ⟨hT1, f1⟩ := h1
  have hT1_o := hT1
  obtain ⟨⟨hT1_F, hT1_a, hT1_0, hT1_1, hT1_2, hT1_3, hT1_4, hT1_5, hT1_6, hT1_7, hT1_8, hT1_9⟩, hT1_s, ⟨hT1_G, hT1_b⟩, ⟨hT1_l, hT1_c⟩, hT1_t, hT1_z⟩ := hT1_o
  have hT1_t_o := hT1_t
  obtain ⟨hT1_t_f, hT1_t_a, hT1_t_b⟩ := hT1_t_o
  have hks1 := zKs_lt he1
  have y2 := (hQ.fr hw (by omega) (fun j9 a9 b9 => f1 j9 (by omega)))
  obtain ⟨m3_F, m3_a, m3_1, m3_2, m3_3, m3_4, m3_5, m3_6, m3_7⟩ := pBr.means y2.1 a1 (by omega)
  refine g_astore_n E dX2_means_4 rfl (by decide) rfl (lo1 := [some (.ref 1002), some (.ref (bb + 10 + a1))]) rfl rfl ?_
  refine g_aload_n E dX2_means_5 rfl rfl rfl ?_
  refine g_callV (k := 1002) (n9 := 0) (av := []) (st := []) E (ct_X2_next l hT1.q (by omega) hok.1 (by omega) (by omega)) gciX2 dX2_means_6 hT1_a q618 q620 qs4 q121 q621 (by decide +kernel) rfl rfl ⟨by decide, by decide⟩ ⟨by decide, by decide⟩ (Nat.le_of_ble_eq_true rfl) rfl (gPn.k (fun g4 h4 => ?_))
  obtain ⟨M4, N4, hM4, hN4, hT4, f4⟩ := h4
  have hT4_o := hT4
  obtain ⟨⟨hT4_F, hT4_a, hT4_0, hT4_1, hT4_2, hT4_3, hT4_4, hT4_5, hT4_6, hT4_7, hT4_8, hT4_9⟩, hT4_s, ⟨hT4_G, hT4_b⟩, ⟨hT4_l, hT4_c⟩, hT4_t, hT4_z⟩ := hT4_o
  have hT4_t_o := hT4_t
  obtain ⟨hT4_t_f, hT4_t_a, hT4_t_b⟩ := hT4_t_o
  have hok4 : zOk n (zTn T n t.1) := zTn_ok hok.1
  have hok4_o := hok4
  obtain ⟨hok4_1, hok4_2, hok4_3, hok4_4, hok4_5⟩ := hok4_o
  refine g_aload_n E dX2_means_9 rfl rfl rfl ?_
  exact (gRx_leave Rx E).elim (fun z9 h9z => h9z.2.2 _ _ _ _ _ _ (g_aret h9z.2.1 h9z.1 dX2_means_10 rfl (Or.inl ⟨_, rfl⟩) (by decide) (by decide) (⟨(a1, zTn T n t.1), by unfold zKx; rw [zBd_r he1], rfl, M4, N4, by omega, by omega, hT4, fun j9 h9 => (f4 j9 (by omega)).trans (f1 j9 (by omega))⟩)))
set_option maxHeartbeats 400000 in
theorem ct_X2_begins (l : Launch) {g : gWM} {n bb M N : Nat} {t : zTk} {T : Nat → Int32} {B : gBar} {Nm : zNm} (can : Bool) (hT : pTk g n bb t M N T) (hn : n ≤ 1100) (hok : zOk n t) (hbb : 10000 ≤ bb) (hM : bb + 100 ≤ M) (hMN : M ≤ N) (hw : wfB B) (hQ : pBq g bb B Nm M) (hnl : ∀ s k, s < 4 → k < B 0 s → (Nm s k).length < 1000) (hb91 : B 0 9 ≤ 1) : gXt l yX2_begins cX2_begins 2 none 5 2 13 121 [.ref 1002, .int (zb can)] g (gPe (zBg T n B can t) (fun _ => none) (fun a g1 => pSp g1 g n bb a M N T)) (fun g1 => ∃ e, zBg T n B can t = .inl e ∧ pXx g1 g bb e) := by
  refine gXt.of RX2 (by decide) rfl (lo := [some (.ref 1002), some (.int (zb can))]) 0 rfl (Nat.le_of_ble_eq_true rfl) (fun z E Rx => ?_)
  have hT_o := hT
  obtain ⟨⟨hT_F, hT_a, hT_0, hT_1, hT_2, hT_3, hT_4, hT_5, hT_6, hT_7, hT_8, hT_9⟩, hT_s, ⟨hT_G, hT_b⟩, ⟨hT_l, hT_c⟩, hT_t, hT_z⟩ := hT_o
  have hT_t_o := hT_t
  obtain ⟨hT_t_f, hT_t_a, hT_t_b⟩ := hT_t_o
  have hw_n := hw.1
  have hQ_r := hQ.1
  have hQ_n := hQ.2.2
  have hQ_r_o := hQ_r
  obtain ⟨⟨hQ_r_F, hQ_r_a, hQ_r_0, hQ_r_1, hQ_r_2, hQ_r_3, hQ_r_4, hQ_r_5, hQ_r_6, hQ_r_7, hQ_r_8, hQ_r_9, hQ_r_10, hQ_r_11, hQ_r_12, hQ_r_13, hQ_r_14, hQ_r_15⟩, ⟨hQ_r_f1, hQ_r_a1, hQ_r_b1⟩, ⟨hQ_r_f2, hQ_r_a2, hQ_r_b2⟩, ⟨hQ_r_f3, hQ_r_a3, hQ_r_b3⟩, ⟨hQ_r_f4, hQ_r_a4, hQ_r_b4⟩, ⟨hQ_r_f5, hQ_r_a5, hQ_r_b5⟩, ⟨hQ_r_f6, hQ_r_a6, hQ_r_b6⟩, ⟨hQ_r_f7, hQ_r_a7, hQ_r_b7⟩, hQ_r_c1, hQ_r_c2, hQ_r_c3, hQ_r_c4, hQ_r_c5⟩ := hQ_r_o
  obtain ⟨hQ_G, hQ_ga, hQ_gb⟩ := hQ.2.1
  obtain rfl := inj_obj hQ_r_a hQ_ga
  have hok_o := hok
  obtain ⟨hok_1, hok_2, hok_3, hok_4, hok_5⟩ := hok_o
  refine g_iload_n E dX2_begins_0 rfl rfl rfl ?_
  refine g_if_ne E dX2_begins_1 (tgt := 10) (by decide) rfl (fun c1 => ?_) (fun c1 => ?_)
  · have c1 := zb_n0.mp c1
    refine g_aload_n E dX2_begins_10 rfl rfl rfl ?_
    refine g_getf E gciX2 dX2_begins_11 hT_a 9 rfl (by decide) q255 (.inl rfl) (.ref bb) (hT_9) rfl ?_
    refine g_getf E gciX14 dX2_begins_14 hQ_r_a 16 rfl (by decide) q582 (.inl rfl) (.int (nI (B 0 9))) (hQ_gb) rfl ?_
    refine g_if_ne E dX2_begins_17 (tgt := 27) (by decide) rfl (fun c17 => ?_) (fun c17 => ?_)
    · have c17 := mt (nI_eq (a := B 0 9) (b := 0) (by omega) (by omega)).mpr c17
      have c17 : B 0 9 = 1 := by omega
      refine g_aload_n E dX2_begins_27 rfl rfl rfl ?_
      refine g_callV (k := 1002) (n9 := 0) (av := []) (st := []) E (ct_X2_next l hT.q (by omega) hok.1 (by omega) (by omega)) gciX2 dX2_begins_28 hT_a q618 q620 qs4 q121 q621 (by decide +kernel) rfl rfl ⟨by decide, by decide⟩ ⟨by decide, by decide⟩ (Nat.le_of_ble_eq_true rfl) rfl (gPn.k (fun g1 h1 => ?_))
      obtain ⟨M1, N1, hM1, hN1, hT1, f1⟩ := h1
      have hT1_o := hT1
      obtain ⟨⟨hT1_F, hT1_a, hT1_0, hT1_1, hT1_2, hT1_3, hT1_4, hT1_5, hT1_6, hT1_7, hT1_8, hT1_9⟩, hT1_s, ⟨hT1_G, hT1_b⟩, ⟨hT1_l, hT1_c⟩, hT1_t, hT1_z⟩ := hT1_o
      have hT1_t_o := hT1_t
      obtain ⟨hT1_t_f, hT1_t_a, hT1_t_b⟩ := hT1_t_o
      have hok1 : zOk n (zTn T n t.1) := zTn_ok hok.1
      have hok1_o := hok1
      obtain ⟨hok1_1, hok1_2, hok1_3, hok1_4, hok1_5⟩ := hok1_o
      exact (gRx_leave Rx E).elim (fun z9 h9z => h9z.2.2 _ _ _ _ _ _ (g_vret h9z.2.1 h9z.1 dX2_begins_31 rfl (by decide) (by decide) (⟨_, by unfold zBg; rw [if_pos c1, if_pos c17], rfl, M1, N1, by omega, by omega, hT1, fun j9 h9 => f1 j9 (by omega)⟩)))
    · have c17 := (nI_eq (a := B 0 9) (b := 0) (by omega) (by omega)).mp c17
      have c17 : ¬ B 0 9 = 1 := by omega
      refine g_aload_n E dX2_begins_20 rfl rfl rfl ?_
      refine g_bipush E (v := 6) dX2_begins_21 (by decide) rfl ?_
      refine g_callV (k := 1002) (n9 := 1) (av := [.int 6]) (st := []) E (ct_X2_fail l 6 (⟨_, hT_a, hT_0, hT_6⟩) (⟨_, hT_b⟩)) gciX2 dX2_begins_23 hT_a q716 q718 qs7 q121 q719 (by decide +kernel) rfl rfl ⟨by decide, by decide⟩ ⟨by decide, by decide⟩ (Nat.le_of_ble_eq_true rfl) rfl (gPr.k (fun g2 h2 => ?_))
      obtain ⟨⟨F2, h2, h2a, h2b⟩, f2⟩ := h2
      have x3 := (f2 (1002) (by omega)).trans (hT_a)
      have x4 := (f2 (1004) (by omega)).trans (hT_c)
      exact g_athrow E Rx dX2_begins_26 h2 (by decide) (by decide) (⟨(6, t.2.2.1), by unfold zBg; rw [if_pos c1, if_neg c17], ⟨⟨_, h2, h2a, h2b⟩, ⟨_, x3, hT_0, hT_1, hT_2⟩, ⟨_, x4⟩, ⟨N, by omega, fun j9 a9 => (f2 j9 (by omega)).trans (hT_z j9 (by omega))⟩, fun j9 h9 => f2 j9 (by omega)⟩⟩)
  · have c1 := zb_0.mp c1
    refine g_aload_n E dX2_begins_4 rfl rfl rfl ?_
    refine g_iconst E (v := 5) dX2_begins_5 (by decide) rfl ?_
    refine g_callV (k := 1002) (n9 := 1) (av := [.int 5]) (st := []) E (ct_X2_fail l 5 (⟨_, hT_a, hT_0, hT_6⟩) (⟨_, hT_b⟩)) gciX2 dX2_begins_6 hT_a q716 q718 qs7 q121 q719 (by decide +kernel) rfl rfl ⟨by decide, by decide⟩ ⟨by decide, by decide⟩ (Nat.le_of_ble_eq_true rfl) rfl (gPr.k (fun g5 h5 => ?_))
    obtain ⟨⟨F5, h5, h5a, h5b⟩, f5⟩ := h5
    have x6 := (f5 (1002) (by omega)).trans (hT_a)
    have x7 := (f5 (1004) (by omega)).trans (hT_c)
    exact g_athrow E Rx dX2_begins_9 h5 (by decide) (by decide) (⟨(5, t.2.2.1), by unfold zBg; rw [if_neg (by rw [c1]; exact Bool.false_ne_true)], ⟨⟨_, h5, h5a, h5b⟩, ⟨_, x6, hT_0, hT_1, hT_2⟩, ⟨_, x7⟩, ⟨N, by omega, fun j9 a9 => (f5 j9 (by omega)).trans (hT_z j9 (by omega))⟩, fun j9 h9 => f5 j9 (by omega)⟩⟩)
