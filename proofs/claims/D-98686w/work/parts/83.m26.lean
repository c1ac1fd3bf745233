/-! WALKS, twenty-sixth: what is taken, numbers, names -/
set_option maxRecDepth 100000
set_option maxHeartbeats 400000 in
theorem ct_X2_fail (l : Launch) {g : gWM} {at9 : Nat} (f9 : Int32) (hF : ∃ F, g 1002 = some (.inr (1, F)) ∧ F 0 = .ref 1003 ∧ F 6 = .int (nI at9)) (hR : ∃ F, g 1003 = some (.inr (2, F))) : gCt l yX2_fail cX2_fail 2 (some (.object "SaltedGate$Refused")) 1 0 0 22 [.ref 1002, .int f9] g (gPr 1003 (fun g1 => (∃ F, g1 1003 = some (.inr (2, F)) ∧ F 6 = .int f9 ∧ F 7 = .int (nI at9)) ∧ ∀ j, j ≠ 1003 → g1 j = g j)) := by
  refine gCt.of RX2 (by decide) rfl (lo := [some (.ref 1002), some (.int f9)]) 0 rfl (Nat.le_of_ble_eq_true rfl) (fun z E Rt => ?_)
  obtain ⟨hF_F, hF_a, hF_0, hF_6⟩ := hF
  have hR_o := hR
  obtain ⟨hR_F, hR_a⟩ := hR_o
  refine g_aload_n E dX2_fail_0 rfl rfl rfl ?_
  refine g_getf E gciX2 dX2_fail_1 hF_a 0 rfl (by decide) q246 (.inl rfl) (.ref 1003) (hF_0) rfl ?_
  refine g_iload_n E dX2_fail_4 rfl rfl rfl ?_
  refine g_aload_n E dX2_fail_5 rfl rfl rfl ?_
  refine g_getf E gciX2 dX2_fail_6 hF_a 6 rfl (by decide) q252 (.inl rfl) (.int (nI at9)) (hF_6) rfl ?_
  refine g_callV (k := 1003) (n9 := 2) (av := [.int f9, .int (nI at9)]) (st := []) E (ct_X3_at l f9 (nI at9) (⟨_, hR_a⟩)) gciX3 dX2_fail_9 hR_a q720 q721 q722 q125 q723 (by decide +kernel) rfl rfl ⟨by decide, by decide⟩ ⟨by decide, by decide⟩ (Nat.le_of_ble_eq_true rfl) rfl (gPr.k (fun g1 h1 => ?_))
  obtain ⟨⟨F1, h1, h1a, h1b⟩, f1⟩ := h1
  exact g_aret E Rt dX2_fail_12 rfl (Or.inl ⟨_, rfl⟩) (by decide) (by decide) (⟨rfl, ⟨_, h1, h1a, h1b⟩, fun j9 h9 => f1 j9 (by omega)⟩)
set_option maxHeartbeats 400000 in
theorem ct_X2_takes (l : Launch) {g : gWM} {n bb M N : Nat} {t : zTk} {T : Nat → Int32} {j : Nat} {q9 : String × Nat × String} (hT : pTk g n bb t M N T) (hn : n ≤ 1100) (hok : zOk n t) (hbb : 10000 ≤ bb) (hM : bb + 100 ≤ M) (hMN : M ≤ N) (hj : gSites[j]? = some q9) : gCt l yX2_takes cX2_takes 2 (some .boolean) 5 2 13 121 [.ref 1002, .ref (1 + 2 * j)] g (gTk (t.2.1 = 2 ∧ t.2.2.2.2 = gByt q9.2.2) (fun g1 => pSp g1 g n bb (zTn T n t.1) M N T) g) := by
  refine gCt.of RX2 (by decide) rfl (lo := [some (.ref 1002), some (.ref (1 + 2 * j))]) 0 rfl (Nat.le_of_ble_eq_true rfl) (fun z E Rt => ?_)
  have hT_o := hT
  obtain ⟨⟨hT_F, hT_a, hT_0, hT_1, hT_2, hT_3, hT_4, hT_5, hT_6, hT_7, hT_8, hT_9⟩, hT_s, ⟨hT_G, hT_b⟩, ⟨hT_l, hT_c⟩, hT_t, hT_z⟩ := hT_o
  have hT_t_o := hT_t
  obtain ⟨hT_t_f, hT_t_a, hT_t_b⟩ := hT_t_o
  have hj_l := gS_l hj
  have hok_o := hok
  obtain ⟨hok_1, hok_2, hok_3, hok_4, hok_5⟩ := hok_o
  refine g_aload_n E dX2_takes_0 rfl rfl rfl ?_
  refine g_getf E gciX2 dX2_takes_1 hT_a 5 rfl (by decide) q251 (.inl rfl) (.int (nI (t.2.1))) (hT_5) rfl ?_
  refine g_iconst E (v := 2) dX2_takes_4 (by decide) rfl ?_
  refine g_icmp_ne E dX2_takes_5 (tgt := 19) (by decide) rfl (fun c5 => ?_) (fun c5 => ?_)
  · have c5 := mt (nI_eq (a := t.2.1) (b := 2) (by omega) (by omega)).mpr c5
    refine g_iconst E (v := 0) dX2_takes_19 (by decide) rfl ?_
    exact g_zret E Rt dX2_takes_20 rfl (by decide) (by decide) (by decide) (.inr ⟨fun h9 => c5 h9.1, rfl, rfl⟩)
  · have c5 := (nI_eq (a := t.2.1) (b := 2) (by omega) (by omega)).mp c5
    have hW1 := hT_s c5
    have hW1_1 := hW1.1
    have hW1_2 := hW1.2
    have hW1_w := hok.2.2.2.1 c5
    have hW1_wl := hW1_w.2.1
    have hW1_1_o := hW1_1
    obtain ⟨hW1_1_F, hW1_1_h, hW1_1_iz, hW1_1_a, hW1_1_0, hW1_1_1, hW1_1_2, hW1_1_3, hW1_1_4, hW1_1_5, hW1_1_f, hW1_1_b, hW1_1_c⟩ := hW1_1_o
    refine g_aload_n E dX2_takes_8 rfl rfl rfl ?_
    refine g_getf E gciX2 dX2_takes_9 hT_a 8 rfl (by decide) q254 (.inl rfl) (.ref M) (hT_8 c5) rfl ?_
    refine g_aload_n E dX2_takes_12 rfl rfl rfl ?_
    refine g_callV (k := M) (n9 := 1) (av := [.ref (1 + 2 * j)]) (st := []) E (ct_J3_equals_L l hW1_1 (by omega) hj) gciJ3 dX2_takes_13 hW1_1_a q778 q779 q780 q137 q781 (by decide +kernel) rfl rfl ⟨by decide, by decide⟩ ⟨by decide, by decide⟩ (Nat.le_of_ble_eq_true rfl) rfl (gPu.k ?_)
    refine g_if_ne E dX2_takes_16 (tgt := 21) (by decide) rfl (fun c16 => ?_) (fun c16 => ?_)
    · have c16 := zb_n0.mp c16
      refine g_aload_n E dX2_takes_21 rfl rfl rfl ?_
      refine g_callV (k := 1002) (n9 := 0) (av := []) (st := []) E (ct_X2_next l hT.q (by omega) hok.1 (by omega) (by omega)) gciX2 dX2_takes_22 hT_a q618 q620 qs4 q121 q621 (by decide +kernel) rfl rfl ⟨by decide, by decide⟩ ⟨by decide, by decide⟩ (Nat.le_of_ble_eq_true rfl) rfl (gPn.k (fun g2 h2 => ?_))
      obtain ⟨M2, N2, hM2, hN2, hT2, f2⟩ := h2
      have hT2_o := hT2
      obtain ⟨⟨hT2_F, hT2_a, hT2_0, hT2_1, hT2_2, hT2_3, hT2_4, hT2_5, hT2_6, hT2_7, hT2_8, hT2_9⟩, hT2_s, ⟨hT2_G, hT2_b⟩, ⟨hT2_l, hT2_c⟩, hT2_t, hT2_z⟩ := hT2_o
      have hT2_t_o := hT2_t
      obtain ⟨hT2_t_f, hT2_t_a, hT2_t_b⟩ := hT2_t_o
      have hok2 : zOk n (zTn T n t.1) := zTn_ok hok.1
      have hok2_o := hok2
      obtain ⟨hok2_1, hok2_2, hok2_3, hok2_4, hok2_5⟩ := hok2_o
      refine g_iconst E (v := 1) dX2_takes_25 (by decide) rfl ?_
      exact g_zret E Rt dX2_takes_26 rfl (by decide) (by decide) (by decide) (.inl ⟨⟨c5, of_decide_eq_true c16⟩, rfl, M2, N2, by omega, by omega, hT2, fun j9 h9 => f2 j9 (by omega)⟩)
    · have c16 := zb_0.mp c16
      refine g_iconst E (v := 0) dX2_takes_19 (by decide) rfl ?_
      exact g_zret E Rt dX2_takes_20 rfl (by decide) (by decide) (by decide) (.inr ⟨fun h9 => of_decide_eq_false c16 h9.2, rfl, rfl⟩)
set_option maxHeartbeats 400000 in
theorem ct_X2_must (l : Launch) {g : gWM} {n bb M N : Nat} {t : zTk} {T : Nat → Int32} {j : Nat} {q9 : String × Nat × String} (hT : pTk g n bb t M N T) (hn : n ≤ 1100) (hok : zOk n t) (hbb : 10000 ≤ bb) (hM : bb + 100 ≤ M) (hMN : M ≤ N) (hj : gSites[j]? = some q9) : gXt l yX2_must cX2_must 2 none 6 2 13 142 [.ref 1002, .ref (1 + 2 * j)] g (gPe (zMu T n (gByt q9.2.2) t) (fun _ => none) (fun a g1 => pSp g1 g n bb a M N T)) (fun g1 => ∃ e, zMu T n (gByt q9.2.2) t = .inl e ∧ pXx g1 g bb e) := by
  refine gXt.of RX2 (by decide) rfl (lo := [some (.ref 1002), some (.ref (1 + 2 * j))]) 0 rfl (Nat.le_of_ble_eq_true rfl) (fun z E Rx => ?_)
  have hT_o := hT
  obtain ⟨⟨hT_F, hT_a, hT_0, hT_1, hT_2, hT_3, hT_4, hT_5, hT_6, hT_7, hT_8, hT_9⟩, hT_s, ⟨hT_G, hT_b⟩, ⟨hT_l, hT_c⟩, hT_t, hT_z⟩ := hT_o
  have hT_t_o := hT_t
  obtain ⟨hT_t_f, hT_t_a, hT_t_b⟩ := hT_t_o
  have hj_l := gS_l hj
  have hok_o := hok
  obtain ⟨hok_1, hok_2, hok_3, hok_4, hok_5⟩ := hok_o
  refine g_aload_n E dX2_must_0 rfl rfl rfl ?_
  refine g_aload_n E dX2_must_1 rfl rfl rfl ?_
  refine g_callV (k := 1002) (n9 := 1) (av := [.ref (1 + 2 * j)]) (st := []) E (ct_X2_takes l hT (by omega) hok (by omega) (by omega) (by omega) hj) gciX2 dX2_must_2 hT_a q807 q809 qs11 q121 q810 (by decide +kernel) rfl rfl ⟨by decide, by decide⟩ ⟨by decide, by decide⟩ (Nat.le_of_ble_eq_true rfl) rfl (gTk.k (fun g1 hc1 h1 => ?_) (fun hc1 => ?_))
  · obtain ⟨M1, N1, hM1, hN1, hT1, f1⟩ := h1
    have hT1_o := hT1
    obtain ⟨⟨hT1_F, hT1_a, hT1_0, hT1_1, hT1_2, hT1_3, hT1_4, hT1_5, hT1_6, hT1_7, hT1_8, hT1_9⟩, hT1_s, ⟨hT1_G, hT1_b⟩, ⟨hT1_l, hT1_c⟩, hT1_t, hT1_z⟩ := hT1_o
    have hT1_t_o := hT1_t
    obtain ⟨hT1_t_f, hT1_t_a, hT1_t_b⟩ := hT1_t_o
    have hok1 : zOk n (zTn T n t.1) := zTn_ok hok.1
    have hok1_o := hok1
    obtain ⟨hok1_1, hok1_2, hok1_3, hok1_4, hok1_5⟩ := hok1_o
    refine g_if_ne E dX2_must_5 (tgt := 14) (by decide) rfl (fun _ => ?_) (fun h9 => absurd h9 (by decide))
    exact (gRx_leave Rx E).elim (fun z9 h9z => h9z.2.2 _ _ _ _ _ _ (g_vret h9z.2.1 h9z.1 dX2_must_14 rfl (by decide) (by decide) (⟨_, if_pos hc1, rfl, M1, N1, by omega, by omega, hT1, fun j9 h9 => f1 j9 (by omega)⟩)))
  · refine g_if_ne E dX2_must_5 (tgt := 14) (by decide) rfl (fun h9 => absurd h9 (by decide)) (fun _ => ?_)
    refine g_aload_n E dX2_must_8 rfl rfl rfl ?_
    refine g_iconst E (v := 1) dX2_must_9 (by decide) rfl ?_
    refine g_callV (k := 1002) (n9 := 1) (av := [.int 1]) (st := []) E (ct_X2_fail l 1 (⟨_, hT_a, hT_0, hT_6⟩) (⟨_, hT_b⟩)) gciX2 dX2_must_10 hT_a q716 q718 qs7 q121 q719 (by decide +kernel) rfl rfl ⟨by decide, by decide⟩ ⟨by decide, by decide⟩ (Nat.le_of_ble_eq_true rfl) rfl (gPr.k (fun g2 h2 => ?_))
    obtain ⟨⟨F2, h2, h2a, h2b⟩, f2⟩ := h2
    have x3 := (f2 (1002) (by omega)).trans (hT_a)
    have x4 := (f2 (1004) (by omega)).trans (hT_c)
    exact g_athrow E Rx dX2_must_13 h2 (by decide) (by decide) (⟨(1, t.2.2.1), if_neg hc1, ⟨⟨_, h2, h2a, h2b⟩, ⟨_, x3, hT_0, hT_1, hT_2⟩, ⟨_, x4⟩, ⟨N, by omega, fun j9 a9 => (f2 j9 (by omega)).trans (hT_z j9 (by omega))⟩, fun j9 h9 => f2 j9 (by omega)⟩⟩)
set_option maxHeartbeats 400000 in
theorem ct_X2_number (l : Launch) {g : gWM} {n bb M N : Nat} {t : zTk} {T : Nat → Int32} (lo hi : Nat) (hT : pTk g n bb t M N T) (hn : n ≤ 1100) (hok : zOk n t) (hbb : 10000 ≤ bb) (hM : bb + 100 ≤ M) (hMN : M ≤ N) (hl9 : lo ≤ 400) (hh9 : hi ≤ 400) : gXt l yX2_number cX2_number 4 (some .int) 5 2 13 121 [.ref 1002, .int (nI lo), .int (nI hi)] g (gPe (zNu T n lo hi t) (fun a => some (.int (nI a.1))) (fun a g1 => pSp g1 g n bb a.2 M N T)) (fun g1 => ∃ e, zNu T n lo hi t = .inl e ∧ pXx g1 g bb e) := by
  refine gXt.of RX2 (by decide) rfl (lo := [some (.ref 1002), some (.int (nI lo)), some (.int (nI hi)), none]) 1 rfl (Nat.le_of_ble_eq_true rfl) (fun z E Rx => ?_)
  have hT_o := hT
  obtain ⟨⟨hT_F, hT_a, hT_0, hT_1, hT_2, hT_3, hT_4, hT_5, hT_6, hT_7, hT_8, hT_9⟩, hT_s, ⟨hT_G, hT_b⟩, ⟨hT_l, hT_c⟩, hT_t, hT_z⟩ := hT_o
  have hT_t_o := hT_t
  obtain ⟨hT_t_f, hT_t_a, hT_t_b⟩ := hT_t_o
  have hok_o := hok
  obtain ⟨hok_1, hok_2, hok_3, hok_4, hok_5⟩ := hok_o
  refine g_aload_n E dX2_number_0 rfl rfl rfl ?_
  refine g_getf E gciX2 dX2_number_1 hT_a 5 rfl (by decide) q251 (.inl rfl) (.int (nI (t.2.1))) (hT_5) rfl ?_
  refine g_iconst E (v := 3) dX2_number_4 (by decide) rfl ?_
  refine g_icmp_eq E dX2_number_5 (tgt := 14) (by decide) rfl (fun c5 => ?_) (fun c5 => ?_)
  · have c5 := (nI_eq (a := t.2.1) (b := 3) (by omega) (by omega)).mp c5
    have hwh := hok_5 c5
    refine g_aload_n E dX2_number_14 rfl rfl rfl ?_
    refine g_getf E gciX2 dX2_number_15 hT_a 7 rfl (by decide) q253 (.inl rfl) (.int (nI (t.2.2.2.1))) (hT_7 c5) rfl ?_
    refine g_iload_n E dX2_number_18 rfl rfl rfl ?_
    refine g_iload_n E dX2_number_19 rfl rfl rfl ?_
    refine g_callSN (n9 := 3) (av := [.int (nI (t.2.2.2.1)), .int (nI lo), .int (nI hi)]) (st := []) E (ct_X1_in l (nI (t.2.2.2.1)) (nI lo) (nI hi)) dX2_number_20 q629 q501 q120 q502 (by decide +kernel) rfl rfl ⟨by decide, by decide⟩ ⟨by decide, by decide⟩ (Nat.le_of_ble_eq_true rfl) rfl (gPu.k ?_)
    refine g_if_ne E dX2_number_23 (tgt := 32) (by decide) rfl (fun c23 => ?_) (fun c23 => ?_)
    · have c23 := zb_n0.mp c23
      obtain ⟨hlo, hhi⟩ := zIn_N (by omega) (by omega) (by omega) c23
      refine g_aload_n E dX2_number_32 rfl rfl rfl ?_
      refine g_getf E gciX2 dX2_number_33 hT_a 7 rfl (by decide) q253 (.inl rfl) (.int (nI (t.2.2.2.1))) (hT_7 c5) rfl ?_
      refine g_istore_n E dX2_number_36 rfl (by decide) rfl (lo1 := [some (.ref 1002), some (.int (nI lo)), some (.int (nI hi)), some (.int (nI (t.2.2.2.1)))]) rfl rfl ?_
      refine g_aload_n E dX2_number_37 rfl rfl rfl ?_
      refine g_callV (k := 1002) (n9 := 0) (av := []) (st := []) E (ct_X2_next l hT.q (by omega) hok.1 (by omega) (by omega)) gciX2 dX2_number_38 hT_a q618 q620 qs4 q121 q621 (by decide +kernel) rfl rfl ⟨by decide, by decide⟩ ⟨by decide, by decide⟩ (Nat.le_of_ble_eq_true rfl) rfl (gPn.k (fun g1 h1 => ?_))
      obtain ⟨M1, N1, hM1, hN1, hT1, f1⟩ := h1
      have hT1_o := hT1
      obtain ⟨⟨hT1_F, hT1_a, hT1_0, hT1_1, hT1_2, hT1_3, hT1_4, hT1_5, hT1_6, hT1_7, hT1_8, hT1_9⟩, hT1_s, ⟨hT1_G, hT1_b⟩, ⟨hT1_l, hT1_c⟩, hT1_t, hT1_z⟩ := hT1_o
      have hT1_t_o := hT1_t
      obtain ⟨hT1_t_f, hT1_t_a, hT1_t_b⟩ := hT1_t_o
      have hok1 : zOk n (zTn T n t.1) := zTn_ok hok.1
      have hok1_o := hok1
      obtain ⟨hok1_1, hok1_2, hok1_3, hok1_4, hok1_5⟩ := hok1_o
      refine g_iload_n E dX2_number_41 rfl rfl rfl ?_
      exact (gRx_leave Rx E).elim (fun z9 h9z => h9z.2.2 _ _ _ _ _ _ (g_iret h9z.2.1 h9z.1 dX2_number_42 rfl (by decide) (by decide) (⟨(t.2.2.2.1, zTn T n t.1), zNu_y c5 hlo hhi, rfl, M1, N1, by omega, by omega, hT1, fun j9 h9 => f1 j9 (by omega)⟩)))
    · have c23 := zb_0.mp c23
      have c23 := zIn_Nf (by omega) (by omega) (by omega) c23
      refine g_aload_n E dX2_number_26 rfl rfl rfl ?_
      refine g_iconst E (v := 4) dX2_number_27 (by decide) rfl ?_
      refine g_callV (k := 1002) (n9 := 1) (av := [.int 4]) (st := []) E (ct_X2_fail l 4 (⟨_, hT_a, hT_0, hT_6⟩) (⟨_, hT_b⟩)) gciX2 dX2_number_28 hT_a q716 q718 qs7 q121 q719 (by decide +kernel) rfl rfl ⟨by decide, by decide⟩ ⟨by decide, by decide⟩ (Nat.le_of_ble_eq_true rfl) rfl (gPr.k (fun g2 h2 => ?_))
      obtain ⟨⟨F2, h2, h2a, h2b⟩, f2⟩ := h2
      have x3 := (f2 (1002) (by omega)).trans (hT_a)
      have x4 := (f2 (1004) (by omega)).trans (hT_c)
      exact g_athrow E Rx dX2_number_31 h2 (by decide) (by decide) (⟨(4, t.2.2.1), zNu_b c5 c23, ⟨⟨_, h2, h2a, h2b⟩, ⟨_, x3, hT_0, hT_1, hT_2⟩, ⟨_, x4⟩, ⟨N, by omega, fun j9 a9 => (f2 j9 (by omega)).trans (hT_z j9 (by omega))⟩, fun j9 h9 => f2 j9 (by omega)⟩⟩)
  · have c5 := mt (nI_eq (a := t.2.1) (b := 3) (by omega) (by omega)).mpr c5
    refine g_aload_n E dX2_number_8 rfl rfl rfl ?_
    refine g_iconst E (v := 1) dX2_number_9 (by decide) rfl ?_
    refine g_callV (k := 1002) (n9 := 1) (av := [.int 1]) (st := []) E (ct_X2_fail l 1 (⟨_, hT_a, hT_0, hT_6⟩) (⟨_, hT_b⟩)) gciX2 dX2_number_10 hT_a q716 q718 qs7 q121 q719 (by decide +kernel) rfl rfl ⟨by decide, by decide⟩ ⟨by decide, by decide⟩ (Nat.le_of_ble_eq_true rfl) rfl (gPr.k (fun g5 h5 => ?_))
    obtain ⟨⟨F5, h5, h5a, h5b⟩, f5⟩ := h5
    have x6 := (f5 (1002) (by omega)).trans (hT_a)
    have x7 := (f5 (1004) (by omega)).trans (hT_c)
    exact g_athrow E Rx dX2_number_13 h5 (by decide) (by decide) (⟨(1, t.2.2.1), zNu_n c5, ⟨⟨_, h5, h5a, h5b⟩, ⟨_, x6, hT_0, hT_1, hT_2⟩, ⟨_, x7⟩, ⟨N, by omega, fun j9 a9 => (f5 j9 (by omega)).trans (hT_z j9 (by omega))⟩, fun j9 h9 => f5 j9 (by omega)⟩⟩)
set_option maxHeartbeats 400000 in
theorem ct_X2_after (l : Launch) {g : gWM} {n bb M N : Nat} {t : zTk} {T : Nat → Int32} {j : Nat} {q9 : String × Nat × String} (lo hi : Nat) (hT : pTk g n bb t M N T) (hn : n ≤ 1100) (hok : zOk n t) (hbb : 10000 ≤ bb) (hM : bb + 100 ≤ M) (hMN : M ≤ N) (hj : gSites[j]? = some q9) (hl9 : lo ≤ 400) (hh9 : hi ≤ 400) : gXt l yX2_after cX2_after 4 (some .int) 7 4 26 163 [.ref 1002, .ref (1 + 2 * j), .int (nI lo), .int (nI hi)] g (gPe (zAf T n (gByt q9.2.2) lo hi t) (fun a => some (.int (nI a.1))) (fun a g1 => pSp g1 g n bb a.2 M N T)) (fun g1 => ∃ e, zAf T n (gByt q9.2.2) lo hi t = .inl e ∧ pXx g1 g bb e) := by
  refine gXt.of RX2 (by decide) rfl (lo := [some (.ref 1002), some (.ref (1 + 2 * j)), some (.int (nI lo)), some (.int (nI hi))]) 0 rfl (Nat.le_of_ble_eq_true rfl) (fun z E Rx => ?_)
  have hT_o := hT
  obtain ⟨⟨hT_F, hT_a, hT_0, hT_1, hT_2, hT_3, hT_4, hT_5, hT_6, hT_7, hT_8, hT_9⟩, hT_s, ⟨hT_G, hT_b⟩, ⟨hT_l, hT_c⟩, hT_t, hT_z⟩ := hT_o
  have hT_t_o := hT_t
  obtain ⟨hT_t_f, hT_t_a, hT_t_b⟩ := hT_t_o
  have hj_l := gS_l hj
  have hok_o := hok
  obtain ⟨hok_1, hok_2, hok_3, hok_4, hok_5⟩ := hok_o
  refine g_aload_n E dX2_after_0 rfl rfl rfl ?_
  refine g_aload_n E dX2_after_1 rfl rfl rfl ?_
  refine g_callVX (k := 1002) (n9 := 1) (av := [.ref (1 + 2 * j)]) (st := []) E Rx (ct_X2_must l hT (by omega) hok (by omega) (by omega) (by omega) hj) gciX2 dX2_after_2 hT_a q803 q805 qs10 q121 q806 (by decide +kernel) rfl rfl ⟨by decide, by decide⟩ ⟨by decide, by decide⟩ (Nat.le_of_ble_eq_true rfl) rfl (fun g9 ⟨e9, h9e, h9p⟩ => ⟨e9, by unfold zAf; rw [zBd_l h9e] <;> rfl, h9p.tr (fun j9 h9 => rfl)⟩) (gPe.kn (fun a1 g1 he1 h1 => ?_))
  obtain ⟨M1, N1, hM1, hN1, hT1, f1⟩ := h1
  have hT1_o := hT1
  obtain ⟨⟨hT1_F, hT1_a, hT1_0, hT1_1, hT1_2, hT1_3, hT1_4, hT1_5, hT1_6, hT1_7, hT1_8, hT1_9⟩, hT1_s, ⟨hT1_G, hT1_b⟩, ⟨hT1_l, hT1_c⟩, hT1_t, hT1_z⟩ := hT1_o
  have hT1_t_o := hT1_t
  obtain ⟨hT1_t_f, hT1_t_a, hT1_t_b⟩ := hT1_t_o
  have hok1 : zOk n a1 := zMu_ok hok he1
  have hok1_o := hok1
  obtain ⟨hok1_1, hok1_2, hok1_3, hok1_4, hok1_5⟩ := hok1_o
  refine g_aload_n E dX2_after_5 rfl rfl rfl ?_
  refine g_iload_n E dX2_after_6 rfl rfl rfl ?_
  refine g_iload_n E dX2_after_7 rfl rfl rfl ?_
  refine g_callVX (k := 1002) (n9 := 2) (av := [.int (nI lo), .int (nI hi)]) (st := []) E Rx (ct_X2_number l lo hi hT1 (by omega) hok1 (by omega) (by omega) (by omega) (by omega) (by omega)) gciX2 dX2_after_8 hT1_a q811 q813 qs12 q121 q814 (by decide +kernel) rfl rfl ⟨by decide, by decide⟩ ⟨by decide, by decide⟩ (Nat.le_of_ble_eq_true rfl) rfl (fun g9 ⟨e9, h9e, h9p⟩ => ⟨e9, by unfold zAf; rw [zBd_r he1]; exact h9e, h9p.tr (fun j9 h9 => f1 j9 (by omega))⟩) (gPe.ki (fun a2 g2 he2 h2 => ?_))
  obtain ⟨M2, N2, hM2, hN2, hT2, f2⟩ := h2
  have hT2_o := hT2
  obtain ⟨⟨hT2_F, hT2_a, hT2_0, hT2_1, hT2_2, hT2_3, hT2_4, hT2_5, hT2_6, hT2_7, hT2_8, hT2_9⟩, hT2_s, ⟨hT2_G, hT2_b⟩, ⟨hT2_l, hT2_c⟩, hT2_t, hT2_z⟩ := hT2_o
  have hT2_t_o := hT2_t
  obtain ⟨hT2_t_f, hT2_t_a, hT2_t_b⟩ := hT2_t_o
  have hok2 : zOk n a2.2 := zNu_ok hok1 he2
  have hok2_o := hok2
  obtain ⟨hok2_1, hok2_2, hok2_3, hok2_4, hok2_5⟩ := hok2_o
  exact (gRx_leave Rx E).elim (fun z9 h9z => h9z.2.2 _ _ _ _ _ _ (g_iret h9z.2.1 h9z.1 dX2_after_11 rfl (by decide) (by decide) (⟨a2, by unfold zAf; rw [zBd_r he1]; exact he2, rfl, M2, N2, by omega, by omega, hT2, fun j9 h9 => (f2 j9 (by omega)).trans (f1 j9 (by omega))⟩)))
