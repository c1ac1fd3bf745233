/-! WALKS, twenty-eighth: lines -/
set_option maxRecDepth 100000
set_option maxHeartbeats 2000000 in
theorem ct_X2_barrierLine (l : Launch) {g : gWM} {n bb M N : Nat} {t : zTk} {T : Nat → Int32} {B : gBar} {Nm : zNm} (hT : pTk g n bb t M N T) (hn : n ≤ 1100) (hok : zOk n t) (hbb : 10000 ≤ bb) (hM : bb + 100 ≤ M) (hMN : M ≤ N) (hw : wfB B) (hQ : pBq g bb B Nm M) (hnl : ∀ s k, s < 4 → k < B 0 s → (Nm s k).length < 1000) (hx : zXs B) (hS9 : pSl g bb B) : gXt l yX2_barrierLine cX2_barrierLine 1 none 8 10 65 186 [.ref 1002] g (gPe (zLB T n (t, B, Nm)) (fun _ => none) (fun P g1 => pLl g1 g n bb P M T)) (fun g1 => ∃ e, zLB T n (t, B, Nm) = .inl e ∧ pXx g1 g bb e) := by
  refine gXt.of RX2 (by decide) rfl (lo := [some (.ref 1002)]) 0 rfl (Nat.le_of_ble_eq_true rfl) (fun z E Rx => ?_)
  have hT_o := hT
  obtain ⟨⟨hT_F, hT_a, hT_0, hT_1, hT_2, hT_3, hT_4, hT_5, hT_6, hT_7, hT_8, hT_9⟩, hT_s, ⟨hT_G, hT_b⟩, ⟨hT_l, hT_c⟩, hT_t, hT_z⟩ := hT_o
  have hT_t_o := hT_t
  obtain ⟨hT_t_f, hT_t_a, hT_t_b⟩ := hT_t_o
  have hw_n := hw.1
  have hQ_r := hQ.1
  have hQ_n := hQ.2.2
  have hQ_r_o := hQ_r
  obtain ⟨⟨hQ_r_F, hQ_r_a, hQ_r_0, hQ_r_1, hQ_r_2, hQ_r_3, hQ_r_4, hQ_r_5, hQ_r_6, hQ_r_7, hQ_r_8, hQ_r_9, hQ_r_10, hQ_r_11, hQ_r_12, hQ_r_13, hQ_r_14, hQ_r_15⟩, ⟨hQ_r_f1, hQ_r_a1, hQ_r_b1⟩, ⟨hQ_r_f2, hQ_r_a2, hQ_r_b2⟩, ⟨hQ_r_f3, hQ_r_a3, hQ_r_b3⟩, ⟨hQ_r_f4, hQ_r_a4, hQ_r_b4⟩, ⟨hQ_r_f5, hQ_r_a5, hQ_r_b5⟩, ⟨hQ_r_f6, hQ_r_a6, hQ_r_b6⟩, ⟨hQ_r_f7, hQ_r_a7, hQ_r_b7⟩, hQ_r_c1, hQ_r_c2, hQ_r_c3, hQ_r_c4, hQ_r_c5⟩ := hQ_r_o
  obtain ⟨hQ_G, hQ_ga, hQ_gb⟩ := hQ.2.1
  obtain rfl := inj_obj hQ_r_a hQ_ga
  have hok_o := hok
  obtain ⟨hok_1, hok_2, hok_3, hok_4, hok_5⟩ := hok_o
  have hx9 : B 0 9 ≤ 1 := hx.2.2
  refine g_aload_n E dX2_barrierLine_0 rfl rfl rfl ?_
  refine g_getf E gciX2 dX2_barrierLine_1 hT_a 9 rfl (by decide) q255 (.inl rfl) (.ref bb) (hT_9) rfl ?_
  refine g_getf E gciX14 dX2_barrierLine_4 hQ_r_a 16 rfl (by decide) q582 (.inl rfl) (.int (nI (B 0 9))) (hQ_gb) rfl ?_
  refine g_if_eq E dX2_barrierLine_7 (tgt := 16) (by decide) rfl (fun c7 => ?_) (fun c7 => ?_)
  · have c7 := (nI_eq (a := B 0 9) (b := 0) (by omega) (by omega)).mp c7
    have c7f : ¬ B 0 9 = 1 := by omega
    refine g_aload_n E dX2_barrierLine_16 rfl rfl rfl ?_
    refine g_callV (k := 1002) (n9 := 0) (av := []) (st := []) E (ct_X2_next l hT.q (by omega) hok.1 (by omega) (by omega)) gciX2 dX2_barrierLine_17 hT_a q618 q620 qs4 q121 q621 (by decide +kernel) rfl rfl ⟨by decide, by decide⟩ ⟨by decide, by decide⟩ (Nat.le_of_ble_eq_true rfl) rfl (gPn.k (fun g1 h1 => ?_))
    obtain ⟨M1, N1, hM1, hN1, hT1, f1⟩ := h1
    have hT1_o := hT1
    obtain ⟨⟨hT1_F, hT1_a, hT1_0, hT1_1, hT1_2, hT1_3, hT1_4, hT1_5, hT1_6, hT1_7, hT1_8, hT1_9⟩, hT1_s, ⟨hT1_G, hT1_b⟩, ⟨hT1_l, hT1_c⟩, hT1_t, hT1_z⟩ := hT1_o
    have hT1_t_o := hT1_t
    obtain ⟨hT1_t_f, hT1_t_a, hT1_t_b⟩ := hT1_t_o
    have hok1 : zOk n (zTn T n t.1) := zTn_ok hok.1
    have hok1_o := hok1
    obtain ⟨hok1_1, hok1_2, hok1_3, hok1_4, hok1_5⟩ := hok1_o
    refine g_aload_n E dX2_barrierLine_20 rfl rfl rfl ?_
    refine g_getf E gciX2 dX2_barrierLine_21 hT1_a 9 rfl (by decide) q255 (.inl rfl) (.ref bb) (hT1_9) rfl ?_
    refine g_aload_n E dX2_barrierLine_24 rfl rfl rfl ?_
    refine g_ldcS E (j := 10) (tx := "fee") rfl dX2_barrierLine_25 rfl ?_
    refine g_iconst E (v := 0) dX2_barrierLine_27 (by decide) rfl ?_
    refine g_bipush E (v := 9) dX2_barrierLine_28 (by decide) rfl ?_
    refine g_callVX (k := 1002) (n9 := 3) (av := [.ref (1 + 2 * 10), .int 0, .int 9]) (st := [.ref bb]) E Rx (ct_X2_after l 0 9 hT1 (by omega) hok1 (by omega) (by omega) (by omega) rfl (by omega) (by omega)) gciX2 dX2_barrierLine_30 hT1_a q799 q801 qs9 q121 q802 (by decide +kernel) rfl rfl ⟨by decide, by decide⟩ ⟨by decide, by decide⟩ (Nat.le_of_ble_eq_true rfl) rfl (fun g9 ⟨e9, h9e, h9p⟩ => ⟨e9, by unfold zLB; rw [if_neg (show ¬ B 0 9 = 1 from c7f), zBd_l h9e] <;> rfl, h9p.tr (fun j9 h9 => f1 j9 (by omega))⟩) (gPe.ki (fun a2 g2 he2 h2 => ?_))
    have hin2 := zAf_in he2
    obtain ⟨M2, N2, hM2, hN2, hT2, f2⟩ := h2
    have hT2_o := hT2
    obtain ⟨⟨hT2_F, hT2_a, hT2_0, hT2_1, hT2_2, hT2_3, hT2_4, hT2_5, hT2_6, hT2_7, hT2_8, hT2_9⟩, hT2_s, ⟨hT2_G, hT2_b⟩, ⟨hT2_l, hT2_c⟩, hT2_t, hT2_z⟩ := hT2_o
    have hT2_t_o := hT2_t
    obtain ⟨hT2_t_f, hT2_t_a, hT2_t_b⟩ := hT2_t_o
    have hok2 : zOk n a2.2 := zAf_ok hok1 he2
    have hok2_o := hok2
    obtain ⟨hok2_1, hok2_2, hok2_3, hok2_4, hok2_5⟩ := hok2_o
    have x3 := (f2 (bb) (by omega)).trans ((f1 (bb) (by omega)).trans (hQ_r_a))
    refine g_putf E gciX14 (v := .int (nI (a2.1))) dX2_barrierLine_33 x3 7 rfl (by decide) q553 (.inl rfl) rfl (fun _ => rfl) (fun _ => rfl) rfl (g_upk (fun g4 h4 f4 => ?_))
    refine g_aload_n E dX2_barrierLine_36 rfl rfl rfl ?_
    have x5 := (f4 (1002) (by omega)).trans (hT2_a)
    refine g_getf E gciX2 dX2_barrierLine_37 x5 9 rfl (by decide) q255 (.inl rfl) (.ref bb) (hT2_9) rfl ?_
    refine g_aload_n E dX2_barrierLine_40 rfl rfl rfl ?_
    refine g_ldcS E (j := 11) (tx := "interest") rfl dX2_barrierLine_41 rfl ?_
    refine g_iconst E (v := 0) dX2_barrierLine_43 (by decide) rfl ?_
    refine g_bipush E (v := 50) dX2_barrierLine_44 (by decide) rfl ?_
    have x7 := (f4 (1003) (by omega)).trans (hT2_b)
    have x8 := (f4 (1004) (by omega)).trans (hT2_c)
    have y9 := (hT2_t.fr  (fun j9 a9 b9 => f4 j9 (by omega)))
    have hT6 : pTk g4 n bb a2.2 M2 N2 T := ⟨⟨_, x5, hT2_0, hT2_1, hT2_2, hT2_3, hT2_4, hT2_5, hT2_6, hT2_7, hT2_8, hT2_9⟩, (fun h8 => ⟨(hT2_s h8).1.fr (fun j9 a9 b9 => f4 j9 (by omega)), (hT2_s h8).2⟩), ⟨_, x7⟩, ⟨_, x8⟩, y9, fun j9 a9 => (f4 j9 (by omega)).trans (hT2_z j9 (by omega))⟩
    refine g_callVX (k := 1002) (n9 := 3) (av := [.ref (1 + 2 * 11), .int 0, .int 50]) (st := [.ref bb]) E Rx (ct_X2_after l 0 50 hT6 (by omega) hok2 (by omega) (by omega) (by omega) rfl (by omega) (by omega)) gciX2 dX2_barrierLine_46 x5 q799 q801 qs9 q121 q802 (by decide +kernel) rfl rfl ⟨by decide, by decide⟩ ⟨by decide, by decide⟩ (Nat.le_of_ble_eq_true rfl) rfl (fun g9 ⟨e9, h9e, h9p⟩ => ⟨e9, by unfold zLB; rw [if_neg (show ¬ B 0 9 = 1 from c7f), zBd_r he2, zBd_l h9e] <;> rfl, h9p.tr (fun j9 h9 => ((f4 j9 (by omega)).trans (f2 j9 (by omega))).trans (f1 j9 (by omega)))⟩) (gPe.ki (fun a10 g10 he10 h10 => ?_))
    have hin10 := zAf_in he10
    obtain ⟨M10, N10, hM10, hN10, hT10, f10⟩ := h10
    have hT10_o := hT10
    obtain ⟨⟨hT10_F, hT10_a, hT10_0, hT10_1, hT10_2, hT10_3, hT10_4, hT10_5, hT10_6, hT10_7, hT10_8, hT10_9⟩, hT10_s, ⟨hT10_G, hT10_b⟩, ⟨hT10_l, hT10_c⟩, hT10_t, hT10_z⟩ := hT10_o
    have hT10_t_o := hT10_t
    obtain ⟨hT10_t_f, hT10_t_a, hT10_t_b⟩ := hT10_t_o
    have hok10 : zOk n a10.2 := zAf_ok hok2 he10
    have hok10_o := hok10
    obtain ⟨hok10_1, hok10_2, hok10_3, hok10_4, hok10_5⟩ := hok10_o
    have x11 := (f10 (bb) (by omega)).trans (h4)
    refine g_putf E gciX14 (v := .int (nI (a10.1))) dX2_barrierLine_49 x11 8 rfl (by decide) q555 (.inl rfl) rfl (fun _ => rfl) (fun _ => rfl) rfl (g_upk (fun g12 h12 f12 => ?_))
    refine g_aload_n E dX2_barrierLine_52 rfl rfl rfl ?_
    have x13 := (f12 (1002) (by omega)).trans (hT10_a)
    refine g_getf E gciX2 dX2_barrierLine_53 x13 9 rfl (by decide) q255 (.inl rfl) (.ref bb) (hT10_9) rfl ?_
    refine g_iconst E (v := 1) dX2_barrierLine_56 (by decide) rfl ?_
    refine g_putf E gciX14 (v := .int 1) dX2_barrierLine_57 h12 16 rfl (by decide) q582 (.inl rfl) rfl (fun _ => show narrow .boolean (.int 1) = .int 1 by decide) (fun _ => show fits .boolean (.int 1) = true by decide) rfl (g_upk (fun g14 h14 f14 => ?_))
    have x15 := (f14 (1002) (by omega)).trans (x13)
    have x17 := (f14 (1003) (by omega)).trans ((f12 (1003) (by omega)).trans (hT10_b))
    have x18 := (f14 (1004) (by omega)).trans ((f12 (1004) (by omega)).trans (hT10_c))
    have y19 := ((hT10_t.fr  (fun j9 a9 b9 => f12 j9 (by omega))).fr  (fun j9 a9 b9 => f14 j9 (by omega)))
    have hT16 : pTk g14 n bb a10.2 M10 N10 T := ⟨⟨_, x15, hT10_0, hT10_1, hT10_2, hT10_3, hT10_4, hT10_5, hT10_6, hT10_7, hT10_8, hT10_9⟩, (fun h8 => ⟨(hT10_s h8).1.fr (fun j9 a9 b9 => (f14 j9 (by omega)).trans (f12 j9 (by omega))), (hT10_s h8).2⟩), ⟨_, x17⟩, ⟨_, x18⟩, y19, fun j9 a9 => (f14 j9 (by omega)).trans ((f12 j9 (by omega)).trans (hT10_z j9 (by omega)))⟩
    exact (gRx_leave Rx E).elim (fun z9 h9z => h9z.2.2 _ _ _ _ _ _ (g_vret h9z.2.1 h9z.1 dX2_barrierLine_60 rfl (by decide) (by decide) (⟨(a10.2, bs (bs (bs B 0 7 a2.1) 0 8 a10.1) 0 9 1, Nm), by unfold zLB; rw [if_neg (show ¬ B 0 9 = 1 from c7f), zBd_r he2, zBd_r he10] <;> rfl, rfl, M10, N10, by omega, by omega, hT16, pBq_B hw hx hQ hM (by omega) hin2.2 hin10.2 (⟨_, h14, hQ_r_0, hQ_r_1, hQ_r_2, hQ_r_3, hQ_r_4, hQ_r_5, hQ_r_6, rfl, rfl, hQ_r_9, hQ_r_10, hQ_r_11, hQ_r_12, hQ_r_13, hQ_r_14, hQ_r_15, rfl⟩) (fun j9 a9 b9 c0_ => (((((f14 j9 (by omega)).trans (f12 j9 (by omega))).trans (f10 j9 (by omega))).trans (f4 j9 (by omega))).trans (f2 j9 (by omega))).trans (f1 j9 (by omega))), pSl_B hw hS9 hin2.2 hin10.2 (fun j9 a9 b9 c0_ => (((((f14 j9 (by omega)).trans (f12 j9 (by omega))).trans (f10 j9 (by omega))).trans (f4 j9 (by omega))).trans (f2 j9 (by omega))).trans (f1 j9 (by omega))), fun j9 h9 => (((((f14 j9 (by omega)).trans (f12 j9 (by omega))).trans (f10 j9 (by omega))).trans (f4 j9 (by omega))).trans (f2 j9 (by omega))).trans (f1 j9 (by omega))⟩)))
  · have c7 := mt (nI_eq (a := B 0 9) (b := 0) (by omega) (by omega)).mpr c7
    have c7 : B 0 9 = 1 := by have := hx.2.2; omega
    refine g_aload_n E dX2_barrierLine_10 rfl rfl rfl ?_
    refine g_iconst E (v := 3) dX2_barrierLine_11 (by decide) rfl ?_
    refine g_callV (k := 1002) (n9 := 1) (av := [.int 3]) (st := []) E (ct_X2_fail l 3 (⟨_, hT_a, hT_0, hT_6⟩) (⟨_, hT_b⟩)) gciX2 dX2_barrierLine_12 hT_a q716 q718 qs7 q121 q719 (by decide +kernel) rfl rfl ⟨by decide, by decide⟩ ⟨by decide, by decide⟩ (Nat.le_of_ble_eq_true rfl) rfl (gPr.k (fun g20 h20 => ?_))
    obtain ⟨⟨F20, h20, h20a, h20b⟩, f20⟩ := h20
    have x21 := (f20 (1002) (by omega)).trans (hT_a)
    have x22 := (f20 (1004) (by omega)).trans (hT_c)
    exact g_athrow E Rx dX2_barrierLine_15 h20 (by decide) (by decide) (⟨(3, t.2.2.1), by unfold zLB; exact if_pos c7, ⟨⟨_, h20, h20a, h20b⟩, ⟨_, x21, hT_0, hT_1, hT_2⟩, ⟨_, x22⟩, ⟨N, by omega, fun j9 a9 => (f20 j9 (by omega)).trans (hT_z j9 (by omega))⟩, fun j9 h9 => f20 j9 (by omega)⟩⟩)
set_option maxHeartbeats 2000000 in
theorem ct_X2_meansLine (l : Launch) {g : gWM} {n bb M N : Nat} {t : zTk} {T : Nat → Int32} {B : gBar} {Nm : zNm} (hT : pTk g n bb t M N T) (hn : n ≤ 1100) (hok : zOk n t) (hbb : 10000 ≤ bb) (hM : bb + 100 ≤ M) (hMN : M ≤ N) (hw : wfB B) (hQ : pBq g bb B Nm M) (hnl : ∀ s k, s < 4 → k < B 0 s → (Nm s k).length < 1000) (hx : zXs B) (hS9 : pSl g bb B) : gXt l yX2_meansLine cX2_meansLine 2 none 8 17 112 186 [.ref 1002] g (gPe (zLM T n (t, B, Nm)) (fun _ => none) (fun P g1 => pLl g1 g n bb P M T)) (fun g1 => ∃ e, zLM T n (t, B, Nm) = .inl e ∧ pXx g1 g bb e) := by
  refine gXt.of RX2 (by decide) rfl (lo := [some (.ref 1002), none]) 1 rfl (Nat.le_of_ble_eq_true rfl) (fun z E Rx => ?_)
  have hT_o := hT
  obtain ⟨⟨hT_F, hT_a, hT_0, hT_1, hT_2, hT_3, hT_4, hT_5, hT_6, hT_7, hT_8, hT_9⟩, hT_s, ⟨hT_G, hT_b⟩, ⟨hT_l, hT_c⟩, hT_t, hT_z⟩ := hT_o
  have hT_t_o := hT_t
  obtain ⟨hT_t_f, hT_t_a, hT_t_b⟩ := hT_t_o
  have hw_n := hw.1
  have hQ_r := hQ.1
  have hQ_n := hQ.2.2
  have hQ_r_o := hQ_r
  obtain ⟨⟨hQ_r_F, hQ_r_a, hQ_r_0, hQ_r_1, hQ_r_2, hQ_r_3, hQ_r_4, hQ_r_5, hQ_r_6, hQ_r_7, hQ_r_8, hQ_r_9, hQ_r_10, hQ_r_11, hQ_r_12, hQ_r_13, hQ_r_14, hQ_r_15⟩, ⟨hQ_r_f1, hQ_r_a1, hQ_r_b1⟩, ⟨hQ_r_f2, hQ_r_a2, hQ_r_b2⟩, ⟨hQ_r_f3, hQ_r_a3, hQ_r_b3⟩, ⟨hQ_r_f4, hQ_r_a4, hQ_r_b4⟩, ⟨hQ_r_f5, hQ_r_a5, hQ_r_b5⟩, ⟨hQ_r_f6, hQ_r_a6, hQ_r_b6⟩, ⟨hQ_r_f7, hQ_r_a7, hQ_r_b7⟩, hQ_r_c1, hQ_r_c2, hQ_r_c3, hQ_r_c4, hQ_r_c5⟩ := hQ_r_o
  obtain ⟨hQ_G, hQ_ga, hQ_gb⟩ := hQ.2.1
  obtain rfl := inj_obj hQ_r_a hQ_ga
  have hok_o := hok
  obtain ⟨hok_1, hok_2, hok_3, hok_4, hok_5⟩ := hok_o
  have hx9 : B 0 9 ≤ 1 := hx.2.2
  refine g_aload_n E dX2_meansLine_0 rfl rfl rfl ?_
  refine g_aload_n E dX2_meansLine_1 rfl rfl rfl ?_
  refine g_getf E gciX2 dX2_meansLine_2 hT_a 9 rfl (by decide) q255 (.inl rfl) (.ref bb) (hT_9) rfl ?_
  refine g_getf E gciX14 dX2_meansLine_5 hQ_r_a 9 rfl (by decide) q558 (.inl rfl) (.int (nI (B 0 0))) (hQ_r_9) rfl ?_
  refine g_iconst E (v := 4) dX2_meansLine_8 (by decide) rfl ?_
  refine g_icmp_ge E dX2_meansLine_9 (tgt := 16) (by decide) rfl (fun c9 => ?_) (fun c9 => ?_)
  · have c9 := (nI_leI (a := 4) (b := B 0 0) (by omega) (by omega)).mp c9
    refine g_iconst E (v := 0) dX2_meansLine_16 (by decide) rfl ?_
    have hcan : decide (B 0 0 < 4) = false := decide_eq_false (by omega)
    refine g_callVX (k := 1002) (n9 := 1) (av := [.int 0]) (st := []) E Rx (ct_X2_begins l false hT (by omega) hok (by omega) (by omega) (by omega) hw (pBq.mono hQ (by omega)) hnl hx.2.2) gciX2 dX2_meansLine_17 hT_a q820 q822 qs14 q121 q823 (by decide +kernel) rfl rfl ⟨by decide, by decide⟩ ⟨by decide, by decide⟩ (Nat.le_of_ble_eq_true rfl) rfl (fun g9 ⟨e9, h9e, h9p⟩ => ⟨e9, by unfold zLM; rw [show decide (B 0 0 < 4) = false from hcan, zBd_l h9e] <;> rfl, h9p.tr (fun j9 h9 => rfl)⟩) (gPe.kn (fun a1 g1 he1 h1 => ?_))
    exact absurd (zBg_ok hok he1).2.1 Bool.false_ne_true
  · have c9 := mt (nI_leI (a := 4) (b := B 0 0) (by omega) (by omega)).mpr c9
    refine g_iconst E (v := 1) dX2_meansLine_12 (by decide) rfl ?_
    refine g_goto E dX2_meansLine_13 (tgt := 17) (by decide) ?_
    have hcan : decide (B 0 0 < 4) = true := decide_eq_true (by omega)
    have hc4 : B 0 0 < 4 := by omega
    refine g_callVX (k := 1002) (n9 := 1) (av := [.int 1]) (st := []) E Rx (ct_X2_begins l true hT (by omega) hok (by omega) (by omega) (by omega) hw (pBq.mono hQ (by omega)) hnl hx.2.2) gciX2 dX2_meansLine_17 hT_a q820 q822 qs14 q121 q823 (by decide +kernel) rfl rfl ⟨by decide, by decide⟩ ⟨by decide, by decide⟩ (Nat.le_of_ble_eq_true rfl) rfl (fun g9 ⟨e9, h9e, h9p⟩ => ⟨e9, by unfold zLM; rw [show decide (B 0 0 < 4) = true from hcan, zBd_l h9e] <;> rfl, h9p.tr (fun j9 h9 => rfl)⟩) (gPe.kn (fun a2 g2 he2 h2 => ?_))
    obtain ⟨M2, N2, hM2, hN2, hT2, f2⟩ := h2
    have hT2_o := hT2
    obtain ⟨⟨hT2_F, hT2_a, hT2_0, hT2_1, hT2_2, hT2_3, hT2_4, hT2_5, hT2_6, hT2_7, hT2_8, hT2_9⟩, hT2_s, ⟨hT2_G, hT2_b⟩, ⟨hT2_l, hT2_c⟩, hT2_t, hT2_z⟩ := hT2_o
    have hT2_t_o := hT2_t
    obtain ⟨hT2_t_f, hT2_t_a, hT2_t_b⟩ := hT2_t_o
    have hok2 : zOk n a2 := (zBg_ok hok he2).1
    have hok2_o := hok2
    obtain ⟨hok2_1, hok2_2, hok2_3, hok2_4, hok2_5⟩ := hok2_o
    have y3 := (hQ.fr hw (by omega) (fun j9 a9 b9 => f2 j9 (by omega)))
    have hnn := (f2 (bb + 10 + B 0 0) (by omega)).trans ((hS9 (B 0 0) (by omega)).1 (Nat.le_refl _))
    refine g_new E gciX16 dX2_meansLine_20 q824 q825 q143 (bb + 10 + B 0 0) ((f2 (bb + 10 + B 0 0) (by omega)).trans ((hS9 (B 0 0) (by omega)).1 (Nat.le_refl _))) (by omega) (by decide) (by decide) rfl (g_upk (fun g4 h4 f4 => ?_))
    refine g_dup E dX2_meansLine_23 rfl rfl ?_
    refine g_aload_n E dX2_meansLine_24 rfl rfl rfl ?_
    have x5 := (f4 (1002) (by omega)).trans (hT2_a)
    have x7 := (f4 (1003) (by omega)).trans (hT2_b)
    have x8 := (f4 (1004) (by omega)).trans (hT2_c)
    have y9 := (hT2_t.fr  (fun j9 a9 b9 => f4 j9 (by omega)))
    have hT6 : pTk g4 n bb a2 M2 N2 T := ⟨⟨_, x5, hT2_0, hT2_1, hT2_2, hT2_3, hT2_4, hT2_5, hT2_6, hT2_7, hT2_8, hT2_9⟩, (fun h8 => ⟨(hT2_s h8).1.fr (fun j9 a9 b9 => f4 j9 (by omega)), (hT2_s h8).2⟩), ⟨_, x7⟩, ⟨_, x8⟩, y9, fun j9 a9 => (f4 j9 (by omega)).trans (hT2_z j9 (by omega))⟩
    have y10 : pBq g4 bb B Nm M := pBq.frn hw hM y3 hnn (by omega) (fun j9 a9 b9 c9 => f4 j9 (by omega))
    refine g_callVX (k := 1002) (n9 := 0) (av := []) (st := [.ref (bb + 10 + B 0 0), .ref (bb + 10 + B 0 0)]) E Rx (ct_X2_newName l hT6 (by omega) hok2 (by omega) (by omega) (by omega) hw (pBq.mono y10 (by omega)) hnl) gciX2 dX2_meansLine_25 x5 q826 q828 qs15 q121 q829 (by decide +kernel) rfl rfl ⟨by decide, by decide⟩ ⟨by decide, by decide⟩ (Nat.le_of_ble_eq_true rfl) rfl (fun g9 ⟨e9, h9e, h9p⟩ => ⟨e9, by unfold zLM; rw [show decide (B 0 0 < 4) = true from hcan, zBd_r he2, zBd_l h9e] <;> rfl, h9p.tr (fun j9 h9 => (f4 j9 (by omega)).trans (f2 j9 (by omega)))⟩) (gPe.kr (fun a11 g11 he11 h11 => ?_))
    obtain ⟨hs11, hl11, M11, N11, hM11, hN11, hT11, f11⟩ := h11
    have hT11_o := hT11
    obtain ⟨⟨hT11_F, hT11_a, hT11_0, hT11_1, hT11_2, hT11_3, hT11_4, hT11_5, hT11_6, hT11_7, hT11_8, hT11_9⟩, hT11_s, ⟨hT11_G, hT11_b⟩, ⟨hT11_l, hT11_c⟩, hT11_t, hT11_z⟩ := hT11_o
    have hT11_t_o := hT11_t
    obtain ⟨hT11_t_f, hT11_t_a, hT11_t_b⟩ := hT11_t_o
    have hok11 : zOk n a11.2 := (zNw_ok hok2 he11).1
    have hok11_o := hok11
    obtain ⟨hok11_1, hok11_2, hok11_3, hok11_4, hok11_5⟩ := hok11_o
    have hz11 : True := trivial
    refine g_aload_n E dX2_meansLine_28 rfl rfl rfl ?_
    refine g_getf E gciX2 dX2_meansLine_29 hT11_a 9 rfl (by decide) q255 (.inl rfl) (.ref bb) (hT11_9) rfl ?_
    have x12 := (f11 (bb) (by omega)).trans ((f4 (bb) (by omega)).trans ((f2 (bb) (by omega)).trans (hQ_r_a)))
    refine g_getf E gciX14 dX2_meansLine_32 x12 9 rfl (by decide) q558 (.inl rfl) (.int (nI (B 0 0))) (hQ_r_9) rfl ?_
    have x13 := (f11 (bb + 10 + B 0 0) (by omega)).trans (h4)
    refine g_callI (k := bb + 10 + B 0 0) (n9 := 2) (av := [.ref M2, .int (nI (B 0 0))]) (st := [.ref (bb + 10 + B 0 0)]) E (ct_X16_init l (nI (B 0 0)) x13) gciX16 dX2_meansLine_35 x13 q844 q845 q143 q846 (by decide +kernel) rfl rfl rfl ⟨by decide, by decide⟩ ⟨by decide, by decide⟩ (Nat.le_of_ble_eq_true rfl) rfl (gPn.k (fun g14 h14 => ?_))
    obtain ⟨h14, f14⟩ := h14
    refine g_astore_n E dX2_meansLine_38 rfl (by decide) rfl (lo1 := [some (.ref 1002), some (.ref (bb + 10 + B 0 0))]) rfl rfl ?_
    refine g_aload_n E dX2_meansLine_39 rfl rfl rfl ?_
    refine g_aload_n E dX2_meansLine_40 rfl rfl rfl ?_
    refine g_ldcS E (j := 14) (tx := "rate") rfl dX2_meansLine_41 rfl ?_
    refine g_iconst E (v := 0) dX2_meansLine_43 (by decide) rfl ?_
    refine g_bipush E (v := 9) dX2_meansLine_44 (by decide) rfl ?_
    have x15 := (f14 (1002) (by omega)).trans (hT11_a)
    have x17 := (f14 (1003) (by omega)).trans (hT11_b)
    have x18 := (f14 (1004) (by omega)).trans (hT11_c)
    have y19 := (hT11_t.fr  (fun j9 a9 b9 => f14 j9 (by omega)))
    have hT16 : pTk g14 n bb a11.2 M11 N11 T := ⟨⟨_, x15, hT11_0, hT11_1, hT11_2, hT11_3, hT11_4, hT11_5, hT11_6, hT11_7, hT11_8, hT11_9⟩, (fun h8 => ⟨(hT11_s h8).1.fr (fun j9 a9 b9 => f14 j9 (by omega)), (hT11_s h8).2⟩), ⟨_, x17⟩, ⟨_, x18⟩, y19, fun j9 a9 => (f14 j9 (by omega)).trans (hT11_z j9 (by omega))⟩
    refine g_callVX (k := 1002) (n9 := 3) (av := [.ref (1 + 2 * 14), .int 0, .int 9]) (st := [.ref (bb + 10 + B 0 0)]) E Rx (ct_X2_after l 0 9 hT16 (by omega) hok11 (by omega) (by omega) (by omega) rfl (by omega) (by omega)) gciX2 dX2_meansLine_46 x15 q799 q801 qs9 q121 q802 (by decide +kernel) rfl rfl ⟨by decide, by decide⟩ ⟨by decide, by decide⟩ (Nat.le_of_ble_eq_true rfl) rfl (fun g9 ⟨e9, h9e, h9p⟩ => ⟨e9, by unfold zLM; rw [show decide (B 0 0 < 4) = true from hcan, zBd_r he2, zBd_r he11, zBd_l h9e] <;> rfl, h9p.tr (fun j9 h9 => (((f14 j9 (by omega)).trans (f11 j9 (by omega))).trans (f4 j9 (by omega))).trans (f2 j9 (by omega)))⟩) (gPe.ki (fun a20 g20 he20 h20 => ?_))
    have hin20 := zAf_in he20
    obtain ⟨M20, N20, hM20, hN20, hT20, f20⟩ := h20
    have hT20_o := hT20
    obtain ⟨⟨hT20_F, hT20_a, hT20_0, hT20_1, hT20_2, hT20_3, hT20_4, hT20_5, hT20_6, hT20_7, hT20_8, hT20_9⟩, hT20_s, ⟨hT20_G, hT20_b⟩, ⟨hT20_l, hT20_c⟩, hT20_t, hT20_z⟩ := hT20_o
    have hT20_t_o := hT20_t
    obtain ⟨hT20_t_f, hT20_t_a, hT20_t_b⟩ := hT20_t_o
    have hok20 : zOk n a20.2 := zAf_ok hok11 he20
    have hok20_o := hok20
    obtain ⟨hok20_1, hok20_2, hok20_3, hok20_4, hok20_5⟩ := hok20_o
    have x21 := (f20 (bb + 10 + B 0 0) (by omega)).trans (h14)
    refine g_putf E gciX16 (v := .int (nI (a20.1))) dX2_meansLine_49 x21 2 rfl (by decide) q852 (.inl rfl) rfl (fun _ => rfl) (fun _ => rfl) rfl (g_upk (fun g22 h22 f22 => ?_))
    refine g_aload_n E dX2_meansLine_52 rfl rfl rfl ?_
    refine g_aload_n E dX2_meansLine_53 rfl rfl rfl ?_
    refine g_ldcS E (j := 15) (tx := "or") rfl dX2_meansLine_54 rfl ?_
    refine g_iconst E (v := 0) dX2_meansLine_56 (by decide) rfl ?_
    refine g_bipush E (v := 9) dX2_meansLine_57 (by decide) rfl ?_
    have x23 := (f22 (1002) (by omega)).trans (hT20_a)
    have x25 := (f22 (1003) (by omega)).trans (hT20_b)
    have x26 := (f22 (1004) (by omega)).trans (hT20_c)
    have y27 := (hT20_t.fr  (fun j9 a9 b9 => f22 j9 (by omega)))
    have hT24 : pTk g22 n bb a20.2 M20 N20 T := ⟨⟨_, x23, hT20_0, hT20_1, hT20_2, hT20_3, hT20_4, hT20_5, hT20_6, hT20_7, hT20_8, hT20_9⟩, (fun h8 => ⟨(hT20_s h8).1.fr (fun j9 a9 b9 => f22 j9 (by omega)), (hT20_s h8).2⟩), ⟨_, x25⟩, ⟨_, x26⟩, y27, fun j9 a9 => (f22 j9 (by omega)).trans (hT20_z j9 (by omega))⟩
    refine g_callVX (k := 1002) (n9 := 3) (av := [.ref (1 + 2 * 15), .int 0, .int 9]) (st := [.ref (bb + 10 + B 0 0)]) E Rx (ct_X2_after l 0 9 hT24 (by omega) hok20 (by omega) (by omega) (by omega) rfl (by omega) (by omega)) gciX2 dX2_meansLine_59 x23 q799 q801 qs9 q121 q802 (by decide +kernel) rfl rfl ⟨by decide, by decide⟩ ⟨by decide, by decide⟩ (Nat.le_of_ble_eq_true rfl) rfl (fun g9 ⟨e9, h9e, h9p⟩ => ⟨e9, by unfold zLM; rw [show decide (B 0 0 < 4) = true from hcan, zBd_r he2, zBd_r he11, zBd_r he20, zBd_l h9e] <;> rfl, h9p.tr (fun j9 h9 => (((((f22 j9 (by omega)).trans (f20 j9 (by omega))).trans (f14 j9 (by omega))).trans (f11 j9 (by omega))).trans (f4 j9 (by omega))).trans (f2 j9 (by omega)))⟩) (gPe.ki (fun a28 g28 he28 h28 => ?_))
    have hin28 := zAf_in he28
    obtain ⟨M28, N28, hM28, hN28, hT28, f28⟩ := h28
    have hT28_o := hT28
    obtain ⟨⟨hT28_F, hT28_a, hT28_0, hT28_1, hT28_2, hT28_3, hT28_4, hT28_5, hT28_6, hT28_7, hT28_8, hT28_9⟩, hT28_s, ⟨hT28_G, hT28_b⟩, ⟨hT28_l, hT28_c⟩, hT28_t, hT28_z⟩ := hT28_o
    have hT28_t_o := hT28_t
    obtain ⟨hT28_t_f, hT28_t_a, hT28_t_b⟩ := hT28_t_o
    have hok28 : zOk n a28.2 := zAf_ok hok20 he28
    have hok28_o := hok28
    obtain ⟨hok28_1, hok28_2, hok28_3, hok28_4, hok28_5⟩ := hok28_o
    have x29 := (f28 (bb + 10 + B 0 0) (by omega)).trans (h22)
    refine g_putf E gciX16 (v := .int (nI (a28.1))) dX2_meansLine_62 x29 3 rfl (by decide) q854 (.inl rfl) rfl (fun _ => rfl) (fun _ => rfl) rfl (g_upk (fun g30 h30 f30 => ?_))
    refine g_aload_n E dX2_meansLine_65 rfl rfl rfl ?_
    refine g_aload_n E dX2_meansLine_66 rfl rfl rfl ?_
    refine g_ldcS E (j := 16) (tx := "keeps") rfl dX2_meansLine_67 rfl ?_
    refine g_iconst E (v := 1) dX2_meansLine_69 (by decide) rfl ?_
    refine g_sipush E (v := 300) dX2_meansLine_70 (by decide) rfl ?_
    have x31 := (f30 (1002) (by omega)).trans (hT28_a)
    have x33 := (f30 (1003) (by omega)).trans (hT28_b)
    have x34 := (f30 (1004) (by omega)).trans (hT28_c)
    have y35 := (hT28_t.fr  (fun j9 a9 b9 => f30 j9 (by omega)))
    have hT32 : pTk g30 n bb a28.2 M28 N28 T := ⟨⟨_, x31, hT28_0, hT28_1, hT28_2, hT28_3, hT28_4, hT28_5, hT28_6, hT28_7, hT28_8, hT28_9⟩, (fun h8 => ⟨(hT28_s h8).1.fr (fun j9 a9 b9 => f30 j9 (by omega)), (hT28_s h8).2⟩), ⟨_, x33⟩, ⟨_, x34⟩, y35, fun j9 a9 => (f30 j9 (by omega)).trans (hT28_z j9 (by omega))⟩
    refine g_callVX (k := 1002) (n9 := 3) (av := [.ref (1 + 2 * 16), .int 1, .int 300]) (st := [.ref (bb + 10 + B 0 0)]) E Rx (ct_X2_after l 1 300 hT32 (by omega) hok28 (by omega) (by omega) (by omega) rfl (by omega) (by omega)) gciX2 dX2_meansLine_73 x31 q799 q801 qs9 q121 q802 (by decide +kernel) rfl rfl ⟨by decide, by decide⟩ ⟨by decide, by decide⟩ (Nat.le_of_ble_eq_true rfl) rfl (fun g9 ⟨e9, h9e, h9p⟩ => ⟨e9, by unfold zLM; rw [show decide (B 0 0 < 4) = true from hcan, zBd_r he2, zBd_r he11, zBd_r he20, zBd_r he28, zBd_l h9e] <;> rfl, h9p.tr (fun j9 h9 => (((((((f30 j9 (by omega)).trans (f28 j9 (by omega))).trans (f22 j9 (by omega))).trans (f20 j9 (by omega))).trans (f14 j9 (by omega))).trans (f11 j9 (by omega))).trans (f4 j9 (by omega))).trans (f2 j9 (by omega)))⟩) (gPe.ki (fun a36 g36 he36 h36 => ?_))
    have hin36 := zAf_in he36
    obtain ⟨M36, N36, hM36, hN36, hT36, f36⟩ := h36
    have hT36_o := hT36
    obtain ⟨⟨hT36_F, hT36_a, hT36_0, hT36_1, hT36_2, hT36_3, hT36_4, hT36_5, hT36_6, hT36_7, hT36_8, hT36_9⟩, hT36_s, ⟨hT36_G, hT36_b⟩, ⟨hT36_l, hT36_c⟩, hT36_t, hT36_z⟩ := hT36_o
    have hT36_t_o := hT36_t
    obtain ⟨hT36_t_f, hT36_t_a, hT36_t_b⟩ := hT36_t_o
    have hok36 : zOk n a36.2 := zAf_ok hok28 he36
    have hok36_o := hok36
    obtain ⟨hok36_1, hok36_2, hok36_3, hok36_4, hok36_5⟩ := hok36_o
    have x37 := (f36 (bb + 10 + B 0 0) (by omega)).trans (h30)
    refine g_putf E gciX16 (v := .int (nI (a36.1))) dX2_meansLine_76 x37 4 rfl (by decide) q856 (.inl rfl) rfl (fun _ => rfl) (fun _ => rfl) rfl (g_upk (fun g38 h38 f38 => ?_))
    refine g_aload_n E dX2_meansLine_79 rfl rfl rfl ?_
    have x39 := (f38 (1002) (by omega)).trans (hT36_a)
    refine g_getf E gciX2 dX2_meansLine_80 x39 9 rfl (by decide) q255 (.inl rfl) (.ref bb) (hT36_9) rfl ?_
    have x40 := (f38 (bb) (by omega)).trans ((f36 (bb) (by omega)).trans ((f30 (bb) (by omega)).trans ((f28 (bb) (by omega)).trans ((f22 (bb) (by omega)).trans ((f20 (bb) (by omega)).trans ((f14 (bb) (by omega)).trans (x12)))))))
    refine g_getf E gciX14 dX2_meansLine_83 x40 0 rfl (by decide) q528 (.inl rfl) (.ref (bb + 1)) (hQ_r_0) rfl ?_
    refine g_aload_n E dX2_meansLine_86 rfl rfl rfl ?_
    refine g_getf E gciX2 dX2_meansLine_87 x39 9 rfl (by decide) q255 (.inl rfl) (.ref bb) (hT36_9) rfl ?_
    refine g_getf E gciX14 dX2_meansLine_90 x40 9 rfl (by decide) q558 (.inl rfl) (.int (nI (B 0 0))) (hQ_r_9) rfl ?_
    refine g_aload_n E dX2_meansLine_93 rfl rfl rfl ?_
    have x41 := (f38 (bb + 1) (by omega)).trans ((f36 (bb + 1) (by omega)).trans ((f30 (bb + 1) (by omega)).trans ((f28 (bb + 1) (by omega)).trans ((f22 (bb + 1) (by omega)).trans ((f20 (bb + 1) (by omega)).trans ((f14 (bb + 1) (by omega)).trans ((f11 (bb + 1) (by omega)).trans ((f4 (bb + 1) (by omega)).trans ((f2 (bb + 1) (by omega)).trans (hQ_r_a1))))))))))
    refine g_aast E gciX16 (j := B 0 0) dX2_meansLine_94 x41 (fun _ => rfl) h38 (.inl rfl) (rfl) (by omega) (by decide) rfl (g_upk (fun g42 h42 f42 => ?_))
    refine g_aload_n E dX2_meansLine_95 rfl rfl rfl ?_
    have x43 := (f42 (1002) (by omega)).trans (x39)
    refine g_getf E gciX2 dX2_meansLine_96 x43 9 rfl (by decide) q255 (.inl rfl) (.ref bb) (hT36_9) rfl ?_
    refine g_dup E dX2_meansLine_99 rfl rfl ?_
    have x44 := (f42 (bb) (by omega)).trans (x40)
    refine g_getf E gciX14 dX2_meansLine_100 x44 9 rfl (by decide) q558 (.inl rfl) (.int (nI (B 0 0))) (hQ_r_9) rfl ?_
    refine g_iconst E (v := 1) dX2_meansLine_103 (by decide) rfl ?_
    refine g_iadd E dX2_meansLine_104 rfl ?_
    refine g_as (y := nI (B 0 0 + 1)) ((nI_succ _).symm) ?_
    refine g_putf E gciX14 (v := .int (nI (B 0 0 + 1))) dX2_meansLine_105 x44 9 rfl (by decide) q558 (.inl rfl) rfl (fun _ => rfl) (fun _ => rfl) rfl (g_upk (fun g45 h45 f45 => ?_))
    have x46 := (f45 (1002) (by omega)).trans (x43)
    have x48 := (f45 (1003) (by omega)).trans ((f42 (1003) (by omega)).trans ((f38 (1003) (by omega)).trans (hT36_b)))
    have x49 := (f45 (1004) (by omega)).trans ((f42 (1004) (by omega)).trans ((f38 (1004) (by omega)).trans (hT36_c)))
    have y50 := (((hT36_t.fr  (fun j9 a9 b9 => f38 j9 (by omega))).fr  (fun j9 a9 b9 => f42 j9 (by omega))).fr  (fun j9 a9 b9 => f45 j9 (by omega)))
    have hT47 : pTk g45 n bb a36.2 M36 N36 T := ⟨⟨_, x46, hT36_0, hT36_1, hT36_2, hT36_3, hT36_4, hT36_5, hT36_6, hT36_7, hT36_8, hT36_9⟩, (fun h8 => ⟨(hT36_s h8).1.fr (fun j9 a9 b9 => ((f45 j9 (by omega)).trans (f42 j9 (by omega))).trans (f38 j9 (by omega))), (hT36_s h8).2⟩), ⟨_, x48⟩, ⟨_, x49⟩, y50, fun j9 a9 => (f45 j9 (by omega)).trans ((f42 j9 (by omega)).trans ((f38 j9 (by omega)).trans (hT36_z j9 (by omega))))⟩
    have x51 := (f45 (bb + 1) (by omega)).trans (h42)
    have x52 := (f45 (bb + 10 + B 0 0) (by omega)).trans ((f42 (bb + 10 + B 0 0) (by omega)).trans (h38))
    have y53 := (((((((((hs11.fr  (fun j9 a9 b9 => f14 j9 (by omega))).fr  (fun j9 a9 b9 => f20 j9 (by omega))).fr  (fun j9 a9 b9 => f22 j9 (by omega))).fr  (fun j9 a9 b9 => f28 j9 (by omega))).fr  (fun j9 a9 b9 => f30 j9 (by omega))).fr  (fun j9 a9 b9 => f36 j9 (by omega))).fr  (fun j9 a9 b9 => f38 j9 (by omega))).fr  (fun j9 a9 b9 => f42 j9 (by omega))).fr  (fun j9 a9 b9 => f45 j9 (by omega)))
    exact (gRx_leave Rx E).elim (fun z9 h9z => h9z.2.2 _ _ _ _ _ _ (g_vret h9z.2.1 h9z.1 dX2_meansLine_108 rfl (by decide) (by decide) (⟨(a36.2, bs (bs (bs (bs B 1 (B 0 0) a20.1) 2 (B 0 0) a28.1) 3 (B 0 0) a36.1) 0 0 (B 0 0 + 1), ns Nm 0 (B 0 0) a11.1), by unfold zLM; rw [show decide (B 0 0 < 4) = true from hcan, zBd_r he2, zBd_r he11, zBd_r he20, zBd_r he28, zBd_r he36] <;> rfl, rfl, M36, N36, by omega, by omega, hT47, pBq_M hw hx hQ hM (by omega) hc4 hin20.2 hin28.2 hin36.2 (⟨_, h45, hQ_r_0, hQ_r_1, hQ_r_2, hQ_r_3, hQ_r_4, hQ_r_5, hQ_r_6, hQ_r_7, hQ_r_8, rfl, hQ_r_10, hQ_r_11, hQ_r_12, hQ_r_13, hQ_r_14, hQ_r_15, hQ_gb⟩) ⟨_, x51, raS hQ_r_b1⟩ ⟨_, x52, rfl, rfl, rfl, rfl, rfl, rfl, rfl, rfl⟩ y53 (by omega) (by omega) (fun j9 a9 b9 c0_ c1_ c2_ => (((((((((((f45 j9 (by omega)).trans (f42 j9 (by omega))).trans (f38 j9 (by omega))).trans (f36 j9 (by omega))).trans (f30 j9 (by omega))).trans (f28 j9 (by omega))).trans (f22 j9 (by omega))).trans (f20 j9 (by omega))).trans (f14 j9 (by omega))).trans (f11 j9 (by omega))).trans (f4 j9 (by omega))).trans (f2 j9 (by omega))), pSl_M hw hS9 hc4 hin20.2 hin28.2 hin36.2 (fun j9 a9 b9 c0_ c1_ c2_ => (((((((((((f45 j9 (by omega)).trans (f42 j9 (by omega))).trans (f38 j9 (by omega))).trans (f36 j9 (by omega))).trans (f30 j9 (by omega))).trans (f28 j9 (by omega))).trans (f22 j9 (by omega))).trans (f20 j9 (by omega))).trans (f14 j9 (by omega))).trans (f11 j9 (by omega))).trans (f4 j9 (by omega))).trans (f2 j9 (by omega))), fun j9 h9 => (((((((((((f45 j9 (by omega)).trans (f42 j9 (by omega))).trans (f38 j9 (by omega))).trans (f36 j9 (by omega))).trans (f30 j9 (by omega))).trans (f28 j9 (by omega))).trans (f22 j9 (by omega))).trans (f20 j9 (by omega))).trans (f14 j9 (by omega))).trans (f11 j9 (by omega))).trans (f4 j9 (by omega))).trans (f2 j9 (by omega))⟩)))
set_option maxHeartbeats 2000000 in
theorem ct_X2_travellerLine (l : Launch) {g : gWM} {n bb M N : Nat} {t : zTk} {T : Nat → Int32} {B : gBar} {Nm : zNm} (hT : pTk g n bb t M N T) (hn : n ≤ 1100) (hok : zOk n t) (hbb : 10000 ≤ bb) (hM : bb + 100 ≤ M) (hMN : M ≤ N) (hw : wfB B) (hQ : pBq g bb B Nm M) (hnl : ∀ s k, s < 4 → k < B 0 s → (Nm s k).length < 1000) (hx : zXs B) (hS9 : pSl g bb B) : gXt l yX2_travellerLine cX2_travellerLine 2 none 8 13 82 186 [.ref 1002] g (gPe (zLT T n (t, B, Nm)) (fun _ => none) (fun P g1 => pLl g1 g n bb P M T)) (fun g1 => ∃ e, zLT T n (t, B, Nm) = .inl e ∧ pXx g1 g bb e) := by
  refine gXt.of RX2 (by decide) rfl (lo := [some (.ref 1002), none]) 1 rfl (Nat.le_of_ble_eq_true rfl) (fun z E Rx => ?_)
  have hT_o := hT
  obtain ⟨⟨hT_F, hT_a, hT_0, hT_1, hT_2, hT_3, hT_4, hT_5, hT_6, hT_7, hT_8, hT_9⟩, hT_s, ⟨hT_G, hT_b⟩, ⟨hT_l, hT_c⟩, hT_t, hT_z⟩ := hT_o
  have hT_t_o := hT_t
  obtain ⟨hT_t_f, hT_t_a, hT_t_b⟩ := hT_t_o
  have hw_n := hw.1
  have hQ_r := hQ.1
  have hQ_n := hQ.2.2
  have hQ_r_o := hQ_r
  obtain ⟨⟨hQ_r_F, hQ_r_a, hQ_r_0, hQ_r_1, hQ_r_2, hQ_r_3, hQ_r_4, hQ_r_5, hQ_r_6, hQ_r_7, hQ_r_8, hQ_r_9, hQ_r_10, hQ_r_11, hQ_r_12, hQ_r_13, hQ_r_14, hQ_r_15⟩, ⟨hQ_r_f1, hQ_r_a1, hQ_r_b1⟩, ⟨hQ_r_f2, hQ_r_a2, hQ_r_b2⟩, ⟨hQ_r_f3, hQ_r_a3, hQ_r_b3⟩, ⟨hQ_r_f4, hQ_r_a4, hQ_r_b4⟩, ⟨hQ_r_f5, hQ_r_a5, hQ_r_b5⟩, ⟨hQ_r_f6, hQ_r_a6, hQ_r_b6⟩, ⟨hQ_r_f7, hQ_r_a7, hQ_r_b7⟩, hQ_r_c1, hQ_r_c2, hQ_r_c3, hQ_r_c4, hQ_r_c5⟩ := hQ_r_o
  obtain ⟨hQ_G, hQ_ga, hQ_gb⟩ := hQ.2.1
  obtain rfl := inj_obj hQ_r_a hQ_ga
  have hok_o := hok
  obtain ⟨hok_1, hok_2, hok_3, hok_4, hok_5⟩ := hok_o
  have hx9 : B 0 9 ≤ 1 := hx.2.2
  refine g_aload_n E dX2_travellerLine_0 rfl rfl rfl ?_
  refine g_aload_n E dX2_travellerLine_1 rfl rfl rfl ?_
  refine g_getf E gciX2 dX2_travellerLine_2 hT_a 9 rfl (by decide) q255 (.inl rfl) (.ref bb) (hT_9) rfl ?_
  refine g_getf E gciX14 dX2_travellerLine_5 hQ_r_a 10 rfl (by decide) q563 (.inl rfl) (.int (nI (B 0 1))) (hQ_r_10) rfl ?_
  refine g_iconst E (v := 4) dX2_travellerLine_8 (by decide) rfl ?_
  refine g_icmp_ge E dX2_travellerLine_9 (tgt := 16) (by decide) rfl (fun c9 => ?_) (fun c9 => ?_)
  · have c9 := (nI_leI (a := 4) (b := B 0 1) (by omega) (by omega)).mp c9
    refine g_iconst E (v := 0) dX2_travellerLine_16 (by decide) rfl ?_
    have hcan : decide (B 0 1 < 4) = false := decide_eq_false (by omega)
    refine g_callVX (k := 1002) (n9 := 1) (av := [.int 0]) (st := []) E Rx (ct_X2_begins l false hT (by omega) hok (by omega) (by omega) (by omega) hw (pBq.mono hQ (by omega)) hnl hx.2.2) gciX2 dX2_travellerLine_17 hT_a q820 q822 qs14 q121 q823 (by decide +kernel) rfl rfl ⟨by decide, by decide⟩ ⟨by decide, by decide⟩ (Nat.le_of_ble_eq_true rfl) rfl (fun g9 ⟨e9, h9e, h9p⟩ => ⟨e9, by unfold zLT; rw [show decide (B 0 1 < 4) = false from hcan, zBd_l h9e] <;> rfl, h9p.tr (fun j9 h9 => rfl)⟩) (gPe.kn (fun a1 g1 he1 h1 => ?_))
    exact absurd (zBg_ok hok he1).2.1 Bool.false_ne_true
  · have c9 := mt (nI_leI (a := 4) (b := B 0 1) (by omega) (by omega)).mpr c9
    refine g_iconst E (v := 1) dX2_travellerLine_12 (by decide) rfl ?_
    refine g_goto E dX2_travellerLine_13 (tgt := 17) (by decide) ?_
    have hcan : decide (B 0 1 < 4) = true := decide_eq_true (by omega)
    have hc4 : B 0 1 < 4 := by omega
    refine g_callVX (k := 1002) (n9 := 1) (av := [.int 1]) (st := []) E Rx (ct_X2_begins l true hT (by omega) hok (by omega) (by omega) (by omega) hw (pBq.mono hQ (by omega)) hnl hx.2.2) gciX2 dX2_travellerLine_17 hT_a q820 q822 qs14 q121 q823 (by decide +kernel) rfl rfl ⟨by decide, by decide⟩ ⟨by decide, by decide⟩ (Nat.le_of_ble_eq_true rfl) rfl (fun g9 ⟨e9, h9e, h9p⟩ => ⟨e9, by unfold zLT; rw [show decide (B 0 1 < 4) = true from hcan, zBd_l h9e] <;> rfl, h9p.tr (fun j9 h9 => rfl)⟩) (gPe.kn (fun a2 g2 he2 h2 => ?_))
    obtain ⟨M2, N2, hM2, hN2, hT2, f2⟩ := h2
    have hT2_o := hT2
    obtain ⟨⟨hT2_F, hT2_a, hT2_0, hT2_1, hT2_2, hT2_3, hT2_4, hT2_5, hT2_6, hT2_7, hT2_8, hT2_9⟩, hT2_s, ⟨hT2_G, hT2_b⟩, ⟨hT2_l, hT2_c⟩, hT2_t, hT2_z⟩ := hT2_o
    have hT2_t_o := hT2_t
    obtain ⟨hT2_t_f, hT2_t_a, hT2_t_b⟩ := hT2_t_o
    have hok2 : zOk n a2 := (zBg_ok hok he2).1
    have hok2_o := hok2
    obtain ⟨hok2_1, hok2_2, hok2_3, hok2_4, hok2_5⟩ := hok2_o
    have y3 := (hQ.fr hw (by omega) (fun j9 a9 b9 => f2 j9 (by omega)))
    have hnn := (f2 (bb + 20 + B 0 1) (by omega)).trans ((hS9 (B 0 1) (by omega)).2.1 (Nat.le_refl _))
    refine g_new E gciX17 dX2_travellerLine_20 q894 q895 q144 (bb + 20 + B 0 1) ((f2 (bb + 20 + B 0 1) (by omega)).trans ((hS9 (B 0 1) (by omega)).2.1 (Nat.le_refl _))) (by omega) (by decide) (by decide) rfl (g_upk (fun g4 h4 f4 => ?_))
    refine g_dup E dX2_travellerLine_23 rfl rfl ?_
    refine g_aload_n E dX2_travellerLine_24 rfl rfl rfl ?_
    have x5 := (f4 (1002) (by omega)).trans (hT2_a)
    have x7 := (f4 (1003) (by omega)).trans (hT2_b)
    have x8 := (f4 (1004) (by omega)).trans (hT2_c)
    have y9 := (hT2_t.fr  (fun j9 a9 b9 => f4 j9 (by omega)))
    have hT6 : pTk g4 n bb a2 M2 N2 T := ⟨⟨_, x5, hT2_0, hT2_1, hT2_2, hT2_3, hT2_4, hT2_5, hT2_6, hT2_7, hT2_8, hT2_9⟩, (fun h8 => ⟨(hT2_s h8).1.fr (fun j9 a9 b9 => f4 j9 (by omega)), (hT2_s h8).2⟩), ⟨_, x7⟩, ⟨_, x8⟩, y9, fun j9 a9 => (f4 j9 (by omega)).trans (hT2_z j9 (by omega))⟩
    have y10 : pBq g4 bb B Nm M := pBq.frn hw hM y3 hnn (by omega) (fun j9 a9 b9 c9 => f4 j9 (by omega))
    refine g_callVX (k := 1002) (n9 := 0) (av := []) (st := [.ref (bb + 20 + B 0 1), .ref (bb + 20 + B 0 1)]) E Rx (ct_X2_newName l hT6 (by omega) hok2 (by omega) (by omega) (by omega) hw (pBq.mono y10 (by omega)) hnl) gciX2 dX2_travellerLine_25 x5 q826 q828 qs15 q121 q829 (by decide +kernel) rfl rfl ⟨by decide, by decide⟩ ⟨by decide, by decide⟩ (Nat.le_of_ble_eq_true rfl) rfl (fun g9 ⟨e9, h9e, h9p⟩ => ⟨e9, by unfold zLT; rw [show decide (B 0 1 < 4) = true from hcan, zBd_r he2, zBd_l h9e] <;> rfl, h9p.tr (fun j9 h9 => (f4 j9 (by omega)).trans (f2 j9 (by omega)))⟩) (gPe.kr (fun a11 g11 he11 h11 => ?_))
    obtain ⟨hs11, hl11, M11, N11, hM11, hN11, hT11, f11⟩ := h11
    have hT11_o := hT11
    obtain ⟨⟨hT11_F, hT11_a, hT11_0, hT11_1, hT11_2, hT11_3, hT11_4, hT11_5, hT11_6, hT11_7, hT11_8, hT11_9⟩, hT11_s, ⟨hT11_G, hT11_b⟩, ⟨hT11_l, hT11_c⟩, hT11_t, hT11_z⟩ := hT11_o
    have hT11_t_o := hT11_t
    obtain ⟨hT11_t_f, hT11_t_a, hT11_t_b⟩ := hT11_t_o
    have hok11 : zOk n a11.2 := (zNw_ok hok2 he11).1
    have hok11_o := hok11
    obtain ⟨hok11_1, hok11_2, hok11_3, hok11_4, hok11_5⟩ := hok11_o
    have hz11 : True := trivial
    refine g_aload_n E dX2_travellerLine_28 rfl rfl rfl ?_
    refine g_getf E gciX2 dX2_travellerLine_29 hT11_a 9 rfl (by decide) q255 (.inl rfl) (.ref bb) (hT11_9) rfl ?_
    have x12 := (f11 (bb) (by omega)).trans ((f4 (bb) (by omega)).trans ((f2 (bb) (by omega)).trans (hQ_r_a)))
    refine g_getf E gciX14 dX2_travellerLine_32 x12 10 rfl (by decide) q563 (.inl rfl) (.int (nI (B 0 1))) (hQ_r_10) rfl ?_
    have x13 := (f11 (bb + 20 + B 0 1) (by omega)).trans (h4)
    refine g_callI (k := bb + 20 + B 0 1) (n9 := 2) (av := [.ref M2, .int (nI (B 0 1))]) (st := [.ref (bb + 20 + B 0 1)]) E (ct_X17_init l (nI (B 0 1)) x13) gciX17 dX2_travellerLine_35 x13 q896 q897 q144 q898 (by decide +kernel) rfl rfl rfl ⟨by decide, by decide⟩ ⟨by decide, by decide⟩ (Nat.le_of_ble_eq_true rfl) rfl (gPn.k (fun g14 h14 => ?_))
    obtain ⟨h14, f14⟩ := h14
    refine g_astore_n E dX2_travellerLine_38 rfl (by decide) rfl (lo1 := [some (.ref 1002), some (.ref (bb + 20 + B 0 1))]) rfl rfl ?_
    refine g_aload_n E dX2_travellerLine_39 rfl rfl rfl ?_
    refine g_aload_n E dX2_travellerLine_40 rfl rfl rfl ?_
    refine g_ldcS E (j := 17) (tx := "allow") rfl dX2_travellerLine_41 rfl ?_
    refine g_iconst E (v := 0) dX2_travellerLine_43 (by decide) rfl ?_
    refine g_bipush E (v := 99) dX2_travellerLine_44 (by decide) rfl ?_
    have x15 := (f14 (1002) (by omega)).trans (hT11_a)
    have x17 := (f14 (1003) (by omega)).trans (hT11_b)
    have x18 := (f14 (1004) (by omega)).trans (hT11_c)
    have y19 := (hT11_t.fr  (fun j9 a9 b9 => f14 j9 (by omega)))
    have hT16 : pTk g14 n bb a11.2 M11 N11 T := ⟨⟨_, x15, hT11_0, hT11_1, hT11_2, hT11_3, hT11_4, hT11_5, hT11_6, hT11_7, hT11_8, hT11_9⟩, (fun h8 => ⟨(hT11_s h8).1.fr (fun j9 a9 b9 => f14 j9 (by omega)), (hT11_s h8).2⟩), ⟨_, x17⟩, ⟨_, x18⟩, y19, fun j9 a9 => (f14 j9 (by omega)).trans (hT11_z j9 (by omega))⟩
    refine g_callVX (k := 1002) (n9 := 3) (av := [.ref (1 + 2 * 17), .int 0, .int 99]) (st := [.ref (bb + 20 + B 0 1)]) E Rx (ct_X2_after l 0 99 hT16 (by omega) hok11 (by omega) (by omega) (by omega) rfl (by omega) (by omega)) gciX2 dX2_travellerLine_46 x15 q799 q801 qs9 q121 q802 (by decide +kernel) rfl rfl ⟨by decide, by decide⟩ ⟨by decide, by decide⟩ (Nat.le_of_ble_eq_true rfl) rfl (fun g9 ⟨e9, h9e, h9p⟩ => ⟨e9, by unfold zLT; rw [show decide (B 0 1 < 4) = true from hcan, zBd_r he2, zBd_r he11, zBd_l h9e] <;> rfl, h9p.tr (fun j9 h9 => (((f14 j9 (by omega)).trans (f11 j9 (by omega))).trans (f4 j9 (by omega))).trans (f2 j9 (by omega)))⟩) (gPe.ki (fun a20 g20 he20 h20 => ?_))
    have hin20 := zAf_in he20
    obtain ⟨M20, N20, hM20, hN20, hT20, f20⟩ := h20
    have hT20_o := hT20
    obtain ⟨⟨hT20_F, hT20_a, hT20_0, hT20_1, hT20_2, hT20_3, hT20_4, hT20_5, hT20_6, hT20_7, hT20_8, hT20_9⟩, hT20_s, ⟨hT20_G, hT20_b⟩, ⟨hT20_l, hT20_c⟩, hT20_t, hT20_z⟩ := hT20_o
    have hT20_t_o := hT20_t
    obtain ⟨hT20_t_f, hT20_t_a, hT20_t_b⟩ := hT20_t_o
    have hok20 : zOk n a20.2 := zAf_ok hok11 he20
    have hok20_o := hok20
    obtain ⟨hok20_1, hok20_2, hok20_3, hok20_4, hok20_5⟩ := hok20_o
    have x21 := (f20 (bb + 20 + B 0 1) (by omega)).trans (h14)
    refine g_putf E gciX17 (v := .int (nI (a20.1))) dX2_travellerLine_49 x21 2 rfl (by decide) q902 (.inl rfl) rfl (fun _ => rfl) (fun _ => rfl) rfl (g_upk (fun g22 h22 f22 => ?_))
    refine g_aload_n E dX2_travellerLine_52 rfl rfl rfl ?_
    refine g_aload_n E dX2_travellerLine_53 rfl rfl rfl ?_
    refine g_ldcS E (j := 18) (tx := "hunger") rfl dX2_travellerLine_54 rfl ?_
    refine g_iconst E (v := 0) dX2_travellerLine_56 (by decide) rfl ?_
    refine g_iconst E (v := 3) dX2_travellerLine_57 (by decide) rfl ?_
    have x23 := (f22 (1002) (by omega)).trans (hT20_a)
    have x25 := (f22 (1003) (by omega)).trans (hT20_b)
    have x26 := (f22 (1004) (by omega)).trans (hT20_c)
    have y27 := (hT20_t.fr  (fun j9 a9 b9 => f22 j9 (by omega)))
    have hT24 : pTk g22 n bb a20.2 M20 N20 T := ⟨⟨_, x23, hT20_0, hT20_1, hT20_2, hT20_3, hT20_4, hT20_5, hT20_6, hT20_7, hT20_8, hT20_9⟩, (fun h8 => ⟨(hT20_s h8).1.fr (fun j9 a9 b9 => f22 j9 (by omega)), (hT20_s h8).2⟩), ⟨_, x25⟩, ⟨_, x26⟩, y27, fun j9 a9 => (f22 j9 (by omega)).trans (hT20_z j9 (by omega))⟩
    refine g_callVX (k := 1002) (n9 := 3) (av := [.ref (1 + 2 * 18), .int 0, .int 3]) (st := [.ref (bb + 20 + B 0 1)]) E Rx (ct_X2_after l 0 3 hT24 (by omega) hok20 (by omega) (by omega) (by omega) rfl (by omega) (by omega)) gciX2 dX2_travellerLine_58 x23 q799 q801 qs9 q121 q802 (by decide +kernel) rfl rfl ⟨by decide, by decide⟩ ⟨by decide, by decide⟩ (Nat.le_of_ble_eq_true rfl) rfl (fun g9 ⟨e9, h9e, h9p⟩ => ⟨e9, by unfold zLT; rw [show decide (B 0 1 < 4) = true from hcan, zBd_r he2, zBd_r he11, zBd_r he20, zBd_l h9e] <;> rfl, h9p.tr (fun j9 h9 => (((((f22 j9 (by omega)).trans (f20 j9 (by omega))).trans (f14 j9 (by omega))).trans (f11 j9 (by omega))).trans (f4 j9 (by omega))).trans (f2 j9 (by omega)))⟩) (gPe.ki (fun a28 g28 he28 h28 => ?_))
    have hin28 := zAf_in he28
    obtain ⟨M28, N28, hM28, hN28, hT28, f28⟩ := h28
    have hT28_o := hT28
    obtain ⟨⟨hT28_F, hT28_a, hT28_0, hT28_1, hT28_2, hT28_3, hT28_4, hT28_5, hT28_6, hT28_7, hT28_8, hT28_9⟩, hT28_s, ⟨hT28_G, hT28_b⟩, ⟨hT28_l, hT28_c⟩, hT28_t, hT28_z⟩ := hT28_o
    have hT28_t_o := hT28_t
    obtain ⟨hT28_t_f, hT28_t_a, hT28_t_b⟩ := hT28_t_o
    have hok28 : zOk n a28.2 := zAf_ok hok20 he28
    have hok28_o := hok28
    obtain ⟨hok28_1, hok28_2, hok28_3, hok28_4, hok28_5⟩ := hok28_o
    have x29 := (f28 (bb + 20 + B 0 1) (by omega)).trans (h22)
    refine g_putf E gciX17 (v := .int (nI (a28.1))) dX2_travellerLine_61 x29 3 rfl (by decide) q904 (.inl rfl) rfl (fun _ => rfl) (fun _ => rfl) rfl (g_upk (fun g30 h30 f30 => ?_))
    refine g_aload_n E dX2_travellerLine_64 rfl rfl rfl ?_
    have x31 := (f30 (1002) (by omega)).trans (hT28_a)
    refine g_getf E gciX2 dX2_travellerLine_65 x31 9 rfl (by decide) q255 (.inl rfl) (.ref bb) (hT28_9) rfl ?_
    have x32 := (f30 (bb) (by omega)).trans ((f28 (bb) (by omega)).trans ((f22 (bb) (by omega)).trans ((f20 (bb) (by omega)).trans ((f14 (bb) (by omega)).trans (x12)))))
    refine g_getf E gciX14 dX2_travellerLine_68 x32 1 rfl (by decide) q533 (.inl rfl) (.ref (bb + 2)) (hQ_r_1) rfl ?_
    refine g_aload_n E dX2_travellerLine_71 rfl rfl rfl ?_
    refine g_getf E gciX2 dX2_travellerLine_72 x31 9 rfl (by decide) q255 (.inl rfl) (.ref bb) (hT28_9) rfl ?_
    refine g_getf E gciX14 dX2_travellerLine_75 x32 10 rfl (by decide) q563 (.inl rfl) (.int (nI (B 0 1))) (hQ_r_10) rfl ?_
    refine g_aload_n E dX2_travellerLine_78 rfl rfl rfl ?_
    have x33 := (f30 (bb + 2) (by omega)).trans ((f28 (bb + 2) (by omega)).trans ((f22 (bb + 2) (by omega)).trans ((f20 (bb + 2) (by omega)).trans ((f14 (bb + 2) (by omega)).trans ((f11 (bb + 2) (by omega)).trans ((f4 (bb + 2) (by omega)).trans ((f2 (bb + 2) (by omega)).trans (hQ_r_a2))))))))
    refine g_aast E gciX17 (j := B 0 1) dX2_travellerLine_79 x33 (fun _ => rfl) h30 (.inl rfl) (rfl) (by omega) (by decide) rfl (g_upk (fun g34 h34 f34 => ?_))
    refine g_aload_n E dX2_travellerLine_80 rfl rfl rfl ?_
    have x35 := (f34 (1002) (by omega)).trans (x31)
    refine g_getf E gciX2 dX2_travellerLine_81 x35 9 rfl (by decide) q255 (.inl rfl) (.ref bb) (hT28_9) rfl ?_
    refine g_dup E dX2_travellerLine_84 rfl rfl ?_
    have x36 := (f34 (bb) (by omega)).trans (x32)
    refine g_getf E gciX14 dX2_travellerLine_85 x36 10 rfl (by decide) q563 (.inl rfl) (.int (nI (B 0 1))) (hQ_r_10) rfl ?_
    refine g_iconst E (v := 1) dX2_travellerLine_88 (by decide) rfl ?_
    refine g_iadd E dX2_travellerLine_89 rfl ?_
    refine g_as (y := nI (B 0 1 + 1)) ((nI_succ _).symm) ?_
    refine g_putf E gciX14 (v := .int (nI (B 0 1 + 1))) dX2_travellerLine_90 x36 10 rfl (by decide) q563 (.inl rfl) rfl (fun _ => rfl) (fun _ => rfl) rfl (g_upk (fun g37 h37 f37 => ?_))
    have x38 := (f37 (1002) (by omega)).trans (x35)
    have x40 := (f37 (1003) (by omega)).trans ((f34 (1003) (by omega)).trans ((f30 (1003) (by omega)).trans (hT28_b)))
    have x41 := (f37 (1004) (by omega)).trans ((f34 (1004) (by omega)).trans ((f30 (1004) (by omega)).trans (hT28_c)))
    have y42 := (((hT28_t.fr  (fun j9 a9 b9 => f30 j9 (by omega))).fr  (fun j9 a9 b9 => f34 j9 (by omega))).fr  (fun j9 a9 b9 => f37 j9 (by omega)))
    have hT39 : pTk g37 n bb a28.2 M28 N28 T := ⟨⟨_, x38, hT28_0, hT28_1, hT28_2, hT28_3, hT28_4, hT28_5, hT28_6, hT28_7, hT28_8, hT28_9⟩, (fun h8 => ⟨(hT28_s h8).1.fr (fun j9 a9 b9 => ((f37 j9 (by omega)).trans (f34 j9 (by omega))).trans (f30 j9 (by omega))), (hT28_s h8).2⟩), ⟨_, x40⟩, ⟨_, x41⟩, y42, fun j9 a9 => (f37 j9 (by omega)).trans ((f34 j9 (by omega)).trans ((f30 j9 (by omega)).trans (hT28_z j9 (by omega))))⟩
    have x43 := (f37 (bb + 2) (by omega)).trans (h34)
    have x44 := (f37 (bb + 20 + B 0 1) (by omega)).trans ((f34 (bb + 20 + B 0 1) (by omega)).trans (h30))
    have y45 := (((((((hs11.fr  (fun j9 a9 b9 => f14 j9 (by omega))).fr  (fun j9 a9 b9 => f20 j9 (by omega))).fr  (fun j9 a9 b9 => f22 j9 (by omega))).fr  (fun j9 a9 b9 => f28 j9 (by omega))).fr  (fun j9 a9 b9 => f30 j9 (by omega))).fr  (fun j9 a9 b9 => f34 j9 (by omega))).fr  (fun j9 a9 b9 => f37 j9 (by omega)))
    exact (gRx_leave Rx E).elim (fun z9 h9z => h9z.2.2 _ _ _ _ _ _ (g_vret h9z.2.1 h9z.1 dX2_travellerLine_93 rfl (by decide) (by decide) (⟨(a28.2, bs (bs (bs B 7 (B 0 1) a20.1) 8 (B 0 1) a28.1) 0 1 (B 0 1 + 1), ns Nm 1 (B 0 1) a11.1), by unfold zLT; rw [show decide (B 0 1 < 4) = true from hcan, zBd_r he2, zBd_r he11, zBd_r he20, zBd_r he28] <;> rfl, rfl, M28, N28, by omega, by omega, hT39, pBq_T hw hx hQ hM (by omega) hc4 hin20.2 hin28.2 (⟨_, h37, hQ_r_0, hQ_r_1, hQ_r_2, hQ_r_3, hQ_r_4, hQ_r_5, hQ_r_6, hQ_r_7, hQ_r_8, hQ_r_9, rfl, hQ_r_11, hQ_r_12, hQ_r_13, hQ_r_14, hQ_r_15, hQ_gb⟩) ⟨_, x43, raS hQ_r_b2⟩ ⟨_, x44, rfl, rfl, rfl, rfl⟩ y45 (by omega) (by omega) (fun j9 a9 b9 c0_ c1_ c2_ => (((((((((f37 j9 (by omega)).trans (f34 j9 (by omega))).trans (f30 j9 (by omega))).trans (f28 j9 (by omega))).trans (f22 j9 (by omega))).trans (f20 j9 (by omega))).trans (f14 j9 (by omega))).trans (f11 j9 (by omega))).trans (f4 j9 (by omega))).trans (f2 j9 (by omega))), pSl_T hw hS9 hc4 hin20.2 hin28.2 (fun j9 a9 b9 c0_ c1_ c2_ => (((((((((f37 j9 (by omega)).trans (f34 j9 (by omega))).trans (f30 j9 (by omega))).trans (f28 j9 (by omega))).trans (f22 j9 (by omega))).trans (f20 j9 (by omega))).trans (f14 j9 (by omega))).trans (f11 j9 (by omega))).trans (f4 j9 (by omega))).trans (f2 j9 (by omega))), fun j9 h9 => (((((((((f37 j9 (by omega)).trans (f34 j9 (by omega))).trans (f30 j9 (by omega))).trans (f28 j9 (by omega))).trans (f22 j9 (by omega))).trans (f20 j9 (by omega))).trans (f14 j9 (by omega))).trans (f11 j9 (by omega))).trans (f4 j9 (by omega))).trans (f2 j9 (by omega))⟩)))
set_option maxHeartbeats 2000000 in
theorem ct_X2_gateLine (l : Launch) {g : gWM} {n bb M N : Nat} {t : zTk} {T : Nat → Int32} {B : gBar} {Nm : zNm} (hT : pTk g n bb t M N T) (hn : n ≤ 1100) (hok : zOk n t) (hbb : 10000 ≤ bb) (hM : bb + 100 ≤ M) (hMN : M ≤ N) (hw : wfB B) (hQ : pBq g bb B Nm M) (hnl : ∀ s k, s < 4 → k < B 0 s → (Nm s k).length < 1000) (hx : zXs B) (hS9 : pSl g bb B) : gXt l yX2_gateLine cX2_gateLine 2 none 8 17 109 186 [.ref 1002] g (gPe (zLG T n (t, B, Nm)) (fun _ => none) (fun P g1 => pLl g1 g n bb P M T)) (fun g1 => ∃ e, zLG T n (t, B, Nm) = .inl e ∧ pXx g1 g bb e) := by
  refine gXt.of RX2 (by decide) rfl (lo := [some (.ref 1002), none]) 1 rfl (Nat.le_of_ble_eq_true rfl) (fun z E Rx => ?_)
  have hT_o := hT
  obtain ⟨⟨hT_F, hT_a, hT_0, hT_1, hT_2, hT_3, hT_4, hT_5, hT_6, hT_7, hT_8, hT_9⟩, hT_s, ⟨hT_G, hT_b⟩, ⟨hT_l, hT_c⟩, hT_t, hT_z⟩ := hT_o
  have hT_t_o := hT_t
  obtain ⟨hT_t_f, hT_t_a, hT_t_b⟩ := hT_t_o
  have hw_n := hw.1
  have hQ_r := hQ.1
  have hQ_n := hQ.2.2
  have hQ_r_o := hQ_r
  obtain ⟨⟨hQ_r_F, hQ_r_a, hQ_r_0, hQ_r_1, hQ_r_2, hQ_r_3, hQ_r_4, hQ_r_5, hQ_r_6, hQ_r_7, hQ_r_8, hQ_r_9, hQ_r_10, hQ_r_11, hQ_r_12, hQ_r_13, hQ_r_14, hQ_r_15⟩, ⟨hQ_r_f1, hQ_r_a1, hQ_r_b1⟩, ⟨hQ_r_f2, hQ_r_a2, hQ_r_b2⟩, ⟨hQ_r_f3, hQ_r_a3, hQ_r_b3⟩, ⟨hQ_r_f4, hQ_r_a4, hQ_r_b4⟩, ⟨hQ_r_f5, hQ_r_a5, hQ_r_b5⟩, ⟨hQ_r_f6, hQ_r_a6, hQ_r_b6⟩, ⟨hQ_r_f7, hQ_r_a7, hQ_r_b7⟩, hQ_r_c1, hQ_r_c2, hQ_r_c3, hQ_r_c4, hQ_r_c5⟩ := hQ_r_o
  obtain ⟨hQ_G, hQ_ga, hQ_gb⟩ := hQ.2.1
  obtain rfl := inj_obj hQ_r_a hQ_ga
  have hok_o := hok
  obtain ⟨hok_1, hok_2, hok_3, hok_4, hok_5⟩ := hok_o
  have hx9 : B 0 9 ≤ 1 := hx.2.2
  refine g_aload_n E dX2_gateLine_0 rfl rfl rfl ?_
  refine g_aload_n E dX2_gateLine_1 rfl rfl rfl ?_
  refine g_getf E gciX2 dX2_gateLine_2 hT_a 9 rfl (by decide) q255 (.inl rfl) (.ref bb) (hT_9) rfl ?_
  refine g_getf E gciX14 dX2_gateLine_5 hQ_r_a 11 rfl (by decide) q566 (.inl rfl) (.int (nI (B 0 2))) (hQ_r_11) rfl ?_
  refine g_iconst E (v := 3) dX2_gateLine_8 (by decide) rfl ?_
  refine g_icmp_ge E dX2_gateLine_9 (tgt := 16) (by decide) rfl (fun c9 => ?_) (fun c9 => ?_)
  · have c9 := (nI_leI (a := 3) (b := B 0 2) (by omega) (by omega)).mp c9
    refine g_iconst E (v := 0) dX2_gateLine_16 (by decide) rfl ?_
    have hcan : decide (B 0 2 < 3) = false := decide_eq_false (by omega)
    refine g_callVX (k := 1002) (n9 := 1) (av := [.int 0]) (st := []) E Rx (ct_X2_begins l false hT (by omega) hok (by omega) (by omega) (by omega) hw (pBq.mono hQ (by omega)) hnl hx.2.2) gciX2 dX2_gateLine_17 hT_a q820 q822 qs14 q121 q823 (by decide +kernel) rfl rfl ⟨by decide, by decide⟩ ⟨by decide, by decide⟩ (Nat.le_of_ble_eq_true rfl) rfl (fun g9 ⟨e9, h9e, h9p⟩ => ⟨e9, by unfold zLG; rw [show decide (B 0 2 < 3) = false from hcan, zBd_l h9e] <;> rfl, h9p.tr (fun j9 h9 => rfl)⟩) (gPe.kn (fun a1 g1 he1 h1 => ?_))
    exact absurd (zBg_ok hok he1).2.1 Bool.false_ne_true
  · have c9 := mt (nI_leI (a := 3) (b := B 0 2) (by omega) (by omega)).mpr c9
    refine g_iconst E (v := 1) dX2_gateLine_12 (by decide) rfl ?_
    refine g_goto E dX2_gateLine_13 (tgt := 17) (by decide) ?_
    have hcan : decide (B 0 2 < 3) = true := decide_eq_true (by omega)
    have hc4 : B 0 2 < 3 := by omega
    refine g_callVX (k := 1002) (n9 := 1) (av := [.int 1]) (st := []) E Rx (ct_X2_begins l true hT (by omega) hok (by omega) (by omega) (by omega) hw (pBq.mono hQ (by omega)) hnl hx.2.2) gciX2 dX2_gateLine_17 hT_a q820 q822 qs14 q121 q823 (by decide +kernel) rfl rfl ⟨by decide, by decide⟩ ⟨by decide, by decide⟩ (Nat.le_of_ble_eq_true rfl) rfl (fun g9 ⟨e9, h9e, h9p⟩ => ⟨e9, by unfold zLG; rw [show decide (B 0 2 < 3) = true from hcan, zBd_l h9e] <;> rfl, h9p.tr (fun j9 h9 => rfl)⟩) (gPe.kn (fun a2 g2 he2 h2 => ?_))
    obtain ⟨M2, N2, hM2, hN2, hT2, f2⟩ := h2
    have hT2_o := hT2
    obtain ⟨⟨hT2_F, hT2_a, hT2_0, hT2_1, hT2_2, hT2_3, hT2_4, hT2_5, hT2_6, hT2_7, hT2_8, hT2_9⟩, hT2_s, ⟨hT2_G, hT2_b⟩, ⟨hT2_l, hT2_c⟩, hT2_t, hT2_z⟩ := hT2_o
    have hT2_t_o := hT2_t
    obtain ⟨hT2_t_f, hT2_t_a, hT2_t_b⟩ := hT2_t_o
    have hok2 : zOk n a2 := (zBg_ok hok he2).1
    have hok2_o := hok2
    obtain ⟨hok2_1, hok2_2, hok2_3, hok2_4, hok2_5⟩ := hok2_o
    have y3 := (hQ.fr hw (by omega) (fun j9 a9 b9 => f2 j9 (by omega)))
    have hnn := (f2 (bb + 30 + B 0 2) (by omega)).trans ((hS9 (B 0 2) (by omega)).2.2.1 (Nat.le_refl _))
    refine g_new E gciX18 dX2_gateLine_20 q918 q919 q145 (bb + 30 + B 0 2) ((f2 (bb + 30 + B 0 2) (by omega)).trans ((hS9 (B 0 2) (by omega)).2.2.1 (Nat.le_refl _))) (by omega) (by decide) (by decide) rfl (g_upk (fun g4 h4 f4 => ?_))
    refine g_dup E dX2_gateLine_23 rfl rfl ?_
    refine g_aload_n E dX2_gateLine_24 rfl rfl rfl ?_
    have x5 := (f4 (1002) (by omega)).trans (hT2_a)
    have x7 := (f4 (1003) (by omega)).trans (hT2_b)
    have x8 := (f4 (1004) (by omega)).trans (hT2_c)
    have y9 := (hT2_t.fr  (fun j9 a9 b9 => f4 j9 (by omega)))
    have hT6 : pTk g4 n bb a2 M2 N2 T := ⟨⟨_, x5, hT2_0, hT2_1, hT2_2, hT2_3, hT2_4, hT2_5, hT2_6, hT2_7, hT2_8, hT2_9⟩, (fun h8 => ⟨(hT2_s h8).1.fr (fun j9 a9 b9 => f4 j9 (by omega)), (hT2_s h8).2⟩), ⟨_, x7⟩, ⟨_, x8⟩, y9, fun j9 a9 => (f4 j9 (by omega)).trans (hT2_z j9 (by omega))⟩
    have y10 : pBq g4 bb B Nm M := pBq.frn hw hM y3 hnn (by omega) (fun j9 a9 b9 c9 => f4 j9 (by omega))
    refine g_callVX (k := 1002) (n9 := 0) (av := []) (st := [.ref (bb + 30 + B 0 2), .ref (bb + 30 + B 0 2)]) E Rx (ct_X2_newName l hT6 (by omega) hok2 (by omega) (by omega) (by omega) hw (pBq.mono y10 (by omega)) hnl) gciX2 dX2_gateLine_25 x5 q826 q828 qs15 q121 q829 (by decide +kernel) rfl rfl ⟨by decide, by decide⟩ ⟨by decide, by decide⟩ (Nat.le_of_ble_eq_true rfl) rfl (fun g9 ⟨e9, h9e, h9p⟩ => ⟨e9, by unfold zLG; rw [show decide (B 0 2 < 3) = true from hcan, zBd_r he2, zBd_l h9e] <;> rfl, h9p.tr (fun j9 h9 => (f4 j9 (by omega)).trans (f2 j9 (by omega)))⟩) (gPe.kr (fun a11 g11 he11 h11 => ?_))
    obtain ⟨hs11, hl11, M11, N11, hM11, hN11, hT11, f11⟩ := h11
    have hT11_o := hT11
    obtain ⟨⟨hT11_F, hT11_a, hT11_0, hT11_1, hT11_2, hT11_3, hT11_4, hT11_5, hT11_6, hT11_7, hT11_8, hT11_9⟩, hT11_s, ⟨hT11_G, hT11_b⟩, ⟨hT11_l, hT11_c⟩, hT11_t, hT11_z⟩ := hT11_o
    have hT11_t_o := hT11_t
    obtain ⟨hT11_t_f, hT11_t_a, hT11_t_b⟩ := hT11_t_o
    have hok11 : zOk n a11.2 := (zNw_ok hok2 he11).1
    have hok11_o := hok11
    obtain ⟨hok11_1, hok11_2, hok11_3, hok11_4, hok11_5⟩ := hok11_o
    have hz11 : True := trivial
    refine g_aload_n E dX2_gateLine_28 rfl rfl rfl ?_
    refine g_getf E gciX2 dX2_gateLine_29 hT11_a 9 rfl (by decide) q255 (.inl rfl) (.ref bb) (hT11_9) rfl ?_
    have x12 := (f11 (bb) (by omega)).trans ((f4 (bb) (by omega)).trans ((f2 (bb) (by omega)).trans (hQ_r_a)))
    refine g_getf E gciX14 dX2_gateLine_32 x12 11 rfl (by decide) q566 (.inl rfl) (.int (nI (B 0 2))) (hQ_r_11) rfl ?_
    have x13 := (f11 (bb + 30 + B 0 2) (by omega)).trans (h4)
    refine g_callI (k := bb + 30 + B 0 2) (n9 := 2) (av := [.ref M2, .int (nI (B 0 2))]) (st := [.ref (bb + 30 + B 0 2)]) E (ct_X18_init l (nI (B 0 2)) x13) gciX18 dX2_gateLine_35 x13 q920 q921 q145 q922 (by decide +kernel) rfl rfl rfl ⟨by decide, by decide⟩ ⟨by decide, by decide⟩ (Nat.le_of_ble_eq_true rfl) rfl (gPn.k (fun g14 h14 => ?_))
    obtain ⟨h14, f14⟩ := h14
    refine g_astore_n E dX2_gateLine_38 rfl (by decide) rfl (lo1 := [some (.ref 1002), some (.ref (bb + 30 + B 0 2))]) rfl rfl ?_
    refine g_aload_n E dX2_gateLine_39 rfl rfl rfl ?_
    refine g_aload_n E dX2_gateLine_40 rfl rfl rfl ?_
    refine g_ldcS E (j := 19) (tx := "nose") rfl dX2_gateLine_41 rfl ?_
    refine g_iconst E (v := 1) dX2_gateLine_43 (by decide) rfl ?_
    refine g_bipush E (v := 99) dX2_gateLine_44 (by decide) rfl ?_
    have x15 := (f14 (1002) (by omega)).trans (hT11_a)
    have x17 := (f14 (1003) (by omega)).trans (hT11_b)
    have x18 := (f14 (1004) (by omega)).trans (hT11_c)
    have y19 := (hT11_t.fr  (fun j9 a9 b9 => f14 j9 (by omega)))
    have hT16 : pTk g14 n bb a11.2 M11 N11 T := ⟨⟨_, x15, hT11_0, hT11_1, hT11_2, hT11_3, hT11_4, hT11_5, hT11_6, hT11_7, hT11_8, hT11_9⟩, (fun h8 => ⟨(hT11_s h8).1.fr (fun j9 a9 b9 => f14 j9 (by omega)), (hT11_s h8).2⟩), ⟨_, x17⟩, ⟨_, x18⟩, y19, fun j9 a9 => (f14 j9 (by omega)).trans (hT11_z j9 (by omega))⟩
    refine g_callVX (k := 1002) (n9 := 3) (av := [.ref (1 + 2 * 19), .int 1, .int 99]) (st := [.ref (bb + 30 + B 0 2)]) E Rx (ct_X2_after l 1 99 hT16 (by omega) hok11 (by omega) (by omega) (by omega) rfl (by omega) (by omega)) gciX2 dX2_gateLine_46 x15 q799 q801 qs9 q121 q802 (by decide +kernel) rfl rfl ⟨by decide, by decide⟩ ⟨by decide, by decide⟩ (Nat.le_of_ble_eq_true rfl) rfl (fun g9 ⟨e9, h9e, h9p⟩ => ⟨e9, by unfold zLG; rw [show decide (B 0 2 < 3) = true from hcan, zBd_r he2, zBd_r he11, zBd_l h9e] <;> rfl, h9p.tr (fun j9 h9 => (((f14 j9 (by omega)).trans (f11 j9 (by omega))).trans (f4 j9 (by omega))).trans (f2 j9 (by omega)))⟩) (gPe.ki (fun a20 g20 he20 h20 => ?_))
    have hin20 := zAf_in he20
    obtain ⟨M20, N20, hM20, hN20, hT20, f20⟩ := h20
    have hT20_o := hT20
    obtain ⟨⟨hT20_F, hT20_a, hT20_0, hT20_1, hT20_2, hT20_3, hT20_4, hT20_5, hT20_6, hT20_7, hT20_8, hT20_9⟩, hT20_s, ⟨hT20_G, hT20_b⟩, ⟨hT20_l, hT20_c⟩, hT20_t, hT20_z⟩ := hT20_o
    have hT20_t_o := hT20_t
    obtain ⟨hT20_t_f, hT20_t_a, hT20_t_b⟩ := hT20_t_o
    have hok20 : zOk n a20.2 := zAf_ok hok11 he20
    have hok20_o := hok20
    obtain ⟨hok20_1, hok20_2, hok20_3, hok20_4, hok20_5⟩ := hok20_o
    have x21 := (f20 (bb + 30 + B 0 2) (by omega)).trans (h14)
    refine g_putf E gciX18 (v := .int (nI (a20.1))) dX2_gateLine_49 x21 2 rfl (by decide) q926 (.inl rfl) rfl (fun _ => rfl) (fun _ => rfl) rfl (g_upk (fun g22 h22 f22 => ?_))
    refine g_aload_n E dX2_gateLine_52 rfl rfl rfl ?_
    refine g_aload_n E dX2_gateLine_53 rfl rfl rfl ?_
    refine g_ldcS E (j := 20) (tx := "opens") rfl dX2_gateLine_54 rfl ?_
    refine g_iconst E (v := 0) dX2_gateLine_56 (by decide) rfl ?_
    refine g_bipush E (v := 23) dX2_gateLine_57 (by decide) rfl ?_
    have x23 := (f22 (1002) (by omega)).trans (hT20_a)
    have x25 := (f22 (1003) (by omega)).trans (hT20_b)
    have x26 := (f22 (1004) (by omega)).trans (hT20_c)
    have y27 := (hT20_t.fr  (fun j9 a9 b9 => f22 j9 (by omega)))
    have hT24 : pTk g22 n bb a20.2 M20 N20 T := ⟨⟨_, x23, hT20_0, hT20_1, hT20_2, hT20_3, hT20_4, hT20_5, hT20_6, hT20_7, hT20_8, hT20_9⟩, (fun h8 => ⟨(hT20_s h8).1.fr (fun j9 a9 b9 => f22 j9 (by omega)), (hT20_s h8).2⟩), ⟨_, x25⟩, ⟨_, x26⟩, y27, fun j9 a9 => (f22 j9 (by omega)).trans (hT20_z j9 (by omega))⟩
    refine g_callVX (k := 1002) (n9 := 3) (av := [.ref (1 + 2 * 20), .int 0, .int 23]) (st := [.ref (bb + 30 + B 0 2)]) E Rx (ct_X2_after l 0 23 hT24 (by omega) hok20 (by omega) (by omega) (by omega) rfl (by omega) (by omega)) gciX2 dX2_gateLine_59 x23 q799 q801 qs9 q121 q802 (by decide +kernel) rfl rfl ⟨by decide, by decide⟩ ⟨by decide, by decide⟩ (Nat.le_of_ble_eq_true rfl) rfl (fun g9 ⟨e9, h9e, h9p⟩ => ⟨e9, by unfold zLG; rw [show decide (B 0 2 < 3) = true from hcan, zBd_r he2, zBd_r he11, zBd_r he20, zBd_l h9e] <;> rfl, h9p.tr (fun j9 h9 => (((((f22 j9 (by omega)).trans (f20 j9 (by omega))).trans (f14 j9 (by omega))).trans (f11 j9 (by omega))).trans (f4 j9 (by omega))).trans (f2 j9 (by omega)))⟩) (gPe.ki (fun a28 g28 he28 h28 => ?_))
    have hin28 := zAf_in he28
    obtain ⟨M28, N28, hM28, hN28, hT28, f28⟩ := h28
    have hT28_o := hT28
    obtain ⟨⟨hT28_F, hT28_a, hT28_0, hT28_1, hT28_2, hT28_3, hT28_4, hT28_5, hT28_6, hT28_7, hT28_8, hT28_9⟩, hT28_s, ⟨hT28_G, hT28_b⟩, ⟨hT28_l, hT28_c⟩, hT28_t, hT28_z⟩ := hT28_o
    have hT28_t_o := hT28_t
    obtain ⟨hT28_t_f, hT28_t_a, hT28_t_b⟩ := hT28_t_o
    have hok28 : zOk n a28.2 := zAf_ok hok20 he28
    have hok28_o := hok28
    obtain ⟨hok28_1, hok28_2, hok28_3, hok28_4, hok28_5⟩ := hok28_o
    have x29 := (f28 (bb + 30 + B 0 2) (by omega)).trans (h22)
    refine g_putf E gciX18 (v := .int (nI (a28.1))) dX2_gateLine_62 x29 3 rfl (by decide) q929 (.inl rfl) rfl (fun _ => rfl) (fun _ => rfl) rfl (g_upk (fun g30 h30 f30 => ?_))
    refine g_aload_n E dX2_gateLine_65 rfl rfl rfl ?_
    refine g_aload_n E dX2_gateLine_66 rfl rfl rfl ?_
    refine g_ldcS E (j := 21) (tx := "shuts") rfl dX2_gateLine_67 rfl ?_
    refine g_aload_n E dX2_gateLine_69 rfl rfl rfl ?_
    refine g_getf E gciX18 dX2_gateLine_70 h30 3 rfl (by decide) q929 (.inl rfl) (.int (nI (a28.1))) (rfl) rfl ?_
    refine g_bipush E (v := 23) dX2_gateLine_73 (by decide) rfl ?_
    have x31 := (f30 (1002) (by omega)).trans (hT28_a)
    have x33 := (f30 (1003) (by omega)).trans (hT28_b)
    have x34 := (f30 (1004) (by omega)).trans (hT28_c)
    have y35 := (hT28_t.fr  (fun j9 a9 b9 => f30 j9 (by omega)))
    have hT32 : pTk g30 n bb a28.2 M28 N28 T := ⟨⟨_, x31, hT28_0, hT28_1, hT28_2, hT28_3, hT28_4, hT28_5, hT28_6, hT28_7, hT28_8, hT28_9⟩, (fun h8 => ⟨(hT28_s h8).1.fr (fun j9 a9 b9 => f30 j9 (by omega)), (hT28_s h8).2⟩), ⟨_, x33⟩, ⟨_, x34⟩, y35, fun j9 a9 => (f30 j9 (by omega)).trans (hT28_z j9 (by omega))⟩
    refine g_callVX (k := 1002) (n9 := 3) (av := [.ref (1 + 2 * 21), .int (nI (a28.1)), .int 23]) (st := [.ref (bb + 30 + B 0 2)]) E Rx (ct_X2_after l a28.1 23 hT32 (by omega) hok28 (by omega) (by omega) (by omega) rfl (by omega) (by omega)) gciX2 dX2_gateLine_75 x31 q799 q801 qs9 q121 q802 (by decide +kernel) rfl rfl ⟨by decide, by decide⟩ ⟨by decide, by decide⟩ (Nat.le_of_ble_eq_true rfl) rfl (fun g9 ⟨e9, h9e, h9p⟩ => ⟨e9, by unfold zLG; rw [show decide (B 0 2 < 3) = true from hcan, zBd_r he2, zBd_r he11, zBd_r he20, zBd_r he28, zBd_l h9e] <;> rfl, h9p.tr (fun j9 h9 => (((((((f30 j9 (by omega)).trans (f28 j9 (by omega))).trans (f22 j9 (by omega))).trans (f20 j9 (by omega))).trans (f14 j9 (by omega))).trans (f11 j9 (by omega))).trans (f4 j9 (by omega))).trans (f2 j9 (by omega)))⟩) (gPe.ki (fun a36 g36 he36 h36 => ?_))
    have hin36 := zAf_in he36
    obtain ⟨M36, N36, hM36, hN36, hT36, f36⟩ := h36
    have hT36_o := hT36
    obtain ⟨⟨hT36_F, hT36_a, hT36_0, hT36_1, hT36_2, hT36_3, hT36_4, hT36_5, hT36_6, hT36_7, hT36_8, hT36_9⟩, hT36_s, ⟨hT36_G, hT36_b⟩, ⟨hT36_l, hT36_c⟩, hT36_t, hT36_z⟩ := hT36_o
    have hT36_t_o := hT36_t
    obtain ⟨hT36_t_f, hT36_t_a, hT36_t_b⟩ := hT36_t_o
    have hok36 : zOk n a36.2 := zAf_ok hok28 he36
    have hok36_o := hok36
    obtain ⟨hok36_1, hok36_2, hok36_3, hok36_4, hok36_5⟩ := hok36_o
    have x37 := (f36 (bb + 30 + B 0 2) (by omega)).trans (h30)
    refine g_putf E gciX18 (v := .int (nI (a36.1))) dX2_gateLine_78 x37 4 rfl (by decide) q932 (.inl rfl) rfl (fun _ => rfl) (fun _ => rfl) rfl (g_upk (fun g38 h38 f38 => ?_))
    refine g_aload_n E dX2_gateLine_81 rfl rfl rfl ?_
    have x39 := (f38 (1002) (by omega)).trans (hT36_a)
    refine g_getf E gciX2 dX2_gateLine_82 x39 9 rfl (by decide) q255 (.inl rfl) (.ref bb) (hT36_9) rfl ?_
    have x40 := (f38 (bb) (by omega)).trans ((f36 (bb) (by omega)).trans ((f30 (bb) (by omega)).trans ((f28 (bb) (by omega)).trans ((f22 (bb) (by omega)).trans ((f20 (bb) (by omega)).trans ((f14 (bb) (by omega)).trans (x12)))))))
    refine g_getf E gciX14 dX2_gateLine_85 x40 2 rfl (by decide) q538 (.inl rfl) (.ref (bb + 3)) (hQ_r_2) rfl ?_
    refine g_aload_n E dX2_gateLine_88 rfl rfl rfl ?_
    refine g_getf E gciX2 dX2_gateLine_89 x39 9 rfl (by decide) q255 (.inl rfl) (.ref bb) (hT36_9) rfl ?_
    refine g_getf E gciX14 dX2_gateLine_92 x40 11 rfl (by decide) q566 (.inl rfl) (.int (nI (B 0 2))) (hQ_r_11) rfl ?_
    refine g_aload_n E dX2_gateLine_95 rfl rfl rfl ?_
    have x41 := (f38 (bb + 3) (by omega)).trans ((f36 (bb + 3) (by omega)).trans ((f30 (bb + 3) (by omega)).trans ((f28 (bb + 3) (by omega)).trans ((f22 (bb + 3) (by omega)).trans ((f20 (bb + 3) (by omega)).trans ((f14 (bb + 3) (by omega)).trans ((f11 (bb + 3) (by omega)).trans ((f4 (bb + 3) (by omega)).trans ((f2 (bb + 3) (by omega)).trans (hQ_r_a3))))))))))
    refine g_aast E gciX18 (j := B 0 2) dX2_gateLine_96 x41 (fun _ => rfl) h38 (.inl rfl) (rfl) (by omega) (by decide) rfl (g_upk (fun g42 h42 f42 => ?_))
    refine g_aload_n E dX2_gateLine_97 rfl rfl rfl ?_
    have x43 := (f42 (1002) (by omega)).trans (x39)
    refine g_getf E gciX2 dX2_gateLine_98 x43 9 rfl (by decide) q255 (.inl rfl) (.ref bb) (hT36_9) rfl ?_
    refine g_dup E dX2_gateLine_101 rfl rfl ?_
    have x44 := (f42 (bb) (by omega)).trans (x40)
    refine g_getf E gciX14 dX2_gateLine_102 x44 11 rfl (by decide) q566 (.inl rfl) (.int (nI (B 0 2))) (hQ_r_11) rfl ?_
    refine g_iconst E (v := 1) dX2_gateLine_105 (by decide) rfl ?_
    refine g_iadd E dX2_gateLine_106 rfl ?_
    refine g_as (y := nI (B 0 2 + 1)) ((nI_succ _).symm) ?_
    refine g_putf E gciX14 (v := .int (nI (B 0 2 + 1))) dX2_gateLine_107 x44 11 rfl (by decide) q566 (.inl rfl) rfl (fun _ => rfl) (fun _ => rfl) rfl (g_upk (fun g45 h45 f45 => ?_))
    have x46 := (f45 (1002) (by omega)).trans (x43)
    have x48 := (f45 (1003) (by omega)).trans ((f42 (1003) (by omega)).trans ((f38 (1003) (by omega)).trans (hT36_b)))
    have x49 := (f45 (1004) (by omega)).trans ((f42 (1004) (by omega)).trans ((f38 (1004) (by omega)).trans (hT36_c)))
    have y50 := (((hT36_t.fr  (fun j9 a9 b9 => f38 j9 (by omega))).fr  (fun j9 a9 b9 => f42 j9 (by omega))).fr  (fun j9 a9 b9 => f45 j9 (by omega)))
    have hT47 : pTk g45 n bb a36.2 M36 N36 T := ⟨⟨_, x46, hT36_0, hT36_1, hT36_2, hT36_3, hT36_4, hT36_5, hT36_6, hT36_7, hT36_8, hT36_9⟩, (fun h8 => ⟨(hT36_s h8).1.fr (fun j9 a9 b9 => ((f45 j9 (by omega)).trans (f42 j9 (by omega))).trans (f38 j9 (by omega))), (hT36_s h8).2⟩), ⟨_, x48⟩, ⟨_, x49⟩, y50, fun j9 a9 => (f45 j9 (by omega)).trans ((f42 j9 (by omega)).trans ((f38 j9 (by omega)).trans (hT36_z j9 (by omega))))⟩
    have x51 := (f45 (bb + 3) (by omega)).trans (h42)
    have x52 := (f45 (bb + 30 + B 0 2) (by omega)).trans ((f42 (bb + 30 + B 0 2) (by omega)).trans (h38))
    have y53 := (((((((((hs11.fr  (fun j9 a9 b9 => f14 j9 (by omega))).fr  (fun j9 a9 b9 => f20 j9 (by omega))).fr  (fun j9 a9 b9 => f22 j9 (by omega))).fr  (fun j9 a9 b9 => f28 j9 (by omega))).fr  (fun j9 a9 b9 => f30 j9 (by omega))).fr  (fun j9 a9 b9 => f36 j9 (by omega))).fr  (fun j9 a9 b9 => f38 j9 (by omega))).fr  (fun j9 a9 b9 => f42 j9 (by omega))).fr  (fun j9 a9 b9 => f45 j9 (by omega)))
    exact (gRx_leave Rx E).elim (fun z9 h9z => h9z.2.2 _ _ _ _ _ _ (g_vret h9z.2.1 h9z.1 dX2_gateLine_110 rfl (by decide) (by decide) (⟨(a36.2, bs (bs (bs (bs B 9 (B 0 2) a20.1) 10 (B 0 2) a28.1) 11 (B 0 2) a36.1) 0 2 (B 0 2 + 1), ns Nm 2 (B 0 2) a11.1), by unfold zLG; rw [show decide (B 0 2 < 3) = true from hcan, zBd_r he2, zBd_r he11, zBd_r he20, zBd_r he28, zBd_r he36] <;> rfl, rfl, M36, N36, by omega, by omega, hT47, pBq_G hw hx hQ hM (by omega) hc4 hin20.1 hin20.2 hin28.2 hin36.2 (⟨_, h45, hQ_r_0, hQ_r_1, hQ_r_2, hQ_r_3, hQ_r_4, hQ_r_5, hQ_r_6, hQ_r_7, hQ_r_8, hQ_r_9, hQ_r_10, rfl, hQ_r_12, hQ_r_13, hQ_r_14, hQ_r_15, hQ_gb⟩) ⟨_, x51, raS hQ_r_b3⟩ ⟨_, x52, rfl, rfl, rfl, rfl, rfl⟩ y53 (by omega) (by omega) (fun j9 a9 b9 c0_ c1_ c2_ => (((((((((((f45 j9 (by omega)).trans (f42 j9 (by omega))).trans (f38 j9 (by omega))).trans (f36 j9 (by omega))).trans (f30 j9 (by omega))).trans (f28 j9 (by omega))).trans (f22 j9 (by omega))).trans (f20 j9 (by omega))).trans (f14 j9 (by omega))).trans (f11 j9 (by omega))).trans (f4 j9 (by omega))).trans (f2 j9 (by omega))), pSl_G hw hS9 hc4 hin20.1 hin20.2 hin28.2 hin36.2 (fun j9 a9 b9 c0_ c1_ c2_ => (((((((((((f45 j9 (by omega)).trans (f42 j9 (by omega))).trans (f38 j9 (by omega))).trans (f36 j9 (by omega))).trans (f30 j9 (by omega))).trans (f28 j9 (by omega))).trans (f22 j9 (by omega))).trans (f20 j9 (by omega))).trans (f14 j9 (by omega))).trans (f11 j9 (by omega))).trans (f4 j9 (by omega))).trans (f2 j9 (by omega))), fun j9 h9 => (((((((((((f45 j9 (by omega)).trans (f42 j9 (by omega))).trans (f38 j9 (by omega))).trans (f36 j9 (by omega))).trans (f30 j9 (by omega))).trans (f28 j9 (by omega))).trans (f22 j9 (by omega))).trans (f20 j9 (by omega))).trans (f14 j9 (by omega))).trans (f11 j9 (by omega))).trans (f4 j9 (by omega))).trans (f2 j9 (by omega))⟩)))
