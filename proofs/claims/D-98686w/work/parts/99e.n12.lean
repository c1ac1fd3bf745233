/-! THE MODEL, walks, twelfth: names read, names known -/
set_option maxRecDepth 100000
set_option maxHeartbeats 400000 in
theorem ct_X13_readFresh_R (l : Launch) {g : gWM} {n mb : Nat} {T : Nat → Int32} {F0 : Nat → Value} {B : gBar} {Nm : zNm} {nl : List (Nat × Nat)} {t : zTk} (hF0 : pF0 F0 mb n) (hM : pMr g F0 true (.inr t)) (hTp : pTp g 2001 T n) (hn : n ≤ 1100) (hok : zOk n t) (hQ : pMt g mb B Nm nl) (hnl9 : nl.length ≤ 19) (hnk : zNk B Nm nl) (hmb : 10000 ≤ mb) : gCt l yX13_readFresh cX13_readFresh 3 (some .long) 7 0 0 149 [.ref 2000] g (gPw (fun w g1 => (∀ a, zBd (.inr t) (zNw T n B Nm) = .inr a → w = pk a.1) ∧ pMr g1 F0 true (zSt (zBd (.inr t) (zNw T n B Nm))) ∧ ∀ j, j ≠ 2000 → g1 j = g j)) := by
  refine gCt.of RX13 (by decide) rfl (lo := [some (.ref 2000), none, none]) 2 rfl (Nat.le_of_ble_eq_true rfl) (fun z E Rt => ?_)
  have hF0_o := hF0
  obtain ⟨hF0_4, hF0_5, hF0_7⟩ := hF0_o
  have hM_o := hM
  obtain ⟨hM_F, hM_a, hM_r, hM_9, hM_12, hM_8, hM_10, hM_11, hM_14, hM_k⟩ := hM_o
  obtain ⟨hM_w, hM_wh⟩ := hM_k rfl
  have hTp_o := hTp
  obtain ⟨hTp_f, hTp_a, hTp_b⟩ := hTp_o
  have hQ_o := hQ
  obtain ⟨⟨hQ_F, hQ_a, hQ_0, hQ_1, hQ_2, hQ_3, hQ_4, hQ_5, hQ_6, hQ_7, hQ_8, hQ_9, hQ_10, hQ_11, hQ_12, hQ_13, hQ_14, hQ_15, hQ_16, hQ_17, hQ_18, hQ_19, hQ_20, hQ_21, hQ_22, hQ_23, hQ_24, hQ_25, hQ_26, hQ_27, hQ_28, hQ_29, hQ_30, hQ_31, hQ_32, hQ_33, hQ_34⟩, ⟨⟨hQ_f1, hQ_a1, hQ_b1⟩, ⟨hQ_f2, hQ_a2, hQ_b2⟩, ⟨hQ_f3, hQ_a3, hQ_b3⟩, ⟨hQ_f4, hQ_a4, hQ_b4⟩, ⟨hQ_f5, hQ_a5, hQ_b5⟩, ⟨hQ_f6, hQ_a6, hQ_b6⟩, ⟨hQ_f7, hQ_a7, hQ_b7⟩, ⟨hQ_f8, hQ_a8, hQ_b8⟩, ⟨hQ_f9, hQ_a9, hQ_b9⟩, ⟨hQ_f10, hQ_a10, hQ_b10⟩, ⟨hQ_f11, hQ_a11, hQ_b11⟩, ⟨hQ_f12, hQ_a12, hQ_b12⟩, ⟨hQ_f13, hQ_a13, hQ_b13⟩, ⟨hQ_f14, hQ_a14, hQ_b14⟩, ⟨hQ_f15, hQ_a15, hQ_b15⟩, ⟨hQ_f16, hQ_a16, hQ_b16⟩, ⟨hQ_f17, hQ_a17, hQ_b17⟩, ⟨hQ_f18, hQ_a18, hQ_b18⟩, ⟨hQ_f19, hQ_a19, hQ_b19⟩, ⟨hQ_f20, hQ_a20, hQ_b20⟩, ⟨hQ_f21, hQ_a21, hQ_b21⟩⟩, ⟨hQ_f22, hQ_a22, hQ_b22⟩, ⟨hQ_f23, hQ_a23, hQ_b23⟩, hQ_f24, hQ_a24, hQ_b24⟩ := hQ_o
  refine g_aload_n E dX13_readFresh_0 rfl rfl rfl ?_
  refine g_callV (k := 2000) (n9 := 0) (av := []) (st := []) E (ct_X13_isName l (n := n) hM hok) gciX13 dX13_readFresh_1 hM_a q2086 q2088 qs66 q135 q2089 (by decide +kernel) rfl rfl ⟨by decide, by decide⟩ ⟨by decide, by decide⟩ (Nat.le_of_ble_eq_true rfl) rfl (gPu.k ?_)
  refine g_if_ne E dX13_readFresh_4 (tgt := 12) (by decide) rfl (fun c4 => ?_) (fun c4 => ?_)
  · have c4 := zb_n0.mp c4
    have h2 : t.2.1 = 2 := (of_decide_eq_true c4).1
    refine g_aload_n E dX13_readFresh_12 rfl rfl rfl ?_
    refine g_getf E gciX13 dX13_readFresh_13 hM_a 4 rfl (by decide) q1744 (.inl rfl) (.ref mb) ((hM_r 4 (.inl (by decide))).trans hF0_4) rfl ?_
    refine g_aload_n E dX13_readFresh_16 rfl rfl rfl ?_
    refine g_getf E gciX13 dX13_readFresh_17 hM_a 14 rfl (by decide) q1754 (.inl rfl) (.long (pk t.2.2.2.2)) (hM_14 h2) rfl ?_
    have hwo9 : zWo t.2.2.2.2 := hok.2.2.2.1 h2
    cases hq : zFind B Nm t.2.2.2.2 with
    | none =>
      have hz := zFx_n hnk hwo9 hq
      refine g_callV (k := mb) (n9 := 1) (av := [.long (pk t.2.2.2.2)]) (st := []) E (ct_X27_find l (pk t.2.2.2.2) hQ (by omega)) gciX27 dX13_readFresh_20 hQ_a q2099 q2100 q2101 q155 q2102 (by decide +kernel) rfl rfl ⟨by decide, by decide⟩ ⟨by decide, by decide⟩ (Nat.le_of_ble_eq_true rfl) rfl (gPu.k ?_)
      refine g_as (y := (-1)) (hz) ?_
      refine g_iconst E (v := (-1)) dX13_readFresh_23 (by decide) rfl ?_
      refine g_icmp_eq E dX13_readFresh_24 (tgt := 32) (by decide) rfl (fun _ => ?_) (fun h9 => absurd h9 (by decide))
      refine g_aload_n E dX13_readFresh_32 rfl rfl rfl ?_
      refine g_getf E gciX13 dX13_readFresh_33 hM_a 14 rfl (by decide) q1754 (.inl rfl) (.long (pk t.2.2.2.2)) (hM_14 h2) rfl ?_
      refine g_lstore_n E dX13_readFresh_36 rfl (by decide) rfl (lo1 := [some (.ref 2000), some (.long (pk t.2.2.2.2)), none]) rfl rfl ?_
      refine g_aload_n E dX13_readFresh_37 rfl rfl rfl ?_
      refine g_callV (k := 2000) (n9 := 0) (av := []) (st := []) E (ct_X13_goesOn l hF0 hM hTp (by omega) hok (show t.2.1 ≠ 1 by rw [h2]; decide)) gciX13 dX13_readFresh_38 hM_a q1989 q1991 qs53 q135 q1992 (by decide +kernel) rfl rfl ⟨by decide, by decide⟩ ⟨by decide, by decide⟩ (Nat.le_of_ble_eq_true rfl) rfl (gPn.k (fun g2 h2 => ?_))
      obtain ⟨hm2, f2⟩ := h2
      have hm2 : pMr g2 F0 true (.inr (zTn T n t.1)) := hm2
      have hm2_o := hm2
      obtain ⟨hm2_F, hm2_a, hm2_r, hm2_9, hm2_12, hm2_8, hm2_10, hm2_11, hm2_14, hm2_k⟩ := hm2_o
      obtain ⟨hm2_w, hm2_wh⟩ := hm2_k rfl
      refine g_lload_n E dX13_readFresh_41 rfl rfl rfl ?_
      have he3 : zBd (.inr t) (zNw T n B Nm) = _ := zNw_2 c4 hq
      exact g_lret E Rt dX13_readFresh_42 rfl (by decide) (by decide) (⟨_, rfl, (by rw [he3]; intro a h9; cases h9; rfl), by rw [he3]; exact hm2, fun j9 h9 => f2 j9 (by omega)⟩)
    | some q =>
      obtain ⟨i, hi, hz, hg⟩ := zFx_y hnk hwo9 hq
      have hql := zFind_lt hq
      refine g_callV (k := mb) (n9 := 1) (av := [.long (pk t.2.2.2.2)]) (st := []) E (ct_X27_find l (pk t.2.2.2.2) hQ (by omega)) gciX27 dX13_readFresh_20 hQ_a q2099 q2100 q2101 q155 q2102 (by decide +kernel) rfl rfl ⟨by decide, by decide⟩ ⟨by decide, by decide⟩ (Nat.le_of_ble_eq_true rfl) rfl (gPu.k ?_)
      refine g_as (y := nI i) (hz) ?_
      refine g_iconst E (v := (-1)) dX13_readFresh_23 (by decide) rfl ?_
      refine g_icmp_eq E dX13_readFresh_24 (tgt := 32) (by decide) rfl (fun c24 => ?_) (fun c24 => ?_)
      · exact absurd c24 (nI_m1 (by omega))
      · refine g_aload_n E dX13_readFresh_27 rfl rfl rfl ?_
        refine g_iconst E (v := 3) dX13_readFresh_28 (by decide) rfl ?_
        refine g_callV (k := 2000) (n9 := 1) (av := [.int 3]) (st := []) E (ct_X13_flaw l 3 hM) gciX13 dX13_readFresh_29 hM_a q2052 q2054 qs59 q135 q2055 (by decide +kernel) rfl rfl ⟨by decide, by decide⟩ ⟨by decide, by decide⟩ (Nat.le_of_ble_eq_true rfl) rfl (gPn.k (fun g4 h4 => ?_))
        obtain ⟨hm4, f4⟩ := h4
        have hm4 : pMr g4 F0 true (.inl (3, t.2.2.1)) := hm4
        have hm4_o := hm4
        obtain ⟨hm4_F, hm4_a, hm4_r, hm4_9, hm4_12, hm4_13, hm4_k⟩ := hm4_o
        obtain ⟨hm4_w, hm4_wh⟩ := hm4_k rfl
        refine g_aload_n E dX13_readFresh_32 rfl rfl rfl ?_
        refine g_getf E gciX13 dX13_readFresh_33 hm4_a 14 rfl (by decide) q1754 (.inl rfl) (.long hm4_w) (hm4_wh) rfl ?_
        refine g_lstore_n E dX13_readFresh_36 rfl (by decide) rfl (lo1 := [some (.ref 2000), some (.long hm4_w), none]) rfl rfl ?_
        refine g_aload_n E dX13_readFresh_37 rfl rfl rfl ?_
        have y5 := (hTp.fr  (fun j9 a9 b9 => f4 j9 (by omega)))
        refine g_callV (k := 2000) (n9 := 0) (av := []) (st := []) E (ct_X13_goesOn l hF0 hm4 y5 (by omega) trivial trivial) gciX13 dX13_readFresh_38 hm4_a q1989 q1991 qs53 q135 q1992 (by decide +kernel) rfl rfl ⟨by decide, by decide⟩ ⟨by decide, by decide⟩ (Nat.le_of_ble_eq_true rfl) rfl (gPn.k (fun g6 h6 => ?_))
        obtain ⟨hm6, f6⟩ := h6
        have hm6 : pMr g6 F0 true (.inl (3, t.2.2.1)) := hm6
        have hm6_o := hm6
        obtain ⟨hm6_F, hm6_a, hm6_r, hm6_9, hm6_12, hm6_13, hm6_k⟩ := hm6_o
        obtain ⟨hm6_w, hm6_wh⟩ := hm6_k rfl
        refine g_lload_n E dX13_readFresh_41 rfl rfl rfl ?_
        have he7 : zBd (.inr t) (zNw T n B Nm) = _ := zNw_3 c4 hq
        exact g_lret E Rt dX13_readFresh_42 rfl (by decide) (by decide) (⟨_, rfl, (by rw [he7]; intro a h9; cases h9), by rw [he7]; exact hm6, fun j9 h9 => (f6 j9 (by omega)).trans (f4 j9 (by omega))⟩)
  · have c4 := zb_0.mp c4
    refine g_aload_n E dX13_readFresh_7 rfl rfl rfl ?_
    refine g_iconst E (v := 1) dX13_readFresh_8 (by decide) rfl ?_
    refine g_callV (k := 2000) (n9 := 1) (av := [.int 1]) (st := []) E (ct_X13_flaw l 1 hM) gciX13 dX13_readFresh_9 hM_a q2052 q2054 qs59 q135 q2055 (by decide +kernel) rfl rfl ⟨by decide, by decide⟩ ⟨by decide, by decide⟩ (Nat.le_of_ble_eq_true rfl) rfl (gPn.k (fun g8 h8 => ?_))
    obtain ⟨hm8, f8⟩ := h8
    have hm8 : pMr g8 F0 true (.inl (1, t.2.2.1)) := hm8
    have hm8_o := hm8
    obtain ⟨hm8_F, hm8_a, hm8_r, hm8_9, hm8_12, hm8_13, hm8_k⟩ := hm8_o
    obtain ⟨hm8_w, hm8_wh⟩ := hm8_k rfl
    refine g_aload_n E dX13_readFresh_12 rfl rfl rfl ?_
    refine g_getf E gciX13 dX13_readFresh_13 hm8_a 4 rfl (by decide) q1744 (.inl rfl) (.ref mb) ((hm8_r 4 (.inl (by decide))).trans hF0_4) rfl ?_
    refine g_aload_n E dX13_readFresh_16 rfl rfl rfl ?_
    refine g_getf E gciX13 dX13_readFresh_17 hm8_a 14 rfl (by decide) q1754 (.inl rfl) (.long hm8_w) (hm8_wh) rfl ?_
    rcases zFx_or (nl := nl) (Nm := Nm) (w := hm8_w) nl.length 0 with ⟨hz, -⟩ | ⟨i, -, hi, hz, -⟩
    · have x10 := (f8 (mb) (by omega)).trans (hQ_a)
      have y11 := (hQ.fr  (fun j9 a9 b9 => f8 j9 (by omega)))
      refine g_callV (k := mb) (n9 := 1) (av := [.long hm8_w]) (st := []) E (ct_X27_find l hm8_w y11 (by omega)) gciX27 dX13_readFresh_20 x10 q2099 q2100 q2101 q155 q2102 (by decide +kernel) rfl rfl ⟨by decide, by decide⟩ ⟨by decide, by decide⟩ (Nat.le_of_ble_eq_true rfl) rfl (gPu.k ?_)
      refine g_as (y := (-1)) (hz) ?_
      refine g_iconst E (v := (-1)) dX13_readFresh_23 (by decide) rfl ?_
      refine g_icmp_eq E dX13_readFresh_24 (tgt := 32) (by decide) rfl (fun _ => ?_) (fun h9 => absurd h9 (by decide))
      refine g_aload_n E dX13_readFresh_32 rfl rfl rfl ?_
      refine g_getf E gciX13 dX13_readFresh_33 hm8_a 14 rfl (by decide) q1754 (.inl rfl) (.long hm8_w) (hm8_wh) rfl ?_
      refine g_lstore_n E dX13_readFresh_36 rfl (by decide) rfl (lo1 := [some (.ref 2000), some (.long hm8_w), none]) rfl rfl ?_
      refine g_aload_n E dX13_readFresh_37 rfl rfl rfl ?_
      have y12 := (hTp.fr  (fun j9 a9 b9 => f8 j9 (by omega)))
      refine g_callV (k := 2000) (n9 := 0) (av := []) (st := []) E (ct_X13_goesOn l hF0 hm8 y12 (by omega) trivial trivial) gciX13 dX13_readFresh_38 hm8_a q1989 q1991 qs53 q135 q1992 (by decide +kernel) rfl rfl ⟨by decide, by decide⟩ ⟨by decide, by decide⟩ (Nat.le_of_ble_eq_true rfl) rfl (gPn.k (fun g13 h13 => ?_))
      obtain ⟨hm13, f13⟩ := h13
      have hm13 : pMr g13 F0 true (.inl (1, t.2.2.1)) := hm13
      have hm13_o := hm13
      obtain ⟨hm13_F, hm13_a, hm13_r, hm13_9, hm13_12, hm13_13, hm13_k⟩ := hm13_o
      obtain ⟨hm13_w, hm13_wh⟩ := hm13_k rfl
      refine g_lload_n E dX13_readFresh_41 rfl rfl rfl ?_
      have he14 : zBd (.inr t) (zNw T n B Nm) = _ := zNw_1 c4
      exact g_lret E Rt dX13_readFresh_42 rfl (by decide) (by decide) (⟨_, rfl, (by rw [he14]; intro a h9; cases h9), by rw [he14]; exact hm13, fun j9 h9 => (f13 j9 (by omega)).trans (f8 j9 (by omega))⟩)
    · have hi : i < nl.length := by omega
      have x15 := (f8 (mb) (by omega)).trans (hQ_a)
      have y16 := (hQ.fr  (fun j9 a9 b9 => f8 j9 (by omega)))
      refine g_callV (k := mb) (n9 := 1) (av := [.long hm8_w]) (st := []) E (ct_X27_find l hm8_w y16 (by omega)) gciX27 dX13_readFresh_20 x15 q2099 q2100 q2101 q155 q2102 (by decide +kernel) rfl rfl ⟨by decide, by decide⟩ ⟨by decide, by decide⟩ (Nat.le_of_ble_eq_true rfl) rfl (gPu.k ?_)
      refine g_as (y := nI i) (hz) ?_
      refine g_iconst E (v := (-1)) dX13_readFresh_23 (by decide) rfl ?_
      refine g_icmp_eq E dX13_readFresh_24 (tgt := 32) (by decide) rfl (fun c24 => ?_) (fun c24 => ?_)
      · exact absurd c24 (nI_m1 (by omega))
      · refine g_aload_n E dX13_readFresh_27 rfl rfl rfl ?_
        refine g_iconst E (v := 3) dX13_readFresh_28 (by decide) rfl ?_
        refine g_callV (k := 2000) (n9 := 1) (av := [.int 3]) (st := []) E (ct_X13_flaw l 3 hm8) gciX13 dX13_readFresh_29 hm8_a q2052 q2054 qs59 q135 q2055 (by decide +kernel) rfl rfl ⟨by decide, by decide⟩ ⟨by decide, by decide⟩ (Nat.le_of_ble_eq_true rfl) rfl (gPn.k (fun g17 h17 => ?_))
        obtain ⟨hm17, f17⟩ := h17
        have hm17 : pMr g17 F0 true (.inl (1, t.2.2.1)) := hm17
        have hm17_o := hm17
        obtain ⟨hm17_F, hm17_a, hm17_r, hm17_9, hm17_12, hm17_13, hm17_k⟩ := hm17_o
        obtain ⟨hm17_w, hm17_wh⟩ := hm17_k rfl
        refine g_aload_n E dX13_readFresh_32 rfl rfl rfl ?_
        refine g_getf E gciX13 dX13_readFresh_33 hm17_a 14 rfl (by decide) q1754 (.inl rfl) (.long hm17_w) (hm17_wh) rfl ?_
        refine g_lstore_n E dX13_readFresh_36 rfl (by decide) rfl (lo1 := [some (.ref 2000), some (.long hm17_w), none]) rfl rfl ?_
        refine g_aload_n E dX13_readFresh_37 rfl rfl rfl ?_
        have y18 := ((hTp.fr  (fun j9 a9 b9 => f8 j9 (by omega))).fr  (fun j9 a9 b9 => f17 j9 (by omega)))
        refine g_callV (k := 2000) (n9 := 0) (av := []) (st := []) E (ct_X13_goesOn l hF0 hm17 y18 (by omega) trivial trivial) gciX13 dX13_readFresh_38 hm17_a q1989 q1991 qs53 q135 q1992 (by decide +kernel) rfl rfl ⟨by decide, by decide⟩ ⟨by decide, by decide⟩ (Nat.le_of_ble_eq_true rfl) rfl (gPn.k (fun g19 h19 => ?_))
        obtain ⟨hm19, f19⟩ := h19
        have hm19 : pMr g19 F0 true (.inl (1, t.2.2.1)) := hm19
        have hm19_o := hm19
        obtain ⟨hm19_F, hm19_a, hm19_r, hm19_9, hm19_12, hm19_13, hm19_k⟩ := hm19_o
        obtain ⟨hm19_w, hm19_wh⟩ := hm19_k rfl
        refine g_lload_n E dX13_readFresh_41 rfl rfl rfl ?_
        have he20 : zBd (.inr t) (zNw T n B Nm) = _ := zNw_1 c4
        exact g_lret E Rt dX13_readFresh_42 rfl (by decide) (by decide) (⟨_, rfl, (by rw [he20]; intro a h9; cases h9), by rw [he20]; exact hm19, fun j9 h9 => ((f19 j9 (by omega)).trans (f17 j9 (by omega))).trans (f8 j9 (by omega))⟩)
set_option maxHeartbeats 400000 in
theorem ct_X13_readFresh_L (l : Launch) {g : gWM} {n mb : Nat} {T : Nat → Int32} {F0 : Nat → Value} {B : gBar} {Nm : zNm} {nl : List (Nat × Nat)} {e : Nat × Nat} (hF0 : pF0 F0 mb n) (hM : pMr g F0 true (.inl e)) (hTp : pTp g 2001 T n) (hn : n ≤ 1100) (hQ : pMt g mb B Nm nl) (hnl9 : nl.length ≤ 19) (hnk : zNk B Nm nl) (hmb : 10000 ≤ mb) : gCt l yX13_readFresh cX13_readFresh 3 (some .long) 7 0 0 149 [.ref 2000] g (gPw (fun w g1 => (∀ a, zBd (.inl e) (zNw T n B Nm) = .inr a → w = pk a.1) ∧ pMr g1 F0 true (zSt (zBd (.inl e) (zNw T n B Nm))) ∧ ∀ j, j ≠ 2000 → g1 j = g j)) := by
  refine gCt.of RX13 (by decide) rfl (lo := [some (.ref 2000), none, none]) 2 rfl (Nat.le_of_ble_eq_true rfl) (fun z E Rt => ?_)
  have hF0_o := hF0
  obtain ⟨hF0_4, hF0_5, hF0_7⟩ := hF0_o
  have hM_o := hM
  obtain ⟨hM_F, hM_a, hM_r, hM_9, hM_12, hM_13, hM_k⟩ := hM_o
  obtain ⟨hM_w, hM_wh⟩ := hM_k rfl
  have hTp_o := hTp
  obtain ⟨hTp_f, hTp_a, hTp_b⟩ := hTp_o
  have hQ_o := hQ
  obtain ⟨⟨hQ_F, hQ_a, hQ_0, hQ_1, hQ_2, hQ_3, hQ_4, hQ_5, hQ_6, hQ_7, hQ_8, hQ_9, hQ_10, hQ_11, hQ_12, hQ_13, hQ_14, hQ_15, hQ_16, hQ_17, hQ_18, hQ_19, hQ_20, hQ_21, hQ_22, hQ_23, hQ_24, hQ_25, hQ_26, hQ_27, hQ_28, hQ_29, hQ_30, hQ_31, hQ_32, hQ_33, hQ_34⟩, ⟨⟨hQ_f1, hQ_a1, hQ_b1⟩, ⟨hQ_f2, hQ_a2, hQ_b2⟩, ⟨hQ_f3, hQ_a3, hQ_b3⟩, ⟨hQ_f4, hQ_a4, hQ_b4⟩, ⟨hQ_f5, hQ_a5, hQ_b5⟩, ⟨hQ_f6, hQ_a6, hQ_b6⟩, ⟨hQ_f7, hQ_a7, hQ_b7⟩, ⟨hQ_f8, hQ_a8, hQ_b8⟩, ⟨hQ_f9, hQ_a9, hQ_b9⟩, ⟨hQ_f10, hQ_a10, hQ_b10⟩, ⟨hQ_f11, hQ_a11, hQ_b11⟩, ⟨hQ_f12, hQ_a12, hQ_b12⟩, ⟨hQ_f13, hQ_a13, hQ_b13⟩, ⟨hQ_f14, hQ_a14, hQ_b14⟩, ⟨hQ_f15, hQ_a15, hQ_b15⟩, ⟨hQ_f16, hQ_a16, hQ_b16⟩, ⟨hQ_f17, hQ_a17, hQ_b17⟩, ⟨hQ_f18, hQ_a18, hQ_b18⟩, ⟨hQ_f19, hQ_a19, hQ_b19⟩, ⟨hQ_f20, hQ_a20, hQ_b20⟩, ⟨hQ_f21, hQ_a21, hQ_b21⟩⟩, ⟨hQ_f22, hQ_a22, hQ_b22⟩, ⟨hQ_f23, hQ_a23, hQ_b23⟩, hQ_f24, hQ_a24, hQ_b24⟩ := hQ_o
  refine g_aload_n E dX13_readFresh_0 rfl rfl rfl ?_
  refine g_callV (k := 2000) (n9 := 0) (av := []) (st := []) E (ct_X13_isName l (n := n) hM trivial) gciX13 dX13_readFresh_1 hM_a q2086 q2088 qs66 q135 q2089 (by decide +kernel) rfl rfl ⟨by decide, by decide⟩ ⟨by decide, by decide⟩ (Nat.le_of_ble_eq_true rfl) rfl (gPu.k ?_)
  refine g_as (y := 0) (rfl) ?_
  refine g_if_ne E dX13_readFresh_4 (tgt := 12) (by decide) rfl (fun h9 => absurd h9 (by decide)) (fun _ => ?_)
  refine g_aload_n E dX13_readFresh_7 rfl rfl rfl ?_
  refine g_iconst E (v := 1) dX13_readFresh_8 (by decide) rfl ?_
  refine g_callV (k := 2000) (n9 := 1) (av := [.int 1]) (st := []) E (ct_X13_flaw l 1 hM) gciX13 dX13_readFresh_9 hM_a q2052 q2054 qs59 q135 q2055 (by decide +kernel) rfl rfl ⟨by decide, by decide⟩ ⟨by decide, by decide⟩ (Nat.le_of_ble_eq_true rfl) rfl (gPn.k (fun g1 h1 => ?_))
  obtain ⟨hm1, f1⟩ := h1
  have hm1 : pMr g1 F0 true (.inl e) := hm1
  have hm1_o := hm1
  obtain ⟨hm1_F, hm1_a, hm1_r, hm1_9, hm1_12, hm1_13, hm1_k⟩ := hm1_o
  obtain ⟨hm1_w, hm1_wh⟩ := hm1_k rfl
  refine g_aload_n E dX13_readFresh_12 rfl rfl rfl ?_
  refine g_getf E gciX13 dX13_readFresh_13 hm1_a 4 rfl (by decide) q1744 (.inl rfl) (.ref mb) ((hm1_r 4 (.inl (by decide))).trans hF0_4) rfl ?_
  refine g_aload_n E dX13_readFresh_16 rfl rfl rfl ?_
  refine g_getf E gciX13 dX13_readFresh_17 hm1_a 14 rfl (by decide) q1754 (.inl rfl) (.long hm1_w) (hm1_wh) rfl ?_
  rcases zFx_or (nl := nl) (Nm := Nm) (w := hm1_w) nl.length 0 with ⟨hz, -⟩ | ⟨i, -, hi, hz, -⟩
  · have x3 := (f1 (mb) (by omega)).trans (hQ_a)
    have y4 := (hQ.fr  (fun j9 a9 b9 => f1 j9 (by omega)))
    refine g_callV (k := mb) (n9 := 1) (av := [.long hm1_w]) (st := []) E (ct_X27_find l hm1_w y4 (by omega)) gciX27 dX13_readFresh_20 x3 q2099 q2100 q2101 q155 q2102 (by decide +kernel) rfl rfl ⟨by decide, by decide⟩ ⟨by decide, by decide⟩ (Nat.le_of_ble_eq_true rfl) rfl (gPu.k ?_)
    refine g_as (y := (-1)) (hz) ?_
    refine g_iconst E (v := (-1)) dX13_readFresh_23 (by decide) rfl ?_
    refine g_icmp_eq E dX13_readFresh_24 (tgt := 32) (by decide) rfl (fun _ => ?_) (fun h9 => absurd h9 (by decide))
    refine g_aload_n E dX13_readFresh_32 rfl rfl rfl ?_
    refine g_getf E gciX13 dX13_readFresh_33 hm1_a 14 rfl (by decide) q1754 (.inl rfl) (.long hm1_w) (hm1_wh) rfl ?_
    refine g_lstore_n E dX13_readFresh_36 rfl (by decide) rfl (lo1 := [some (.ref 2000), some (.long hm1_w), none]) rfl rfl ?_
    refine g_aload_n E dX13_readFresh_37 rfl rfl rfl ?_
    have y5 := (hTp.fr  (fun j9 a9 b9 => f1 j9 (by omega)))
    refine g_callV (k := 2000) (n9 := 0) (av := []) (st := []) E (ct_X13_goesOn l hF0 hm1 y5 (by omega) trivial trivial) gciX13 dX13_readFresh_38 hm1_a q1989 q1991 qs53 q135 q1992 (by decide +kernel) rfl rfl ⟨by decide, by decide⟩ ⟨by decide, by decide⟩ (Nat.le_of_ble_eq_true rfl) rfl (gPn.k (fun g6 h6 => ?_))
    obtain ⟨hm6, f6⟩ := h6
    have hm6 : pMr g6 F0 true (.inl e) := hm6
    have hm6_o := hm6
    obtain ⟨hm6_F, hm6_a, hm6_r, hm6_9, hm6_12, hm6_13, hm6_k⟩ := hm6_o
    obtain ⟨hm6_w, hm6_wh⟩ := hm6_k rfl
    refine g_lload_n E dX13_readFresh_41 rfl rfl rfl ?_
    exact g_lret E Rt dX13_readFresh_42 rfl (by decide) (by decide) (⟨_, rfl, (fun a h9 => by cases h9), hm6, fun j9 h9 => (f6 j9 (by omega)).trans (f1 j9 (by omega))⟩)
  · have hi : i < nl.length := by omega
    have x7 := (f1 (mb) (by omega)).trans (hQ_a)
    have y8 := (hQ.fr  (fun j9 a9 b9 => f1 j9 (by omega)))
    refine g_callV (k := mb) (n9 := 1) (av := [.long hm1_w]) (st := []) E (ct_X27_find l hm1_w y8 (by omega)) gciX27 dX13_readFresh_20 x7 q2099 q2100 q2101 q155 q2102 (by decide +kernel) rfl rfl ⟨by decide, by decide⟩ ⟨by decide, by decide⟩ (Nat.le_of_ble_eq_true rfl) rfl (gPu.k ?_)
    refine g_as (y := nI i) (hz) ?_
    refine g_iconst E (v := (-1)) dX13_readFresh_23 (by decide) rfl ?_
    refine g_icmp_eq E dX13_readFresh_24 (tgt := 32) (by decide) rfl (fun c24 => ?_) (fun c24 => ?_)
    · exact absurd c24 (nI_m1 (by omega))
    · refine g_aload_n E dX13_readFresh_27 rfl rfl rfl ?_
      refine g_iconst E (v := 3) dX13_readFresh_28 (by decide) rfl ?_
      refine g_callV (k := 2000) (n9 := 1) (av := [.int 3]) (st := []) E (ct_X13_flaw l 3 hm1) gciX13 dX13_readFresh_29 hm1_a q2052 q2054 qs59 q135 q2055 (by decide +kernel) rfl rfl ⟨by decide, by decide⟩ ⟨by decide, by decide⟩ (Nat.le_of_ble_eq_true rfl) rfl (gPn.k (fun g9 h9 => ?_))
      obtain ⟨hm9, f9⟩ := h9
      have hm9 : pMr g9 F0 true (.inl e) := hm9
      have hm9_o := hm9
      obtain ⟨hm9_F, hm9_a, hm9_r, hm9_9, hm9_12, hm9_13, hm9_k⟩ := hm9_o
      obtain ⟨hm9_w, hm9_wh⟩ := hm9_k rfl
      refine g_aload_n E dX13_readFresh_32 rfl rfl rfl ?_
      refine g_getf E gciX13 dX13_readFresh_33 hm9_a 14 rfl (by decide) q1754 (.inl rfl) (.long hm9_w) (hm9_wh) rfl ?_
      refine g_lstore_n E dX13_readFresh_36 rfl (by decide) rfl (lo1 := [some (.ref 2000), some (.long hm9_w), none]) rfl rfl ?_
      refine g_aload_n E dX13_readFresh_37 rfl rfl rfl ?_
      have y10 := ((hTp.fr  (fun j9 a9 b9 => f1 j9 (by omega))).fr  (fun j9 a9 b9 => f9 j9 (by omega)))
      refine g_callV (k := 2000) (n9 := 0) (av := []) (st := []) E (ct_X13_goesOn l hF0 hm9 y10 (by omega) trivial trivial) gciX13 dX13_readFresh_38 hm9_a q1989 q1991 qs53 q135 q1992 (by decide +kernel) rfl rfl ⟨by decide, by decide⟩ ⟨by decide, by decide⟩ (Nat.le_of_ble_eq_true rfl) rfl (gPn.k (fun g11 h11 => ?_))
      obtain ⟨hm11, f11⟩ := h11
      have hm11 : pMr g11 F0 true (.inl e) := hm11
      have hm11_o := hm11
      obtain ⟨hm11_F, hm11_a, hm11_r, hm11_9, hm11_12, hm11_13, hm11_k⟩ := hm11_o
      obtain ⟨hm11_w, hm11_wh⟩ := hm11_k rfl
      refine g_lload_n E dX13_readFresh_41 rfl rfl rfl ?_
      exact g_lret E Rt dX13_readFresh_42 rfl (by decide) (by decide) (⟨_, rfl, (fun a h9 => by cases h9), hm11, fun j9 h9 => ((f11 j9 (by omega)).trans (f9 j9 (by omega))).trans (f1 j9 (by omega))⟩)
theorem ct_X13_readFresh (l : Launch) {g : gWM} {n mb : Nat} {T : Nat → Int32} {F0 : Nat → Value} {B : gBar} {Nm : zNm} {nl : List (Nat × Nat)} {x : zEr zTk} (hF0 : pF0 F0 mb n) (hM : pMr g F0 true x) (hTp : pTp g 2001 T n) (hn : n ≤ 1100) (hok : xOk n x) (hQ : pMt g mb B Nm nl) (hnl9 : nl.length ≤ 19) (hnk : zNk B Nm nl) (hmb : 10000 ≤ mb) : gCt l yX13_readFresh cX13_readFresh 3 (some .long) 7 0 0 149 [.ref 2000] g (gPw (fun w g1 => (∀ a, zBd (x) (zNw T n B Nm) = .inr a → w = pk a.1) ∧ pMr g1 F0 true (zSt (zBd (x) (zNw T n B Nm))) ∧ ∀ j, j ≠ 2000 → g1 j = g j)) := by
  cases x with
  | inl e => exact ct_X13_readFresh_L l hF0 hM hTp hn hQ hnl9 hnk hmb
  | inr t => exact ct_X13_readFresh_R l hF0 hM hTp hn hok hQ hnl9 hnk hmb
set_option maxHeartbeats 400000 in
theorem ct_X13_knownOne_R (l : Launch) {g : gWM} {n mb : Nat} {T : Nat → Int32} {F0 : Nat → Value} {B : gBar} {Nm : zNm} {nl : List (Nat × Nat)} {t : zTk} (s9 : Nat) (hF0 : pF0 F0 mb n) (hM : pMr g F0 true (.inr t)) (hTp : pTp g 2001 T n) (hn : n ≤ 1100) (hok : zOk n t) (hQ : pMt g mb B Nm nl) (hnl9 : nl.length ≤ 19) (hnk : zNk B Nm nl) (hmb : 10000 ≤ mb) (hs9 : s9 < 4) : gCt l yX13_knownOne cX13_knownOne 3 (some .int) 7 0 0 149 [.ref 2000, .int (nI s9)] g (gPi (nI (zVk s9 B Nm (.inr t))) (fun g1 => pMr g1 F0 true (zSk9 s9 B Nm (.inr t)) ∧ ∀ j, j ≠ 2000 → g1 j = g j)) := by
  refine gCt.of RX13 (by decide) rfl (lo := [some (.ref 2000), some (.int (nI s9)), none]) 1 rfl (Nat.le_of_ble_eq_true rfl) (fun z E Rt => ?_)
  have hF0_o := hF0
  obtain ⟨hF0_4, hF0_5, hF0_7⟩ := hF0_o
  have hM_o := hM
  obtain ⟨hM_F, hM_a, hM_r, hM_9, hM_12, hM_8, hM_10, hM_11, hM_14, hM_k⟩ := hM_o
  obtain ⟨hM_w, hM_wh⟩ := hM_k rfl
  have hTp_o := hTp
  obtain ⟨hTp_f, hTp_a, hTp_b⟩ := hTp_o
  have hQ_o := hQ
  obtain ⟨⟨hQ_F, hQ_a, hQ_0, hQ_1, hQ_2, hQ_3, hQ_4, hQ_5, hQ_6, hQ_7, hQ_8, hQ_9, hQ_10, hQ_11, hQ_12, hQ_13, hQ_14, hQ_15, hQ_16, hQ_17, hQ_18, hQ_19, hQ_20, hQ_21, hQ_22, hQ_23, hQ_24, hQ_25, hQ_26, hQ_27, hQ_28, hQ_29, hQ_30, hQ_31, hQ_32, hQ_33, hQ_34⟩, ⟨⟨hQ_f1, hQ_a1, hQ_b1⟩, ⟨hQ_f2, hQ_a2, hQ_b2⟩, ⟨hQ_f3, hQ_a3, hQ_b3⟩, ⟨hQ_f4, hQ_a4, hQ_b4⟩, ⟨hQ_f5, hQ_a5, hQ_b5⟩, ⟨hQ_f6, hQ_a6, hQ_b6⟩, ⟨hQ_f7, hQ_a7, hQ_b7⟩, ⟨hQ_f8, hQ_a8, hQ_b8⟩, ⟨hQ_f9, hQ_a9, hQ_b9⟩, ⟨hQ_f10, hQ_a10, hQ_b10⟩, ⟨hQ_f11, hQ_a11, hQ_b11⟩, ⟨hQ_f12, hQ_a12, hQ_b12⟩, ⟨hQ_f13, hQ_a13, hQ_b13⟩, ⟨hQ_f14, hQ_a14, hQ_b14⟩, ⟨hQ_f15, hQ_a15, hQ_b15⟩, ⟨hQ_f16, hQ_a16, hQ_b16⟩, ⟨hQ_f17, hQ_a17, hQ_b17⟩, ⟨hQ_f18, hQ_a18, hQ_b18⟩, ⟨hQ_f19, hQ_a19, hQ_b19⟩, ⟨hQ_f20, hQ_a20, hQ_b20⟩, ⟨hQ_f21, hQ_a21, hQ_b21⟩⟩, ⟨hQ_f22, hQ_a22, hQ_b22⟩, ⟨hQ_f23, hQ_a23, hQ_b23⟩, hQ_f24, hQ_a24, hQ_b24⟩ := hQ_o
  refine g_aload_n E dX13_knownOne_0 rfl rfl rfl ?_
  refine g_callV (k := 2000) (n9 := 0) (av := []) (st := []) E (ct_X13_isName l (n := n) hM hok) gciX13 dX13_knownOne_1 hM_a q2086 q2088 qs66 q135 q2089 (by decide +kernel) rfl rfl ⟨by decide, by decide⟩ ⟨by decide, by decide⟩ (Nat.le_of_ble_eq_true rfl) rfl (gPu.k ?_)
  refine g_if_ne E dX13_knownOne_4 (tgt := 12) (by decide) rfl (fun c4 => ?_) (fun c4 => ?_)
  · have c4 := zb_n0.mp c4
    have h2 : t.2.1 = 2 := (of_decide_eq_true c4).1
    refine g_aload_n E dX13_knownOne_12 rfl rfl rfl ?_
    refine g_getf E gciX13 dX13_knownOne_13 hM_a 4 rfl (by decide) q1744 (.inl rfl) (.ref mb) ((hM_r 4 (.inl (by decide))).trans hF0_4) rfl ?_
    refine g_aload_n E dX13_knownOne_16 rfl rfl rfl ?_
    refine g_getf E gciX13 dX13_knownOne_17 hM_a 14 rfl (by decide) q1754 (.inl rfl) (.long (pk t.2.2.2.2)) (hM_14 h2) rfl ?_
    have hwo9 : zWo t.2.2.2.2 := hok.2.2.2.1 h2
    cases hq : zFind B Nm t.2.2.2.2 with
    | none =>
      have hz := zFx_n hnk hwo9 hq
      refine g_callV (k := mb) (n9 := 1) (av := [.long (pk t.2.2.2.2)]) (st := []) E (ct_X27_find l (pk t.2.2.2.2) hQ (by omega)) gciX27 dX13_knownOne_20 hQ_a q2099 q2100 q2101 q155 q2102 (by decide +kernel) rfl rfl ⟨by decide, by decide⟩ ⟨by decide, by decide⟩ (Nat.le_of_ble_eq_true rfl) rfl (gPu.k ?_)
      refine g_as (y := (-1)) (hz) ?_
      refine g_istore_n E dX13_knownOne_23 rfl (by decide) rfl (lo1 := [some (.ref 2000), some (.int (nI s9)), some (.int (-1))]) rfl rfl ?_
      refine g_iload_n E dX13_knownOne_24 rfl rfl rfl ?_
      refine g_iconst E (v := (-1)) dX13_knownOne_25 (by decide) rfl ?_
      refine g_icmp_eq E dX13_knownOne_26 (tgt := 42) (by decide) rfl (fun _ => ?_) (fun h9 => absurd h9 (by decide))
      refine g_aload_n E dX13_knownOne_42 rfl rfl rfl ?_
      refine g_iconst E (v := 2) dX13_knownOne_43 (by decide) rfl ?_
      refine g_callV (k := 2000) (n9 := 1) (av := [.int 2]) (st := []) E (ct_X13_flaw l 2 hM) gciX13 dX13_knownOne_44 hM_a q2052 q2054 qs59 q135 q2055 (by decide +kernel) rfl rfl ⟨by decide, by decide⟩ ⟨by decide, by decide⟩ (Nat.le_of_ble_eq_true rfl) rfl (gPn.k (fun g2 h2 => ?_))
      obtain ⟨hm2, f2⟩ := h2
      have hm2 : pMr g2 F0 true (.inl (2, t.2.2.1)) := hm2
      have hm2_o := hm2
      obtain ⟨hm2_F, hm2_a, hm2_r, hm2_9, hm2_12, hm2_13, hm2_k⟩ := hm2_o
      obtain ⟨hm2_w, hm2_wh⟩ := hm2_k rfl
      refine g_aload_n E dX13_knownOne_47 rfl rfl rfl ?_
      refine g_getf E gciX13 dX13_knownOne_48 hm2_a 9 rfl (by decide) q1749 (.inl rfl) (.int 5) (hm2_9) rfl ?_
      refine g_iconst E (v := 5) dX13_knownOne_51 (by decide) rfl ?_
      refine g_icmp_ne E dX13_knownOne_52 (tgt := 59) (by decide) rfl (fun h9 => absurd h9 (by decide)) (fun _ => ?_)
      refine g_iconst E (v := 0) dX13_knownOne_55 (by decide) rfl ?_
      refine g_goto E dX13_knownOne_56 (tgt := 68) (by decide) ?_
      have he3 := zK_l (B := B) (Nm := Nm) (s := s9) (zKs_2 c4 hq)
      exact g_iret E Rt dX13_knownOne_68 rfl (by decide) (by decide) (by rw [he3.1, he3.2]; exact ⟨rfl, hm2, fun j9 h9 => f2 j9 (by omega)⟩)
    | some q =>
      obtain ⟨i, hi, hz, hg⟩ := zFx_y hnk hwo9 hq
      have hql := zFind_lt hq
      refine g_callV (k := mb) (n9 := 1) (av := [.long (pk t.2.2.2.2)]) (st := []) E (ct_X27_find l (pk t.2.2.2.2) hQ (by omega)) gciX27 dX13_knownOne_20 hQ_a q2099 q2100 q2101 q155 q2102 (by decide +kernel) rfl rfl ⟨by decide, by decide⟩ ⟨by decide, by decide⟩ (Nat.le_of_ble_eq_true rfl) rfl (gPu.k ?_)
      refine g_as (y := nI i) (hz) ?_
      refine g_istore_n E dX13_knownOne_23 rfl (by decide) rfl (lo1 := [some (.ref 2000), some (.int (nI s9)), some (.int (nI i))]) rfl rfl ?_
      refine g_iload_n E dX13_knownOne_24 rfl rfl rfl ?_
      refine g_iconst E (v := (-1)) dX13_knownOne_25 (by decide) rfl ?_
      refine g_icmp_eq E dX13_knownOne_26 (tgt := 42) (by decide) rfl (fun c26 => ?_) (fun c26 => ?_)
      · exact absurd c26 (nI_m1 (by omega))
      · refine g_aload_n E dX13_knownOne_29 rfl rfl rfl ?_
        refine g_getf E gciX13 dX13_knownOne_30 hM_a 4 rfl (by decide) q1744 (.inl rfl) (.ref mb) ((hM_r 4 (.inl (by decide))).trans hF0_4) rfl ?_
        refine g_getfN E gciX27 dX13_knownOne_33 hQ_a 33 rfl (by decide) q1914 (.inl rfl) (.ref (mb + 23)) (hQ_33) rfl ?_
        refine g_iload_n E dX13_knownOne_36 rfl rfl rfl ?_
        refine g_iald E dX13_knownOne_37 (j := i) hQ_a23 (rfl) (by omega) (by decide) (v := nI ((nl.getD i (0, 0)).1)) (hQ_b23 i (by omega)) rfl ?_
        refine g_as (y := nI q.1) (by rw [hg]) ?_
        refine g_iload_n E dX13_knownOne_38 rfl rfl rfl ?_
        refine g_icmp_eq E dX13_knownOne_39 (tgt := 47) (by decide) rfl (fun c39 => ?_) (fun c39 => ?_)
        · have h39 : q.1 = s9 := (nI_eq (a := q.1) (b := s9) (by omega) (by omega)).mp c39
          refine g_aload_n E dX13_knownOne_47 rfl rfl rfl ?_
          refine g_getf E gciX13 dX13_knownOne_48 hM_a 9 rfl (by decide) q1749 (.inl rfl) (.int (zSo t.2.1)) (hM_9) rfl ?_
          refine g_iconst E (v := 5) dX13_knownOne_51 (by decide) rfl ?_
          refine g_icmp_ne E dX13_knownOne_52 (tgt := 59) (by decide) rfl (fun c52 => ?_) (fun c52 => ?_)
          · refine g_aload_n E dX13_knownOne_59 rfl rfl rfl ?_
            refine g_getf E gciX13 dX13_knownOne_60 hM_a 4 rfl (by decide) q1744 (.inl rfl) (.ref mb) ((hM_r 4 (.inl (by decide))).trans hF0_4) rfl ?_
            refine g_getfN E gciX27 dX13_knownOne_63 hQ_a 34 rfl (by decide) q1916 (.inl rfl) (.ref (mb + 24)) (hQ_34) rfl ?_
            refine g_iload_n E dX13_knownOne_66 rfl rfl rfl ?_
            refine g_iald E dX13_knownOne_67 (j := i) hQ_a24 (rfl) (by omega) (by decide) (v := nI ((nl.getD i (0, 0)).2)) (hQ_b24 i (by omega)) rfl ?_
            refine g_as (y := nI q.2) (by rw [hg]) ?_
            have he4 := zK_r (B := B) (Nm := Nm) (s := s9) ((zKs_3 c4 hq).trans (if_pos h39))
            exact g_iret E Rt dX13_knownOne_68 rfl (by decide) (by decide) (by rw [he4.1, he4.2]; exact ⟨rfl, hM, fun j9 h9 => rfl⟩)
          · exact absurd (by first | exact c52 | exact Classical.not_not.mp c52) (zSo_5 _)
        · have h39 : ¬ q.1 = s9 := fun h9 => c39 ((nI_eq (a := q.1) (b := s9) (by omega) (by omega)).mpr h9)
          refine g_aload_n E dX13_knownOne_42 rfl rfl rfl ?_
          refine g_iconst E (v := 2) dX13_knownOne_43 (by decide) rfl ?_
          refine g_callV (k := 2000) (n9 := 1) (av := [.int 2]) (st := []) E (ct_X13_flaw l 2 hM) gciX13 dX13_knownOne_44 hM_a q2052 q2054 qs59 q135 q2055 (by decide +kernel) rfl rfl ⟨by decide, by decide⟩ ⟨by decide, by decide⟩ (Nat.le_of_ble_eq_true rfl) rfl (gPn.k (fun g5 h5 => ?_))
          obtain ⟨hm5, f5⟩ := h5
          have hm5 : pMr g5 F0 true (.inl (2, t.2.2.1)) := hm5
          have hm5_o := hm5
          obtain ⟨hm5_F, hm5_a, hm5_r, hm5_9, hm5_12, hm5_13, hm5_k⟩ := hm5_o
          obtain ⟨hm5_w, hm5_wh⟩ := hm5_k rfl
          refine g_aload_n E dX13_knownOne_47 rfl rfl rfl ?_
          refine g_getf E gciX13 dX13_knownOne_48 hm5_a 9 rfl (by decide) q1749 (.inl rfl) (.int 5) (hm5_9) rfl ?_
          refine g_iconst E (v := 5) dX13_knownOne_51 (by decide) rfl ?_
          refine g_icmp_ne E dX13_knownOne_52 (tgt := 59) (by decide) rfl (fun h9 => absurd h9 (by decide)) (fun _ => ?_)
          refine g_iconst E (v := 0) dX13_knownOne_55 (by decide) rfl ?_
          refine g_goto E dX13_knownOne_56 (tgt := 68) (by decide) ?_
          have he6 := zK_l (B := B) (Nm := Nm) (s := s9) ((zKs_3 c4 hq).trans (if_neg h39))
          exact g_iret E Rt dX13_knownOne_68 rfl (by decide) (by decide) (by rw [he6.1, he6.2]; exact ⟨rfl, hm5, fun j9 h9 => f5 j9 (by omega)⟩)
  · have c4 := zb_0.mp c4
    refine g_aload_n E dX13_knownOne_7 rfl rfl rfl ?_
    refine g_iconst E (v := 1) dX13_knownOne_8 (by decide) rfl ?_
    refine g_callV (k := 2000) (n9 := 1) (av := [.int 1]) (st := []) E (ct_X13_flaw l 1 hM) gciX13 dX13_knownOne_9 hM_a q2052 q2054 qs59 q135 q2055 (by decide +kernel) rfl rfl ⟨by decide, by decide⟩ ⟨by decide, by decide⟩ (Nat.le_of_ble_eq_true rfl) rfl (gPn.k (fun g7 h7 => ?_))
    obtain ⟨hm7, f7⟩ := h7
    have hm7 : pMr g7 F0 true (.inl (1, t.2.2.1)) := hm7
    have hm7_o := hm7
    obtain ⟨hm7_F, hm7_a, hm7_r, hm7_9, hm7_12, hm7_13, hm7_k⟩ := hm7_o
    obtain ⟨hm7_w, hm7_wh⟩ := hm7_k rfl
    refine g_aload_n E dX13_knownOne_12 rfl rfl rfl ?_
    refine g_getf E gciX13 dX13_knownOne_13 hm7_a 4 rfl (by decide) q1744 (.inl rfl) (.ref mb) ((hm7_r 4 (.inl (by decide))).trans hF0_4) rfl ?_
    refine g_aload_n E dX13_knownOne_16 rfl rfl rfl ?_
    refine g_getf E gciX13 dX13_knownOne_17 hm7_a 14 rfl (by decide) q1754 (.inl rfl) (.long hm7_w) (hm7_wh) rfl ?_
    rcases zFx_or (nl := nl) (Nm := Nm) (w := hm7_w) nl.length 0 with ⟨hz, -⟩ | ⟨i, -, hi, hz, -⟩
    · have x9 := (f7 (mb) (by omega)).trans (hQ_a)
      have y10 := (hQ.fr  (fun j9 a9 b9 => f7 j9 (by omega)))
      refine g_callV (k := mb) (n9 := 1) (av := [.long hm7_w]) (st := []) E (ct_X27_find l hm7_w y10 (by omega)) gciX27 dX13_knownOne_20 x9 q2099 q2100 q2101 q155 q2102 (by decide +kernel) rfl rfl ⟨by decide, by decide⟩ ⟨by decide, by decide⟩ (Nat.le_of_ble_eq_true rfl) rfl (gPu.k ?_)
      refine g_as (y := (-1)) (hz) ?_
      refine g_istore_n E dX13_knownOne_23 rfl (by decide) rfl (lo1 := [some (.ref 2000), some (.int (nI s9)), some (.int (-1))]) rfl rfl ?_
      refine g_iload_n E dX13_knownOne_24 rfl rfl rfl ?_
      refine g_iconst E (v := (-1)) dX13_knownOne_25 (by decide) rfl ?_
      refine g_icmp_eq E dX13_knownOne_26 (tgt := 42) (by decide) rfl (fun _ => ?_) (fun h9 => absurd h9 (by decide))
      refine g_aload_n E dX13_knownOne_42 rfl rfl rfl ?_
      refine g_iconst E (v := 2) dX13_knownOne_43 (by decide) rfl ?_
      refine g_callV (k := 2000) (n9 := 1) (av := [.int 2]) (st := []) E (ct_X13_flaw l 2 hm7) gciX13 dX13_knownOne_44 hm7_a q2052 q2054 qs59 q135 q2055 (by decide +kernel) rfl rfl ⟨by decide, by decide⟩ ⟨by decide, by decide⟩ (Nat.le_of_ble_eq_true rfl) rfl (gPn.k (fun g11 h11 => ?_))
      obtain ⟨hm11, f11⟩ := h11
      have hm11 : pMr g11 F0 true (.inl (1, t.2.2.1)) := hm11
      have hm11_o := hm11
      obtain ⟨hm11_F, hm11_a, hm11_r, hm11_9, hm11_12, hm11_13, hm11_k⟩ := hm11_o
      obtain ⟨hm11_w, hm11_wh⟩ := hm11_k rfl
      refine g_aload_n E dX13_knownOne_47 rfl rfl rfl ?_
      refine g_getf E gciX13 dX13_knownOne_48 hm11_a 9 rfl (by decide) q1749 (.inl rfl) (.int 5) (hm11_9) rfl ?_
      refine g_iconst E (v := 5) dX13_knownOne_51 (by decide) rfl ?_
      refine g_icmp_ne E dX13_knownOne_52 (tgt := 59) (by decide) rfl (fun h9 => absurd h9 (by decide)) (fun _ => ?_)
      refine g_iconst E (v := 0) dX13_knownOne_55 (by decide) rfl ?_
      refine g_goto E dX13_knownOne_56 (tgt := 68) (by decide) ?_
      have he12 := zK_l (B := B) (Nm := Nm) (s := s9) (zKs_1 c4)
      exact g_iret E Rt dX13_knownOne_68 rfl (by decide) (by decide) (by rw [he12.1, he12.2]; exact ⟨rfl, hm11, fun j9 h9 => (f11 j9 (by omega)).trans (f7 j9 (by omega))⟩)
    · have hi : i < nl.length := by omega
      have x13 := (f7 (mb) (by omega)).trans (hQ_a)
      have y14 := (hQ.fr  (fun j9 a9 b9 => f7 j9 (by omega)))
      refine g_callV (k := mb) (n9 := 1) (av := [.long hm7_w]) (st := []) E (ct_X27_find l hm7_w y14 (by omega)) gciX27 dX13_knownOne_20 x13 q2099 q2100 q2101 q155 q2102 (by decide +kernel) rfl rfl ⟨by decide, by decide⟩ ⟨by decide, by decide⟩ (Nat.le_of_ble_eq_true rfl) rfl (gPu.k ?_)
      refine g_as (y := nI i) (hz) ?_
      refine g_istore_n E dX13_knownOne_23 rfl (by decide) rfl (lo1 := [some (.ref 2000), some (.int (nI s9)), some (.int (nI i))]) rfl rfl ?_
      refine g_iload_n E dX13_knownOne_24 rfl rfl rfl ?_
      refine g_iconst E (v := (-1)) dX13_knownOne_25 (by decide) rfl ?_
      refine g_icmp_eq E dX13_knownOne_26 (tgt := 42) (by decide) rfl (fun c26 => ?_) (fun c26 => ?_)
      · exact absurd c26 (nI_m1 (by omega))
      · refine g_aload_n E dX13_knownOne_29 rfl rfl rfl ?_
        refine g_getf E gciX13 dX13_knownOne_30 hm7_a 4 rfl (by decide) q1744 (.inl rfl) (.ref mb) ((hm7_r 4 (.inl (by decide))).trans hF0_4) rfl ?_
        refine g_getfN E gciX27 dX13_knownOne_33 x13 33 rfl (by decide) q1914 (.inl rfl) (.ref (mb + 23)) (hQ_33) rfl ?_
        refine g_iload_n E dX13_knownOne_36 rfl rfl rfl ?_
        have x15 := (f7 (mb + 23) (by omega)).trans (hQ_a23)
        refine g_iald E dX13_knownOne_37 (j := i) x15 (rfl) (by omega) (by decide) (v := nI ((nl.getD i (0, 0)).1)) (hQ_b23 i (by omega)) rfl ?_
        refine g_iload_n E dX13_knownOne_38 rfl rfl rfl ?_
        refine g_icmp_eq E dX13_knownOne_39 (tgt := 47) (by decide) rfl (fun c39 => ?_) (fun c39 => ?_)
        · refine g_aload_n E dX13_knownOne_47 rfl rfl rfl ?_
          refine g_getf E gciX13 dX13_knownOne_48 hm7_a 9 rfl (by decide) q1749 (.inl rfl) (.int 5) (hm7_9) rfl ?_
          refine g_iconst E (v := 5) dX13_knownOne_51 (by decide) rfl ?_
          refine g_icmp_ne E dX13_knownOne_52 (tgt := 59) (by decide) rfl (fun h9 => absurd h9 (by decide)) (fun _ => ?_)
          refine g_iconst E (v := 0) dX13_knownOne_55 (by decide) rfl ?_
          refine g_goto E dX13_knownOne_56 (tgt := 68) (by decide) ?_
          have he16 := zK_l (B := B) (Nm := Nm) (s := s9) (zKs_1 c4)
          exact g_iret E Rt dX13_knownOne_68 rfl (by decide) (by decide) (by rw [he16.1, he16.2]; exact ⟨rfl, hm7, fun j9 h9 => f7 j9 (by omega)⟩)
        · refine g_aload_n E dX13_knownOne_42 rfl rfl rfl ?_
          refine g_iconst E (v := 2) dX13_knownOne_43 (by decide) rfl ?_
          refine g_callV (k := 2000) (n9 := 1) (av := [.int 2]) (st := []) E (ct_X13_flaw l 2 hm7) gciX13 dX13_knownOne_44 hm7_a q2052 q2054 qs59 q135 q2055 (by decide +kernel) rfl rfl ⟨by decide, by decide⟩ ⟨by decide, by decide⟩ (Nat.le_of_ble_eq_true rfl) rfl (gPn.k (fun g17 h17 => ?_))
          obtain ⟨hm17, f17⟩ := h17
          have hm17 : pMr g17 F0 true (.inl (1, t.2.2.1)) := hm17
          have hm17_o := hm17
          obtain ⟨hm17_F, hm17_a, hm17_r, hm17_9, hm17_12, hm17_13, hm17_k⟩ := hm17_o
          obtain ⟨hm17_w, hm17_wh⟩ := hm17_k rfl
          refine g_aload_n E dX13_knownOne_47 rfl rfl rfl ?_
          refine g_getf E gciX13 dX13_knownOne_48 hm17_a 9 rfl (by decide) q1749 (.inl rfl) (.int 5) (hm17_9) rfl ?_
          refine g_iconst E (v := 5) dX13_knownOne_51 (by decide) rfl ?_
          refine g_icmp_ne E dX13_knownOne_52 (tgt := 59) (by decide) rfl (fun h9 => absurd h9 (by decide)) (fun _ => ?_)
          refine g_iconst E (v := 0) dX13_knownOne_55 (by decide) rfl ?_
          refine g_goto E dX13_knownOne_56 (tgt := 68) (by decide) ?_
          have he18 := zK_l (B := B) (Nm := Nm) (s := s9) (zKs_1 c4)
          exact g_iret E Rt dX13_knownOne_68 rfl (by decide) (by decide) (by rw [he18.1, he18.2]; exact ⟨rfl, hm17, fun j9 h9 => (f17 j9 (by omega)).trans (f7 j9 (by omega))⟩)
set_option maxHeartbeats 400000 in
theorem ct_X13_knownOne_L (l : Launch) {g : gWM} {n mb : Nat} {T : Nat → Int32} {F0 : Nat → Value} {B : gBar} {Nm : zNm} {nl : List (Nat × Nat)} {e : Nat × Nat} (s9 : Nat) (hF0 : pF0 F0 mb n) (hM : pMr g F0 true (.inl e)) (hTp : pTp g 2001 T n) (hn : n ≤ 1100) (hQ : pMt g mb B Nm nl) (hnl9 : nl.length ≤ 19) (hnk : zNk B Nm nl) (hmb : 10000 ≤ mb) (hs9 : s9 < 4) : gCt l yX13_knownOne cX13_knownOne 3 (some .int) 7 0 0 149 [.ref 2000, .int (nI s9)] g (gPi (nI (zVk s9 B Nm (.inl e))) (fun g1 => pMr g1 F0 true (zSk9 s9 B Nm (.inl e)) ∧ ∀ j, j ≠ 2000 → g1 j = g j)) := by
  refine gCt.of RX13 (by decide) rfl (lo := [some (.ref 2000), some (.int (nI s9)), none]) 1 rfl (Nat.le_of_ble_eq_true rfl) (fun z E Rt => ?_)
  have hF0_o := hF0
  obtain ⟨hF0_4, hF0_5, hF0_7⟩ := hF0_o
  have hM_o := hM
  obtain ⟨hM_F, hM_a, hM_r, hM_9, hM_12, hM_13, hM_k⟩ := hM_o
  obtain ⟨hM_w, hM_wh⟩ := hM_k rfl
  have hTp_o := hTp
  obtain ⟨hTp_f, hTp_a, hTp_b⟩ := hTp_o
  have hQ_o := hQ
  obtain ⟨⟨hQ_F, hQ_a, hQ_0, hQ_1, hQ_2, hQ_3, hQ_4, hQ_5, hQ_6, hQ_7, hQ_8, hQ_9, hQ_10, hQ_11, hQ_12, hQ_13, hQ_14, hQ_15, hQ_16, hQ_17, hQ_18, hQ_19, hQ_20, hQ_21, hQ_22, hQ_23, hQ_24, hQ_25, hQ_26, hQ_27, hQ_28, hQ_29, hQ_30, hQ_31, hQ_32, hQ_33, hQ_34⟩, ⟨⟨hQ_f1, hQ_a1, hQ_b1⟩, ⟨hQ_f2, hQ_a2, hQ_b2⟩, ⟨hQ_f3, hQ_a3, hQ_b3⟩, ⟨hQ_f4, hQ_a4, hQ_b4⟩, ⟨hQ_f5, hQ_a5, hQ_b5⟩, ⟨hQ_f6, hQ_a6, hQ_b6⟩, ⟨hQ_f7, hQ_a7, hQ_b7⟩, ⟨hQ_f8, hQ_a8, hQ_b8⟩, ⟨hQ_f9, hQ_a9, hQ_b9⟩, ⟨hQ_f10, hQ_a10, hQ_b10⟩, ⟨hQ_f11, hQ_a11, hQ_b11⟩, ⟨hQ_f12, hQ_a12, hQ_b12⟩, ⟨hQ_f13, hQ_a13, hQ_b13⟩, ⟨hQ_f14, hQ_a14, hQ_b14⟩, ⟨hQ_f15, hQ_a15, hQ_b15⟩, ⟨hQ_f16, hQ_a16, hQ_b16⟩, ⟨hQ_f17, hQ_a17, hQ_b17⟩, ⟨hQ_f18, hQ_a18, hQ_b18⟩, ⟨hQ_f19, hQ_a19, hQ_b19⟩, ⟨hQ_f20, hQ_a20, hQ_b20⟩, ⟨hQ_f21, hQ_a21, hQ_b21⟩⟩, ⟨hQ_f22, hQ_a22, hQ_b22⟩, ⟨hQ_f23, hQ_a23, hQ_b23⟩, hQ_f24, hQ_a24, hQ_b24⟩ := hQ_o
  refine g_aload_n E dX13_knownOne_0 rfl rfl rfl ?_
  refine g_callV (k := 2000) (n9 := 0) (av := []) (st := []) E (ct_X13_isName l (n := n) hM trivial) gciX13 dX13_knownOne_1 hM_a q2086 q2088 qs66 q135 q2089 (by decide +kernel) rfl rfl ⟨by decide, by decide⟩ ⟨by decide, by decide⟩ (Nat.le_of_ble_eq_true rfl) rfl (gPu.k ?_)
  refine g_as (y := 0) (rfl) ?_
  refine g_if_ne E dX13_knownOne_4 (tgt := 12) (by decide) rfl (fun h9 => absurd h9 (by decide)) (fun _ => ?_)
  refine g_aload_n E dX13_knownOne_7 rfl rfl rfl ?_
  refine g_iconst E (v := 1) dX13_knownOne_8 (by decide) rfl ?_
  refine g_callV (k := 2000) (n9 := 1) (av := [.int 1]) (st := []) E (ct_X13_flaw l 1 hM) gciX13 dX13_knownOne_9 hM_a q2052 q2054 qs59 q135 q2055 (by decide +kernel) rfl rfl ⟨by decide, by decide⟩ ⟨by decide, by decide⟩ (Nat.le_of_ble_eq_true rfl) rfl (gPn.k (fun g1 h1 => ?_))
  obtain ⟨hm1, f1⟩ := h1
  have hm1 : pMr g1 F0 true (.inl e) := hm1
  have hm1_o := hm1
  obtain ⟨hm1_F, hm1_a, hm1_r, hm1_9, hm1_12, hm1_13, hm1_k⟩ := hm1_o
  obtain ⟨hm1_w, hm1_wh⟩ := hm1_k rfl
  refine g_aload_n E dX13_knownOne_12 rfl rfl rfl ?_
  refine g_getf E gciX13 dX13_knownOne_13 hm1_a 4 rfl (by decide) q1744 (.inl rfl) (.ref mb) ((hm1_r 4 (.inl (by decide))).trans hF0_4) rfl ?_
  refine g_aload_n E dX13_knownOne_16 rfl rfl rfl ?_
  refine g_getf E gciX13 dX13_knownOne_17 hm1_a 14 rfl (by decide) q1754 (.inl rfl) (.long hm1_w) (hm1_wh) rfl ?_
  rcases zFx_or (nl := nl) (Nm := Nm) (w := hm1_w) nl.length 0 with ⟨hz, -⟩ | ⟨i, -, hi, hz, -⟩
  · have x3 := (f1 (mb) (by omega)).trans (hQ_a)
    have y4 := (hQ.fr  (fun j9 a9 b9 => f1 j9 (by omega)))
    refine g_callV (k := mb) (n9 := 1) (av := [.long hm1_w]) (st := []) E (ct_X27_find l hm1_w y4 (by omega)) gciX27 dX13_knownOne_20 x3 q2099 q2100 q2101 q155 q2102 (by decide +kernel) rfl rfl ⟨by decide, by decide⟩ ⟨by decide, by decide⟩ (Nat.le_of_ble_eq_true rfl) rfl (gPu.k ?_)
    refine g_as (y := (-1)) (hz) ?_
    refine g_istore_n E dX13_knownOne_23 rfl (by decide) rfl (lo1 := [some (.ref 2000), some (.int (nI s9)), some (.int (-1))]) rfl rfl ?_
    refine g_iload_n E dX13_knownOne_24 rfl rfl rfl ?_
    refine g_iconst E (v := (-1)) dX13_knownOne_25 (by decide) rfl ?_
    refine g_icmp_eq E dX13_knownOne_26 (tgt := 42) (by decide) rfl (fun _ => ?_) (fun h9 => absurd h9 (by decide))
    refine g_aload_n E dX13_knownOne_42 rfl rfl rfl ?_
    refine g_iconst E (v := 2) dX13_knownOne_43 (by decide) rfl ?_
    refine g_callV (k := 2000) (n9 := 1) (av := [.int 2]) (st := []) E (ct_X13_flaw l 2 hm1) gciX13 dX13_knownOne_44 hm1_a q2052 q2054 qs59 q135 q2055 (by decide +kernel) rfl rfl ⟨by decide, by decide⟩ ⟨by decide, by decide⟩ (Nat.le_of_ble_eq_true rfl) rfl (gPn.k (fun g5 h5 => ?_))
    obtain ⟨hm5, f5⟩ := h5
    have hm5 : pMr g5 F0 true (.inl e) := hm5
    have hm5_o := hm5
    obtain ⟨hm5_F, hm5_a, hm5_r, hm5_9, hm5_12, hm5_13, hm5_k⟩ := hm5_o
    obtain ⟨hm5_w, hm5_wh⟩ := hm5_k rfl
    refine g_aload_n E dX13_knownOne_47 rfl rfl rfl ?_
    refine g_getf E gciX13 dX13_knownOne_48 hm5_a 9 rfl (by decide) q1749 (.inl rfl) (.int 5) (hm5_9) rfl ?_
    refine g_iconst E (v := 5) dX13_knownOne_51 (by decide) rfl ?_
    refine g_icmp_ne E dX13_knownOne_52 (tgt := 59) (by decide) rfl (fun h9 => absurd h9 (by decide)) (fun _ => ?_)
    refine g_iconst E (v := 0) dX13_knownOne_55 (by decide) rfl ?_
    refine g_goto E dX13_knownOne_56 (tgt := 68) (by decide) ?_
    exact g_iret E Rt dX13_knownOne_68 rfl (by decide) (by decide) (⟨rfl, hm5, fun j9 h9 => (f5 j9 (by omega)).trans (f1 j9 (by omega))⟩)
  · have hi : i < nl.length := by omega
    have x6 := (f1 (mb) (by omega)).trans (hQ_a)
    have y7 := (hQ.fr  (fun j9 a9 b9 => f1 j9 (by omega)))
    refine g_callV (k := mb) (n9 := 1) (av := [.long hm1_w]) (st := []) E (ct_X27_find l hm1_w y7 (by omega)) gciX27 dX13_knownOne_20 x6 q2099 q2100 q2101 q155 q2102 (by decide +kernel) rfl rfl ⟨by decide, by decide⟩ ⟨by decide, by decide⟩ (Nat.le_of_ble_eq_true rfl) rfl (gPu.k ?_)
    refine g_as (y := nI i) (hz) ?_
    refine g_istore_n E dX13_knownOne_23 rfl (by decide) rfl (lo1 := [some (.ref 2000), some (.int (nI s9)), some (.int (nI i))]) rfl rfl ?_
    refine g_iload_n E dX13_knownOne_24 rfl rfl rfl ?_
    refine g_iconst E (v := (-1)) dX13_knownOne_25 (by decide) rfl ?_
    refine g_icmp_eq E dX13_knownOne_26 (tgt := 42) (by decide) rfl (fun c26 => ?_) (fun c26 => ?_)
    · exact absurd c26 (nI_m1 (by omega))
    · refine g_aload_n E dX13_knownOne_29 rfl rfl rfl ?_
      refine g_getf E gciX13 dX13_knownOne_30 hm1_a 4 rfl (by decide) q1744 (.inl rfl) (.ref mb) ((hm1_r 4 (.inl (by decide))).trans hF0_4) rfl ?_
      refine g_getfN E gciX27 dX13_knownOne_33 x6 33 rfl (by decide) q1914 (.inl rfl) (.ref (mb + 23)) (hQ_33) rfl ?_
      refine g_iload_n E dX13_knownOne_36 rfl rfl rfl ?_
      have x8 := (f1 (mb + 23) (by omega)).trans (hQ_a23)
      refine g_iald E dX13_knownOne_37 (j := i) x8 (rfl) (by omega) (by decide) (v := nI ((nl.getD i (0, 0)).1)) (hQ_b23 i (by omega)) rfl ?_
      refine g_iload_n E dX13_knownOne_38 rfl rfl rfl ?_
      refine g_icmp_eq E dX13_knownOne_39 (tgt := 47) (by decide) rfl (fun c39 => ?_) (fun c39 => ?_)
      · refine g_aload_n E dX13_knownOne_47 rfl rfl rfl ?_
        refine g_getf E gciX13 dX13_knownOne_48 hm1_a 9 rfl (by decide) q1749 (.inl rfl) (.int 5) (hm1_9) rfl ?_
        refine g_iconst E (v := 5) dX13_knownOne_51 (by decide) rfl ?_
        refine g_icmp_ne E dX13_knownOne_52 (tgt := 59) (by decide) rfl (fun h9 => absurd h9 (by decide)) (fun _ => ?_)
        refine g_iconst E (v := 0) dX13_knownOne_55 (by decide) rfl ?_
        refine g_goto E dX13_knownOne_56 (tgt := 68) (by decide) ?_
        exact g_iret E Rt dX13_knownOne_68 rfl (by decide) (by decide) (⟨rfl, hm1, fun j9 h9 => f1 j9 (by omega)⟩)
      · refine g_aload_n E dX13_knownOne_42 rfl rfl rfl ?_
        refine g_iconst E (v := 2) dX13_knownOne_43 (by decide) rfl ?_
        refine g_callV (k := 2000) (n9 := 1) (av := [.int 2]) (st := []) E (ct_X13_flaw l 2 hm1) gciX13 dX13_knownOne_44 hm1_a q2052 q2054 qs59 q135 q2055 (by decide +kernel) rfl rfl ⟨by decide, by decide⟩ ⟨by decide, by decide⟩ (Nat.le_of_ble_eq_true rfl) rfl (gPn.k (fun g9 h9 => ?_))
        obtain ⟨hm9, f9⟩ := h9
        have hm9 : pMr g9 F0 true (.inl e) := hm9
        have hm9_o := hm9
        obtain ⟨hm9_F, hm9_a, hm9_r, hm9_9, hm9_12, hm9_13, hm9_k⟩ := hm9_o
        obtain ⟨hm9_w, hm9_wh⟩ := hm9_k rfl
        refine g_aload_n E dX13_knownOne_47 rfl rfl rfl ?_
        refine g_getf E gciX13 dX13_knownOne_48 hm9_a 9 rfl (by decide) q1749 (.inl rfl) (.int 5) (hm9_9) rfl ?_
        refine g_iconst E (v := 5) dX13_knownOne_51 (by decide) rfl ?_
        refine g_icmp_ne E dX13_knownOne_52 (tgt := 59) (by decide) rfl (fun h9 => absurd h9 (by decide)) (fun _ => ?_)
        refine g_iconst E (v := 0) dX13_knownOne_55 (by decide) rfl ?_
        refine g_goto E dX13_knownOne_56 (tgt := 68) (by decide) ?_
        exact g_iret E Rt dX13_knownOne_68 rfl (by decide) (by decide) (⟨rfl, hm9, fun j9 h9 => (f9 j9 (by omega)).trans (f1 j9 (by omega))⟩)
theorem ct_X13_knownOne (l : Launch) {g : gWM} {n mb : Nat} {T : Nat → Int32} {F0 : Nat → Value} {B : gBar} {Nm : zNm} {nl : List (Nat × Nat)} {x : zEr zTk} (s9 : Nat) (hF0 : pF0 F0 mb n) (hM : pMr g F0 true x) (hTp : pTp g 2001 T n) (hn : n ≤ 1100) (hok : xOk n x) (hQ : pMt g mb B Nm nl) (hnl9 : nl.length ≤ 19) (hnk : zNk B Nm nl) (hmb : 10000 ≤ mb) (hs9 : s9 < 4) : gCt l yX13_knownOne cX13_knownOne 3 (some .int) 7 0 0 149 [.ref 2000, .int (nI s9)] g (gPi (nI (zVk s9 B Nm (x))) (fun g1 => pMr g1 F0 true (zSk9 s9 B Nm (x)) ∧ ∀ j, j ≠ 2000 → g1 j = g j)) := by
  cases x with
  | inl e => exact ct_X13_knownOne_L l s9 hF0 hM hTp hn hQ hnl9 hnk hmb hs9
  | inr t => exact ct_X13_knownOne_R l s9 hF0 hM hTp hn hok hQ hnl9 hnk hmb hs9
set_option maxHeartbeats 400000 in
theorem ct_X13_readKnown (l : Launch) {g : gWM} {n mb : Nat} {T : Nat → Int32} {F0 : Nat → Value} {B : gBar} {Nm : zNm} {nl : List (Nat × Nat)} {x : zEr zTk} (s9 : Nat) (hF0 : pF0 F0 mb n) (hM : pMr g F0 true (x)) (hTp : pTp g 2001 T n) (hn : n ≤ 1100) (hok : xOk n x) (hQ : pMt g mb B Nm nl) (hnl9 : nl.length ≤ 19) (hnk : zNk B Nm nl) (hmb : 10000 ≤ mb) (hs9 : s9 < 4) : gCt l yX13_readKnown cX13_readKnown 3 (some .int) 8 0 0 171 [.ref 2000, .int (nI s9)] g (gPi (nI (zVl 0 (zBd x (zKx T n s9 B Nm)))) (fun g1 => pMr g1 F0 true (zSt (zBd x (zKx T n s9 B Nm))) ∧ ∀ j, j ≠ 2000 → g1 j = g j)) := by
  refine gCt.of RX13 (by decide) rfl (lo := [some (.ref 2000), some (.int (nI s9)), none]) 1 rfl (Nat.le_of_ble_eq_true rfl) (fun z E Rt => ?_)
  have hF0_o := hF0
  obtain ⟨hF0_4, hF0_5, hF0_7⟩ := hF0_o
  have hM_o := hM
  obtain ⟨hM_F, hM_a, hM_r, hM_s⟩ := hM_o
  have hTp_o := hTp
  obtain ⟨hTp_f, hTp_a, hTp_b⟩ := hTp_o
  have hQ_o := hQ
  obtain ⟨⟨hQ_F, hQ_a, hQ_0, hQ_1, hQ_2, hQ_3, hQ_4, hQ_5, hQ_6, hQ_7, hQ_8, hQ_9, hQ_10, hQ_11, hQ_12, hQ_13, hQ_14, hQ_15, hQ_16, hQ_17, hQ_18, hQ_19, hQ_20, hQ_21, hQ_22, hQ_23, hQ_24, hQ_25, hQ_26, hQ_27, hQ_28, hQ_29, hQ_30, hQ_31, hQ_32, hQ_33, hQ_34⟩, ⟨⟨hQ_f1, hQ_a1, hQ_b1⟩, ⟨hQ_f2, hQ_a2, hQ_b2⟩, ⟨hQ_f3, hQ_a3, hQ_b3⟩, ⟨hQ_f4, hQ_a4, hQ_b4⟩, ⟨hQ_f5, hQ_a5, hQ_b5⟩, ⟨hQ_f6, hQ_a6, hQ_b6⟩, ⟨hQ_f7, hQ_a7, hQ_b7⟩, ⟨hQ_f8, hQ_a8, hQ_b8⟩, ⟨hQ_f9, hQ_a9, hQ_b9⟩, ⟨hQ_f10, hQ_a10, hQ_b10⟩, ⟨hQ_f11, hQ_a11, hQ_b11⟩, ⟨hQ_f12, hQ_a12, hQ_b12⟩, ⟨hQ_f13, hQ_a13, hQ_b13⟩, ⟨hQ_f14, hQ_a14, hQ_b14⟩, ⟨hQ_f15, hQ_a15, hQ_b15⟩, ⟨hQ_f16, hQ_a16, hQ_b16⟩, ⟨hQ_f17, hQ_a17, hQ_b17⟩, ⟨hQ_f18, hQ_a18, hQ_b18⟩, ⟨hQ_f19, hQ_a19, hQ_b19⟩, ⟨hQ_f20, hQ_a20, hQ_b20⟩, ⟨hQ_f21, hQ_a21, hQ_b21⟩⟩, ⟨hQ_f22, hQ_a22, hQ_b22⟩, ⟨hQ_f23, hQ_a23, hQ_b23⟩, hQ_f24, hQ_a24, hQ_b24⟩ := hQ_o
  refine g_aload_n E dX13_readKnown_0 rfl rfl rfl ?_
  refine g_iload_n E dX13_readKnown_1 rfl rfl rfl ?_
  refine g_callV (k := 2000) (n9 := 1) (av := [.int (nI s9)]) (st := []) E (ct_X13_knownOne l s9 hF0 hM hTp (by omega) hok hQ hnl9 hnk (by omega) (by omega)) gciX13 dX13_readKnown_2 hM_a q2139 q2141 qs73 q135 q2142 (by decide +kernel) rfl rfl ⟨by decide, by decide⟩ ⟨by decide, by decide⟩ (Nat.le_of_ble_eq_true rfl) rfl (gPi.k (fun g1 h1 => ?_))
  obtain ⟨hm1, f1⟩ := h1
  obtain ⟨x1, hx1⟩ : ∃ y, y = zSk9 s9 B Nm x := ⟨_, rfl⟩
  rw [← hx1] at hm1
  have hm1_o := hm1
  obtain ⟨hm1_F, hm1_a, hm1_r, hm1_s⟩ := hm1_o
  refine g_istore_n E dX13_readKnown_5 rfl (by decide) rfl (lo1 := [some (.ref 2000), some (.int (nI s9)), some (.int (nI (zVk s9 B Nm x)))]) rfl rfl ?_
  refine g_aload_n E dX13_readKnown_6 rfl rfl rfl ?_
  have y2 := (hTp.fr  (fun j9 a9 b9 => f1 j9 (by omega)))
  refine g_callV (k := 2000) (n9 := 0) (av := []) (st := []) E (ct_X13_goesOn l hF0 hm1 y2 (by omega) (by rw [hx1]; exact zSk9_ok hok) (by rw [hx1]; exact zSk9_nb)) gciX13 dX13_readKnown_7 hm1_a q1989 q1991 qs53 q135 q1992 (by decide +kernel) rfl rfl ⟨by decide, by decide⟩ ⟨by decide, by decide⟩ (Nat.le_of_ble_eq_true rfl) rfl (gPn.k (fun g3 h3 => ?_))
  obtain ⟨hm3, f3⟩ := h3
  obtain ⟨x3, hx3⟩ : ∃ y, y = xGo T n x1 := ⟨_, rfl⟩
  rw [← hx3] at hm3
  have hm3_o := hm3
  obtain ⟨hm3_F, hm3_a, hm3_r, hm3_s⟩ := hm3_o
  refine g_iload_n E dX13_readKnown_10 rfl rfl rfl ?_
  exact g_iret E Rt dX13_readKnown_11 rfl (by decide) (by decide) (⟨by rw [← zKx_vl], by rw [← zKx_go, ← hx1, ← hx3]; exact hm3, fun j9 h9 => (f3 j9 (by omega)).trans (f1 j9 (by omega))⟩)
