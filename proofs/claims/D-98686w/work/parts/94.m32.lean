/-! WALKS, thirty-second: the component's barrier -/
set_option maxRecDepth 100000
/-- what is told: nothing where the number is out of bounds -/
def zBr (T : Nat → Int32) (tp : Nat) (nn : Int32) : Option (zEr (gBar × zNm)) := if zIn nn 0 (nI tp) then some (zRead T nn.toNatClampNeg) else none
def qBaC (g : gWM) (bar : Value) (bb tp mm um : Nat) (fa : Int32) (o : Option (zEr (gBar × zNm))) : Option Value → gWM → Prop := fun v g1 => match o with
  | none => v = some (.int (-1)) ∧ pSo g1 bar tp 2 fa (-1) mm um ∧ ∀ j, j ≠ 1000 → g1 j = g j
  | some (.inl e) => v = some (.int (-1)) ∧ pSo g1 bar 0 4 (nI e.1) (nI e.2) mm um ∧ pRd g1 ∧ (∃ N1, bb + 100 ≤ N1 ∧ ∀ j, N1 ≤ j → g1 j = none) ∧ ∀ j, (j ≠ 1000 ∧ (j < 1002 ∨ 1005 ≤ j) ∧ j < bb) → g1 j = g j
  | some (.inr a) => v = some (.int (nI (a.1 0 3))) ∧ wfB a.1 ∧ pSo g1 (.ref bb) 0 0 0 (-1) 0 0 ∧ pRd g1 ∧ pBr g1 bb a.1 ∧ pLd g1 1010 (.ref bb) a.1 (zR0 a.1) 0 ∧ (∃ sd2 sm2, pCo g1 1020 bb 1005 false sd2 sm2) ∧ (∃ R9, pLd g1 1022 (.ref bb) a.1 R9 0) ∧ pAr g1 1021 a.1 false 0 (a.1 0 4) ∧ (∃ N1, bb + 100 ≤ N1 ∧ ∀ j, N1 ≤ j → g1 j = none) ∧ ∀ j, (j ≠ 1000 ∧ (j < 1002 ∨ 1005 ≤ j) ∧ (j < 1010 ∨ 1014 ≤ j) ∧ (j < 1020 ∨ 1026 ≤ j) ∧ j < bb) → g1 j = g j
theorem pTp.le {g : gWM} {tk tp n : Nat} {T : Nat → Int32} (h : pTp g tk T tp) (hn : n ≤ tp) : pTp g tk T n := by
  obtain ⟨f, h1, h2⟩ := h
  exact ⟨f, h1, fun i hi => h2 i (by omega)⟩
set_option maxHeartbeats 4000000 in
theorem ct_X1_barrier (l : Launch) {g : gWM} {bar : Value} {bb tp mm um : Nat} {tr fa wh : Int32} {T : Nat → Int32} (nn : Int32) (hSo : pSo g bar tp tr fa wh mm um) (hR : pRd g) (hTp : pTp g 1001 T tp) (htp : tp ≤ 1100) (hLs : pLs g 1010) (hCs : pCs g 1020) (hL1 : pLw g 1005 1) (hbb : 10000 ≤ bb) (hfz : ∀ j, bb ≤ j → g j = none) : gCtH l yX1_barrier cX1_barrier 3 (some .int) [(32, 44, 47, 122)] 12 (50 + 35 * (tp + 2)) (400 + 229 * (tp + 2)) 272 [.ref 1000, .int nn] g (qBaC g bar bb tp mm um fa (zBr T tp nn)) := by
  refine gCtH.of RX1 (by decide) rfl (lo := [some (.ref 1000), some (.int nn), none]) 1 rfl (Nat.le_of_ble_eq_true rfl) (fun z E Rt Tb => ?_)
  have hSo_o := hSo
  obtain ⟨hSo_F, hSo_a, hSo_0, hSo_1, hSo_2, hSo_3, hSo_4, hSo_5, hSo_6, hSo_7, hSo_8, hSo_9, hSo_10, hSo_11, hSo_12, hSo_13, hSo_14, hSo_15, hSo_16, hSo_17, hSo_18, hSo_19⟩ := hSo_o
  obtain ⟨⟨hR_F, hR_a, hR_0, hR_1, hR_2⟩, ⟨hR_G, hR_b⟩, ⟨hR_l, hR_c⟩⟩ := hR
  have hTp_o := hTp
  obtain ⟨hTp_f, hTp_a, hTp_b⟩ := hTp_o
  have hLs_o := hLs
  obtain ⟨⟨hLs_F, hLs_a, hLs_0, hLs_1, hLs_2⟩, ⟨hLs_s, hLs_sa⟩, ⟨hLs_e, hLs_ea⟩, hLs_p, hLs_pa⟩ := hLs_o
  have hCs_o := hCs
  obtain ⟨⟨hCs_F, hCs_a, hCs_0, hCs_1⟩, ⟨hCs_f, hCs_b⟩, hCs_l⟩ := hCs_o
  have hCs_l_o := hCs_l
  obtain ⟨⟨hCs_l_F, hCs_l_a, hCs_l_0, hCs_l_1, hCs_l_2⟩, ⟨hCs_l_s, hCs_l_sa⟩, ⟨hCs_l_e, hCs_l_ea⟩, hCs_l_p, hCs_l_pa⟩ := hCs_l_o
  refine g_aload_n E dX1_barrier_0 rfl rfl rfl ?_
  refine g_callV (k := 1000) (n9 := 0) (av := []) (st := []) E (ct_X1_anew l hSo) gciX1 dX1_barrier_1 hSo_a q496 q498 qs2 q120 q499 (by decide +kernel) rfl rfl ⟨by omega, by omega⟩ ⟨by omega, by omega⟩ (Nat.le_of_ble_eq_true rfl) rfl (gPn.k (fun g1 h1 => ?_))
  obtain ⟨hs1, f1⟩ := h1
  have hs1_o := hs1
  obtain ⟨hs1_F, hs1_a, hs1_0, hs1_1, hs1_2, hs1_3, hs1_4, hs1_5, hs1_6, hs1_7, hs1_8, hs1_9, hs1_10, hs1_11, hs1_12, hs1_13, hs1_14, hs1_15, hs1_16, hs1_17, hs1_18, hs1_19⟩ := hs1_o
  refine g_iload_n E dX1_barrier_4 rfl rfl rfl ?_
  refine g_iconst E (v := 0) dX1_barrier_5 (by decide) rfl ?_
  refine g_aload_n E dX1_barrier_6 rfl rfl rfl ?_
  refine g_getf E gciX1 dX1_barrier_7 hs1_a 1 rfl (by decide) q423 (.inl rfl) (.int (nI tp)) (hs1_1) rfl ?_
  refine g_callS (n9 := 3) (av := [.int nn, .int 0, .int (nI tp)]) (st := []) E (ct_X1_in l nn 0 (nI tp)) dX1_barrier_10 q500 q501 q120 q502 (by decide +kernel) rfl rfl ⟨by omega, by omega⟩ ⟨by omega, by omega⟩ (Nat.le_of_ble_eq_true rfl) rfl (gPu.k ?_)
  refine g_if_ne E dX1_barrier_13 (tgt := 22) (by decide) rfl (fun c13 => ?_) (fun c13 => ?_)
  · have c13 := zb_n0.mp c13
    have c13b := c13
    obtain ⟨n, rfl, ⟨-, hn⟩, hn9⟩ := zIn_nI (a := 0) (m := tp) (by decide) (by omega) c13
    refine g_aload_n E dX1_barrier_22 rfl rfl rfl ?_
    refine g_iconst E (v := 0) dX1_barrier_23 (by decide) rfl ?_
    refine g_putf E gciX1 (v := .int 0) dX1_barrier_24 hs1_a 1 rfl (by decide) q423 (.inl rfl) rfl (fun _ => rfl) (fun _ => rfl) rfl (g_upk (fun g2 h2 f2 => ?_))
    refine g_aload_n E dX1_barrier_27 rfl rfl rfl ?_
    refine g_iconst E (v := 0) dX1_barrier_28 (by decide) rfl ?_
    refine g_putf E gciX1 (v := .int 0) dX1_barrier_29 h2 5 rfl (by decide) q427 (.inl rfl) rfl (fun _ => rfl) (fun _ => rfl) rfl (g_upk (fun g3 h3 f3 => ?_))
    refine g_aload_n E dX1_barrier_32 rfl rfl rfl ?_
    refine g_aload_n E dX1_barrier_33 rfl rfl rfl ?_
    refine g_getf E gciX1 dX1_barrier_34 h3 2 rfl (by decide) q424 (.inl rfl) (.ref 1002) (hs1_2) rfl ?_
    refine g_iload_n E dX1_barrier_37 rfl rfl rfl ?_
    have x4 := (f3 (1002) (by omega)).trans ((f2 (1002) (by omega)).trans ((f1 (1002) (by omega)).trans (hR_a)))
    have x5 := (f3 (1003) (by omega)).trans ((f2 (1003) (by omega)).trans ((f1 (1003) (by omega)).trans (hR_b)))
    have x6 := (f3 (1004) (by omega)).trans ((f2 (1004) (by omega)).trans ((f1 (1004) (by omega)).trans (hR_c)))
    have y7 := (((hTp.fr  (fun j9 a9 b9 => f1 j9 (by omega))).fr  (fun j9 a9 b9 => f2 j9 (by omega))).fr  (fun j9 a9 b9 => f3 j9 (by omega)))
    refine g_callVH (k := 1002) (n9 := 1) (av := [.int (nI n)]) (st := [.ref 1000]) E Tb (ct_X2_read l (⟨⟨_, x4, hR_0, hR_1, hR_2⟩, ⟨_, x5⟩, ⟨_, x6⟩, pTp.le y7 hn, fun j9 a9 => (f3 j9 (by omega)).trans ((f2 j9 (by omega)).trans ((f1 j9 (by omega)).trans (hfz j9 a9)))⟩) (by omega) (by omega)) gciX2 dX1_barrier_38 x4 q507 q508 q509 q121 q510 (by decide +kernel) rfl rfl ⟨by omega, by omega⟩ ⟨by omega, by omega⟩ (Nat.le_of_ble_eq_true rfl) rfl ⟨by decide, by decide⟩ (by decide) q495 q174 (gPe.kr (fun a8 g8 he8 h8 => ?_)) (fun g8 hx8 => ?_)
    · obtain ⟨hB8, hw, ⟨Fr8, hr8, hr8_0, hr8_1, hr8_2⟩, ⟨G8, hg8⟩, ⟨l8, hl8⟩, ⟨N1, hN1, hz1⟩, f8⟩ := h8
      have hwn := hw.1
      obtain ⟨B, Nm⟩ := a8
      have hB8 : pBr g8 bb B := hB8
      have hw : wfB B := hw
      have hwn : _ := hw.1
      have hB8_o := hB8
      obtain ⟨⟨hB8_F, hB8_a, hB8_0, hB8_1, hB8_2, hB8_3, hB8_4, hB8_5, hB8_6, hB8_7, hB8_8, hB8_9, hB8_10, hB8_11, hB8_12, hB8_13, hB8_14, hB8_15⟩, ⟨hB8_f1, hB8_a1, hB8_b1⟩, ⟨hB8_f2, hB8_a2, hB8_b2⟩, ⟨hB8_f3, hB8_a3, hB8_b3⟩, ⟨hB8_f4, hB8_a4, hB8_b4⟩, ⟨hB8_f5, hB8_a5, hB8_b5⟩, ⟨hB8_f6, hB8_a6, hB8_b6⟩, ⟨hB8_f7, hB8_a7, hB8_b7⟩, hB8_c1, hB8_c2, hB8_c3, hB8_c4, hB8_c5⟩ := hB8_o
      have x9 := (f8 (1000) (by omega)).trans (h3)
      refine g_putf E gciX1 (v := .ref bb) dX1_barrier_41 x9 3 rfl (by decide) q425 (.inl rfl) rfl (fun _ => rfl) (fun _ => rfl) rfl (g_upk (fun g10 h10 f10 => ?_))
      refine g_goto E dX1_barrier_44 (tgt := 70) (by decide) ?_
      refine g_aload_n E dX1_barrier_70 rfl rfl rfl ?_
      refine g_getf E gciX1 dX1_barrier_71 h10 9 rfl (by decide) q431 (.inl rfl) (.ref 1010) (hs1_9) rfl ?_
      refine g_aload_n E dX1_barrier_74 rfl rfl rfl ?_
      refine g_getf E gciX1 dX1_barrier_75 h10 3 rfl (by decide) q425 (.inl rfl) (.ref bb) (rfl) rfl ?_
      have x11 := (f10 (1010) (by omega)).trans ((f8 (1010) (by omega)).trans ((f3 (1010) (by omega)).trans ((f2 (1010) (by omega)).trans ((f1 (1010) (by omega)).trans (hLs_a)))))
      have y12 := (((((hLs.fr  (fun j9 a9 b9 => f1 j9 (by omega))).fr  (fun j9 a9 b9 => f2 j9 (by omega))).fr  (fun j9 a9 b9 => f3 j9 (by omega))).fr  (fun j9 a9 b9 => f8 j9 (by omega))).fr  (fun j9 a9 b9 => f10 j9 (by omega)))
      have y13 := (hB8.fr hw (fun j9 a9 b9 => f10 j9 (by omega)))
      refine g_callV (k := 1010) (n9 := 1) (av := [.ref bb]) (st := []) E (ct_X4_begin l hw y12 y13 (by omega)) gciX4 dX1_barrier_78 x11 q1141 q1142 q1143 q126 q1144 (by decide +kernel) rfl rfl ⟨by omega, by omega⟩ ⟨by omega, by omega⟩ (Nat.le_of_ble_eq_true rfl) rfl (gPn.k (fun g14 h14 => ?_))
      obtain ⟨hl14, f14⟩ := h14
      have hl14_o := hl14
      obtain ⟨⟨hl14_F, hl14_a, hl14_0, hl14_1, hl14_2, hl14_3, hl14_4, hl14_5⟩, ⟨hl14_s, hl14_sa, hl14_sb⟩, ⟨hl14_e, hl14_ea, hl14_eb⟩, hl14_p, hl14_pa, hl14_pb⟩ := hl14_o
      refine g_aload_n E dX1_barrier_81 rfl rfl rfl ?_
      have x15 := (f14 (1000) (by omega)).trans (h10)
      refine g_getf E gciX1 dX1_barrier_82 x15 13 rfl (by decide) q435 (.inl rfl) (.ref 1020) (hs1_13) rfl ?_
      refine g_aload_n E dX1_barrier_85 rfl rfl rfl ?_
      refine g_getf E gciX1 dX1_barrier_86 x15 3 rfl (by decide) q425 (.inl rfl) (.ref bb) (rfl) rfl ?_
      refine g_aload_n E dX1_barrier_89 rfl rfl rfl ?_
      refine g_getf E gciX1 dX1_barrier_90 x15 11 rfl (by decide) q433 (.inl rfl) (.ref 1005) (hs1_11) rfl ?_
      refine g_iconst E (v := 0) dX1_barrier_93 (by decide) rfl ?_
      refine g_iconst E (v := 0) dX1_barrier_94 (by decide) rfl ?_
      have x16 := (f14 (1020) (by omega)).trans ((f10 (1020) (by omega)).trans ((f8 (1020) (by omega)).trans ((f3 (1020) (by omega)).trans ((f2 (1020) (by omega)).trans ((f1 (1020) (by omega)).trans (hCs_a))))))
      have y17 := ((((((hCs.fr  (fun j9 a9 b9 => f1 j9 (by omega))).fr  (fun j9 a9 b9 => f2 j9 (by omega))).fr  (fun j9 a9 b9 => f3 j9 (by omega))).fr  (fun j9 a9 b9 => f8 j9 (by omega))).fr  (fun j9 a9 b9 => f10 j9 (by omega))).fr  (fun j9 a9 b9 => f14 j9 (by omega)))
      have y18 := (y13.fr hw (fun j9 a9 b9 => f14 j9 (by omega)))
      have y19 := ((((((hL1.fr  (fun j9 a9 b9 => f1 j9 (by omega))).fr  (fun j9 a9 b9 => f2 j9 (by omega))).fr  (fun j9 a9 b9 => f3 j9 (by omega))).fr  (fun j9 a9 b9 => f8 j9 (by omega))).fr  (fun j9 a9 b9 => f10 j9 (by omega))).fr  (fun j9 a9 b9 => f14 j9 (by omega)))
      refine g_callV (k := 1020) (n9 := 4) (av := [.ref bb, .ref 1005, .int 0, .int 0]) (st := []) E (ct_X8_run l 0 false hw y17 y18 y19 (by omega) (by omega) (by omega)) gciX8 dX1_barrier_95 x16 q1145 q1146 q1147 q130 q1148 (by decide +kernel) rfl rfl ⟨by omega, by omega⟩ ⟨by omega, by omega⟩ (Nat.le_of_ble_eq_true rfl) rfl (gPi.k (fun g20 h20 => ?_))
      obtain ⟨hc20, hl20, ha20, f20⟩ := h20
      have hc20_o := hc20
      obtain ⟨hc20_F, hc20_a, hc20_0, hc20_1, hc20_2, hc20_3, hc20_4, hc20_5, hc20_6⟩ := hc20_o
      have hl20_o := hl20
      obtain ⟨⟨hl20_F, hl20_a, hl20_0, hl20_1, hl20_2, hl20_3, hl20_4, hl20_5⟩, ⟨hl20_s, hl20_sa, hl20_sb⟩, ⟨hl20_e, hl20_ea, hl20_eb⟩, hl20_p, hl20_pa, hl20_pb⟩ := hl20_o
      have ha20_o := ha20
      obtain ⟨ha20_f, ha20_a, ha20_b⟩ := ha20_o
      refine g_pop E dX1_barrier_98 rfl rfl ?_
      refine g_aload_n E dX1_barrier_99 rfl rfl rfl ?_
      refine g_iconst E (v := 0) dX1_barrier_100 (by decide) rfl ?_
      have x21 := (f20 (1000) (by omega)).trans (x15)
      refine g_putf E gciX1 (v := .int 0) dX1_barrier_101 x21 8 rfl (by decide) q430 (.inl rfl) rfl (fun _ => rfl) (fun _ => rfl) rfl (g_upk (fun g22 h22 f22 => ?_))
      refine g_aload_n E dX1_barrier_104 rfl rfl rfl ?_
      refine g_iconst E (v := 0) dX1_barrier_105 (by decide) rfl ?_
      refine g_putf E gciX1 (v := .int 0) dX1_barrier_106 h22 7 rfl (by decide) q429 (.inl rfl) rfl (fun _ => rfl) (fun _ => rfl) rfl (g_upk (fun g23 h23 f23 => ?_))
      refine g_aload_n E dX1_barrier_109 rfl rfl rfl ?_
      refine g_getf E gciX1 dX1_barrier_110 h23 3 rfl (by decide) q425 (.inl rfl) (.ref bb) (rfl) rfl ?_
      have x24 := (f23 (bb) (by omega)).trans ((f22 (bb) (by omega)).trans ((f20 (bb) (by omega)).trans ((f14 (bb) (by omega)).trans ((f10 (bb) (by omega)).trans (hB8_a)))))
      refine g_getf E gciX14 dX1_barrier_113 x24 12 rfl (by decide) q572 (.inl rfl) (.int (nI (B 0 3))) (hB8_12) rfl ?_
      have x25 := (f23 (1002) (by omega)).trans ((f22 (1002) (by omega)).trans ((f20 (1002) (by omega)).trans ((f14 (1002) (by omega)).trans ((f10 (1002) (by omega)).trans (hr8)))))
      have x26 := (f23 (1003) (by omega)).trans ((f22 (1003) (by omega)).trans ((f20 (1003) (by omega)).trans ((f14 (1003) (by omega)).trans ((f10 (1003) (by omega)).trans (hg8)))))
      have x27 := (f23 (1004) (by omega)).trans ((f22 (1004) (by omega)).trans ((f20 (1004) (by omega)).trans ((f14 (1004) (by omega)).trans ((f10 (1004) (by omega)).trans (hl8)))))
      have y28 := (((y18.fr hw (fun j9 a9 b9 => f20 j9 (by omega))).fr hw (fun j9 a9 b9 => f22 j9 (by omega))).fr hw (fun j9 a9 b9 => f23 j9 (by omega)))
      have y29 := (((hl14.fr  (fun j9 a9 b9 => f20 j9 (by omega))).fr  (fun j9 a9 b9 => f22 j9 (by omega))).fr  (fun j9 a9 b9 => f23 j9 (by omega)))
      have y30 := ((hc20.fr  (fun j9 a9 b9 => f22 j9 (by omega))).fr  (fun j9 a9 b9 => f23 j9 (by omega)))
      have y31 := ((hl20.fr  (fun j9 a9 b9 => f22 j9 (by omega))).fr  (fun j9 a9 b9 => f23 j9 (by omega)))
      have y32 := ((ha20.fr  (fun j9 a9 b9 => f22 j9 (by omega))).fr  (fun j9 a9 b9 => f23 j9 (by omega)))
      exact g_iret E Rt dX1_barrier_116 rfl (by omega) (by omega) (by unfold zBr; rw [if_pos c13b, hn9, he8]; exact ⟨rfl, hw, ⟨_, h23, hs1_0, rfl, hs1_2, rfl, hs1_4, rfl, hs1_6, rfl, rfl, hs1_9, hs1_10, hs1_11, hs1_12, hs1_13, hs1_14, hs1_15, hs1_16, hs1_17, hs1_18, hs1_19⟩, ⟨⟨_, x25, hr8_0, hr8_1, hr8_2⟩, ⟨_, x26⟩, ⟨_, x27⟩⟩, y28, y29, ⟨_, _, y30⟩, ⟨_, y31⟩, y32, ⟨N1, hN1, fun j9 a9 => (f23 j9 (by omega)).trans ((f22 j9 (by omega)).trans ((f20 j9 (by omega)).trans ((f14 j9 (by omega)).trans ((f10 j9 (by omega)).trans (hz1 j9 a9)))))⟩, fun j9 h9 => ((((((((f23 j9 (by omega)).trans (f22 j9 (by omega))).trans (f20 j9 (by omega))).trans (f14 j9 (by omega))).trans (f10 j9 (by omega))).trans (f8 j9 (by omega))).trans (f3 j9 (by omega))).trans (f2 j9 (by omega))).trans (f1 j9 (by omega))⟩)
    · obtain ⟨e9, he8, ⟨G8, hg8, hg8_6, hg8_7⟩, ⟨Fr8, hr8, hr8_0, hr8_1, hr8_2⟩, ⟨l8, hl8⟩, ⟨N1, hN1, hz1⟩, f8⟩ := hx8
      refine g_astore_n E dX1_barrier_47 rfl (by decide) rfl (lo1 := [some (.ref 1000), some (.int (nI n)), some (.ref 1003)]) rfl rfl ?_
      refine g_aload_n E dX1_barrier_48 rfl rfl rfl ?_
      refine g_aload_n E dX1_barrier_49 rfl rfl rfl ?_
      refine g_getf E gciX3 dX1_barrier_50 hg8 6 rfl (by decide) q225 (.inl rfl) (.int (nI e9.1)) (hg8_6) rfl ?_
      have x33 := (f8 (1000) (by omega)).trans (h3)
      refine g_putf E gciX1 (v := .int (nI e9.1)) dX1_barrier_53 x33 5 rfl (by decide) q427 (.inl rfl) rfl (fun _ => rfl) (fun _ => rfl) rfl (g_upk (fun g34 h34 f34 => ?_))
      refine g_aload_n E dX1_barrier_56 rfl rfl rfl ?_
      refine g_aload_n E dX1_barrier_57 rfl rfl rfl ?_
      have x35 := (f34 (1003) (by omega)).trans (hg8)
      refine g_getf E gciX3 dX1_barrier_58 x35 7 rfl (by decide) q227 (.inl rfl) (.int (nI e9.2)) (hg8_7) rfl ?_
      refine g_putf E gciX1 (v := .int (nI e9.2)) dX1_barrier_61 h34 6 rfl (by decide) q428 (.inl rfl) rfl (fun _ => rfl) (fun _ => rfl) rfl (g_upk (fun g36 h36 f36 => ?_))
      have hp37 : pSo g36 bar 0 0 (nI e9.1) (nI e9.2) mm um := ⟨_, h36, hs1_0, rfl, hs1_2, hs1_3, hs1_4, rfl, rfl, hs1_7, hs1_8, hs1_9, hs1_10, hs1_11, hs1_12, hs1_13, hs1_14, hs1_15, hs1_16, hs1_17, hs1_18, hs1_19⟩
      refine g_aload_n E dX1_barrier_64 rfl rfl rfl ?_
      refine g_iconst E (v := 4) dX1_barrier_65 (by decide) rfl ?_
      refine g_callV (k := 1000) (n9 := 1) (av := [.int 4]) (st := []) E (ct_X1_no l 4 hp37) gciX1 dX1_barrier_66 h36 q503 q505 qs3 q120 q506 (by decide +kernel) rfl rfl ⟨by omega, by omega⟩ ⟨by omega, by omega⟩ (Nat.le_of_ble_eq_true rfl) rfl (gPi.k (fun g38 h38 => ?_))
      obtain ⟨hs38, f38⟩ := h38
      have hs38_o := hs38
      obtain ⟨hs38_F, hs38_a, hs38_0, hs38_1, hs38_2, hs38_3, hs38_4, hs38_5, hs38_6, hs38_7, hs38_8, hs38_9, hs38_10, hs38_11, hs38_12, hs38_13, hs38_14, hs38_15, hs38_16, hs38_17, hs38_18, hs38_19⟩ := hs38_o
      have x39 := (f38 (1002) (by omega)).trans ((f36 (1002) (by omega)).trans ((f34 (1002) (by omega)).trans (hr8)))
      have x40 := (f38 (1003) (by omega)).trans ((f36 (1003) (by omega)).trans (x35))
      have x41 := (f38 (1004) (by omega)).trans ((f36 (1004) (by omega)).trans ((f34 (1004) (by omega)).trans (hl8)))
      exact g_iret E Rt dX1_barrier_69 rfl (by omega) (by omega) (by unfold zBr; rw [if_pos c13b, hn9, he8]; exact ⟨rfl, ⟨_, hs38_a, hs38_0, hs38_1, hs38_2, hs38_3, hs38_4, hs38_5, hs38_6, hs38_7, hs38_8, hs38_9, hs38_10, hs38_11, hs38_12, hs38_13, hs38_14, hs38_15, hs38_16, hs38_17, hs38_18, hs38_19⟩, ⟨⟨_, x39, hr8_0, hr8_1, hr8_2⟩, ⟨_, x40⟩, ⟨_, x41⟩⟩, ⟨N1, hN1, fun j9 a9 => (f38 j9 (by omega)).trans ((f36 j9 (by omega)).trans ((f34 j9 (by omega)).trans (hz1 j9 a9)))⟩, fun j9 h9 => ((((((f38 j9 (by omega)).trans (f36 j9 (by omega))).trans (f34 j9 (by omega))).trans (f8 j9 (by omega))).trans (f3 j9 (by omega))).trans (f2 j9 (by omega))).trans (f1 j9 (by omega))⟩)
  · have c13 := zb_0.mp c13
    refine g_aload_n E dX1_barrier_16 rfl rfl rfl ?_
    refine g_iconst E (v := 2) dX1_barrier_17 (by decide) rfl ?_
    refine g_callV (k := 1000) (n9 := 1) (av := [.int 2]) (st := []) E (ct_X1_no l 2 hs1) gciX1 dX1_barrier_18 hs1_a q503 q505 qs3 q120 q506 (by decide +kernel) rfl rfl ⟨by omega, by omega⟩ ⟨by omega, by omega⟩ (Nat.le_of_ble_eq_true rfl) rfl (gPi.k (fun g42 h42 => ?_))
    obtain ⟨hs42, f42⟩ := h42
    have hs42_o := hs42
    obtain ⟨hs42_F, hs42_a, hs42_0, hs42_1, hs42_2, hs42_3, hs42_4, hs42_5, hs42_6, hs42_7, hs42_8, hs42_9, hs42_10, hs42_11, hs42_12, hs42_13, hs42_14, hs42_15, hs42_16, hs42_17, hs42_18, hs42_19⟩ := hs42_o
    exact g_iret E Rt dX1_barrier_21 rfl (by omega) (by omega) (by unfold zBr; rw [if_neg (by rw [c13]; exact Bool.false_ne_true)]; exact ⟨rfl, ⟨_, hs42_a, hs42_0, hs42_1, hs42_2, hs42_3, hs42_4, hs42_5, hs42_6, hs42_7, hs42_8, hs42_9, hs42_10, hs42_11, hs42_12, hs42_13, hs42_14, hs42_15, hs42_16, hs42_17, hs42_18, hs42_19⟩, fun j9 h9 => (f42 j9 (by omega)).trans (f1 j9 (by omega))⟩)
