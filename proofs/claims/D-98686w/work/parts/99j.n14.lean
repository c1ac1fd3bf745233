/-! THE MODEL, walks, fourteenth: crossings -/
set_option maxRecDepth 100000
set_option maxHeartbeats 4000000 in
theorem ct_X13_readCrosses (l : Launch) {g : gWM} {n mb : Nat} {T : Nat → Int32} {F0 : Nat → Value} {B : gBar} {Nm : zNm} {nl : List (Nat × Nat)} {x : zEr zTk} (hF0 : pF0 F0 mb n) (hM : pMr g F0 true (x)) (hTp : pTp g 2001 T n) (hn : n ≤ 1100) (hok : xOk n x) (hnb : xNb x) (hw : wfB B) (hx : zXs B) (hQ : pMt g mb B Nm nl) (hnl9 : nl.length ≤ 19) (hnk : zNk B Nm nl) (hmb : 10000 ≤ mb) : gCt l yX13_readCrosses cX13_readCrosses 5 none 9 0 0 193 [.ref 2000] g (gPn (fun g1 => qLn g1 g F0 mb (zBd x fun t => zLC T n (t, B, Nm)) B Nm nl)) := by
  refine gCt.of RX13 (by decide) rfl (lo := [some (.ref 2000), none, none, none, none]) 4 rfl (Nat.le_of_ble_eq_true rfl) (fun z E Rt => ?_)
  have hF0_o := hF0
  obtain ⟨hF0_4, hF0_5, hF0_7⟩ := hF0_o
  have hM_o := hM
  obtain ⟨hM_F, hM_a, hM_r, hM_s⟩ := hM_o
  have hTp_o := hTp
  obtain ⟨hTp_f, hTp_a, hTp_b⟩ := hTp_o
  have hw_n := hw.1
  have hQ_o := hQ
  obtain ⟨⟨hQ_F, hQ_a, hQ_0, hQ_1, hQ_2, hQ_3, hQ_4, hQ_5, hQ_6, hQ_7, hQ_8, hQ_9, hQ_10, hQ_11, hQ_12, hQ_13, hQ_14, hQ_15, hQ_16, hQ_17, hQ_18, hQ_19, hQ_20, hQ_21, hQ_22, hQ_23, hQ_24, hQ_25, hQ_26, hQ_27, hQ_28, hQ_29, hQ_30, hQ_31, hQ_32, hQ_33, hQ_34⟩, ⟨⟨hQ_f1, hQ_a1, hQ_b1⟩, ⟨hQ_f2, hQ_a2, hQ_b2⟩, ⟨hQ_f3, hQ_a3, hQ_b3⟩, ⟨hQ_f4, hQ_a4, hQ_b4⟩, ⟨hQ_f5, hQ_a5, hQ_b5⟩, ⟨hQ_f6, hQ_a6, hQ_b6⟩, ⟨hQ_f7, hQ_a7, hQ_b7⟩, ⟨hQ_f8, hQ_a8, hQ_b8⟩, ⟨hQ_f9, hQ_a9, hQ_b9⟩, ⟨hQ_f10, hQ_a10, hQ_b10⟩, ⟨hQ_f11, hQ_a11, hQ_b11⟩, ⟨hQ_f12, hQ_a12, hQ_b12⟩, ⟨hQ_f13, hQ_a13, hQ_b13⟩, ⟨hQ_f14, hQ_a14, hQ_b14⟩, ⟨hQ_f15, hQ_a15, hQ_b15⟩, ⟨hQ_f16, hQ_a16, hQ_b16⟩, ⟨hQ_f17, hQ_a17, hQ_b17⟩, ⟨hQ_f18, hQ_a18, hQ_b18⟩, ⟨hQ_f19, hQ_a19, hQ_b19⟩, ⟨hQ_f20, hQ_a20, hQ_b20⟩, ⟨hQ_f21, hQ_a21, hQ_b21⟩⟩, ⟨hQ_f22, hQ_a22, hQ_b22⟩, ⟨hQ_f23, hQ_a23, hQ_b23⟩, hQ_f24, hQ_a24, hQ_b24⟩ := hQ_o
  refine g_aload_n E dX13_readCrosses_0 rfl rfl rfl ?_
  refine g_aload_n E dX13_readCrosses_1 rfl rfl rfl ?_
  refine g_getf E gciX13 dX13_readCrosses_2 hM_a 4 rfl (by decide) q1744 (.inl rfl) (.ref mb) ((hM_r 4 (.inl (by decide))).trans hF0_4) rfl ?_
  refine g_getfN E gciX27 dX13_readCrosses_5 hQ_a 6 rfl (by decide) q1863 (.inl rfl) (.int (nI (B 0 4))) (hQ_6) rfl ?_
  refine g_bipush E (v := 6) dX13_readCrosses_8 (by decide) rfl ?_
  refine g_callV (k := 2000) (n9 := 2) (av := [.int (nI (B 0 4)), .int 6]) (st := []) E (ct_X13_begins l (B 0 4) 6 hF0 hM hTp (by omega) hok hw hQ (by omega) hx.2.2 hnb (by omega) (by omega)) gciX13 dX13_readCrosses_10 hM_a q2078 q2080 qs64 q135 q2081 (by decide +kernel) rfl rfl ⟨by decide, by decide⟩ ⟨by decide, by decide⟩ (Nat.le_of_ble_eq_true rfl) rfl (gPn.k (fun g1 h1 => ?_))
  obtain ⟨hm1, f1⟩ := h1
  obtain ⟨x1, hx1⟩ : ∃ y, y = zBd x (zBg T n B (decide (B 0 4 < 6))) := ⟨_, rfl⟩
  rw [← hx1] at hm1
  have hm1_o := hm1
  obtain ⟨hm1_F, hm1_a, hm1_r, hm1_s⟩ := hm1_o
  have hokx1 : xOk n x1 := by rw [hx1]; exact zBg_x hok
  refine g_aload_n E dX13_readCrosses_13 rfl rfl rfl ?_
  refine g_iconst E (v := 1) dX13_readCrosses_14 (by decide) rfl ?_
  have y2 := (hTp.fr  (fun j9 a9 b9 => f1 j9 (by omega)))
  have y3 := (hQ.fr  (fun j9 a9 b9 => f1 j9 (by omega)))
  refine g_callV (k := 2000) (n9 := 1) (av := [.int 1]) (st := []) E (ct_X13_readKnown l 1 hF0 hm1 y2 (by omega) hokx1 y3 hnl9 hnk (by omega) (by omega)) gciX13 dX13_readCrosses_15 hm1_a q2135 q2137 qs72 q135 q2138 (by decide +kernel) rfl rfl ⟨by decide, by decide⟩ ⟨by decide, by decide⟩ (Nat.le_of_ble_eq_true rfl) rfl (gPi.k (fun g4 h4 => ?_))
  obtain ⟨hm4, f4⟩ := h4
  obtain ⟨y4, hy4⟩ : ∃ y, y = zBd x1 (zKx T n 1 B Nm) := ⟨_, rfl⟩
  rw [← hy4] at hm4
  refine g_as (y := nI (zVl 0 y4)) (by rw [hy4]) ?_
  obtain ⟨x4, hx4⟩ : ∃ y, y = zSt y4 := ⟨_, rfl⟩
  rw [← hx4] at hm4
  have hm4_o := hm4
  obtain ⟨hm4_F, hm4_a, hm4_r, hm4_s⟩ := hm4_o
  refine g_istore_n E dX13_readCrosses_18 rfl (by decide) rfl (lo1 := [some (.ref 2000), some (.int (nI (zVl 0 y4))), none, none, none]) rfl rfl ?_
  have hokx4 : xOk n x4 := by rw [hx4, hy4]; exact zKx_x hokx1
  refine g_aload_n E dX13_readCrosses_19 rfl rfl rfl ?_
  refine g_iconst E (v := 2) dX13_readCrosses_20 (by decide) rfl ?_
  have y5 := (y2.fr  (fun j9 a9 b9 => f4 j9 (by omega)))
  have y6 := (y3.fr  (fun j9 a9 b9 => f4 j9 (by omega)))
  refine g_callV (k := 2000) (n9 := 1) (av := [.int 2]) (st := []) E (ct_X13_readKnown l 2 hF0 hm4 y5 (by omega) hokx4 y6 hnl9 hnk (by omega) (by omega)) gciX13 dX13_readCrosses_21 hm4_a q2135 q2137 qs72 q135 q2138 (by decide +kernel) rfl rfl ⟨by decide, by decide⟩ ⟨by decide, by decide⟩ (Nat.le_of_ble_eq_true rfl) rfl (gPi.k (fun g7 h7 => ?_))
  obtain ⟨hm7, f7⟩ := h7
  obtain ⟨y7, hy7⟩ : ∃ y, y = zBd x4 (zKx T n 2 B Nm) := ⟨_, rfl⟩
  rw [← hy7] at hm7
  refine g_as (y := nI (zVl 0 y7)) (by rw [hy7]) ?_
  obtain ⟨x7, hx7⟩ : ∃ y, y = zSt y7 := ⟨_, rfl⟩
  rw [← hx7] at hm7
  have hm7_o := hm7
  obtain ⟨hm7_F, hm7_a, hm7_r, hm7_s⟩ := hm7_o
  refine g_istore_n E dX13_readCrosses_24 rfl (by decide) rfl (lo1 := [some (.ref 2000), some (.int (nI (zVl 0 y4))), some (.int (nI (zVl 0 y7))), none, none]) rfl rfl ?_
  have hokx7 : xOk n x7 := by rw [hx7, hy7]; exact zKx_x hokx4
  refine g_aload_n E dX13_readCrosses_25 rfl rfl rfl ?_
  refine g_ldcwS E (j := 61) (tx := "day") rfl dX13_readCrosses_26 rfl ?_
  refine g_aload_n E dX13_readCrosses_29 rfl rfl rfl ?_
  refine g_getf E gciX13 dX13_readCrosses_30 hm7_a 4 rfl (by decide) q1744 (.inl rfl) (.ref mb) ((hm7_r 4 (.inl (by decide))).trans hF0_4) rfl ?_
  have x8 := (f7 (mb) (by omega)).trans ((f4 (mb) (by omega)).trans ((f1 (mb) (by omega)).trans (hQ_a)))
  refine g_getfN E gciX27 dX13_readCrosses_33 x8 6 rfl (by decide) q1863 (.inl rfl) (.int (nI (B 0 4))) (hQ_6) rfl ?_
  refine g_if_eq E dX13_readCrosses_36 (tgt := 47) (by decide) rfl (fun c36 => ?_) (fun c36 => ?_)
  · have c36 := (nI_eq (a := B 0 4) (b := 0) (by omega) (by omega)).mp c36
    refine g_iconst E (v := 0) dX13_readCrosses_47 (by decide) rfl ?_
    refine g_goto E dX13_readCrosses_48 (tgt := 68) (by decide) ?_
    refine g_bipush E (v := 60) dX13_readCrosses_68 (by decide) rfl ?_
    have y9 := (y5.fr  (fun j9 a9 b9 => f7 j9 (by omega)))
    refine g_callV (k := 2000) (n9 := 3) (av := [.ref (1 + 2 * 61), .int 0, .int 60]) (st := []) E (ct_X13_readPart l 0 60 hF0 hm7 y9 (by omega) hokx7 rfl (wo_dec _ (by decide +kernel)) (by omega) (by omega)) gciX13 dX13_readCrosses_70 hm7_a q2057 q2059 qs60 q135 q2060 (by decide +kernel) rfl rfl ⟨by decide, by decide⟩ ⟨by decide, by decide⟩ (Nat.le_of_ble_eq_true rfl) rfl (gPi.k (fun g10 h10 => ?_))
    obtain ⟨hm10, f10⟩ := h10
    obtain ⟨y10, hy10⟩ : ∃ y, y = zBd x7 (zAf T n (gByt "day") 0 60) := ⟨_, rfl⟩
    rw [← hy10] at hm10
    refine g_as (y := nI (zVl 0 y10)) (by rw [hy10]) ?_
    obtain ⟨x10, hx10⟩ : ∃ y, y = zSt y10 := ⟨_, rfl⟩
    rw [← hx10] at hm10
    have hm10_o := hm10
    obtain ⟨hm10_F, hm10_a, hm10_r, hm10_s⟩ := hm10_o
    have hyd_ : y10 = zBd x7 (zAf T n (gByt "day") (if B 0 4 = 0 then 0 else B 21 (B 0 4 - 1)) 60) := by rw [hy10, if_pos c36]
    refine g_istore_n E dX13_readCrosses_73 rfl (by decide) rfl (lo1 := [some (.ref 2000), some (.int (nI (zVl 0 y4))), some (.int (nI (zVl 0 y7))), some (.int (nI (zVl 0 y10))), none]) rfl rfl ?_
    have hokx10 : xOk n x10 := by rw [hx10, hyd_]; exact zAf_x2 hokx7
    refine g_aload_n E dX13_readCrosses_74 rfl rfl rfl ?_
    refine g_ldcwS E (j := 62) (tx := "hour") rfl dX13_readCrosses_75 rfl ?_
    refine g_iconst E (v := 0) dX13_readCrosses_78 (by decide) rfl ?_
    refine g_bipush E (v := 23) dX13_readCrosses_79 (by decide) rfl ?_
    have y11 := (y9.fr  (fun j9 a9 b9 => f10 j9 (by omega)))
    refine g_callV (k := 2000) (n9 := 3) (av := [.ref (1 + 2 * 62), .int 0, .int 23]) (st := []) E (ct_X13_readPart l 0 23 hF0 hm10 y11 (by omega) hokx10 rfl (wo_dec _ (by decide +kernel)) (by omega) (by omega)) gciX13 dX13_readCrosses_81 hm10_a q2057 q2059 qs60 q135 q2060 (by decide +kernel) rfl rfl ⟨by decide, by decide⟩ ⟨by decide, by decide⟩ (Nat.le_of_ble_eq_true rfl) rfl (gPi.k (fun g12 h12 => ?_))
    obtain ⟨hm12, f12⟩ := h12
    obtain ⟨y12, hy12⟩ : ∃ y, y = zBd x10 (zAf T n (gByt "hour") 0 23) := ⟨_, rfl⟩
    rw [← hy12] at hm12
    refine g_as (y := nI (zVl 0 y12)) (by rw [hy12]) ?_
    obtain ⟨x12, hx12⟩ : ∃ y, y = zSt y12 := ⟨_, rfl⟩
    rw [← hx12] at hm12
    have hm12_o := hm12
    obtain ⟨hm12_F, hm12_a, hm12_r, hm12_s⟩ := hm12_o
    refine g_istore E dX13_readCrosses_84 (by decide) rfl (lo1 := [some (.ref 2000), some (.int (nI (zVl 0 y4))), some (.int (nI (zVl 0 y7))), some (.int (nI (zVl 0 y10))), some (.int (nI (zVl 0 y12)))]) rfl rfl ?_
    cases hc_ : x12 with
    | inl e =>
      rw [hc_] at hm12
      have hF_ := fold_C_l (Nm := Nm) hx1 hy4 hx4 hy7 hx7 hyd_ hx10 hy12 hx12 hc_
      have hm12_o := hm12
      obtain ⟨hm12_F, hm12_a, hm12_r, hm12_9, hm12_12, hm12_13, hm12_k⟩ := hm12_o
      obtain ⟨hm12_w, hm12_wh⟩ := hm12_k rfl
      refine g_aload_n E dX13_readCrosses_86 rfl rfl rfl ?_
      refine g_getf E gciX13 dX13_readCrosses_87 hm12_a 9 rfl (by decide) q1749 (.inl rfl) (.int 5) (hm12_9) rfl ?_
      refine g_iconst E (v := 5) dX13_readCrosses_90 (by decide) rfl ?_
      refine g_icmp_ne E dX13_readCrosses_91 (tgt := 95) (by decide) rfl (fun h9 => absurd h9 (by decide)) (fun _ => ?_)
      have y13 := (((y6.fr  (fun j9 a9 b9 => f7 j9 (by omega))).fr  (fun j9 a9 b9 => f10 j9 (by omega))).fr  (fun j9 a9 b9 => f12 j9 (by omega)))
      exact g_vret E Rt dX13_readCrosses_94 rfl (by decide) (by decide) (⟨rfl, by rw [hF_]; exact ⟨⟨hm12, y13⟩, fun j9 h9 => ((((f12 j9 (by omega)).trans (f10 j9 (by omega))).trans (f7 j9 (by omega))).trans (f4 j9 (by omega))).trans (f1 j9 (by omega))⟩⟩)
    | inr t9 =>
      rw [hc_] at hm12
      obtain ⟨a0_, a1_, a2_, a3_, r0_, r1_, r2_, hF_, r3_⟩ := fold_C_r (Nm := Nm) hx1 hy4 hx4 hy7 hx7 hyd_ hx10 hy12 hx12 hc_
      have hm12_o := hm12
      obtain ⟨hm12_F, hm12_a, hm12_r, hm12_9, hm12_12, hm12_8, hm12_10, hm12_11, hm12_14, hm12_k⟩ := hm12_o
      obtain ⟨hm12_w, hm12_wh⟩ := hm12_k rfl
      obtain ⟨t1_, s1_, -⟩ := zBd_inr (hy4.symm.trans r0_)
      have hcan_ := of_decide_eq_true (bg_can (hx1.symm.trans s1_) hok)
      have hlen9 := hnk.2.2.2.2
      have hwn := hw.1
      have v0_ : zVl 0 y4 = a0_.1 := by rw [r0_]; rfl
      have v1_ : zVl 0 y7 = a1_.1 := by rw [r1_]; rfl
      have v2_ : zVl 0 y10 = a2_.1 := by rw [r2_]; rfl
      have v3_ : zVl 0 y12 = a3_.1 := by rw [r3_]; rfl
      refine g_aload_n E dX13_readCrosses_86 rfl rfl rfl ?_
      refine g_getf E gciX13 dX13_readCrosses_87 hm12_a 9 rfl (by decide) q1749 (.inl rfl) (.int (zSo t9.2.1)) (hm12_9) rfl ?_
      refine g_iconst E (v := 5) dX13_readCrosses_90 (by decide) rfl ?_
      refine g_icmp_ne E dX13_readCrosses_91 (tgt := 95) (by decide) rfl (fun c91 => ?_) (fun c91 => ?_)
      · refine g_aload_n E dX13_readCrosses_95 rfl rfl rfl ?_
        refine g_getf E gciX13 dX13_readCrosses_96 hm12_a 4 rfl (by decide) q1744 (.inl rfl) (.ref mb) ((hm12_r 4 (.inl (by decide))).trans hF0_4) rfl ?_
        have x14 := (f12 (mb) (by omega)).trans ((f10 (mb) (by omega)).trans (x8))
        refine g_getfN E gciX27 dX13_readCrosses_99 x14 26 rfl (by decide) q1900 (.inl rfl) (.ref (mb + 16)) (hQ_26) rfl ?_
        refine g_aload_n E dX13_readCrosses_102 rfl rfl rfl ?_
        refine g_getf E gciX13 dX13_readCrosses_103 hm12_a 4 rfl (by decide) q1744 (.inl rfl) (.ref mb) ((hm12_r 4 (.inl (by decide))).trans hF0_4) rfl ?_
        refine g_getfN E gciX27 dX13_readCrosses_106 x14 6 rfl (by decide) q1863 (.inl rfl) (.int (nI (B 0 4))) (hQ_6) rfl ?_
        refine g_iload_n E dX13_readCrosses_109 rfl rfl rfl ?_
        have x15 := (f12 (mb + 16) (by omega)).trans ((f10 (mb + 16) (by omega)).trans ((f7 (mb + 16) (by omega)).trans ((f4 (mb + 16) (by omega)).trans ((f1 (mb + 16) (by omega)).trans (hQ_a16)))))
        refine g_iast E dX13_readCrosses_110 (j := B 0 4) x15 (rfl) (by omega) (by decide) rfl (g_upk (fun g16 h16 f16 => ?_))
        refine g_aload_n E dX13_readCrosses_111 rfl rfl rfl ?_
        have x17 := (f16 (2000) (by omega)).trans (hm12_a)
        refine g_getf E gciX13 dX13_readCrosses_112 x17 4 rfl (by decide) q1744 (.inl rfl) (.ref mb) ((hm12_r 4 (.inl (by decide))).trans hF0_4) rfl ?_
        have x18 := (f16 (mb) (by omega)).trans (x14)
        refine g_getfN E gciX27 dX13_readCrosses_115 x18 27 rfl (by decide) q1902 (.inl rfl) (.ref (mb + 17)) (hQ_27) rfl ?_
        refine g_aload_n E dX13_readCrosses_118 rfl rfl rfl ?_
        refine g_getf E gciX13 dX13_readCrosses_119 x17 4 rfl (by decide) q1744 (.inl rfl) (.ref mb) ((hm12_r 4 (.inl (by decide))).trans hF0_4) rfl ?_
        refine g_getfN E gciX27 dX13_readCrosses_122 x18 6 rfl (by decide) q1863 (.inl rfl) (.int (nI (B 0 4))) (hQ_6) rfl ?_
        refine g_iload_n E dX13_readCrosses_125 rfl rfl rfl ?_
        have x19 := (f16 (mb + 17) (by omega)).trans ((f12 (mb + 17) (by omega)).trans ((f10 (mb + 17) (by omega)).trans ((f7 (mb + 17) (by omega)).trans ((f4 (mb + 17) (by omega)).trans ((f1 (mb + 17) (by omega)).trans (hQ_a17))))))
        refine g_iast E dX13_readCrosses_126 (j := B 0 4) x19 (rfl) (by omega) (by decide) rfl (g_upk (fun g20 h20 f20 => ?_))
        refine g_aload_n E dX13_readCrosses_127 rfl rfl rfl ?_
        have x21 := (f20 (2000) (by omega)).trans (x17)
        refine g_getf E gciX13 dX13_readCrosses_128 x21 4 rfl (by decide) q1744 (.inl rfl) (.ref mb) ((hm12_r 4 (.inl (by decide))).trans hF0_4) rfl ?_
        have x22 := (f20 (mb) (by omega)).trans (x18)
        refine g_getfN E gciX27 dX13_readCrosses_131 x22 28 rfl (by decide) q1904 (.inl rfl) (.ref (mb + 18)) (hQ_28) rfl ?_
        refine g_aload_n E dX13_readCrosses_134 rfl rfl rfl ?_
        refine g_getf E gciX13 dX13_readCrosses_135 x21 4 rfl (by decide) q1744 (.inl rfl) (.ref mb) ((hm12_r 4 (.inl (by decide))).trans hF0_4) rfl ?_
        refine g_getfN E gciX27 dX13_readCrosses_138 x22 6 rfl (by decide) q1863 (.inl rfl) (.int (nI (B 0 4))) (hQ_6) rfl ?_
        refine g_iload_n E dX13_readCrosses_141 rfl rfl rfl ?_
        have x23 := (f20 (mb + 18) (by omega)).trans ((f16 (mb + 18) (by omega)).trans ((f12 (mb + 18) (by omega)).trans ((f10 (mb + 18) (by omega)).trans ((f7 (mb + 18) (by omega)).trans ((f4 (mb + 18) (by omega)).trans ((f1 (mb + 18) (by omega)).trans (hQ_a18)))))))
        refine g_iast E dX13_readCrosses_142 (j := B 0 4) x23 (rfl) (by omega) (by decide) rfl (g_upk (fun g24 h24 f24 => ?_))
        refine g_aload_n E dX13_readCrosses_143 rfl rfl rfl ?_
        have x25 := (f24 (2000) (by omega)).trans (x21)
        refine g_getf E gciX13 dX13_readCrosses_144 x25 4 rfl (by decide) q1744 (.inl rfl) (.ref mb) ((hm12_r 4 (.inl (by decide))).trans hF0_4) rfl ?_
        have x26 := (f24 (mb) (by omega)).trans (x22)
        refine g_getfN E gciX27 dX13_readCrosses_147 x26 29 rfl (by decide) q1906 (.inl rfl) (.ref (mb + 19)) (hQ_29) rfl ?_
        refine g_aload_n E dX13_readCrosses_150 rfl rfl rfl ?_
        refine g_getf E gciX13 dX13_readCrosses_151 x25 4 rfl (by decide) q1744 (.inl rfl) (.ref mb) ((hm12_r 4 (.inl (by decide))).trans hF0_4) rfl ?_
        refine g_getfN E gciX27 dX13_readCrosses_154 x26 6 rfl (by decide) q1863 (.inl rfl) (.int (nI (B 0 4))) (hQ_6) rfl ?_
        refine g_iload E dX13_readCrosses_157 rfl rfl ?_
        have x27 := (f24 (mb + 19) (by omega)).trans ((f20 (mb + 19) (by omega)).trans ((f16 (mb + 19) (by omega)).trans ((f12 (mb + 19) (by omega)).trans ((f10 (mb + 19) (by omega)).trans ((f7 (mb + 19) (by omega)).trans ((f4 (mb + 19) (by omega)).trans ((f1 (mb + 19) (by omega)).trans (hQ_a19))))))))
        refine g_iast E dX13_readCrosses_159 (j := B 0 4) x27 (rfl) (by omega) (by decide) rfl (g_upk (fun g28 h28 f28 => ?_))
        refine g_aload_n E dX13_readCrosses_160 rfl rfl rfl ?_
        have x29 := (f28 (2000) (by omega)).trans (x25)
        refine g_getf E gciX13 dX13_readCrosses_161 x29 4 rfl (by decide) q1744 (.inl rfl) (.ref mb) ((hm12_r 4 (.inl (by decide))).trans hF0_4) rfl ?_
        refine g_dup E dX13_readCrosses_164 rfl rfl ?_
        have x30 := (f28 (mb) (by omega)).trans (x26)
        refine g_getfN E gciX27 dX13_readCrosses_165 x30 6 rfl (by decide) q1863 (.inl rfl) (.int (nI (B 0 4))) (hQ_6) rfl ?_
        refine g_iconst E (v := 1) dX13_readCrosses_168 (by decide) rfl ?_
        refine g_iadd E dX13_readCrosses_169 rfl ?_
        refine g_as (y := nI (B 0 4 + 1)) ((nI_succ _).symm) ?_
        refine g_putfN E gciX27 (v := .int (nI (B 0 4 + 1))) dX13_readCrosses_170 x30 6 rfl (by decide) q1863 (.inl rfl) rfl (fun _ => rfl) (fun _ => rfl) rfl (g_upk (fun g31 h31 f31 => ?_))
        have x32 := (f31 (mb + 16) (by omega)).trans ((f28 (mb + 16) (by omega)).trans ((f24 (mb + 16) (by omega)).trans ((f20 (mb + 16) (by omega)).trans (h16))))
        have x33 := (f31 (mb + 17) (by omega)).trans ((f28 (mb + 17) (by omega)).trans ((f24 (mb + 17) (by omega)).trans (h20)))
        have x34 := (f31 (mb + 18) (by omega)).trans ((f28 (mb + 18) (by omega)).trans (h24))
        have x35 := (f31 (mb + 19) (by omega)).trans (h28)
        have y36 := (((((hm12.fr  (fun j9 a9 b9 => f16 j9 (by omega))).fr  (fun j9 a9 b9 => f20 j9 (by omega))).fr  (fun j9 a9 b9 => f24 j9 (by omega))).fr  (fun j9 a9 b9 => f28 j9 (by omega))).fr  (fun j9 a9 b9 => f31 j9 (by omega)))
        exact g_vret E Rt dX13_readCrosses_173 rfl (by decide) (by decide) (⟨rfl, by rw [hF_]; exact ⟨⟨y36, _, zNk_o hnk (s4 rfl rfl rfl rfl), pMt_C hQ ⟨_, h31, hQ_0, hQ_1, hQ_2, hQ_3, hQ_4, hQ_5, rfl, hQ_7, hQ_8, hQ_9, hQ_10, hQ_11, hQ_12, hQ_13, hQ_14, hQ_15, hQ_16, hQ_17, hQ_18, hQ_19, hQ_20, hQ_21, hQ_22, hQ_23, hQ_24, hQ_25, hQ_26, hQ_27, hQ_28, hQ_29, hQ_30, hQ_31, hQ_32, hQ_33, hQ_34⟩ ⟨_, x32, updN.trans (by rw [v0_]), fun k9 h9 => (updO (by omega)).trans (hQ_b16 k9 h9)⟩ ⟨_, x33, updN.trans (by rw [v1_]), fun k9 h9 => (updO (by omega)).trans (hQ_b17 k9 h9)⟩ ⟨_, x34, updN.trans (by rw [v2_]), fun k9 h9 => (updO (by omega)).trans (hQ_b18 k9 h9)⟩ ⟨_, x35, updN.trans (by rw [v3_]), fun k9 h9 => (updO (by omega)).trans (hQ_b19 k9 h9)⟩ (fun j9 a9 b9 c0_ c1_ c2_ c3_ c4_ => (((((((((f31 j9 (by omega)).trans (f28 j9 (by omega))).trans (f24 j9 (by omega))).trans (f20 j9 (by omega))).trans (f16 j9 (by omega))).trans (f12 j9 (by omega))).trans (f10 j9 (by omega))).trans (f7 j9 (by omega))).trans (f4 j9 (by omega))).trans (f1 j9 (by omega)))⟩, fun j9 h9 => (((((((((f31 j9 (by omega)).trans (f28 j9 (by omega))).trans (f24 j9 (by omega))).trans (f20 j9 (by omega))).trans (f16 j9 (by omega))).trans (f12 j9 (by omega))).trans (f10 j9 (by omega))).trans (f7 j9 (by omega))).trans (f4 j9 (by omega))).trans (f1 j9 (by omega))⟩⟩)
      · exact absurd (by first | exact c91 | exact Classical.not_not.mp c91) (zSo_5 _)
  · have c36 := mt (nI_eq (a := B 0 4) (b := 0) (by omega) (by omega)).mpr c36
    have hcr := hw.2.2.2.2.2.1 (B 0 4 - 1) (by omega)
    cases hc3_ : x7 with
    | inl e3 =>
      rw [hc3_] at hm7
      have hm7_o := hm7
      obtain ⟨hm7_F, hm7_a, hm7_r, hm7_9, hm7_12, hm7_13, hm7_k⟩ := hm7_o
      obtain ⟨hm7_w, hm7_wh⟩ := hm7_k rfl
      refine g_aload_n E dX13_readCrosses_39 rfl rfl rfl ?_
      refine g_getf E gciX13 dX13_readCrosses_40 hm7_a 9 rfl (by decide) q1749 (.inl rfl) (.int 5) (hm7_9) rfl ?_
      refine g_iconst E (v := 5) dX13_readCrosses_43 (by decide) rfl ?_
      refine g_icmp_ne E dX13_readCrosses_44 (tgt := 51) (by decide) rfl (fun h9 => absurd h9 (by decide)) (fun _ => ?_)
      refine g_iconst E (v := 0) dX13_readCrosses_47 (by decide) rfl ?_
      refine g_goto E dX13_readCrosses_48 (tgt := 68) (by decide) ?_
      refine g_bipush E (v := 60) dX13_readCrosses_68 (by decide) rfl ?_
      have y37 := (y5.fr  (fun j9 a9 b9 => f7 j9 (by omega)))
      refine g_callV (k := 2000) (n9 := 3) (av := [.ref (1 + 2 * 61), .int 0, .int 60]) (st := []) E (ct_X13_readPart l 0 60 hF0 hm7 y37 (by omega) trivial rfl (wo_dec _ (by decide +kernel)) (by omega) (by omega)) gciX13 dX13_readCrosses_70 hm7_a q2057 q2059 qs60 q135 q2060 (by decide +kernel) rfl rfl ⟨by decide, by decide⟩ ⟨by decide, by decide⟩ (Nat.le_of_ble_eq_true rfl) rfl (gPi.k (fun g38 h38 => ?_))
      obtain ⟨hm38, f38⟩ := h38
      obtain ⟨y38, hy38⟩ : ∃ y, y = zBd (.inl e3) (zAf T n (gByt "day") 0 60) := ⟨_, rfl⟩
      rw [← hy38] at hm38
      refine g_as (y := nI (zVl 0 y38)) (by rw [hy38]) ?_
      obtain ⟨x38, hx38⟩ : ∃ y, y = zSt y38 := ⟨_, rfl⟩
      rw [← hx38] at hm38
      have hm38_o := hm38
      obtain ⟨hm38_F, hm38_a, hm38_r, hm38_s⟩ := hm38_o
      have hyd_ : y38 = zBd x7 (zAf T n (gByt "day") (if B 0 4 = 0 then 0 else B 21 (B 0 4 - 1)) 60) := by rw [hy38, hc3_]; rfl
      refine g_istore_n E dX13_readCrosses_73 rfl (by decide) rfl (lo1 := [some (.ref 2000), some (.int (nI (zVl 0 y4))), some (.int (nI (zVl 0 y7))), some (.int (nI (zVl 0 y38))), none]) rfl rfl ?_
      have hokx38 : xOk n x38 := by rw [hx38, hyd_]; exact zAf_x2 hokx7
      refine g_aload_n E dX13_readCrosses_74 rfl rfl rfl ?_
      refine g_ldcwS E (j := 62) (tx := "hour") rfl dX13_readCrosses_75 rfl ?_
      refine g_iconst E (v := 0) dX13_readCrosses_78 (by decide) rfl ?_
      refine g_bipush E (v := 23) dX13_readCrosses_79 (by decide) rfl ?_
      have y39 := (y37.fr  (fun j9 a9 b9 => f38 j9 (by omega)))
      refine g_callV (k := 2000) (n9 := 3) (av := [.ref (1 + 2 * 62), .int 0, .int 23]) (st := []) E (ct_X13_readPart l 0 23 hF0 hm38 y39 (by omega) hokx38 rfl (wo_dec _ (by decide +kernel)) (by omega) (by omega)) gciX13 dX13_readCrosses_81 hm38_a q2057 q2059 qs60 q135 q2060 (by decide +kernel) rfl rfl ⟨by decide, by decide⟩ ⟨by decide, by decide⟩ (Nat.le_of_ble_eq_true rfl) rfl (gPi.k (fun g40 h40 => ?_))
      obtain ⟨hm40, f40⟩ := h40
      obtain ⟨y40, hy40⟩ : ∃ y, y = zBd x38 (zAf T n (gByt "hour") 0 23) := ⟨_, rfl⟩
      rw [← hy40] at hm40
      refine g_as (y := nI (zVl 0 y40)) (by rw [hy40]) ?_
      obtain ⟨x40, hx40⟩ : ∃ y, y = zSt y40 := ⟨_, rfl⟩
      rw [← hx40] at hm40
      have hm40_o := hm40
      obtain ⟨hm40_F, hm40_a, hm40_r, hm40_s⟩ := hm40_o
      refine g_istore E dX13_readCrosses_84 (by decide) rfl (lo1 := [some (.ref 2000), some (.int (nI (zVl 0 y4))), some (.int (nI (zVl 0 y7))), some (.int (nI (zVl 0 y38))), some (.int (nI (zVl 0 y40)))]) rfl rfl ?_
      cases hc_ : x40 with
      | inl e =>
        rw [hc_] at hm40
        have hF_ := fold_C_l (Nm := Nm) hx1 hy4 hx4 hy7 hx7 hyd_ hx38 hy40 hx40 hc_
        have hm40_o := hm40
        obtain ⟨hm40_F, hm40_a, hm40_r, hm40_9, hm40_12, hm40_13, hm40_k⟩ := hm40_o
        obtain ⟨hm40_w, hm40_wh⟩ := hm40_k rfl
        refine g_aload_n E dX13_readCrosses_86 rfl rfl rfl ?_
        refine g_getf E gciX13 dX13_readCrosses_87 hm40_a 9 rfl (by decide) q1749 (.inl rfl) (.int 5) (hm40_9) rfl ?_
        refine g_iconst E (v := 5) dX13_readCrosses_90 (by decide) rfl ?_
        refine g_icmp_ne E dX13_readCrosses_91 (tgt := 95) (by decide) rfl (fun h9 => absurd h9 (by decide)) (fun _ => ?_)
        have y41 := (((y6.fr  (fun j9 a9 b9 => f7 j9 (by omega))).fr  (fun j9 a9 b9 => f38 j9 (by omega))).fr  (fun j9 a9 b9 => f40 j9 (by omega)))
        exact g_vret E Rt dX13_readCrosses_94 rfl (by decide) (by decide) (⟨rfl, by rw [hF_]; exact ⟨⟨hm40, y41⟩, fun j9 h9 => ((((f40 j9 (by omega)).trans (f38 j9 (by omega))).trans (f7 j9 (by omega))).trans (f4 j9 (by omega))).trans (f1 j9 (by omega))⟩⟩)
      | inr t9 =>
        rw [hc_] at hm40
        obtain ⟨a0_, a1_, a2_, a3_, r0_, r1_, r2_, hF_, r3_⟩ := fold_C_r (Nm := Nm) hx1 hy4 hx4 hy7 hx7 hyd_ hx38 hy40 hx40 hc_
        have hm40_o := hm40
        obtain ⟨hm40_F, hm40_a, hm40_r, hm40_9, hm40_12, hm40_8, hm40_10, hm40_11, hm40_14, hm40_k⟩ := hm40_o
        obtain ⟨hm40_w, hm40_wh⟩ := hm40_k rfl
        obtain ⟨t1_, s1_, -⟩ := zBd_inr (hy4.symm.trans r0_)
        have hcan_ := of_decide_eq_true (bg_can (hx1.symm.trans s1_) hok)
        have hlen9 := hnk.2.2.2.2
        have hwn := hw.1
        have v0_ : zVl 0 y4 = a0_.1 := by rw [r0_]; rfl
        have v1_ : zVl 0 y7 = a1_.1 := by rw [r1_]; rfl
        have v2_ : zVl 0 y38 = a2_.1 := by rw [r2_]; rfl
        have v3_ : zVl 0 y40 = a3_.1 := by rw [r3_]; rfl
        refine g_aload_n E dX13_readCrosses_86 rfl rfl rfl ?_
        refine g_getf E gciX13 dX13_readCrosses_87 hm40_a 9 rfl (by decide) q1749 (.inl rfl) (.int (zSo t9.2.1)) (hm40_9) rfl ?_
        refine g_iconst E (v := 5) dX13_readCrosses_90 (by decide) rfl ?_
        refine g_icmp_ne E dX13_readCrosses_91 (tgt := 95) (by decide) rfl (fun c91 => ?_) (fun c91 => ?_)
        · refine g_aload_n E dX13_readCrosses_95 rfl rfl rfl ?_
          refine g_getf E gciX13 dX13_readCrosses_96 hm40_a 4 rfl (by decide) q1744 (.inl rfl) (.ref mb) ((hm40_r 4 (.inl (by decide))).trans hF0_4) rfl ?_
          have x42 := (f40 (mb) (by omega)).trans ((f38 (mb) (by omega)).trans (x8))
          refine g_getfN E gciX27 dX13_readCrosses_99 x42 26 rfl (by decide) q1900 (.inl rfl) (.ref (mb + 16)) (hQ_26) rfl ?_
          refine g_aload_n E dX13_readCrosses_102 rfl rfl rfl ?_
          refine g_getf E gciX13 dX13_readCrosses_103 hm40_a 4 rfl (by decide) q1744 (.inl rfl) (.ref mb) ((hm40_r 4 (.inl (by decide))).trans hF0_4) rfl ?_
          refine g_getfN E gciX27 dX13_readCrosses_106 x42 6 rfl (by decide) q1863 (.inl rfl) (.int (nI (B 0 4))) (hQ_6) rfl ?_
          refine g_iload_n E dX13_readCrosses_109 rfl rfl rfl ?_
          have x43 := (f40 (mb + 16) (by omega)).trans ((f38 (mb + 16) (by omega)).trans ((f7 (mb + 16) (by omega)).trans ((f4 (mb + 16) (by omega)).trans ((f1 (mb + 16) (by omega)).trans (hQ_a16)))))
          refine g_iast E dX13_readCrosses_110 (j := B 0 4) x43 (rfl) (by omega) (by decide) rfl (g_upk (fun g44 h44 f44 => ?_))
          refine g_aload_n E dX13_readCrosses_111 rfl rfl rfl ?_
          have x45 := (f44 (2000) (by omega)).trans (hm40_a)
          refine g_getf E gciX13 dX13_readCrosses_112 x45 4 rfl (by decide) q1744 (.inl rfl) (.ref mb) ((hm40_r 4 (.inl (by decide))).trans hF0_4) rfl ?_
          have x46 := (f44 (mb) (by omega)).trans (x42)
          refine g_getfN E gciX27 dX13_readCrosses_115 x46 27 rfl (by decide) q1902 (.inl rfl) (.ref (mb + 17)) (hQ_27) rfl ?_
          refine g_aload_n E dX13_readCrosses_118 rfl rfl rfl ?_
          refine g_getf E gciX13 dX13_readCrosses_119 x45 4 rfl (by decide) q1744 (.inl rfl) (.ref mb) ((hm40_r 4 (.inl (by decide))).trans hF0_4) rfl ?_
          refine g_getfN E gciX27 dX13_readCrosses_122 x46 6 rfl (by decide) q1863 (.inl rfl) (.int (nI (B 0 4))) (hQ_6) rfl ?_
          refine g_iload_n E dX13_readCrosses_125 rfl rfl rfl ?_
          have x47 := (f44 (mb + 17) (by omega)).trans ((f40 (mb + 17) (by omega)).trans ((f38 (mb + 17) (by omega)).trans ((f7 (mb + 17) (by omega)).trans ((f4 (mb + 17) (by omega)).trans ((f1 (mb + 17) (by omega)).trans (hQ_a17))))))
          refine g_iast E dX13_readCrosses_126 (j := B 0 4) x47 (rfl) (by omega) (by decide) rfl (g_upk (fun g48 h48 f48 => ?_))
          refine g_aload_n E dX13_readCrosses_127 rfl rfl rfl ?_
          have x49 := (f48 (2000) (by omega)).trans (x45)
          refine g_getf E gciX13 dX13_readCrosses_128 x49 4 rfl (by decide) q1744 (.inl rfl) (.ref mb) ((hm40_r 4 (.inl (by decide))).trans hF0_4) rfl ?_
          have x50 := (f48 (mb) (by omega)).trans (x46)
          refine g_getfN E gciX27 dX13_readCrosses_131 x50 28 rfl (by decide) q1904 (.inl rfl) (.ref (mb + 18)) (hQ_28) rfl ?_
          refine g_aload_n E dX13_readCrosses_134 rfl rfl rfl ?_
          refine g_getf E gciX13 dX13_readCrosses_135 x49 4 rfl (by decide) q1744 (.inl rfl) (.ref mb) ((hm40_r 4 (.inl (by decide))).trans hF0_4) rfl ?_
          refine g_getfN E gciX27 dX13_readCrosses_138 x50 6 rfl (by decide) q1863 (.inl rfl) (.int (nI (B 0 4))) (hQ_6) rfl ?_
          refine g_iload_n E dX13_readCrosses_141 rfl rfl rfl ?_
          have x51 := (f48 (mb + 18) (by omega)).trans ((f44 (mb + 18) (by omega)).trans ((f40 (mb + 18) (by omega)).trans ((f38 (mb + 18) (by omega)).trans ((f7 (mb + 18) (by omega)).trans ((f4 (mb + 18) (by omega)).trans ((f1 (mb + 18) (by omega)).trans (hQ_a18)))))))
          refine g_iast E dX13_readCrosses_142 (j := B 0 4) x51 (rfl) (by omega) (by decide) rfl (g_upk (fun g52 h52 f52 => ?_))
          refine g_aload_n E dX13_readCrosses_143 rfl rfl rfl ?_
          have x53 := (f52 (2000) (by omega)).trans (x49)
          refine g_getf E gciX13 dX13_readCrosses_144 x53 4 rfl (by decide) q1744 (.inl rfl) (.ref mb) ((hm40_r 4 (.inl (by decide))).trans hF0_4) rfl ?_
          have x54 := (f52 (mb) (by omega)).trans (x50)
          refine g_getfN E gciX27 dX13_readCrosses_147 x54 29 rfl (by decide) q1906 (.inl rfl) (.ref (mb + 19)) (hQ_29) rfl ?_
          refine g_aload_n E dX13_readCrosses_150 rfl rfl rfl ?_
          refine g_getf E gciX13 dX13_readCrosses_151 x53 4 rfl (by decide) q1744 (.inl rfl) (.ref mb) ((hm40_r 4 (.inl (by decide))).trans hF0_4) rfl ?_
          refine g_getfN E gciX27 dX13_readCrosses_154 x54 6 rfl (by decide) q1863 (.inl rfl) (.int (nI (B 0 4))) (hQ_6) rfl ?_
          refine g_iload E dX13_readCrosses_157 rfl rfl ?_
          have x55 := (f52 (mb + 19) (by omega)).trans ((f48 (mb + 19) (by omega)).trans ((f44 (mb + 19) (by omega)).trans ((f40 (mb + 19) (by omega)).trans ((f38 (mb + 19) (by omega)).trans ((f7 (mb + 19) (by omega)).trans ((f4 (mb + 19) (by omega)).trans ((f1 (mb + 19) (by omega)).trans (hQ_a19))))))))
          refine g_iast E dX13_readCrosses_159 (j := B 0 4) x55 (rfl) (by omega) (by decide) rfl (g_upk (fun g56 h56 f56 => ?_))
          refine g_aload_n E dX13_readCrosses_160 rfl rfl rfl ?_
          have x57 := (f56 (2000) (by omega)).trans (x53)
          refine g_getf E gciX13 dX13_readCrosses_161 x57 4 rfl (by decide) q1744 (.inl rfl) (.ref mb) ((hm40_r 4 (.inl (by decide))).trans hF0_4) rfl ?_
          refine g_dup E dX13_readCrosses_164 rfl rfl ?_
          have x58 := (f56 (mb) (by omega)).trans (x54)
          refine g_getfN E gciX27 dX13_readCrosses_165 x58 6 rfl (by decide) q1863 (.inl rfl) (.int (nI (B 0 4))) (hQ_6) rfl ?_
          refine g_iconst E (v := 1) dX13_readCrosses_168 (by decide) rfl ?_
          refine g_iadd E dX13_readCrosses_169 rfl ?_
          refine g_as (y := nI (B 0 4 + 1)) ((nI_succ _).symm) ?_
          refine g_putfN E gciX27 (v := .int (nI (B 0 4 + 1))) dX13_readCrosses_170 x58 6 rfl (by decide) q1863 (.inl rfl) rfl (fun _ => rfl) (fun _ => rfl) rfl (g_upk (fun g59 h59 f59 => ?_))
          have x60 := (f59 (mb + 16) (by omega)).trans ((f56 (mb + 16) (by omega)).trans ((f52 (mb + 16) (by omega)).trans ((f48 (mb + 16) (by omega)).trans (h44))))
          have x61 := (f59 (mb + 17) (by omega)).trans ((f56 (mb + 17) (by omega)).trans ((f52 (mb + 17) (by omega)).trans (h48)))
          have x62 := (f59 (mb + 18) (by omega)).trans ((f56 (mb + 18) (by omega)).trans (h52))
          have x63 := (f59 (mb + 19) (by omega)).trans (h56)
          have y64 := (((((hm40.fr  (fun j9 a9 b9 => f44 j9 (by omega))).fr  (fun j9 a9 b9 => f48 j9 (by omega))).fr  (fun j9 a9 b9 => f52 j9 (by omega))).fr  (fun j9 a9 b9 => f56 j9 (by omega))).fr  (fun j9 a9 b9 => f59 j9 (by omega)))
          exact g_vret E Rt dX13_readCrosses_173 rfl (by decide) (by decide) (⟨rfl, by rw [hF_]; exact ⟨⟨y64, _, zNk_o hnk (s4 rfl rfl rfl rfl), pMt_C hQ ⟨_, h59, hQ_0, hQ_1, hQ_2, hQ_3, hQ_4, hQ_5, rfl, hQ_7, hQ_8, hQ_9, hQ_10, hQ_11, hQ_12, hQ_13, hQ_14, hQ_15, hQ_16, hQ_17, hQ_18, hQ_19, hQ_20, hQ_21, hQ_22, hQ_23, hQ_24, hQ_25, hQ_26, hQ_27, hQ_28, hQ_29, hQ_30, hQ_31, hQ_32, hQ_33, hQ_34⟩ ⟨_, x60, updN.trans (by rw [v0_]), fun k9 h9 => (updO (by omega)).trans (hQ_b16 k9 h9)⟩ ⟨_, x61, updN.trans (by rw [v1_]), fun k9 h9 => (updO (by omega)).trans (hQ_b17 k9 h9)⟩ ⟨_, x62, updN.trans (by rw [v2_]), fun k9 h9 => (updO (by omega)).trans (hQ_b18 k9 h9)⟩ ⟨_, x63, updN.trans (by rw [v3_]), fun k9 h9 => (updO (by omega)).trans (hQ_b19 k9 h9)⟩ (fun j9 a9 b9 c0_ c1_ c2_ c3_ c4_ => (((((((((f59 j9 (by omega)).trans (f56 j9 (by omega))).trans (f52 j9 (by omega))).trans (f48 j9 (by omega))).trans (f44 j9 (by omega))).trans (f40 j9 (by omega))).trans (f38 j9 (by omega))).trans (f7 j9 (by omega))).trans (f4 j9 (by omega))).trans (f1 j9 (by omega)))⟩, fun j9 h9 => (((((((((f59 j9 (by omega)).trans (f56 j9 (by omega))).trans (f52 j9 (by omega))).trans (f48 j9 (by omega))).trans (f44 j9 (by omega))).trans (f40 j9 (by omega))).trans (f38 j9 (by omega))).trans (f7 j9 (by omega))).trans (f4 j9 (by omega))).trans (f1 j9 (by omega))⟩⟩)
        · exact absurd (by first | exact c91 | exact Classical.not_not.mp c91) (zSo_5 _)
    | inr t3 =>
      rw [hc3_] at hm7
      have hm7_o := hm7
      obtain ⟨hm7_F, hm7_a, hm7_r, hm7_9, hm7_12, hm7_8, hm7_10, hm7_11, hm7_14, hm7_k⟩ := hm7_o
      obtain ⟨hm7_w, hm7_wh⟩ := hm7_k rfl
      refine g_aload_n E dX13_readCrosses_39 rfl rfl rfl ?_
      refine g_getf E gciX13 dX13_readCrosses_40 hm7_a 9 rfl (by decide) q1749 (.inl rfl) (.int (zSo t3.2.1)) (hm7_9) rfl ?_
      refine g_iconst E (v := 5) dX13_readCrosses_43 (by decide) rfl ?_
      refine g_icmp_ne E dX13_readCrosses_44 (tgt := 51) (by decide) rfl (fun c44 => ?_) (fun c44 => ?_)
      · refine g_aload_n E dX13_readCrosses_51 rfl rfl rfl ?_
        refine g_getf E gciX13 dX13_readCrosses_52 hm7_a 4 rfl (by decide) q1744 (.inl rfl) (.ref mb) ((hm7_r 4 (.inl (by decide))).trans hF0_4) rfl ?_
        refine g_getfN E gciX27 dX13_readCrosses_55 x8 28 rfl (by decide) q1904 (.inl rfl) (.ref (mb + 18)) (hQ_28) rfl ?_
        refine g_aload_n E dX13_readCrosses_58 rfl rfl rfl ?_
        refine g_getf E gciX13 dX13_readCrosses_59 hm7_a 4 rfl (by decide) q1744 (.inl rfl) (.ref mb) ((hm7_r 4 (.inl (by decide))).trans hF0_4) rfl ?_
        refine g_getfN E gciX27 dX13_readCrosses_62 x8 6 rfl (by decide) q1863 (.inl rfl) (.int (nI (B 0 4))) (hQ_6) rfl ?_
        refine g_iconst E (v := 1) dX13_readCrosses_65 (by decide) rfl ?_
        refine g_isub E dX13_readCrosses_66 rfl ?_
        refine g_as (y := nI (B 0 4 - 1)) (pk_sub (b := 1) (by omega)) ?_
        have x65 := (f7 (mb + 18) (by omega)).trans ((f4 (mb + 18) (by omega)).trans ((f1 (mb + 18) (by omega)).trans (hQ_a18)))
        refine g_iald E dX13_readCrosses_67 (j := B 0 4 - 1) x65 (rfl) (by omega) (by decide) (v := nI (B 21 (B 0 4 - 1))) (hQ_b18 (B 0 4 - 1) (by omega)) rfl ?_
        refine g_bipush E (v := 60) dX13_readCrosses_68 (by decide) rfl ?_
        have y66 := (y5.fr  (fun j9 a9 b9 => f7 j9 (by omega)))
        refine g_callV (k := 2000) (n9 := 3) (av := [.ref (1 + 2 * 61), .int (nI (B 21 (B 0 4 - 1))), .int 60]) (st := []) E (ct_X13_readPart l (B 21 (B 0 4 - 1)) 60 hF0 hm7 y66 (by omega) (show xOk n (.inr t3) by rw [← hc3_]; exact hokx7) rfl (wo_dec _ (by decide +kernel)) (by omega) (by omega)) gciX13 dX13_readCrosses_70 hm7_a q2057 q2059 qs60 q135 q2060 (by decide +kernel) rfl rfl ⟨by decide, by decide⟩ ⟨by decide, by decide⟩ (Nat.le_of_ble_eq_true rfl) rfl (gPi.k (fun g67 h67 => ?_))
        obtain ⟨hm67, f67⟩ := h67
        obtain ⟨y67, hy67⟩ : ∃ y, y = zBd (.inr t3) (zAf T n (gByt "day") (B 21 (B 0 4 - 1)) 60) := ⟨_, rfl⟩
        rw [← hy67] at hm67
        refine g_as (y := nI (zVl (B 21 (B 0 4 - 1)) y67)) (by rw [hy67]) ?_
        obtain ⟨x67, hx67⟩ : ∃ y, y = zSt y67 := ⟨_, rfl⟩
        rw [← hx67] at hm67
        have hm67_o := hm67
        obtain ⟨hm67_F, hm67_a, hm67_r, hm67_s⟩ := hm67_o
        have hyd_ : y67 = zBd x7 (zAf T n (gByt "day") (if B 0 4 = 0 then 0 else B 21 (B 0 4 - 1)) 60) := by rw [hy67, if_neg c36, hc3_]
        refine g_istore_n E dX13_readCrosses_73 rfl (by decide) rfl (lo1 := [some (.ref 2000), some (.int (nI (zVl 0 y4))), some (.int (nI (zVl 0 y7))), some (.int (nI (zVl (B 21 (B 0 4 - 1)) y67))), none]) rfl rfl ?_
        have hokx67 : xOk n x67 := by rw [hx67, hyd_]; exact zAf_x2 hokx7
        refine g_aload_n E dX13_readCrosses_74 rfl rfl rfl ?_
        refine g_ldcwS E (j := 62) (tx := "hour") rfl dX13_readCrosses_75 rfl ?_
        refine g_iconst E (v := 0) dX13_readCrosses_78 (by decide) rfl ?_
        refine g_bipush E (v := 23) dX13_readCrosses_79 (by decide) rfl ?_
        have y68 := (y66.fr  (fun j9 a9 b9 => f67 j9 (by omega)))
        refine g_callV (k := 2000) (n9 := 3) (av := [.ref (1 + 2 * 62), .int 0, .int 23]) (st := []) E (ct_X13_readPart l 0 23 hF0 hm67 y68 (by omega) hokx67 rfl (wo_dec _ (by decide +kernel)) (by omega) (by omega)) gciX13 dX13_readCrosses_81 hm67_a q2057 q2059 qs60 q135 q2060 (by decide +kernel) rfl rfl ⟨by decide, by decide⟩ ⟨by decide, by decide⟩ (Nat.le_of_ble_eq_true rfl) rfl (gPi.k (fun g69 h69 => ?_))
        obtain ⟨hm69, f69⟩ := h69
        obtain ⟨y69, hy69⟩ : ∃ y, y = zBd x67 (zAf T n (gByt "hour") 0 23) := ⟨_, rfl⟩
        rw [← hy69] at hm69
        refine g_as (y := nI (zVl 0 y69)) (by rw [hy69]) ?_
        obtain ⟨x69, hx69⟩ : ∃ y, y = zSt y69 := ⟨_, rfl⟩
        rw [← hx69] at hm69
        have hm69_o := hm69
        obtain ⟨hm69_F, hm69_a, hm69_r, hm69_s⟩ := hm69_o
        refine g_istore E dX13_readCrosses_84 (by decide) rfl (lo1 := [some (.ref 2000), some (.int (nI (zVl 0 y4))), some (.int (nI (zVl 0 y7))), some (.int (nI (zVl (B 21 (B 0 4 - 1)) y67))), some (.int (nI (zVl 0 y69)))]) rfl rfl ?_
        cases hc_ : x69 with
        | inl e =>
          rw [hc_] at hm69
          have hF_ := fold_C_l (Nm := Nm) hx1 hy4 hx4 hy7 hx7 hyd_ hx67 hy69 hx69 hc_
          have hm69_o := hm69
          obtain ⟨hm69_F, hm69_a, hm69_r, hm69_9, hm69_12, hm69_13, hm69_k⟩ := hm69_o
          obtain ⟨hm69_w, hm69_wh⟩ := hm69_k rfl
          refine g_aload_n E dX13_readCrosses_86 rfl rfl rfl ?_
          refine g_getf E gciX13 dX13_readCrosses_87 hm69_a 9 rfl (by decide) q1749 (.inl rfl) (.int 5) (hm69_9) rfl ?_
          refine g_iconst E (v := 5) dX13_readCrosses_90 (by decide) rfl ?_
          refine g_icmp_ne E dX13_readCrosses_91 (tgt := 95) (by decide) rfl (fun h9 => absurd h9 (by decide)) (fun _ => ?_)
          have y70 := (((y6.fr  (fun j9 a9 b9 => f7 j9 (by omega))).fr  (fun j9 a9 b9 => f67 j9 (by omega))).fr  (fun j9 a9 b9 => f69 j9 (by omega)))
          exact g_vret E Rt dX13_readCrosses_94 rfl (by decide) (by decide) (⟨rfl, by rw [hF_]; exact ⟨⟨hm69, y70⟩, fun j9 h9 => ((((f69 j9 (by omega)).trans (f67 j9 (by omega))).trans (f7 j9 (by omega))).trans (f4 j9 (by omega))).trans (f1 j9 (by omega))⟩⟩)
        | inr t9 =>
          rw [hc_] at hm69
          obtain ⟨a0_, a1_, a2_, a3_, r0_, r1_, r2_, hF_, r3_⟩ := fold_C_r (Nm := Nm) hx1 hy4 hx4 hy7 hx7 hyd_ hx67 hy69 hx69 hc_
          have hm69_o := hm69
          obtain ⟨hm69_F, hm69_a, hm69_r, hm69_9, hm69_12, hm69_8, hm69_10, hm69_11, hm69_14, hm69_k⟩ := hm69_o
          obtain ⟨hm69_w, hm69_wh⟩ := hm69_k rfl
          obtain ⟨t1_, s1_, -⟩ := zBd_inr (hy4.symm.trans r0_)
          have hcan_ := of_decide_eq_true (bg_can (hx1.symm.trans s1_) hok)
          have hlen9 := hnk.2.2.2.2
          have hwn := hw.1
          have v0_ : zVl 0 y4 = a0_.1 := by rw [r0_]; rfl
          have v1_ : zVl 0 y7 = a1_.1 := by rw [r1_]; rfl
          have v2_ : zVl (B 21 (B 0 4 - 1)) y67 = a2_.1 := by rw [r2_]; rfl
          have v3_ : zVl 0 y69 = a3_.1 := by rw [r3_]; rfl
          refine g_aload_n E dX13_readCrosses_86 rfl rfl rfl ?_
          refine g_getf E gciX13 dX13_readCrosses_87 hm69_a 9 rfl (by decide) q1749 (.inl rfl) (.int (zSo t9.2.1)) (hm69_9) rfl ?_
          refine g_iconst E (v := 5) dX13_readCrosses_90 (by decide) rfl ?_
          refine g_icmp_ne E dX13_readCrosses_91 (tgt := 95) (by decide) rfl (fun c91 => ?_) (fun c91 => ?_)
          · refine g_aload_n E dX13_readCrosses_95 rfl rfl rfl ?_
            refine g_getf E gciX13 dX13_readCrosses_96 hm69_a 4 rfl (by decide) q1744 (.inl rfl) (.ref mb) ((hm69_r 4 (.inl (by decide))).trans hF0_4) rfl ?_
            have x71 := (f69 (mb) (by omega)).trans ((f67 (mb) (by omega)).trans (x8))
            refine g_getfN E gciX27 dX13_readCrosses_99 x71 26 rfl (by decide) q1900 (.inl rfl) (.ref (mb + 16)) (hQ_26) rfl ?_
            refine g_aload_n E dX13_readCrosses_102 rfl rfl rfl ?_
            refine g_getf E gciX13 dX13_readCrosses_103 hm69_a 4 rfl (by decide) q1744 (.inl rfl) (.ref mb) ((hm69_r 4 (.inl (by decide))).trans hF0_4) rfl ?_
            refine g_getfN E gciX27 dX13_readCrosses_106 x71 6 rfl (by decide) q1863 (.inl rfl) (.int (nI (B 0 4))) (hQ_6) rfl ?_
            refine g_iload_n E dX13_readCrosses_109 rfl rfl rfl ?_
            have x72 := (f69 (mb + 16) (by omega)).trans ((f67 (mb + 16) (by omega)).trans ((f7 (mb + 16) (by omega)).trans ((f4 (mb + 16) (by omega)).trans ((f1 (mb + 16) (by omega)).trans (hQ_a16)))))
            refine g_iast E dX13_readCrosses_110 (j := B 0 4) x72 (rfl) (by omega) (by decide) rfl (g_upk (fun g73 h73 f73 => ?_))
            refine g_aload_n E dX13_readCrosses_111 rfl rfl rfl ?_
            have x74 := (f73 (2000) (by omega)).trans (hm69_a)
            refine g_getf E gciX13 dX13_readCrosses_112 x74 4 rfl (by decide) q1744 (.inl rfl) (.ref mb) ((hm69_r 4 (.inl (by decide))).trans hF0_4) rfl ?_
            have x75 := (f73 (mb) (by omega)).trans (x71)
            refine g_getfN E gciX27 dX13_readCrosses_115 x75 27 rfl (by decide) q1902 (.inl rfl) (.ref (mb + 17)) (hQ_27) rfl ?_
            refine g_aload_n E dX13_readCrosses_118 rfl rfl rfl ?_
            refine g_getf E gciX13 dX13_readCrosses_119 x74 4 rfl (by decide) q1744 (.inl rfl) (.ref mb) ((hm69_r 4 (.inl (by decide))).trans hF0_4) rfl ?_
            refine g_getfN E gciX27 dX13_readCrosses_122 x75 6 rfl (by decide) q1863 (.inl rfl) (.int (nI (B 0 4))) (hQ_6) rfl ?_
            refine g_iload_n E dX13_readCrosses_125 rfl rfl rfl ?_
            have x76 := (f73 (mb + 17) (by omega)).trans ((f69 (mb + 17) (by omega)).trans ((f67 (mb + 17) (by omega)).trans ((f7 (mb + 17) (by omega)).trans ((f4 (mb + 17) (by omega)).trans ((f1 (mb + 17) (by omega)).trans (hQ_a17))))))
            refine g_iast E dX13_readCrosses_126 (j := B 0 4) x76 (rfl) (by omega) (by decide) rfl (g_upk (fun g77 h77 f77 => ?_))
            refine g_aload_n E dX13_readCrosses_127 rfl rfl rfl ?_
            have x78 := (f77 (2000) (by omega)).trans (x74)
            refine g_getf E gciX13 dX13_readCrosses_128 x78 4 rfl (by decide) q1744 (.inl rfl) (.ref mb) ((hm69_r 4 (.inl (by decide))).trans hF0_4) rfl ?_
            have x79 := (f77 (mb) (by omega)).trans (x75)
            refine g_getfN E gciX27 dX13_readCrosses_131 x79 28 rfl (by decide) q1904 (.inl rfl) (.ref (mb + 18)) (hQ_28) rfl ?_
            refine g_aload_n E dX13_readCrosses_134 rfl rfl rfl ?_
            refine g_getf E gciX13 dX13_readCrosses_135 x78 4 rfl (by decide) q1744 (.inl rfl) (.ref mb) ((hm69_r 4 (.inl (by decide))).trans hF0_4) rfl ?_
            refine g_getfN E gciX27 dX13_readCrosses_138 x79 6 rfl (by decide) q1863 (.inl rfl) (.int (nI (B 0 4))) (hQ_6) rfl ?_
            refine g_iload_n E dX13_readCrosses_141 rfl rfl rfl ?_
            have x80 := (f77 (mb + 18) (by omega)).trans ((f73 (mb + 18) (by omega)).trans ((f69 (mb + 18) (by omega)).trans ((f67 (mb + 18) (by omega)).trans (x65))))
            refine g_iast E dX13_readCrosses_142 (j := B 0 4) x80 (rfl) (by omega) (by decide) rfl (g_upk (fun g81 h81 f81 => ?_))
            refine g_aload_n E dX13_readCrosses_143 rfl rfl rfl ?_
            have x82 := (f81 (2000) (by omega)).trans (x78)
            refine g_getf E gciX13 dX13_readCrosses_144 x82 4 rfl (by decide) q1744 (.inl rfl) (.ref mb) ((hm69_r 4 (.inl (by decide))).trans hF0_4) rfl ?_
            have x83 := (f81 (mb) (by omega)).trans (x79)
            refine g_getfN E gciX27 dX13_readCrosses_147 x83 29 rfl (by decide) q1906 (.inl rfl) (.ref (mb + 19)) (hQ_29) rfl ?_
            refine g_aload_n E dX13_readCrosses_150 rfl rfl rfl ?_
            refine g_getf E gciX13 dX13_readCrosses_151 x82 4 rfl (by decide) q1744 (.inl rfl) (.ref mb) ((hm69_r 4 (.inl (by decide))).trans hF0_4) rfl ?_
            refine g_getfN E gciX27 dX13_readCrosses_154 x83 6 rfl (by decide) q1863 (.inl rfl) (.int (nI (B 0 4))) (hQ_6) rfl ?_
            refine g_iload E dX13_readCrosses_157 rfl rfl ?_
            have x84 := (f81 (mb + 19) (by omega)).trans ((f77 (mb + 19) (by omega)).trans ((f73 (mb + 19) (by omega)).trans ((f69 (mb + 19) (by omega)).trans ((f67 (mb + 19) (by omega)).trans ((f7 (mb + 19) (by omega)).trans ((f4 (mb + 19) (by omega)).trans ((f1 (mb + 19) (by omega)).trans (hQ_a19))))))))
            refine g_iast E dX13_readCrosses_159 (j := B 0 4) x84 (rfl) (by omega) (by decide) rfl (g_upk (fun g85 h85 f85 => ?_))
            refine g_aload_n E dX13_readCrosses_160 rfl rfl rfl ?_
            have x86 := (f85 (2000) (by omega)).trans (x82)
            refine g_getf E gciX13 dX13_readCrosses_161 x86 4 rfl (by decide) q1744 (.inl rfl) (.ref mb) ((hm69_r 4 (.inl (by decide))).trans hF0_4) rfl ?_
            refine g_dup E dX13_readCrosses_164 rfl rfl ?_
            have x87 := (f85 (mb) (by omega)).trans (x83)
            refine g_getfN E gciX27 dX13_readCrosses_165 x87 6 rfl (by decide) q1863 (.inl rfl) (.int (nI (B 0 4))) (hQ_6) rfl ?_
            refine g_iconst E (v := 1) dX13_readCrosses_168 (by decide) rfl ?_
            refine g_iadd E dX13_readCrosses_169 rfl ?_
            refine g_as (y := nI (B 0 4 + 1)) ((nI_succ _).symm) ?_
            refine g_putfN E gciX27 (v := .int (nI (B 0 4 + 1))) dX13_readCrosses_170 x87 6 rfl (by decide) q1863 (.inl rfl) rfl (fun _ => rfl) (fun _ => rfl) rfl (g_upk (fun g88 h88 f88 => ?_))
            have x89 := (f88 (mb + 16) (by omega)).trans ((f85 (mb + 16) (by omega)).trans ((f81 (mb + 16) (by omega)).trans ((f77 (mb + 16) (by omega)).trans (h73))))
            have x90 := (f88 (mb + 17) (by omega)).trans ((f85 (mb + 17) (by omega)).trans ((f81 (mb + 17) (by omega)).trans (h77)))
            have x91 := (f88 (mb + 18) (by omega)).trans ((f85 (mb + 18) (by omega)).trans (h81))
            have x92 := (f88 (mb + 19) (by omega)).trans (h85)
            have y93 := (((((hm69.fr  (fun j9 a9 b9 => f73 j9 (by omega))).fr  (fun j9 a9 b9 => f77 j9 (by omega))).fr  (fun j9 a9 b9 => f81 j9 (by omega))).fr  (fun j9 a9 b9 => f85 j9 (by omega))).fr  (fun j9 a9 b9 => f88 j9 (by omega)))
            exact g_vret E Rt dX13_readCrosses_173 rfl (by decide) (by decide) (⟨rfl, by rw [hF_]; exact ⟨⟨y93, _, zNk_o hnk (s4 rfl rfl rfl rfl), pMt_C hQ ⟨_, h88, hQ_0, hQ_1, hQ_2, hQ_3, hQ_4, hQ_5, rfl, hQ_7, hQ_8, hQ_9, hQ_10, hQ_11, hQ_12, hQ_13, hQ_14, hQ_15, hQ_16, hQ_17, hQ_18, hQ_19, hQ_20, hQ_21, hQ_22, hQ_23, hQ_24, hQ_25, hQ_26, hQ_27, hQ_28, hQ_29, hQ_30, hQ_31, hQ_32, hQ_33, hQ_34⟩ ⟨_, x89, updN.trans (by rw [v0_]), fun k9 h9 => (updO (by omega)).trans (hQ_b16 k9 h9)⟩ ⟨_, x90, updN.trans (by rw [v1_]), fun k9 h9 => (updO (by omega)).trans (hQ_b17 k9 h9)⟩ ⟨_, x91, updN.trans (by rw [v2_]), fun k9 h9 => (updO (by omega)).trans (hQ_b18 k9 h9)⟩ ⟨_, x92, updN.trans (by rw [v3_]), fun k9 h9 => (updO (by omega)).trans (hQ_b19 k9 h9)⟩ (fun j9 a9 b9 c0_ c1_ c2_ c3_ c4_ => (((((((((f88 j9 (by omega)).trans (f85 j9 (by omega))).trans (f81 j9 (by omega))).trans (f77 j9 (by omega))).trans (f73 j9 (by omega))).trans (f69 j9 (by omega))).trans (f67 j9 (by omega))).trans (f7 j9 (by omega))).trans (f4 j9 (by omega))).trans (f1 j9 (by omega)))⟩, fun j9 h9 => (((((((((f88 j9 (by omega)).trans (f85 j9 (by omega))).trans (f81 j9 (by omega))).trans (f77 j9 (by omega))).trans (f73 j9 (by omega))).trans (f69 j9 (by omega))).trans (f67 j9 (by omega))).trans (f7 j9 (by omega))).trans (f4 j9 (by omega))).trans (f1 j9 (by omega))⟩⟩)
          · exact absurd (by first | exact c91 | exact Classical.not_not.mp c91) (zSo_5 _)
      · exact absurd (by first | exact c44 | exact Classical.not_not.mp c44) (zSo_5 _)
