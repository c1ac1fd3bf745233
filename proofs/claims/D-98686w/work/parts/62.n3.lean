/-! THE MODEL, walks, third: what is best -/
set_option maxRecDepth 100000
set_option maxHeartbeats 1000000 in
theorem ct_X13_cheapests (l : Launch) {g : gWM} {mb : Nat} {B : gBar} {R : Nat → Int32} {dn : Nat} {th tr wh fa : Int32} {tp ac mk : Nat} (t k9 : Nat) (hw : wfB B) (hM : pMq g (.ref mb) th tr wh tp fa ac mk []) (hMb : pMb g mb B) (hV : pRw g 2002 B R (nI dn)) (hX : pIx g 2003 18) (h9 : 10000 ≤ mb) (hdn : dn ≤ 300) (ht : t < B 0 1) (hk9 : k9 < B 0 2) : gCt l yX13_cheapests cX13_cheapests 5 none 6 0 0 141 [.ref 2000, .int (nI t), .int (nI k9)] g (gPn (fun g1 => pMq g1 (.ref mb) th tr wh tp fa ac mk [(21, nI (zChe B R (nI dn) t k9)), (22, zAo B R t k9 1 (nI dn + nI (zChe B R (nI dn) t k9)))] ∧ pIx g1 2003 18 ∧ ∀ j, (j ≠ 2000 ∧ j ≠ 2003) → g1 j = g j)) := by
  refine gCt.of RX13 (by decide) rfl (lo := [some (.ref 2000), some (.int (nI t)), some (.int (nI k9)), none, none]) 2 rfl (Nat.le_of_ble_eq_true rfl) (fun z E Rt => ?_)
  have hw_n := hw.1
  have hM_o := hM
  obtain ⟨hM_F, hM_a, hM_0, hM_1, hM_2, hM_3, hM_5, hM_6, hM_12, hM_15, hM_16, hM_17, hM_18, hM_19, hM_20, hM_26, hM_28, hM_29, -⟩ := hM_o
  have hMb_o := hMb
  obtain ⟨⟨hMb_F, hMb_a, hMb_0, hMb_1, hMb_2, hMb_3, hMb_4, hMb_5, hMb_6, hMb_7, hMb_8, hMb_9, hMb_11, hMb_12, hMb_13, hMb_14, hMb_15, hMb_16, hMb_17, hMb_18, hMb_19, hMb_20, hMb_21, hMb_22, hMb_23, hMb_24, hMb_25, hMb_26, hMb_27, hMb_28, hMb_29, hMb_30, hMb_31⟩, ⟨hMb_f1, hMb_a1, hMb_b1⟩, ⟨hMb_f2, hMb_a2, hMb_b2⟩, ⟨hMb_f3, hMb_a3, hMb_b3⟩, ⟨hMb_f4, hMb_a4, hMb_b4⟩, ⟨hMb_f5, hMb_a5, hMb_b5⟩, ⟨hMb_f6, hMb_a6, hMb_b6⟩, ⟨hMb_f7, hMb_a7, hMb_b7⟩, ⟨hMb_f8, hMb_a8, hMb_b8⟩, ⟨hMb_f9, hMb_a9, hMb_b9⟩, ⟨hMb_f10, hMb_a10, hMb_b10⟩, ⟨hMb_f11, hMb_a11, hMb_b11⟩, ⟨hMb_f12, hMb_a12, hMb_b12⟩, ⟨hMb_f13, hMb_a13, hMb_b13⟩, ⟨hMb_f14, hMb_a14, hMb_b14⟩, ⟨hMb_f15, hMb_a15, hMb_b15⟩, ⟨hMb_f16, hMb_a16, hMb_b16⟩, ⟨hMb_f17, hMb_a17, hMb_b17⟩, ⟨hMb_f18, hMb_a18, hMb_b18⟩, ⟨hMb_f19, hMb_a19, hMb_b19⟩, ⟨hMb_f20, hMb_a20, hMb_b20⟩, ⟨hMb_f21, hMb_a21, hMb_b21⟩⟩ := hMb_o
  have hV_o := hV
  obtain ⟨hV_f, hV_a, hV_r, hV_d⟩ := hV_o
  have hX_o := hX
  obtain ⟨hX_f, hX_a⟩ := hX_o
  refine g_aload_n E dX13_cheapests_0 rfl rfl rfl ?_
  refine g_iconst E (v := (-1)) dX13_cheapests_1 (by decide) rfl ?_
  refine g_putf E gciX13 (v := .int (-1)) dX13_cheapests_2 hM_a 22 rfl (by decide) q1762 (.inl rfl) rfl (fun _ => rfl) (fun _ => rfl) rfl (g_upk (fun g1 h1 f1 => ?_))
  refine g_iconst E (v := 0) dX13_cheapests_5 (by decide) rfl ?_
  refine g_istore_n E dX13_cheapests_6 rfl (by decide) rfl (lo1 := [some (.ref 2000), some (.int (nI t)), some (.int (nI k9)), some (.int 0), none]) rfl rfl ?_
  refine g_iload_n E dX13_cheapests_7 rfl rfl rfl ?_
  refine g_bipush E (v := 60) dX13_cheapests_8 (by decide) rfl ?_
  refine g_icmp_gt E dX13_cheapests_10 (tgt := 69) (by decide) rfl (fun h9 => absurd h9 (by decide)) (fun _ => ?_)
  refine g_aload_n E dX13_cheapests_13 rfl rfl rfl ?_
  refine g_iconst E (v := 1) dX13_cheapests_14 (by decide) rfl ?_
  refine g_iload_n E dX13_cheapests_15 rfl rfl rfl ?_
  have hM2 : pMq g1 (.ref mb) th tr wh tp fa ac mk [] := ⟨_, h1, hM_0, hM_1, hM_2, hM_3, hM_5, hM_6, hM_12, hM_15, hM_16, hM_17, hM_18, hM_19, hM_20, hM_26, hM_28, hM_29, trivial⟩
  have y3 := (hV.fr  (fun j9 a9 b9 => f1 j9 (by omega)))
  have x4 := (f1 (2003) (by omega)).trans (hX_a)
  refine g_callV (k := 2000) (n9 := 2) (av := [.int 1, .int 0]) (st := []) E (ct_X13_asks_Y l 0 hw hM2 y3 (⟨_, x4⟩) (by decide)) gciX13 dX13_cheapests_16 h1 q2233 q2235 qs87 q135 q2236 (by decide +kernel) rfl rfl ⟨by decide, by decide⟩ ⟨by decide, by decide⟩ (Nat.le_of_ble_eq_true rfl) rfl (gPi.k (fun g5 h5 => ?_))
  obtain ⟨hr5, f5⟩ := h5
  have hr5_o := hr5
  obtain ⟨hr5_f, hr5_a, hr5_r, hr5_d⟩ := hr5_o
  refine g_pop E dX13_cheapests_19 rfl rfl ?_
  refine g_aload_n E dX13_cheapests_20 rfl rfl rfl ?_
  refine g_aload_n E dX13_cheapests_21 rfl rfl rfl ?_
  have x6 := (f5 (2000) (by omega)).trans (h1)
  refine g_getf E gciX13 dX13_cheapests_22 x6 16 rfl (by decide) q1756 (.inl rfl) (.ref 2003) (hM_16) rfl ?_
  refine g_iload_n E dX13_cheapests_25 rfl rfl rfl ?_
  refine g_iload_n E dX13_cheapests_26 rfl rfl rfl ?_
  have hM7 : pMq g5 (.ref mb) th tr wh tp fa ac mk [] := ⟨_, x6, hM_0, hM_1, hM_2, hM_3, hM_5, hM_6, hM_12, hM_15, hM_16, hM_17, hM_18, hM_19, hM_20, hM_26, hM_28, hM_29, trivial⟩
  have y8 := ((hMb.fr  (fun j9 a9 b9 => f1 j9 (by omega))).fr  (fun j9 a9 b9 => f5 j9 (by omega)))
  refine g_callV (k := 2000) (n9 := 3) (av := [.ref 2003, .int (nI t), .int (nI k9)]) (st := []) E (ct_X13_askedIn l t k9 hw hM7 y8 hr5 (by omega) (by omega)) gciX13 dX13_cheapests_27 x6 q2289 q2291 qs95 q135 q2292 (by decide +kernel) rfl rfl ⟨by decide, by decide⟩ ⟨by decide, by decide⟩ (Nat.le_of_ble_eq_true rfl) rfl (gPu.k ?_)
  refine g_istore E dX13_cheapests_30 (by decide) rfl (lo1 := [some (.ref 2000), some (.int (nI t)), some (.int (nI k9)), some (.int 0), some (.int (zAo B R t k9 1 (nI dn + 0)))]) rfl rfl ?_
  refine g_aload_n E dX13_cheapests_32 rfl rfl rfl ?_
  refine g_getf E gciX13 dX13_cheapests_33 x6 22 rfl (by decide) q1762 (.inl rfl) (.int (-1)) (rfl) rfl ?_
  refine g_iconst E (v := (-1)) dX13_cheapests_36 (by decide) rfl ?_
  refine g_icmp_eq E dX13_cheapests_37 (tgt := 52) (by decide) rfl (fun _ => ?_) (fun h9 => absurd h9 (by decide))
  refine g_aload_n E dX13_cheapests_52 rfl rfl rfl ?_
  refine g_iload E dX13_cheapests_53 rfl rfl ?_
  refine g_putf E gciX13 (v := .int (zAo B R t k9 1 (nI dn + 0))) dX13_cheapests_55 x6 22 rfl (by decide) q1762 (.inl rfl) rfl (fun _ => rfl) (fun _ => rfl) rfl (g_upk (fun g9 h9 f9 => ?_))
  refine g_aload_n E dX13_cheapests_58 rfl rfl rfl ?_
  refine g_iload_n E dX13_cheapests_59 rfl rfl rfl ?_
  refine g_putf E gciX13 (v := .int 0) dX13_cheapests_60 h9 21 rfl (by decide) q1761 (.inl rfl) rfl (fun _ => rfl) (fun _ => rfl) rfl (g_upk (fun g10 h10 f10 => ?_))
  refine g_iinc E dX13_cheapests_63 rfl (v := 1) (rfl) (by decide) rfl (lo1 := [some (.ref 2000), some (.int (nI t)), some (.int (nI k9)), some (.int 1), some (.int (zAo B R t k9 1 (nI dn + 0)))]) rfl rfl ?_
  refine g_goto E dX13_cheapests_66 (tgt := 7) (by decide) ?_
  have lp7 : ∀ (r9 : Nat) (k : Nat) (gw : gWM), (k ≤ 60) → (61 - k < r9) → (pMq gw (.ref mb) th tr wh tp fa ac mk [(21, nI (zLst (fun n => zAo B R t k9 1 (nI dn + nI n)) k)), (22, zAo B R t k9 1 (nI dn + nI (zLst (fun n => zAo B R t k9 1 (nI dn + nI n)) k)))]) → (pIx gw 2003 18) → (∀ j, (j ≠ 2000 ∧ j ≠ 2003) → gw j = g j) → gV z gw 0 0 7 [some (.ref 2000), some (.int (nI t)), some (.int (nI k9)), some (.int (nI (k + 1))), none] [] := by
    intro r9
    induction r9 with
    | zero => intro k gw hk hm hMw hXw hfw; exact absurd hm (Nat.not_lt_zero _)
    | succ r9 ih7 =>
      intro k gw hk hm hMw hXw hfw
      have hMw_o := hMw
      obtain ⟨hMw_F, hMw_a, hMw_0, hMw_1, hMw_2, hMw_3, hMw_5, hMw_6, hMw_12, hMw_15, hMw_16, hMw_17, hMw_18, hMw_19, hMw_20, hMw_26, hMw_28, hMw_29, hMw_21, hMw_22, -⟩ := hMw_o
      have hXw_o := hXw
      obtain ⟨hXw_f, hXw_a⟩ := hXw_o
      refine g_iload_n E dX13_cheapests_7 rfl rfl rfl ?_
      refine g_bipush E (v := 60) dX13_cheapests_8 (by decide) rfl ?_
      refine g_icmp_gt E dX13_cheapests_10 (tgt := 69) (by decide) rfl (fun c10 => ?_) (fun c10 => ?_)
      · have c10 := (nI_ltI (a := 60) (b := k + 1) (by omega) (by omega)).mp c10
        obtain rfl : k = 60 := by omega
        exact g_vret E Rt dX13_cheapests_69 rfl (by decide) (by decide) (⟨rfl, ⟨_, hMw_a, hMw_0, hMw_1, hMw_2, hMw_3, hMw_5, hMw_6, hMw_12, hMw_15, hMw_16, hMw_17, hMw_18, hMw_19, hMw_20, hMw_26, hMw_28, hMw_29, hMw_21, hMw_22, trivial⟩, ⟨_, hXw_a⟩, fun j9 h9 => hfw j9 (by omega)⟩)
      · have c10 := mt (nI_ltI (a := 60) (b := k + 1) (by omega) (by omega)).mpr c10
        refine g_aload_n E dX13_cheapests_13 rfl rfl rfl ?_
        refine g_iconst E (v := 1) dX13_cheapests_14 (by decide) rfl ?_
        refine g_iload_n E dX13_cheapests_15 rfl rfl rfl ?_
        have hM11 : pMq gw (.ref mb) th tr wh tp fa ac mk [] := ⟨_, hMw_a, hMw_0, hMw_1, hMw_2, hMw_3, hMw_5, hMw_6, hMw_12, hMw_15, hMw_16, hMw_17, hMw_18, hMw_19, hMw_20, hMw_26, hMw_28, hMw_29, trivial⟩
        have y12 := (hV.fr  (fun j9 a9 b9 => hfw j9 (by omega)))
        refine g_callV (k := 2000) (n9 := 2) (av := [.int 1, .int (nI (k + 1))]) (st := []) E (ct_X13_asks_Y l (nI (k + 1)) hw hM11 y12 (⟨_, hXw_a⟩) (zIn_60 (by omega))) gciX13 dX13_cheapests_16 hMw_a q2233 q2235 qs87 q135 q2236 (by decide +kernel) rfl rfl ⟨by decide, by decide⟩ ⟨by decide, by decide⟩ (Nat.le_of_ble_eq_true rfl) rfl (gPi.k (fun g13 h13 => ?_))
        obtain ⟨hr13, f13⟩ := h13
        have hr13_o := hr13
        obtain ⟨hr13_f, hr13_a, hr13_r, hr13_d⟩ := hr13_o
        refine g_pop E dX13_cheapests_19 rfl rfl ?_
        refine g_aload_n E dX13_cheapests_20 rfl rfl rfl ?_
        refine g_aload_n E dX13_cheapests_21 rfl rfl rfl ?_
        have x14 := (f13 (2000) (by omega)).trans (hMw_a)
        refine g_getf E gciX13 dX13_cheapests_22 x14 16 rfl (by decide) q1756 (.inl rfl) (.ref 2003) (hMw_16) rfl ?_
        refine g_iload_n E dX13_cheapests_25 rfl rfl rfl ?_
        refine g_iload_n E dX13_cheapests_26 rfl rfl rfl ?_
        have hM15 : pMq g13 (.ref mb) th tr wh tp fa ac mk [] := ⟨_, x14, hMw_0, hMw_1, hMw_2, hMw_3, hMw_5, hMw_6, hMw_12, hMw_15, hMw_16, hMw_17, hMw_18, hMw_19, hMw_20, hMw_26, hMw_28, hMw_29, trivial⟩
        have y16 := ((hMb.fr  (fun j9 a9 b9 => hfw j9 (by omega))).fr  (fun j9 a9 b9 => f13 j9 (by omega)))
        refine g_callV (k := 2000) (n9 := 3) (av := [.ref 2003, .int (nI t), .int (nI k9)]) (st := []) E (ct_X13_askedIn l t k9 hw hM15 y16 hr13 (by omega) (by omega)) gciX13 dX13_cheapests_27 x14 q2289 q2291 qs95 q135 q2292 (by decide +kernel) rfl rfl ⟨by decide, by decide⟩ ⟨by decide, by decide⟩ (Nat.le_of_ble_eq_true rfl) rfl (gPu.k ?_)
        refine g_istore E dX13_cheapests_30 (by decide) rfl (lo1 := [some (.ref 2000), some (.int (nI t)), some (.int (nI k9)), some (.int (nI (k + 1))), some (.int (zAo B R t k9 1 (nI dn + (nI (k + 1)))))]) rfl rfl ?_
        refine g_aload_n E dX13_cheapests_32 rfl rfl rfl ?_
        refine g_getf E gciX13 dX13_cheapests_33 x14 22 rfl (by decide) q1762 (.inl rfl) (.int (zAo B R t k9 1 (nI dn + nI (zLst (fun n => zAo B R t k9 1 (nI dn + nI n)) k)))) (hMw_22) rfl ?_
        refine g_iconst E (v := (-1)) dX13_cheapests_36 (by decide) rfl ?_
        refine g_icmp_eq E dX13_cheapests_37 (tgt := 52) (by decide) rfl (fun c37 => ?_) (fun c37 => ?_)
        · exact absurd c37 (zAo_nm1 hw (by omega) hdn (by have := zLst_le (fun n => zAo B R t k9 1 (nI dn + nI n)) k; omega))
        · refine g_iload E dX13_cheapests_40 rfl rfl ?_
          refine g_aload_n E dX13_cheapests_42 rfl rfl rfl ?_
          refine g_getf E gciX13 dX13_cheapests_43 x14 22 rfl (by decide) q1762 (.inl rfl) (.int (zAo B R t k9 1 (nI dn + nI (zLst (fun n => zAo B R t k9 1 (nI dn + nI n)) k)))) (hMw_22) rfl ?_
          refine g_icmp_lt E dX13_cheapests_46 (tgt := 52) (by decide) rfl (fun c46 => ?_) (fun c46 => ?_)
          · refine g_aload_n E dX13_cheapests_52 rfl rfl rfl ?_
            refine g_iload E dX13_cheapests_53 rfl rfl ?_
            refine g_putf E gciX13 (v := .int (zAo B R t k9 1 (nI dn + (nI (k + 1))))) dX13_cheapests_55 x14 22 rfl (by decide) q1762 (.inl rfl) rfl (fun _ => rfl) (fun _ => rfl) rfl (g_upk (fun g17 h17 f17 => ?_))
            refine g_aload_n E dX13_cheapests_58 rfl rfl rfl ?_
            refine g_iload_n E dX13_cheapests_59 rfl rfl rfl ?_
            refine g_putf E gciX13 (v := .int (nI (k + 1))) dX13_cheapests_60 h17 21 rfl (by decide) q1761 (.inl rfl) rfl (fun _ => rfl) (fun _ => rfl) rfl (g_upk (fun g18 h18 f18 => ?_))
            refine g_iinc E dX13_cheapests_63 rfl (v := nI (k + 1 + 1)) (nI_c _) (by decide) rfl (lo1 := [some (.ref 2000), some (.int (nI t)), some (.int (nI k9)), some (.int (nI (k + 1 + 1))), some (.int (zAo B R t k9 1 (nI dn + (nI (k + 1)))))]) rfl rfl ?_
            refine g_goto E dX13_cheapests_66 (tgt := 7) (by decide) ?_
            have x19 := (f18 (2003) (by omega)).trans ((f17 (2003) (by omega)).trans (hr13_a))
            exact g_les (lo1 := [some (.ref 2000), some (.int (nI t)), some (.int (nI k9)), some (.int (nI (k + 1 + 1))), none]) (⟨rfl, rfl, rfl, rfl, trivial⟩) (ih7 (k + 1) g18 (by omega) (by omega) (by rw [zLst_t (f := fun n => zAo B R t k9 1 (nI dn + nI n)) (fun h9 => absurd c46 (Int32.not_lt.mpr h9))]; exact ⟨_, h18, hMw_0, hMw_1, hMw_2, hMw_3, hMw_5, hMw_6, hMw_12, hMw_15, hMw_16, hMw_17, hMw_18, hMw_19, hMw_20, hMw_26, hMw_28, hMw_29, rfl, rfl, trivial⟩) (⟨_, x19⟩) (fun j9 h9 => (((f18 j9 (by omega)).trans (f17 j9 (by omega))).trans (f13 j9 (by omega))).trans (hfw j9 (by omega))))
          · refine g_goto E dX13_cheapests_49 (tgt := 63) (by decide) ?_
            refine g_iinc E dX13_cheapests_63 rfl (v := nI (k + 1 + 1)) (nI_c _) (by decide) rfl (lo1 := [some (.ref 2000), some (.int (nI t)), some (.int (nI k9)), some (.int (nI (k + 1 + 1))), some (.int (zAo B R t k9 1 (nI dn + (nI (k + 1)))))]) rfl rfl ?_
            refine g_goto E dX13_cheapests_66 (tgt := 7) (by decide) ?_
            exact g_les (lo1 := [some (.ref 2000), some (.int (nI t)), some (.int (nI k9)), some (.int (nI (k + 1 + 1))), none]) (⟨rfl, rfl, rfl, rfl, trivial⟩) (ih7 (k + 1) g13 (by omega) (by omega) (by rw [zLst_f (f := fun n => zAo B R t k9 1 (nI dn + nI n)) (Int32.not_lt.mp c46)]; exact ⟨_, x14, hMw_0, hMw_1, hMw_2, hMw_3, hMw_5, hMw_6, hMw_12, hMw_15, hMw_16, hMw_17, hMw_18, hMw_19, hMw_20, hMw_26, hMw_28, hMw_29, hMw_21, hMw_22, trivial⟩) (⟨_, hr13_a⟩) (fun j9 h9 => (f13 j9 (by omega)).trans (hfw j9 (by omega))))
  have x20 := (f10 (2003) (by omega)).trans ((f9 (2003) (by omega)).trans (hr5_a))
  exact g_les (lo1 := [some (.ref 2000), some (.int (nI t)), some (.int (nI k9)), some (.int 1), none]) (⟨rfl, rfl, rfl, rfl, trivial⟩) (lp7 62 0 g10 (Nat.zero_le _) (by omega) (⟨_, h10, hM_0, hM_1, hM_2, hM_3, hM_5, hM_6, hM_12, hM_15, hM_16, hM_17, hM_18, hM_19, hM_20, hM_26, hM_28, hM_29, rfl, rfl, trivial⟩) (⟨_, x20⟩) (fun j9 h9 => (((f10 j9 (by omega)).trans (f9 j9 (by omega))).trans (f5 j9 (by omega))).trans (f1 j9 (by omega))))
set_option maxHeartbeats 1000000 in
theorem ct_X13_cheapestDay (l : Launch) {g : gWM} {mb : Nat} {B : gBar} {R : Nat → Int32} {dn : Nat} {th tr wh fa : Int32} {tp ac mk : Nat} (p : Int32) (q : Int32) (hw : wfB B) (hM : pMq g (.ref mb) th tr wh tp fa ac mk []) (hMb : pMb g mb B) (hV : pRw g 2002 B R (nI dn)) (hX : pIx g 2003 18) (h9 : 10000 ≤ mb) (hdn : dn ≤ 300) : gCt l yX13_cheapestDay cX13_cheapestDay 3 (some .int) 7 0 0 165 [.ref 2000, .int p, .int q] g (gPi (sChd B R (nI dn) p q).1 (fun g1 => pMq g1 (.ref mb) 0 ((sChd B R (nI dn) p q).2) (-1) tp fa ac mk [] ∧ pIx g1 2003 18 ∧ ∀ j, (j ≠ 2000 ∧ j ≠ 2003) → g1 j = g j)) := by
  refine gCt.of RX13 (by decide) rfl (lo := [some (.ref 2000), some (.int p), some (.int q)]) 0 rfl (Nat.le_of_ble_eq_true rfl) (fun z E Rt => ?_)
  have hw_n := hw.1
  have hM_o := hM
  obtain ⟨hM_F, hM_a, hM_0, hM_1, hM_2, hM_3, hM_5, hM_6, hM_12, hM_15, hM_16, hM_17, hM_18, hM_19, hM_20, hM_26, hM_28, hM_29, -⟩ := hM_o
  have hMb_o := hMb
  obtain ⟨⟨hMb_F, hMb_a, hMb_0, hMb_1, hMb_2, hMb_3, hMb_4, hMb_5, hMb_6, hMb_7, hMb_8, hMb_9, hMb_11, hMb_12, hMb_13, hMb_14, hMb_15, hMb_16, hMb_17, hMb_18, hMb_19, hMb_20, hMb_21, hMb_22, hMb_23, hMb_24, hMb_25, hMb_26, hMb_27, hMb_28, hMb_29, hMb_30, hMb_31⟩, ⟨hMb_f1, hMb_a1, hMb_b1⟩, ⟨hMb_f2, hMb_a2, hMb_b2⟩, ⟨hMb_f3, hMb_a3, hMb_b3⟩, ⟨hMb_f4, hMb_a4, hMb_b4⟩, ⟨hMb_f5, hMb_a5, hMb_b5⟩, ⟨hMb_f6, hMb_a6, hMb_b6⟩, ⟨hMb_f7, hMb_a7, hMb_b7⟩, ⟨hMb_f8, hMb_a8, hMb_b8⟩, ⟨hMb_f9, hMb_a9, hMb_b9⟩, ⟨hMb_f10, hMb_a10, hMb_b10⟩, ⟨hMb_f11, hMb_a11, hMb_b11⟩, ⟨hMb_f12, hMb_a12, hMb_b12⟩, ⟨hMb_f13, hMb_a13, hMb_b13⟩, ⟨hMb_f14, hMb_a14, hMb_b14⟩, ⟨hMb_f15, hMb_a15, hMb_b15⟩, ⟨hMb_f16, hMb_a16, hMb_b16⟩, ⟨hMb_f17, hMb_a17, hMb_b17⟩, ⟨hMb_f18, hMb_a18, hMb_b18⟩, ⟨hMb_f19, hMb_a19, hMb_b19⟩, ⟨hMb_f20, hMb_a20, hMb_b20⟩, ⟨hMb_f21, hMb_a21, hMb_b21⟩⟩ := hMb_o
  have hV_o := hV
  obtain ⟨hV_f, hV_a, hV_r, hV_d⟩ := hV_o
  have hX_o := hX
  obtain ⟨hX_f, hX_a⟩ := hX_o
  refine g_aload_n E dX13_cheapestDay_0 rfl rfl rfl ?_
  refine g_iconst E (v := 0) dX13_cheapestDay_1 (by decide) rfl ?_
  refine g_putf E gciX13 (v := .int 0) dX13_cheapestDay_2 hM_a 0 rfl (by decide) q1740 (.inl rfl) rfl (fun _ => rfl) (fun _ => rfl) rfl (g_upk (fun g1 h1 f1 => ?_))
  refine g_aload_n E dX13_cheapestDay_5 rfl rfl rfl ?_
  refine g_iload_n E dX13_cheapestDay_6 rfl rfl rfl ?_
  have hM2 : pMq g1 (.ref mb) 0 tr wh tp fa ac mk [] := ⟨_, h1, rfl, hM_1, hM_2, hM_3, hM_5, hM_6, hM_12, hM_15, hM_16, hM_17, hM_18, hM_19, hM_20, hM_26, hM_28, hM_29, trivial⟩
  have y3 := (hMb.fr  (fun j9 a9 b9 => f1 j9 (by omega)))
  refine g_callV (k := 2000) (n9 := 1) (av := [.int p]) (st := []) E (ct_X13_isTraveller l p hw hM2 y3) gciX13 dX13_cheapestDay_7 h1 q2209 q2211 qs83 q135 q2212 (by decide +kernel) rfl rfl ⟨by decide, by decide⟩ ⟨by decide, by decide⟩ (Nat.le_of_ble_eq_true rfl) rfl (gPu.k ?_)
  refine g_if_eq E dX13_cheapestDay_10 (tgt := 21) (by decide) rfl (fun c10 => ?_) (fun c10 => ?_)
  · have c10 := zb_0.mp c10
    have q4 := isNone_of c10
    refine g_aload_n E dX13_cheapestDay_21 rfl rfl rfl ?_
    refine g_iconst E (v := 1) dX13_cheapestDay_22 (by decide) rfl ?_
    refine g_callV (k := 2000) (n9 := 1) (av := [.int 1]) (st := []) E (ct_X13_refused l 1 hM2) gciX13 dX13_cheapestDay_23 h1 q1846 q1848 qs52 q135 q1849 (by decide +kernel) rfl rfl ⟨by decide, by decide⟩ ⟨by decide, by decide⟩ (Nat.le_of_ble_eq_true rfl) rfl (gPi.k (fun g5 h5 => ?_))
    obtain ⟨hm5, f5⟩ := h5
    have hm5_o := hm5
    obtain ⟨hm5_F, hm5_a, hm5_0, hm5_1, hm5_2, hm5_3, hm5_5, hm5_6, hm5_12, hm5_15, hm5_16, hm5_17, hm5_18, hm5_19, hm5_20, hm5_26, hm5_28, hm5_29, -⟩ := hm5_o
    have hs6 : sChd B R (nI dn) p q = ((-1), 1) := by first | (simp [sChd, c10, q4]; done) | (simp [sChd, c10, q4, qWy]; done)
    have x7 := (f5 (2003) (by omega)).trans ((f1 (2003) (by omega)).trans (hX_a))
    exact g_iret E Rt dX13_cheapestDay_26 rfl (by decide) (by decide) (by rw [hs6]; exact ⟨rfl, ⟨_, hm5_a, hm5_0, hm5_1, hm5_2, hm5_3, hm5_5, hm5_6, hm5_12, hm5_15, hm5_16, hm5_17, hm5_18, hm5_19, hm5_20, hm5_26, hm5_28, hm5_29, trivial⟩, ⟨_, x7⟩, fun j9 h9 => (f5 j9 (by omega)).trans (f1 j9 (by omega))⟩)
  · have c10 := zb_n0.mp c10
    obtain ⟨t, q8⟩ := isSome_of c10
    obtain ⟨rfl, q8_l⟩ := qI_some (by omega) q8
    refine g_aload_n E dX13_cheapestDay_13 rfl rfl rfl ?_
    refine g_iload_n E dX13_cheapestDay_14 rfl rfl rfl ?_
    refine g_callV (k := 2000) (n9 := 1) (av := [.int q]) (st := []) E (ct_X13_isGate l q hw hM2 y3) gciX13 dX13_cheapestDay_15 h1 q2225 q2227 qs86 q135 q2228 (by decide +kernel) rfl rfl ⟨by decide, by decide⟩ ⟨by decide, by decide⟩ (Nat.le_of_ble_eq_true rfl) rfl (gPu.k ?_)
    refine g_if_ne E dX13_cheapestDay_18 (tgt := 27) (by decide) rfl (fun c18 => ?_) (fun c18 => ?_)
    · have c18 := zb_n0.mp c18
      obtain ⟨k9, q9⟩ := isSome_of c18
      obtain ⟨rfl, q9_l⟩ := qI_some (by omega) q9
      refine g_aload_n E dX13_cheapestDay_27 rfl rfl rfl ?_
      refine g_iload_n E dX13_cheapestDay_28 rfl rfl rfl ?_
      refine g_iload_n E dX13_cheapestDay_29 rfl rfl rfl ?_
      have y10 := (hV.fr  (fun j9 a9 b9 => f1 j9 (by omega)))
      have x11 := (f1 (2003) (by omega)).trans (hX_a)
      refine g_callV (k := 2000) (n9 := 2) (av := [.int (nI t), .int (nI k9)]) (st := []) E (ct_X13_cheapests l t k9 hw hM2 y3 y10 (⟨_, x11⟩) (by omega) hdn (by omega) (by omega)) gciX13 dX13_cheapestDay_30 h1 q2333 q2335 qs99 q135 q2336 (by decide +kernel) rfl rfl ⟨by decide, by decide⟩ ⟨by decide, by decide⟩ (Nat.le_of_ble_eq_true rfl) rfl (gPn.k (fun g12 h12 => ?_))
      obtain ⟨hm12, hx12, f12⟩ := h12
      have hm12_o := hm12
      obtain ⟨hm12_F, hm12_a, hm12_0, hm12_1, hm12_2, hm12_3, hm12_5, hm12_6, hm12_12, hm12_15, hm12_16, hm12_17, hm12_18, hm12_19, hm12_20, hm12_26, hm12_28, hm12_29, hm12_21, hm12_22, -⟩ := hm12_o
      have hx12_o := hx12
      obtain ⟨hx12_f, hx12_a⟩ := hx12_o
      refine g_aload_n E dX13_cheapestDay_33 rfl rfl rfl ?_
      refine g_aload_n E dX13_cheapestDay_34 rfl rfl rfl ?_
      refine g_getf E gciX13 dX13_cheapestDay_35 hm12_a 21 rfl (by decide) q1761 (.inl rfl) (.int (nI (zChe B R (nI dn) t k9))) (hm12_21) rfl ?_
      have hM13 : pMq g12 (.ref mb) 0 tr wh tp fa ac mk [] := ⟨_, hm12_a, hm12_0, hm12_1, hm12_2, hm12_3, hm12_5, hm12_6, hm12_12, hm12_15, hm12_16, hm12_17, hm12_18, hm12_19, hm12_20, hm12_26, hm12_28, hm12_29, trivial⟩
      refine g_callV (k := 2000) (n9 := 1) (av := [.int (nI (zChe B R (nI dn) t k9))]) (st := []) E (ct_X13_fine l (nI (zChe B R (nI dn) t k9)) hM13) gciX13 dX13_cheapestDay_38 hm12_a q2181 q2183 qs80 q135 q2184 (by decide +kernel) rfl rfl ⟨by decide, by decide⟩ ⟨by decide, by decide⟩ (Nat.le_of_ble_eq_true rfl) rfl (gPi.k (fun g14 h14 => ?_))
      obtain ⟨hm14, f14⟩ := h14
      have hm14_o := hm14
      obtain ⟨hm14_F, hm14_a, hm14_0, hm14_1, hm14_2, hm14_3, hm14_5, hm14_6, hm14_12, hm14_15, hm14_16, hm14_17, hm14_18, hm14_19, hm14_20, hm14_26, hm14_28, hm14_29, -⟩ := hm14_o
      have hs15 : sChd B R (nI dn) (nI t) (nI k9) = (nI (zChe B R (nI dn) t k9), 0) := by first | (simp [sChd, c10, q8, c18, q9]; done) | (simp [sChd, c10, q8, c18, q9, qWy]; done)
      have x16 := (f14 (2003) (by omega)).trans (hx12_a)
      exact g_iret E Rt dX13_cheapestDay_41 rfl (by decide) (by decide) (by rw [hs15]; exact ⟨rfl, ⟨_, hm14_a, hm14_0, hm14_1, hm14_2, hm14_3, hm14_5, hm14_6, hm14_12, hm14_15, hm14_16, hm14_17, hm14_18, hm14_19, hm14_20, hm14_26, hm14_28, hm14_29, trivial⟩, ⟨_, x16⟩, fun j9 h9 => ((f14 j9 (by omega)).trans (f12 j9 (by omega))).trans (f1 j9 (by omega))⟩)
    · have c18 := zb_0.mp c18
      have q17 := isNone_of c18
      refine g_aload_n E dX13_cheapestDay_21 rfl rfl rfl ?_
      refine g_iconst E (v := 1) dX13_cheapestDay_22 (by decide) rfl ?_
      refine g_callV (k := 2000) (n9 := 1) (av := [.int 1]) (st := []) E (ct_X13_refused l 1 hM2) gciX13 dX13_cheapestDay_23 h1 q1846 q1848 qs52 q135 q1849 (by decide +kernel) rfl rfl ⟨by decide, by decide⟩ ⟨by decide, by decide⟩ (Nat.le_of_ble_eq_true rfl) rfl (gPi.k (fun g18 h18 => ?_))
      obtain ⟨hm18, f18⟩ := h18
      have hm18_o := hm18
      obtain ⟨hm18_F, hm18_a, hm18_0, hm18_1, hm18_2, hm18_3, hm18_5, hm18_6, hm18_12, hm18_15, hm18_16, hm18_17, hm18_18, hm18_19, hm18_20, hm18_26, hm18_28, hm18_29, -⟩ := hm18_o
      have hs19 : sChd B R (nI dn) (nI t) q = ((-1), 1) := by first | (simp [sChd, c10, q8, c18, q17]; done) | (simp [sChd, c10, q8, c18, q17, qWy]; done)
      have x20 := (f18 (2003) (by omega)).trans ((f1 (2003) (by omega)).trans (hX_a))
      exact g_iret E Rt dX13_cheapestDay_26 rfl (by decide) (by decide) (by rw [hs19]; exact ⟨rfl, ⟨_, hm18_a, hm18_0, hm18_1, hm18_2, hm18_3, hm18_5, hm18_6, hm18_12, hm18_15, hm18_16, hm18_17, hm18_18, hm18_19, hm18_20, hm18_26, hm18_28, hm18_29, trivial⟩, ⟨_, x20⟩, fun j9 h9 => (f18 j9 (by omega)).trans (f1 j9 (by omega))⟩)
set_option maxHeartbeats 1000000 in
theorem ct_X13_cheapestDay_N (l : Launch) {g : gWM} {th tr wh fa : Int32} {tp ac mk : Nat} (p : Int32) (q : Int32) (hM : pMq g .null th tr wh tp fa ac mk []) : gCt l yX13_cheapestDay cX13_cheapestDay 3 (some .int) 1 0 0 21 [.ref 2000, .int p, .int q] g (gPi (sChd zB0 (fun _ => 0) (0) p q).1 (fun g1 => pMq g1 .null 0 ((sChd zB0 (fun _ => 0) (0) p q).2) (-1) tp fa ac mk [] ∧ ∀ j, j ≠ 2000 → g1 j = g j)) := by
  refine gCt.of RX13 (by decide) rfl (lo := [some (.ref 2000), some (.int p), some (.int q)]) 0 rfl (Nat.le_of_ble_eq_true rfl) (fun z E Rt => ?_)
  have hM_o := hM
  obtain ⟨hM_F, hM_a, hM_0, hM_1, hM_2, hM_3, hM_5, hM_6, hM_12, hM_15, hM_16, hM_17, hM_18, hM_19, hM_20, hM_26, hM_28, hM_29, -⟩ := hM_o
  refine g_aload_n E dX13_cheapestDay_0 rfl rfl rfl ?_
  refine g_iconst E (v := 0) dX13_cheapestDay_1 (by decide) rfl ?_
  refine g_putf E gciX13 (v := .int 0) dX13_cheapestDay_2 hM_a 0 rfl (by decide) q1740 (.inl rfl) rfl (fun _ => rfl) (fun _ => rfl) rfl (g_upk (fun g1 h1 f1 => ?_))
  refine g_aload_n E dX13_cheapestDay_5 rfl rfl rfl ?_
  refine g_iload_n E dX13_cheapestDay_6 rfl rfl rfl ?_
  have hM2 : pMq g1 .null 0 tr wh tp fa ac mk [] := ⟨_, h1, rfl, hM_1, hM_2, hM_3, hM_5, hM_6, hM_12, hM_15, hM_16, hM_17, hM_18, hM_19, hM_20, hM_26, hM_28, hM_29, trivial⟩
  refine g_callV (k := 2000) (n9 := 1) (av := [.int p]) (st := []) E (ct_X13_isTraveller_N l p hM2) gciX13 dX13_cheapestDay_7 h1 q2209 q2211 qs83 q135 q2212 (by decide +kernel) rfl rfl ⟨by decide, by decide⟩ ⟨by decide, by decide⟩ (Nat.le_of_ble_eq_true rfl) rfl (gPu.k ?_)
  refine g_if_eq E dX13_cheapestDay_10 (tgt := 21) (by decide) rfl (fun _ => ?_) (fun h9 => absurd h9 (by decide))
  refine g_aload_n E dX13_cheapestDay_21 rfl rfl rfl ?_
  refine g_iconst E (v := 1) dX13_cheapestDay_22 (by decide) rfl ?_
  refine g_callV (k := 2000) (n9 := 1) (av := [.int 1]) (st := []) E (ct_X13_refused l 1 hM2) gciX13 dX13_cheapestDay_23 h1 q1846 q1848 qs52 q135 q1849 (by decide +kernel) rfl rfl ⟨by decide, by decide⟩ ⟨by decide, by decide⟩ (Nat.le_of_ble_eq_true rfl) rfl (gPi.k (fun g3 h3 => ?_))
  obtain ⟨hm3, f3⟩ := h3
  have hm3_o := hm3
  obtain ⟨hm3_F, hm3_a, hm3_0, hm3_1, hm3_2, hm3_3, hm3_5, hm3_6, hm3_12, hm3_15, hm3_16, hm3_17, hm3_18, hm3_19, hm3_20, hm3_26, hm3_28, hm3_29, -⟩ := hm3_o
  have hs4 : sChd zB0 (fun _ => 0) (0) p q = ((-1), 1) := by first | (simp [sChd, qI_z, qWy]; done) | (simp [sChd, qI_z, qWy, qWy]; done)
  exact g_iret E Rt dX13_cheapestDay_26 rfl (by decide) (by decide) (by rw [hs4]; exact ⟨rfl, ⟨_, hm3_a, hm3_0, hm3_1, hm3_2, hm3_3, hm3_5, hm3_6, hm3_12, hm3_15, hm3_16, hm3_17, hm3_18, hm3_19, hm3_20, hm3_26, hm3_28, hm3_29, trivial⟩, fun j9 h9 => (f3 j9 (by omega)).trans (f1 j9 (by omega))⟩)
set_option maxHeartbeats 1000000 in
theorem ct_X13_cheapest (l : Launch) {g : gWM} {mb : Nat} {B : gBar} {R : Nat → Int32} {dn : Nat} {th tr wh fa : Int32} {tp ac mk : Nat} (p : Int32) (q : Int32) (hw : wfB B) (hM : pMq g (.ref mb) th tr wh tp fa ac mk []) (hMb : pMb g mb B) (hV : pRw g 2002 B R (nI dn)) (hX : pIx g 2003 18) (h9 : 10000 ≤ mb) (hdn : dn ≤ 300) : gCt l yX13_cheapest cX13_cheapest 3 (some .int) 7 0 0 165 [.ref 2000, .int p, .int q] g (gPi (sChe B R (nI dn) p q).1 (fun g1 => pMq g1 (.ref mb) 0 ((sChe B R (nI dn) p q).2) (-1) tp fa ac mk [] ∧ pIx g1 2003 18 ∧ ∀ j, (j ≠ 2000 ∧ j ≠ 2003) → g1 j = g j)) := by
  refine gCt.of RX13 (by decide) rfl (lo := [some (.ref 2000), some (.int p), some (.int q)]) 0 rfl (Nat.le_of_ble_eq_true rfl) (fun z E Rt => ?_)
  have hw_n := hw.1
  have hM_o := hM
  obtain ⟨hM_F, hM_a, hM_0, hM_1, hM_2, hM_3, hM_5, hM_6, hM_12, hM_15, hM_16, hM_17, hM_18, hM_19, hM_20, hM_26, hM_28, hM_29, -⟩ := hM_o
  have hMb_o := hMb
  obtain ⟨⟨hMb_F, hMb_a, hMb_0, hMb_1, hMb_2, hMb_3, hMb_4, hMb_5, hMb_6, hMb_7, hMb_8, hMb_9, hMb_11, hMb_12, hMb_13, hMb_14, hMb_15, hMb_16, hMb_17, hMb_18, hMb_19, hMb_20, hMb_21, hMb_22, hMb_23, hMb_24, hMb_25, hMb_26, hMb_27, hMb_28, hMb_29, hMb_30, hMb_31⟩, ⟨hMb_f1, hMb_a1, hMb_b1⟩, ⟨hMb_f2, hMb_a2, hMb_b2⟩, ⟨hMb_f3, hMb_a3, hMb_b3⟩, ⟨hMb_f4, hMb_a4, hMb_b4⟩, ⟨hMb_f5, hMb_a5, hMb_b5⟩, ⟨hMb_f6, hMb_a6, hMb_b6⟩, ⟨hMb_f7, hMb_a7, hMb_b7⟩, ⟨hMb_f8, hMb_a8, hMb_b8⟩, ⟨hMb_f9, hMb_a9, hMb_b9⟩, ⟨hMb_f10, hMb_a10, hMb_b10⟩, ⟨hMb_f11, hMb_a11, hMb_b11⟩, ⟨hMb_f12, hMb_a12, hMb_b12⟩, ⟨hMb_f13, hMb_a13, hMb_b13⟩, ⟨hMb_f14, hMb_a14, hMb_b14⟩, ⟨hMb_f15, hMb_a15, hMb_b15⟩, ⟨hMb_f16, hMb_a16, hMb_b16⟩, ⟨hMb_f17, hMb_a17, hMb_b17⟩, ⟨hMb_f18, hMb_a18, hMb_b18⟩, ⟨hMb_f19, hMb_a19, hMb_b19⟩, ⟨hMb_f20, hMb_a20, hMb_b20⟩, ⟨hMb_f21, hMb_a21, hMb_b21⟩⟩ := hMb_o
  have hV_o := hV
  obtain ⟨hV_f, hV_a, hV_r, hV_d⟩ := hV_o
  have hX_o := hX
  obtain ⟨hX_f, hX_a⟩ := hX_o
  refine g_aload_n E dX13_cheapest_0 rfl rfl rfl ?_
  refine g_iconst E (v := 0) dX13_cheapest_1 (by decide) rfl ?_
  refine g_putf E gciX13 (v := .int 0) dX13_cheapest_2 hM_a 0 rfl (by decide) q1740 (.inl rfl) rfl (fun _ => rfl) (fun _ => rfl) rfl (g_upk (fun g1 h1 f1 => ?_))
  refine g_aload_n E dX13_cheapest_5 rfl rfl rfl ?_
  refine g_iload_n E dX13_cheapest_6 rfl rfl rfl ?_
  have hM2 : pMq g1 (.ref mb) 0 tr wh tp fa ac mk [] := ⟨_, h1, rfl, hM_1, hM_2, hM_3, hM_5, hM_6, hM_12, hM_15, hM_16, hM_17, hM_18, hM_19, hM_20, hM_26, hM_28, hM_29, trivial⟩
  have y3 := (hMb.fr  (fun j9 a9 b9 => f1 j9 (by omega)))
  refine g_callV (k := 2000) (n9 := 1) (av := [.int p]) (st := []) E (ct_X13_isTraveller l p hw hM2 y3) gciX13 dX13_cheapest_7 h1 q2209 q2211 qs83 q135 q2212 (by decide +kernel) rfl rfl ⟨by decide, by decide⟩ ⟨by decide, by decide⟩ (Nat.le_of_ble_eq_true rfl) rfl (gPu.k ?_)
  refine g_if_eq E dX13_cheapest_10 (tgt := 21) (by decide) rfl (fun c10 => ?_) (fun c10 => ?_)
  · have c10 := zb_0.mp c10
    have q4 := isNone_of c10
    refine g_aload_n E dX13_cheapest_21 rfl rfl rfl ?_
    refine g_iconst E (v := 1) dX13_cheapest_22 (by decide) rfl ?_
    refine g_callV (k := 2000) (n9 := 1) (av := [.int 1]) (st := []) E (ct_X13_refused l 1 hM2) gciX13 dX13_cheapest_23 h1 q1846 q1848 qs52 q135 q1849 (by decide +kernel) rfl rfl ⟨by decide, by decide⟩ ⟨by decide, by decide⟩ (Nat.le_of_ble_eq_true rfl) rfl (gPi.k (fun g5 h5 => ?_))
    obtain ⟨hm5, f5⟩ := h5
    have hm5_o := hm5
    obtain ⟨hm5_F, hm5_a, hm5_0, hm5_1, hm5_2, hm5_3, hm5_5, hm5_6, hm5_12, hm5_15, hm5_16, hm5_17, hm5_18, hm5_19, hm5_20, hm5_26, hm5_28, hm5_29, -⟩ := hm5_o
    have hs6 : sChe B R (nI dn) p q = ((-1), 1) := by first | (simp [sChe, c10, q4]; done) | (simp [sChe, c10, q4, qWy]; done)
    have x7 := (f5 (2003) (by omega)).trans ((f1 (2003) (by omega)).trans (hX_a))
    exact g_iret E Rt dX13_cheapest_26 rfl (by decide) (by decide) (by rw [hs6]; exact ⟨rfl, ⟨_, hm5_a, hm5_0, hm5_1, hm5_2, hm5_3, hm5_5, hm5_6, hm5_12, hm5_15, hm5_16, hm5_17, hm5_18, hm5_19, hm5_20, hm5_26, hm5_28, hm5_29, trivial⟩, ⟨_, x7⟩, fun j9 h9 => (f5 j9 (by omega)).trans (f1 j9 (by omega))⟩)
  · have c10 := zb_n0.mp c10
    obtain ⟨t, q8⟩ := isSome_of c10
    obtain ⟨rfl, q8_l⟩ := qI_some (by omega) q8
    refine g_aload_n E dX13_cheapest_13 rfl rfl rfl ?_
    refine g_iload_n E dX13_cheapest_14 rfl rfl rfl ?_
    refine g_callV (k := 2000) (n9 := 1) (av := [.int q]) (st := []) E (ct_X13_isGate l q hw hM2 y3) gciX13 dX13_cheapest_15 h1 q2225 q2227 qs86 q135 q2228 (by decide +kernel) rfl rfl ⟨by decide, by decide⟩ ⟨by decide, by decide⟩ (Nat.le_of_ble_eq_true rfl) rfl (gPu.k ?_)
    refine g_if_ne E dX13_cheapest_18 (tgt := 27) (by decide) rfl (fun c18 => ?_) (fun c18 => ?_)
    · have c18 := zb_n0.mp c18
      obtain ⟨k9, q9⟩ := isSome_of c18
      obtain ⟨rfl, q9_l⟩ := qI_some (by omega) q9
      refine g_aload_n E dX13_cheapest_27 rfl rfl rfl ?_
      refine g_iload_n E dX13_cheapest_28 rfl rfl rfl ?_
      refine g_iload_n E dX13_cheapest_29 rfl rfl rfl ?_
      have y10 := (hV.fr  (fun j9 a9 b9 => f1 j9 (by omega)))
      have x11 := (f1 (2003) (by omega)).trans (hX_a)
      refine g_callV (k := 2000) (n9 := 2) (av := [.int (nI t), .int (nI k9)]) (st := []) E (ct_X13_cheapests l t k9 hw hM2 y3 y10 (⟨_, x11⟩) (by omega) hdn (by omega) (by omega)) gciX13 dX13_cheapest_30 h1 q2333 q2335 qs99 q135 q2336 (by decide +kernel) rfl rfl ⟨by decide, by decide⟩ ⟨by decide, by decide⟩ (Nat.le_of_ble_eq_true rfl) rfl (gPn.k (fun g12 h12 => ?_))
      obtain ⟨hm12, hx12, f12⟩ := h12
      have hm12_o := hm12
      obtain ⟨hm12_F, hm12_a, hm12_0, hm12_1, hm12_2, hm12_3, hm12_5, hm12_6, hm12_12, hm12_15, hm12_16, hm12_17, hm12_18, hm12_19, hm12_20, hm12_26, hm12_28, hm12_29, hm12_21, hm12_22, -⟩ := hm12_o
      have hx12_o := hx12
      obtain ⟨hx12_f, hx12_a⟩ := hx12_o
      refine g_aload_n E dX13_cheapest_33 rfl rfl rfl ?_
      refine g_aload_n E dX13_cheapest_34 rfl rfl rfl ?_
      refine g_getf E gciX13 dX13_cheapest_35 hm12_a 22 rfl (by decide) q1762 (.inl rfl) (.int (zAo B R t k9 1 (nI dn + nI (zChe B R (nI dn) t k9)))) (hm12_22) rfl ?_
      have hM13 : pMq g12 (.ref mb) 0 tr wh tp fa ac mk [] := ⟨_, hm12_a, hm12_0, hm12_1, hm12_2, hm12_3, hm12_5, hm12_6, hm12_12, hm12_15, hm12_16, hm12_17, hm12_18, hm12_19, hm12_20, hm12_26, hm12_28, hm12_29, trivial⟩
      refine g_callV (k := 2000) (n9 := 1) (av := [.int (zAo B R t k9 1 (nI dn + nI (zChe B R (nI dn) t k9)))]) (st := []) E (ct_X13_fine l (zAo B R t k9 1 (nI dn + nI (zChe B R (nI dn) t k9))) hM13) gciX13 dX13_cheapest_38 hm12_a q2181 q2183 qs80 q135 q2184 (by decide +kernel) rfl rfl ⟨by decide, by decide⟩ ⟨by decide, by decide⟩ (Nat.le_of_ble_eq_true rfl) rfl (gPi.k (fun g14 h14 => ?_))
      obtain ⟨hm14, f14⟩ := h14
      have hm14_o := hm14
      obtain ⟨hm14_F, hm14_a, hm14_0, hm14_1, hm14_2, hm14_3, hm14_5, hm14_6, hm14_12, hm14_15, hm14_16, hm14_17, hm14_18, hm14_19, hm14_20, hm14_26, hm14_28, hm14_29, -⟩ := hm14_o
      have hs15 : sChe B R (nI dn) (nI t) (nI k9) = (zAo B R t k9 1 (nI dn + nI (zChe B R (nI dn) t k9)), 0) := by first | (simp [sChe, c10, q8, c18, q9]; done) | (simp [sChe, c10, q8, c18, q9, qWy]; done)
      have x16 := (f14 (2003) (by omega)).trans (hx12_a)
      exact g_iret E Rt dX13_cheapest_41 rfl (by decide) (by decide) (by rw [hs15]; exact ⟨rfl, ⟨_, hm14_a, hm14_0, hm14_1, hm14_2, hm14_3, hm14_5, hm14_6, hm14_12, hm14_15, hm14_16, hm14_17, hm14_18, hm14_19, hm14_20, hm14_26, hm14_28, hm14_29, trivial⟩, ⟨_, x16⟩, fun j9 h9 => ((f14 j9 (by omega)).trans (f12 j9 (by omega))).trans (f1 j9 (by omega))⟩)
    · have c18 := zb_0.mp c18
      have q17 := isNone_of c18
      refine g_aload_n E dX13_cheapest_21 rfl rfl rfl ?_
      refine g_iconst E (v := 1) dX13_cheapest_22 (by decide) rfl ?_
      refine g_callV (k := 2000) (n9 := 1) (av := [.int 1]) (st := []) E (ct_X13_refused l 1 hM2) gciX13 dX13_cheapest_23 h1 q1846 q1848 qs52 q135 q1849 (by decide +kernel) rfl rfl ⟨by decide, by decide⟩ ⟨by decide, by decide⟩ (Nat.le_of_ble_eq_true rfl) rfl (gPi.k (fun g18 h18 => ?_))
      obtain ⟨hm18, f18⟩ := h18
      have hm18_o := hm18
      obtain ⟨hm18_F, hm18_a, hm18_0, hm18_1, hm18_2, hm18_3, hm18_5, hm18_6, hm18_12, hm18_15, hm18_16, hm18_17, hm18_18, hm18_19, hm18_20, hm18_26, hm18_28, hm18_29, -⟩ := hm18_o
      have hs19 : sChe B R (nI dn) (nI t) q = ((-1), 1) := by first | (simp [sChe, c10, q8, c18, q17]; done) | (simp [sChe, c10, q8, c18, q17, qWy]; done)
      have x20 := (f18 (2003) (by omega)).trans ((f1 (2003) (by omega)).trans (hX_a))
      exact g_iret E Rt dX13_cheapest_26 rfl (by decide) (by decide) (by rw [hs19]; exact ⟨rfl, ⟨_, hm18_a, hm18_0, hm18_1, hm18_2, hm18_3, hm18_5, hm18_6, hm18_12, hm18_15, hm18_16, hm18_17, hm18_18, hm18_19, hm18_20, hm18_26, hm18_28, hm18_29, trivial⟩, ⟨_, x20⟩, fun j9 h9 => (f18 j9 (by omega)).trans (f1 j9 (by omega))⟩)
set_option maxHeartbeats 1000000 in
theorem ct_X13_cheapest_N (l : Launch) {g : gWM} {th tr wh fa : Int32} {tp ac mk : Nat} (p : Int32) (q : Int32) (hM : pMq g .null th tr wh tp fa ac mk []) : gCt l yX13_cheapest cX13_cheapest 3 (some .int) 1 0 0 21 [.ref 2000, .int p, .int q] g (gPi (sChe zB0 (fun _ => 0) (0) p q).1 (fun g1 => pMq g1 .null 0 ((sChe zB0 (fun _ => 0) (0) p q).2) (-1) tp fa ac mk [] ∧ ∀ j, j ≠ 2000 → g1 j = g j)) := by
  refine gCt.of RX13 (by decide) rfl (lo := [some (.ref 2000), some (.int p), some (.int q)]) 0 rfl (Nat.le_of_ble_eq_true rfl) (fun z E Rt => ?_)
  have hM_o := hM
  obtain ⟨hM_F, hM_a, hM_0, hM_1, hM_2, hM_3, hM_5, hM_6, hM_12, hM_15, hM_16, hM_17, hM_18, hM_19, hM_20, hM_26, hM_28, hM_29, -⟩ := hM_o
  refine g_aload_n E dX13_cheapest_0 rfl rfl rfl ?_
  refine g_iconst E (v := 0) dX13_cheapest_1 (by decide) rfl ?_
  refine g_putf E gciX13 (v := .int 0) dX13_cheapest_2 hM_a 0 rfl (by decide) q1740 (.inl rfl) rfl (fun _ => rfl) (fun _ => rfl) rfl (g_upk (fun g1 h1 f1 => ?_))
  refine g_aload_n E dX13_cheapest_5 rfl rfl rfl ?_
  refine g_iload_n E dX13_cheapest_6 rfl rfl rfl ?_
  have hM2 : pMq g1 .null 0 tr wh tp fa ac mk [] := ⟨_, h1, rfl, hM_1, hM_2, hM_3, hM_5, hM_6, hM_12, hM_15, hM_16, hM_17, hM_18, hM_19, hM_20, hM_26, hM_28, hM_29, trivial⟩
  refine g_callV (k := 2000) (n9 := 1) (av := [.int p]) (st := []) E (ct_X13_isTraveller_N l p hM2) gciX13 dX13_cheapest_7 h1 q2209 q2211 qs83 q135 q2212 (by decide +kernel) rfl rfl ⟨by decide, by decide⟩ ⟨by decide, by decide⟩ (Nat.le_of_ble_eq_true rfl) rfl (gPu.k ?_)
  refine g_if_eq E dX13_cheapest_10 (tgt := 21) (by decide) rfl (fun _ => ?_) (fun h9 => absurd h9 (by decide))
  refine g_aload_n E dX13_cheapest_21 rfl rfl rfl ?_
  refine g_iconst E (v := 1) dX13_cheapest_22 (by decide) rfl ?_
  refine g_callV (k := 2000) (n9 := 1) (av := [.int 1]) (st := []) E (ct_X13_refused l 1 hM2) gciX13 dX13_cheapest_23 h1 q1846 q1848 qs52 q135 q1849 (by decide +kernel) rfl rfl ⟨by decide, by decide⟩ ⟨by decide, by decide⟩ (Nat.le_of_ble_eq_true rfl) rfl (gPi.k (fun g3 h3 => ?_))
  obtain ⟨hm3, f3⟩ := h3
  have hm3_o := hm3
  obtain ⟨hm3_F, hm3_a, hm3_0, hm3_1, hm3_2, hm3_3, hm3_5, hm3_6, hm3_12, hm3_15, hm3_16, hm3_17, hm3_18, hm3_19, hm3_20, hm3_26, hm3_28, hm3_29, -⟩ := hm3_o
  have hs4 : sChe zB0 (fun _ => 0) (0) p q = ((-1), 1) := by first | (simp [sChe, qI_z, qWy]; done) | (simp [sChe, qI_z, qWy, qWy]; done)
  exact g_iret E Rt dX13_cheapest_26 rfl (by decide) (by decide) (by rw [hs4]; exact ⟨rfl, ⟨_, hm3_a, hm3_0, hm3_1, hm3_2, hm3_3, hm3_5, hm3_6, hm3_12, hm3_15, hm3_16, hm3_17, hm3_18, hm3_19, hm3_20, hm3_26, hm3_28, hm3_29, trivial⟩, fun j9 h9 => (f3 j9 (by omega)).trans (f1 j9 (by omega))⟩)
set_option maxHeartbeats 1000000 in
theorem ct_X13_holds (l : Launch) {g : gWM} {mb : Nat} {B : gBar} {R : Nat → Int32} {d : Int32} {th tr wh fa : Int32} {tp ac mk : Nat} (j : Nat) (hw : wfB B) (hM : pMq g (.ref mb) th tr wh tp fa ac mk []) (hMb : pMb g mb B) (hV : pRw g 2002 B R d) (hX : pIx g 2003 18) (h9 : 10000 ≤ mb) (hj : j < B 0 3) : gCt l yX13_holds cX13_holds 4 none 3 0 0 67 [.ref 2000, .int (nI j)] g (gPn (fun g1 => pMq g1 (.ref mb) th tr wh tp fa ac mk [(24, nI (zBh B d j)), (25, zHo B d j (zBh B d j))] ∧ pIx g1 2003 18 ∧ ∀ j, (j ≠ 2000 ∧ j ≠ 2003) → g1 j = g j)) := by
  refine gCt.of RX13 (by decide) rfl (lo := [some (.ref 2000), some (.int (nI j)), none, none]) 2 rfl (Nat.le_of_ble_eq_true rfl) (fun z E Rt => ?_)
  have hw_n := hw.1
  have hM_o := hM
  obtain ⟨hM_F, hM_a, hM_0, hM_1, hM_2, hM_3, hM_5, hM_6, hM_12, hM_15, hM_16, hM_17, hM_18, hM_19, hM_20, hM_26, hM_28, hM_29, -⟩ := hM_o
  have hMb_o := hMb
  obtain ⟨⟨hMb_F, hMb_a, hMb_0, hMb_1, hMb_2, hMb_3, hMb_4, hMb_5, hMb_6, hMb_7, hMb_8, hMb_9, hMb_11, hMb_12, hMb_13, hMb_14, hMb_15, hMb_16, hMb_17, hMb_18, hMb_19, hMb_20, hMb_21, hMb_22, hMb_23, hMb_24, hMb_25, hMb_26, hMb_27, hMb_28, hMb_29, hMb_30, hMb_31⟩, ⟨hMb_f1, hMb_a1, hMb_b1⟩, ⟨hMb_f2, hMb_a2, hMb_b2⟩, ⟨hMb_f3, hMb_a3, hMb_b3⟩, ⟨hMb_f4, hMb_a4, hMb_b4⟩, ⟨hMb_f5, hMb_a5, hMb_b5⟩, ⟨hMb_f6, hMb_a6, hMb_b6⟩, ⟨hMb_f7, hMb_a7, hMb_b7⟩, ⟨hMb_f8, hMb_a8, hMb_b8⟩, ⟨hMb_f9, hMb_a9, hMb_b9⟩, ⟨hMb_f10, hMb_a10, hMb_b10⟩, ⟨hMb_f11, hMb_a11, hMb_b11⟩, ⟨hMb_f12, hMb_a12, hMb_b12⟩, ⟨hMb_f13, hMb_a13, hMb_b13⟩, ⟨hMb_f14, hMb_a14, hMb_b14⟩, ⟨hMb_f15, hMb_a15, hMb_b15⟩, ⟨hMb_f16, hMb_a16, hMb_b16⟩, ⟨hMb_f17, hMb_a17, hMb_b17⟩, ⟨hMb_f18, hMb_a18, hMb_b18⟩, ⟨hMb_f19, hMb_a19, hMb_b19⟩, ⟨hMb_f20, hMb_a20, hMb_b20⟩, ⟨hMb_f21, hMb_a21, hMb_b21⟩⟩ := hMb_o
  have hV_o := hV
  obtain ⟨hV_f, hV_a, hV_r, hV_d⟩ := hV_o
  have hX_o := hX
  obtain ⟨hX_f, hX_a⟩ := hX_o
  refine g_iconst E (v := 0) dX13_holds_0 (by decide) rfl ?_
  refine g_istore_n E dX13_holds_1 rfl (by decide) rfl (lo1 := [some (.ref 2000), some (.int (nI j)), some (.int 0), none]) rfl rfl ?_
  refine g_iload_n E dX13_holds_2 rfl rfl rfl ?_
  refine g_bipush E (v := 60) dX13_holds_3 (by decide) rfl ?_
  refine g_icmp_gt E dX13_holds_5 (tgt := 77) (by decide) rfl (fun h9 => absurd h9 (by decide)) (fun _ => ?_)
  refine g_aload_n E dX13_holds_8 rfl rfl rfl ?_
  refine g_iconst E (v := 1) dX13_holds_9 (by decide) rfl ?_
  refine g_iload_n E dX13_holds_10 rfl rfl rfl ?_
  have hM1 : pMq g (.ref mb) th tr wh tp fa ac mk [] := ⟨_, hM_a, hM_0, hM_1, hM_2, hM_3, hM_5, hM_6, hM_12, hM_15, hM_16, hM_17, hM_18, hM_19, hM_20, hM_26, hM_28, hM_29, trivial⟩
  refine g_callV (k := 2000) (n9 := 2) (av := [.int 1, .int 0]) (st := []) E (ct_X13_asks_Y l 0 hw hM1 hV (⟨_, hX_a⟩) (by decide)) gciX13 dX13_holds_11 hM_a q2233 q2235 qs87 q135 q2236 (by decide +kernel) rfl rfl ⟨by decide, by decide⟩ ⟨by decide, by decide⟩ (Nat.le_of_ble_eq_true rfl) rfl (gPi.k (fun g2 h2 => ?_))
  obtain ⟨hr2, f2⟩ := h2
  have hr2_o := hr2
  obtain ⟨hr2_f, hr2_a, hr2_r, hr2_d⟩ := hr2_o
  refine g_pop E dX13_holds_14 rfl rfl ?_
  refine g_aload_n E dX13_holds_15 rfl rfl rfl ?_
  refine g_aload_n E dX13_holds_16 rfl rfl rfl ?_
  have x3 := (f2 (2000) (by omega)).trans (hM_a)
  refine g_getf E gciX13 dX13_holds_17 x3 16 rfl (by decide) q1756 (.inl rfl) (.ref 2003) (hM_16) rfl ?_
  refine g_iload_n E dX13_holds_20 rfl rfl rfl ?_
  have hM4 : pMq g2 (.ref mb) th tr wh tp fa ac mk [] := ⟨_, x3, hM_0, hM_1, hM_2, hM_3, hM_5, hM_6, hM_12, hM_15, hM_16, hM_17, hM_18, hM_19, hM_20, hM_26, hM_28, hM_29, trivial⟩
  have y5 := (hMb.fr  (fun j9 a9 b9 => f2 j9 (by omega)))
  refine g_callV (k := 2000) (n9 := 2) (av := [.ref 2003, .int (nI j)]) (st := []) E (ct_X13_worthIn l j hw hM4 y5 hr2 (by omega)) gciX13 dX13_holds_21 x3 q2249 q2251 qs90 q135 q2252 (by decide +kernel) rfl rfl ⟨by decide, by decide⟩ ⟨by decide, by decide⟩ (Nat.le_of_ble_eq_true rfl) rfl (gPu.k ?_)
  refine g_aload_n E dX13_holds_24 rfl rfl rfl ?_
  refine g_aload_n E dX13_holds_25 rfl rfl rfl ?_
  refine g_getf E gciX13 dX13_holds_26 x3 16 rfl (by decide) q1756 (.inl rfl) (.ref 2003) (hM_16) rfl ?_
  refine g_iload_n E dX13_holds_29 rfl rfl rfl ?_
  refine g_iconst E (v := 0) dX13_holds_30 (by decide) rfl ?_
  refine g_callV (k := 2000) (n9 := 3) (av := [.ref 2003, .int (nI j), .int 0]) (st := [.int (zWor B j (d + 0))]) E (ct_X13_dutyIn l j 0 hw hM4 y5 hr2 (by omega) (by omega)) gciX13 dX13_holds_31 x3 q2265 q2267 qs92 q135 q2268 (by decide +kernel) rfl rfl ⟨by decide, by decide⟩ ⟨by decide, by decide⟩ (Nat.le_of_ble_eq_true rfl) rfl (gPu.k ?_)
  refine g_isub E dX13_holds_34 rfl ?_
  refine g_iload_n E dX13_holds_35 rfl rfl rfl ?_
  refine g_aload_n E dX13_holds_36 rfl rfl rfl ?_
  refine g_getf E gciX13 dX13_holds_37 x3 3 rfl (by decide) q1743 (.inl rfl) (.ref mb) (hM_3) rfl ?_
  have x6 := (f2 (mb) (by omega)).trans (hMb_a)
  refine g_getfN E gciX27 dX13_holds_40 x6 0 rfl (by decide) q1857 (.inl rfl) (.int (nI (B 0 7))) (hMb_0) rfl ?_
  refine g_imul E dX13_holds_43 rfl ?_
  refine g_isub E dX13_holds_44 rfl ?_
  refine g_as (y := zHo B d j 0) (by unfold zHo; rw [Int32.mul_comm]; rfl) ?_
  refine g_istore_n E dX13_holds_45 rfl (by decide) rfl (lo1 := [some (.ref 2000), some (.int (nI j)), some (.int 0), some (.int (zHo B d j 0))]) rfl rfl ?_
  refine g_iload_n E dX13_holds_46 rfl rfl rfl ?_
  refine g_if_le E dX13_holds_47 (tgt := 61) (by decide) rfl (fun _ => ?_) (fun h9 => absurd h9 (by decide))
  refine g_aload_n E dX13_holds_61 rfl rfl rfl ?_
  refine g_iload_n E dX13_holds_62 rfl rfl rfl ?_
  refine g_putf E gciX13 (v := .int (zHo B d j 0)) dX13_holds_63 x3 25 rfl (by decide) q1765 (.inl rfl) rfl (fun _ => rfl) (fun _ => rfl) rfl (g_upk (fun g7 h7 f7 => ?_))
  refine g_aload_n E dX13_holds_66 rfl rfl rfl ?_
  refine g_iload_n E dX13_holds_67 rfl rfl rfl ?_
  refine g_putf E gciX13 (v := .int 0) dX13_holds_68 h7 24 rfl (by decide) q1764 (.inl rfl) rfl (fun _ => rfl) (fun _ => rfl) rfl (g_upk (fun g8 h8 f8 => ?_))
  refine g_iinc E dX13_holds_71 rfl (v := 1) (rfl) (by decide) rfl (lo1 := [some (.ref 2000), some (.int (nI j)), some (.int 1), some (.int (zHo B d j 0))]) rfl rfl ?_
  refine g_goto E dX13_holds_74 (tgt := 2) (by decide) ?_
  have lp2 : ∀ (r9 : Nat) (k : Nat) (gw : gWM), (k ≤ 60) → (61 - k < r9) → (pMq gw (.ref mb) th tr wh tp fa ac mk [(24, nI (zMst (zHo B d j) k)), (25, zHo B d j (zMst (zHo B d j) k))]) → (pIx gw 2003 18) → (∀ j, (j ≠ 2000 ∧ j ≠ 2003) → gw j = g j) → gV z gw 0 0 2 [some (.ref 2000), some (.int (nI j)), some (.int (nI (k + 1))), none] [] := by
    intro r9
    induction r9 with
    | zero => intro k gw hk hm hMw hXw hfw; exact absurd hm (Nat.not_lt_zero _)
    | succ r9 ih2 =>
      intro k gw hk hm hMw hXw hfw
      have hMw_o := hMw
      obtain ⟨hMw_F, hMw_a, hMw_0, hMw_1, hMw_2, hMw_3, hMw_5, hMw_6, hMw_12, hMw_15, hMw_16, hMw_17, hMw_18, hMw_19, hMw_20, hMw_26, hMw_28, hMw_29, hMw_24, hMw_25, -⟩ := hMw_o
      have hXw_o := hXw
      obtain ⟨hXw_f, hXw_a⟩ := hXw_o
      refine g_iload_n E dX13_holds_2 rfl rfl rfl ?_
      refine g_bipush E (v := 60) dX13_holds_3 (by decide) rfl ?_
      refine g_icmp_gt E dX13_holds_5 (tgt := 77) (by decide) rfl (fun c5 => ?_) (fun c5 => ?_)
      · have c5 := (nI_ltI (a := 60) (b := k + 1) (by omega) (by omega)).mp c5
        obtain rfl : k = 60 := by omega
        exact g_vret E Rt dX13_holds_77 rfl (by decide) (by decide) (⟨rfl, ⟨_, hMw_a, hMw_0, hMw_1, hMw_2, hMw_3, hMw_5, hMw_6, hMw_12, hMw_15, hMw_16, hMw_17, hMw_18, hMw_19, hMw_20, hMw_26, hMw_28, hMw_29, hMw_24, hMw_25, trivial⟩, ⟨_, hXw_a⟩, fun j9 h9 => hfw j9 (by omega)⟩)
      · have c5 := mt (nI_ltI (a := 60) (b := k + 1) (by omega) (by omega)).mpr c5
        refine g_aload_n E dX13_holds_8 rfl rfl rfl ?_
        refine g_iconst E (v := 1) dX13_holds_9 (by decide) rfl ?_
        refine g_iload_n E dX13_holds_10 rfl rfl rfl ?_
        have hM9 : pMq gw (.ref mb) th tr wh tp fa ac mk [] := ⟨_, hMw_a, hMw_0, hMw_1, hMw_2, hMw_3, hMw_5, hMw_6, hMw_12, hMw_15, hMw_16, hMw_17, hMw_18, hMw_19, hMw_20, hMw_26, hMw_28, hMw_29, trivial⟩
        have y10 := (hV.fr  (fun j9 a9 b9 => hfw j9 (by omega)))
        refine g_callV (k := 2000) (n9 := 2) (av := [.int 1, .int (nI (k + 1))]) (st := []) E (ct_X13_asks_Y l (nI (k + 1)) hw hM9 y10 (⟨_, hXw_a⟩) (zIn_60 (by omega))) gciX13 dX13_holds_11 hMw_a q2233 q2235 qs87 q135 q2236 (by decide +kernel) rfl rfl ⟨by decide, by decide⟩ ⟨by decide, by decide⟩ (Nat.le_of_ble_eq_true rfl) rfl (gPi.k (fun g11 h11 => ?_))
        obtain ⟨hr11, f11⟩ := h11
        have hr11_o := hr11
        obtain ⟨hr11_f, hr11_a, hr11_r, hr11_d⟩ := hr11_o
        refine g_pop E dX13_holds_14 rfl rfl ?_
        refine g_aload_n E dX13_holds_15 rfl rfl rfl ?_
        refine g_aload_n E dX13_holds_16 rfl rfl rfl ?_
        have x12 := (f11 (2000) (by omega)).trans (hMw_a)
        refine g_getf E gciX13 dX13_holds_17 x12 16 rfl (by decide) q1756 (.inl rfl) (.ref 2003) (hMw_16) rfl ?_
        refine g_iload_n E dX13_holds_20 rfl rfl rfl ?_
        have hM13 : pMq g11 (.ref mb) th tr wh tp fa ac mk [] := ⟨_, x12, hMw_0, hMw_1, hMw_2, hMw_3, hMw_5, hMw_6, hMw_12, hMw_15, hMw_16, hMw_17, hMw_18, hMw_19, hMw_20, hMw_26, hMw_28, hMw_29, trivial⟩
        have y14 := ((hMb.fr  (fun j9 a9 b9 => hfw j9 (by omega))).fr  (fun j9 a9 b9 => f11 j9 (by omega)))
        refine g_callV (k := 2000) (n9 := 2) (av := [.ref 2003, .int (nI j)]) (st := []) E (ct_X13_worthIn l j hw hM13 y14 hr11 (by omega)) gciX13 dX13_holds_21 x12 q2249 q2251 qs90 q135 q2252 (by decide +kernel) rfl rfl ⟨by decide, by decide⟩ ⟨by decide, by decide⟩ (Nat.le_of_ble_eq_true rfl) rfl (gPu.k ?_)
        refine g_aload_n E dX13_holds_24 rfl rfl rfl ?_
        refine g_aload_n E dX13_holds_25 rfl rfl rfl ?_
        refine g_getf E gciX13 dX13_holds_26 x12 16 rfl (by decide) q1756 (.inl rfl) (.ref 2003) (hMw_16) rfl ?_
        refine g_iload_n E dX13_holds_29 rfl rfl rfl ?_
        refine g_iconst E (v := 0) dX13_holds_30 (by decide) rfl ?_
        refine g_callV (k := 2000) (n9 := 3) (av := [.ref 2003, .int (nI j), .int 0]) (st := [.int (zWor B j (d + (nI (k + 1))))]) E (ct_X13_dutyIn l j 0 hw hM13 y14 hr11 (by omega) (by omega)) gciX13 dX13_holds_31 x12 q2265 q2267 qs92 q135 q2268 (by decide +kernel) rfl rfl ⟨by decide, by decide⟩ ⟨by decide, by decide⟩ (Nat.le_of_ble_eq_true rfl) rfl (gPu.k ?_)
        refine g_isub E dX13_holds_34 rfl ?_
        refine g_iload_n E dX13_holds_35 rfl rfl rfl ?_
        refine g_aload_n E dX13_holds_36 rfl rfl rfl ?_
        refine g_getf E gciX13 dX13_holds_37 x12 3 rfl (by decide) q1743 (.inl rfl) (.ref mb) (hMw_3) rfl ?_
        have x15 := (f11 (mb) (by omega)).trans ((hfw (mb) (by omega)).trans (hMb_a))
        refine g_getfN E gciX27 dX13_holds_40 x15 0 rfl (by decide) q1857 (.inl rfl) (.int (nI (B 0 7))) (hMb_0) rfl ?_
        refine g_imul E dX13_holds_43 rfl ?_
        refine g_isub E dX13_holds_44 rfl ?_
        refine g_as (y := zHo B d j (k + 1)) (by unfold zHo; rw [Int32.mul_comm (nI (k + 1))]) ?_
        refine g_istore_n E dX13_holds_45 rfl (by decide) rfl (lo1 := [some (.ref 2000), some (.int (nI j)), some (.int (nI (k + 1))), some (.int (zHo B d j (k + 1)))]) rfl rfl ?_
        refine g_iload_n E dX13_holds_46 rfl rfl rfl ?_
        refine g_if_le E dX13_holds_47 (tgt := 61) (by decide) rfl (fun c47 => ?_) (fun c47 => ?_)
        · exact absurd ((nI_leI (a := k + 1) (b := 0) (by omega) (by decide)).mp c47) (by omega)
        · refine g_iload_n E dX13_holds_50 rfl rfl rfl ?_
          refine g_aload_n E dX13_holds_51 rfl rfl rfl ?_
          refine g_getf E gciX13 dX13_holds_52 x12 25 rfl (by decide) q1765 (.inl rfl) (.int (zHo B d j (zMst (zHo B d j) k))) (hMw_25) rfl ?_
          refine g_icmp_gt E dX13_holds_55 (tgt := 61) (by decide) rfl (fun c55 => ?_) (fun c55 => ?_)
          · refine g_aload_n E dX13_holds_61 rfl rfl rfl ?_
            refine g_iload_n E dX13_holds_62 rfl rfl rfl ?_
            refine g_putf E gciX13 (v := .int (zHo B d j (k + 1))) dX13_holds_63 x12 25 rfl (by decide) q1765 (.inl rfl) rfl (fun _ => rfl) (fun _ => rfl) rfl (g_upk (fun g16 h16 f16 => ?_))
            refine g_aload_n E dX13_holds_66 rfl rfl rfl ?_
            refine g_iload_n E dX13_holds_67 rfl rfl rfl ?_
            refine g_putf E gciX13 (v := .int (nI (k + 1))) dX13_holds_68 h16 24 rfl (by decide) q1764 (.inl rfl) rfl (fun _ => rfl) (fun _ => rfl) rfl (g_upk (fun g17 h17 f17 => ?_))
            refine g_iinc E dX13_holds_71 rfl (v := nI (k + 1 + 1)) (nI_c _) (by decide) rfl (lo1 := [some (.ref 2000), some (.int (nI j)), some (.int (nI (k + 1 + 1))), some (.int (zHo B d j (k + 1)))]) rfl rfl ?_
            refine g_goto E dX13_holds_74 (tgt := 2) (by decide) ?_
            have x18 := (f17 (2003) (by omega)).trans ((f16 (2003) (by omega)).trans (hr11_a))
            exact g_les (lo1 := [some (.ref 2000), some (.int (nI j)), some (.int (nI (k + 1 + 1))), none]) (⟨rfl, rfl, rfl, trivial⟩) (ih2 (k + 1) g17 (by omega) (by omega) (by rw [zMst_t (fun h9 => absurd c55 (Int32.not_lt.mpr h9))]; exact ⟨_, h17, hMw_0, hMw_1, hMw_2, hMw_3, hMw_5, hMw_6, hMw_12, hMw_15, hMw_16, hMw_17, hMw_18, hMw_19, hMw_20, hMw_26, hMw_28, hMw_29, rfl, rfl, trivial⟩) (⟨_, x18⟩) (fun j9 h9 => (((f17 j9 (by omega)).trans (f16 j9 (by omega))).trans (f11 j9 (by omega))).trans (hfw j9 (by omega))))
          · refine g_goto E dX13_holds_58 (tgt := 71) (by decide) ?_
            refine g_iinc E dX13_holds_71 rfl (v := nI (k + 1 + 1)) (nI_c _) (by decide) rfl (lo1 := [some (.ref 2000), some (.int (nI j)), some (.int (nI (k + 1 + 1))), some (.int (zHo B d j (k + 1)))]) rfl rfl ?_
            refine g_goto E dX13_holds_74 (tgt := 2) (by decide) ?_
            exact g_les (lo1 := [some (.ref 2000), some (.int (nI j)), some (.int (nI (k + 1 + 1))), none]) (⟨rfl, rfl, rfl, trivial⟩) (ih2 (k + 1) g11 (by omega) (by omega) (by rw [zMst_f (Int32.not_lt.mp c55)]; exact ⟨_, x12, hMw_0, hMw_1, hMw_2, hMw_3, hMw_5, hMw_6, hMw_12, hMw_15, hMw_16, hMw_17, hMw_18, hMw_19, hMw_20, hMw_26, hMw_28, hMw_29, hMw_24, hMw_25, trivial⟩) (⟨_, hr11_a⟩) (fun j9 h9 => (f11 j9 (by omega)).trans (hfw j9 (by omega))))
  have x19 := (f8 (2003) (by omega)).trans ((f7 (2003) (by omega)).trans (hr2_a))
  exact g_les (lo1 := [some (.ref 2000), some (.int (nI j)), some (.int 1), none]) (⟨rfl, rfl, rfl, trivial⟩) (lp2 62 0 g8 (Nat.zero_le _) (by omega) (⟨_, h8, hM_0, hM_1, hM_2, hM_3, hM_5, hM_6, hM_12, hM_15, hM_16, hM_17, hM_18, hM_19, hM_20, hM_26, hM_28, hM_29, rfl, rfl, trivial⟩) (⟨_, x19⟩) (fun j9 h9 => ((f8 j9 (by omega)).trans (f7 j9 (by omega))).trans (f2 j9 (by omega))))
set_option maxHeartbeats 1000000 in
theorem ct_X13_hold (l : Launch) {g : gWM} {mb : Nat} {B : gBar} {R : Nat → Int32} {d : Int32} {th tr wh fa : Int32} {tp ac mk : Nat} (p : Int32) (hw : wfB B) (hM : pMq g (.ref mb) th tr wh tp fa ac mk []) (hMb : pMb g mb B) (hV : pRw g 2002 B R d) (hX : pIx g 2003 18) (h9 : 10000 ≤ mb) : gCt l yX13_hold cX13_hold 2 (some .int) 4 0 0 90 [.ref 2000, .int p] g (gPi (sHol B d p).1 (fun g1 => pMq g1 (.ref mb) 0 ((sHol B d p).2) (-1) tp fa ac mk [] ∧ pIx g1 2003 18 ∧ ∀ j, (j ≠ 2000 ∧ j ≠ 2003) → g1 j = g j)) := by
  refine gCt.of RX13 (by decide) rfl (lo := [some (.ref 2000), some (.int p)]) 0 rfl (Nat.le_of_ble_eq_true rfl) (fun z E Rt => ?_)
  have hw_n := hw.1
  have hM_o := hM
  obtain ⟨hM_F, hM_a, hM_0, hM_1, hM_2, hM_3, hM_5, hM_6, hM_12, hM_15, hM_16, hM_17, hM_18, hM_19, hM_20, hM_26, hM_28, hM_29, -⟩ := hM_o
  have hMb_o := hMb
  obtain ⟨⟨hMb_F, hMb_a, hMb_0, hMb_1, hMb_2, hMb_3, hMb_4, hMb_5, hMb_6, hMb_7, hMb_8, hMb_9, hMb_11, hMb_12, hMb_13, hMb_14, hMb_15, hMb_16, hMb_17, hMb_18, hMb_19, hMb_20, hMb_21, hMb_22, hMb_23, hMb_24, hMb_25, hMb_26, hMb_27, hMb_28, hMb_29, hMb_30, hMb_31⟩, ⟨hMb_f1, hMb_a1, hMb_b1⟩, ⟨hMb_f2, hMb_a2, hMb_b2⟩, ⟨hMb_f3, hMb_a3, hMb_b3⟩, ⟨hMb_f4, hMb_a4, hMb_b4⟩, ⟨hMb_f5, hMb_a5, hMb_b5⟩, ⟨hMb_f6, hMb_a6, hMb_b6⟩, ⟨hMb_f7, hMb_a7, hMb_b7⟩, ⟨hMb_f8, hMb_a8, hMb_b8⟩, ⟨hMb_f9, hMb_a9, hMb_b9⟩, ⟨hMb_f10, hMb_a10, hMb_b10⟩, ⟨hMb_f11, hMb_a11, hMb_b11⟩, ⟨hMb_f12, hMb_a12, hMb_b12⟩, ⟨hMb_f13, hMb_a13, hMb_b13⟩, ⟨hMb_f14, hMb_a14, hMb_b14⟩, ⟨hMb_f15, hMb_a15, hMb_b15⟩, ⟨hMb_f16, hMb_a16, hMb_b16⟩, ⟨hMb_f17, hMb_a17, hMb_b17⟩, ⟨hMb_f18, hMb_a18, hMb_b18⟩, ⟨hMb_f19, hMb_a19, hMb_b19⟩, ⟨hMb_f20, hMb_a20, hMb_b20⟩, ⟨hMb_f21, hMb_a21, hMb_b21⟩⟩ := hMb_o
  have hV_o := hV
  obtain ⟨hV_f, hV_a, hV_r, hV_d⟩ := hV_o
  have hX_o := hX
  obtain ⟨hX_f, hX_a⟩ := hX_o
  refine g_aload_n E dX13_hold_0 rfl rfl rfl ?_
  refine g_iconst E (v := 0) dX13_hold_1 (by decide) rfl ?_
  refine g_putf E gciX13 (v := .int 0) dX13_hold_2 hM_a 0 rfl (by decide) q1740 (.inl rfl) rfl (fun _ => rfl) (fun _ => rfl) rfl (g_upk (fun g1 h1 f1 => ?_))
  refine g_aload_n E dX13_hold_5 rfl rfl rfl ?_
  refine g_iload_n E dX13_hold_6 rfl rfl rfl ?_
  have hM2 : pMq g1 (.ref mb) 0 tr wh tp fa ac mk [] := ⟨_, h1, rfl, hM_1, hM_2, hM_3, hM_5, hM_6, hM_12, hM_15, hM_16, hM_17, hM_18, hM_19, hM_20, hM_26, hM_28, hM_29, trivial⟩
  have y3 := (hMb.fr  (fun j9 a9 b9 => f1 j9 (by omega)))
  refine g_callV (k := 2000) (n9 := 1) (av := [.int p]) (st := []) E (ct_X13_isGood l p hw hM2 y3) gciX13 dX13_hold_7 h1 q2197 q2199 qs81 q135 q2200 (by decide +kernel) rfl rfl ⟨by decide, by decide⟩ ⟨by decide, by decide⟩ (Nat.le_of_ble_eq_true rfl) rfl (gPu.k ?_)
  refine g_if_ne E dX13_hold_10 (tgt := 19) (by decide) rfl (fun c10 => ?_) (fun c10 => ?_)
  · have c10 := zb_n0.mp c10
    obtain ⟨j, q4⟩ := isSome_of c10
    obtain ⟨rfl, q4_l⟩ := qI_some (by omega) q4
    refine g_aload_n E dX13_hold_19 rfl rfl rfl ?_
    refine g_iload_n E dX13_hold_20 rfl rfl rfl ?_
    have y5 := (hV.fr  (fun j9 a9 b9 => f1 j9 (by omega)))
    have x6 := (f1 (2003) (by omega)).trans (hX_a)
    refine g_callV (k := 2000) (n9 := 1) (av := [.int (nI j)]) (st := []) E (ct_X13_holds l j hw hM2 y3 y5 (⟨_, x6⟩) (by omega) (by omega)) gciX13 dX13_hold_21 h1 q2380 q2382 qs103 q135 q2383 (by decide +kernel) rfl rfl ⟨by decide, by decide⟩ ⟨by decide, by decide⟩ (Nat.le_of_ble_eq_true rfl) rfl (gPn.k (fun g7 h7 => ?_))
    obtain ⟨hm7, hx7, f7⟩ := h7
    have hm7_o := hm7
    obtain ⟨hm7_F, hm7_a, hm7_0, hm7_1, hm7_2, hm7_3, hm7_5, hm7_6, hm7_12, hm7_15, hm7_16, hm7_17, hm7_18, hm7_19, hm7_20, hm7_26, hm7_28, hm7_29, hm7_24, hm7_25, -⟩ := hm7_o
    have hx7_o := hx7
    obtain ⟨hx7_f, hx7_a⟩ := hx7_o
    refine g_aload_n E dX13_hold_24 rfl rfl rfl ?_
    refine g_aload_n E dX13_hold_25 rfl rfl rfl ?_
    refine g_getf E gciX13 dX13_hold_26 hm7_a 24 rfl (by decide) q1764 (.inl rfl) (.int (nI (zBh B d j))) (hm7_24) rfl ?_
    have hM8 : pMq g7 (.ref mb) 0 tr wh tp fa ac mk [] := ⟨_, hm7_a, hm7_0, hm7_1, hm7_2, hm7_3, hm7_5, hm7_6, hm7_12, hm7_15, hm7_16, hm7_17, hm7_18, hm7_19, hm7_20, hm7_26, hm7_28, hm7_29, trivial⟩
    refine g_callV (k := 2000) (n9 := 1) (av := [.int (nI (zBh B d j))]) (st := []) E (ct_X13_fine l (nI (zBh B d j)) hM8) gciX13 dX13_hold_29 hm7_a q2181 q2183 qs80 q135 q2184 (by decide +kernel) rfl rfl ⟨by decide, by decide⟩ ⟨by decide, by decide⟩ (Nat.le_of_ble_eq_true rfl) rfl (gPi.k (fun g9 h9 => ?_))
    obtain ⟨hm9, f9⟩ := h9
    have hm9_o := hm9
    obtain ⟨hm9_F, hm9_a, hm9_0, hm9_1, hm9_2, hm9_3, hm9_5, hm9_6, hm9_12, hm9_15, hm9_16, hm9_17, hm9_18, hm9_19, hm9_20, hm9_26, hm9_28, hm9_29, -⟩ := hm9_o
    have hs10 : sHol B d (nI j) = (nI (zBh B d j), 0) := by first | (simp [sHol, c10, q4]; done) | (simp [sHol, c10, q4, qWy]; done)
    have x11 := (f9 (2003) (by omega)).trans (hx7_a)
    exact g_iret E Rt dX13_hold_32 rfl (by decide) (by decide) (by rw [hs10]; exact ⟨rfl, ⟨_, hm9_a, hm9_0, hm9_1, hm9_2, hm9_3, hm9_5, hm9_6, hm9_12, hm9_15, hm9_16, hm9_17, hm9_18, hm9_19, hm9_20, hm9_26, hm9_28, hm9_29, trivial⟩, ⟨_, x11⟩, fun j9 h9 => ((f9 j9 (by omega)).trans (f7 j9 (by omega))).trans (f1 j9 (by omega))⟩)
  · have c10 := zb_0.mp c10
    have q12 := isNone_of c10
    refine g_aload_n E dX13_hold_13 rfl rfl rfl ?_
    refine g_iconst E (v := 1) dX13_hold_14 (by decide) rfl ?_
    refine g_callV (k := 2000) (n9 := 1) (av := [.int 1]) (st := []) E (ct_X13_refused l 1 hM2) gciX13 dX13_hold_15 h1 q1846 q1848 qs52 q135 q1849 (by decide +kernel) rfl rfl ⟨by decide, by decide⟩ ⟨by decide, by decide⟩ (Nat.le_of_ble_eq_true rfl) rfl (gPi.k (fun g13 h13 => ?_))
    obtain ⟨hm13, f13⟩ := h13
    have hm13_o := hm13
    obtain ⟨hm13_F, hm13_a, hm13_0, hm13_1, hm13_2, hm13_3, hm13_5, hm13_6, hm13_12, hm13_15, hm13_16, hm13_17, hm13_18, hm13_19, hm13_20, hm13_26, hm13_28, hm13_29, -⟩ := hm13_o
    have hs14 : sHol B d p = ((-1), 1) := by first | (simp [sHol, c10, q12]; done) | (simp [sHol, c10, q12, qWy]; done)
    have x15 := (f13 (2003) (by omega)).trans ((f1 (2003) (by omega)).trans (hX_a))
    exact g_iret E Rt dX13_hold_18 rfl (by decide) (by decide) (by rw [hs14]; exact ⟨rfl, ⟨_, hm13_a, hm13_0, hm13_1, hm13_2, hm13_3, hm13_5, hm13_6, hm13_12, hm13_15, hm13_16, hm13_17, hm13_18, hm13_19, hm13_20, hm13_26, hm13_28, hm13_29, trivial⟩, ⟨_, x15⟩, fun j9 h9 => (f13 j9 (by omega)).trans (f1 j9 (by omega))⟩)
set_option maxHeartbeats 1000000 in
theorem ct_X13_hold_N (l : Launch) {g : gWM} {th tr wh fa : Int32} {tp ac mk : Nat} (p : Int32) (hM : pMq g .null th tr wh tp fa ac mk []) : gCt l yX13_hold cX13_hold 2 (some .int) 1 0 0 21 [.ref 2000, .int p] g (gPi (sHol zB0 0 p).1 (fun g1 => pMq g1 .null 0 ((sHol zB0 0 p).2) (-1) tp fa ac mk [] ∧ ∀ j, j ≠ 2000 → g1 j = g j)) := by
  refine gCt.of RX13 (by decide) rfl (lo := [some (.ref 2000), some (.int p)]) 0 rfl (Nat.le_of_ble_eq_true rfl) (fun z E Rt => ?_)
  have hM_o := hM
  obtain ⟨hM_F, hM_a, hM_0, hM_1, hM_2, hM_3, hM_5, hM_6, hM_12, hM_15, hM_16, hM_17, hM_18, hM_19, hM_20, hM_26, hM_28, hM_29, -⟩ := hM_o
  refine g_aload_n E dX13_hold_0 rfl rfl rfl ?_
  refine g_iconst E (v := 0) dX13_hold_1 (by decide) rfl ?_
  refine g_putf E gciX13 (v := .int 0) dX13_hold_2 hM_a 0 rfl (by decide) q1740 (.inl rfl) rfl (fun _ => rfl) (fun _ => rfl) rfl (g_upk (fun g1 h1 f1 => ?_))
  refine g_aload_n E dX13_hold_5 rfl rfl rfl ?_
  refine g_iload_n E dX13_hold_6 rfl rfl rfl ?_
  have hM2 : pMq g1 .null 0 tr wh tp fa ac mk [] := ⟨_, h1, rfl, hM_1, hM_2, hM_3, hM_5, hM_6, hM_12, hM_15, hM_16, hM_17, hM_18, hM_19, hM_20, hM_26, hM_28, hM_29, trivial⟩
  refine g_callV (k := 2000) (n9 := 1) (av := [.int p]) (st := []) E (ct_X13_isGood_N l p hM2) gciX13 dX13_hold_7 h1 q2197 q2199 qs81 q135 q2200 (by decide +kernel) rfl rfl ⟨by decide, by decide⟩ ⟨by decide, by decide⟩ (Nat.le_of_ble_eq_true rfl) rfl (gPu.k ?_)
  refine g_if_ne E dX13_hold_10 (tgt := 19) (by decide) rfl (fun h9 => absurd h9 (by decide)) (fun _ => ?_)
  refine g_aload_n E dX13_hold_13 rfl rfl rfl ?_
  refine g_iconst E (v := 1) dX13_hold_14 (by decide) rfl ?_
  refine g_callV (k := 2000) (n9 := 1) (av := [.int 1]) (st := []) E (ct_X13_refused l 1 hM2) gciX13 dX13_hold_15 h1 q1846 q1848 qs52 q135 q1849 (by decide +kernel) rfl rfl ⟨by decide, by decide⟩ ⟨by decide, by decide⟩ (Nat.le_of_ble_eq_true rfl) rfl (gPi.k (fun g3 h3 => ?_))
  obtain ⟨hm3, f3⟩ := h3
  have hm3_o := hm3
  obtain ⟨hm3_F, hm3_a, hm3_0, hm3_1, hm3_2, hm3_3, hm3_5, hm3_6, hm3_12, hm3_15, hm3_16, hm3_17, hm3_18, hm3_19, hm3_20, hm3_26, hm3_28, hm3_29, -⟩ := hm3_o
  have hs4 : sHol zB0 0 p = ((-1), 1) := by first | (simp [sHol, qI_z, qWy]; done) | (simp [sHol, qI_z, qWy, qWy]; done)
  exact g_iret E Rt dX13_hold_18 rfl (by decide) (by decide) (by rw [hs4]; exact ⟨rfl, ⟨_, hm3_a, hm3_0, hm3_1, hm3_2, hm3_3, hm3_5, hm3_6, hm3_12, hm3_15, hm3_16, hm3_17, hm3_18, hm3_19, hm3_20, hm3_26, hm3_28, hm3_29, trivial⟩, fun j9 h9 => (f3 j9 (by omega)).trans (f1 j9 (by omega))⟩)
set_option maxHeartbeats 1000000 in
theorem ct_X13_holdGain (l : Launch) {g : gWM} {mb : Nat} {B : gBar} {R : Nat → Int32} {d : Int32} {th tr wh fa : Int32} {tp ac mk : Nat} (p : Int32) (hw : wfB B) (hM : pMq g (.ref mb) th tr wh tp fa ac mk []) (hMb : pMb g mb B) (hV : pRw g 2002 B R d) (hX : pIx g 2003 18) (h9 : 10000 ≤ mb) : gCt l yX13_holdGain cX13_holdGain 2 (some .int) 4 0 0 90 [.ref 2000, .int p] g (gPi (sHog B d p).1 (fun g1 => pMq g1 (.ref mb) 0 ((sHog B d p).2) (-1) tp fa ac mk [] ∧ pIx g1 2003 18 ∧ ∀ j, (j ≠ 2000 ∧ j ≠ 2003) → g1 j = g j)) := by
  refine gCt.of RX13 (by decide) rfl (lo := [some (.ref 2000), some (.int p)]) 0 rfl (Nat.le_of_ble_eq_true rfl) (fun z E Rt => ?_)
  have hw_n := hw.1
  have hM_o := hM
  obtain ⟨hM_F, hM_a, hM_0, hM_1, hM_2, hM_3, hM_5, hM_6, hM_12, hM_15, hM_16, hM_17, hM_18, hM_19, hM_20, hM_26, hM_28, hM_29, -⟩ := hM_o
  have hMb_o := hMb
  obtain ⟨⟨hMb_F, hMb_a, hMb_0, hMb_1, hMb_2, hMb_3, hMb_4, hMb_5, hMb_6, hMb_7, hMb_8, hMb_9, hMb_11, hMb_12, hMb_13, hMb_14, hMb_15, hMb_16, hMb_17, hMb_18, hMb_19, hMb_20, hMb_21, hMb_22, hMb_23, hMb_24, hMb_25, hMb_26, hMb_27, hMb_28, hMb_29, hMb_30, hMb_31⟩, ⟨hMb_f1, hMb_a1, hMb_b1⟩, ⟨hMb_f2, hMb_a2, hMb_b2⟩, ⟨hMb_f3, hMb_a3, hMb_b3⟩, ⟨hMb_f4, hMb_a4, hMb_b4⟩, ⟨hMb_f5, hMb_a5, hMb_b5⟩, ⟨hMb_f6, hMb_a6, hMb_b6⟩, ⟨hMb_f7, hMb_a7, hMb_b7⟩, ⟨hMb_f8, hMb_a8, hMb_b8⟩, ⟨hMb_f9, hMb_a9, hMb_b9⟩, ⟨hMb_f10, hMb_a10, hMb_b10⟩, ⟨hMb_f11, hMb_a11, hMb_b11⟩, ⟨hMb_f12, hMb_a12, hMb_b12⟩, ⟨hMb_f13, hMb_a13, hMb_b13⟩, ⟨hMb_f14, hMb_a14, hMb_b14⟩, ⟨hMb_f15, hMb_a15, hMb_b15⟩, ⟨hMb_f16, hMb_a16, hMb_b16⟩, ⟨hMb_f17, hMb_a17, hMb_b17⟩, ⟨hMb_f18, hMb_a18, hMb_b18⟩, ⟨hMb_f19, hMb_a19, hMb_b19⟩, ⟨hMb_f20, hMb_a20, hMb_b20⟩, ⟨hMb_f21, hMb_a21, hMb_b21⟩⟩ := hMb_o
  have hV_o := hV
  obtain ⟨hV_f, hV_a, hV_r, hV_d⟩ := hV_o
  have hX_o := hX
  obtain ⟨hX_f, hX_a⟩ := hX_o
  refine g_aload_n E dX13_holdGain_0 rfl rfl rfl ?_
  refine g_iconst E (v := 0) dX13_holdGain_1 (by decide) rfl ?_
  refine g_putf E gciX13 (v := .int 0) dX13_holdGain_2 hM_a 0 rfl (by decide) q1740 (.inl rfl) rfl (fun _ => rfl) (fun _ => rfl) rfl (g_upk (fun g1 h1 f1 => ?_))
  refine g_aload_n E dX13_holdGain_5 rfl rfl rfl ?_
  refine g_iload_n E dX13_holdGain_6 rfl rfl rfl ?_
  have hM2 : pMq g1 (.ref mb) 0 tr wh tp fa ac mk [] := ⟨_, h1, rfl, hM_1, hM_2, hM_3, hM_5, hM_6, hM_12, hM_15, hM_16, hM_17, hM_18, hM_19, hM_20, hM_26, hM_28, hM_29, trivial⟩
  have y3 := (hMb.fr  (fun j9 a9 b9 => f1 j9 (by omega)))
  refine g_callV (k := 2000) (n9 := 1) (av := [.int p]) (st := []) E (ct_X13_isGood l p hw hM2 y3) gciX13 dX13_holdGain_7 h1 q2197 q2199 qs81 q135 q2200 (by decide +kernel) rfl rfl ⟨by decide, by decide⟩ ⟨by decide, by decide⟩ (Nat.le_of_ble_eq_true rfl) rfl (gPu.k ?_)
  refine g_if_ne E dX13_holdGain_10 (tgt := 19) (by decide) rfl (fun c10 => ?_) (fun c10 => ?_)
  · have c10 := zb_n0.mp c10
    obtain ⟨j, q4⟩ := isSome_of c10
    obtain ⟨rfl, q4_l⟩ := qI_some (by omega) q4
    refine g_aload_n E dX13_holdGain_19 rfl rfl rfl ?_
    refine g_iload_n E dX13_holdGain_20 rfl rfl rfl ?_
    have y5 := (hV.fr  (fun j9 a9 b9 => f1 j9 (by omega)))
    have x6 := (f1 (2003) (by omega)).trans (hX_a)
    refine g_callV (k := 2000) (n9 := 1) (av := [.int (nI j)]) (st := []) E (ct_X13_holds l j hw hM2 y3 y5 (⟨_, x6⟩) (by omega) (by omega)) gciX13 dX13_holdGain_21 h1 q2380 q2382 qs103 q135 q2383 (by decide +kernel) rfl rfl ⟨by decide, by decide⟩ ⟨by decide, by decide⟩ (Nat.le_of_ble_eq_true rfl) rfl (gPn.k (fun g7 h7 => ?_))
    obtain ⟨hm7, hx7, f7⟩ := h7
    have hm7_o := hm7
    obtain ⟨hm7_F, hm7_a, hm7_0, hm7_1, hm7_2, hm7_3, hm7_5, hm7_6, hm7_12, hm7_15, hm7_16, hm7_17, hm7_18, hm7_19, hm7_20, hm7_26, hm7_28, hm7_29, hm7_24, hm7_25, -⟩ := hm7_o
    have hx7_o := hx7
    obtain ⟨hx7_f, hx7_a⟩ := hx7_o
    refine g_aload_n E dX13_holdGain_24 rfl rfl rfl ?_
    refine g_aload_n E dX13_holdGain_25 rfl rfl rfl ?_
    refine g_getf E gciX13 dX13_holdGain_26 hm7_a 25 rfl (by decide) q1765 (.inl rfl) (.int (zHo B d j (zBh B d j))) (hm7_25) rfl ?_
    have hM8 : pMq g7 (.ref mb) 0 tr wh tp fa ac mk [] := ⟨_, hm7_a, hm7_0, hm7_1, hm7_2, hm7_3, hm7_5, hm7_6, hm7_12, hm7_15, hm7_16, hm7_17, hm7_18, hm7_19, hm7_20, hm7_26, hm7_28, hm7_29, trivial⟩
    refine g_callV (k := 2000) (n9 := 1) (av := [.int (zHo B d j (zBh B d j))]) (st := []) E (ct_X13_fine l (zHo B d j (zBh B d j)) hM8) gciX13 dX13_holdGain_29 hm7_a q2181 q2183 qs80 q135 q2184 (by decide +kernel) rfl rfl ⟨by decide, by decide⟩ ⟨by decide, by decide⟩ (Nat.le_of_ble_eq_true rfl) rfl (gPi.k (fun g9 h9 => ?_))
    obtain ⟨hm9, f9⟩ := h9
    have hm9_o := hm9
    obtain ⟨hm9_F, hm9_a, hm9_0, hm9_1, hm9_2, hm9_3, hm9_5, hm9_6, hm9_12, hm9_15, hm9_16, hm9_17, hm9_18, hm9_19, hm9_20, hm9_26, hm9_28, hm9_29, -⟩ := hm9_o
    have hs10 : sHog B d (nI j) = (zHo B d j (zBh B d j), 0) := by first | (simp [sHog, c10, q4]; done) | (simp [sHog, c10, q4, qWy]; done)
    have x11 := (f9 (2003) (by omega)).trans (hx7_a)
    exact g_iret E Rt dX13_holdGain_32 rfl (by decide) (by decide) (by rw [hs10]; exact ⟨rfl, ⟨_, hm9_a, hm9_0, hm9_1, hm9_2, hm9_3, hm9_5, hm9_6, hm9_12, hm9_15, hm9_16, hm9_17, hm9_18, hm9_19, hm9_20, hm9_26, hm9_28, hm9_29, trivial⟩, ⟨_, x11⟩, fun j9 h9 => ((f9 j9 (by omega)).trans (f7 j9 (by omega))).trans (f1 j9 (by omega))⟩)
  · have c10 := zb_0.mp c10
    have q12 := isNone_of c10
    refine g_aload_n E dX13_holdGain_13 rfl rfl rfl ?_
    refine g_iconst E (v := 1) dX13_holdGain_14 (by decide) rfl ?_
    refine g_callV (k := 2000) (n9 := 1) (av := [.int 1]) (st := []) E (ct_X13_lost l 1 hM2) gciX13 dX13_holdGain_15 h1 q2388 q2390 qs104 q135 q2391 (by decide +kernel) rfl rfl ⟨by decide, by decide⟩ ⟨by decide, by decide⟩ (Nat.le_of_ble_eq_true rfl) rfl (gPi.k (fun g13 h13 => ?_))
    obtain ⟨hm13, f13⟩ := h13
    have hm13_o := hm13
    obtain ⟨hm13_F, hm13_a, hm13_0, hm13_1, hm13_2, hm13_3, hm13_5, hm13_6, hm13_12, hm13_15, hm13_16, hm13_17, hm13_18, hm13_19, hm13_20, hm13_26, hm13_28, hm13_29, -⟩ := hm13_o
    have hs14 : sHog B d p = ((-10000), 1) := by first | (simp [sHog, c10, q12]; done) | (simp [sHog, c10, q12, qWy]; done)
    have x15 := (f13 (2003) (by omega)).trans ((f1 (2003) (by omega)).trans (hX_a))
    exact g_iret E Rt dX13_holdGain_18 rfl (by decide) (by decide) (by rw [hs14]; exact ⟨rfl, ⟨_, hm13_a, hm13_0, hm13_1, hm13_2, hm13_3, hm13_5, hm13_6, hm13_12, hm13_15, hm13_16, hm13_17, hm13_18, hm13_19, hm13_20, hm13_26, hm13_28, hm13_29, trivial⟩, ⟨_, x15⟩, fun j9 h9 => (f13 j9 (by omega)).trans (f1 j9 (by omega))⟩)
set_option maxHeartbeats 1000000 in
theorem ct_X13_holdGain_N (l : Launch) {g : gWM} {th tr wh fa : Int32} {tp ac mk : Nat} (p : Int32) (hM : pMq g .null th tr wh tp fa ac mk []) : gCt l yX13_holdGain cX13_holdGain 2 (some .int) 2 0 0 42 [.ref 2000, .int p] g (gPi (sHog zB0 0 p).1 (fun g1 => pMq g1 .null 0 ((sHog zB0 0 p).2) (-1) tp fa ac mk [] ∧ ∀ j, j ≠ 2000 → g1 j = g j)) := by
  refine gCt.of RX13 (by decide) rfl (lo := [some (.ref 2000), some (.int p)]) 0 rfl (Nat.le_of_ble_eq_true rfl) (fun z E Rt => ?_)
  have hM_o := hM
  obtain ⟨hM_F, hM_a, hM_0, hM_1, hM_2, hM_3, hM_5, hM_6, hM_12, hM_15, hM_16, hM_17, hM_18, hM_19, hM_20, hM_26, hM_28, hM_29, -⟩ := hM_o
  refine g_aload_n E dX13_holdGain_0 rfl rfl rfl ?_
  refine g_iconst E (v := 0) dX13_holdGain_1 (by decide) rfl ?_
  refine g_putf E gciX13 (v := .int 0) dX13_holdGain_2 hM_a 0 rfl (by decide) q1740 (.inl rfl) rfl (fun _ => rfl) (fun _ => rfl) rfl (g_upk (fun g1 h1 f1 => ?_))
  refine g_aload_n E dX13_holdGain_5 rfl rfl rfl ?_
  refine g_iload_n E dX13_holdGain_6 rfl rfl rfl ?_
  have hM2 : pMq g1 .null 0 tr wh tp fa ac mk [] := ⟨_, h1, rfl, hM_1, hM_2, hM_3, hM_5, hM_6, hM_12, hM_15, hM_16, hM_17, hM_18, hM_19, hM_20, hM_26, hM_28, hM_29, trivial⟩
  refine g_callV (k := 2000) (n9 := 1) (av := [.int p]) (st := []) E (ct_X13_isGood_N l p hM2) gciX13 dX13_holdGain_7 h1 q2197 q2199 qs81 q135 q2200 (by decide +kernel) rfl rfl ⟨by decide, by decide⟩ ⟨by decide, by decide⟩ (Nat.le_of_ble_eq_true rfl) rfl (gPu.k ?_)
  refine g_if_ne E dX13_holdGain_10 (tgt := 19) (by decide) rfl (fun h9 => absurd h9 (by decide)) (fun _ => ?_)
  refine g_aload_n E dX13_holdGain_13 rfl rfl rfl ?_
  refine g_iconst E (v := 1) dX13_holdGain_14 (by decide) rfl ?_
  refine g_callV (k := 2000) (n9 := 1) (av := [.int 1]) (st := []) E (ct_X13_lost l 1 hM2) gciX13 dX13_holdGain_15 h1 q2388 q2390 qs104 q135 q2391 (by decide +kernel) rfl rfl ⟨by decide, by decide⟩ ⟨by decide, by decide⟩ (Nat.le_of_ble_eq_true rfl) rfl (gPi.k (fun g3 h3 => ?_))
  obtain ⟨hm3, f3⟩ := h3
  have hm3_o := hm3
  obtain ⟨hm3_F, hm3_a, hm3_0, hm3_1, hm3_2, hm3_3, hm3_5, hm3_6, hm3_12, hm3_15, hm3_16, hm3_17, hm3_18, hm3_19, hm3_20, hm3_26, hm3_28, hm3_29, -⟩ := hm3_o
  have hs4 : sHog zB0 0 p = ((-10000), 1) := by first | (simp [sHog, qI_z, qWy]; done) | (simp [sHog, qI_z, qWy, qWy]; done)
  exact g_iret E Rt dX13_holdGain_18 rfl (by decide) (by decide) (by rw [hs4]; exact ⟨rfl, ⟨_, hm3_a, hm3_0, hm3_1, hm3_2, hm3_3, hm3_5, hm3_6, hm3_12, hm3_15, hm3_16, hm3_17, hm3_18, hm3_19, hm3_20, hm3_26, hm3_28, hm3_29, trivial⟩, fun j9 h9 => (f3 j9 (by omega)).trans (f1 j9 (by omega))⟩)
set_option maxHeartbeats 400000 in
theorem ct_X13_gainIn (l : Launch) {g : gWM} {mb rk : Nat} {B : gBar} {R : Nat → Int32} {d : Int32} {th tr wh fa : Int32} {tp ac mk : Nat} (j : Nat) (hw : wfB B) (hM : pMq g (.ref mb) th tr wh tp fa ac mk []) (hMb : pMb g mb B) (hR : pRw g rk B R d) (hj : j < B 0 3) : gCt l yX13_gainIn cX13_gainIn 5 (some .int) 3 0 0 67 [.ref 2000, .ref rk, .int (nI j)] g (gPu (.int (zGai B j d)) g) := by
  refine gCt.of RX13 (by decide) rfl (lo := [some (.ref 2000), some (.ref rk), some (.int (nI j)), none, none]) 2 rfl (Nat.le_of_ble_eq_true rfl) (fun z E Rt => ?_)
  have hw_n := hw.1
  have hM_o := hM
  obtain ⟨hM_F, hM_a, hM_0, hM_1, hM_2, hM_3, hM_5, hM_6, hM_12, hM_15, hM_16, hM_17, hM_18, hM_19, hM_20, hM_26, hM_28, hM_29, -⟩ := hM_o
  have hMb_o := hMb
  obtain ⟨⟨hMb_F, hMb_a, hMb_0, hMb_1, hMb_2, hMb_3, hMb_4, hMb_5, hMb_6, hMb_7, hMb_8, hMb_9, hMb_11, hMb_12, hMb_13, hMb_14, hMb_15, hMb_16, hMb_17, hMb_18, hMb_19, hMb_20, hMb_21, hMb_22, hMb_23, hMb_24, hMb_25, hMb_26, hMb_27, hMb_28, hMb_29, hMb_30, hMb_31⟩, ⟨hMb_f1, hMb_a1, hMb_b1⟩, ⟨hMb_f2, hMb_a2, hMb_b2⟩, ⟨hMb_f3, hMb_a3, hMb_b3⟩, ⟨hMb_f4, hMb_a4, hMb_b4⟩, ⟨hMb_f5, hMb_a5, hMb_b5⟩, ⟨hMb_f6, hMb_a6, hMb_b6⟩, ⟨hMb_f7, hMb_a7, hMb_b7⟩, ⟨hMb_f8, hMb_a8, hMb_b8⟩, ⟨hMb_f9, hMb_a9, hMb_b9⟩, ⟨hMb_f10, hMb_a10, hMb_b10⟩, ⟨hMb_f11, hMb_a11, hMb_b11⟩, ⟨hMb_f12, hMb_a12, hMb_b12⟩, ⟨hMb_f13, hMb_a13, hMb_b13⟩, ⟨hMb_f14, hMb_a14, hMb_b14⟩, ⟨hMb_f15, hMb_a15, hMb_b15⟩, ⟨hMb_f16, hMb_a16, hMb_b16⟩, ⟨hMb_f17, hMb_a17, hMb_b17⟩, ⟨hMb_f18, hMb_a18, hMb_b18⟩, ⟨hMb_f19, hMb_a19, hMb_b19⟩, ⟨hMb_f20, hMb_a20, hMb_b20⟩, ⟨hMb_f21, hMb_a21, hMb_b21⟩⟩ := hMb_o
  have hR_o := hR
  obtain ⟨hR_f, hR_a, hR_r, hR_d⟩ := hR_o
  have hgd := hw.goods hj
  refine g_aload_n E dX13_gainIn_0 rfl rfl rfl ?_
  refine g_getf E gciX13 dX13_gainIn_1 hM_a 3 rfl (by decide) q1743 (.inl rfl) (.ref mb) (hM_3) rfl ?_
  refine g_getfN E gciX27 dX13_gainIn_4 hMb_a 21 rfl (by decide) q1890 (.inl rfl) (.ref (mb + 11)) (hMb_21) rfl ?_
  refine g_iload_n E dX13_gainIn_7 rfl rfl rfl ?_
  refine g_iald E dX13_gainIn_8 (j := j) hMb_a11 (rfl) (by omega) (by decide) (v := if B 12 j = 0 then -2 else nI (B 13 j)) (hMb_b11 j (by omega)) rfl ?_
  refine g_istore_n E dX13_gainIn_9 rfl (by decide) rfl (lo1 := [some (.ref 2000), some (.ref rk), some (.int (nI j)), some (.int (if B 12 j = 0 then -2 else nI (B 13 j))), none]) rfl rfl ?_
  refine g_iload_n E dX13_gainIn_10 rfl rfl rfl ?_
  refine g_bipush E (v := (-2)) dX13_gainIn_11 (by decide) rfl ?_
  refine g_icmp_eq E dX13_gainIn_13 (tgt := 31) (by decide) rfl (fun c13 => ?_) (fun c13 => ?_)
  · have k0 : B 12 j = 0 := by_z c13 (by omega)
    refine g_iconst E (v := 0) dX13_gainIn_31 (by decide) rfl ?_
    refine g_istore E dX13_gainIn_32 (by decide) rfl (lo1 := [some (.ref 2000), some (.ref rk), some (.int (nI j)), some (.int (if B 12 j = 0 then -2 else nI (B 13 j))), some (.int 0)]) rfl rfl ?_
    refine g_aload_n E dX13_gainIn_34 rfl rfl rfl ?_
    refine g_aload_n E dX13_gainIn_35 rfl rfl rfl ?_
    refine g_iload_n E dX13_gainIn_36 rfl rfl rfl ?_
    have hM1 : pMq g (.ref mb) th tr wh tp fa ac mk [] := ⟨_, hM_a, hM_0, hM_1, hM_2, hM_3, hM_5, hM_6, hM_12, hM_15, hM_16, hM_17, hM_18, hM_19, hM_20, hM_26, hM_28, hM_29, trivial⟩
    refine g_callV (k := 2000) (n9 := 2) (av := [.ref rk, .int (nI j)]) (st := []) E (ct_X13_isTurnedIn l j hw hM1 hMb hR (by omega)) gciX13 dX13_gainIn_37 hM_a q2253 q2255 qs91 q135 q2256 (by decide +kernel) rfl rfl ⟨by decide, by decide⟩ ⟨by decide, by decide⟩ (Nat.le_of_ble_eq_true rfl) rfl (gPu.k ?_)
    refine g_if_eq E dX13_gainIn_40 (tgt := 73) (by decide) rfl (fun c40 => ?_) (fun c40 => ?_)
    · have c40 := zb_0.mp c40
      refine g_iload E dX13_gainIn_73 rfl rfl ?_
      refine g_if_eq E dX13_gainIn_75 (tgt := 110) (by decide) rfl (fun _ => ?_) (fun h9 => absurd h9 (by decide))
      refine g_iconst E (v := 0) dX13_gainIn_110 (by decide) rfl ?_
      refine g_aload_n E dX13_gainIn_111 rfl rfl rfl ?_
      refine g_aload_n E dX13_gainIn_112 rfl rfl rfl ?_
      refine g_iload_n E dX13_gainIn_113 rfl rfl rfl ?_
      refine g_iconst E (v := 0) dX13_gainIn_114 (by decide) rfl ?_
      refine g_callV (k := 2000) (n9 := 3) (av := [.ref rk, .int (nI j), .int 0]) (st := [.int 0]) E (ct_X13_dutyIn l j 0 hw hM1 hMb hR (by omega) (by omega)) gciX13 dX13_gainIn_115 hM_a q2265 q2267 qs92 q135 q2268 (by decide +kernel) rfl rfl ⟨by decide, by decide⟩ ⟨by decide, by decide⟩ (Nat.le_of_ble_eq_true rfl) rfl (gPu.k ?_)
      refine g_isub E dX13_gainIn_118 rfl ?_
      exact g_iret E Rt dX13_gainIn_119 rfl (by decide) (by decide) (⟨congrArg (fun x => some (Value.int x)) (by simp [zGai, zDut, k0, c40]), rfl⟩)
    · have c40 := zb_n0.mp c40
      refine g_iload E dX13_gainIn_43 rfl rfl ?_
      refine g_if_eq E dX13_gainIn_45 (tgt := 71) (by decide) rfl (fun _ => ?_) (fun h9 => absurd h9 (by decide))
      refine g_iconst E (v := 0) dX13_gainIn_71 (by decide) rfl ?_
      exact g_iret E Rt dX13_gainIn_72 rfl (by decide) (by decide) (⟨congrArg (fun x => some (Value.int x)) (by simp [zGai, zDut, k0, c40]), rfl⟩)
  · have k0 : ¬ B 12 j = 0 := fun h9 => c13 (if_pos h9)
    refine g_lo (lo1 := [some (.ref 2000), some (.ref rk), some (.int (nI j)), some (.int (nI (B 13 j))), none]) (by rw [if_neg k0]) ?_
    have hbm := hw.goods hj
    have hme := hw.2.1 (B 13 j) (hbm.2.1 k0)
    refine g_aload_n E dX13_gainIn_16 rfl rfl rfl ?_
    refine g_getf E gciX13 dX13_gainIn_17 hM_a 3 rfl (by decide) q1743 (.inl rfl) (.ref mb) (hM_3) rfl ?_
    refine g_iload_n E dX13_gainIn_20 rfl rfl rfl ?_
    refine g_callV (k := mb) (n9 := 1) (av := [.int (nI (B 13 j))]) (st := []) E (ct_X27_isPriced l (B 13 j) hw hMb (by omega)) gciX27 dX13_gainIn_21 hMb_a q2163 q2164 q2165 q155 q2166 (by decide +kernel) rfl rfl ⟨by decide, by decide⟩ ⟨by decide, by decide⟩ (Nat.le_of_ble_eq_true rfl) rfl (gPu.k ?_)
    refine g_if_eq E dX13_gainIn_24 (tgt := 31) (by decide) rfl (fun c24 => ?_) (fun c24 => ?_)
    · have c24 := zb_0.mp c24
      have c24 : B 6 (B 13 j) = 0 := by simpa using c24
      have z4 : nI (B 4 (B 13 j)) = 0 := by rw [(hme.2.2.2.2.2.2 c24).1]; rfl
      have z5 : nI (B 5 (B 13 j)) = 0 := by rw [(hme.2.2.2.2.2.2 c24).2]; rfl
      refine g_iconst E (v := 0) dX13_gainIn_31 (by decide) rfl ?_
      refine g_istore E dX13_gainIn_32 (by decide) rfl (lo1 := [some (.ref 2000), some (.ref rk), some (.int (nI j)), some (.int (nI (B 13 j))), some (.int 0)]) rfl rfl ?_
      refine g_aload_n E dX13_gainIn_34 rfl rfl rfl ?_
      refine g_aload_n E dX13_gainIn_35 rfl rfl rfl ?_
      refine g_iload_n E dX13_gainIn_36 rfl rfl rfl ?_
      have hM2 : pMq g (.ref mb) th tr wh tp fa ac mk [] := ⟨_, hM_a, hM_0, hM_1, hM_2, hM_3, hM_5, hM_6, hM_12, hM_15, hM_16, hM_17, hM_18, hM_19, hM_20, hM_26, hM_28, hM_29, trivial⟩
      refine g_callV (k := 2000) (n9 := 2) (av := [.ref rk, .int (nI j)]) (st := []) E (ct_X13_isTurnedIn l j hw hM2 hMb hR (by omega)) gciX13 dX13_gainIn_37 hM_a q2253 q2255 qs91 q135 q2256 (by decide +kernel) rfl rfl ⟨by decide, by decide⟩ ⟨by decide, by decide⟩ (Nat.le_of_ble_eq_true rfl) rfl (gPu.k ?_)
      refine g_if_eq E dX13_gainIn_40 (tgt := 73) (by decide) rfl (fun c40 => ?_) (fun c40 => ?_)
      · have c40 := zb_0.mp c40
        refine g_iload E dX13_gainIn_73 rfl rfl ?_
        refine g_if_eq E dX13_gainIn_75 (tgt := 110) (by decide) rfl (fun _ => ?_) (fun h9 => absurd h9 (by decide))
        refine g_iconst E (v := 0) dX13_gainIn_110 (by decide) rfl ?_
        refine g_aload_n E dX13_gainIn_111 rfl rfl rfl ?_
        refine g_aload_n E dX13_gainIn_112 rfl rfl rfl ?_
        refine g_iload_n E dX13_gainIn_113 rfl rfl rfl ?_
        refine g_iconst E (v := 0) dX13_gainIn_114 (by decide) rfl ?_
        refine g_callV (k := 2000) (n9 := 3) (av := [.ref rk, .int (nI j), .int 0]) (st := [.int 0]) E (ct_X13_dutyIn l j 0 hw hM2 hMb hR (by omega) (by omega)) gciX13 dX13_gainIn_115 hM_a q2265 q2267 qs92 q135 q2268 (by decide +kernel) rfl rfl ⟨by decide, by decide⟩ ⟨by decide, by decide⟩ (Nat.le_of_ble_eq_true rfl) rfl (gPu.k ?_)
        refine g_isub E dX13_gainIn_118 rfl ?_
        exact g_iret E Rt dX13_gainIn_119 rfl (by decide) (by decide) (⟨congrArg (fun x => some (Value.int x)) (by simp [zGai, k0, z4, z5, c40]), rfl⟩)
      · have c40 := zb_n0.mp c40
        refine g_iload E dX13_gainIn_43 rfl rfl ?_
        refine g_if_eq E dX13_gainIn_45 (tgt := 71) (by decide) rfl (fun _ => ?_) (fun h9 => absurd h9 (by decide))
        refine g_iconst E (v := 0) dX13_gainIn_71 (by decide) rfl ?_
        exact g_iret E Rt dX13_gainIn_72 rfl (by decide) (by decide) (⟨congrArg (fun x => some (Value.int x)) (by simp [zGai, k0, z4, z5, c40]), rfl⟩)
    · have c24 := zb_n0.mp c24
      have c24 : ¬ B 6 (B 13 j) = 0 := by simpa using c24
      refine g_iconst E (v := 1) dX13_gainIn_27 (by decide) rfl ?_
      refine g_goto E dX13_gainIn_28 (tgt := 32) (by decide) ?_
      refine g_istore E dX13_gainIn_32 (by decide) rfl (lo1 := [some (.ref 2000), some (.ref rk), some (.int (nI j)), some (.int (nI (B 13 j))), some (.int 1)]) rfl rfl ?_
      refine g_aload_n E dX13_gainIn_34 rfl rfl rfl ?_
      refine g_aload_n E dX13_gainIn_35 rfl rfl rfl ?_
      refine g_iload_n E dX13_gainIn_36 rfl rfl rfl ?_
      have hM3 : pMq g (.ref mb) th tr wh tp fa ac mk [] := ⟨_, hM_a, hM_0, hM_1, hM_2, hM_3, hM_5, hM_6, hM_12, hM_15, hM_16, hM_17, hM_18, hM_19, hM_20, hM_26, hM_28, hM_29, trivial⟩
      refine g_callV (k := 2000) (n9 := 2) (av := [.ref rk, .int (nI j)]) (st := []) E (ct_X13_isTurnedIn l j hw hM3 hMb hR (by omega)) gciX13 dX13_gainIn_37 hM_a q2253 q2255 qs91 q135 q2256 (by decide +kernel) rfl rfl ⟨by decide, by decide⟩ ⟨by decide, by decide⟩ (Nat.le_of_ble_eq_true rfl) rfl (gPu.k ?_)
      refine g_if_eq E dX13_gainIn_40 (tgt := 73) (by decide) rfl (fun c40 => ?_) (fun c40 => ?_)
      · have c40 := zb_0.mp c40
        refine g_iload E dX13_gainIn_73 rfl rfl ?_
        refine g_if_eq E dX13_gainIn_75 (tgt := 110) (by decide) rfl (fun h9 => absurd h9 (by decide)) (fun _ => ?_)
        refine g_aload_n E dX13_gainIn_78 rfl rfl rfl ?_
        refine g_getf E gciX13 dX13_gainIn_79 hM_a 3 rfl (by decide) q1743 (.inl rfl) (.ref mb) (hM_3) rfl ?_
        refine g_getfN E gciX27 dX13_gainIn_82 hMb_a 24 rfl (by decide) q1896 (.inl rfl) (.ref (mb + 14)) (hMb_24) rfl ?_
        refine g_iload_n E dX13_gainIn_85 rfl rfl rfl ?_
        refine g_iald E dX13_gainIn_86 (j := j) hMb_a14 (rfl) (by omega) (by decide) (v := nI (B 16 j)) (hMb_b14 j (by omega)) rfl ?_
        refine g_aload_n E dX13_gainIn_87 rfl rfl rfl ?_
        refine g_getf E gciX13 dX13_gainIn_88 hM_a 3 rfl (by decide) q1743 (.inl rfl) (.ref mb) (hM_3) rfl ?_
        refine g_getfN E gciX27 dX13_gainIn_91 hMb_a 14 rfl (by decide) q1876 (.inl rfl) (.ref (mb + 4)) (hMb_14) rfl ?_
        refine g_iload_n E dX13_gainIn_94 rfl rfl rfl ?_
        refine g_iald E dX13_gainIn_95 (j := B 13 j) hMb_a4 (rfl) (by omega) (by decide) (v := nI (B 5 (B 13 j))) (hMb_b4 (B 13 j) (by omega)) rfl ?_
        refine g_aload_n E dX13_gainIn_96 rfl rfl rfl ?_
        refine g_getf E gciX13 dX13_gainIn_97 hM_a 3 rfl (by decide) q1743 (.inl rfl) (.ref mb) (hM_3) rfl ?_
        refine g_getfN E gciX27 dX13_gainIn_100 hMb_a 13 rfl (by decide) q1874 (.inl rfl) (.ref (mb + 3)) (hMb_13) rfl ?_
        refine g_iload_n E dX13_gainIn_103 rfl rfl rfl ?_
        refine g_iald E dX13_gainIn_104 (j := B 13 j) hMb_a3 (rfl) (by omega) (by decide) (v := if B 6 (B 13 j) = 0 then -1 else nI (B 4 (B 13 j))) (hMb_b3 (B 13 j) (by omega)) rfl ?_
        refine g_as (y := nI (B 4 (B 13 j))) (if_neg c24) ?_
        refine g_isub E dX13_gainIn_105 rfl ?_
        refine g_imul E dX13_gainIn_106 rfl ?_
        refine g_goto E dX13_gainIn_107 (tgt := 111) (by decide) ?_
        refine g_aload_n E dX13_gainIn_111 rfl rfl rfl ?_
        refine g_aload_n E dX13_gainIn_112 rfl rfl rfl ?_
        refine g_iload_n E dX13_gainIn_113 rfl rfl rfl ?_
        refine g_iconst E (v := 0) dX13_gainIn_114 (by decide) rfl ?_
        refine g_callV (k := 2000) (n9 := 3) (av := [.ref rk, .int (nI j), .int 0]) (st := [.int ((nI (B 16 j)) * ((nI (B 5 (B 13 j))) - (nI (B 4 (B 13 j)))))]) E (ct_X13_dutyIn l j 0 hw hM3 hMb hR (by omega) (by omega)) gciX13 dX13_gainIn_115 hM_a q2265 q2267 qs92 q135 q2268 (by decide +kernel) rfl rfl ⟨by decide, by decide⟩ ⟨by decide, by decide⟩ (Nat.le_of_ble_eq_true rfl) rfl (gPu.k ?_)
        refine g_isub E dX13_gainIn_118 rfl ?_
        exact g_iret E Rt dX13_gainIn_119 rfl (by decide) (by decide) (⟨congrArg (fun x => some (Value.int x)) (by simp [zGai, k0, c40]), rfl⟩)
      · have c40 := zb_n0.mp c40
        refine g_iload E dX13_gainIn_43 rfl rfl ?_
        refine g_if_eq E dX13_gainIn_45 (tgt := 71) (by decide) rfl (fun h9 => absurd h9 (by decide)) (fun _ => ?_)
        refine g_aload_n E dX13_gainIn_48 rfl rfl rfl ?_
        refine g_getf E gciX13 dX13_gainIn_49 hM_a 3 rfl (by decide) q1743 (.inl rfl) (.ref mb) (hM_3) rfl ?_
        refine g_getfN E gciX27 dX13_gainIn_52 hMb_a 24 rfl (by decide) q1896 (.inl rfl) (.ref (mb + 14)) (hMb_24) rfl ?_
        refine g_iload_n E dX13_gainIn_55 rfl rfl rfl ?_
        refine g_iald E dX13_gainIn_56 (j := j) hMb_a14 (rfl) (by omega) (by decide) (v := nI (B 16 j)) (hMb_b14 j (by omega)) rfl ?_
        refine g_ineg E dX13_gainIn_57 rfl ?_
        refine g_aload_n E dX13_gainIn_58 rfl rfl rfl ?_
        refine g_getf E gciX13 dX13_gainIn_59 hM_a 3 rfl (by decide) q1743 (.inl rfl) (.ref mb) (hM_3) rfl ?_
        refine g_getfN E gciX27 dX13_gainIn_62 hMb_a 13 rfl (by decide) q1874 (.inl rfl) (.ref (mb + 3)) (hMb_13) rfl ?_
        refine g_iload_n E dX13_gainIn_65 rfl rfl rfl ?_
        refine g_iald E dX13_gainIn_66 (j := B 13 j) hMb_a3 (rfl) (by omega) (by decide) (v := if B 6 (B 13 j) = 0 then -1 else nI (B 4 (B 13 j))) (hMb_b3 (B 13 j) (by omega)) rfl ?_
        refine g_as (y := nI (B 4 (B 13 j))) (if_neg c24) ?_
        refine g_imul E dX13_gainIn_67 rfl ?_
        refine g_goto E dX13_gainIn_68 (tgt := 72) (by decide) ?_
        exact g_iret E Rt dX13_gainIn_72 rfl (by decide) (by decide) (⟨congrArg (fun x => some (Value.int x)) (by simp [zGai, k0, c40]), rfl⟩)
set_option maxHeartbeats 1000000 in
theorem ct_X13_gain (l : Launch) {g : gWM} {mb : Nat} {B : gBar} {R : Nat → Int32} {d : Int32} {th tr wh fa : Int32} {tp ac mk : Nat} (p : Int32) (dy : Int32) (hw : wfB B) (hM : pMq g (.ref mb) th tr wh tp fa ac mk []) (hMb : pMb g mb B) (hV : pRw g 2002 B R d) (hX : pIx g 2003 18) (h9 : 10000 ≤ mb) : gCt l yX13_gain cX13_gain 4 (some .int) 4 0 0 91 [.ref 2000, .int p, .int dy] g (gPi (sGai B d p dy).1 (fun g1 => pMq g1 (.ref mb) 0 ((sGai B d p dy).2) (-1) tp fa ac mk [] ∧ pIx g1 2003 18 ∧ ∀ j, (j ≠ 2000 ∧ j ≠ 2003) → g1 j = g j)) := by
  refine gCt.of RX13 (by decide) rfl (lo := [some (.ref 2000), some (.int p), some (.int dy), none]) 1 rfl (Nat.le_of_ble_eq_true rfl) (fun z E Rt => ?_)
  have hw_n := hw.1
  have hM_o := hM
  obtain ⟨hM_F, hM_a, hM_0, hM_1, hM_2, hM_3, hM_5, hM_6, hM_12, hM_15, hM_16, hM_17, hM_18, hM_19, hM_20, hM_26, hM_28, hM_29, -⟩ := hM_o
  have hMb_o := hMb
  obtain ⟨⟨hMb_F, hMb_a, hMb_0, hMb_1, hMb_2, hMb_3, hMb_4, hMb_5, hMb_6, hMb_7, hMb_8, hMb_9, hMb_11, hMb_12, hMb_13, hMb_14, hMb_15, hMb_16, hMb_17, hMb_18, hMb_19, hMb_20, hMb_21, hMb_22, hMb_23, hMb_24, hMb_25, hMb_26, hMb_27, hMb_28, hMb_29, hMb_30, hMb_31⟩, ⟨hMb_f1, hMb_a1, hMb_b1⟩, ⟨hMb_f2, hMb_a2, hMb_b2⟩, ⟨hMb_f3, hMb_a3, hMb_b3⟩, ⟨hMb_f4, hMb_a4, hMb_b4⟩, ⟨hMb_f5, hMb_a5, hMb_b5⟩, ⟨hMb_f6, hMb_a6, hMb_b6⟩, ⟨hMb_f7, hMb_a7, hMb_b7⟩, ⟨hMb_f8, hMb_a8, hMb_b8⟩, ⟨hMb_f9, hMb_a9, hMb_b9⟩, ⟨hMb_f10, hMb_a10, hMb_b10⟩, ⟨hMb_f11, hMb_a11, hMb_b11⟩, ⟨hMb_f12, hMb_a12, hMb_b12⟩, ⟨hMb_f13, hMb_a13, hMb_b13⟩, ⟨hMb_f14, hMb_a14, hMb_b14⟩, ⟨hMb_f15, hMb_a15, hMb_b15⟩, ⟨hMb_f16, hMb_a16, hMb_b16⟩, ⟨hMb_f17, hMb_a17, hMb_b17⟩, ⟨hMb_f18, hMb_a18, hMb_b18⟩, ⟨hMb_f19, hMb_a19, hMb_b19⟩, ⟨hMb_f20, hMb_a20, hMb_b20⟩, ⟨hMb_f21, hMb_a21, hMb_b21⟩⟩ := hMb_o
  have hV_o := hV
  obtain ⟨hV_f, hV_a, hV_r, hV_d⟩ := hV_o
  have hX_o := hX
  obtain ⟨hX_f, hX_a⟩ := hX_o
  refine g_aload_n E dX13_gain_0 rfl rfl rfl ?_
  refine g_iconst E (v := 0) dX13_gain_1 (by decide) rfl ?_
  refine g_putf E gciX13 (v := .int 0) dX13_gain_2 hM_a 0 rfl (by decide) q1740 (.inl rfl) rfl (fun _ => rfl) (fun _ => rfl) rfl (g_upk (fun g1 h1 f1 => ?_))
  refine g_aload_n E dX13_gain_5 rfl rfl rfl ?_
  refine g_aload_n E dX13_gain_6 rfl rfl rfl ?_
  refine g_iload_n E dX13_gain_7 rfl rfl rfl ?_
  have hM2 : pMq g1 (.ref mb) 0 tr wh tp fa ac mk [] := ⟨_, h1, rfl, hM_1, hM_2, hM_3, hM_5, hM_6, hM_12, hM_15, hM_16, hM_17, hM_18, hM_19, hM_20, hM_26, hM_28, hM_29, trivial⟩
  have y3 := (hMb.fr  (fun j9 a9 b9 => f1 j9 (by omega)))
  refine g_callV (k := 2000) (n9 := 1) (av := [.int p]) (st := [.ref 2000]) E (ct_X13_isGood l p hw hM2 y3) gciX13 dX13_gain_8 h1 q2197 q2199 qs81 q135 q2200 (by decide +kernel) rfl rfl ⟨by decide, by decide⟩ ⟨by decide, by decide⟩ (Nat.le_of_ble_eq_true rfl) rfl (gPu.k ?_)
  refine g_iload_n E dX13_gain_11 rfl rfl rfl ?_
  have y4 := (hV.fr  (fun j9 a9 b9 => f1 j9 (by omega)))
  have x5 := (f1 (2003) (by omega)).trans (hX_a)
  refine g_callV (k := 2000) (n9 := 2) (av := [.int (zb (qI (B 0 3) p).isSome), .int dy]) (st := []) E (ct_X13_asks l ((qI (B 0 3) p).isSome) dy hw hM2 y4 (⟨_, x5⟩)) gciX13 dX13_gain_12 h1 q2233 q2235 qs87 q135 q2236 (by decide +kernel) rfl rfl ⟨by decide, by decide⟩ ⟨by decide, by decide⟩ (Nat.le_of_ble_eq_true rfl) rfl (gPi.k (fun g6 h6 => ?_))
  obtain ⟨ha6, hx6, f6⟩ := h6
  have hx6_o := hx6
  obtain ⟨hx6_f, hx6_a⟩ := hx6_o
  refine g_istore_n E dX13_gain_15 rfl (by decide) rfl (lo1 := [some (.ref 2000), some (.int p), some (.int dy), some (.int (qWy ((qI (B 0 3) p).isSome) dy))]) rfl rfl ?_
  refine g_iload_n E dX13_gain_16 rfl rfl rfl ?_
  refine g_if_le E dX13_gain_17 (tgt := 28) (by decide) rfl (fun c17 => ?_) (fun c17 => ?_)
  · have c17 := qWy_le (c17)
    have hr7 := ha6 c17
    have q8 := (qWy_0.mp c17).1
    have q8_z := (qWy_0.mp c17).2
    obtain ⟨j, q9⟩ := isSome_of q8
    obtain ⟨rfl, q9_l⟩ := qI_some (by omega) q9
    have hr7_o := hr7
    obtain ⟨hr7_f, hr7_a, hr7_r, hr7_d⟩ := hr7_o
    refine g_aload_n E dX13_gain_28 rfl rfl rfl ?_
    refine g_aload_n E dX13_gain_29 rfl rfl rfl ?_
    refine g_aload_n E dX13_gain_30 rfl rfl rfl ?_
    have x10 := (f6 (2000) (by omega)).trans (h1)
    refine g_getf E gciX13 dX13_gain_31 x10 16 rfl (by decide) q1756 (.inl rfl) (.ref 2003) (hM_16) rfl ?_
    refine g_iload_n E dX13_gain_34 rfl rfl rfl ?_
    have hM11 : pMq g6 (.ref mb) 0 tr wh tp fa ac mk [] := ⟨_, x10, rfl, hM_1, hM_2, hM_3, hM_5, hM_6, hM_12, hM_15, hM_16, hM_17, hM_18, hM_19, hM_20, hM_26, hM_28, hM_29, trivial⟩
    have y12 := (y3.fr  (fun j9 a9 b9 => f6 j9 (by omega)))
    refine g_callV (k := 2000) (n9 := 2) (av := [.ref 2003, .int (nI j)]) (st := [.ref 2000]) E (ct_X13_gainIn l j hw hM11 y12 hr7 (by omega)) gciX13 dX13_gain_35 x10 q2396 q2398 qs105 q135 q2399 (by decide +kernel) rfl rfl ⟨by decide, by decide⟩ ⟨by decide, by decide⟩ (Nat.le_of_ble_eq_true rfl) rfl (gPu.k ?_)
    refine g_callV (k := 2000) (n9 := 1) (av := [.int (zGai B j (d + dy))]) (st := []) E (ct_X13_fine l (zGai B j (d + dy)) hM11) gciX13 dX13_gain_38 x10 q2181 q2183 qs80 q135 q2184 (by decide +kernel) rfl rfl ⟨by decide, by decide⟩ ⟨by decide, by decide⟩ (Nat.le_of_ble_eq_true rfl) rfl (gPi.k (fun g13 h13 => ?_))
    obtain ⟨hm13, f13⟩ := h13
    have hm13_o := hm13
    obtain ⟨hm13_F, hm13_a, hm13_0, hm13_1, hm13_2, hm13_3, hm13_5, hm13_6, hm13_12, hm13_15, hm13_16, hm13_17, hm13_18, hm13_19, hm13_20, hm13_26, hm13_28, hm13_29, -⟩ := hm13_o
    have hs14 : sGai B d (nI j) dy = (zGai B j (d + dy), 0) := by first | (simp [sGai, c17, q9, q8_z]; done) | (simp [sGai, c17, q9, q8_z, qWy]; done)
    have x15 := (f13 (2003) (by omega)).trans (hr7_a)
    exact g_iret E Rt dX13_gain_41 rfl (by decide) (by decide) (by rw [hs14]; exact ⟨rfl, ⟨_, hm13_a, hm13_0, hm13_1, hm13_2, hm13_3, hm13_5, hm13_6, hm13_12, hm13_15, hm13_16, hm13_17, hm13_18, hm13_19, hm13_20, hm13_26, hm13_28, hm13_29, trivial⟩, ⟨_, x15⟩, fun j9 h9 => ((f13 j9 (by omega)).trans (f6 j9 (by omega))).trans (f1 j9 (by omega))⟩)
  · have c17 := qWy_gt (c17)
    refine g_aload_n E dX13_gain_20 rfl rfl rfl ?_
    refine g_iload_n E dX13_gain_21 rfl rfl rfl ?_
    have x16 := (f6 (2000) (by omega)).trans (h1)
    have hM17 : pMq g6 (.ref mb) 0 tr wh tp fa ac mk [] := ⟨_, x16, rfl, hM_1, hM_2, hM_3, hM_5, hM_6, hM_12, hM_15, hM_16, hM_17, hM_18, hM_19, hM_20, hM_26, hM_28, hM_29, trivial⟩
    refine g_callV (k := 2000) (n9 := 1) (av := [.int (qWy ((qI (B 0 3) p).isSome) dy)]) (st := []) E (ct_X13_lost l (qWy ((qI (B 0 3) p).isSome) dy) hM17) gciX13 dX13_gain_22 x16 q2388 q2390 qs104 q135 q2391 (by decide +kernel) rfl rfl ⟨by decide, by decide⟩ ⟨by decide, by decide⟩ (Nat.le_of_ble_eq_true rfl) rfl (gPi.k (fun g18 h18 => ?_))
    obtain ⟨hm18, f18⟩ := h18
    have hm18_o := hm18
    obtain ⟨hm18_F, hm18_a, hm18_0, hm18_1, hm18_2, hm18_3, hm18_5, hm18_6, hm18_12, hm18_15, hm18_16, hm18_17, hm18_18, hm18_19, hm18_20, hm18_26, hm18_28, hm18_29, -⟩ := hm18_o
    refine g_goto E dX13_gain_25 (tgt := 41) (by decide) ?_
    have hs19 : sGai B d p dy = ((-10000), qWy ((qI (B 0 3) p).isSome) dy) := by first | (simp [sGai, c17]; done) | (simp [sGai, c17, qWy]; done)
    have x20 := (f18 (2003) (by omega)).trans (hx6_a)
    exact g_iret E Rt dX13_gain_41 rfl (by decide) (by decide) (by rw [hs19]; exact ⟨rfl, ⟨_, hm18_a, hm18_0, hm18_1, hm18_2, hm18_3, hm18_5, hm18_6, hm18_12, hm18_15, hm18_16, hm18_17, hm18_18, hm18_19, hm18_20, hm18_26, hm18_28, hm18_29, trivial⟩, ⟨_, x20⟩, fun j9 h9 => ((f18 j9 (by omega)).trans (f6 j9 (by omega))).trans (f1 j9 (by omega))⟩)
set_option maxHeartbeats 1000000 in
theorem ct_X13_gain_N (l : Launch) {g : gWM} {th tr wh fa : Int32} {tp ac mk : Nat} (p : Int32) (dy : Int32) (hM : pMq g .null th tr wh tp fa ac mk []) : gCt l yX13_gain cX13_gain 4 (some .int) 2 0 0 42 [.ref 2000, .int p, .int dy] g (gPi (sGai zB0 0 p dy).1 (fun g1 => pMq g1 .null 0 ((sGai zB0 0 p dy).2) (-1) tp fa ac mk [] ∧ ∀ j, j ≠ 2000 → g1 j = g j)) := by
  refine gCt.of RX13 (by decide) rfl (lo := [some (.ref 2000), some (.int p), some (.int dy), none]) 1 rfl (Nat.le_of_ble_eq_true rfl) (fun z E Rt => ?_)
  have hM_o := hM
  obtain ⟨hM_F, hM_a, hM_0, hM_1, hM_2, hM_3, hM_5, hM_6, hM_12, hM_15, hM_16, hM_17, hM_18, hM_19, hM_20, hM_26, hM_28, hM_29, -⟩ := hM_o
  refine g_aload_n E dX13_gain_0 rfl rfl rfl ?_
  refine g_iconst E (v := 0) dX13_gain_1 (by decide) rfl ?_
  refine g_putf E gciX13 (v := .int 0) dX13_gain_2 hM_a 0 rfl (by decide) q1740 (.inl rfl) rfl (fun _ => rfl) (fun _ => rfl) rfl (g_upk (fun g1 h1 f1 => ?_))
  refine g_aload_n E dX13_gain_5 rfl rfl rfl ?_
  refine g_aload_n E dX13_gain_6 rfl rfl rfl ?_
  refine g_iload_n E dX13_gain_7 rfl rfl rfl ?_
  have hM2 : pMq g1 .null 0 tr wh tp fa ac mk [] := ⟨_, h1, rfl, hM_1, hM_2, hM_3, hM_5, hM_6, hM_12, hM_15, hM_16, hM_17, hM_18, hM_19, hM_20, hM_26, hM_28, hM_29, trivial⟩
  refine g_callV (k := 2000) (n9 := 1) (av := [.int p]) (st := [.ref 2000]) E (ct_X13_isGood_N l p hM2) gciX13 dX13_gain_8 h1 q2197 q2199 qs81 q135 q2200 (by decide +kernel) rfl rfl ⟨by decide, by decide⟩ ⟨by decide, by decide⟩ (Nat.le_of_ble_eq_true rfl) rfl (gPu.k ?_)
  refine g_iload_n E dX13_gain_11 rfl rfl rfl ?_
  refine g_callV (k := 2000) (n9 := 2) (av := [.int 0, .int dy]) (st := []) E (ct_X13_asks_F l dy hM2) gciX13 dX13_gain_12 h1 q2233 q2235 qs87 q135 q2236 (by decide +kernel) rfl rfl ⟨by decide, by decide⟩ ⟨by decide, by decide⟩ (Nat.le_of_ble_eq_true rfl) rfl (gPu.k ?_)
  refine g_istore_n E dX13_gain_15 rfl (by decide) rfl (lo1 := [some (.ref 2000), some (.int p), some (.int dy), some (.int 1)]) rfl rfl ?_
  refine g_iload_n E dX13_gain_16 rfl rfl rfl ?_
  refine g_if_le E dX13_gain_17 (tgt := 28) (by decide) rfl (fun h9 => absurd h9 (by decide)) (fun _ => ?_)
  refine g_aload_n E dX13_gain_20 rfl rfl rfl ?_
  refine g_iload_n E dX13_gain_21 rfl rfl rfl ?_
  refine g_callV (k := 2000) (n9 := 1) (av := [.int 1]) (st := []) E (ct_X13_lost l 1 hM2) gciX13 dX13_gain_22 h1 q2388 q2390 qs104 q135 q2391 (by decide +kernel) rfl rfl ⟨by decide, by decide⟩ ⟨by decide, by decide⟩ (Nat.le_of_ble_eq_true rfl) rfl (gPi.k (fun g3 h3 => ?_))
  obtain ⟨hm3, f3⟩ := h3
  have hm3_o := hm3
  obtain ⟨hm3_F, hm3_a, hm3_0, hm3_1, hm3_2, hm3_3, hm3_5, hm3_6, hm3_12, hm3_15, hm3_16, hm3_17, hm3_18, hm3_19, hm3_20, hm3_26, hm3_28, hm3_29, -⟩ := hm3_o
  refine g_goto E dX13_gain_25 (tgt := 41) (by decide) ?_
  have hs4 : sGai zB0 0 p dy = ((-10000), 1) := by first | (simp [sGai, qI_z, qWy]; done) | (simp [sGai, qI_z, qWy, qWy]; done)
  exact g_iret E Rt dX13_gain_41 rfl (by decide) (by decide) (by rw [hs4]; exact ⟨rfl, ⟨_, hm3_a, hm3_0, hm3_1, hm3_2, hm3_3, hm3_5, hm3_6, hm3_12, hm3_15, hm3_16, hm3_17, hm3_18, hm3_19, hm3_20, hm3_26, hm3_28, hm3_29, trivial⟩, fun j9 h9 => (f3 j9 (by omega)).trans (f1 j9 (by omega))⟩)
set_option maxHeartbeats 2000000 in
theorem ct_X13_bestGood (l : Launch) {g : gWM} {mb : Nat} {B : gBar} {R : Nat → Int32} {d : Int32} {th tr wh fa : Int32} {tp ac mk : Nat}  (hw : wfB B) (hM : pMq g (.ref mb) th tr wh tp fa ac mk []) (hMb : pMb g mb B) (hV : pRw g 2002 B R d) (hX : pIx g 2003 18) (h9 : 10000 ≤ mb) : gCt l yX13_bestGood cX13_bestGood 5 (some .int) 4 0 0 91 [.ref 2000] g (gPi (sBgo true B R d).1 (fun g1 => pMq g1 (.ref mb) 0 ((sBgo true B R d).2) (-1) tp fa ac mk [] ∧ pIx g1 2003 18 ∧ ∀ j, (j ≠ 2000 ∧ j ≠ 2003) → g1 j = g j)) := by
  refine gCt.of RX13 (by decide) rfl (lo := [some (.ref 2000), none, none, none, none]) 4 rfl (Nat.le_of_ble_eq_true rfl) (fun z E Rt => ?_)
  have hw_n := hw.1
  have hM_o := hM
  obtain ⟨hM_F, hM_a, hM_0, hM_1, hM_2, hM_3, hM_5, hM_6, hM_12, hM_15, hM_16, hM_17, hM_18, hM_19, hM_20, hM_26, hM_28, hM_29, -⟩ := hM_o
  have hMb_o := hMb
  obtain ⟨⟨hMb_F, hMb_a, hMb_0, hMb_1, hMb_2, hMb_3, hMb_4, hMb_5, hMb_6, hMb_7, hMb_8, hMb_9, hMb_11, hMb_12, hMb_13, hMb_14, hMb_15, hMb_16, hMb_17, hMb_18, hMb_19, hMb_20, hMb_21, hMb_22, hMb_23, hMb_24, hMb_25, hMb_26, hMb_27, hMb_28, hMb_29, hMb_30, hMb_31⟩, ⟨hMb_f1, hMb_a1, hMb_b1⟩, ⟨hMb_f2, hMb_a2, hMb_b2⟩, ⟨hMb_f3, hMb_a3, hMb_b3⟩, ⟨hMb_f4, hMb_a4, hMb_b4⟩, ⟨hMb_f5, hMb_a5, hMb_b5⟩, ⟨hMb_f6, hMb_a6, hMb_b6⟩, ⟨hMb_f7, hMb_a7, hMb_b7⟩, ⟨hMb_f8, hMb_a8, hMb_b8⟩, ⟨hMb_f9, hMb_a9, hMb_b9⟩, ⟨hMb_f10, hMb_a10, hMb_b10⟩, ⟨hMb_f11, hMb_a11, hMb_b11⟩, ⟨hMb_f12, hMb_a12, hMb_b12⟩, ⟨hMb_f13, hMb_a13, hMb_b13⟩, ⟨hMb_f14, hMb_a14, hMb_b14⟩, ⟨hMb_f15, hMb_a15, hMb_b15⟩, ⟨hMb_f16, hMb_a16, hMb_b16⟩, ⟨hMb_f17, hMb_a17, hMb_b17⟩, ⟨hMb_f18, hMb_a18, hMb_b18⟩, ⟨hMb_f19, hMb_a19, hMb_b19⟩, ⟨hMb_f20, hMb_a20, hMb_b20⟩, ⟨hMb_f21, hMb_a21, hMb_b21⟩⟩ := hMb_o
  have hV_o := hV
  obtain ⟨hV_f, hV_a, hV_r, hV_d⟩ := hV_o
  have hX_o := hX
  obtain ⟨hX_f, hX_a⟩ := hX_o
  refine g_aload_n E dX13_bestGood_0 rfl rfl rfl ?_
  refine g_iconst E (v := 0) dX13_bestGood_1 (by decide) rfl ?_
  refine g_putf E gciX13 (v := .int 0) dX13_bestGood_2 hM_a 0 rfl (by decide) q1740 (.inl rfl) rfl (fun _ => rfl) (fun _ => rfl) rfl (g_upk (fun g1 h1 f1 => ?_))
  refine g_aload_n E dX13_bestGood_5 rfl rfl rfl ?_
  refine g_getf E gciX13 dX13_bestGood_6 h1 3 rfl (by decide) q1743 (.inl rfl) (.ref mb) (hM_3) rfl ?_
  refine g_ifnonnullY E dX13_bestGood_9 (tgt := 18) (by decide) ?_
  refine g_bipush E (v := (-2)) dX13_bestGood_18 (by decide) rfl ?_
  refine g_istore_n E dX13_bestGood_20 rfl (by decide) rfl (lo1 := [some (.ref 2000), some (.int (-2)), none, none, none]) rfl rfl ?_
  refine g_iconst E (v := 0) dX13_bestGood_21 (by decide) rfl ?_
  refine g_istore_n E dX13_bestGood_22 rfl (by decide) rfl (lo1 := [some (.ref 2000), some (.int (-2)), some (.int 0), none, none]) rfl rfl ?_
  refine g_iconst E (v := 0) dX13_bestGood_23 (by decide) rfl ?_
  refine g_istore_n E dX13_bestGood_24 rfl (by decide) rfl (lo1 := [some (.ref 2000), some (.int (-2)), some (.int 0), some (.int 0), none]) rfl rfl ?_
  have lp25 : ∀ (r9 : Nat) (k : Nat) (gw : gWM), (k ≤ B 0 3) → (B 0 3 - k < r9) → (pMq gw (.ref mb) 0 tr wh tp fa ac mk []) → (pIx gw 2003 18) → (∀ j, (j ≠ 2000 ∧ j ≠ 2003) → gw j = g j) → gV z gw 0 0 25 [some (.ref 2000), some (.int ((zBo B R d k).1)), some (.int ((zBo B R d k).2)), some (.int (nI k)), none] [] := by
    intro r9
    induction r9 with
    | zero => intro k gw hk hm hMw hXw hfw; exact absurd hm (Nat.not_lt_zero _)
    | succ r9 ih25 =>
      intro k gw hk hm hMw hXw hfw
      have hMw_o := hMw
      obtain ⟨hMw_F, hMw_a, hMw_0, hMw_1, hMw_2, hMw_3, hMw_5, hMw_6, hMw_12, hMw_15, hMw_16, hMw_17, hMw_18, hMw_19, hMw_20, hMw_26, hMw_28, hMw_29, -⟩ := hMw_o
      have hXw_o := hXw
      obtain ⟨hXw_f, hXw_a⟩ := hXw_o
      refine g_iload_n E dX13_bestGood_25 rfl rfl rfl ?_
      refine g_aload_n E dX13_bestGood_26 rfl rfl rfl ?_
      refine g_getf E gciX13 dX13_bestGood_27 hMw_a 3 rfl (by decide) q1743 (.inl rfl) (.ref mb) (hMw_3) rfl ?_
      have x2 := (hfw (mb) (by omega)).trans (hMb_a)
      refine g_getfN E gciX27 dX13_bestGood_30 x2 5 rfl (by decide) q1862 (.inl rfl) (.int (nI (B 0 3))) (hMb_5) rfl ?_
      refine g_icmp_ge E dX13_bestGood_33 (tgt := 120) (by decide) rfl (fun c33 => ?_) (fun c33 => ?_)
      · have c33 := (nI_leI (a := B 0 3) (b := k) (by omega) (by omega)).mp c33
        obtain rfl : k = B 0 3 := by omega
        refine g_aload_n E dX13_bestGood_120 rfl rfl rfl ?_
        refine g_iload_n E dX13_bestGood_121 rfl rfl rfl ?_
        have hM3 : pMq gw (.ref mb) 0 tr wh tp fa ac mk [] := ⟨_, hMw_a, hMw_0, hMw_1, hMw_2, hMw_3, hMw_5, hMw_6, hMw_12, hMw_15, hMw_16, hMw_17, hMw_18, hMw_19, hMw_20, hMw_26, hMw_28, hMw_29, trivial⟩
        refine g_callV (k := 2000) (n9 := 1) (av := [.int ((zBo B R d (B 0 3)).1)]) (st := []) E (ct_X13_fine l ((zBo B R d (B 0 3)).1) hM3) gciX13 dX13_bestGood_122 hMw_a q2181 q2183 qs80 q135 q2184 (by decide +kernel) rfl rfl ⟨by decide, by decide⟩ ⟨by decide, by decide⟩ (Nat.le_of_ble_eq_true rfl) rfl (gPi.k (fun g4 h4 => ?_))
        obtain ⟨hm4, f4⟩ := h4
        have hm4_o := hm4
        obtain ⟨hm4_F, hm4_a, hm4_0, hm4_1, hm4_2, hm4_3, hm4_5, hm4_6, hm4_12, hm4_15, hm4_16, hm4_17, hm4_18, hm4_19, hm4_20, hm4_26, hm4_28, hm4_29, -⟩ := hm4_o
        have hs5 : sBgo true B R d = ((zBo B R d (B 0 3)).1, 0) := by first | (simp [sBgo, c33]; done) | (simp [sBgo, c33, qWy]; done)
        have x6 := (f4 (2003) (by omega)).trans (hXw_a)
        exact g_iret E Rt dX13_bestGood_125 rfl (by decide) (by decide) (by rw [hs5]; exact ⟨rfl, ⟨_, hm4_a, hm4_0, hm4_1, hm4_2, hm4_3, hm4_5, hm4_6, hm4_12, hm4_15, hm4_16, hm4_17, hm4_18, hm4_19, hm4_20, hm4_26, hm4_28, hm4_29, trivial⟩, ⟨_, x6⟩, fun j9 h9 => (f4 j9 (by omega)).trans (hfw j9 (by omega))⟩)
      · have c33 := mt (nI_leI (a := B 0 3) (b := k) (by omega) (by omega)).mpr c33
        refine g_aload_n E dX13_bestGood_36 rfl rfl rfl ?_
        refine g_getf E gciX13 dX13_bestGood_37 hMw_a 15 rfl (by decide) q1755 (.inl rfl) (.ref 2002) (hMw_15) rfl ?_
        refine g_iconst E (v := 0) dX13_bestGood_40 (by decide) rfl ?_
        refine g_iload_n E dX13_bestGood_41 rfl rfl rfl ?_
        refine g_iadd E dX13_bestGood_42 rfl ?_
        refine g_as (y := nI k) (Int32.zero_add _) ?_
        have x7 := (hfw (2002) (by omega)).trans (hV_a)
        refine g_iald E dX13_bestGood_43 (j := k) x7 (rfl) (by omega) (by decide) (v := R k) (hV_r k (by unfold zRel; omega)) rfl ?_
        refine g_if_eq E dX13_bestGood_44 (tgt := 50) (by decide) rfl (fun c44 => ?_) (fun c44 => ?_)
        · refine g_iconst E (v := 0) dX13_bestGood_50 (by decide) rfl ?_
          refine g_istore E dX13_bestGood_51 (by decide) rfl (lo1 := [some (.ref 2000), some (.int ((zBo B R d k).1)), some (.int ((zBo B R d k).2)), some (.int (nI k)), some (.int 0)]) rfl rfl ?_
          have lp53 : ∀ (r9 : Nat) (n : Nat) (gx : gWM), (n ≤ 61) → (61 - n < r9) → (pMq gx (.ref mb) 0 tr wh tp fa ac mk []) → (pIx gx 2003 18) → (∀ j, (j ≠ 2000 ∧ j ≠ 2003) → gx j = g j) → gV z gx 0 0 53 [some (.ref 2000), some (.int ((zBi B d (zBo B R d k) k n).1)), some (.int ((zBi B d (zBo B R d k) k n).2)), some (.int (nI k)), some (.int (nI n))] [] := by
            intro r9
            induction r9 with
            | zero => intro n gx hn hm hMw hXw hfw; exact absurd hm (Nat.not_lt_zero _)
            | succ r9 ih53 =>
              intro n gx hn hm hMw hXw hfw
              have hMw_o := hMw
              obtain ⟨hMw_F, hMw_a, hMw_0, hMw_1, hMw_2, hMw_3, hMw_5, hMw_6, hMw_12, hMw_15, hMw_16, hMw_17, hMw_18, hMw_19, hMw_20, hMw_26, hMw_28, hMw_29, -⟩ := hMw_o
              have hXw_o := hXw
              obtain ⟨hXw_f, hXw_a⟩ := hXw_o
              refine g_iload E dX13_bestGood_53 rfl rfl ?_
              refine g_bipush E (v := 60) dX13_bestGood_55 (by decide) rfl ?_
              refine g_icmp_gt E dX13_bestGood_57 (tgt := 114) (by decide) rfl (fun c57 => ?_) (fun c57 => ?_)
              · have c57 := (nI_ltI (a := 60) (b := n) (by omega) (by omega)).mp c57
                refine g_lo (lo1 := [some (.ref 2000), some (.int ((zBo B R d (k + 1)).1)), some (.int ((zBo B R d (k + 1)).2)), some (.int (nI k)), some (.int (nI n))]) (by rw [zBo_y c44, show n = 61 by omega]) ?_
                refine g_iinc E dX13_bestGood_114 rfl (v := nI (k + 1)) (nI_c _) (by decide) rfl (lo1 := [some (.ref 2000), some (.int ((zBo B R d (k + 1)).1)), some (.int ((zBo B R d (k + 1)).2)), some (.int (nI (k + 1))), some (.int (nI n))]) rfl rfl ?_
                refine g_goto E dX13_bestGood_117 (tgt := 25) (by decide) ?_
                exact g_les (lo1 := [some (.ref 2000), some (.int ((zBo B R d (k + 1)).1)), some (.int ((zBo B R d (k + 1)).2)), some (.int (nI (k + 1))), none]) (⟨rfl, rfl, rfl, rfl, trivial⟩) (ih25 (k + 1) gx (by omega) (by omega) (⟨_, hMw_a, hMw_0, hMw_1, hMw_2, hMw_3, hMw_5, hMw_6, hMw_12, hMw_15, hMw_16, hMw_17, hMw_18, hMw_19, hMw_20, hMw_26, hMw_28, hMw_29, trivial⟩) (⟨_, hXw_a⟩) (fun j9 h9 => hfw j9 (by omega)))
              · have c57 := mt (nI_ltI (a := 60) (b := n) (by omega) (by omega)).mpr c57
                refine g_aload_n E dX13_bestGood_60 rfl rfl rfl ?_
                refine g_iconst E (v := 1) dX13_bestGood_61 (by decide) rfl ?_
                refine g_iload E dX13_bestGood_62 rfl rfl ?_
                have hM8 : pMq gx (.ref mb) 0 tr wh tp fa ac mk [] := ⟨_, hMw_a, hMw_0, hMw_1, hMw_2, hMw_3, hMw_5, hMw_6, hMw_12, hMw_15, hMw_16, hMw_17, hMw_18, hMw_19, hMw_20, hMw_26, hMw_28, hMw_29, trivial⟩
                have y9 := (hV.fr  (fun j9 a9 b9 => hfw j9 (by omega)))
                refine g_callV (k := 2000) (n9 := 2) (av := [.int 1, .int (nI n)]) (st := []) E (ct_X13_asks_Y l (nI n) hw hM8 y9 (⟨_, hXw_a⟩) (zIn_60 (by omega))) gciX13 dX13_bestGood_64 hMw_a q2233 q2235 qs87 q135 q2236 (by decide +kernel) rfl rfl ⟨by decide, by decide⟩ ⟨by decide, by decide⟩ (Nat.le_of_ble_eq_true rfl) rfl (gPi.k (fun g10 h10 => ?_))
                obtain ⟨hr10, f10⟩ := h10
                have hr10_o := hr10
                obtain ⟨hr10_f, hr10_a, hr10_r, hr10_d⟩ := hr10_o
                refine g_pop E dX13_bestGood_67 rfl rfl ?_
                refine g_iload_n E dX13_bestGood_68 rfl rfl rfl ?_
                refine g_bipush E (v := (-2)) dX13_bestGood_69 (by decide) rfl ?_
                refine g_icmp_eq E dX13_bestGood_71 (tgt := 90) (by decide) rfl (fun c71 => ?_) (fun c71 => ?_)
                · refine g_aload_n E dX13_bestGood_90 rfl rfl rfl ?_
                  refine g_aload_n E dX13_bestGood_91 rfl rfl rfl ?_
                  have x11 := (f10 (2000) (by omega)).trans (hMw_a)
                  refine g_getf E gciX13 dX13_bestGood_92 x11 16 rfl (by decide) q1756 (.inl rfl) (.ref 2003) (hMw_16) rfl ?_
                  refine g_iload_n E dX13_bestGood_95 rfl rfl rfl ?_
                  have hM12 : pMq g10 (.ref mb) 0 tr wh tp fa ac mk [] := ⟨_, x11, hMw_0, hMw_1, hMw_2, hMw_3, hMw_5, hMw_6, hMw_12, hMw_15, hMw_16, hMw_17, hMw_18, hMw_19, hMw_20, hMw_26, hMw_28, hMw_29, trivial⟩
                  have y13 := ((hMb.fr  (fun j9 a9 b9 => hfw j9 (by omega))).fr  (fun j9 a9 b9 => f10 j9 (by omega)))
                  refine g_callV (k := 2000) (n9 := 2) (av := [.ref 2003, .int (nI k)]) (st := []) E (ct_X13_gainIn l k hw hM12 y13 hr10 (by omega)) gciX13 dX13_bestGood_96 x11 q2396 q2398 qs105 q135 q2399 (by decide +kernel) rfl rfl ⟨by decide, by decide⟩ ⟨by decide, by decide⟩ (Nat.le_of_ble_eq_true rfl) rfl (gPu.k ?_)
                  refine g_istore_n E dX13_bestGood_99 rfl (by decide) rfl (lo1 := [some (.ref 2000), some (.int ((zBi B d (zBo B R d k) k n).1)), some (.int (zGai B k (d + (nI n)))), some (.int (nI k)), some (.int (nI n))]) rfl rfl ?_
                  refine g_bipush E (v := 100) dX13_bestGood_100 (by decide) rfl ?_
                  refine g_iload_n E dX13_bestGood_102 rfl rfl rfl ?_
                  refine g_imul E dX13_bestGood_103 rfl ?_
                  refine g_iload E dX13_bestGood_104 rfl rfl ?_
                  refine g_iadd E dX13_bestGood_106 rfl ?_
                  refine g_istore_n E dX13_bestGood_107 rfl (by decide) rfl (lo1 := [some (.ref 2000), some (.int ((100 * (nI k)) + (nI n))), some (.int (zGai B k (d + (nI n)))), some (.int (nI k)), some (.int (nI n))]) rfl rfl ?_
                  refine g_lo (lo1 := [some (.ref 2000), some (.int ((zBi B d (zBo B R d k) k (n + 1)).1)), some (.int ((zBi B d (zBo B R d k) k (n + 1)).2)), some (.int (nI k)), some (.int (nI n))]) (by simp [zBi, zBs, c71]) ?_
                  refine g_iinc E dX13_bestGood_108 rfl (v := nI (n + 1)) (nI_c _) (by decide) rfl (lo1 := [some (.ref 2000), some (.int ((zBi B d (zBo B R d k) k (n + 1)).1)), some (.int ((zBi B d (zBo B R d k) k (n + 1)).2)), some (.int (nI k)), some (.int (nI (n + 1)))]) rfl rfl ?_
                  refine g_goto E dX13_bestGood_111 (tgt := 53) (by decide) ?_
                  exact ih53 (n + 1) g10 (by omega) (by omega) (⟨_, x11, hMw_0, hMw_1, hMw_2, hMw_3, hMw_5, hMw_6, hMw_12, hMw_15, hMw_16, hMw_17, hMw_18, hMw_19, hMw_20, hMw_26, hMw_28, hMw_29, trivial⟩) (⟨_, hr10_a⟩) (fun j9 h9 => (f10 j9 (by omega)).trans (hfw j9 (by omega)))
                · refine g_aload_n E dX13_bestGood_74 rfl rfl rfl ?_
                  refine g_aload_n E dX13_bestGood_75 rfl rfl rfl ?_
                  have x14 := (f10 (2000) (by omega)).trans (hMw_a)
                  refine g_getf E gciX13 dX13_bestGood_76 x14 16 rfl (by decide) q1756 (.inl rfl) (.ref 2003) (hMw_16) rfl ?_
                  refine g_iload_n E dX13_bestGood_79 rfl rfl rfl ?_
                  have hM15 : pMq g10 (.ref mb) 0 tr wh tp fa ac mk [] := ⟨_, x14, hMw_0, hMw_1, hMw_2, hMw_3, hMw_5, hMw_6, hMw_12, hMw_15, hMw_16, hMw_17, hMw_18, hMw_19, hMw_20, hMw_26, hMw_28, hMw_29, trivial⟩
                  have y16 := ((hMb.fr  (fun j9 a9 b9 => hfw j9 (by omega))).fr  (fun j9 a9 b9 => f10 j9 (by omega)))
                  refine g_callV (k := 2000) (n9 := 2) (av := [.ref 2003, .int (nI k)]) (st := []) E (ct_X13_gainIn l k hw hM15 y16 hr10 (by omega)) gciX13 dX13_bestGood_80 x14 q2396 q2398 qs105 q135 q2399 (by decide +kernel) rfl rfl ⟨by decide, by decide⟩ ⟨by decide, by decide⟩ (Nat.le_of_ble_eq_true rfl) rfl (gPu.k ?_)
                  refine g_iload_n E dX13_bestGood_83 rfl rfl rfl ?_
                  refine g_icmp_gt E dX13_bestGood_84 (tgt := 90) (by decide) rfl (fun c84 => ?_) (fun c84 => ?_)
                  · refine g_aload_n E dX13_bestGood_90 rfl rfl rfl ?_
                    refine g_aload_n E dX13_bestGood_91 rfl rfl rfl ?_
                    refine g_getf E gciX13 dX13_bestGood_92 x14 16 rfl (by decide) q1756 (.inl rfl) (.ref 2003) (hMw_16) rfl ?_
                    refine g_iload_n E dX13_bestGood_95 rfl rfl rfl ?_
                    refine g_callV (k := 2000) (n9 := 2) (av := [.ref 2003, .int (nI k)]) (st := []) E (ct_X13_gainIn l k hw hM15 y16 hr10 (by omega)) gciX13 dX13_bestGood_96 x14 q2396 q2398 qs105 q135 q2399 (by decide +kernel) rfl rfl ⟨by decide, by decide⟩ ⟨by decide, by decide⟩ (Nat.le_of_ble_eq_true rfl) rfl (gPu.k ?_)
                    refine g_istore_n E dX13_bestGood_99 rfl (by decide) rfl (lo1 := [some (.ref 2000), some (.int ((zBi B d (zBo B R d k) k n).1)), some (.int (zGai B k (d + (nI n)))), some (.int (nI k)), some (.int (nI n))]) rfl rfl ?_
                    refine g_bipush E (v := 100) dX13_bestGood_100 (by decide) rfl ?_
                    refine g_iload_n E dX13_bestGood_102 rfl rfl rfl ?_
                    refine g_imul E dX13_bestGood_103 rfl ?_
                    refine g_iload E dX13_bestGood_104 rfl rfl ?_
                    refine g_iadd E dX13_bestGood_106 rfl ?_
                    refine g_istore_n E dX13_bestGood_107 rfl (by decide) rfl (lo1 := [some (.ref 2000), some (.int ((100 * (nI k)) + (nI n))), some (.int (zGai B k (d + (nI n)))), some (.int (nI k)), some (.int (nI n))]) rfl rfl ?_
                    refine g_lo (lo1 := [some (.ref 2000), some (.int ((zBi B d (zBo B R d k) k (n + 1)).1)), some (.int ((zBi B d (zBo B R d k) k (n + 1)).2)), some (.int (nI k)), some (.int (nI n))]) (by simp [zBi, zBs, c71, c84]) ?_
                    refine g_iinc E dX13_bestGood_108 rfl (v := nI (n + 1)) (nI_c _) (by decide) rfl (lo1 := [some (.ref 2000), some (.int ((zBi B d (zBo B R d k) k (n + 1)).1)), some (.int ((zBi B d (zBo B R d k) k (n + 1)).2)), some (.int (nI k)), some (.int (nI (n + 1)))]) rfl rfl ?_
                    refine g_goto E dX13_bestGood_111 (tgt := 53) (by decide) ?_
                    exact ih53 (n + 1) g10 (by omega) (by omega) (⟨_, x14, hMw_0, hMw_1, hMw_2, hMw_3, hMw_5, hMw_6, hMw_12, hMw_15, hMw_16, hMw_17, hMw_18, hMw_19, hMw_20, hMw_26, hMw_28, hMw_29, trivial⟩) (⟨_, hr10_a⟩) (fun j9 h9 => (f10 j9 (by omega)).trans (hfw j9 (by omega)))
                  · refine g_goto E dX13_bestGood_87 (tgt := 108) (by decide) ?_
                    refine g_lo (lo1 := [some (.ref 2000), some (.int ((zBi B d (zBo B R d k) k (n + 1)).1)), some (.int ((zBi B d (zBo B R d k) k (n + 1)).2)), some (.int (nI k)), some (.int (nI n))]) (by simp [zBi, zBs, c71, c84]) ?_
                    refine g_iinc E dX13_bestGood_108 rfl (v := nI (n + 1)) (nI_c _) (by decide) rfl (lo1 := [some (.ref 2000), some (.int ((zBi B d (zBo B R d k) k (n + 1)).1)), some (.int ((zBi B d (zBo B R d k) k (n + 1)).2)), some (.int (nI k)), some (.int (nI (n + 1)))]) rfl rfl ?_
                    refine g_goto E dX13_bestGood_111 (tgt := 53) (by decide) ?_
                    exact ih53 (n + 1) g10 (by omega) (by omega) (⟨_, x14, hMw_0, hMw_1, hMw_2, hMw_3, hMw_5, hMw_6, hMw_12, hMw_15, hMw_16, hMw_17, hMw_18, hMw_19, hMw_20, hMw_26, hMw_28, hMw_29, trivial⟩) (⟨_, hr10_a⟩) (fun j9 h9 => (f10 j9 (by omega)).trans (hfw j9 (by omega)))
          exact lp53 62 0 gw (Nat.zero_le _) (by omega) (⟨_, hMw_a, hMw_0, hMw_1, hMw_2, hMw_3, hMw_5, hMw_6, hMw_12, hMw_15, hMw_16, hMw_17, hMw_18, hMw_19, hMw_20, hMw_26, hMw_28, hMw_29, trivial⟩) (⟨_, hXw_a⟩) (fun j9 h9 => hfw j9 (by omega))
        · refine g_goto E dX13_bestGood_47 (tgt := 114) (by decide) ?_
          refine g_lo (lo1 := [some (.ref 2000), some (.int ((zBo B R d (k + 1)).1)), some (.int ((zBo B R d (k + 1)).2)), some (.int (nI k)), none]) (by rw [zBo_n c44]) ?_
          refine g_iinc E dX13_bestGood_114 rfl (v := nI (k + 1)) (nI_c _) (by decide) rfl (lo1 := [some (.ref 2000), some (.int ((zBo B R d (k + 1)).1)), some (.int ((zBo B R d (k + 1)).2)), some (.int (nI (k + 1))), none]) rfl rfl ?_
          refine g_goto E dX13_bestGood_117 (tgt := 25) (by decide) ?_
          exact ih25 (k + 1) gw (by omega) (by omega) (⟨_, hMw_a, hMw_0, hMw_1, hMw_2, hMw_3, hMw_5, hMw_6, hMw_12, hMw_15, hMw_16, hMw_17, hMw_18, hMw_19, hMw_20, hMw_26, hMw_28, hMw_29, trivial⟩) (⟨_, hXw_a⟩) (fun j9 h9 => hfw j9 (by omega))
  have x17 := (f1 (2003) (by omega)).trans (hX_a)
  exact lp25 (B 0 3 + 1) 0 g1 (Nat.zero_le _) (by omega) (⟨_, h1, rfl, hM_1, hM_2, hM_3, hM_5, hM_6, hM_12, hM_15, hM_16, hM_17, hM_18, hM_19, hM_20, hM_26, hM_28, hM_29, trivial⟩) (⟨_, x17⟩) (fun j9 h9 => f1 j9 (by omega))
set_option maxHeartbeats 2000000 in
theorem ct_X13_bestGood_N (l : Launch) {g : gWM} {th tr wh fa : Int32} {tp ac mk : Nat}  (hM : pMq g .null th tr wh tp fa ac mk []) : gCt l yX13_bestGood cX13_bestGood 5 (some .int) 1 0 0 21 [.ref 2000] g (gPi (sBgo false zB0 (fun _ => 0) 0).1 (fun g1 => pMq g1 .null 0 ((sBgo false zB0 (fun _ => 0) 0).2) (-1) tp fa ac mk [] ∧ ∀ j, j ≠ 2000 → g1 j = g j)) := by
  refine gCt.of RX13 (by decide) rfl (lo := [some (.ref 2000), none, none, none, none]) 4 rfl (Nat.le_of_ble_eq_true rfl) (fun z E Rt => ?_)
  have hM_o := hM
  obtain ⟨hM_F, hM_a, hM_0, hM_1, hM_2, hM_3, hM_5, hM_6, hM_12, hM_15, hM_16, hM_17, hM_18, hM_19, hM_20, hM_26, hM_28, hM_29, -⟩ := hM_o
  refine g_aload_n E dX13_bestGood_0 rfl rfl rfl ?_
  refine g_iconst E (v := 0) dX13_bestGood_1 (by decide) rfl ?_
  refine g_putf E gciX13 (v := .int 0) dX13_bestGood_2 hM_a 0 rfl (by decide) q1740 (.inl rfl) rfl (fun _ => rfl) (fun _ => rfl) rfl (g_upk (fun g1 h1 f1 => ?_))
  refine g_aload_n E dX13_bestGood_5 rfl rfl rfl ?_
  refine g_getf E gciX13 dX13_bestGood_6 h1 3 rfl (by decide) q1743 (.inl rfl) (.null) (hM_3) rfl ?_
  refine g_ifnonnullN E dX13_bestGood_9 rfl ?_
  refine g_aload_n E dX13_bestGood_12 rfl rfl rfl ?_
  refine g_iconst E (v := 1) dX13_bestGood_13 (by decide) rfl ?_
  have hM2 : pMq g1 .null 0 tr wh tp fa ac mk [] := ⟨_, h1, rfl, hM_1, hM_2, hM_3, hM_5, hM_6, hM_12, hM_15, hM_16, hM_17, hM_18, hM_19, hM_20, hM_26, hM_28, hM_29, trivial⟩
  refine g_callV (k := 2000) (n9 := 1) (av := [.int 1]) (st := []) E (ct_X13_refused l 1 hM2) gciX13 dX13_bestGood_14 h1 q1846 q1848 qs52 q135 q1849 (by decide +kernel) rfl rfl ⟨by decide, by decide⟩ ⟨by decide, by decide⟩ (Nat.le_of_ble_eq_true rfl) rfl (gPi.k (fun g3 h3 => ?_))
  obtain ⟨hm3, f3⟩ := h3
  have hm3_o := hm3
  obtain ⟨hm3_F, hm3_a, hm3_0, hm3_1, hm3_2, hm3_3, hm3_5, hm3_6, hm3_12, hm3_15, hm3_16, hm3_17, hm3_18, hm3_19, hm3_20, hm3_26, hm3_28, hm3_29, -⟩ := hm3_o
  have hs4 : sBgo false zB0 (fun _ => 0) 0 = ((-1), 1) := by first | (simp [sBgo, qI_z, qWy]; done) | (simp [sBgo, qI_z, qWy, qWy]; done)
  exact g_iret E Rt dX13_bestGood_17 rfl (by decide) (by decide) (by rw [hs4]; exact ⟨rfl, ⟨_, hm3_a, hm3_0, hm3_1, hm3_2, hm3_3, hm3_5, hm3_6, hm3_12, hm3_15, hm3_16, hm3_17, hm3_18, hm3_19, hm3_20, hm3_26, hm3_28, hm3_29, trivial⟩, fun j9 h9 => (f3 j9 (by omega)).trans (f1 j9 (by omega))⟩)
set_option maxHeartbeats 400000 in
theorem ct_X13_hiddenWorth (l : Launch) {g : gWM} {mb : Nat} {B : gBar} {R : Nat → Int32} {d : Int32} {th tr wh fa : Int32} {tp ac mk : Nat} (s : Int32) (hw : wfB B) (hM : pMq g (.ref mb) th tr wh tp fa ac mk []) (hMb : pMb g mb B) (hV : pRw g 2002 B R d) : gCt l yX13_hiddenWorth cX13_hiddenWorth 4 (some .int) 3 0 0 66 [.ref 2000, .int s] g (gPu (.int (zHw B R d s)) g) := by
  refine gCt.of RX13 (by decide) rfl (lo := [some (.ref 2000), some (.int s), none, none]) 2 rfl (Nat.le_of_ble_eq_true rfl) (fun z E Rt => ?_)
  have hw_n := hw.1
  have hM_o := hM
  obtain ⟨hM_F, hM_a, hM_0, hM_1, hM_2, hM_3, hM_5, hM_6, hM_12, hM_15, hM_16, hM_17, hM_18, hM_19, hM_20, hM_26, hM_28, hM_29, -⟩ := hM_o
  have hMb_o := hMb
  obtain ⟨⟨hMb_F, hMb_a, hMb_0, hMb_1, hMb_2, hMb_3, hMb_4, hMb_5, hMb_6, hMb_7, hMb_8, hMb_9, hMb_11, hMb_12, hMb_13, hMb_14, hMb_15, hMb_16, hMb_17, hMb_18, hMb_19, hMb_20, hMb_21, hMb_22, hMb_23, hMb_24, hMb_25, hMb_26, hMb_27, hMb_28, hMb_29, hMb_30, hMb_31⟩, ⟨hMb_f1, hMb_a1, hMb_b1⟩, ⟨hMb_f2, hMb_a2, hMb_b2⟩, ⟨hMb_f3, hMb_a3, hMb_b3⟩, ⟨hMb_f4, hMb_a4, hMb_b4⟩, ⟨hMb_f5, hMb_a5, hMb_b5⟩, ⟨hMb_f6, hMb_a6, hMb_b6⟩, ⟨hMb_f7, hMb_a7, hMb_b7⟩, ⟨hMb_f8, hMb_a8, hMb_b8⟩, ⟨hMb_f9, hMb_a9, hMb_b9⟩, ⟨hMb_f10, hMb_a10, hMb_b10⟩, ⟨hMb_f11, hMb_a11, hMb_b11⟩, ⟨hMb_f12, hMb_a12, hMb_b12⟩, ⟨hMb_f13, hMb_a13, hMb_b13⟩, ⟨hMb_f14, hMb_a14, hMb_b14⟩, ⟨hMb_f15, hMb_a15, hMb_b15⟩, ⟨hMb_f16, hMb_a16, hMb_b16⟩, ⟨hMb_f17, hMb_a17, hMb_b17⟩, ⟨hMb_f18, hMb_a18, hMb_b18⟩, ⟨hMb_f19, hMb_a19, hMb_b19⟩, ⟨hMb_f20, hMb_a20, hMb_b20⟩, ⟨hMb_f21, hMb_a21, hMb_b21⟩⟩ := hMb_o
  have hV_o := hV
  obtain ⟨hV_f, hV_a, hV_r, hV_d⟩ := hV_o
  refine g_iconst E (v := 0) dX13_hiddenWorth_0 (by decide) rfl ?_
  refine g_istore_n E dX13_hiddenWorth_1 rfl (by decide) rfl (lo1 := [some (.ref 2000), some (.int s), some (.int 0), none]) rfl rfl ?_
  refine g_iconst E (v := 0) dX13_hiddenWorth_2 (by decide) rfl ?_
  refine g_istore_n E dX13_hiddenWorth_3 rfl (by decide) rfl (lo1 := [some (.ref 2000), some (.int s), some (.int 0), some (.int 0)]) rfl rfl ?_
  have lp4 : ∀ (r9 : Nat) (k : Nat), (k ≤ B 0 3) → (B 0 3 - k < r9) → gV z g 0 0 4 [some (.ref 2000), some (.int s), some (.int (sumTo (zHv B R d s) k)), some (.int (nI k))] [] := by
    intro r9
    induction r9 with
    | zero => intro k hk hm; exact absurd hm (Nat.not_lt_zero _)
    | succ r9 ih4 =>
      intro k hk hm
      refine g_iload_n E dX13_hiddenWorth_4 rfl rfl rfl ?_
      refine g_aload_n E dX13_hiddenWorth_5 rfl rfl rfl ?_
      refine g_getf E gciX13 dX13_hiddenWorth_6 hM_a 3 rfl (by decide) q1743 (.inl rfl) (.ref mb) (hM_3) rfl ?_
      refine g_getfN E gciX27 dX13_hiddenWorth_9 hMb_a 5 rfl (by decide) q1862 (.inl rfl) (.int (nI (B 0 3))) (hMb_5) rfl ?_
      refine g_icmp_ge E dX13_hiddenWorth_12 (tgt := 76) (by decide) rfl (fun c12 => ?_) (fun c12 => ?_)
      · have c12 := (nI_leI (a := B 0 3) (b := k) (by omega) (by omega)).mp c12
        obtain rfl : k = B 0 3 := by omega
        refine g_iload_n E dX13_hiddenWorth_76 rfl rfl rfl ?_
        exact g_iret E Rt dX13_hiddenWorth_77 rfl (by decide) (by decide) (⟨rfl, rfl⟩)
      · have c12 := mt (nI_leI (a := B 0 3) (b := k) (by omega) (by omega)).mpr c12
        refine g_iload_n E dX13_hiddenWorth_15 rfl rfl rfl ?_
        refine g_iload_n E dX13_hiddenWorth_16 rfl rfl rfl ?_
        refine g_aload_n E dX13_hiddenWorth_17 rfl rfl rfl ?_
        refine g_getf E gciX13 dX13_hiddenWorth_18 hM_a 3 rfl (by decide) q1743 (.inl rfl) (.ref mb) (hM_3) rfl ?_
        refine g_getfN E gciX27 dX13_hiddenWorth_21 hMb_a 22 rfl (by decide) q1892 (.inl rfl) (.ref (mb + 12)) (hMb_22) rfl ?_
        refine g_iload_n E dX13_hiddenWorth_24 rfl rfl rfl ?_
        refine g_iald E dX13_hiddenWorth_25 (j := k) hMb_a12 (rfl) (by omega) (by decide) (v := nI (B 14 k)) (hMb_b12 k (by omega)) rfl ?_
        refine g_callS (n9 := 2) (av := [.int s, .int (nI (B 14 k))]) (st := [.int (sumTo (zHv B R d s) k)]) E (ct_X13_bit l s (B 14 k)) dX13_hiddenWorth_26 q2150 q2151 q135 q2152 (by decide +kernel) rfl rfl ⟨by decide, by decide⟩ ⟨by decide, by decide⟩ (Nat.le_of_ble_eq_true rfl) rfl (gPu.k ?_)
        refine g_if_eq E dX13_hiddenWorth_29 (tgt := 67) (by decide) rfl (fun c29 => ?_) (fun c29 => ?_)
        · have c29 := zb_0.mp c29
          refine g_iconst E (v := 0) dX13_hiddenWorth_67 (by decide) rfl ?_
          refine g_iadd E dX13_hiddenWorth_68 rfl ?_
          refine g_as (y := sumTo (zHv B R d s) (k + 1)) (sumTo_s (by simp [zHv, c29])) ?_
          refine g_istore_n E dX13_hiddenWorth_69 rfl (by decide) rfl (lo1 := [some (.ref 2000), some (.int s), some (.int (sumTo (zHv B R d s) (k + 1))), some (.int (nI k))]) rfl rfl ?_
          refine g_iinc E dX13_hiddenWorth_70 rfl (v := nI (k + 1)) (nI_c _) (by decide) rfl (lo1 := [some (.ref 2000), some (.int s), some (.int (sumTo (zHv B R d s) (k + 1))), some (.int (nI (k + 1)))]) rfl rfl ?_
          refine g_goto E dX13_hiddenWorth_73 (tgt := 4) (by decide) ?_
          exact ih4 (k + 1) (by omega) (by omega)
        · have c29 := zb_n0.mp c29
          refine g_aload_n E dX13_hiddenWorth_32 rfl rfl rfl ?_
          refine g_getf E gciX13 dX13_hiddenWorth_33 hM_a 15 rfl (by decide) q1755 (.inl rfl) (.ref 2002) (hM_15) rfl ?_
          refine g_iconst E (v := 0) dX13_hiddenWorth_36 (by decide) rfl ?_
          refine g_iload_n E dX13_hiddenWorth_37 rfl rfl rfl ?_
          refine g_iadd E dX13_hiddenWorth_38 rfl ?_
          refine g_as (y := nI k) (Int32.zero_add _) ?_
          refine g_iald E dX13_hiddenWorth_39 (j := k) hV_a (rfl) (by omega) (by decide) (v := R k) (hV_r k (by unfold zRel; omega)) rfl ?_
          refine g_if_ne E dX13_hiddenWorth_40 (tgt := 67) (by decide) rfl (fun c40 => ?_) (fun c40 => ?_)
          · refine g_iconst E (v := 0) dX13_hiddenWorth_67 (by decide) rfl ?_
            refine g_iadd E dX13_hiddenWorth_68 rfl ?_
            refine g_as (y := sumTo (zHv B R d s) (k + 1)) (sumTo_s (by simp [zHv, c29, c40])) ?_
            refine g_istore_n E dX13_hiddenWorth_69 rfl (by decide) rfl (lo1 := [some (.ref 2000), some (.int s), some (.int (sumTo (zHv B R d s) (k + 1))), some (.int (nI k))]) rfl rfl ?_
            refine g_iinc E dX13_hiddenWorth_70 rfl (v := nI (k + 1)) (nI_c _) (by decide) rfl (lo1 := [some (.ref 2000), some (.int s), some (.int (sumTo (zHv B R d s) (k + 1))), some (.int (nI (k + 1)))]) rfl rfl ?_
            refine g_goto E dX13_hiddenWorth_73 (tgt := 4) (by decide) ?_
            exact ih4 (k + 1) (by omega) (by omega)
          · refine g_aload_n E dX13_hiddenWorth_43 rfl rfl rfl ?_
            refine g_aload_n E dX13_hiddenWorth_44 rfl rfl rfl ?_
            refine g_getf E gciX13 dX13_hiddenWorth_45 hM_a 15 rfl (by decide) q1755 (.inl rfl) (.ref 2002) (hM_15) rfl ?_
            refine g_iload_n E dX13_hiddenWorth_48 rfl rfl rfl ?_
            have hM1 : pMq g (.ref mb) th tr wh tp fa ac mk [] := ⟨_, hM_a, hM_0, hM_1, hM_2, hM_3, hM_5, hM_6, hM_12, hM_15, hM_16, hM_17, hM_18, hM_19, hM_20, hM_26, hM_28, hM_29, trivial⟩
            refine g_callV (k := 2000) (n9 := 2) (av := [.ref 2002, .int (nI k)]) (st := [.int (sumTo (zHv B R d s) k)]) E (ct_X13_isHiddenIn l k hw hM1 hMb hV (by omega)) gciX13 dX13_hiddenWorth_49 hM_a q2201 q2203 qs82 q135 q2204 (by decide +kernel) rfl rfl ⟨by decide, by decide⟩ ⟨by decide, by decide⟩ (Nat.le_of_ble_eq_true rfl) rfl (gPu.k ?_)
            refine g_if_eq E dX13_hiddenWorth_52 (tgt := 67) (by decide) rfl (fun c52 => ?_) (fun c52 => ?_)
            · have c52 := zb_0.mp c52
              refine g_iconst E (v := 0) dX13_hiddenWorth_67 (by decide) rfl ?_
              refine g_iadd E dX13_hiddenWorth_68 rfl ?_
              refine g_as (y := sumTo (zHv B R d s) (k + 1)) (sumTo_s (by simp [zHv, c29, c40, c52])) ?_
              refine g_istore_n E dX13_hiddenWorth_69 rfl (by decide) rfl (lo1 := [some (.ref 2000), some (.int s), some (.int (sumTo (zHv B R d s) (k + 1))), some (.int (nI k))]) rfl rfl ?_
              refine g_iinc E dX13_hiddenWorth_70 rfl (v := nI (k + 1)) (nI_c _) (by decide) rfl (lo1 := [some (.ref 2000), some (.int s), some (.int (sumTo (zHv B R d s) (k + 1))), some (.int (nI (k + 1)))]) rfl rfl ?_
              refine g_goto E dX13_hiddenWorth_73 (tgt := 4) (by decide) ?_
              exact ih4 (k + 1) (by omega) (by omega)
            · have c52 := zb_n0.mp c52
              refine g_aload_n E dX13_hiddenWorth_55 rfl rfl rfl ?_
              refine g_aload_n E dX13_hiddenWorth_56 rfl rfl rfl ?_
              refine g_getf E gciX13 dX13_hiddenWorth_57 hM_a 15 rfl (by decide) q1755 (.inl rfl) (.ref 2002) (hM_15) rfl ?_
              refine g_iload_n E dX13_hiddenWorth_60 rfl rfl rfl ?_
              refine g_callV (k := 2000) (n9 := 2) (av := [.ref 2002, .int (nI k)]) (st := [.int (sumTo (zHv B R d s) k)]) E (ct_X13_worthIn l k hw hM1 hMb hV (by omega)) gciX13 dX13_hiddenWorth_61 hM_a q2249 q2251 qs90 q135 q2252 (by decide +kernel) rfl rfl ⟨by decide, by decide⟩ ⟨by decide, by decide⟩ (Nat.le_of_ble_eq_true rfl) rfl (gPu.k ?_)
              refine g_goto E dX13_hiddenWorth_64 (tgt := 68) (by decide) ?_
              refine g_iadd E dX13_hiddenWorth_68 rfl ?_
              refine g_as (y := sumTo (zHv B R d s) (k + 1)) (sumTo_s (by simp [zHv, c29, c40, c52])) ?_
              refine g_istore_n E dX13_hiddenWorth_69 rfl (by decide) rfl (lo1 := [some (.ref 2000), some (.int s), some (.int (sumTo (zHv B R d s) (k + 1))), some (.int (nI k))]) rfl rfl ?_
              refine g_iinc E dX13_hiddenWorth_70 rfl (v := nI (k + 1)) (nI_c _) (by decide) rfl (lo1 := [some (.ref 2000), some (.int s), some (.int (sumTo (zHv B R d s) (k + 1))), some (.int (nI (k + 1)))]) rfl rfl ?_
              refine g_goto E dX13_hiddenWorth_73 (tgt := 4) (by decide) ?_
              exact ih4 (k + 1) (by omega) (by omega)
  exact lp4 ((B 0 3) + 1) 0 (Nat.zero_le _) (Nat.lt_succ_of_le (Nat.sub_le _ _))
set_option maxHeartbeats 1000000 in
theorem ct_X13_search (l : Launch) {g : gWM} {mb : Nat} {B : gBar} {R : Nat → Int32} {d : Int32} {th tr wh fa : Int32} {tp ac mk : Nat} (p : Int32) (hw : wfB B) (hM : pMq g (.ref mb) th tr wh tp fa ac mk []) (hMb : pMb g mb B) (hV : pRw g 2002 B R d) (hX : pIx g 2003 18) (h9 : 10000 ≤ mb) : gCt l yX13_search cX13_search 5 (some .int) 4 0 0 89 [.ref 2000, .int p] g (gPi (sSea true B R d p).1 (fun g1 => pMq g1 (.ref mb) 0 ((sSea true B R d p).2) (-1) tp fa ac mk [] ∧ ∀ j, j ≠ 2000 → g1 j = g j)) := by
  refine gCt.of RX13 (by decide) rfl (lo := [some (.ref 2000), some (.int p), none, none, none]) 3 rfl (Nat.le_of_ble_eq_true rfl) (fun z E Rt => ?_)
  have hw_n := hw.1
  have hM_o := hM
  obtain ⟨hM_F, hM_a, hM_0, hM_1, hM_2, hM_3, hM_5, hM_6, hM_12, hM_15, hM_16, hM_17, hM_18, hM_19, hM_20, hM_26, hM_28, hM_29, -⟩ := hM_o
  have hMb_o := hMb
  obtain ⟨⟨hMb_F, hMb_a, hMb_0, hMb_1, hMb_2, hMb_3, hMb_4, hMb_5, hMb_6, hMb_7, hMb_8, hMb_9, hMb_11, hMb_12, hMb_13, hMb_14, hMb_15, hMb_16, hMb_17, hMb_18, hMb_19, hMb_20, hMb_21, hMb_22, hMb_23, hMb_24, hMb_25, hMb_26, hMb_27, hMb_28, hMb_29, hMb_30, hMb_31⟩, ⟨hMb_f1, hMb_a1, hMb_b1⟩, ⟨hMb_f2, hMb_a2, hMb_b2⟩, ⟨hMb_f3, hMb_a3, hMb_b3⟩, ⟨hMb_f4, hMb_a4, hMb_b4⟩, ⟨hMb_f5, hMb_a5, hMb_b5⟩, ⟨hMb_f6, hMb_a6, hMb_b6⟩, ⟨hMb_f7, hMb_a7, hMb_b7⟩, ⟨hMb_f8, hMb_a8, hMb_b8⟩, ⟨hMb_f9, hMb_a9, hMb_b9⟩, ⟨hMb_f10, hMb_a10, hMb_b10⟩, ⟨hMb_f11, hMb_a11, hMb_b11⟩, ⟨hMb_f12, hMb_a12, hMb_b12⟩, ⟨hMb_f13, hMb_a13, hMb_b13⟩, ⟨hMb_f14, hMb_a14, hMb_b14⟩, ⟨hMb_f15, hMb_a15, hMb_b15⟩, ⟨hMb_f16, hMb_a16, hMb_b16⟩, ⟨hMb_f17, hMb_a17, hMb_b17⟩, ⟨hMb_f18, hMb_a18, hMb_b18⟩, ⟨hMb_f19, hMb_a19, hMb_b19⟩, ⟨hMb_f20, hMb_a20, hMb_b20⟩, ⟨hMb_f21, hMb_a21, hMb_b21⟩⟩ := hMb_o
  have hV_o := hV
  obtain ⟨hV_f, hV_a, hV_r, hV_d⟩ := hV_o
  have hX_o := hX
  obtain ⟨hX_f, hX_a⟩ := hX_o
  have hp2 := pow4 (n := B 0 1) (by omega)
  refine g_aload_n E dX13_search_0 rfl rfl rfl ?_
  refine g_iconst E (v := 0) dX13_search_1 (by decide) rfl ?_
  refine g_putf E gciX13 (v := .int 0) dX13_search_2 hM_a 0 rfl (by decide) q1740 (.inl rfl) rfl (fun _ => rfl) (fun _ => rfl) rfl (g_upk (fun g1 h1 f1 => ?_))
  refine g_aload_n E dX13_search_5 rfl rfl rfl ?_
  refine g_getf E gciX13 dX13_search_6 h1 3 rfl (by decide) q1743 (.inl rfl) (.ref mb) (hM_3) rfl ?_
  refine g_ifnonnullY E dX13_search_9 (tgt := 18) (by decide) ?_
  refine g_iload_n E dX13_search_18 rfl rfl rfl ?_
  refine g_iconst E (v := 0) dX13_search_19 (by decide) rfl ?_
  refine g_iconst E (v := 4) dX13_search_20 (by decide) rfl ?_
  refine g_callS (n9 := 3) (av := [.int p, .int 0, .int 4]) (st := []) E (ct_X13_in l p 0 4) dX13_search_21 q2069 q2070 q135 q2071 (by decide +kernel) rfl rfl ⟨by decide, by decide⟩ ⟨by decide, by decide⟩ (Nat.le_of_ble_eq_true rfl) rfl (gPu.k ?_)
  refine g_if_ne E dX13_search_24 (tgt := 33) (by decide) rfl (fun c24 => ?_) (fun c24 => ?_)
  · have c24 := zb_n0.mp c24
    refine g_iload_n E dX13_search_33 rfl rfl rfl ?_
    refine g_aload_n E dX13_search_34 rfl rfl rfl ?_
    refine g_getf E gciX13 dX13_search_35 h1 3 rfl (by decide) q1743 (.inl rfl) (.ref mb) (hM_3) rfl ?_
    have x2 := (f1 (mb) (by omega)).trans (hMb_a)
    refine g_getfN E gciX27 dX13_search_38 x2 3 rfl (by decide) q1860 (.inl rfl) (.int (nI (B 0 1))) (hMb_3) rfl ?_
    refine g_icmp_ge E dX13_search_41 (tgt := 48) (by decide) rfl (fun c41 => ?_) (fun c41 => ?_)
    · refine g_aload_n E dX13_search_48 rfl rfl rfl ?_
      refine g_getf E gciX13 dX13_search_49 h1 3 rfl (by decide) q1743 (.inl rfl) (.ref mb) (hM_3) rfl ?_
      refine g_getfN E gciX27 dX13_search_52 x2 3 rfl (by decide) q1860 (.inl rfl) (.int (nI (B 0 1))) (hMb_3) rfl ?_
      refine g_istore_n E dX13_search_55 rfl (by decide) rfl (lo1 := [some (.ref 2000), some (.int p), some (.int (nI (B 0 1))), none, none]) rfl rfl ?_
      refine g_lo (lo1 := [some (.ref 2000), some (.int p), some (.int (zMin p (nI (B 0 1)))), none, none]) (by rw [← zMin_ge c41]) ?_
      refine g_iconst E (v := (-1)) dX13_search_56 (by decide) rfl ?_
      refine g_istore_n E dX13_search_57 rfl (by decide) rfl (lo1 := [some (.ref 2000), some (.int p), some (.int (zMin p (nI (B 0 1)))), some (.int (-1)), none]) rfl rfl ?_
      refine g_iconst E (v := 0) dX13_search_58 (by decide) rfl ?_
      refine g_istore E dX13_search_59 (by decide) rfl (lo1 := [some (.ref 2000), some (.int p), some (.int (zMin p (nI (B 0 1)))), some (.int (-1)), some (.int 0)]) rfl rfl ?_
      have lp61 : ∀ (r9 : Nat) (k : Nat), (k ≤ 2 ^ B 0 1) → (2 ^ B 0 1 - k < r9) → gV z g1 0 0 61 [some (.ref 2000), some (.int p), some (.int (zMin p (nI (B 0 1)))), some (.int (zSe B R d (zMin p (nI (B 0 1))) k)), some (.int (nI k))] [] := by
        intro r9
        induction r9 with
        | zero => intro k hk hm; exact absurd hm (Nat.not_lt_zero _)
        | succ r9 ih61 =>
          intro k hk hm
          refine g_iload E dX13_search_61 rfl rfl ?_
          refine g_iconst E (v := 1) dX13_search_63 (by decide) rfl ?_
          refine g_aload_n E dX13_search_64 rfl rfl rfl ?_
          refine g_getf E gciX13 dX13_search_65 h1 3 rfl (by decide) q1743 (.inl rfl) (.ref mb) (hM_3) rfl ?_
          refine g_getfN E gciX27 dX13_search_68 x2 3 rfl (by decide) q1860 (.inl rfl) (.int (nI (B 0 1))) (hMb_3) rfl ?_
          refine g_ishl E dX13_search_71 rfl ?_
          refine g_as (y := nI (2 ^ B 0 1)) (shl1 (by omega)) ?_
          refine g_icmp_ge E dX13_search_72 (tgt := 112) (by decide) rfl (fun c72 => ?_) (fun c72 => ?_)
          · have c72 := (nI_leI (a := 2 ^ B 0 1) (b := k) (by omega) (by omega)).mp c72
            obtain rfl : k = 2 ^ B 0 1 := by omega
            refine g_aload_n E dX13_search_112 rfl rfl rfl ?_
            refine g_iload_n E dX13_search_113 rfl rfl rfl ?_
            have hM3 : pMq g1 (.ref mb) 0 tr wh tp fa ac mk [] := ⟨_, h1, rfl, hM_1, hM_2, hM_3, hM_5, hM_6, hM_12, hM_15, hM_16, hM_17, hM_18, hM_19, hM_20, hM_26, hM_28, hM_29, trivial⟩
            refine g_callV (k := 2000) (n9 := 1) (av := [.int (zSe B R d (zMin p (nI (B 0 1))) (2 ^ B 0 1))]) (st := []) E (ct_X13_fine l (zSe B R d (zMin p (nI (B 0 1))) (2 ^ B 0 1)) hM3) gciX13 dX13_search_114 h1 q2181 q2183 qs80 q135 q2184 (by decide +kernel) rfl rfl ⟨by decide, by decide⟩ ⟨by decide, by decide⟩ (Nat.le_of_ble_eq_true rfl) rfl (gPi.k (fun g4 h4 => ?_))
            obtain ⟨hm4, f4⟩ := h4
            have hm4_o := hm4
            obtain ⟨hm4_F, hm4_a, hm4_0, hm4_1, hm4_2, hm4_3, hm4_5, hm4_6, hm4_12, hm4_15, hm4_16, hm4_17, hm4_18, hm4_19, hm4_20, hm4_26, hm4_28, hm4_29, -⟩ := hm4_o
            have hs5 : sSea true B R d p = (zSe B R d (zMin p (nI (B 0 1))) (2 ^ B 0 1), 0) := by first | (simp [sSea, c24, c72]; done) | (simp [sSea, c24, c72, qWy]; done)
            exact g_iret E Rt dX13_search_117 rfl (by decide) (by decide) (by rw [hs5]; exact ⟨rfl, ⟨_, hm4_a, hm4_0, hm4_1, hm4_2, hm4_3, hm4_5, hm4_6, hm4_12, hm4_15, hm4_16, hm4_17, hm4_18, hm4_19, hm4_20, hm4_26, hm4_28, hm4_29, trivial⟩, fun j9 h9 => (f4 j9 (by omega)).trans (f1 j9 (by omega))⟩)
          · have c72 := mt (nI_leI (a := 2 ^ B 0 1) (b := k) (by omega) (by omega)).mpr c72
            refine g_iload E dX13_search_75 rfl rfl ?_
            refine g_callS (n9 := 1) (av := [.int (nI k)]) (st := []) E (ct_X13_bits l k (by omega)) dX13_search_77 q2349 q2350 q135 q2351 (by decide +kernel) rfl rfl ⟨by decide, by decide⟩ ⟨by decide, by decide⟩ (Nat.le_of_ble_eq_true rfl) rfl (gPu.k ?_)
            refine g_iload_n E dX13_search_80 rfl rfl rfl ?_
            refine g_icmp_ne E dX13_search_81 (tgt := 106) (by decide) rfl (fun c81 => ?_) (fun c81 => ?_)
            · refine g_lo (lo1 := [some (.ref 2000), some (.int p), some (.int (zMin p (nI (B 0 1)))), some (.int (zSe B R d (zMin p (nI (B 0 1))) (k + 1))), some (.int (nI k))]) (by simp [zSe, c81]) ?_
              refine g_iinc E dX13_search_106 rfl (v := nI (k + 1)) (nI_c _) (by decide) rfl (lo1 := [some (.ref 2000), some (.int p), some (.int (zMin p (nI (B 0 1)))), some (.int (zSe B R d (zMin p (nI (B 0 1))) (k + 1))), some (.int (nI (k + 1)))]) rfl rfl ?_
              refine g_goto E dX13_search_109 (tgt := 61) (by decide) ?_
              exact ih61 (k + 1) (by omega) (by omega)
            · refine g_iload_n E dX13_search_84 rfl rfl rfl ?_
              refine g_iconst E (v := (-1)) dX13_search_85 (by decide) rfl ?_
              refine g_icmp_eq E dX13_search_86 (tgt := 103) (by decide) rfl (fun c86 => ?_) (fun c86 => ?_)
              · refine g_iload E dX13_search_103 rfl rfl ?_
                refine g_istore_n E dX13_search_105 rfl (by decide) rfl (lo1 := [some (.ref 2000), some (.int p), some (.int (zMin p (nI (B 0 1)))), some (.int (nI k)), some (.int (nI k))]) rfl rfl ?_
                refine g_lo (lo1 := [some (.ref 2000), some (.int p), some (.int (zMin p (nI (B 0 1)))), some (.int (zSe B R d (zMin p (nI (B 0 1))) (k + 1))), some (.int (nI k))]) (by simp [zSe, c81, c86]) ?_
                refine g_iinc E dX13_search_106 rfl (v := nI (k + 1)) (nI_c _) (by decide) rfl (lo1 := [some (.ref 2000), some (.int p), some (.int (zMin p (nI (B 0 1)))), some (.int (zSe B R d (zMin p (nI (B 0 1))) (k + 1))), some (.int (nI (k + 1)))]) rfl rfl ?_
                refine g_goto E dX13_search_109 (tgt := 61) (by decide) ?_
                exact ih61 (k + 1) (by omega) (by omega)
              · refine g_aload_n E dX13_search_89 rfl rfl rfl ?_
                refine g_iload E dX13_search_90 rfl rfl ?_
                have hM6 : pMq g1 (.ref mb) 0 tr wh tp fa ac mk [] := ⟨_, h1, rfl, hM_1, hM_2, hM_3, hM_5, hM_6, hM_12, hM_15, hM_16, hM_17, hM_18, hM_19, hM_20, hM_26, hM_28, hM_29, trivial⟩
                have y7 := (hMb.fr  (fun j9 a9 b9 => f1 j9 (by omega)))
                have y8 := (hV.fr  (fun j9 a9 b9 => f1 j9 (by omega)))
                refine g_callV (k := 2000) (n9 := 1) (av := [.int (nI k)]) (st := []) E (ct_X13_hiddenWorth l (nI k) hw hM6 y7 y8) gciX13 dX13_search_92 h1 q2408 q2410 qs106 q135 q2411 (by decide +kernel) rfl rfl ⟨by decide, by decide⟩ ⟨by decide, by decide⟩ (Nat.le_of_ble_eq_true rfl) rfl (gPu.k ?_)
                refine g_aload_n E dX13_search_95 rfl rfl rfl ?_
                refine g_iload_n E dX13_search_96 rfl rfl rfl ?_
                refine g_callV (k := 2000) (n9 := 1) (av := [.int (zSe B R d (zMin p (nI (B 0 1))) k)]) (st := [.int (zHw B R d (nI k))]) E (ct_X13_hiddenWorth l (zSe B R d (zMin p (nI (B 0 1))) k) hw hM6 y7 y8) gciX13 dX13_search_97 h1 q2408 q2410 qs106 q135 q2411 (by decide +kernel) rfl rfl ⟨by decide, by decide⟩ ⟨by decide, by decide⟩ (Nat.le_of_ble_eq_true rfl) rfl (gPu.k ?_)
                refine g_icmp_le E dX13_search_100 (tgt := 106) (by decide) rfl (fun c100 => ?_) (fun c100 => ?_)
                · refine g_lo (lo1 := [some (.ref 2000), some (.int p), some (.int (zMin p (nI (B 0 1)))), some (.int (zSe B R d (zMin p (nI (B 0 1))) (k + 1))), some (.int (nI k))]) (by simp [zSe, c81, c86, c100]) ?_
                  refine g_iinc E dX13_search_106 rfl (v := nI (k + 1)) (nI_c _) (by decide) rfl (lo1 := [some (.ref 2000), some (.int p), some (.int (zMin p (nI (B 0 1)))), some (.int (zSe B R d (zMin p (nI (B 0 1))) (k + 1))), some (.int (nI (k + 1)))]) rfl rfl ?_
                  refine g_goto E dX13_search_109 (tgt := 61) (by decide) ?_
                  exact ih61 (k + 1) (by omega) (by omega)
                · refine g_iload E dX13_search_103 rfl rfl ?_
                  refine g_istore_n E dX13_search_105 rfl (by decide) rfl (lo1 := [some (.ref 2000), some (.int p), some (.int (zMin p (nI (B 0 1)))), some (.int (nI k)), some (.int (nI k))]) rfl rfl ?_
                  refine g_lo (lo1 := [some (.ref 2000), some (.int p), some (.int (zMin p (nI (B 0 1)))), some (.int (zSe B R d (zMin p (nI (B 0 1))) (k + 1))), some (.int (nI k))]) (by simp [zSe, c81, c86, c100]) ?_
                  refine g_iinc E dX13_search_106 rfl (v := nI (k + 1)) (nI_c _) (by decide) rfl (lo1 := [some (.ref 2000), some (.int p), some (.int (zMin p (nI (B 0 1)))), some (.int (zSe B R d (zMin p (nI (B 0 1))) (k + 1))), some (.int (nI (k + 1)))]) rfl rfl ?_
                  refine g_goto E dX13_search_109 (tgt := 61) (by decide) ?_
                  exact ih61 (k + 1) (by omega) (by omega)
      exact lp61 ((2 ^ B 0 1) + 1) 0 (Nat.zero_le _) (Nat.lt_succ_of_le (Nat.sub_le _ _))
    · refine g_iload_n E dX13_search_44 rfl rfl rfl ?_
      refine g_goto E dX13_search_45 (tgt := 55) (by decide) ?_
      refine g_istore_n E dX13_search_55 rfl (by decide) rfl (lo1 := [some (.ref 2000), some (.int p), some (.int p), none, none]) rfl rfl ?_
      refine g_lo (lo1 := [some (.ref 2000), some (.int p), some (.int (zMin p (nI (B 0 1)))), none, none]) (by rw [← zMin_lt c41]) ?_
      refine g_iconst E (v := (-1)) dX13_search_56 (by decide) rfl ?_
      refine g_istore_n E dX13_search_57 rfl (by decide) rfl (lo1 := [some (.ref 2000), some (.int p), some (.int (zMin p (nI (B 0 1)))), some (.int (-1)), none]) rfl rfl ?_
      refine g_iconst E (v := 0) dX13_search_58 (by decide) rfl ?_
      refine g_istore E dX13_search_59 (by decide) rfl (lo1 := [some (.ref 2000), some (.int p), some (.int (zMin p (nI (B 0 1)))), some (.int (-1)), some (.int 0)]) rfl rfl ?_
      have lp61 : ∀ (r9 : Nat) (k : Nat), (k ≤ 2 ^ B 0 1) → (2 ^ B 0 1 - k < r9) → gV z g1 0 0 61 [some (.ref 2000), some (.int p), some (.int (zMin p (nI (B 0 1)))), some (.int (zSe B R d (zMin p (nI (B 0 1))) k)), some (.int (nI k))] [] := by
        intro r9
        induction r9 with
        | zero => intro k hk hm; exact absurd hm (Nat.not_lt_zero _)
        | succ r9 ih61 =>
          intro k hk hm
          refine g_iload E dX13_search_61 rfl rfl ?_
          refine g_iconst E (v := 1) dX13_search_63 (by decide) rfl ?_
          refine g_aload_n E dX13_search_64 rfl rfl rfl ?_
          refine g_getf E gciX13 dX13_search_65 h1 3 rfl (by decide) q1743 (.inl rfl) (.ref mb) (hM_3) rfl ?_
          refine g_getfN E gciX27 dX13_search_68 x2 3 rfl (by decide) q1860 (.inl rfl) (.int (nI (B 0 1))) (hMb_3) rfl ?_
          refine g_ishl E dX13_search_71 rfl ?_
          refine g_as (y := nI (2 ^ B 0 1)) (shl1 (by omega)) ?_
          refine g_icmp_ge E dX13_search_72 (tgt := 112) (by decide) rfl (fun c72 => ?_) (fun c72 => ?_)
          · have c72 := (nI_leI (a := 2 ^ B 0 1) (b := k) (by omega) (by omega)).mp c72
            obtain rfl : k = 2 ^ B 0 1 := by omega
            refine g_aload_n E dX13_search_112 rfl rfl rfl ?_
            refine g_iload_n E dX13_search_113 rfl rfl rfl ?_
            have hM9 : pMq g1 (.ref mb) 0 tr wh tp fa ac mk [] := ⟨_, h1, rfl, hM_1, hM_2, hM_3, hM_5, hM_6, hM_12, hM_15, hM_16, hM_17, hM_18, hM_19, hM_20, hM_26, hM_28, hM_29, trivial⟩
            refine g_callV (k := 2000) (n9 := 1) (av := [.int (zSe B R d (zMin p (nI (B 0 1))) (2 ^ B 0 1))]) (st := []) E (ct_X13_fine l (zSe B R d (zMin p (nI (B 0 1))) (2 ^ B 0 1)) hM9) gciX13 dX13_search_114 h1 q2181 q2183 qs80 q135 q2184 (by decide +kernel) rfl rfl ⟨by decide, by decide⟩ ⟨by decide, by decide⟩ (Nat.le_of_ble_eq_true rfl) rfl (gPi.k (fun g10 h10 => ?_))
            obtain ⟨hm10, f10⟩ := h10
            have hm10_o := hm10
            obtain ⟨hm10_F, hm10_a, hm10_0, hm10_1, hm10_2, hm10_3, hm10_5, hm10_6, hm10_12, hm10_15, hm10_16, hm10_17, hm10_18, hm10_19, hm10_20, hm10_26, hm10_28, hm10_29, -⟩ := hm10_o
            have hs11 : sSea true B R d p = (zSe B R d (zMin p (nI (B 0 1))) (2 ^ B 0 1), 0) := by first | (simp [sSea, c24, c72]; done) | (simp [sSea, c24, c72, qWy]; done)
            exact g_iret E Rt dX13_search_117 rfl (by decide) (by decide) (by rw [hs11]; exact ⟨rfl, ⟨_, hm10_a, hm10_0, hm10_1, hm10_2, hm10_3, hm10_5, hm10_6, hm10_12, hm10_15, hm10_16, hm10_17, hm10_18, hm10_19, hm10_20, hm10_26, hm10_28, hm10_29, trivial⟩, fun j9 h9 => (f10 j9 (by omega)).trans (f1 j9 (by omega))⟩)
          · have c72 := mt (nI_leI (a := 2 ^ B 0 1) (b := k) (by omega) (by omega)).mpr c72
            refine g_iload E dX13_search_75 rfl rfl ?_
            refine g_callS (n9 := 1) (av := [.int (nI k)]) (st := []) E (ct_X13_bits l k (by omega)) dX13_search_77 q2349 q2350 q135 q2351 (by decide +kernel) rfl rfl ⟨by decide, by decide⟩ ⟨by decide, by decide⟩ (Nat.le_of_ble_eq_true rfl) rfl (gPu.k ?_)
            refine g_iload_n E dX13_search_80 rfl rfl rfl ?_
            refine g_icmp_ne E dX13_search_81 (tgt := 106) (by decide) rfl (fun c81 => ?_) (fun c81 => ?_)
            · refine g_lo (lo1 := [some (.ref 2000), some (.int p), some (.int (zMin p (nI (B 0 1)))), some (.int (zSe B R d (zMin p (nI (B 0 1))) (k + 1))), some (.int (nI k))]) (by simp [zSe, c81]) ?_
              refine g_iinc E dX13_search_106 rfl (v := nI (k + 1)) (nI_c _) (by decide) rfl (lo1 := [some (.ref 2000), some (.int p), some (.int (zMin p (nI (B 0 1)))), some (.int (zSe B R d (zMin p (nI (B 0 1))) (k + 1))), some (.int (nI (k + 1)))]) rfl rfl ?_
              refine g_goto E dX13_search_109 (tgt := 61) (by decide) ?_
              exact ih61 (k + 1) (by omega) (by omega)
            · refine g_iload_n E dX13_search_84 rfl rfl rfl ?_
              refine g_iconst E (v := (-1)) dX13_search_85 (by decide) rfl ?_
              refine g_icmp_eq E dX13_search_86 (tgt := 103) (by decide) rfl (fun c86 => ?_) (fun c86 => ?_)
              · refine g_iload E dX13_search_103 rfl rfl ?_
                refine g_istore_n E dX13_search_105 rfl (by decide) rfl (lo1 := [some (.ref 2000), some (.int p), some (.int (zMin p (nI (B 0 1)))), some (.int (nI k)), some (.int (nI k))]) rfl rfl ?_
                refine g_lo (lo1 := [some (.ref 2000), some (.int p), some (.int (zMin p (nI (B 0 1)))), some (.int (zSe B R d (zMin p (nI (B 0 1))) (k + 1))), some (.int (nI k))]) (by simp [zSe, c81, c86]) ?_
                refine g_iinc E dX13_search_106 rfl (v := nI (k + 1)) (nI_c _) (by decide) rfl (lo1 := [some (.ref 2000), some (.int p), some (.int (zMin p (nI (B 0 1)))), some (.int (zSe B R d (zMin p (nI (B 0 1))) (k + 1))), some (.int (nI (k + 1)))]) rfl rfl ?_
                refine g_goto E dX13_search_109 (tgt := 61) (by decide) ?_
                exact ih61 (k + 1) (by omega) (by omega)
              · refine g_aload_n E dX13_search_89 rfl rfl rfl ?_
                refine g_iload E dX13_search_90 rfl rfl ?_
                have hM12 : pMq g1 (.ref mb) 0 tr wh tp fa ac mk [] := ⟨_, h1, rfl, hM_1, hM_2, hM_3, hM_5, hM_6, hM_12, hM_15, hM_16, hM_17, hM_18, hM_19, hM_20, hM_26, hM_28, hM_29, trivial⟩
                have y13 := (hMb.fr  (fun j9 a9 b9 => f1 j9 (by omega)))
                have y14 := (hV.fr  (fun j9 a9 b9 => f1 j9 (by omega)))
                refine g_callV (k := 2000) (n9 := 1) (av := [.int (nI k)]) (st := []) E (ct_X13_hiddenWorth l (nI k) hw hM12 y13 y14) gciX13 dX13_search_92 h1 q2408 q2410 qs106 q135 q2411 (by decide +kernel) rfl rfl ⟨by decide, by decide⟩ ⟨by decide, by decide⟩ (Nat.le_of_ble_eq_true rfl) rfl (gPu.k ?_)
                refine g_aload_n E dX13_search_95 rfl rfl rfl ?_
                refine g_iload_n E dX13_search_96 rfl rfl rfl ?_
                refine g_callV (k := 2000) (n9 := 1) (av := [.int (zSe B R d (zMin p (nI (B 0 1))) k)]) (st := [.int (zHw B R d (nI k))]) E (ct_X13_hiddenWorth l (zSe B R d (zMin p (nI (B 0 1))) k) hw hM12 y13 y14) gciX13 dX13_search_97 h1 q2408 q2410 qs106 q135 q2411 (by decide +kernel) rfl rfl ⟨by decide, by decide⟩ ⟨by decide, by decide⟩ (Nat.le_of_ble_eq_true rfl) rfl (gPu.k ?_)
                refine g_icmp_le E dX13_search_100 (tgt := 106) (by decide) rfl (fun c100 => ?_) (fun c100 => ?_)
                · refine g_lo (lo1 := [some (.ref 2000), some (.int p), some (.int (zMin p (nI (B 0 1)))), some (.int (zSe B R d (zMin p (nI (B 0 1))) (k + 1))), some (.int (nI k))]) (by simp [zSe, c81, c86, c100]) ?_
                  refine g_iinc E dX13_search_106 rfl (v := nI (k + 1)) (nI_c _) (by decide) rfl (lo1 := [some (.ref 2000), some (.int p), some (.int (zMin p (nI (B 0 1)))), some (.int (zSe B R d (zMin p (nI (B 0 1))) (k + 1))), some (.int (nI (k + 1)))]) rfl rfl ?_
                  refine g_goto E dX13_search_109 (tgt := 61) (by decide) ?_
                  exact ih61 (k + 1) (by omega) (by omega)
                · refine g_iload E dX13_search_103 rfl rfl ?_
                  refine g_istore_n E dX13_search_105 rfl (by decide) rfl (lo1 := [some (.ref 2000), some (.int p), some (.int (zMin p (nI (B 0 1)))), some (.int (nI k)), some (.int (nI k))]) rfl rfl ?_
                  refine g_lo (lo1 := [some (.ref 2000), some (.int p), some (.int (zMin p (nI (B 0 1)))), some (.int (zSe B R d (zMin p (nI (B 0 1))) (k + 1))), some (.int (nI k))]) (by simp [zSe, c81, c86, c100]) ?_
                  refine g_iinc E dX13_search_106 rfl (v := nI (k + 1)) (nI_c _) (by decide) rfl (lo1 := [some (.ref 2000), some (.int p), some (.int (zMin p (nI (B 0 1)))), some (.int (zSe B R d (zMin p (nI (B 0 1))) (k + 1))), some (.int (nI (k + 1)))]) rfl rfl ?_
                  refine g_goto E dX13_search_109 (tgt := 61) (by decide) ?_
                  exact ih61 (k + 1) (by omega) (by omega)
      exact lp61 ((2 ^ B 0 1) + 1) 0 (Nat.zero_le _) (Nat.lt_succ_of_le (Nat.sub_le _ _))
  · have c24 := zb_0.mp c24
    refine g_aload_n E dX13_search_27 rfl rfl rfl ?_
    refine g_iconst E (v := 2) dX13_search_28 (by decide) rfl ?_
    have hM15 : pMq g1 (.ref mb) 0 tr wh tp fa ac mk [] := ⟨_, h1, rfl, hM_1, hM_2, hM_3, hM_5, hM_6, hM_12, hM_15, hM_16, hM_17, hM_18, hM_19, hM_20, hM_26, hM_28, hM_29, trivial⟩
    refine g_callV (k := 2000) (n9 := 1) (av := [.int 2]) (st := []) E (ct_X13_refused l 2 hM15) gciX13 dX13_search_29 h1 q1846 q1848 qs52 q135 q1849 (by decide +kernel) rfl rfl ⟨by decide, by decide⟩ ⟨by decide, by decide⟩ (Nat.le_of_ble_eq_true rfl) rfl (gPi.k (fun g16 h16 => ?_))
    obtain ⟨hm16, f16⟩ := h16
    have hm16_o := hm16
    obtain ⟨hm16_F, hm16_a, hm16_0, hm16_1, hm16_2, hm16_3, hm16_5, hm16_6, hm16_12, hm16_15, hm16_16, hm16_17, hm16_18, hm16_19, hm16_20, hm16_26, hm16_28, hm16_29, -⟩ := hm16_o
    have hs17 : sSea true B R d p = ((-1), 2) := by first | (simp [sSea, c24]; done) | (simp [sSea, c24, qWy]; done)
    exact g_iret E Rt dX13_search_32 rfl (by decide) (by decide) (by rw [hs17]; exact ⟨rfl, ⟨_, hm16_a, hm16_0, hm16_1, hm16_2, hm16_3, hm16_5, hm16_6, hm16_12, hm16_15, hm16_16, hm16_17, hm16_18, hm16_19, hm16_20, hm16_26, hm16_28, hm16_29, trivial⟩, fun j9 h9 => (f16 j9 (by omega)).trans (f1 j9 (by omega))⟩)
set_option maxHeartbeats 1000000 in
theorem ct_X13_search_N (l : Launch) {g : gWM} {th tr wh fa : Int32} {tp ac mk : Nat} (p : Int32) (hM : pMq g .null th tr wh tp fa ac mk []) : gCt l yX13_search cX13_search 5 (some .int) 1 0 0 21 [.ref 2000, .int p] g (gPi (sSea false zB0 (fun _ => 0) 0 p).1 (fun g1 => pMq g1 .null 0 ((sSea false zB0 (fun _ => 0) 0 p).2) (-1) tp fa ac mk [] ∧ ∀ j, j ≠ 2000 → g1 j = g j)) := by
  refine gCt.of RX13 (by decide) rfl (lo := [some (.ref 2000), some (.int p), none, none, none]) 3 rfl (Nat.le_of_ble_eq_true rfl) (fun z E Rt => ?_)
  have hM_o := hM
  obtain ⟨hM_F, hM_a, hM_0, hM_1, hM_2, hM_3, hM_5, hM_6, hM_12, hM_15, hM_16, hM_17, hM_18, hM_19, hM_20, hM_26, hM_28, hM_29, -⟩ := hM_o
  refine g_aload_n E dX13_search_0 rfl rfl rfl ?_
  refine g_iconst E (v := 0) dX13_search_1 (by decide) rfl ?_
  refine g_putf E gciX13 (v := .int 0) dX13_search_2 hM_a 0 rfl (by decide) q1740 (.inl rfl) rfl (fun _ => rfl) (fun _ => rfl) rfl (g_upk (fun g1 h1 f1 => ?_))
  refine g_aload_n E dX13_search_5 rfl rfl rfl ?_
  refine g_getf E gciX13 dX13_search_6 h1 3 rfl (by decide) q1743 (.inl rfl) (.null) (hM_3) rfl ?_
  refine g_ifnonnullN E dX13_search_9 rfl ?_
  refine g_aload_n E dX13_search_12 rfl rfl rfl ?_
  refine g_iconst E (v := 1) dX13_search_13 (by decide) rfl ?_
  have hM2 : pMq g1 .null 0 tr wh tp fa ac mk [] := ⟨_, h1, rfl, hM_1, hM_2, hM_3, hM_5, hM_6, hM_12, hM_15, hM_16, hM_17, hM_18, hM_19, hM_20, hM_26, hM_28, hM_29, trivial⟩
  refine g_callV (k := 2000) (n9 := 1) (av := [.int 1]) (st := []) E (ct_X13_refused l 1 hM2) gciX13 dX13_search_14 h1 q1846 q1848 qs52 q135 q1849 (by decide +kernel) rfl rfl ⟨by decide, by decide⟩ ⟨by decide, by decide⟩ (Nat.le_of_ble_eq_true rfl) rfl (gPi.k (fun g3 h3 => ?_))
  obtain ⟨hm3, f3⟩ := h3
  have hm3_o := hm3
  obtain ⟨hm3_F, hm3_a, hm3_0, hm3_1, hm3_2, hm3_3, hm3_5, hm3_6, hm3_12, hm3_15, hm3_16, hm3_17, hm3_18, hm3_19, hm3_20, hm3_26, hm3_28, hm3_29, -⟩ := hm3_o
  have hs4 : sSea false zB0 (fun _ => 0) 0 p = ((-1), 1) := by first | (simp [sSea, qI_z, qWy]; done) | (simp [sSea, qI_z, qWy, qWy]; done)
  exact g_iret E Rt dX13_search_17 rfl (by decide) (by decide) (by rw [hs4]; exact ⟨rfl, ⟨_, hm3_a, hm3_0, hm3_1, hm3_2, hm3_3, hm3_5, hm3_6, hm3_12, hm3_15, hm3_16, hm3_17, hm3_18, hm3_19, hm3_20, hm3_26, hm3_28, hm3_29, trivial⟩, fun j9 h9 => (f3 j9 (by omega)).trans (f1 j9 (by omega))⟩)
