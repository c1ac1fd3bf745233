/-! THE MODEL, walks, fifth: the plan, seasons -/
set_option maxRecDepth 100000
theorem updK {f e : Nat → Int32} {k : Nat} {x : Int32} (h : ∀ i, i < k → f i = e i) : ∀ i, i < k → upd f k x i = e i := by
  intro i hi
  rw [upd_o (by omega)]
  exact h i hi
set_option maxHeartbeats 400000 in
theorem ct_X13_isOpen (l : Launch) {g : gWM} {mb : Nat} {B : gBar} {th tr wh fa : Int32} {tp ac mk : Nat} (k : Nat) (hw : wfB B) (hM : pMq g (.ref mb) th tr wh tp fa ac mk []) (hMb : pMb g mb B) (hk4 : k < B 0 4) : gCt l yX13_isOpen cX13_isOpen 2 (some .boolean) 1 0 0 22 [.ref 2000, .int (nI k)] g (gPu (.int (zb (zOp B k))) g) := by
  refine gCt.of RX13 (by decide) rfl (lo := [some (.ref 2000), some (.int (nI k))]) 0 rfl (Nat.le_of_ble_eq_true rfl) (fun z E Rt => ?_)
  have hw_n := hw.1
  have hM_o := hM
  obtain ⟨hM_F, hM_a, hM_0, hM_1, hM_2, hM_3, hM_5, hM_6, hM_12, hM_15, hM_16, hM_17, hM_18, hM_19, hM_20, hM_26, hM_28, hM_29, -⟩ := hM_o
  have hMb_o := hMb
  obtain ⟨⟨hMb_F, hMb_a, hMb_0, hMb_1, hMb_2, hMb_3, hMb_4, hMb_5, hMb_6, hMb_7, hMb_8, hMb_9, hMb_11, hMb_12, hMb_13, hMb_14, hMb_15, hMb_16, hMb_17, hMb_18, hMb_19, hMb_20, hMb_21, hMb_22, hMb_23, hMb_24, hMb_25, hMb_26, hMb_27, hMb_28, hMb_29, hMb_30, hMb_31⟩, ⟨hMb_f1, hMb_a1, hMb_b1⟩, ⟨hMb_f2, hMb_a2, hMb_b2⟩, ⟨hMb_f3, hMb_a3, hMb_b3⟩, ⟨hMb_f4, hMb_a4, hMb_b4⟩, ⟨hMb_f5, hMb_a5, hMb_b5⟩, ⟨hMb_f6, hMb_a6, hMb_b6⟩, ⟨hMb_f7, hMb_a7, hMb_b7⟩, ⟨hMb_f8, hMb_a8, hMb_b8⟩, ⟨hMb_f9, hMb_a9, hMb_b9⟩, ⟨hMb_f10, hMb_a10, hMb_b10⟩, ⟨hMb_f11, hMb_a11, hMb_b11⟩, ⟨hMb_f12, hMb_a12, hMb_b12⟩, ⟨hMb_f13, hMb_a13, hMb_b13⟩, ⟨hMb_f14, hMb_a14, hMb_b14⟩, ⟨hMb_f15, hMb_a15, hMb_b15⟩, ⟨hMb_f16, hMb_a16, hMb_b16⟩, ⟨hMb_f17, hMb_a17, hMb_b17⟩, ⟨hMb_f18, hMb_a18, hMb_b18⟩, ⟨hMb_f19, hMb_a19, hMb_b19⟩, ⟨hMb_f20, hMb_a20, hMb_b20⟩, ⟨hMb_f21, hMb_a21, hMb_b21⟩⟩ := hMb_o
  have hcx := hw.cross hk4
  refine g_aload_n E dX13_isOpen_0 rfl rfl rfl ?_
  refine g_getf E gciX13 dX13_isOpen_1 hM_a 3 rfl (by decide) q1743 (.inl rfl) (.ref mb) (hM_3) rfl ?_
  refine g_getfN E gciX27 dX13_isOpen_4 hMb_a 29 rfl (by decide) q1906 (.inl rfl) (.ref (mb + 19)) (hMb_29) rfl ?_
  refine g_iload_n E dX13_isOpen_7 rfl rfl rfl ?_
  refine g_iald E dX13_isOpen_8 (j := k) hMb_a19 (rfl) (by omega) (by decide) (v := nI (B 22 k)) (hMb_b19 k (by omega)) rfl ?_
  refine g_aload_n E dX13_isOpen_9 rfl rfl rfl ?_
  refine g_getf E gciX13 dX13_isOpen_10 hM_a 3 rfl (by decide) q1743 (.inl rfl) (.ref mb) (hM_3) rfl ?_
  refine g_getfN E gciX27 dX13_isOpen_13 hMb_a 18 rfl (by decide) q1884 (.inl rfl) (.ref (mb + 8)) (hMb_18) rfl ?_
  refine g_aload_n E dX13_isOpen_16 rfl rfl rfl ?_
  refine g_getf E gciX13 dX13_isOpen_17 hM_a 3 rfl (by decide) q1743 (.inl rfl) (.ref mb) (hM_3) rfl ?_
  refine g_getfN E gciX27 dX13_isOpen_20 hMb_a 27 rfl (by decide) q1902 (.inl rfl) (.ref (mb + 17)) (hMb_27) rfl ?_
  refine g_iload_n E dX13_isOpen_23 rfl rfl rfl ?_
  refine g_iald E dX13_isOpen_24 (j := k) hMb_a17 (rfl) (by omega) (by decide) (v := nI (B 20 k)) (hMb_b17 k (by omega)) rfl ?_
  refine g_iald E dX13_isOpen_25 (j := B 20 k) hMb_a8 (rfl) (by omega) (by decide) (v := nI (B 10 (B 20 k))) (hMb_b8 (B 20 k) (by omega)) rfl ?_
  refine g_aload_n E dX13_isOpen_26 rfl rfl rfl ?_
  refine g_getf E gciX13 dX13_isOpen_27 hM_a 3 rfl (by decide) q1743 (.inl rfl) (.ref mb) (hM_3) rfl ?_
  refine g_getfN E gciX27 dX13_isOpen_30 hMb_a 19 rfl (by decide) q1886 (.inl rfl) (.ref (mb + 9)) (hMb_19) rfl ?_
  refine g_aload_n E dX13_isOpen_33 rfl rfl rfl ?_
  refine g_getf E gciX13 dX13_isOpen_34 hM_a 3 rfl (by decide) q1743 (.inl rfl) (.ref mb) (hM_3) rfl ?_
  refine g_getfN E gciX27 dX13_isOpen_37 hMb_a 27 rfl (by decide) q1902 (.inl rfl) (.ref (mb + 17)) (hMb_27) rfl ?_
  refine g_iload_n E dX13_isOpen_40 rfl rfl rfl ?_
  refine g_iald E dX13_isOpen_41 (j := k) hMb_a17 (rfl) (by omega) (by decide) (v := nI (B 20 k)) (hMb_b17 k (by omega)) rfl ?_
  refine g_iald E dX13_isOpen_42 (j := B 20 k) hMb_a9 (rfl) (by omega) (by decide) (v := nI (B 11 (B 20 k))) (hMb_b9 (B 20 k) (by omega)) rfl ?_
  refine g_callS (n9 := 3) (av := [.int (nI (B 22 k)), .int (nI (B 10 (B 20 k))), .int (nI (B 11 (B 20 k)))]) (st := []) E (ct_X13_in l (nI (B 22 k)) (nI (B 10 (B 20 k))) (nI (B 11 (B 20 k)))) dX13_isOpen_43 q2069 q2070 q135 q2071 (by decide +kernel) rfl rfl ⟨by decide, by decide⟩ ⟨by decide, by decide⟩ (Nat.le_of_ble_eq_true rfl) rfl (gPu.k ?_)
  exact g_zret E Rt dX13_isOpen_46 rfl (zb_nar) (by decide) (by decide) (⟨rfl, rfl⟩)
set_option maxHeartbeats 400000 in
theorem ct_X13_drawnFound (l : Launch) {g : gWM} {mb : Nat} {B : gBar} {R : Nat → Int32} {d : Int32} {th tr wh fa : Int32} {tp ac mk : Nat} {sd : Nat} (t : Nat) (hw : wfB B) (hM : pMq g (.ref mb) th tr wh tp fa ac mk [(27, nI sd)]) (hMb : pMb g mb B) (hR : pRw g 2003 B R d) (ht : t < B 0 1) (hsd : sd < 65537) (h9 : 10000 ≤ mb) : gCt l yX13_drawnFound cX13_drawnFound 4 (some .int) 4 0 0 92 [.ref 2000, .int (nI t)] g (gPi (zDr B R t d sd (B 0 3)).1 (fun g1 => pMq g1 (.ref mb) th tr wh tp fa ac mk [(27, nI (zDr B R t d sd (B 0 3)).2)] ∧ ∀ j, j ≠ 2000 → g1 j = g j)) := by
  refine gCt.of RX13 (by decide) rfl (lo := [some (.ref 2000), some (.int (nI t)), none, none]) 2 rfl (Nat.le_of_ble_eq_true rfl) (fun z E Rt => ?_)
  have hw_n := hw.1
  have hM_o := hM
  obtain ⟨hM_F, hM_a, hM_0, hM_1, hM_2, hM_3, hM_5, hM_6, hM_12, hM_15, hM_16, hM_17, hM_18, hM_19, hM_20, hM_26, hM_28, hM_29, hM_27, -⟩ := hM_o
  have hMb_o := hMb
  obtain ⟨⟨hMb_F, hMb_a, hMb_0, hMb_1, hMb_2, hMb_3, hMb_4, hMb_5, hMb_6, hMb_7, hMb_8, hMb_9, hMb_11, hMb_12, hMb_13, hMb_14, hMb_15, hMb_16, hMb_17, hMb_18, hMb_19, hMb_20, hMb_21, hMb_22, hMb_23, hMb_24, hMb_25, hMb_26, hMb_27, hMb_28, hMb_29, hMb_30, hMb_31⟩, ⟨hMb_f1, hMb_a1, hMb_b1⟩, ⟨hMb_f2, hMb_a2, hMb_b2⟩, ⟨hMb_f3, hMb_a3, hMb_b3⟩, ⟨hMb_f4, hMb_a4, hMb_b4⟩, ⟨hMb_f5, hMb_a5, hMb_b5⟩, ⟨hMb_f6, hMb_a6, hMb_b6⟩, ⟨hMb_f7, hMb_a7, hMb_b7⟩, ⟨hMb_f8, hMb_a8, hMb_b8⟩, ⟨hMb_f9, hMb_a9, hMb_b9⟩, ⟨hMb_f10, hMb_a10, hMb_b10⟩, ⟨hMb_f11, hMb_a11, hMb_b11⟩, ⟨hMb_f12, hMb_a12, hMb_b12⟩, ⟨hMb_f13, hMb_a13, hMb_b13⟩, ⟨hMb_f14, hMb_a14, hMb_b14⟩, ⟨hMb_f15, hMb_a15, hMb_b15⟩, ⟨hMb_f16, hMb_a16, hMb_b16⟩, ⟨hMb_f17, hMb_a17, hMb_b17⟩, ⟨hMb_f18, hMb_a18, hMb_b18⟩, ⟨hMb_f19, hMb_a19, hMb_b19⟩, ⟨hMb_f20, hMb_a20, hMb_b20⟩, ⟨hMb_f21, hMb_a21, hMb_b21⟩⟩ := hMb_o
  have hR_o := hR
  obtain ⟨hR_f, hR_a, hR_r, hR_d⟩ := hR_o
  refine g_iconst E (v := 0) dX13_drawnFound_0 (by decide) rfl ?_
  refine g_istore_n E dX13_drawnFound_1 rfl (by decide) rfl (lo1 := [some (.ref 2000), some (.int (nI t)), some (.int 0), none]) rfl rfl ?_
  refine g_iconst E (v := 0) dX13_drawnFound_2 (by decide) rfl ?_
  refine g_istore_n E dX13_drawnFound_3 rfl (by decide) rfl (lo1 := [some (.ref 2000), some (.int (nI t)), some (.int 0), some (.int 0)]) rfl rfl ?_
  have lp4 : ∀ (r9 : Nat) (k : Nat) (gw : gWM), (k ≤ B 0 3) → (B 0 3 - k < r9) → (pMq gw (.ref mb) th tr wh tp fa ac mk [(27, nI (zDr B R t d sd k).2)]) → (∀ j, j ≠ 2000 → gw j = g j) → gV z gw 0 0 4 [some (.ref 2000), some (.int (nI t)), some (.int ((zDr B R t d sd k).1)), some (.int (nI k))] [] := by
    intro r9
    induction r9 with
    | zero => intro k gw hk hm hMw hfw; exact absurd hm (Nat.not_lt_zero _)
    | succ r9 ih4 =>
      intro k gw hk hm hMw hfw
      have hMw_o := hMw
      obtain ⟨hMw_F, hMw_a, hMw_0, hMw_1, hMw_2, hMw_3, hMw_5, hMw_6, hMw_12, hMw_15, hMw_16, hMw_17, hMw_18, hMw_19, hMw_20, hMw_26, hMw_28, hMw_29, hMw_27, -⟩ := hMw_o
      have hsl := zDr_lt (B := B) (R := R) (t := t) (d := d) hsd k
      refine g_iload_n E dX13_drawnFound_4 rfl rfl rfl ?_
      refine g_aload_n E dX13_drawnFound_5 rfl rfl rfl ?_
      refine g_getf E gciX13 dX13_drawnFound_6 hMw_a 3 rfl (by decide) q1743 (.inl rfl) (.ref mb) (hMw_3) rfl ?_
      have x1 := (hfw (mb) (by omega)).trans (hMb_a)
      refine g_getfN E gciX27 dX13_drawnFound_9 x1 5 rfl (by decide) q1862 (.inl rfl) (.int (nI (B 0 3))) (hMb_5) rfl ?_
      refine g_icmp_ge E dX13_drawnFound_12 (tgt := 101) (by decide) rfl (fun c12 => ?_) (fun c12 => ?_)
      · have c12 := (nI_leI (a := B 0 3) (b := k) (by omega) (by omega)).mp c12
        obtain rfl : k = B 0 3 := by omega
        refine g_iload_n E dX13_drawnFound_101 rfl rfl rfl ?_
        exact g_iret E Rt dX13_drawnFound_102 rfl (by decide) (by decide) (⟨rfl, ⟨_, hMw_a, hMw_0, hMw_1, hMw_2, hMw_3, hMw_5, hMw_6, hMw_12, hMw_15, hMw_16, hMw_17, hMw_18, hMw_19, hMw_20, hMw_26, hMw_28, hMw_29, hMw_27, trivial⟩, fun j9 h9 => hfw j9 (by omega)⟩)
      · have c12 := mt (nI_leI (a := B 0 3) (b := k) (by omega) (by omega)).mpr c12
        refine g_aload_n E dX13_drawnFound_15 rfl rfl rfl ?_
        refine g_aload_n E dX13_drawnFound_16 rfl rfl rfl ?_
        refine g_getf E gciX13 dX13_drawnFound_17 hMw_a 16 rfl (by decide) q1756 (.inl rfl) (.ref 2003) (hMw_16) rfl ?_
        refine g_iload_n E dX13_drawnFound_20 rfl rfl rfl ?_
        refine g_iload_n E dX13_drawnFound_21 rfl rfl rfl ?_
        have hM2 : pMq gw (.ref mb) th tr wh tp fa ac mk [] := ⟨_, hMw_a, hMw_0, hMw_1, hMw_2, hMw_3, hMw_5, hMw_6, hMw_12, hMw_15, hMw_16, hMw_17, hMw_18, hMw_19, hMw_20, hMw_26, hMw_28, hMw_29, trivial⟩
        have y3 := (hMb.fr  (fun j9 a9 b9 => hfw j9 (by omega)))
        have y4 := (hR.fr  (fun j9 a9 b9 => hfw j9 (by omega)))
        refine g_callV (k := 2000) (n9 := 3) (av := [.ref 2003, .int (nI t), .int (nI k)]) (st := []) E (ct_X13_hasIn l t k hw hM2 y3 y4 (by omega) (by omega)) gciX13 dX13_drawnFound_22 hMw_a q2217 q2219 qs85 q135 q2220 (by decide +kernel) rfl rfl ⟨by decide, by decide⟩ ⟨by decide, by decide⟩ (Nat.le_of_ble_eq_true rfl) rfl (gPu.k ?_)
        refine g_if_eq E dX13_drawnFound_25 (tgt := 95) (by decide) rfl (fun c25 => ?_) (fun c25 => ?_)
        · have c25 := zb_0.mp c25
          refine g_lo (lo1 := [some (.ref 2000), some (.int (nI t)), some (.int ((zDr B R t d sd (k + 1)).1)), some (.int (nI k))]) (by rw [zDr_f (by simp [c25])]) ?_
          refine g_iinc E dX13_drawnFound_95 rfl (v := nI (k + 1)) (nI_c _) (by decide) rfl (lo1 := [some (.ref 2000), some (.int (nI t)), some (.int ((zDr B R t d sd (k + 1)).1)), some (.int (nI (k + 1)))]) rfl rfl ?_
          refine g_goto E dX13_drawnFound_98 (tgt := 4) (by decide) ?_
          exact ih4 (k + 1) gw (by omega) (by omega) (by rw [zDr_f (by simp [c25])]; exact ⟨_, hMw_a, hMw_0, hMw_1, hMw_2, hMw_3, hMw_5, hMw_6, hMw_12, hMw_15, hMw_16, hMw_17, hMw_18, hMw_19, hMw_20, hMw_26, hMw_28, hMw_29, hMw_27, trivial⟩) (fun j9 h9 => hfw j9 (by omega))
        · have c25 := zb_n0.mp c25
          refine g_aload_n E dX13_drawnFound_28 rfl rfl rfl ?_
          refine g_aload_n E dX13_drawnFound_29 rfl rfl rfl ?_
          refine g_getf E gciX13 dX13_drawnFound_30 hMw_a 16 rfl (by decide) q1756 (.inl rfl) (.ref 2003) (hMw_16) rfl ?_
          refine g_iload_n E dX13_drawnFound_33 rfl rfl rfl ?_
          refine g_callV (k := 2000) (n9 := 2) (av := [.ref 2003, .int (nI k)]) (st := []) E (ct_X13_isHiddenIn l k hw hM2 y3 y4 (by omega)) gciX13 dX13_drawnFound_34 hMw_a q2201 q2203 qs82 q135 q2204 (by decide +kernel) rfl rfl ⟨by decide, by decide⟩ ⟨by decide, by decide⟩ (Nat.le_of_ble_eq_true rfl) rfl (gPu.k ?_)
          refine g_if_ne E dX13_drawnFound_37 (tgt := 43) (by decide) rfl (fun c37 => ?_) (fun c37 => ?_)
          · have c37 := zb_n0.mp c37
            refine g_aload_n E dX13_drawnFound_43 rfl rfl rfl ?_
            refine g_ldc2 E 75 dX13_drawnFound_44 q2428 rfl ?_
            refine g_aload_n E dX13_drawnFound_47 rfl rfl rfl ?_
            refine g_getf E gciX13 dX13_drawnFound_48 hMw_a 27 rfl (by decide) q1767 (.inl rfl) (.int (nI (zDr B R t d sd k).2)) (hMw_27) rfl ?_
            refine g_i2l E dX13_drawnFound_51 rfl ?_
            refine g_asl (y := lN (zDr B R t d sd k).2) (nI_l (by omega)) ?_
            refine g_lmul E dX13_drawnFound_52 rfl ?_
            refine g_asl (y := lN (75 * (zDr B R t d sd k).2)) (lN_mul 75 _) ?_
            refine g_ldc2 E 74 dX13_drawnFound_53 q2429 rfl ?_
            refine g_ladd E dX13_drawnFound_56 rfl ?_
            refine g_asl (y := lN (75 * (zDr B R t d sd k).2 + 74)) (lN_add _ 74) ?_
            refine g_ldc2 E 65537 dX13_drawnFound_57 q2430 rfl ?_
            refine g_lrem E dX13_drawnFound_60 (by decide) rfl ?_
            refine g_asl (y := lN (zNx (zDr B R t d sd k).2)) (zNx_l hsl) ?_
            refine g_l2i E dX13_drawnFound_61 rfl ?_
            refine g_as (y := nI (zNx (zDr B R t d sd k).2)) (lN_i _) ?_
            refine g_putf E gciX13 (v := .int (nI (zNx (zDr B R t d sd k).2))) dX13_drawnFound_62 hMw_a 27 rfl (by decide) q1767 (.inl rfl) rfl (fun _ => rfl) (fun _ => rfl) rfl (g_upk (fun g5 h5 f5 => ?_))
            refine g_iload_n E dX13_drawnFound_65 rfl rfl rfl ?_
            refine g_aload_n E dX13_drawnFound_66 rfl rfl rfl ?_
            refine g_getf E gciX13 dX13_drawnFound_67 h5 27 rfl (by decide) q1767 (.inl rfl) (.int (nI (zNx (zDr B R t d sd k).2))) (rfl) rfl ?_
            refine g_bipush E (v := 100) dX13_drawnFound_70 (by decide) rfl ?_
            refine g_irem E dX13_drawnFound_72 (by decide) rfl ?_
            refine g_as (y := nI (zNx (zDr B R t d sd k).2 % 100)) (pk_rem (by have := Nat.mod_lt (75 * (zDr B R t d sd k).2 + 74) (show 0 < 65537 by decide); unfold zNx; omega) (by decide) (by decide)) ?_
            refine g_aload_n E dX13_drawnFound_73 rfl rfl rfl ?_
            refine g_aload_n E dX13_drawnFound_74 rfl rfl rfl ?_
            refine g_getf E gciX13 dX13_drawnFound_75 h5 16 rfl (by decide) q1756 (.inl rfl) (.ref 2003) (hMw_16) rfl ?_
            refine g_iload_n E dX13_drawnFound_78 rfl rfl rfl ?_
            refine g_iconst E (v := 0) dX13_drawnFound_79 (by decide) rfl ?_
            have hM6 : pMq g5 (.ref mb) th tr wh tp fa ac mk [] := ⟨_, h5, hMw_0, hMw_1, hMw_2, hMw_3, hMw_5, hMw_6, hMw_12, hMw_15, hMw_16, hMw_17, hMw_18, hMw_19, hMw_20, hMw_26, hMw_28, hMw_29, trivial⟩
            have y7 := (y3.fr  (fun j9 a9 b9 => f5 j9 (by omega)))
            have y8 := (y4.fr  (fun j9 a9 b9 => f5 j9 (by omega)))
            refine g_callV (k := 2000) (n9 := 3) (av := [.ref 2003, .int (nI k), .int 0]) (st := [.int (nI (zNx (zDr B R t d sd k).2 % 100)), .int ((zDr B R t d sd k).1)]) E (ct_X13_smellIn l k 0 hw hM6 y7 y8 (by omega)) gciX13 dX13_drawnFound_80 h5 q2273 q2275 qs93 q135 q2276 (by decide +kernel) rfl rfl ⟨by decide, by decide⟩ ⟨by decide, by decide⟩ (Nat.le_of_ble_eq_true rfl) rfl (gPu.k ?_)
            refine g_icmp_ge E dX13_drawnFound_83 (tgt := 92) (by decide) rfl (fun c83 => ?_) (fun c83 => ?_)
            · refine g_iconst E (v := 0) dX13_drawnFound_92 (by decide) rfl ?_
              refine g_ior E dX13_drawnFound_93 rfl ?_
              refine g_as (y := (zDr B R t d sd (k + 1)).1) (by rw [zDr_t c25 c37]; simp [c83]) ?_
              refine g_istore_n E dX13_drawnFound_94 rfl (by decide) rfl (lo1 := [some (.ref 2000), some (.int (nI t)), some (.int ((zDr B R t d sd (k + 1)).1)), some (.int (nI k))]) rfl rfl ?_
              refine g_iinc E dX13_drawnFound_95 rfl (v := nI (k + 1)) (nI_c _) (by decide) rfl (lo1 := [some (.ref 2000), some (.int (nI t)), some (.int ((zDr B R t d sd (k + 1)).1)), some (.int (nI (k + 1)))]) rfl rfl ?_
              refine g_goto E dX13_drawnFound_98 (tgt := 4) (by decide) ?_
              exact ih4 (k + 1) g5 (by omega) (by omega) (by rw [zDr_t c25 c37]; exact ⟨_, h5, hMw_0, hMw_1, hMw_2, hMw_3, hMw_5, hMw_6, hMw_12, hMw_15, hMw_16, hMw_17, hMw_18, hMw_19, hMw_20, hMw_26, hMw_28, hMw_29, rfl, trivial⟩) (fun j9 h9 => (f5 j9 (by omega)).trans (hfw j9 (by omega)))
            · refine g_iconst E (v := 1) dX13_drawnFound_86 (by decide) rfl ?_
              refine g_iload_n E dX13_drawnFound_87 rfl rfl rfl ?_
              refine g_ishl E dX13_drawnFound_88 rfl ?_
              refine g_goto E dX13_drawnFound_89 (tgt := 93) (by decide) ?_
              refine g_ior E dX13_drawnFound_93 rfl ?_
              refine g_as (y := (zDr B R t d sd (k + 1)).1) (by rw [zDr_t c25 c37]; simp [c83]) ?_
              refine g_istore_n E dX13_drawnFound_94 rfl (by decide) rfl (lo1 := [some (.ref 2000), some (.int (nI t)), some (.int ((zDr B R t d sd (k + 1)).1)), some (.int (nI k))]) rfl rfl ?_
              refine g_iinc E dX13_drawnFound_95 rfl (v := nI (k + 1)) (nI_c _) (by decide) rfl (lo1 := [some (.ref 2000), some (.int (nI t)), some (.int ((zDr B R t d sd (k + 1)).1)), some (.int (nI (k + 1)))]) rfl rfl ?_
              refine g_goto E dX13_drawnFound_98 (tgt := 4) (by decide) ?_
              exact ih4 (k + 1) g5 (by omega) (by omega) (by rw [zDr_t c25 c37]; exact ⟨_, h5, hMw_0, hMw_1, hMw_2, hMw_3, hMw_5, hMw_6, hMw_12, hMw_15, hMw_16, hMw_17, hMw_18, hMw_19, hMw_20, hMw_26, hMw_28, hMw_29, rfl, trivial⟩) (fun j9 h9 => (f5 j9 (by omega)).trans (hfw j9 (by omega)))
          · have c37 := zb_0.mp c37
            refine g_goto E dX13_drawnFound_40 (tgt := 95) (by decide) ?_
            refine g_lo (lo1 := [some (.ref 2000), some (.int (nI t)), some (.int ((zDr B R t d sd (k + 1)).1)), some (.int (nI k))]) (by rw [zDr_f (by simp [c25, c37])]) ?_
            refine g_iinc E dX13_drawnFound_95 rfl (v := nI (k + 1)) (nI_c _) (by decide) rfl (lo1 := [some (.ref 2000), some (.int (nI t)), some (.int ((zDr B R t d sd (k + 1)).1)), some (.int (nI (k + 1)))]) rfl rfl ?_
            refine g_goto E dX13_drawnFound_98 (tgt := 4) (by decide) ?_
            exact ih4 (k + 1) gw (by omega) (by omega) (by rw [zDr_f (by simp [c25, c37])]; exact ⟨_, hMw_a, hMw_0, hMw_1, hMw_2, hMw_3, hMw_5, hMw_6, hMw_12, hMw_15, hMw_16, hMw_17, hMw_18, hMw_19, hMw_20, hMw_26, hMw_28, hMw_29, hMw_27, trivial⟩) (fun j9 h9 => hfw j9 (by omega))
  exact lp4 (B 0 3 + 1) 0 g (Nat.zero_le _) (by omega) hM (fun j9 h9 => rfl)
set_option maxHeartbeats 2000000 in
theorem ct_X13_plans_false (l : Launch) {g : gWM} {mb : Nat} {B : gBar}  {th tr wh fa : Int32} {tp ac mk : Nat} (hw : wfB B) (hM : pMq g (.ref mb) th tr wh tp fa ac mk []) (hMb : pMb g mb B) (hX : pIx g 2003 18) (hRq : pIx g 2006 6) (h9 : 10000 ≤ mb) : gCt l yX13_plans cX13_plans 5 (some .int) 5 0 0 119 [.ref 2000, .int 0] g (gPi (zPl B false 0 (B 0 4)).2.2 (fun g1 => pMq g1 (.ref mb) th tr wh tp fa ac mk [] ∧ (∃ dd, pRw g1 2003 B (zPl B false 0 (B 0 4)).1 dd) ∧ (∃ f, g1 2006 = some (.inl (0, 6, .inl f)) ∧ ∀ i, i < B 0 4 → f i = zRs B false 0 i) ∧ ∀ j, (j ≠ 2000 ∧ j ≠ 2003 ∧ j ≠ 2006) → g1 j = g j)) := by
  refine gCt.of RX13 (by decide) rfl (lo := [some (.ref 2000), some (.int 0), none, none, none]) 3 rfl (Nat.le_of_ble_eq_true rfl) (fun z E Rt => ?_)
  have hw_n := hw.1
  have hM_o := hM
  obtain ⟨hM_F, hM_a, hM_0, hM_1, hM_2, hM_3, hM_5, hM_6, hM_12, hM_15, hM_16, hM_17, hM_18, hM_19, hM_20, hM_26, hM_28, hM_29, -⟩ := hM_o
  have hMb_o := hMb
  obtain ⟨⟨hMb_F, hMb_a, hMb_0, hMb_1, hMb_2, hMb_3, hMb_4, hMb_5, hMb_6, hMb_7, hMb_8, hMb_9, hMb_11, hMb_12, hMb_13, hMb_14, hMb_15, hMb_16, hMb_17, hMb_18, hMb_19, hMb_20, hMb_21, hMb_22, hMb_23, hMb_24, hMb_25, hMb_26, hMb_27, hMb_28, hMb_29, hMb_30, hMb_31⟩, ⟨hMb_f1, hMb_a1, hMb_b1⟩, ⟨hMb_f2, hMb_a2, hMb_b2⟩, ⟨hMb_f3, hMb_a3, hMb_b3⟩, ⟨hMb_f4, hMb_a4, hMb_b4⟩, ⟨hMb_f5, hMb_a5, hMb_b5⟩, ⟨hMb_f6, hMb_a6, hMb_b6⟩, ⟨hMb_f7, hMb_a7, hMb_b7⟩, ⟨hMb_f8, hMb_a8, hMb_b8⟩, ⟨hMb_f9, hMb_a9, hMb_b9⟩, ⟨hMb_f10, hMb_a10, hMb_b10⟩, ⟨hMb_f11, hMb_a11, hMb_b11⟩, ⟨hMb_f12, hMb_a12, hMb_b12⟩, ⟨hMb_f13, hMb_a13, hMb_b13⟩, ⟨hMb_f14, hMb_a14, hMb_b14⟩, ⟨hMb_f15, hMb_a15, hMb_b15⟩, ⟨hMb_f16, hMb_a16, hMb_b16⟩, ⟨hMb_f17, hMb_a17, hMb_b17⟩, ⟨hMb_f18, hMb_a18, hMb_b18⟩, ⟨hMb_f19, hMb_a19, hMb_b19⟩, ⟨hMb_f20, hMb_a20, hMb_b20⟩, ⟨hMb_f21, hMb_a21, hMb_b21⟩⟩ := hMb_o
  have hX_o := hX
  obtain ⟨hX_f, hX_a⟩ := hX_o
  have hRq_o := hRq
  obtain ⟨hRq_f, hRq_a⟩ := hRq_o
  refine g_iconst E (v := 0) dX13_plans_0 (by decide) rfl ?_
  refine g_istore_n E dX13_plans_1 rfl (by decide) rfl (lo1 := [some (.ref 2000), some (.int 0), some (.int 0), none, none]) rfl rfl ?_
  refine g_aload_n E dX13_plans_2 rfl rfl rfl ?_
  refine g_aload_n E dX13_plans_3 rfl rfl rfl ?_
  refine g_getf E gciX13 dX13_plans_4 hM_a 16 rfl (by decide) q1756 (.inl rfl) (.ref 2003) (hM_16) rfl ?_
  have hM1 : pMq g (.ref mb) th tr wh tp fa ac mk [] := ⟨_, hM_a, hM_0, hM_1, hM_2, hM_3, hM_5, hM_6, hM_12, hM_15, hM_16, hM_17, hM_18, hM_19, hM_20, hM_26, hM_28, hM_29, trivial⟩
  refine g_callV (k := 2000) (n9 := 1) (av := [.ref 2003]) (st := []) E (ct_X13_starts l hw hM1 hMb (⟨_, hX_a⟩) (.inr rfl) (by omega)) gciX13 dX13_plans_7 hM_a q2177 q2179 qs79 q135 q2180 (by decide +kernel) rfl rfl ⟨by decide, by decide⟩ ⟨by decide, by decide⟩ (Nat.le_of_ble_eq_true rfl) rfl (gPn.k (fun g2 h2 => ?_))
  obtain ⟨hr2, f2⟩ := h2
  have hr2_o := hr2
  obtain ⟨hr2_f, hr2_a, hr2_r, hr2_d⟩ := hr2_o
  refine g_iconst E (v := 0) dX13_plans_10 (by decide) rfl ?_
  refine g_istore_n E dX13_plans_11 rfl (by decide) rfl (lo1 := [some (.ref 2000), some (.int 0), some (.int 0), some (.int 0), none]) rfl rfl ?_
  have lp12 : ∀ (r9 : Nat) (k : Nat) (gw : gWM) (dd : Int32), (k ≤ B 0 4) → (B 0 4 - k < r9) → (pMq gw (.ref mb) th tr wh tp fa ac mk []) → (pRw gw 2003 B (zPl B false 0 k).1 dd) → (∃ f, gw 2006 = some (.inl (0, 6, .inl f)) ∧ ∀ i, i < k → f i = zRs B false 0 i) → (∀ j, (j ≠ 2000 ∧ j ≠ 2003 ∧ j ≠ 2006) → gw j = g j) → gV z gw 0 0 12 [some (.ref 2000), some (.int 0), some (.int ((zPl B false 0 k).2.2)), some (.int (nI k)), none] [] := by
    intro r9
    induction r9 with
    | zero => intro k gw dd hk hm hMw hXw hRs hfw; exact absurd hm (Nat.not_lt_zero _)
    | succ r9 ih12 =>
      intro k gw dd hk hm hMw hXw hRs hfw
      have hMw_o := hMw
      obtain ⟨hMw_F, hMw_a, hMw_0, hMw_1, hMw_2, hMw_3, hMw_5, hMw_6, hMw_12, hMw_15, hMw_16, hMw_17, hMw_18, hMw_19, hMw_20, hMw_26, hMw_28, hMw_29, -⟩ := hMw_o
      have hXw_o := hXw
      obtain ⟨hXw_f, hXw_a, hXw_r, hXw_d⟩ := hXw_o
      obtain ⟨hRs_f, hRs_a, hRs_b⟩ := hRs
      refine g_iload_n E dX13_plans_12 rfl rfl rfl ?_
      refine g_aload_n E dX13_plans_13 rfl rfl rfl ?_
      refine g_getf E gciX13 dX13_plans_14 hMw_a 3 rfl (by decide) q1743 (.inl rfl) (.ref mb) (hMw_3) rfl ?_
      have x3 := (hfw (mb) (by omega)).trans (hMb_a)
      refine g_getfN E gciX27 dX13_plans_17 x3 6 rfl (by decide) q1863 (.inl rfl) (.int (nI (B 0 4))) (hMb_6) rfl ?_
      refine g_icmp_ge E dX13_plans_20 (tgt := 133) (by decide) rfl (fun c20 => ?_) (fun c20 => ?_)
      · have c20 := (nI_leI (a := B 0 4) (b := k) (by omega) (by omega)).mp c20
        obtain rfl : k = B 0 4 := by omega
        refine g_iload_n E dX13_plans_133 rfl rfl rfl ?_
        exact g_iret E Rt dX13_plans_134 rfl (by decide) (by decide) (⟨rfl, ⟨_, hMw_a, hMw_0, hMw_1, hMw_2, hMw_3, hMw_5, hMw_6, hMw_12, hMw_15, hMw_16, hMw_17, hMw_18, hMw_19, hMw_20, hMw_26, hMw_28, hMw_29, trivial⟩, ⟨dd, hXw⟩, ⟨_, hRs_a, hRs_b⟩, fun j9 h9 => hfw j9 (by omega)⟩)
      · have c20 := mt (nI_leI (a := B 0 4) (b := k) (by omega) (by omega)).mpr c20
        refine g_aload_n E dX13_plans_23 rfl rfl rfl ?_
        refine g_getf E gciX13 dX13_plans_24 hMw_a 26 rfl (by decide) q1766 (.inl rfl) (.ref 2006) (hMw_26) rfl ?_
        refine g_iload_n E dX13_plans_27 rfl rfl rfl ?_
        refine g_bipush E (v := (-2)) dX13_plans_28 (by decide) rfl ?_
        refine g_iast E dX13_plans_30 (j := k) hRs_a (rfl) (by omega) (by decide) rfl (g_upk (fun g4 h4 f4 => ?_))
        refine g_aload_n E dX13_plans_31 rfl rfl rfl ?_
        refine g_iload_n E dX13_plans_32 rfl rfl rfl ?_
        have x5 := (f4 (2000) (by omega)).trans (hMw_a)
        have hM6 : pMq g4 (.ref mb) th tr wh tp fa ac mk [] := ⟨_, x5, hMw_0, hMw_1, hMw_2, hMw_3, hMw_5, hMw_6, hMw_12, hMw_15, hMw_16, hMw_17, hMw_18, hMw_19, hMw_20, hMw_26, hMw_28, hMw_29, trivial⟩
        have y7 := ((hMb.fr  (fun j9 a9 b9 => hfw j9 (by omega))).fr  (fun j9 a9 b9 => f4 j9 (by omega)))
        refine g_callV (k := 2000) (n9 := 1) (av := [.int (nI k)]) (st := []) E (ct_X13_isOpen l k hw hM6 y7 (by omega)) gciX13 dX13_plans_33 x5 q2420 q2422 qs108 q135 q2423 (by decide +kernel) rfl rfl ⟨by decide, by decide⟩ ⟨by decide, by decide⟩ (Nat.le_of_ble_eq_true rfl) rfl (gPu.k ?_)
        refine g_if_ne E dX13_plans_36 (tgt := 42) (by decide) rfl (fun c36 => ?_) (fun c36 => ?_)
        · have c36 := zb_n0.mp c36
          have hcx := hw.cross (c := k) (by omega)
          refine g_aload_n E dX13_plans_42 rfl rfl rfl ?_
          refine g_getf E gciX13 dX13_plans_43 x5 3 rfl (by decide) q1743 (.inl rfl) (.ref mb) (hMw_3) rfl ?_
          have x8 := (f4 (mb) (by omega)).trans (x3)
          refine g_getfN E gciX27 dX13_plans_46 x8 26 rfl (by decide) q1900 (.inl rfl) (.ref (mb + 16)) (hMb_26) rfl ?_
          refine g_iload_n E dX13_plans_49 rfl rfl rfl ?_
          have x9 := (f4 (mb + 16) (by omega)).trans ((hfw (mb + 16) (by omega)).trans (hMb_a16))
          refine g_iald E dX13_plans_50 (j := k) x9 (rfl) (by omega) (by decide) (v := nI (B 19 k)) (hMb_b16 k (by omega)) rfl ?_
          refine g_istore E dX13_plans_51 (by decide) rfl (lo1 := [some (.ref 2000), some (.int 0), some (.int ((zPl B false 0 k).2.2)), some (.int (nI k)), some (.int (nI (B 19 k)))]) rfl rfl ?_
          refine g_aload_n E dX13_plans_53 rfl rfl rfl ?_
          refine g_getf E gciX13 dX13_plans_54 x5 16 rfl (by decide) q1756 (.inl rfl) (.ref 2003) (hMw_16) rfl ?_
          refine g_bipush E (v := 17) dX13_plans_57 (by decide) rfl ?_
          refine g_aload_n E dX13_plans_59 rfl rfl rfl ?_
          refine g_getf E gciX13 dX13_plans_60 x5 3 rfl (by decide) q1743 (.inl rfl) (.ref mb) (hMw_3) rfl ?_
          refine g_getfN E gciX27 dX13_plans_63 x8 28 rfl (by decide) q1904 (.inl rfl) (.ref (mb + 18)) (hMb_28) rfl ?_
          refine g_iload_n E dX13_plans_66 rfl rfl rfl ?_
          have x10 := (f4 (mb + 18) (by omega)).trans ((hfw (mb + 18) (by omega)).trans (hMb_a18))
          refine g_iald E dX13_plans_67 (j := k) x10 (rfl) (by omega) (by decide) (v := nI (B 21 k)) (hMb_b18 k (by omega)) rfl ?_
          have x11 := (f4 (2003) (by omega)).trans (hXw_a)
          refine g_iast E dX13_plans_68 (j := 17) x11 (rfl) (by omega) (by decide) rfl (g_upk (fun g12 h12 f12 => ?_))
          have hx13 : pRw g12 2003 B (zPl B false 0 k).1 (nI (B 21 k)) := ⟨_, h12, updD hw ⟨hXw_r, hXw_d⟩⟩
          have hx13_o := hx13
          obtain ⟨hx13_f, hx13_a, hx13_r, hx13_d⟩ := hx13_o
          refine g_aload_n E dX13_plans_69 rfl rfl rfl ?_
          have x14 := (f12 (2000) (by omega)).trans (x5)
          refine g_getf E gciX13 dX13_plans_70 x14 26 rfl (by decide) q1766 (.inl rfl) (.ref 2006) (hMw_26) rfl ?_
          refine g_iload_n E dX13_plans_73 rfl rfl rfl ?_
          refine g_aload_n E dX13_plans_74 rfl rfl rfl ?_
          refine g_aload_n E dX13_plans_75 rfl rfl rfl ?_
          refine g_getf E gciX13 dX13_plans_76 x14 16 rfl (by decide) q1756 (.inl rfl) (.ref 2003) (hMw_16) rfl ?_
          refine g_iload E dX13_plans_79 rfl rfl ?_
          refine g_iload_n E dX13_plans_81 rfl rfl rfl ?_
          refine g_if_eq E dX13_plans_82 (tgt := 94) (by decide) rfl (fun _ => ?_) (fun h9 => absurd h9 (by decide))
          refine g_aload_n E dX13_plans_94 rfl rfl rfl ?_
          refine g_aload_n E dX13_plans_95 rfl rfl rfl ?_
          refine g_getf E gciX13 dX13_plans_96 x14 16 rfl (by decide) q1756 (.inl rfl) (.ref 2003) (hMw_16) rfl ?_
          refine g_iload E dX13_plans_99 rfl rfl ?_
          refine g_aload_n E dX13_plans_101 rfl rfl rfl ?_
          refine g_getf E gciX13 dX13_plans_102 x14 3 rfl (by decide) q1743 (.inl rfl) (.ref mb) (hMw_3) rfl ?_
          have x15 := (f12 (mb) (by omega)).trans (x8)
          refine g_getfN E gciX27 dX13_plans_105 x15 27 rfl (by decide) q1902 (.inl rfl) (.ref (mb + 17)) (hMb_27) rfl ?_
          refine g_iload_n E dX13_plans_108 rfl rfl rfl ?_
          have x16 := (f12 (mb + 17) (by omega)).trans ((f4 (mb + 17) (by omega)).trans ((hfw (mb + 17) (by omega)).trans (hMb_a17)))
          refine g_iald E dX13_plans_109 (j := k) x16 (rfl) (by omega) (by decide) (v := nI (B 20 k)) (hMb_b17 k (by omega)) rfl ?_
          refine g_iconst E (v := 0) dX13_plans_110 (by decide) rfl ?_
          have hM17 : pMq g12 (.ref mb) th tr wh tp fa ac mk [] := ⟨_, x14, hMw_0, hMw_1, hMw_2, hMw_3, hMw_5, hMw_6, hMw_12, hMw_15, hMw_16, hMw_17, hMw_18, hMw_19, hMw_20, hMw_26, hMw_28, hMw_29, trivial⟩
          have y18 := (y7.fr  (fun j9 a9 b9 => f12 j9 (by omega)))
          refine g_callV (k := 2000) (n9 := 4) (av := [.ref 2003, .int (nI (B 19 k)), .int (nI (B 20 k)), .int 0]) (st := [.int (nI (B 19 k)), .ref 2003, .ref 2000, .int (nI k), .ref 2006]) E (ct_X13_foundIn l (B 19 k) (B 20 k) 0 hw hM17 y18 hx13 (by omega) (by omega)) gciX13 dX13_plans_111 x14 q2293 q2295 qs96 q135 q2296 (by decide +kernel) rfl rfl ⟨by decide, by decide⟩ ⟨by decide, by decide⟩ (Nat.le_of_ble_eq_true rfl) rfl (gPu.k ?_)
          refine g_callV (k := 2000) (n9 := 3) (av := [.ref 2003, .int (nI (B 19 k)), .int (zFou B ((zPl B false 0 k).1) (B 19 k) (B 20 k) (nI (B 21 k)) 0)]) (st := [.int (nI k), .ref 2006]) E (ct_X13_crosses l (B 19 k) (zFou B ((zPl B false 0 k).1) (B 19 k) (B 20 k) (nI (B 21 k)) 0) hw hM17 y18 hx13 (by omega) (zFok_fou hw) (.inr rfl) (by omega)) gciX13 dX13_plans_114 x14 q2431 q2433 qs110 q135 q2434 (by decide +kernel) rfl rfl ⟨by decide, by decide⟩ ⟨by decide, by decide⟩ (Nat.le_of_ble_eq_true rfl) rfl (gPi.k (fun g19 h19 => ?_))
          obtain ⟨hr19, f19⟩ := h19
          have hr19_o := hr19
          obtain ⟨hr19_f, hr19_a, hr19_r, hr19_d⟩ := hr19_o
          have x20 := (f19 (2006) (by omega)).trans ((f12 (2006) (by omega)).trans (h4))
          refine g_iast E dX13_plans_117 (j := k) x20 (rfl) (by omega) (by decide) rfl (g_upk (fun g21 h21 f21 => ?_))
          refine g_iload_n E dX13_plans_118 rfl rfl rfl ?_
          refine g_aload_n E dX13_plans_119 rfl rfl rfl ?_
          have x22 := (f21 (2000) (by omega)).trans ((f19 (2000) (by omega)).trans (x14))
          refine g_getf E gciX13 dX13_plans_120 x22 26 rfl (by decide) q1766 (.inl rfl) (.ref 2006) (hMw_26) rfl ?_
          refine g_iload_n E dX13_plans_123 rfl rfl rfl ?_
          refine g_iald E dX13_plans_124 (j := k) h21 (rfl) (by omega) (by decide) (v := zAsk B ((zPl B false 0 k).1) (B 19 k) (zFou B ((zPl B false 0 k).1) (B 19 k) (B 20 k) (nI (B 21 k)) 0) 1 (nI (B 21 k))) (upd_s) rfl ?_
          refine g_iadd E dX13_plans_125 rfl ?_
          refine g_as (y := (zPl B false 0 (k + 1)).2.2) (by rw [zPl_y hw (by omega) c36]; rfl) ?_
          refine g_istore_n E dX13_plans_126 rfl (by decide) rfl (lo1 := [some (.ref 2000), some (.int 0), some (.int ((zPl B false 0 (k + 1)).2.2)), some (.int (nI k)), some (.int (nI (B 19 k)))]) rfl rfl ?_
          refine g_iinc E dX13_plans_127 rfl (v := nI (k + 1)) (nI_c _) (by decide) rfl (lo1 := [some (.ref 2000), some (.int 0), some (.int ((zPl B false 0 (k + 1)).2.2)), some (.int (nI (k + 1))), some (.int (nI (B 19 k)))]) rfl rfl ?_
          refine g_goto E dX13_plans_130 (tgt := 12) (by decide) ?_
          have y23 := (hr19.fr  (fun j9 a9 b9 => f21 j9 (by omega)))
          exact g_les (lo1 := [some (.ref 2000), some (.int 0), some (.int ((zPl B false 0 (k + 1)).2.2)), some (.int (nI (k + 1))), none]) (⟨rfl, rfl, rfl, rfl, trivial⟩) (ih12 (k + 1) g21 (nI (B 21 k)) (by omega) (by omega) (⟨_, x22, hMw_0, hMw_1, hMw_2, hMw_3, hMw_5, hMw_6, hMw_12, hMw_15, hMw_16, hMw_17, hMw_18, hMw_19, hMw_20, hMw_26, hMw_28, hMw_29, trivial⟩) (by rw [zPl_y hw (by omega) c36]; exact y23) ⟨_, h21, updS (v := zAsk B ((zPl B false 0 k).1) (B 19 k) (zFou B ((zPl B false 0 k).1) (B 19 k) (B 20 k) (nI (B 21 k)) 0) 1 (nI (B 21 k))) (updK hRs_b) (by rw [← zRs_y c36]; rfl)⟩ (fun j9 h9 => ((((f21 j9 (by omega)).trans (f19 j9 (by omega))).trans (f12 j9 (by omega))).trans (f4 j9 (by omega))).trans (hfw j9 (by omega))))
        · have c36 := zb_0.mp c36
          refine g_goto E dX13_plans_39 (tgt := 127) (by decide) ?_
          refine g_lo (lo1 := [some (.ref 2000), some (.int 0), some (.int ((zPl B false 0 (k + 1)).2.2)), some (.int (nI k)), none]) (by rw [zPl_n c36]) ?_
          refine g_iinc E dX13_plans_127 rfl (v := nI (k + 1)) (nI_c _) (by decide) rfl (lo1 := [some (.ref 2000), some (.int 0), some (.int ((zPl B false 0 (k + 1)).2.2)), some (.int (nI (k + 1))), none]) rfl rfl ?_
          refine g_goto E dX13_plans_130 (tgt := 12) (by decide) ?_
          have y24 := (hXw.fr  (fun j9 a9 b9 => f4 j9 (by omega)))
          exact ih12 (k + 1) g4 dd (by omega) (by omega) (⟨_, x5, hMw_0, hMw_1, hMw_2, hMw_3, hMw_5, hMw_6, hMw_12, hMw_15, hMw_16, hMw_17, hMw_18, hMw_19, hMw_20, hMw_26, hMw_28, hMw_29, trivial⟩) (by rw [zPl_n c36]; exact y24) ⟨_, h4, updS hRs_b (zRs_n c36)⟩ (fun j9 h9 => (f4 j9 (by omega)).trans (hfw j9 (by omega)))
  have x25 := (f2 (2000) (by omega)).trans (hM_a)
  have x26 := (f2 (2006) (by omega)).trans (hRq_a)
  exact lp12 (B 0 4 + 1) 0 g2 0 (Nat.zero_le _) (by omega) (⟨_, x25, hM_0, hM_1, hM_2, hM_3, hM_5, hM_6, hM_12, hM_15, hM_16, hM_17, hM_18, hM_19, hM_20, hM_26, hM_28, hM_29, trivial⟩) hr2 ⟨_, x26, fun i9 h9 => absurd h9 (Nat.not_lt_zero i9)⟩ (fun j9 h9 => f2 j9 (by omega))
set_option maxHeartbeats 2000000 in
theorem ct_X13_plans_true (l : Launch) {g : gWM} {mb : Nat} {B : gBar}  {th tr wh fa : Int32} {tp ac mk : Nat} {sd : Nat} (hw : wfB B) (hM : pMq g (.ref mb) th tr wh tp fa ac mk [(27, nI sd)]) (hMb : pMb g mb B) (hX : pIx g 2003 18) (hRq : pIx g 2006 6) (h9 : 10000 ≤ mb) (hsd : sd < 65537) : gCt l yX13_plans cX13_plans 5 (some .int) 5 0 0 119 [.ref 2000, .int 1] g (gPi (zPl B true sd (B 0 4)).2.2 (fun g1 => pMq g1 (.ref mb) th tr wh tp fa ac mk [(27, nI (zPl B true sd (B 0 4)).2.1)] ∧ (∃ dd, pRw g1 2003 B (zPl B true sd (B 0 4)).1 dd) ∧ (∃ f, g1 2006 = some (.inl (0, 6, .inl f)) ∧ ∀ i, i < B 0 4 → f i = zRs B true sd i) ∧ ∀ j, (j ≠ 2000 ∧ j ≠ 2003 ∧ j ≠ 2006) → g1 j = g j)) := by
  refine gCt.of RX13 (by decide) rfl (lo := [some (.ref 2000), some (.int 1), none, none, none]) 3 rfl (Nat.le_of_ble_eq_true rfl) (fun z E Rt => ?_)
  have hw_n := hw.1
  have hM_o := hM
  obtain ⟨hM_F, hM_a, hM_0, hM_1, hM_2, hM_3, hM_5, hM_6, hM_12, hM_15, hM_16, hM_17, hM_18, hM_19, hM_20, hM_26, hM_28, hM_29, hM_27, -⟩ := hM_o
  have hMb_o := hMb
  obtain ⟨⟨hMb_F, hMb_a, hMb_0, hMb_1, hMb_2, hMb_3, hMb_4, hMb_5, hMb_6, hMb_7, hMb_8, hMb_9, hMb_11, hMb_12, hMb_13, hMb_14, hMb_15, hMb_16, hMb_17, hMb_18, hMb_19, hMb_20, hMb_21, hMb_22, hMb_23, hMb_24, hMb_25, hMb_26, hMb_27, hMb_28, hMb_29, hMb_30, hMb_31⟩, ⟨hMb_f1, hMb_a1, hMb_b1⟩, ⟨hMb_f2, hMb_a2, hMb_b2⟩, ⟨hMb_f3, hMb_a3, hMb_b3⟩, ⟨hMb_f4, hMb_a4, hMb_b4⟩, ⟨hMb_f5, hMb_a5, hMb_b5⟩, ⟨hMb_f6, hMb_a6, hMb_b6⟩, ⟨hMb_f7, hMb_a7, hMb_b7⟩, ⟨hMb_f8, hMb_a8, hMb_b8⟩, ⟨hMb_f9, hMb_a9, hMb_b9⟩, ⟨hMb_f10, hMb_a10, hMb_b10⟩, ⟨hMb_f11, hMb_a11, hMb_b11⟩, ⟨hMb_f12, hMb_a12, hMb_b12⟩, ⟨hMb_f13, hMb_a13, hMb_b13⟩, ⟨hMb_f14, hMb_a14, hMb_b14⟩, ⟨hMb_f15, hMb_a15, hMb_b15⟩, ⟨hMb_f16, hMb_a16, hMb_b16⟩, ⟨hMb_f17, hMb_a17, hMb_b17⟩, ⟨hMb_f18, hMb_a18, hMb_b18⟩, ⟨hMb_f19, hMb_a19, hMb_b19⟩, ⟨hMb_f20, hMb_a20, hMb_b20⟩, ⟨hMb_f21, hMb_a21, hMb_b21⟩⟩ := hMb_o
  have hX_o := hX
  obtain ⟨hX_f, hX_a⟩ := hX_o
  have hRq_o := hRq
  obtain ⟨hRq_f, hRq_a⟩ := hRq_o
  refine g_iconst E (v := 0) dX13_plans_0 (by decide) rfl ?_
  refine g_istore_n E dX13_plans_1 rfl (by decide) rfl (lo1 := [some (.ref 2000), some (.int 1), some (.int 0), none, none]) rfl rfl ?_
  refine g_aload_n E dX13_plans_2 rfl rfl rfl ?_
  refine g_aload_n E dX13_plans_3 rfl rfl rfl ?_
  refine g_getf E gciX13 dX13_plans_4 hM_a 16 rfl (by decide) q1756 (.inl rfl) (.ref 2003) (hM_16) rfl ?_
  have hM1 : pMq g (.ref mb) th tr wh tp fa ac mk [] := ⟨_, hM_a, hM_0, hM_1, hM_2, hM_3, hM_5, hM_6, hM_12, hM_15, hM_16, hM_17, hM_18, hM_19, hM_20, hM_26, hM_28, hM_29, trivial⟩
  refine g_callV (k := 2000) (n9 := 1) (av := [.ref 2003]) (st := []) E (ct_X13_starts l hw hM1 hMb (⟨_, hX_a⟩) (.inr rfl) (by omega)) gciX13 dX13_plans_7 hM_a q2177 q2179 qs79 q135 q2180 (by decide +kernel) rfl rfl ⟨by decide, by decide⟩ ⟨by decide, by decide⟩ (Nat.le_of_ble_eq_true rfl) rfl (gPn.k (fun g2 h2 => ?_))
  obtain ⟨hr2, f2⟩ := h2
  have hr2_o := hr2
  obtain ⟨hr2_f, hr2_a, hr2_r, hr2_d⟩ := hr2_o
  refine g_iconst E (v := 0) dX13_plans_10 (by decide) rfl ?_
  refine g_istore_n E dX13_plans_11 rfl (by decide) rfl (lo1 := [some (.ref 2000), some (.int 1), some (.int 0), some (.int 0), none]) rfl rfl ?_
  have lp12 : ∀ (r9 : Nat) (k : Nat) (gw : gWM) (dd : Int32), (k ≤ B 0 4) → (B 0 4 - k < r9) → (pMq gw (.ref mb) th tr wh tp fa ac mk [(27, nI (zPl B true sd k).2.1)]) → (pRw gw 2003 B (zPl B true sd k).1 dd) → (∃ f, gw 2006 = some (.inl (0, 6, .inl f)) ∧ ∀ i, i < k → f i = zRs B true sd i) → (∀ j, (j ≠ 2000 ∧ j ≠ 2003 ∧ j ≠ 2006) → gw j = g j) → gV z gw 0 0 12 [some (.ref 2000), some (.int 1), some (.int ((zPl B true sd k).2.2)), some (.int (nI k)), none] [] := by
    intro r9
    induction r9 with
    | zero => intro k gw dd hk hm hMw hXw hRs hfw; exact absurd hm (Nat.not_lt_zero _)
    | succ r9 ih12 =>
      intro k gw dd hk hm hMw hXw hRs hfw
      have hMw_o := hMw
      obtain ⟨hMw_F, hMw_a, hMw_0, hMw_1, hMw_2, hMw_3, hMw_5, hMw_6, hMw_12, hMw_15, hMw_16, hMw_17, hMw_18, hMw_19, hMw_20, hMw_26, hMw_28, hMw_29, hMw_27, -⟩ := hMw_o
      have hXw_o := hXw
      obtain ⟨hXw_f, hXw_a, hXw_r, hXw_d⟩ := hXw_o
      obtain ⟨hRs_f, hRs_a, hRs_b⟩ := hRs
      have hsl := zPl_lt (B := B) (dr := true) hsd k
      refine g_iload_n E dX13_plans_12 rfl rfl rfl ?_
      refine g_aload_n E dX13_plans_13 rfl rfl rfl ?_
      refine g_getf E gciX13 dX13_plans_14 hMw_a 3 rfl (by decide) q1743 (.inl rfl) (.ref mb) (hMw_3) rfl ?_
      have x3 := (hfw (mb) (by omega)).trans (hMb_a)
      refine g_getfN E gciX27 dX13_plans_17 x3 6 rfl (by decide) q1863 (.inl rfl) (.int (nI (B 0 4))) (hMb_6) rfl ?_
      refine g_icmp_ge E dX13_plans_20 (tgt := 133) (by decide) rfl (fun c20 => ?_) (fun c20 => ?_)
      · have c20 := (nI_leI (a := B 0 4) (b := k) (by omega) (by omega)).mp c20
        obtain rfl : k = B 0 4 := by omega
        refine g_iload_n E dX13_plans_133 rfl rfl rfl ?_
        exact g_iret E Rt dX13_plans_134 rfl (by decide) (by decide) (⟨rfl, ⟨_, hMw_a, hMw_0, hMw_1, hMw_2, hMw_3, hMw_5, hMw_6, hMw_12, hMw_15, hMw_16, hMw_17, hMw_18, hMw_19, hMw_20, hMw_26, hMw_28, hMw_29, hMw_27, trivial⟩, ⟨dd, hXw⟩, ⟨_, hRs_a, hRs_b⟩, fun j9 h9 => hfw j9 (by omega)⟩)
      · have c20 := mt (nI_leI (a := B 0 4) (b := k) (by omega) (by omega)).mpr c20
        refine g_aload_n E dX13_plans_23 rfl rfl rfl ?_
        refine g_getf E gciX13 dX13_plans_24 hMw_a 26 rfl (by decide) q1766 (.inl rfl) (.ref 2006) (hMw_26) rfl ?_
        refine g_iload_n E dX13_plans_27 rfl rfl rfl ?_
        refine g_bipush E (v := (-2)) dX13_plans_28 (by decide) rfl ?_
        refine g_iast E dX13_plans_30 (j := k) hRs_a (rfl) (by omega) (by decide) rfl (g_upk (fun g4 h4 f4 => ?_))
        refine g_aload_n E dX13_plans_31 rfl rfl rfl ?_
        refine g_iload_n E dX13_plans_32 rfl rfl rfl ?_
        have x5 := (f4 (2000) (by omega)).trans (hMw_a)
        have hM6 : pMq g4 (.ref mb) th tr wh tp fa ac mk [] := ⟨_, x5, hMw_0, hMw_1, hMw_2, hMw_3, hMw_5, hMw_6, hMw_12, hMw_15, hMw_16, hMw_17, hMw_18, hMw_19, hMw_20, hMw_26, hMw_28, hMw_29, trivial⟩
        have y7 := ((hMb.fr  (fun j9 a9 b9 => hfw j9 (by omega))).fr  (fun j9 a9 b9 => f4 j9 (by omega)))
        refine g_callV (k := 2000) (n9 := 1) (av := [.int (nI k)]) (st := []) E (ct_X13_isOpen l k hw hM6 y7 (by omega)) gciX13 dX13_plans_33 x5 q2420 q2422 qs108 q135 q2423 (by decide +kernel) rfl rfl ⟨by decide, by decide⟩ ⟨by decide, by decide⟩ (Nat.le_of_ble_eq_true rfl) rfl (gPu.k ?_)
        refine g_if_ne E dX13_plans_36 (tgt := 42) (by decide) rfl (fun c36 => ?_) (fun c36 => ?_)
        · have c36 := zb_n0.mp c36
          have hcx := hw.cross (c := k) (by omega)
          refine g_aload_n E dX13_plans_42 rfl rfl rfl ?_
          refine g_getf E gciX13 dX13_plans_43 x5 3 rfl (by decide) q1743 (.inl rfl) (.ref mb) (hMw_3) rfl ?_
          have x8 := (f4 (mb) (by omega)).trans (x3)
          refine g_getfN E gciX27 dX13_plans_46 x8 26 rfl (by decide) q1900 (.inl rfl) (.ref (mb + 16)) (hMb_26) rfl ?_
          refine g_iload_n E dX13_plans_49 rfl rfl rfl ?_
          have x9 := (f4 (mb + 16) (by omega)).trans ((hfw (mb + 16) (by omega)).trans (hMb_a16))
          refine g_iald E dX13_plans_50 (j := k) x9 (rfl) (by omega) (by decide) (v := nI (B 19 k)) (hMb_b16 k (by omega)) rfl ?_
          refine g_istore E dX13_plans_51 (by decide) rfl (lo1 := [some (.ref 2000), some (.int 1), some (.int ((zPl B true sd k).2.2)), some (.int (nI k)), some (.int (nI (B 19 k)))]) rfl rfl ?_
          refine g_aload_n E dX13_plans_53 rfl rfl rfl ?_
          refine g_getf E gciX13 dX13_plans_54 x5 16 rfl (by decide) q1756 (.inl rfl) (.ref 2003) (hMw_16) rfl ?_
          refine g_bipush E (v := 17) dX13_plans_57 (by decide) rfl ?_
          refine g_aload_n E dX13_plans_59 rfl rfl rfl ?_
          refine g_getf E gciX13 dX13_plans_60 x5 3 rfl (by decide) q1743 (.inl rfl) (.ref mb) (hMw_3) rfl ?_
          refine g_getfN E gciX27 dX13_plans_63 x8 28 rfl (by decide) q1904 (.inl rfl) (.ref (mb + 18)) (hMb_28) rfl ?_
          refine g_iload_n E dX13_plans_66 rfl rfl rfl ?_
          have x10 := (f4 (mb + 18) (by omega)).trans ((hfw (mb + 18) (by omega)).trans (hMb_a18))
          refine g_iald E dX13_plans_67 (j := k) x10 (rfl) (by omega) (by decide) (v := nI (B 21 k)) (hMb_b18 k (by omega)) rfl ?_
          have x11 := (f4 (2003) (by omega)).trans (hXw_a)
          refine g_iast E dX13_plans_68 (j := 17) x11 (rfl) (by omega) (by decide) rfl (g_upk (fun g12 h12 f12 => ?_))
          have hx13 : pRw g12 2003 B (zPl B true sd k).1 (nI (B 21 k)) := ⟨_, h12, updD hw ⟨hXw_r, hXw_d⟩⟩
          have hx13_o := hx13
          obtain ⟨hx13_f, hx13_a, hx13_r, hx13_d⟩ := hx13_o
          refine g_aload_n E dX13_plans_69 rfl rfl rfl ?_
          have x14 := (f12 (2000) (by omega)).trans (x5)
          refine g_getf E gciX13 dX13_plans_70 x14 26 rfl (by decide) q1766 (.inl rfl) (.ref 2006) (hMw_26) rfl ?_
          refine g_iload_n E dX13_plans_73 rfl rfl rfl ?_
          refine g_aload_n E dX13_plans_74 rfl rfl rfl ?_
          refine g_aload_n E dX13_plans_75 rfl rfl rfl ?_
          refine g_getf E gciX13 dX13_plans_76 x14 16 rfl (by decide) q1756 (.inl rfl) (.ref 2003) (hMw_16) rfl ?_
          refine g_iload E dX13_plans_79 rfl rfl ?_
          refine g_iload_n E dX13_plans_81 rfl rfl rfl ?_
          refine g_if_eq E dX13_plans_82 (tgt := 94) (by decide) rfl (fun h9 => absurd h9 (by decide)) (fun _ => ?_)
          refine g_aload_n E dX13_plans_85 rfl rfl rfl ?_
          refine g_iload E dX13_plans_86 rfl rfl ?_
          have hM15 : pMq g12 (.ref mb) th tr wh tp fa ac mk [(27, nI (zPl B true sd k).2.1)] := ⟨_, x14, hMw_0, hMw_1, hMw_2, hMw_3, hMw_5, hMw_6, hMw_12, hMw_15, hMw_16, hMw_17, hMw_18, hMw_19, hMw_20, hMw_26, hMw_28, hMw_29, hMw_27, trivial⟩
          have y16 := (y7.fr  (fun j9 a9 b9 => f12 j9 (by omega)))
          refine g_callV (k := 2000) (n9 := 1) (av := [.int (nI (B 19 k))]) (st := [.int (nI (B 19 k)), .ref 2003, .ref 2000, .int (nI k), .ref 2006]) E (ct_X13_drawnFound l (B 19 k) hw hM15 y16 hx13 (by omega) (by omega) (by omega)) gciX13 dX13_plans_88 x14 q2424 q2426 qs109 q135 q2427 (by decide +kernel) rfl rfl ⟨by decide, by decide⟩ ⟨by decide, by decide⟩ (Nat.le_of_ble_eq_true rfl) rfl (gPi.k (fun g17 h17 => ?_))
          obtain ⟨hm17, f17⟩ := h17
          have hm17_o := hm17
          obtain ⟨hm17_F, hm17_a, hm17_0, hm17_1, hm17_2, hm17_3, hm17_5, hm17_6, hm17_12, hm17_15, hm17_16, hm17_17, hm17_18, hm17_19, hm17_20, hm17_26, hm17_28, hm17_29, hm17_27, -⟩ := hm17_o
          refine g_goto E dX13_plans_91 (tgt := 114) (by decide) ?_
          have hM18 : pMq g17 (.ref mb) th tr wh tp fa ac mk [] := ⟨_, hm17_a, hm17_0, hm17_1, hm17_2, hm17_3, hm17_5, hm17_6, hm17_12, hm17_15, hm17_16, hm17_17, hm17_18, hm17_19, hm17_20, hm17_26, hm17_28, hm17_29, trivial⟩
          have y19 := (y16.fr  (fun j9 a9 b9 => f17 j9 (by omega)))
          have y20 := (hx13.fr  (fun j9 a9 b9 => f17 j9 (by omega)))
          refine g_callV (k := 2000) (n9 := 3) (av := [.ref 2003, .int (nI (B 19 k)), .int ((zDr B ((zPl B true sd k).1) (B 19 k) (nI (B 21 k)) ((zPl B true sd k).2.1) (B 0 3)).1)]) (st := [.int (nI k), .ref 2006]) E (ct_X13_crosses l (B 19 k) ((zDr B ((zPl B true sd k).1) (B 19 k) (nI (B 21 k)) ((zPl B true sd k).2.1) (B 0 3)).1) hw hM18 y19 y20 (by omega) (zFok_dr hw) (.inr rfl) (by omega)) gciX13 dX13_plans_114 hm17_a q2431 q2433 qs110 q135 q2434 (by decide +kernel) rfl rfl ⟨by decide, by decide⟩ ⟨by decide, by decide⟩ (Nat.le_of_ble_eq_true rfl) rfl (gPi.k (fun g21 h21 => ?_))
          obtain ⟨hr21, f21⟩ := h21
          have hr21_o := hr21
          obtain ⟨hr21_f, hr21_a, hr21_r, hr21_d⟩ := hr21_o
          have x22 := (f21 (2006) (by omega)).trans ((f17 (2006) (by omega)).trans ((f12 (2006) (by omega)).trans (h4)))
          refine g_iast E dX13_plans_117 (j := k) x22 (rfl) (by omega) (by decide) rfl (g_upk (fun g23 h23 f23 => ?_))
          refine g_iload_n E dX13_plans_118 rfl rfl rfl ?_
          refine g_aload_n E dX13_plans_119 rfl rfl rfl ?_
          have x24 := (f23 (2000) (by omega)).trans ((f21 (2000) (by omega)).trans (hm17_a))
          refine g_getf E gciX13 dX13_plans_120 x24 26 rfl (by decide) q1766 (.inl rfl) (.ref 2006) (hm17_26) rfl ?_
          refine g_iload_n E dX13_plans_123 rfl rfl rfl ?_
          refine g_iald E dX13_plans_124 (j := k) h23 (rfl) (by omega) (by decide) (v := zAsk B ((zPl B true sd k).1) (B 19 k) ((zDr B ((zPl B true sd k).1) (B 19 k) (nI (B 21 k)) ((zPl B true sd k).2.1) (B 0 3)).1) 1 (nI (B 21 k))) (upd_s) rfl ?_
          refine g_iadd E dX13_plans_125 rfl ?_
          refine g_as (y := (zPl B true sd (k + 1)).2.2) (by rw [zPl_y hw (by omega) c36]; rfl) ?_
          refine g_istore_n E dX13_plans_126 rfl (by decide) rfl (lo1 := [some (.ref 2000), some (.int 1), some (.int ((zPl B true sd (k + 1)).2.2)), some (.int (nI k)), some (.int (nI (B 19 k)))]) rfl rfl ?_
          refine g_iinc E dX13_plans_127 rfl (v := nI (k + 1)) (nI_c _) (by decide) rfl (lo1 := [some (.ref 2000), some (.int 1), some (.int ((zPl B true sd (k + 1)).2.2)), some (.int (nI (k + 1))), some (.int (nI (B 19 k)))]) rfl rfl ?_
          refine g_goto E dX13_plans_130 (tgt := 12) (by decide) ?_
          have y25 := (hr21.fr  (fun j9 a9 b9 => f23 j9 (by omega)))
          exact g_les (lo1 := [some (.ref 2000), some (.int 1), some (.int ((zPl B true sd (k + 1)).2.2)), some (.int (nI (k + 1))), none]) (⟨rfl, rfl, rfl, rfl, trivial⟩) (ih12 (k + 1) g23 (nI (B 21 k)) (by omega) (by omega) (by rw [zPl_y hw (by omega) c36]; exact ⟨_, x24, hm17_0, hm17_1, hm17_2, hm17_3, hm17_5, hm17_6, hm17_12, hm17_15, hm17_16, hm17_17, hm17_18, hm17_19, hm17_20, hm17_26, hm17_28, hm17_29, hm17_27, trivial⟩) (by rw [zPl_y hw (by omega) c36]; exact y25) ⟨_, h23, updS (v := zAsk B ((zPl B true sd k).1) (B 19 k) ((zDr B ((zPl B true sd k).1) (B 19 k) (nI (B 21 k)) ((zPl B true sd k).2.1) (B 0 3)).1) 1 (nI (B 21 k))) (updK hRs_b) (by rw [← zRs_y c36]; rfl)⟩ (fun j9 h9 => (((((f23 j9 (by omega)).trans (f21 j9 (by omega))).trans (f17 j9 (by omega))).trans (f12 j9 (by omega))).trans (f4 j9 (by omega))).trans (hfw j9 (by omega))))
        · have c36 := zb_0.mp c36
          refine g_goto E dX13_plans_39 (tgt := 127) (by decide) ?_
          refine g_lo (lo1 := [some (.ref 2000), some (.int 1), some (.int ((zPl B true sd (k + 1)).2.2)), some (.int (nI k)), none]) (by rw [zPl_n c36]) ?_
          refine g_iinc E dX13_plans_127 rfl (v := nI (k + 1)) (nI_c _) (by decide) rfl (lo1 := [some (.ref 2000), some (.int 1), some (.int ((zPl B true sd (k + 1)).2.2)), some (.int (nI (k + 1))), none]) rfl rfl ?_
          refine g_goto E dX13_plans_130 (tgt := 12) (by decide) ?_
          have y26 := (hXw.fr  (fun j9 a9 b9 => f4 j9 (by omega)))
          exact ih12 (k + 1) g4 dd (by omega) (by omega) (by rw [zPl_n c36]; exact ⟨_, x5, hMw_0, hMw_1, hMw_2, hMw_3, hMw_5, hMw_6, hMw_12, hMw_15, hMw_16, hMw_17, hMw_18, hMw_19, hMw_20, hMw_26, hMw_28, hMw_29, hMw_27, trivial⟩) (by rw [zPl_n c36]; exact y26) ⟨_, h4, updS hRs_b (zRs_n c36)⟩ (fun j9 h9 => (f4 j9 (by omega)).trans (hfw j9 (by omega)))
  have x27 := (f2 (2000) (by omega)).trans (hM_a)
  have x28 := (f2 (2006) (by omega)).trans (hRq_a)
  exact lp12 (B 0 4 + 1) 0 g2 0 (Nat.zero_le _) (by omega) (⟨_, x27, hM_0, hM_1, hM_2, hM_3, hM_5, hM_6, hM_12, hM_15, hM_16, hM_17, hM_18, hM_19, hM_20, hM_26, hM_28, hM_29, hM_27, trivial⟩) hr2 ⟨_, x28, fun i9 h9 => absurd h9 (Nat.not_lt_zero i9)⟩ (fun j9 h9 => f2 j9 (by omega))
set_option maxHeartbeats 1000000 in
theorem ct_X13_planned (l : Launch) {g : gWM} {mb : Nat} {B : gBar} {R : Nat → Int32} {d : Int32} {th tr wh fa : Int32} {tp ac mk : Nat} (p : Int32) (hw : wfB B) (hM : pMq g (.ref mb) th tr wh tp fa ac mk []) (hMb : pMb g mb B) (hV : pRw g 2002 B R d) (hX : pIx g 2003 18) (h9 : 10000 ≤ mb) (hRq : pIx g 2006 6) : gCt l yX13_planned cX13_planned 2 (some .int) 6 0 0 143 [.ref 2000, .int p] g (gPi (sPla B p).1 (fun g1 => pMq g1 (.ref mb) 0 ((sPla B p).2) (-1) tp fa ac mk [] ∧ pIx g1 2003 18 ∧ pIx g1 2006 6 ∧ ∀ j, (j ≠ 2000 ∧ j ≠ 2003 ∧ j ≠ 2006) → g1 j = g j)) := by
  refine gCt.of RX13 (by decide) rfl (lo := [some (.ref 2000), some (.int p)]) 0 rfl (Nat.le_of_ble_eq_true rfl) (fun z E Rt => ?_)
  have hw_n := hw.1
  have hM_o := hM
  obtain ⟨hM_F, hM_a, hM_0, hM_1, hM_2, hM_3, hM_5, hM_6, hM_12, hM_15, hM_16, hM_17, hM_18, hM_19, hM_20, hM_26, hM_28, hM_29, -⟩ := hM_o
  have hMb_o := hMb
  obtain ⟨⟨hMb_F, hMb_a, hMb_0, hMb_1, hMb_2, hMb_3, hMb_4, hMb_5, hMb_6, hMb_7, hMb_8, hMb_9, hMb_11, hMb_12, hMb_13, hMb_14, hMb_15, hMb_16, hMb_17, hMb_18, hMb_19, hMb_20, hMb_21, hMb_22, hMb_23, hMb_24, hMb_25, hMb_26, hMb_27, hMb_28, hMb_29, hMb_30, hMb_31⟩, ⟨hMb_f1, hMb_a1, hMb_b1⟩, ⟨hMb_f2, hMb_a2, hMb_b2⟩, ⟨hMb_f3, hMb_a3, hMb_b3⟩, ⟨hMb_f4, hMb_a4, hMb_b4⟩, ⟨hMb_f5, hMb_a5, hMb_b5⟩, ⟨hMb_f6, hMb_a6, hMb_b6⟩, ⟨hMb_f7, hMb_a7, hMb_b7⟩, ⟨hMb_f8, hMb_a8, hMb_b8⟩, ⟨hMb_f9, hMb_a9, hMb_b9⟩, ⟨hMb_f10, hMb_a10, hMb_b10⟩, ⟨hMb_f11, hMb_a11, hMb_b11⟩, ⟨hMb_f12, hMb_a12, hMb_b12⟩, ⟨hMb_f13, hMb_a13, hMb_b13⟩, ⟨hMb_f14, hMb_a14, hMb_b14⟩, ⟨hMb_f15, hMb_a15, hMb_b15⟩, ⟨hMb_f16, hMb_a16, hMb_b16⟩, ⟨hMb_f17, hMb_a17, hMb_b17⟩, ⟨hMb_f18, hMb_a18, hMb_b18⟩, ⟨hMb_f19, hMb_a19, hMb_b19⟩, ⟨hMb_f20, hMb_a20, hMb_b20⟩, ⟨hMb_f21, hMb_a21, hMb_b21⟩⟩ := hMb_o
  have hV_o := hV
  obtain ⟨hV_f, hV_a, hV_r, hV_d⟩ := hV_o
  have hX_o := hX
  obtain ⟨hX_f, hX_a⟩ := hX_o
  have hRq_o := hRq
  obtain ⟨hRq_f, hRq_a⟩ := hRq_o
  refine g_aload_n E dX13_planned_0 rfl rfl rfl ?_
  refine g_iconst E (v := 0) dX13_planned_1 (by decide) rfl ?_
  refine g_putf E gciX13 (v := .int 0) dX13_planned_2 hM_a 0 rfl (by decide) q1740 (.inl rfl) rfl (fun _ => rfl) (fun _ => rfl) rfl (g_upk (fun g1 h1 f1 => ?_))
  refine g_aload_n E dX13_planned_5 rfl rfl rfl ?_
  refine g_getf E gciX13 dX13_planned_6 h1 3 rfl (by decide) q1743 (.inl rfl) (.ref mb) (hM_3) rfl ?_
  refine g_ifnullN E dX13_planned_9 rfl ?_
  refine g_iload_n E dX13_planned_12 rfl rfl rfl ?_
  refine g_if_lt E dX13_planned_13 (tgt := 27) (by decide) rfl (fun c13 => ?_) (fun c13 => ?_)
  · have hq9 := isNone_of (qI_neg (n := B 0 4) c13)
    refine g_aload_n E dX13_planned_27 rfl rfl rfl ?_
    refine g_iconst E (v := 1) dX13_planned_28 (by decide) rfl ?_
    have hM2 : pMq g1 (.ref mb) 0 tr wh tp fa ac mk [] := ⟨_, h1, rfl, hM_1, hM_2, hM_3, hM_5, hM_6, hM_12, hM_15, hM_16, hM_17, hM_18, hM_19, hM_20, hM_26, hM_28, hM_29, trivial⟩
    refine g_callV (k := 2000) (n9 := 1) (av := [.int 1]) (st := []) E (ct_X13_refused l 1 hM2) gciX13 dX13_planned_29 h1 q1846 q1848 qs52 q135 q1849 (by decide +kernel) rfl rfl ⟨by decide, by decide⟩ ⟨by decide, by decide⟩ (Nat.le_of_ble_eq_true rfl) rfl (gPi.k (fun g3 h3 => ?_))
    obtain ⟨hm3, f3⟩ := h3
    have hm3_o := hm3
    obtain ⟨hm3_F, hm3_a, hm3_0, hm3_1, hm3_2, hm3_3, hm3_5, hm3_6, hm3_12, hm3_15, hm3_16, hm3_17, hm3_18, hm3_19, hm3_20, hm3_26, hm3_28, hm3_29, -⟩ := hm3_o
    have hs4 : sPla B p = ((-1), 1) := by first | (simp [sPla, hq9]; done) | (simp [sPla, hq9, qWy]; done)
    have x5 := (f3 (2003) (by omega)).trans ((f1 (2003) (by omega)).trans (hX_a))
    have x6 := (f3 (2006) (by omega)).trans ((f1 (2006) (by omega)).trans (hRq_a))
    exact g_iret E Rt dX13_planned_32 rfl (by decide) (by decide) (by rw [hs4]; exact ⟨rfl, ⟨_, hm3_a, hm3_0, hm3_1, hm3_2, hm3_3, hm3_5, hm3_6, hm3_12, hm3_15, hm3_16, hm3_17, hm3_18, hm3_19, hm3_20, hm3_26, hm3_28, hm3_29, trivial⟩, ⟨_, x5⟩, ⟨_, x6⟩, fun j9 h9 => (f3 j9 (by omega)).trans (f1 j9 (by omega))⟩)
  · refine g_iload_n E dX13_planned_16 rfl rfl rfl ?_
    refine g_aload_n E dX13_planned_17 rfl rfl rfl ?_
    refine g_getf E gciX13 dX13_planned_18 h1 3 rfl (by decide) q1743 (.inl rfl) (.ref mb) (hM_3) rfl ?_
    have x7 := (f1 (mb) (by omega)).trans (hMb_a)
    refine g_getfN E gciX27 dX13_planned_21 x7 6 rfl (by decide) q1863 (.inl rfl) (.int (nI (B 0 4))) (hMb_6) rfl ?_
    refine g_icmp_lt E dX13_planned_24 (tgt := 33) (by decide) rfl (fun c24 => ?_) (fun c24 => ?_)
    · have hq9 : (qI (B 0 4) p).isSome = true := qI_ok (by omega) c13 (Int32.not_le.mpr c24)
      obtain ⟨c9, q8⟩ := isSome_of hq9
      obtain ⟨rfl, q8_l⟩ := qI_some (by omega) q8
      refine g_aload_n E dX13_planned_33 rfl rfl rfl ?_
      refine g_iconst E (v := 0) dX13_planned_34 (by decide) rfl ?_
      have hM9 : pMq g1 (.ref mb) 0 tr wh tp fa ac mk [] := ⟨_, h1, rfl, hM_1, hM_2, hM_3, hM_5, hM_6, hM_12, hM_15, hM_16, hM_17, hM_18, hM_19, hM_20, hM_26, hM_28, hM_29, trivial⟩
      have y10 := (hMb.fr  (fun j9 a9 b9 => f1 j9 (by omega)))
      have x11 := (f1 (2003) (by omega)).trans (hX_a)
      have x12 := (f1 (2006) (by omega)).trans (hRq_a)
      refine g_callV (k := 2000) (n9 := 1) (av := [.int 0]) (st := []) E (ct_X13_plans_false l hw hM9 y10 (⟨_, x11⟩) (⟨_, x12⟩) (by omega)) gciX13 dX13_planned_35 h1 q2416 q2418 qs107 q135 q2419 (by decide +kernel) rfl rfl ⟨by decide, by decide⟩ ⟨by decide, by decide⟩ (Nat.le_of_ble_eq_true rfl) rfl (gPi.k (fun g13 h13 => ?_))
      obtain ⟨hm13, ⟨dd13, hr13⟩, ⟨hq13_f, hq13_a, hq13_b⟩, f13⟩ := h13
      have hm13_o := hm13
      obtain ⟨hm13_F, hm13_a, hm13_0, hm13_1, hm13_2, hm13_3, hm13_5, hm13_6, hm13_12, hm13_15, hm13_16, hm13_17, hm13_18, hm13_19, hm13_20, hm13_26, hm13_28, hm13_29, -⟩ := hm13_o
      have hr13_o := hr13
      obtain ⟨hr13_f, hr13_a, hr13_r, hr13_d⟩ := hr13_o
      refine g_pop E dX13_planned_38 rfl rfl ?_
      refine g_aload_n E dX13_planned_39 rfl rfl rfl ?_
      refine g_aload_n E dX13_planned_40 rfl rfl rfl ?_
      refine g_getf E gciX13 dX13_planned_41 hm13_a 26 rfl (by decide) q1766 (.inl rfl) (.ref 2006) (hm13_26) rfl ?_
      refine g_iload_n E dX13_planned_44 rfl rfl rfl ?_
      refine g_iald E dX13_planned_45 (j := c9) hq13_a (rfl) (by omega) (by decide) (v := zRs B false 0 c9) (hq13_b c9 (by omega)) rfl ?_
      have hM14 : pMq g13 (.ref mb) 0 tr wh tp fa ac mk [] := ⟨_, hm13_a, hm13_0, hm13_1, hm13_2, hm13_3, hm13_5, hm13_6, hm13_12, hm13_15, hm13_16, hm13_17, hm13_18, hm13_19, hm13_20, hm13_26, hm13_28, hm13_29, trivial⟩
      refine g_callV (k := 2000) (n9 := 1) (av := [.int (zRs B false 0 c9)]) (st := []) E (ct_X13_fine l (zRs B false 0 c9) hM14) gciX13 dX13_planned_46 hm13_a q2181 q2183 qs80 q135 q2184 (by decide +kernel) rfl rfl ⟨by decide, by decide⟩ ⟨by decide, by decide⟩ (Nat.le_of_ble_eq_true rfl) rfl (gPi.k (fun g15 h15 => ?_))
      obtain ⟨hm15, f15⟩ := h15
      have hm15_o := hm15
      obtain ⟨hm15_F, hm15_a, hm15_0, hm15_1, hm15_2, hm15_3, hm15_5, hm15_6, hm15_12, hm15_15, hm15_16, hm15_17, hm15_18, hm15_19, hm15_20, hm15_26, hm15_28, hm15_29, -⟩ := hm15_o
      have hs16 : sPla B (nI c9) = (zRs B false 0 c9, 0) := by first | (simp [sPla, q8]; done) | (simp [sPla, q8, qWy]; done)
      have x17 := (f15 (2003) (by omega)).trans (hr13_a)
      have x18 := (f15 (2006) (by omega)).trans (hq13_a)
      exact g_iret E Rt dX13_planned_49 rfl (by decide) (by decide) (by rw [hs16]; exact ⟨rfl, ⟨_, hm15_a, hm15_0, hm15_1, hm15_2, hm15_3, hm15_5, hm15_6, hm15_12, hm15_15, hm15_16, hm15_17, hm15_18, hm15_19, hm15_20, hm15_26, hm15_28, hm15_29, trivial⟩, ⟨_, x17⟩, ⟨_, x18⟩, fun j9 h9 => ((f15 j9 (by omega)).trans (f13 j9 (by omega))).trans (f1 j9 (by omega))⟩)
    · have hq9 := isNone_of (qI_ge (n := B 0 4) (by omega) (Int32.not_lt.mp c24))
      refine g_aload_n E dX13_planned_27 rfl rfl rfl ?_
      refine g_iconst E (v := 1) dX13_planned_28 (by decide) rfl ?_
      have hM19 : pMq g1 (.ref mb) 0 tr wh tp fa ac mk [] := ⟨_, h1, rfl, hM_1, hM_2, hM_3, hM_5, hM_6, hM_12, hM_15, hM_16, hM_17, hM_18, hM_19, hM_20, hM_26, hM_28, hM_29, trivial⟩
      refine g_callV (k := 2000) (n9 := 1) (av := [.int 1]) (st := []) E (ct_X13_refused l 1 hM19) gciX13 dX13_planned_29 h1 q1846 q1848 qs52 q135 q1849 (by decide +kernel) rfl rfl ⟨by decide, by decide⟩ ⟨by decide, by decide⟩ (Nat.le_of_ble_eq_true rfl) rfl (gPi.k (fun g20 h20 => ?_))
      obtain ⟨hm20, f20⟩ := h20
      have hm20_o := hm20
      obtain ⟨hm20_F, hm20_a, hm20_0, hm20_1, hm20_2, hm20_3, hm20_5, hm20_6, hm20_12, hm20_15, hm20_16, hm20_17, hm20_18, hm20_19, hm20_20, hm20_26, hm20_28, hm20_29, -⟩ := hm20_o
      have hs21 : sPla B p = ((-1), 1) := by first | (simp [sPla, hq9]; done) | (simp [sPla, hq9, qWy]; done)
      have x22 := (f20 (2003) (by omega)).trans ((f1 (2003) (by omega)).trans (hX_a))
      have x23 := (f20 (2006) (by omega)).trans ((f1 (2006) (by omega)).trans (hRq_a))
      exact g_iret E Rt dX13_planned_32 rfl (by decide) (by decide) (by rw [hs21]; exact ⟨rfl, ⟨_, hm20_a, hm20_0, hm20_1, hm20_2, hm20_3, hm20_5, hm20_6, hm20_12, hm20_15, hm20_16, hm20_17, hm20_18, hm20_19, hm20_20, hm20_26, hm20_28, hm20_29, trivial⟩, ⟨_, x22⟩, ⟨_, x23⟩, fun j9 h9 => (f20 j9 (by omega)).trans (f1 j9 (by omega))⟩)
set_option maxHeartbeats 1000000 in
theorem ct_X13_planned_N (l : Launch) {g : gWM} {th tr wh fa : Int32} {tp ac mk : Nat} (p : Int32) (hM : pMq g .null th tr wh tp fa ac mk []) : gCt l yX13_planned cX13_planned 2 (some .int) 1 0 0 21 [.ref 2000, .int p] g (gPi (sPla zB0 p).1 (fun g1 => pMq g1 .null 0 ((sPla zB0 p).2) (-1) tp fa ac mk [] ∧ ∀ j, j ≠ 2000 → g1 j = g j)) := by
  refine gCt.of RX13 (by decide) rfl (lo := [some (.ref 2000), some (.int p)]) 0 rfl (Nat.le_of_ble_eq_true rfl) (fun z E Rt => ?_)
  have hM_o := hM
  obtain ⟨hM_F, hM_a, hM_0, hM_1, hM_2, hM_3, hM_5, hM_6, hM_12, hM_15, hM_16, hM_17, hM_18, hM_19, hM_20, hM_26, hM_28, hM_29, -⟩ := hM_o
  refine g_aload_n E dX13_planned_0 rfl rfl rfl ?_
  refine g_iconst E (v := 0) dX13_planned_1 (by decide) rfl ?_
  refine g_putf E gciX13 (v := .int 0) dX13_planned_2 hM_a 0 rfl (by decide) q1740 (.inl rfl) rfl (fun _ => rfl) (fun _ => rfl) rfl (g_upk (fun g1 h1 f1 => ?_))
  refine g_aload_n E dX13_planned_5 rfl rfl rfl ?_
  refine g_getf E gciX13 dX13_planned_6 h1 3 rfl (by decide) q1743 (.inl rfl) (.null) (hM_3) rfl ?_
  refine g_ifnullY E dX13_planned_9 (tgt := 27) (by decide) ?_
  refine g_aload_n E dX13_planned_27 rfl rfl rfl ?_
  refine g_iconst E (v := 1) dX13_planned_28 (by decide) rfl ?_
  have hM2 : pMq g1 .null 0 tr wh tp fa ac mk [] := ⟨_, h1, rfl, hM_1, hM_2, hM_3, hM_5, hM_6, hM_12, hM_15, hM_16, hM_17, hM_18, hM_19, hM_20, hM_26, hM_28, hM_29, trivial⟩
  refine g_callV (k := 2000) (n9 := 1) (av := [.int 1]) (st := []) E (ct_X13_refused l 1 hM2) gciX13 dX13_planned_29 h1 q1846 q1848 qs52 q135 q1849 (by decide +kernel) rfl rfl ⟨by decide, by decide⟩ ⟨by decide, by decide⟩ (Nat.le_of_ble_eq_true rfl) rfl (gPi.k (fun g3 h3 => ?_))
  obtain ⟨hm3, f3⟩ := h3
  have hm3_o := hm3
  obtain ⟨hm3_F, hm3_a, hm3_0, hm3_1, hm3_2, hm3_3, hm3_5, hm3_6, hm3_12, hm3_15, hm3_16, hm3_17, hm3_18, hm3_19, hm3_20, hm3_26, hm3_28, hm3_29, -⟩ := hm3_o
  have hs4 : sPla zB0 p = ((-1), 1) := by first | (simp [sPla, qI_z, qWy]; done) | (simp [sPla, qI_z, qWy, qWy]; done)
  exact g_iret E Rt dX13_planned_32 rfl (by decide) (by decide) (by rw [hs4]; exact ⟨rfl, ⟨_, hm3_a, hm3_0, hm3_1, hm3_2, hm3_3, hm3_5, hm3_6, hm3_12, hm3_15, hm3_16, hm3_17, hm3_18, hm3_19, hm3_20, hm3_26, hm3_28, hm3_29, trivial⟩, fun j9 h9 => (f3 j9 (by omega)).trans (f1 j9 (by omega))⟩)
set_option maxHeartbeats 1000000 in
theorem ct_X13_judge (l : Launch) {g : gWM} {mb : Nat} {B : gBar} {R : Nat → Int32} {d : Int32} {th tr wh fa : Int32} {tp ac mk : Nat}  (hw : wfB B) (hM : pMq g (.ref mb) th tr wh tp fa ac mk []) (hMb : pMb g mb B) (hV : pRw g 2002 B R d) (hX : pIx g 2003 18) (h9 : 10000 ≤ mb) : gCt l yX13_judge cX13_judge 2 (some .int) 2 0 0 43 [.ref 2000] g (gPi (sJud true B).1 (fun g1 => pMq g1 (.ref mb) 0 ((sJud true B).2) (-1) tp fa ac mk [] ∧ ∀ j, j ≠ 2000 → g1 j = g j)) := by
  refine gCt.of RX13 (by decide) rfl (lo := [some (.ref 2000), none]) 1 rfl (Nat.le_of_ble_eq_true rfl) (fun z E Rt => ?_)
  have hw_n := hw.1
  have hM_o := hM
  obtain ⟨hM_F, hM_a, hM_0, hM_1, hM_2, hM_3, hM_5, hM_6, hM_12, hM_15, hM_16, hM_17, hM_18, hM_19, hM_20, hM_26, hM_28, hM_29, -⟩ := hM_o
  have hMb_o := hMb
  obtain ⟨⟨hMb_F, hMb_a, hMb_0, hMb_1, hMb_2, hMb_3, hMb_4, hMb_5, hMb_6, hMb_7, hMb_8, hMb_9, hMb_11, hMb_12, hMb_13, hMb_14, hMb_15, hMb_16, hMb_17, hMb_18, hMb_19, hMb_20, hMb_21, hMb_22, hMb_23, hMb_24, hMb_25, hMb_26, hMb_27, hMb_28, hMb_29, hMb_30, hMb_31⟩, ⟨hMb_f1, hMb_a1, hMb_b1⟩, ⟨hMb_f2, hMb_a2, hMb_b2⟩, ⟨hMb_f3, hMb_a3, hMb_b3⟩, ⟨hMb_f4, hMb_a4, hMb_b4⟩, ⟨hMb_f5, hMb_a5, hMb_b5⟩, ⟨hMb_f6, hMb_a6, hMb_b6⟩, ⟨hMb_f7, hMb_a7, hMb_b7⟩, ⟨hMb_f8, hMb_a8, hMb_b8⟩, ⟨hMb_f9, hMb_a9, hMb_b9⟩, ⟨hMb_f10, hMb_a10, hMb_b10⟩, ⟨hMb_f11, hMb_a11, hMb_b11⟩, ⟨hMb_f12, hMb_a12, hMb_b12⟩, ⟨hMb_f13, hMb_a13, hMb_b13⟩, ⟨hMb_f14, hMb_a14, hMb_b14⟩, ⟨hMb_f15, hMb_a15, hMb_b15⟩, ⟨hMb_f16, hMb_a16, hMb_b16⟩, ⟨hMb_f17, hMb_a17, hMb_b17⟩, ⟨hMb_f18, hMb_a18, hMb_b18⟩, ⟨hMb_f19, hMb_a19, hMb_b19⟩, ⟨hMb_f20, hMb_a20, hMb_b20⟩, ⟨hMb_f21, hMb_a21, hMb_b21⟩⟩ := hMb_o
  have hV_o := hV
  obtain ⟨hV_f, hV_a, hV_r, hV_d⟩ := hV_o
  have hX_o := hX
  obtain ⟨hX_f, hX_a⟩ := hX_o
  refine g_aload_n E dX13_judge_0 rfl rfl rfl ?_
  refine g_iconst E (v := 0) dX13_judge_1 (by decide) rfl ?_
  refine g_putf E gciX13 (v := .int 0) dX13_judge_2 hM_a 0 rfl (by decide) q1740 (.inl rfl) rfl (fun _ => rfl) (fun _ => rfl) rfl (g_upk (fun g1 h1 f1 => ?_))
  refine g_aload_n E dX13_judge_5 rfl rfl rfl ?_
  refine g_getf E gciX13 dX13_judge_6 h1 3 rfl (by decide) q1743 (.inl rfl) (.ref mb) (hM_3) rfl ?_
  refine g_ifnonnullY E dX13_judge_9 (tgt := 18) (by decide) ?_
  refine g_iconst E (v := 0) dX13_judge_18 (by decide) rfl ?_
  refine g_istore_n E dX13_judge_19 rfl (by decide) rfl (lo1 := [some (.ref 2000), some (.int 0)]) rfl rfl ?_
  have lp20 : ∀ (r9 : Nat) (k : Nat), (k ≤ B 0 4) → (zJu B (B 0 4) 0 = zJu B (B 0 4 - k) k) → (B 0 4 - k < r9) → gV z g1 0 0 20 [some (.ref 2000), some (.int (nI k))] [] := by
    intro r9
    induction r9 with
    | zero => intro k hk hz hm; exact absurd hm (Nat.not_lt_zero _)
    | succ r9 ih20 =>
      intro k hk hz hm
      refine g_iload_n E dX13_judge_20 rfl rfl rfl ?_
      refine g_aload_n E dX13_judge_21 rfl rfl rfl ?_
      refine g_getf E gciX13 dX13_judge_22 h1 3 rfl (by decide) q1743 (.inl rfl) (.ref mb) (hM_3) rfl ?_
      have x2 := (f1 (mb) (by omega)).trans (hMb_a)
      refine g_getfN E gciX27 dX13_judge_25 x2 6 rfl (by decide) q1863 (.inl rfl) (.int (nI (B 0 4))) (hMb_6) rfl ?_
      refine g_icmp_ge E dX13_judge_28 (tgt := 51) (by decide) rfl (fun c28 => ?_) (fun c28 => ?_)
      · have c28 := (nI_leI (a := B 0 4) (b := k) (by omega) (by omega)).mp c28
        refine g_aload_n E dX13_judge_51 rfl rfl rfl ?_
        refine g_bipush E (v := (-2)) dX13_judge_52 (by decide) rfl ?_
        have hM3 : pMq g1 (.ref mb) 0 tr wh tp fa ac mk [] := ⟨_, h1, rfl, hM_1, hM_2, hM_3, hM_5, hM_6, hM_12, hM_15, hM_16, hM_17, hM_18, hM_19, hM_20, hM_26, hM_28, hM_29, trivial⟩
        refine g_callV (k := 2000) (n9 := 1) (av := [.int (-2)]) (st := []) E (ct_X13_fine l (-2) hM3) gciX13 dX13_judge_54 h1 q2181 q2183 qs80 q135 q2184 (by decide +kernel) rfl rfl ⟨by decide, by decide⟩ ⟨by decide, by decide⟩ (Nat.le_of_ble_eq_true rfl) rfl (gPi.k (fun g4 h4 => ?_))
        obtain ⟨hm4, f4⟩ := h4
        have hm4_o := hm4
        obtain ⟨hm4_F, hm4_a, hm4_0, hm4_1, hm4_2, hm4_3, hm4_5, hm4_6, hm4_12, hm4_15, hm4_16, hm4_17, hm4_18, hm4_19, hm4_20, hm4_26, hm4_28, hm4_29, -⟩ := hm4_o
        have hs5 : sJud true B = ((-2), 0) := by simp [sJud]; rw [hz, show B 0 4 - k = 0 by omega]; rfl
        exact g_iret E Rt dX13_judge_57 rfl (by decide) (by decide) (by rw [hs5]; exact ⟨rfl, ⟨_, hm4_a, hm4_0, hm4_1, hm4_2, hm4_3, hm4_5, hm4_6, hm4_12, hm4_15, hm4_16, hm4_17, hm4_18, hm4_19, hm4_20, hm4_26, hm4_28, hm4_29, trivial⟩, fun j9 h9 => (f4 j9 (by omega)).trans (f1 j9 (by omega))⟩)
      · have c28 := mt (nI_leI (a := B 0 4) (b := k) (by omega) (by omega)).mpr c28
        refine g_aload_n E dX13_judge_31 rfl rfl rfl ?_
        refine g_iload_n E dX13_judge_32 rfl rfl rfl ?_
        have hM6 : pMq g1 (.ref mb) 0 tr wh tp fa ac mk [] := ⟨_, h1, rfl, hM_1, hM_2, hM_3, hM_5, hM_6, hM_12, hM_15, hM_16, hM_17, hM_18, hM_19, hM_20, hM_26, hM_28, hM_29, trivial⟩
        have y7 := (hMb.fr  (fun j9 a9 b9 => f1 j9 (by omega)))
        refine g_callV (k := 2000) (n9 := 1) (av := [.int (nI k)]) (st := []) E (ct_X13_isOpen l k hw hM6 y7 (by omega)) gciX13 dX13_judge_33 h1 q2420 q2422 qs108 q135 q2423 (by decide +kernel) rfl rfl ⟨by decide, by decide⟩ ⟨by decide, by decide⟩ (Nat.le_of_ble_eq_true rfl) rfl (gPu.k ?_)
        refine g_if_ne E dX13_judge_36 (tgt := 45) (by decide) rfl (fun c36 => ?_) (fun c36 => ?_)
        · have c36 := zb_n0.mp c36
          refine g_iinc E dX13_judge_45 rfl (v := nI (k + 1)) (nI_c _) (by decide) rfl (lo1 := [some (.ref 2000), some (.int (nI (k + 1)))]) rfl rfl ?_
          refine g_goto E dX13_judge_48 (tgt := 20) (by decide) ?_
          exact ih20 (k + 1) (by omega) (hz.trans (zJu_f (by omega) (fun h9 => by rw [(zRs_op hw (by omega)).mp h9] at c36; cases c36))) (by omega)
        · have c36 := zb_0.mp c36
          refine g_aload_n E dX13_judge_39 rfl rfl rfl ?_
          refine g_iload_n E dX13_judge_40 rfl rfl rfl ?_
          refine g_callV (k := 2000) (n9 := 1) (av := [.int (nI k)]) (st := []) E (ct_X13_fine l (nI k) hM6) gciX13 dX13_judge_41 h1 q2181 q2183 qs80 q135 q2184 (by decide +kernel) rfl rfl ⟨by decide, by decide⟩ ⟨by decide, by decide⟩ (Nat.le_of_ble_eq_true rfl) rfl (gPi.k (fun g8 h8 => ?_))
          obtain ⟨hm8, f8⟩ := h8
          have hm8_o := hm8
          obtain ⟨hm8_F, hm8_a, hm8_0, hm8_1, hm8_2, hm8_3, hm8_5, hm8_6, hm8_12, hm8_15, hm8_16, hm8_17, hm8_18, hm8_19, hm8_20, hm8_26, hm8_28, hm8_29, -⟩ := hm8_o
          have hs9 : sJud true B = (nI k, 0) := by simp [sJud]; exact hz.trans (zJu_t (by omega) ((zRs_op hw (by omega)).mpr c36))
          exact g_iret E Rt dX13_judge_44 rfl (by decide) (by decide) (by rw [hs9]; exact ⟨rfl, ⟨_, hm8_a, hm8_0, hm8_1, hm8_2, hm8_3, hm8_5, hm8_6, hm8_12, hm8_15, hm8_16, hm8_17, hm8_18, hm8_19, hm8_20, hm8_26, hm8_28, hm8_29, trivial⟩, fun j9 h9 => (f8 j9 (by omega)).trans (f1 j9 (by omega))⟩)
  exact lp20 (B 0 4 + 1) 0 (Nat.zero_le _) rfl (by omega)
set_option maxHeartbeats 1000000 in
theorem ct_X13_judge_N (l : Launch) {g : gWM} {th tr wh fa : Int32} {tp ac mk : Nat}  (hM : pMq g .null th tr wh tp fa ac mk []) : gCt l yX13_judge cX13_judge 2 (some .int) 1 0 0 21 [.ref 2000] g (gPi (sJud false zB0).1 (fun g1 => pMq g1 .null 0 ((sJud false zB0).2) (-1) tp fa ac mk [] ∧ ∀ j, j ≠ 2000 → g1 j = g j)) := by
  refine gCt.of RX13 (by decide) rfl (lo := [some (.ref 2000), none]) 1 rfl (Nat.le_of_ble_eq_true rfl) (fun z E Rt => ?_)
  have hM_o := hM
  obtain ⟨hM_F, hM_a, hM_0, hM_1, hM_2, hM_3, hM_5, hM_6, hM_12, hM_15, hM_16, hM_17, hM_18, hM_19, hM_20, hM_26, hM_28, hM_29, -⟩ := hM_o
  refine g_aload_n E dX13_judge_0 rfl rfl rfl ?_
  refine g_iconst E (v := 0) dX13_judge_1 (by decide) rfl ?_
  refine g_putf E gciX13 (v := .int 0) dX13_judge_2 hM_a 0 rfl (by decide) q1740 (.inl rfl) rfl (fun _ => rfl) (fun _ => rfl) rfl (g_upk (fun g1 h1 f1 => ?_))
  refine g_aload_n E dX13_judge_5 rfl rfl rfl ?_
  refine g_getf E gciX13 dX13_judge_6 h1 3 rfl (by decide) q1743 (.inl rfl) (.null) (hM_3) rfl ?_
  refine g_ifnonnullN E dX13_judge_9 rfl ?_
  refine g_aload_n E dX13_judge_12 rfl rfl rfl ?_
  refine g_iconst E (v := 1) dX13_judge_13 (by decide) rfl ?_
  have hM2 : pMq g1 .null 0 tr wh tp fa ac mk [] := ⟨_, h1, rfl, hM_1, hM_2, hM_3, hM_5, hM_6, hM_12, hM_15, hM_16, hM_17, hM_18, hM_19, hM_20, hM_26, hM_28, hM_29, trivial⟩
  refine g_callV (k := 2000) (n9 := 1) (av := [.int 1]) (st := []) E (ct_X13_refused l 1 hM2) gciX13 dX13_judge_14 h1 q1846 q1848 qs52 q135 q1849 (by decide +kernel) rfl rfl ⟨by decide, by decide⟩ ⟨by decide, by decide⟩ (Nat.le_of_ble_eq_true rfl) rfl (gPi.k (fun g3 h3 => ?_))
  obtain ⟨hm3, f3⟩ := h3
  have hm3_o := hm3
  obtain ⟨hm3_F, hm3_a, hm3_0, hm3_1, hm3_2, hm3_3, hm3_5, hm3_6, hm3_12, hm3_15, hm3_16, hm3_17, hm3_18, hm3_19, hm3_20, hm3_26, hm3_28, hm3_29, -⟩ := hm3_o
  have hs4 : sJud false zB0 = ((-1), 1) := by first | (simp [sJud, qI_z, qWy]; done) | (simp [sJud, qI_z, qWy, qWy]; done)
  exact g_iret E Rt dX13_judge_17 rfl (by decide) (by decide) (by rw [hs4]; exact ⟨rfl, ⟨_, hm3_a, hm3_0, hm3_1, hm3_2, hm3_3, hm3_5, hm3_6, hm3_12, hm3_15, hm3_16, hm3_17, hm3_18, hm3_19, hm3_20, hm3_26, hm3_28, hm3_29, trivial⟩, fun j9 h9 => (f3 j9 (by omega)).trans (f1 j9 (by omega))⟩)
set_option maxHeartbeats 1000000 in
theorem ct_X13_planOver (l : Launch) {g : gWM} {mb : Nat} {B : gBar} {R : Nat → Int32} {d : Int32} {th tr wh fa : Int32} {tp ac mk : Nat} (b : Bool) (hw : wfB B) (hM : pMq g (.ref mb) th tr wh tp fa ac mk []) (hMb : pMb g mb B) (hV : pRw g 2002 B R d) (hX : pIx g 2003 18) (h9 : 10000 ≤ mb) (hRq : pIx g 2006 6) : gCt l yX13_planOver cX13_planOver 4 (some .int) 6 0 0 143 [.ref 2000, .int (zb b)] g (gPi (sPlo true B b).1 (fun g1 => pMq g1 (.ref mb) 0 ((sPlo true B b).2) (-1) tp fa ac mk [] ∧ pIx g1 2003 18 ∧ pIx g1 2006 6 ∧ ∀ j, (j ≠ 2000 ∧ j ≠ 2003 ∧ j ≠ 2006) → g1 j = g j)) := by
  refine gCt.of RX13 (by decide) rfl (lo := [some (.ref 2000), some (.int (zb b)), none, none]) 2 rfl (Nat.le_of_ble_eq_true rfl) (fun z E Rt => ?_)
  have hw_n := hw.1
  have hM_o := hM
  obtain ⟨hM_F, hM_a, hM_0, hM_1, hM_2, hM_3, hM_5, hM_6, hM_12, hM_15, hM_16, hM_17, hM_18, hM_19, hM_20, hM_26, hM_28, hM_29, -⟩ := hM_o
  have hMb_o := hMb
  obtain ⟨⟨hMb_F, hMb_a, hMb_0, hMb_1, hMb_2, hMb_3, hMb_4, hMb_5, hMb_6, hMb_7, hMb_8, hMb_9, hMb_11, hMb_12, hMb_13, hMb_14, hMb_15, hMb_16, hMb_17, hMb_18, hMb_19, hMb_20, hMb_21, hMb_22, hMb_23, hMb_24, hMb_25, hMb_26, hMb_27, hMb_28, hMb_29, hMb_30, hMb_31⟩, ⟨hMb_f1, hMb_a1, hMb_b1⟩, ⟨hMb_f2, hMb_a2, hMb_b2⟩, ⟨hMb_f3, hMb_a3, hMb_b3⟩, ⟨hMb_f4, hMb_a4, hMb_b4⟩, ⟨hMb_f5, hMb_a5, hMb_b5⟩, ⟨hMb_f6, hMb_a6, hMb_b6⟩, ⟨hMb_f7, hMb_a7, hMb_b7⟩, ⟨hMb_f8, hMb_a8, hMb_b8⟩, ⟨hMb_f9, hMb_a9, hMb_b9⟩, ⟨hMb_f10, hMb_a10, hMb_b10⟩, ⟨hMb_f11, hMb_a11, hMb_b11⟩, ⟨hMb_f12, hMb_a12, hMb_b12⟩, ⟨hMb_f13, hMb_a13, hMb_b13⟩, ⟨hMb_f14, hMb_a14, hMb_b14⟩, ⟨hMb_f15, hMb_a15, hMb_b15⟩, ⟨hMb_f16, hMb_a16, hMb_b16⟩, ⟨hMb_f17, hMb_a17, hMb_b17⟩, ⟨hMb_f18, hMb_a18, hMb_b18⟩, ⟨hMb_f19, hMb_a19, hMb_b19⟩, ⟨hMb_f20, hMb_a20, hMb_b20⟩, ⟨hMb_f21, hMb_a21, hMb_b21⟩⟩ := hMb_o
  have hV_o := hV
  obtain ⟨hV_f, hV_a, hV_r, hV_d⟩ := hV_o
  have hX_o := hX
  obtain ⟨hX_f, hX_a⟩ := hX_o
  have hRq_o := hRq
  obtain ⟨hRq_f, hRq_a⟩ := hRq_o
  refine g_aload_n E dX13_planOver_0 rfl rfl rfl ?_
  refine g_iconst E (v := 0) dX13_planOver_1 (by decide) rfl ?_
  refine g_putf E gciX13 (v := .int 0) dX13_planOver_2 hM_a 0 rfl (by decide) q1740 (.inl rfl) rfl (fun _ => rfl) (fun _ => rfl) rfl (g_upk (fun g1 h1 f1 => ?_))
  refine g_aload_n E dX13_planOver_5 rfl rfl rfl ?_
  refine g_getf E gciX13 dX13_planOver_6 h1 3 rfl (by decide) q1743 (.inl rfl) (.ref mb) (hM_3) rfl ?_
  refine g_ifnonnullY E dX13_planOver_9 (tgt := 18) (by decide) ?_
  refine g_aload_n E dX13_planOver_18 rfl rfl rfl ?_
  refine g_iconst E (v := 0) dX13_planOver_19 (by decide) rfl ?_
  have hM2 : pMq g1 (.ref mb) 0 tr wh tp fa ac mk [] := ⟨_, h1, rfl, hM_1, hM_2, hM_3, hM_5, hM_6, hM_12, hM_15, hM_16, hM_17, hM_18, hM_19, hM_20, hM_26, hM_28, hM_29, trivial⟩
  have y3 := (hMb.fr  (fun j9 a9 b9 => f1 j9 (by omega)))
  have x4 := (f1 (2003) (by omega)).trans (hX_a)
  have x5 := (f1 (2006) (by omega)).trans (hRq_a)
  refine g_callV (k := 2000) (n9 := 1) (av := [.int 0]) (st := []) E (ct_X13_plans_false l hw hM2 y3 (⟨_, x4⟩) (⟨_, x5⟩) (by omega)) gciX13 dX13_planOver_20 h1 q2416 q2418 qs107 q135 q2419 (by decide +kernel) rfl rfl ⟨by decide, by decide⟩ ⟨by decide, by decide⟩ (Nat.le_of_ble_eq_true rfl) rfl (gPi.k (fun g6 h6 => ?_))
  obtain ⟨hm6, ⟨dd6, hr6⟩, ⟨hq6_f, hq6_a, hq6_b⟩, f6⟩ := h6
  have hm6_o := hm6
  obtain ⟨hm6_F, hm6_a, hm6_0, hm6_1, hm6_2, hm6_3, hm6_5, hm6_6, hm6_12, hm6_15, hm6_16, hm6_17, hm6_18, hm6_19, hm6_20, hm6_26, hm6_28, hm6_29, -⟩ := hm6_o
  have hr6_o := hr6
  obtain ⟨hr6_f, hr6_a, hr6_r, hr6_d⟩ := hr6_o
  refine g_pop E dX13_planOver_23 rfl rfl ?_
  refine g_iconst E (v := 0) dX13_planOver_24 (by decide) rfl ?_
  refine g_istore_n E dX13_planOver_25 rfl (by decide) rfl (lo1 := [some (.ref 2000), some (.int (zb b)), some (.int 0), none]) rfl rfl ?_
  refine g_iconst E (v := 0) dX13_planOver_26 (by decide) rfl ?_
  refine g_istore_n E dX13_planOver_27 rfl (by decide) rfl (lo1 := [some (.ref 2000), some (.int (zb b)), some (.int 0), some (.int 0)]) rfl rfl ?_
  have lp28 : ∀ (r9 : Nat) (k : Nat), (k ≤ B 0 3) → (B 0 3 - k < r9) → gV z g6 0 0 28 [some (.ref 2000), some (.int (zb b)), some (.int (orTo (fun j => decide (zRP B j = (if b then 3 else 2 : Int32))) k)), some (.int (nI k))] [] := by
    intro r9
    induction r9 with
    | zero => intro k hk hm; exact absurd hm (Nat.not_lt_zero _)
    | succ r9 ih28 =>
      intro k hk hm
      refine g_iload_n E dX13_planOver_28 rfl rfl rfl ?_
      refine g_aload_n E dX13_planOver_29 rfl rfl rfl ?_
      refine g_getf E gciX13 dX13_planOver_30 hm6_a 3 rfl (by decide) q1743 (.inl rfl) (.ref mb) (hm6_3) rfl ?_
      have x7 := (f6 (mb) (by omega)).trans ((f1 (mb) (by omega)).trans (hMb_a))
      refine g_getfN E gciX27 dX13_planOver_33 x7 5 rfl (by decide) q1862 (.inl rfl) (.int (nI (B 0 3))) (hMb_5) rfl ?_
      refine g_icmp_ge E dX13_planOver_36 (tgt := 75) (by decide) rfl (fun c36 => ?_) (fun c36 => ?_)
      · have c36 := (nI_leI (a := B 0 3) (b := k) (by omega) (by omega)).mp c36
        obtain rfl : k = B 0 3 := by omega
        refine g_aload_n E dX13_planOver_75 rfl rfl rfl ?_
        refine g_iload_n E dX13_planOver_76 rfl rfl rfl ?_
        have hM8 : pMq g6 (.ref mb) 0 tr wh tp fa ac mk [] := ⟨_, hm6_a, hm6_0, hm6_1, hm6_2, hm6_3, hm6_5, hm6_6, hm6_12, hm6_15, hm6_16, hm6_17, hm6_18, hm6_19, hm6_20, hm6_26, hm6_28, hm6_29, trivial⟩
        refine g_callV (k := 2000) (n9 := 1) (av := [.int (orTo (fun j => decide (zRP B j = (if b then 3 else 2 : Int32))) (B 0 3))]) (st := []) E (ct_X13_fine l (orTo (fun j => decide (zRP B j = (if b then 3 else 2 : Int32))) (B 0 3)) hM8) gciX13 dX13_planOver_77 hm6_a q2181 q2183 qs80 q135 q2184 (by decide +kernel) rfl rfl ⟨by decide, by decide⟩ ⟨by decide, by decide⟩ (Nat.le_of_ble_eq_true rfl) rfl (gPi.k (fun g9 h9 => ?_))
        obtain ⟨hm9, f9⟩ := h9
        have hm9_o := hm9
        obtain ⟨hm9_F, hm9_a, hm9_0, hm9_1, hm9_2, hm9_3, hm9_5, hm9_6, hm9_12, hm9_15, hm9_16, hm9_17, hm9_18, hm9_19, hm9_20, hm9_26, hm9_28, hm9_29, -⟩ := hm9_o
        have hs10 : sPlo true B b = (orTo (fun j => decide (zRP B j = (if b then 3 else 2 : Int32))) (B 0 3), 0) := rfl
        have x11 := (f9 (2003) (by omega)).trans (hr6_a)
        have x12 := (f9 (2006) (by omega)).trans (hq6_a)
        exact g_iret E Rt dX13_planOver_80 rfl (by decide) (by decide) (by rw [hs10]; exact ⟨rfl, ⟨_, hm9_a, hm9_0, hm9_1, hm9_2, hm9_3, hm9_5, hm9_6, hm9_12, hm9_15, hm9_16, hm9_17, hm9_18, hm9_19, hm9_20, hm9_26, hm9_28, hm9_29, trivial⟩, ⟨_, x11⟩, ⟨_, x12⟩, fun j9 h9 => ((f9 j9 (by omega)).trans (f6 j9 (by omega))).trans (f1 j9 (by omega))⟩)
      · have c36 := mt (nI_leI (a := B 0 3) (b := k) (by omega) (by omega)).mpr c36
        refine g_iload_n E dX13_planOver_39 rfl rfl rfl ?_
        refine g_aload_n E dX13_planOver_40 rfl rfl rfl ?_
        refine g_getf E gciX13 dX13_planOver_41 hm6_a 16 rfl (by decide) q1756 (.inl rfl) (.ref 2003) (hm6_16) rfl ?_
        refine g_iconst E (v := 0) dX13_planOver_44 (by decide) rfl ?_
        refine g_iload_n E dX13_planOver_45 rfl rfl rfl ?_
        refine g_iadd E dX13_planOver_46 rfl ?_
        refine g_as (y := nI k) (Int32.zero_add _) ?_
        refine g_iald E dX13_planOver_47 (j := k) hr6_a (rfl) (by omega) (by decide) (v := ((zPl B false 0 (B 0 4)).1) k) (hr6_r k (by unfold zRel; omega)) rfl ?_
        refine g_iload_n E dX13_planOver_48 rfl rfl rfl ?_
        refine g_if_eq E dX13_planOver_49 (tgt := 56) (by decide) rfl (fun c49 => ?_) (fun c49 => ?_)
        · have c49 := zb_0.mp c49
          refine g_iconst E (v := 2) dX13_planOver_56 (by decide) rfl ?_
          refine g_icmp_ne E dX13_planOver_57 (tgt := 66) (by decide) rfl (fun c57 => ?_) (fun c57 => ?_)
          · refine g_iconst E (v := 0) dX13_planOver_66 (by decide) rfl ?_
            refine g_ior E dX13_planOver_67 rfl ?_
            refine g_as (y := orTo (fun j => decide (zRP B j = (if b then 3 else 2 : Int32))) (k + 1)) (orTo_f (by simp [zRP, c49, c57])) ?_
            refine g_istore_n E dX13_planOver_68 rfl (by decide) rfl (lo1 := [some (.ref 2000), some (.int (zb b)), some (.int (orTo (fun j => decide (zRP B j = (if b then 3 else 2 : Int32))) (k + 1))), some (.int (nI k))]) rfl rfl ?_
            refine g_iinc E dX13_planOver_69 rfl (v := nI (k + 1)) (nI_c _) (by decide) rfl (lo1 := [some (.ref 2000), some (.int (zb b)), some (.int (orTo (fun j => decide (zRP B j = (if b then 3 else 2 : Int32))) (k + 1))), some (.int (nI (k + 1)))]) rfl rfl ?_
            refine g_goto E dX13_planOver_72 (tgt := 28) (by decide) ?_
            exact ih28 (k + 1) (by omega) (by omega)
          · refine g_iconst E (v := 1) dX13_planOver_60 (by decide) rfl ?_
            refine g_iload_n E dX13_planOver_61 rfl rfl rfl ?_
            refine g_ishl E dX13_planOver_62 rfl ?_
            refine g_goto E dX13_planOver_63 (tgt := 67) (by decide) ?_
            refine g_ior E dX13_planOver_67 rfl ?_
            refine g_as (y := orTo (fun j => decide (zRP B j = (if b then 3 else 2 : Int32))) (k + 1)) (orTo_t (by simp [zRP, c49, c57])) ?_
            refine g_istore_n E dX13_planOver_68 rfl (by decide) rfl (lo1 := [some (.ref 2000), some (.int (zb b)), some (.int (orTo (fun j => decide (zRP B j = (if b then 3 else 2 : Int32))) (k + 1))), some (.int (nI k))]) rfl rfl ?_
            refine g_iinc E dX13_planOver_69 rfl (v := nI (k + 1)) (nI_c _) (by decide) rfl (lo1 := [some (.ref 2000), some (.int (zb b)), some (.int (orTo (fun j => decide (zRP B j = (if b then 3 else 2 : Int32))) (k + 1))), some (.int (nI (k + 1)))]) rfl rfl ?_
            refine g_goto E dX13_planOver_72 (tgt := 28) (by decide) ?_
            exact ih28 (k + 1) (by omega) (by omega)
        · have c49 := zb_n0.mp c49
          refine g_iconst E (v := 3) dX13_planOver_52 (by decide) rfl ?_
          refine g_goto E dX13_planOver_53 (tgt := 57) (by decide) ?_
          refine g_icmp_ne E dX13_planOver_57 (tgt := 66) (by decide) rfl (fun c57 => ?_) (fun c57 => ?_)
          · refine g_iconst E (v := 0) dX13_planOver_66 (by decide) rfl ?_
            refine g_ior E dX13_planOver_67 rfl ?_
            refine g_as (y := orTo (fun j => decide (zRP B j = (if b then 3 else 2 : Int32))) (k + 1)) (orTo_f (by simp [zRP, c49, c57])) ?_
            refine g_istore_n E dX13_planOver_68 rfl (by decide) rfl (lo1 := [some (.ref 2000), some (.int (zb b)), some (.int (orTo (fun j => decide (zRP B j = (if b then 3 else 2 : Int32))) (k + 1))), some (.int (nI k))]) rfl rfl ?_
            refine g_iinc E dX13_planOver_69 rfl (v := nI (k + 1)) (nI_c _) (by decide) rfl (lo1 := [some (.ref 2000), some (.int (zb b)), some (.int (orTo (fun j => decide (zRP B j = (if b then 3 else 2 : Int32))) (k + 1))), some (.int (nI (k + 1)))]) rfl rfl ?_
            refine g_goto E dX13_planOver_72 (tgt := 28) (by decide) ?_
            exact ih28 (k + 1) (by omega) (by omega)
          · refine g_iconst E (v := 1) dX13_planOver_60 (by decide) rfl ?_
            refine g_iload_n E dX13_planOver_61 rfl rfl rfl ?_
            refine g_ishl E dX13_planOver_62 rfl ?_
            refine g_goto E dX13_planOver_63 (tgt := 67) (by decide) ?_
            refine g_ior E dX13_planOver_67 rfl ?_
            refine g_as (y := orTo (fun j => decide (zRP B j = (if b then 3 else 2 : Int32))) (k + 1)) (orTo_t (by simp [zRP, c49, c57])) ?_
            refine g_istore_n E dX13_planOver_68 rfl (by decide) rfl (lo1 := [some (.ref 2000), some (.int (zb b)), some (.int (orTo (fun j => decide (zRP B j = (if b then 3 else 2 : Int32))) (k + 1))), some (.int (nI k))]) rfl rfl ?_
            refine g_iinc E dX13_planOver_69 rfl (v := nI (k + 1)) (nI_c _) (by decide) rfl (lo1 := [some (.ref 2000), some (.int (zb b)), some (.int (orTo (fun j => decide (zRP B j = (if b then 3 else 2 : Int32))) (k + 1))), some (.int (nI (k + 1)))]) rfl rfl ?_
            refine g_goto E dX13_planOver_72 (tgt := 28) (by decide) ?_
            exact ih28 (k + 1) (by omega) (by omega)
  exact lp28 ((B 0 3) + 1) 0 (Nat.zero_le _) (Nat.lt_succ_of_le (Nat.sub_le _ _))
set_option maxHeartbeats 1000000 in
theorem ct_X13_planOver_N (l : Launch) {g : gWM} {th tr wh fa : Int32} {tp ac mk : Nat} (b : Bool) (hM : pMq g .null th tr wh tp fa ac mk []) : gCt l yX13_planOver cX13_planOver 4 (some .int) 1 0 0 21 [.ref 2000, .int (zb b)] g (gPi (sPlo false zB0 b).1 (fun g1 => pMq g1 .null 0 ((sPlo false zB0 b).2) (-1) tp fa ac mk [] ∧ ∀ j, j ≠ 2000 → g1 j = g j)) := by
  refine gCt.of RX13 (by decide) rfl (lo := [some (.ref 2000), some (.int (zb b)), none, none]) 2 rfl (Nat.le_of_ble_eq_true rfl) (fun z E Rt => ?_)
  have hM_o := hM
  obtain ⟨hM_F, hM_a, hM_0, hM_1, hM_2, hM_3, hM_5, hM_6, hM_12, hM_15, hM_16, hM_17, hM_18, hM_19, hM_20, hM_26, hM_28, hM_29, -⟩ := hM_o
  refine g_aload_n E dX13_planOver_0 rfl rfl rfl ?_
  refine g_iconst E (v := 0) dX13_planOver_1 (by decide) rfl ?_
  refine g_putf E gciX13 (v := .int 0) dX13_planOver_2 hM_a 0 rfl (by decide) q1740 (.inl rfl) rfl (fun _ => rfl) (fun _ => rfl) rfl (g_upk (fun g1 h1 f1 => ?_))
  refine g_aload_n E dX13_planOver_5 rfl rfl rfl ?_
  refine g_getf E gciX13 dX13_planOver_6 h1 3 rfl (by decide) q1743 (.inl rfl) (.null) (hM_3) rfl ?_
  refine g_ifnonnullN E dX13_planOver_9 rfl ?_
  refine g_aload_n E dX13_planOver_12 rfl rfl rfl ?_
  refine g_iconst E (v := 1) dX13_planOver_13 (by decide) rfl ?_
  have hM2 : pMq g1 .null 0 tr wh tp fa ac mk [] := ⟨_, h1, rfl, hM_1, hM_2, hM_3, hM_5, hM_6, hM_12, hM_15, hM_16, hM_17, hM_18, hM_19, hM_20, hM_26, hM_28, hM_29, trivial⟩
  refine g_callV (k := 2000) (n9 := 1) (av := [.int 1]) (st := []) E (ct_X13_refused l 1 hM2) gciX13 dX13_planOver_14 h1 q1846 q1848 qs52 q135 q1849 (by decide +kernel) rfl rfl ⟨by decide, by decide⟩ ⟨by decide, by decide⟩ (Nat.le_of_ble_eq_true rfl) rfl (gPi.k (fun g3 h3 => ?_))
  obtain ⟨hm3, f3⟩ := h3
  have hm3_o := hm3
  obtain ⟨hm3_F, hm3_a, hm3_0, hm3_1, hm3_2, hm3_3, hm3_5, hm3_6, hm3_12, hm3_15, hm3_16, hm3_17, hm3_18, hm3_19, hm3_20, hm3_26, hm3_28, hm3_29, -⟩ := hm3_o
  have hs4 : sPlo false zB0 b = ((-1), 1) := by first | (simp [sPlo, qI_z, qWy]; done) | (simp [sPlo, qI_z, qWy, qWy]; done)
  exact g_iret E Rt dX13_planOver_17 rfl (by decide) (by decide) (by rw [hs4]; exact ⟨rfl, ⟨_, hm3_a, hm3_0, hm3_1, hm3_2, hm3_3, hm3_5, hm3_6, hm3_12, hm3_15, hm3_16, hm3_17, hm3_18, hm3_19, hm3_20, hm3_26, hm3_28, hm3_29, trivial⟩, fun j9 h9 => (f3 j9 (by omega)).trans (f1 j9 (by omega))⟩)
set_option maxHeartbeats 1000000 in
theorem ct_X13_season (l : Launch) {g : gWM} {mb : Nat} {B : gBar} {R : Nat → Int32} {d : Int32} {th tr wh fa : Int32} {tp ac mk : Nat} (p : Int32) (hw : wfB B) (hM : pMq g (.ref mb) th tr wh tp fa ac mk []) (hMb : pMb g mb B) (hV : pRw g 2002 B R d) (hX : pIx g 2003 18) (h9 : 10000 ≤ mb) (hRq : pIx g 2006 6) : gCt l yX13_season cX13_season 2 (some .int) 6 0 0 143 [.ref 2000, .int p] g (gPi (sSsn true B p).1 (fun g1 => pMq g1 (.ref mb) 0 ((sSsn true B p).2) (-1) tp fa ac mk [] ∧ pIx g1 2003 18 ∧ pIx g1 2006 6 ∧ ∀ j, (j ≠ 2000 ∧ j ≠ 2003 ∧ j ≠ 2006) → g1 j = g j)) := by
  refine gCt.of RX13 (by decide) rfl (lo := [some (.ref 2000), some (.int p)]) 0 rfl (Nat.le_of_ble_eq_true rfl) (fun z E Rt => ?_)
  have hw_n := hw.1
  have hM_o := hM
  obtain ⟨hM_F, hM_a, hM_0, hM_1, hM_2, hM_3, hM_5, hM_6, hM_12, hM_15, hM_16, hM_17, hM_18, hM_19, hM_20, hM_26, hM_28, hM_29, -⟩ := hM_o
  have hMb_o := hMb
  obtain ⟨⟨hMb_F, hMb_a, hMb_0, hMb_1, hMb_2, hMb_3, hMb_4, hMb_5, hMb_6, hMb_7, hMb_8, hMb_9, hMb_11, hMb_12, hMb_13, hMb_14, hMb_15, hMb_16, hMb_17, hMb_18, hMb_19, hMb_20, hMb_21, hMb_22, hMb_23, hMb_24, hMb_25, hMb_26, hMb_27, hMb_28, hMb_29, hMb_30, hMb_31⟩, ⟨hMb_f1, hMb_a1, hMb_b1⟩, ⟨hMb_f2, hMb_a2, hMb_b2⟩, ⟨hMb_f3, hMb_a3, hMb_b3⟩, ⟨hMb_f4, hMb_a4, hMb_b4⟩, ⟨hMb_f5, hMb_a5, hMb_b5⟩, ⟨hMb_f6, hMb_a6, hMb_b6⟩, ⟨hMb_f7, hMb_a7, hMb_b7⟩, ⟨hMb_f8, hMb_a8, hMb_b8⟩, ⟨hMb_f9, hMb_a9, hMb_b9⟩, ⟨hMb_f10, hMb_a10, hMb_b10⟩, ⟨hMb_f11, hMb_a11, hMb_b11⟩, ⟨hMb_f12, hMb_a12, hMb_b12⟩, ⟨hMb_f13, hMb_a13, hMb_b13⟩, ⟨hMb_f14, hMb_a14, hMb_b14⟩, ⟨hMb_f15, hMb_a15, hMb_b15⟩, ⟨hMb_f16, hMb_a16, hMb_b16⟩, ⟨hMb_f17, hMb_a17, hMb_b17⟩, ⟨hMb_f18, hMb_a18, hMb_b18⟩, ⟨hMb_f19, hMb_a19, hMb_b19⟩, ⟨hMb_f20, hMb_a20, hMb_b20⟩, ⟨hMb_f21, hMb_a21, hMb_b21⟩⟩ := hMb_o
  have hV_o := hV
  obtain ⟨hV_f, hV_a, hV_r, hV_d⟩ := hV_o
  have hX_o := hX
  obtain ⟨hX_f, hX_a⟩ := hX_o
  have hRq_o := hRq
  obtain ⟨hRq_f, hRq_a⟩ := hRq_o
  refine g_aload_n E dX13_season_0 rfl rfl rfl ?_
  refine g_iconst E (v := 0) dX13_season_1 (by decide) rfl ?_
  refine g_putf E gciX13 (v := .int 0) dX13_season_2 hM_a 0 rfl (by decide) q1740 (.inl rfl) rfl (fun _ => rfl) (fun _ => rfl) rfl (g_upk (fun g1 h1 f1 => ?_))
  refine g_aload_n E dX13_season_5 rfl rfl rfl ?_
  refine g_getf E gciX13 dX13_season_6 h1 3 rfl (by decide) q1743 (.inl rfl) (.ref mb) (hM_3) rfl ?_
  refine g_ifnonnullY E dX13_season_9 (tgt := 18) (by decide) ?_
  refine g_iload_n E dX13_season_18 rfl rfl rfl ?_
  refine g_iconst E (v := 0) dX13_season_19 (by decide) rfl ?_
  refine g_ldcw E 65536 dX13_season_20 q2487 rfl ?_
  refine g_callS (n9 := 3) (av := [.int p, .int 0, .int 65536]) (st := []) E (ct_X13_in l p 0 65536) dX13_season_23 q2069 q2070 q135 q2071 (by decide +kernel) rfl rfl ⟨by decide, by decide⟩ ⟨by decide, by decide⟩ (Nat.le_of_ble_eq_true rfl) rfl (gPu.k ?_)
  refine g_if_ne E dX13_season_26 (tgt := 35) (by decide) rfl (fun c26 => ?_) (fun c26 => ?_)
  · have c26 := zb_n0.mp c26
    have h26 := c26
    obtain ⟨sd, rfl, z2, z2_c⟩ := zIn_nI (a := 0) (m := 65536) (by decide) (by decide) h26
    refine g_aload_n E dX13_season_35 rfl rfl rfl ?_
    refine g_iload_n E dX13_season_36 rfl rfl rfl ?_
    refine g_putf E gciX13 (v := .int (nI sd)) dX13_season_37 h1 27 rfl (by decide) q1767 (.inl rfl) rfl (fun _ => rfl) (fun _ => rfl) rfl (g_upk (fun g3 h3 f3 => ?_))
    refine g_aload_n E dX13_season_40 rfl rfl rfl ?_
    refine g_aload_n E dX13_season_41 rfl rfl rfl ?_
    refine g_iconst E (v := 1) dX13_season_42 (by decide) rfl ?_
    have hM4 : pMq g3 (.ref mb) 0 tr wh tp fa ac mk [(27, (nI sd))] := ⟨_, h3, rfl, hM_1, hM_2, hM_3, hM_5, hM_6, hM_12, hM_15, hM_16, hM_17, hM_18, hM_19, hM_20, hM_26, hM_28, hM_29, rfl, trivial⟩
    have y5 := ((hMb.fr  (fun j9 a9 b9 => f1 j9 (by omega))).fr  (fun j9 a9 b9 => f3 j9 (by omega)))
    have x6 := (f3 (2003) (by omega)).trans ((f1 (2003) (by omega)).trans (hX_a))
    have x7 := (f3 (2006) (by omega)).trans ((f1 (2006) (by omega)).trans (hRq_a))
    refine g_callV (k := 2000) (n9 := 1) (av := [.int 1]) (st := [.ref 2000]) E (ct_X13_plans_true l hw hM4 y5 (⟨_, x6⟩) (⟨_, x7⟩) (by omega) (by omega)) gciX13 dX13_season_43 h3 q2416 q2418 qs107 q135 q2419 (by decide +kernel) rfl rfl ⟨by decide, by decide⟩ ⟨by decide, by decide⟩ (Nat.le_of_ble_eq_true rfl) rfl (gPi.k (fun g8 h8 => ?_))
    obtain ⟨hm8, ⟨dd8, hr8⟩, ⟨hq8_f, hq8_a, hq8_b⟩, f8⟩ := h8
    have hm8_o := hm8
    obtain ⟨hm8_F, hm8_a, hm8_0, hm8_1, hm8_2, hm8_3, hm8_5, hm8_6, hm8_12, hm8_15, hm8_16, hm8_17, hm8_18, hm8_19, hm8_20, hm8_26, hm8_28, hm8_29, hm8_27, -⟩ := hm8_o
    have hr8_o := hr8
    obtain ⟨hr8_f, hr8_a, hr8_r, hr8_d⟩ := hr8_o
    have hM9 : pMq g8 (.ref mb) 0 tr wh tp fa ac mk [] := ⟨_, hm8_a, hm8_0, hm8_1, hm8_2, hm8_3, hm8_5, hm8_6, hm8_12, hm8_15, hm8_16, hm8_17, hm8_18, hm8_19, hm8_20, hm8_26, hm8_28, hm8_29, trivial⟩
    refine g_callV (k := 2000) (n9 := 1) (av := [.int ((zPl B true sd (B 0 4)).2.2)]) (st := []) E (ct_X13_fine l ((zPl B true sd (B 0 4)).2.2) hM9) gciX13 dX13_season_46 hm8_a q2181 q2183 qs80 q135 q2184 (by decide +kernel) rfl rfl ⟨by decide, by decide⟩ ⟨by decide, by decide⟩ (Nat.le_of_ble_eq_true rfl) rfl (gPi.k (fun g10 h10 => ?_))
    obtain ⟨hm10, f10⟩ := h10
    have hm10_o := hm10
    obtain ⟨hm10_F, hm10_a, hm10_0, hm10_1, hm10_2, hm10_3, hm10_5, hm10_6, hm10_12, hm10_15, hm10_16, hm10_17, hm10_18, hm10_19, hm10_20, hm10_26, hm10_28, hm10_29, -⟩ := hm10_o
    have hs11 : sSsn true B (nI sd) = ((zPl B true sd (B 0 4)).2.2, 0) := by first | (simp [sSsn, h26, z2_c]; done) | (simp [sSsn, h26, z2_c, qWy]; done)
    have x12 := (f10 (2003) (by omega)).trans (hr8_a)
    have x13 := (f10 (2006) (by omega)).trans (hq8_a)
    exact g_iret E Rt dX13_season_49 rfl (by decide) (by decide) (by rw [hs11]; exact ⟨rfl, ⟨_, hm10_a, hm10_0, hm10_1, hm10_2, hm10_3, hm10_5, hm10_6, hm10_12, hm10_15, hm10_16, hm10_17, hm10_18, hm10_19, hm10_20, hm10_26, hm10_28, hm10_29, trivial⟩, ⟨_, x12⟩, ⟨_, x13⟩, fun j9 h9 => (((f10 j9 (by omega)).trans (f8 j9 (by omega))).trans (f3 j9 (by omega))).trans (f1 j9 (by omega))⟩)
  · have c26 := zb_0.mp c26
    refine g_aload_n E dX13_season_29 rfl rfl rfl ?_
    refine g_iconst E (v := 2) dX13_season_30 (by decide) rfl ?_
    have hM14 : pMq g1 (.ref mb) 0 tr wh tp fa ac mk [] := ⟨_, h1, rfl, hM_1, hM_2, hM_3, hM_5, hM_6, hM_12, hM_15, hM_16, hM_17, hM_18, hM_19, hM_20, hM_26, hM_28, hM_29, trivial⟩
    refine g_callV (k := 2000) (n9 := 1) (av := [.int 2]) (st := []) E (ct_X13_refused l 2 hM14) gciX13 dX13_season_31 h1 q1846 q1848 qs52 q135 q1849 (by decide +kernel) rfl rfl ⟨by decide, by decide⟩ ⟨by decide, by decide⟩ (Nat.le_of_ble_eq_true rfl) rfl (gPi.k (fun g15 h15 => ?_))
    obtain ⟨hm15, f15⟩ := h15
    have hm15_o := hm15
    obtain ⟨hm15_F, hm15_a, hm15_0, hm15_1, hm15_2, hm15_3, hm15_5, hm15_6, hm15_12, hm15_15, hm15_16, hm15_17, hm15_18, hm15_19, hm15_20, hm15_26, hm15_28, hm15_29, -⟩ := hm15_o
    have hs16 : sSsn true B p = ((-1), 2) := by first | (simp [sSsn, c26]; done) | (simp [sSsn, c26, qWy]; done)
    have x17 := (f15 (2003) (by omega)).trans ((f1 (2003) (by omega)).trans (hX_a))
    have x18 := (f15 (2006) (by omega)).trans ((f1 (2006) (by omega)).trans (hRq_a))
    exact g_iret E Rt dX13_season_34 rfl (by decide) (by decide) (by rw [hs16]; exact ⟨rfl, ⟨_, hm15_a, hm15_0, hm15_1, hm15_2, hm15_3, hm15_5, hm15_6, hm15_12, hm15_15, hm15_16, hm15_17, hm15_18, hm15_19, hm15_20, hm15_26, hm15_28, hm15_29, trivial⟩, ⟨_, x17⟩, ⟨_, x18⟩, fun j9 h9 => (f15 j9 (by omega)).trans (f1 j9 (by omega))⟩)
set_option maxHeartbeats 1000000 in
theorem ct_X13_season_N (l : Launch) {g : gWM} {th tr wh fa : Int32} {tp ac mk : Nat} (p : Int32) (hM : pMq g .null th tr wh tp fa ac mk []) : gCt l yX13_season cX13_season 2 (some .int) 1 0 0 21 [.ref 2000, .int p] g (gPi (sSsn false zB0 p).1 (fun g1 => pMq g1 .null 0 ((sSsn false zB0 p).2) (-1) tp fa ac mk [] ∧ ∀ j, j ≠ 2000 → g1 j = g j)) := by
  refine gCt.of RX13 (by decide) rfl (lo := [some (.ref 2000), some (.int p)]) 0 rfl (Nat.le_of_ble_eq_true rfl) (fun z E Rt => ?_)
  have hM_o := hM
  obtain ⟨hM_F, hM_a, hM_0, hM_1, hM_2, hM_3, hM_5, hM_6, hM_12, hM_15, hM_16, hM_17, hM_18, hM_19, hM_20, hM_26, hM_28, hM_29, -⟩ := hM_o
  refine g_aload_n E dX13_season_0 rfl rfl rfl ?_
  refine g_iconst E (v := 0) dX13_season_1 (by decide) rfl ?_
  refine g_putf E gciX13 (v := .int 0) dX13_season_2 hM_a 0 rfl (by decide) q1740 (.inl rfl) rfl (fun _ => rfl) (fun _ => rfl) rfl (g_upk (fun g1 h1 f1 => ?_))
  refine g_aload_n E dX13_season_5 rfl rfl rfl ?_
  refine g_getf E gciX13 dX13_season_6 h1 3 rfl (by decide) q1743 (.inl rfl) (.null) (hM_3) rfl ?_
  refine g_ifnonnullN E dX13_season_9 rfl ?_
  refine g_aload_n E dX13_season_12 rfl rfl rfl ?_
  refine g_iconst E (v := 1) dX13_season_13 (by decide) rfl ?_
  have hM2 : pMq g1 .null 0 tr wh tp fa ac mk [] := ⟨_, h1, rfl, hM_1, hM_2, hM_3, hM_5, hM_6, hM_12, hM_15, hM_16, hM_17, hM_18, hM_19, hM_20, hM_26, hM_28, hM_29, trivial⟩
  refine g_callV (k := 2000) (n9 := 1) (av := [.int 1]) (st := []) E (ct_X13_refused l 1 hM2) gciX13 dX13_season_14 h1 q1846 q1848 qs52 q135 q1849 (by decide +kernel) rfl rfl ⟨by decide, by decide⟩ ⟨by decide, by decide⟩ (Nat.le_of_ble_eq_true rfl) rfl (gPi.k (fun g3 h3 => ?_))
  obtain ⟨hm3, f3⟩ := h3
  have hm3_o := hm3
  obtain ⟨hm3_F, hm3_a, hm3_0, hm3_1, hm3_2, hm3_3, hm3_5, hm3_6, hm3_12, hm3_15, hm3_16, hm3_17, hm3_18, hm3_19, hm3_20, hm3_26, hm3_28, hm3_29, -⟩ := hm3_o
  have hs4 : sSsn false zB0 p = ((-1), 1) := by first | (simp [sSsn, qI_z, qWy]; done) | (simp [sSsn, qI_z, qWy, qWy]; done)
  exact g_iret E Rt dX13_season_17 rfl (by decide) (by decide) (by rw [hs4]; exact ⟨rfl, ⟨_, hm3_a, hm3_0, hm3_1, hm3_2, hm3_3, hm3_5, hm3_6, hm3_12, hm3_15, hm3_16, hm3_17, hm3_18, hm3_19, hm3_20, hm3_26, hm3_28, hm3_29, trivial⟩, fun j9 h9 => (f3 j9 (by omega)).trans (f1 j9 (by omega))⟩)
set_option maxHeartbeats 1000000 in
theorem ct_X13_seizedIn (l : Launch) {g : gWM} {mb : Nat} {B : gBar} {R : Nat → Int32} {d : Int32} {th tr wh fa : Int32} {tp ac mk : Nat} (p : Int32) (s : Int32) (n : Int32) (hw : wfB B) (hM : pMq g (.ref mb) th tr wh tp fa ac mk []) (hMb : pMb g mb B) (hV : pRw g 2002 B R d) (hX : pIx g 2003 18) (h9 : 10000 ≤ mb) (hRq : pIx g 2006 6) : gCt l yX13_seizedIn cX13_seizedIn 6 (some .int) 6 0 0 143 [.ref 2000, .int p, .int s, .int n] g (gPi (sSzd B p s n).1 (fun g1 => pMq g1 (.ref mb) 0 ((sSzd B p s n).2) (-1) tp fa ac mk [] ∧ pIx g1 2003 18 ∧ pIx g1 2006 6 ∧ ∀ j, (j ≠ 2000 ∧ j ≠ 2003 ∧ j ≠ 2006) → g1 j = g j)) := by
  refine gCt.of RX13 (by decide) rfl (lo := [some (.ref 2000), some (.int p), some (.int s), some (.int n), none, none]) 2 rfl (Nat.le_of_ble_eq_true rfl) (fun z E Rt => ?_)
  have hw_n := hw.1
  have hM_o := hM
  obtain ⟨hM_F, hM_a, hM_0, hM_1, hM_2, hM_3, hM_5, hM_6, hM_12, hM_15, hM_16, hM_17, hM_18, hM_19, hM_20, hM_26, hM_28, hM_29, -⟩ := hM_o
  have hMb_o := hMb
  obtain ⟨⟨hMb_F, hMb_a, hMb_0, hMb_1, hMb_2, hMb_3, hMb_4, hMb_5, hMb_6, hMb_7, hMb_8, hMb_9, hMb_11, hMb_12, hMb_13, hMb_14, hMb_15, hMb_16, hMb_17, hMb_18, hMb_19, hMb_20, hMb_21, hMb_22, hMb_23, hMb_24, hMb_25, hMb_26, hMb_27, hMb_28, hMb_29, hMb_30, hMb_31⟩, ⟨hMb_f1, hMb_a1, hMb_b1⟩, ⟨hMb_f2, hMb_a2, hMb_b2⟩, ⟨hMb_f3, hMb_a3, hMb_b3⟩, ⟨hMb_f4, hMb_a4, hMb_b4⟩, ⟨hMb_f5, hMb_a5, hMb_b5⟩, ⟨hMb_f6, hMb_a6, hMb_b6⟩, ⟨hMb_f7, hMb_a7, hMb_b7⟩, ⟨hMb_f8, hMb_a8, hMb_b8⟩, ⟨hMb_f9, hMb_a9, hMb_b9⟩, ⟨hMb_f10, hMb_a10, hMb_b10⟩, ⟨hMb_f11, hMb_a11, hMb_b11⟩, ⟨hMb_f12, hMb_a12, hMb_b12⟩, ⟨hMb_f13, hMb_a13, hMb_b13⟩, ⟨hMb_f14, hMb_a14, hMb_b14⟩, ⟨hMb_f15, hMb_a15, hMb_b15⟩, ⟨hMb_f16, hMb_a16, hMb_b16⟩, ⟨hMb_f17, hMb_a17, hMb_b17⟩, ⟨hMb_f18, hMb_a18, hMb_b18⟩, ⟨hMb_f19, hMb_a19, hMb_b19⟩, ⟨hMb_f20, hMb_a20, hMb_b20⟩, ⟨hMb_f21, hMb_a21, hMb_b21⟩⟩ := hMb_o
  have hV_o := hV
  obtain ⟨hV_f, hV_a, hV_r, hV_d⟩ := hV_o
  have hX_o := hX
  obtain ⟨hX_f, hX_a⟩ := hX_o
  have hRq_o := hRq
  obtain ⟨hRq_f, hRq_a⟩ := hRq_o
  refine g_aload_n E dX13_seizedIn_0 rfl rfl rfl ?_
  refine g_iconst E (v := 0) dX13_seizedIn_1 (by decide) rfl ?_
  refine g_putf E gciX13 (v := .int 0) dX13_seizedIn_2 hM_a 0 rfl (by decide) q1740 (.inl rfl) rfl (fun _ => rfl) (fun _ => rfl) rfl (g_upk (fun g1 h1 f1 => ?_))
  refine g_aload_n E dX13_seizedIn_5 rfl rfl rfl ?_
  refine g_iload_n E dX13_seizedIn_6 rfl rfl rfl ?_
  have hM2 : pMq g1 (.ref mb) 0 tr wh tp fa ac mk [] := ⟨_, h1, rfl, hM_1, hM_2, hM_3, hM_5, hM_6, hM_12, hM_15, hM_16, hM_17, hM_18, hM_19, hM_20, hM_26, hM_28, hM_29, trivial⟩
  have y3 := (hMb.fr  (fun j9 a9 b9 => f1 j9 (by omega)))
  refine g_callV (k := 2000) (n9 := 1) (av := [.int p]) (st := []) E (ct_X13_isGood l p hw hM2 y3) gciX13 dX13_seizedIn_7 h1 q2197 q2199 qs81 q135 q2200 (by decide +kernel) rfl rfl ⟨by decide, by decide⟩ ⟨by decide, by decide⟩ (Nat.le_of_ble_eq_true rfl) rfl (gPu.k ?_)
  refine g_if_ne E dX13_seizedIn_10 (tgt := 19) (by decide) rfl (fun c10 => ?_) (fun c10 => ?_)
  · have c10 := zb_n0.mp c10
    obtain ⟨j, q4⟩ := isSome_of c10
    obtain ⟨rfl, q4_l⟩ := qI_some (by omega) q4
    refine g_iload_n E dX13_seizedIn_19 rfl rfl rfl ?_
    refine g_iconst E (v := 0) dX13_seizedIn_20 (by decide) rfl ?_
    refine g_ldcw E 65536 dX13_seizedIn_21 q2487 rfl ?_
    refine g_callS (n9 := 3) (av := [.int s, .int 0, .int 65536]) (st := []) E (ct_X13_in l s 0 65536) dX13_seizedIn_24 q2069 q2070 q135 q2071 (by decide +kernel) rfl rfl ⟨by decide, by decide⟩ ⟨by decide, by decide⟩ (Nat.le_of_ble_eq_true rfl) rfl (gPu.k ?_)
    refine g_if_eq E dX13_seizedIn_27 (tgt := 40) (by decide) rfl (fun c27 => ?_) (fun c27 => ?_)
    · have c27 := zb_0.mp c27
      refine g_aload_n E dX13_seizedIn_40 rfl rfl rfl ?_
      refine g_iconst E (v := 2) dX13_seizedIn_41 (by decide) rfl ?_
      refine g_callV (k := 2000) (n9 := 1) (av := [.int 2]) (st := []) E (ct_X13_refused l 2 hM2) gciX13 dX13_seizedIn_42 h1 q1846 q1848 qs52 q135 q1849 (by decide +kernel) rfl rfl ⟨by decide, by decide⟩ ⟨by decide, by decide⟩ (Nat.le_of_ble_eq_true rfl) rfl (gPi.k (fun g5 h5 => ?_))
      obtain ⟨hm5, f5⟩ := h5
      have hm5_o := hm5
      obtain ⟨hm5_F, hm5_a, hm5_0, hm5_1, hm5_2, hm5_3, hm5_5, hm5_6, hm5_12, hm5_15, hm5_16, hm5_17, hm5_18, hm5_19, hm5_20, hm5_26, hm5_28, hm5_29, -⟩ := hm5_o
      have hs6 : sSzd B (nI j) s n = ((-1), 2) := by first | (simp [sSzd, c10, q4, c27]; done) | (simp [sSzd, c10, q4, c27, qWy]; done)
      have x7 := (f5 (2003) (by omega)).trans ((f1 (2003) (by omega)).trans (hX_a))
      have x8 := (f5 (2006) (by omega)).trans ((f1 (2006) (by omega)).trans (hRq_a))
      exact g_iret E Rt dX13_seizedIn_45 rfl (by decide) (by decide) (by rw [hs6]; exact ⟨rfl, ⟨_, hm5_a, hm5_0, hm5_1, hm5_2, hm5_3, hm5_5, hm5_6, hm5_12, hm5_15, hm5_16, hm5_17, hm5_18, hm5_19, hm5_20, hm5_26, hm5_28, hm5_29, trivial⟩, ⟨_, x7⟩, ⟨_, x8⟩, fun j9 h9 => (f5 j9 (by omega)).trans (f1 j9 (by omega))⟩)
    · have c27 := zb_n0.mp c27
      refine g_iload_n E dX13_seizedIn_30 rfl rfl rfl ?_
      refine g_iconst E (v := 1) dX13_seizedIn_31 (by decide) rfl ?_
      refine g_bipush E (v := 50) dX13_seizedIn_32 (by decide) rfl ?_
      refine g_callS (n9 := 3) (av := [.int n, .int 1, .int 50]) (st := []) E (ct_X13_in l n 1 50) dX13_seizedIn_34 q2069 q2070 q135 q2071 (by decide +kernel) rfl rfl ⟨by decide, by decide⟩ ⟨by decide, by decide⟩ (Nat.le_of_ble_eq_true rfl) rfl (gPu.k ?_)
      refine g_if_ne E dX13_seizedIn_37 (tgt := 46) (by decide) rfl (fun c37 => ?_) (fun c37 => ?_)
      · have c37 := zb_n0.mp c37
        have h27 := c27
        obtain ⟨sd, rfl, z9, z9_c⟩ := zIn_nI (a := 0) (m := 65536) (by decide) (by decide) h27
        have h37 := c37
        obtain ⟨m, rfl, z10, z10_c⟩ := zIn_nI (a := 1) (m := 50) (by decide) (by decide) h37
        refine g_aload_n E dX13_seizedIn_46 rfl rfl rfl ?_
        refine g_iload_n E dX13_seizedIn_47 rfl rfl rfl ?_
        refine g_putf E gciX13 (v := .int (nI sd)) dX13_seizedIn_48 h1 27 rfl (by decide) q1767 (.inl rfl) rfl (fun _ => rfl) (fun _ => rfl) rfl (g_upk (fun g11 h11 f11 => ?_))
        refine g_iconst E (v := 0) dX13_seizedIn_51 (by decide) rfl ?_
        refine g_istore E dX13_seizedIn_52 (by decide) rfl (lo1 := [some (.ref 2000), some (.int (nI j)), some (.int (nI sd)), some (.int (nI m)), some (.int 0), none]) rfl rfl ?_
        refine g_iconst E (v := 0) dX13_seizedIn_54 (by decide) rfl ?_
        refine g_istore E dX13_seizedIn_55 (by decide) rfl (lo1 := [some (.ref 2000), some (.int (nI j)), some (.int (nI sd)), some (.int (nI m)), some (.int 0), some (.int 0)]) rfl rfl ?_
        have lp57 : ∀ (r9 : Nat) (k : Nat) (gw : gWM), (k ≤ m) → (m - k < r9) → (pMq gw (.ref mb) 0 tr wh tp fa ac mk [(27, nI (zSz B j sd k).1)]) → (pIx gw 2003 18) → (pIx gw 2006 6) → (∀ j, (j ≠ 2000 ∧ j ≠ 2003 ∧ j ≠ 2006) → gw j = g j) → gV z gw 0 0 57 [some (.ref 2000), some (.int (nI j)), some (.int (nI sd)), some (.int (nI m)), some (.int ((zSz B j sd k).2)), some (.int (nI k))] [] := by
          intro r9
          induction r9 with
          | zero => intro k gw hk hm hMw hXw hQw hfw; exact absurd hm (Nat.not_lt_zero _)
          | succ r9 ih57 =>
            intro k gw hk hm hMw hXw hQw hfw
            have hMw_o := hMw
            obtain ⟨hMw_F, hMw_a, hMw_0, hMw_1, hMw_2, hMw_3, hMw_5, hMw_6, hMw_12, hMw_15, hMw_16, hMw_17, hMw_18, hMw_19, hMw_20, hMw_26, hMw_28, hMw_29, hMw_27, -⟩ := hMw_o
            have hXw_o := hXw
            obtain ⟨hXw_f, hXw_a⟩ := hXw_o
            have hQw_o := hQw
            obtain ⟨hQw_f, hQw_a⟩ := hQw_o
            have hsl := zSz_lt (B := B) (j := j) (sd := sd) (by omega) k
            refine g_iload E dX13_seizedIn_57 rfl rfl ?_
            refine g_iload_n E dX13_seizedIn_59 rfl rfl rfl ?_
            refine g_icmp_ge E dX13_seizedIn_60 (tgt := 97) (by decide) rfl (fun c60 => ?_) (fun c60 => ?_)
            · have c60 := (nI_leI (a := m) (b := k) (by omega) (by omega)).mp c60
              obtain rfl : m = k := by omega
              refine g_aload_n E dX13_seizedIn_97 rfl rfl rfl ?_
              refine g_iload E dX13_seizedIn_98 rfl rfl ?_
              have hM12 : pMq gw (.ref mb) 0 tr wh tp fa ac mk [] := ⟨_, hMw_a, hMw_0, hMw_1, hMw_2, hMw_3, hMw_5, hMw_6, hMw_12, hMw_15, hMw_16, hMw_17, hMw_18, hMw_19, hMw_20, hMw_26, hMw_28, hMw_29, trivial⟩
              refine g_callV (k := 2000) (n9 := 1) (av := [.int ((zSz B j sd m).2)]) (st := []) E (ct_X13_fine l ((zSz B j sd m).2) hM12) gciX13 dX13_seizedIn_100 hMw_a q2181 q2183 qs80 q135 q2184 (by decide +kernel) rfl rfl ⟨by decide, by decide⟩ ⟨by decide, by decide⟩ (Nat.le_of_ble_eq_true rfl) rfl (gPi.k (fun g13 h13 => ?_))
              obtain ⟨hm13, f13⟩ := h13
              have hm13_o := hm13
              obtain ⟨hm13_F, hm13_a, hm13_0, hm13_1, hm13_2, hm13_3, hm13_5, hm13_6, hm13_12, hm13_15, hm13_16, hm13_17, hm13_18, hm13_19, hm13_20, hm13_26, hm13_28, hm13_29, -⟩ := hm13_o
              have hs14 : sSzd B (nI j) (nI sd) (nI m) = ((zSz B j sd m).2, 0) := by first | (simp [sSzd, c10, q4, h27, h37, z9_c, z10_c, c60]; done) | (simp [sSzd, c10, q4, h27, h37, z9_c, z10_c, c60, qWy]; done)
              have x15 := (f13 (2003) (by omega)).trans (hXw_a)
              have x16 := (f13 (2006) (by omega)).trans (hQw_a)
              exact g_iret E Rt dX13_seizedIn_103 rfl (by decide) (by decide) (by rw [hs14]; exact ⟨rfl, ⟨_, hm13_a, hm13_0, hm13_1, hm13_2, hm13_3, hm13_5, hm13_6, hm13_12, hm13_15, hm13_16, hm13_17, hm13_18, hm13_19, hm13_20, hm13_26, hm13_28, hm13_29, trivial⟩, ⟨_, x15⟩, ⟨_, x16⟩, fun j9 h9 => (f13 j9 (by omega)).trans (hfw j9 (by omega))⟩)
            · have c60 := mt (nI_leI (a := m) (b := k) (by omega) (by omega)).mpr c60
              refine g_aload_n E dX13_seizedIn_63 rfl rfl rfl ?_
              refine g_iconst E (v := 1) dX13_seizedIn_64 (by decide) rfl ?_
              have hM17 : pMq gw (.ref mb) 0 tr wh tp fa ac mk [(27, nI (zSz B j sd k).1)] := ⟨_, hMw_a, hMw_0, hMw_1, hMw_2, hMw_3, hMw_5, hMw_6, hMw_12, hMw_15, hMw_16, hMw_17, hMw_18, hMw_19, hMw_20, hMw_26, hMw_28, hMw_29, hMw_27, trivial⟩
              have y18 := (hMb.fr  (fun j9 a9 b9 => hfw j9 (by omega)))
              refine g_callV (k := 2000) (n9 := 1) (av := [.int 1]) (st := []) E (ct_X13_plans_true l hw hM17 y18 (⟨_, hXw_a⟩) (⟨_, hQw_a⟩) (by omega) (by omega)) gciX13 dX13_seizedIn_65 hMw_a q2416 q2418 qs107 q135 q2419 (by decide +kernel) rfl rfl ⟨by decide, by decide⟩ ⟨by decide, by decide⟩ (Nat.le_of_ble_eq_true rfl) rfl (gPi.k (fun g19 h19 => ?_))
              obtain ⟨hm19, ⟨dd19, hr19⟩, ⟨hq19_f, hq19_a, hq19_b⟩, f19⟩ := h19
              have hm19_o := hm19
              obtain ⟨hm19_F, hm19_a, hm19_0, hm19_1, hm19_2, hm19_3, hm19_5, hm19_6, hm19_12, hm19_15, hm19_16, hm19_17, hm19_18, hm19_19, hm19_20, hm19_26, hm19_28, hm19_29, hm19_27, -⟩ := hm19_o
              have hr19_o := hr19
              obtain ⟨hr19_f, hr19_a, hr19_r, hr19_d⟩ := hr19_o
              refine g_pop E dX13_seizedIn_68 rfl rfl ?_
              refine g_iload E dX13_seizedIn_69 rfl rfl ?_
              refine g_aload_n E dX13_seizedIn_71 rfl rfl rfl ?_
              refine g_getf E gciX13 dX13_seizedIn_72 hm19_a 16 rfl (by decide) q1756 (.inl rfl) (.ref 2003) (hm19_16) rfl ?_
              refine g_iconst E (v := 0) dX13_seizedIn_75 (by decide) rfl ?_
              refine g_iload_n E dX13_seizedIn_76 rfl rfl rfl ?_
              refine g_iadd E dX13_seizedIn_77 rfl ?_
              refine g_as (y := nI j) (Int32.zero_add _) ?_
              refine g_iald E dX13_seizedIn_78 (j := j) hr19_a (rfl) (by omega) (by decide) (v := ((zPl B true ((zSz B j sd k).1) (B 0 4)).1) j) (hr19_r j (by unfold zRel; omega)) rfl ?_
              refine g_iconst E (v := 3) dX13_seizedIn_79 (by decide) rfl ?_
              refine g_icmp_ne E dX13_seizedIn_80 (tgt := 87) (by decide) rfl (fun c80 => ?_) (fun c80 => ?_)
              · refine g_iconst E (v := 0) dX13_seizedIn_87 (by decide) rfl ?_
                refine g_iadd E dX13_seizedIn_88 rfl ?_
                refine g_as (y := (zSz B j sd (k + 1)).2) (by simp [zSz, zSz_all hw (show j < B 0 3 by omega), c80]) ?_
                refine g_istore E dX13_seizedIn_89 (by decide) rfl (lo1 := [some (.ref 2000), some (.int (nI j)), some (.int (nI sd)), some (.int (nI m)), some (.int ((zSz B j sd (k + 1)).2)), some (.int (nI k))]) rfl rfl ?_
                refine g_iinc E dX13_seizedIn_91 rfl (v := nI (k + 1)) (nI_c _) (by decide) rfl (lo1 := [some (.ref 2000), some (.int (nI j)), some (.int (nI sd)), some (.int (nI m)), some (.int ((zSz B j sd (k + 1)).2)), some (.int (nI (k + 1)))]) rfl rfl ?_
                refine g_goto E dX13_seizedIn_94 (tgt := 57) (by decide) ?_
                exact ih57 (k + 1) g19 (by omega) (by omega) (⟨_, hm19_a, hm19_0, hm19_1, hm19_2, hm19_3, hm19_5, hm19_6, hm19_12, hm19_15, hm19_16, hm19_17, hm19_18, hm19_19, hm19_20, hm19_26, hm19_28, hm19_29, hm19_27, trivial⟩) (⟨_, hr19_a⟩) (⟨_, hq19_a⟩) (fun j9 h9 => (f19 j9 (by omega)).trans (hfw j9 (by omega)))
              · refine g_iconst E (v := 1) dX13_seizedIn_83 (by decide) rfl ?_
                refine g_goto E dX13_seizedIn_84 (tgt := 88) (by decide) ?_
                refine g_iadd E dX13_seizedIn_88 rfl ?_
                refine g_as (y := (zSz B j sd (k + 1)).2) (by simp [zSz, zSz_all hw (show j < B 0 3 by omega), c80]) ?_
                refine g_istore E dX13_seizedIn_89 (by decide) rfl (lo1 := [some (.ref 2000), some (.int (nI j)), some (.int (nI sd)), some (.int (nI m)), some (.int ((zSz B j sd (k + 1)).2)), some (.int (nI k))]) rfl rfl ?_
                refine g_iinc E dX13_seizedIn_91 rfl (v := nI (k + 1)) (nI_c _) (by decide) rfl (lo1 := [some (.ref 2000), some (.int (nI j)), some (.int (nI sd)), some (.int (nI m)), some (.int ((zSz B j sd (k + 1)).2)), some (.int (nI (k + 1)))]) rfl rfl ?_
                refine g_goto E dX13_seizedIn_94 (tgt := 57) (by decide) ?_
                exact ih57 (k + 1) g19 (by omega) (by omega) (⟨_, hm19_a, hm19_0, hm19_1, hm19_2, hm19_3, hm19_5, hm19_6, hm19_12, hm19_15, hm19_16, hm19_17, hm19_18, hm19_19, hm19_20, hm19_26, hm19_28, hm19_29, hm19_27, trivial⟩) (⟨_, hr19_a⟩) (⟨_, hq19_a⟩) (fun j9 h9 => (f19 j9 (by omega)).trans (hfw j9 (by omega)))
        have x20 := (f11 (2003) (by omega)).trans ((f1 (2003) (by omega)).trans (hX_a))
        have x21 := (f11 (2006) (by omega)).trans ((f1 (2006) (by omega)).trans (hRq_a))
        exact lp57 (m + 1) 0 g11 (Nat.zero_le _) (by omega) (⟨_, h11, rfl, hM_1, hM_2, hM_3, hM_5, hM_6, hM_12, hM_15, hM_16, hM_17, hM_18, hM_19, hM_20, hM_26, hM_28, hM_29, rfl, trivial⟩) (⟨_, x20⟩) (⟨_, x21⟩) (fun j9 h9 => (f11 j9 (by omega)).trans (f1 j9 (by omega)))
      · have c37 := zb_0.mp c37
        refine g_aload_n E dX13_seizedIn_40 rfl rfl rfl ?_
        refine g_iconst E (v := 2) dX13_seizedIn_41 (by decide) rfl ?_
        refine g_callV (k := 2000) (n9 := 1) (av := [.int 2]) (st := []) E (ct_X13_refused l 2 hM2) gciX13 dX13_seizedIn_42 h1 q1846 q1848 qs52 q135 q1849 (by decide +kernel) rfl rfl ⟨by decide, by decide⟩ ⟨by decide, by decide⟩ (Nat.le_of_ble_eq_true rfl) rfl (gPi.k (fun g22 h22 => ?_))
        obtain ⟨hm22, f22⟩ := h22
        have hm22_o := hm22
        obtain ⟨hm22_F, hm22_a, hm22_0, hm22_1, hm22_2, hm22_3, hm22_5, hm22_6, hm22_12, hm22_15, hm22_16, hm22_17, hm22_18, hm22_19, hm22_20, hm22_26, hm22_28, hm22_29, -⟩ := hm22_o
        have hs23 : sSzd B (nI j) s n = ((-1), 2) := by first | (simp [sSzd, c10, q4, c27, c37]; done) | (simp [sSzd, c10, q4, c27, c37, qWy]; done)
        have x24 := (f22 (2003) (by omega)).trans ((f1 (2003) (by omega)).trans (hX_a))
        have x25 := (f22 (2006) (by omega)).trans ((f1 (2006) (by omega)).trans (hRq_a))
        exact g_iret E Rt dX13_seizedIn_45 rfl (by decide) (by decide) (by rw [hs23]; exact ⟨rfl, ⟨_, hm22_a, hm22_0, hm22_1, hm22_2, hm22_3, hm22_5, hm22_6, hm22_12, hm22_15, hm22_16, hm22_17, hm22_18, hm22_19, hm22_20, hm22_26, hm22_28, hm22_29, trivial⟩, ⟨_, x24⟩, ⟨_, x25⟩, fun j9 h9 => (f22 j9 (by omega)).trans (f1 j9 (by omega))⟩)
  · have c10 := zb_0.mp c10
    have q26 := isNone_of c10
    refine g_aload_n E dX13_seizedIn_13 rfl rfl rfl ?_
    refine g_iconst E (v := 1) dX13_seizedIn_14 (by decide) rfl ?_
    refine g_callV (k := 2000) (n9 := 1) (av := [.int 1]) (st := []) E (ct_X13_refused l 1 hM2) gciX13 dX13_seizedIn_15 h1 q1846 q1848 qs52 q135 q1849 (by decide +kernel) rfl rfl ⟨by decide, by decide⟩ ⟨by decide, by decide⟩ (Nat.le_of_ble_eq_true rfl) rfl (gPi.k (fun g27 h27 => ?_))
    obtain ⟨hm27, f27⟩ := h27
    have hm27_o := hm27
    obtain ⟨hm27_F, hm27_a, hm27_0, hm27_1, hm27_2, hm27_3, hm27_5, hm27_6, hm27_12, hm27_15, hm27_16, hm27_17, hm27_18, hm27_19, hm27_20, hm27_26, hm27_28, hm27_29, -⟩ := hm27_o
    have hs28 : sSzd B p s n = ((-1), 1) := by first | (simp [sSzd, c10, q26]; done) | (simp [sSzd, c10, q26, qWy]; done)
    have x29 := (f27 (2003) (by omega)).trans ((f1 (2003) (by omega)).trans (hX_a))
    have x30 := (f27 (2006) (by omega)).trans ((f1 (2006) (by omega)).trans (hRq_a))
    exact g_iret E Rt dX13_seizedIn_18 rfl (by decide) (by decide) (by rw [hs28]; exact ⟨rfl, ⟨_, hm27_a, hm27_0, hm27_1, hm27_2, hm27_3, hm27_5, hm27_6, hm27_12, hm27_15, hm27_16, hm27_17, hm27_18, hm27_19, hm27_20, hm27_26, hm27_28, hm27_29, trivial⟩, ⟨_, x29⟩, ⟨_, x30⟩, fun j9 h9 => (f27 j9 (by omega)).trans (f1 j9 (by omega))⟩)
set_option maxHeartbeats 1000000 in
theorem ct_X13_seizedIn_N (l : Launch) {g : gWM} {th tr wh fa : Int32} {tp ac mk : Nat} (p : Int32) (s : Int32) (n : Int32) (hM : pMq g .null th tr wh tp fa ac mk []) : gCt l yX13_seizedIn cX13_seizedIn 6 (some .int) 1 0 0 21 [.ref 2000, .int p, .int s, .int n] g (gPi (sSzd zB0 p s n).1 (fun g1 => pMq g1 .null 0 ((sSzd zB0 p s n).2) (-1) tp fa ac mk [] ∧ ∀ j, j ≠ 2000 → g1 j = g j)) := by
  refine gCt.of RX13 (by decide) rfl (lo := [some (.ref 2000), some (.int p), some (.int s), some (.int n), none, none]) 2 rfl (Nat.le_of_ble_eq_true rfl) (fun z E Rt => ?_)
  have hM_o := hM
  obtain ⟨hM_F, hM_a, hM_0, hM_1, hM_2, hM_3, hM_5, hM_6, hM_12, hM_15, hM_16, hM_17, hM_18, hM_19, hM_20, hM_26, hM_28, hM_29, -⟩ := hM_o
  refine g_aload_n E dX13_seizedIn_0 rfl rfl rfl ?_
  refine g_iconst E (v := 0) dX13_seizedIn_1 (by decide) rfl ?_
  refine g_putf E gciX13 (v := .int 0) dX13_seizedIn_2 hM_a 0 rfl (by decide) q1740 (.inl rfl) rfl (fun _ => rfl) (fun _ => rfl) rfl (g_upk (fun g1 h1 f1 => ?_))
  refine g_aload_n E dX13_seizedIn_5 rfl rfl rfl ?_
  refine g_iload_n E dX13_seizedIn_6 rfl rfl rfl ?_
  have hM2 : pMq g1 .null 0 tr wh tp fa ac mk [] := ⟨_, h1, rfl, hM_1, hM_2, hM_3, hM_5, hM_6, hM_12, hM_15, hM_16, hM_17, hM_18, hM_19, hM_20, hM_26, hM_28, hM_29, trivial⟩
  refine g_callV (k := 2000) (n9 := 1) (av := [.int p]) (st := []) E (ct_X13_isGood_N l p hM2) gciX13 dX13_seizedIn_7 h1 q2197 q2199 qs81 q135 q2200 (by decide +kernel) rfl rfl ⟨by decide, by decide⟩ ⟨by decide, by decide⟩ (Nat.le_of_ble_eq_true rfl) rfl (gPu.k ?_)
  refine g_if_ne E dX13_seizedIn_10 (tgt := 19) (by decide) rfl (fun h9 => absurd h9 (by decide)) (fun _ => ?_)
  refine g_aload_n E dX13_seizedIn_13 rfl rfl rfl ?_
  refine g_iconst E (v := 1) dX13_seizedIn_14 (by decide) rfl ?_
  refine g_callV (k := 2000) (n9 := 1) (av := [.int 1]) (st := []) E (ct_X13_refused l 1 hM2) gciX13 dX13_seizedIn_15 h1 q1846 q1848 qs52 q135 q1849 (by decide +kernel) rfl rfl ⟨by decide, by decide⟩ ⟨by decide, by decide⟩ (Nat.le_of_ble_eq_true rfl) rfl (gPi.k (fun g3 h3 => ?_))
  obtain ⟨hm3, f3⟩ := h3
  have hm3_o := hm3
  obtain ⟨hm3_F, hm3_a, hm3_0, hm3_1, hm3_2, hm3_3, hm3_5, hm3_6, hm3_12, hm3_15, hm3_16, hm3_17, hm3_18, hm3_19, hm3_20, hm3_26, hm3_28, hm3_29, -⟩ := hm3_o
  have hs4 : sSzd zB0 p s n = ((-1), 1) := by first | (simp [sSzd, qI_z, qWy]; done) | (simp [sSzd, qI_z, qWy, qWy]; done)
  exact g_iret E Rt dX13_seizedIn_18 rfl (by decide) (by decide) (by rw [hs4]; exact ⟨rfl, ⟨_, hm3_a, hm3_0, hm3_1, hm3_2, hm3_3, hm3_5, hm3_6, hm3_12, hm3_15, hm3_16, hm3_17, hm3_18, hm3_19, hm3_20, hm3_26, hm3_28, hm3_29, trivial⟩, fun j9 h9 => (f3 j9 (by omega)).trans (f1 j9 (by omega))⟩)
