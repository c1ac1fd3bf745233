/-! WALKS, third: Load, what writes -/
set_option maxRecDepth 100000
set_option maxHeartbeats 400000 in
theorem ct_X4_crosses (l : Launch) {g : gWM} {ld bb : Nat} {B : gBar} {R : Nat → Int32} {d : Int32} {lw r : Nat} (t : Nat) (f e : Int32) (hw : wfB B) (hLd : pLd g ld (.ref bb) B R d) (hBr : pBr g bb B) (hL : pLw g lw r) (ht : t < B 0 1) (hs : ld + 4 ≤ bb) : gCt l yX4_crosses cX4_crosses 8 (some .int) 4 0 0 93 [.ref ld, .int (nI t), .int f, .int e, .ref lw] g (gPi (zAsk B R t f r e) (fun g1 => pLd g1 ld (.ref bb) B (zCro B R t f (zAsk B R t f r e)) d ∧ ∀ j, (j < ld ∨ ld + 4 ≤ j) → g1 j = g j)) := by
  refine gCt.of RX4 (by decide) rfl (lo := [some (.ref ld), some (.int (nI t)), some (.int f), some (.int e), some (.ref lw), none, none, none]) 3 rfl (Nat.le_of_ble_eq_true rfl) (fun z E Rt => ?_)
  have hw_n := hw.1
  have hLd_o := hLd
  obtain ⟨⟨hLd_F, hLd_a, hLd_0, hLd_1, hLd_2, hLd_3, hLd_4, hLd_5⟩, ⟨hLd_s, hLd_sa, hLd_sb⟩, ⟨hLd_e, hLd_ea, hLd_eb⟩, hLd_p, hLd_pa, hLd_pb⟩ := hLd_o
  have hBr_o := hBr
  obtain ⟨⟨hBr_F, hBr_a, hBr_0, hBr_1, hBr_2, hBr_3, hBr_4, hBr_5, hBr_6, hBr_7, hBr_8, hBr_9, hBr_10, hBr_11, hBr_12, hBr_13, hBr_14, hBr_15⟩, ⟨hBr_f1, hBr_a1, hBr_b1⟩, ⟨hBr_f2, hBr_a2, hBr_b2⟩, ⟨hBr_f3, hBr_a3, hBr_b3⟩, ⟨hBr_f4, hBr_a4, hBr_b4⟩, ⟨hBr_f5, hBr_a5, hBr_b5⟩, ⟨hBr_f6, hBr_a6, hBr_b6⟩, ⟨hBr_f7, hBr_a7, hBr_b7⟩, hBr_c1, hBr_c2, hBr_c3, hBr_c4, hBr_c5⟩ := hBr_o
  refine g_aload_n E dX4_crosses_0 rfl rfl rfl ?_
  refine g_iload_n E dX4_crosses_1 rfl rfl rfl ?_
  refine g_iload_n E dX4_crosses_2 rfl rfl rfl ?_
  refine g_iload_n E dX4_crosses_3 rfl rfl rfl ?_
  refine g_aload E dX4_crosses_4 rfl rfl ?_
  refine g_callV (k := ld) (n9 := 4) (av := [.int (nI t), .int f, .int e, .ref lw]) (st := []) E (ct_X4_asked l t f e hw hLd hBr hL (by omega)) gciX4 dX4_crosses_6 hLd_a q1244 q1245 q1246 q126 q1247 (by decide +kernel) rfl rfl ⟨by decide, by decide⟩ ⟨by decide, by decide⟩ (Nat.le_of_ble_eq_true rfl) rfl (gPu.k ?_)
  refine g_istore E dX4_crosses_9 (by decide) rfl (lo1 := [some (.ref ld), some (.int (nI t)), some (.int f), some (.int e), some (.ref lw), some (.int (zAsk B R t f r e)), none, none]) rfl rfl ?_
  refine g_aload_n E dX4_crosses_11 rfl rfl rfl ?_
  refine g_iload_n E dX4_crosses_12 rfl rfl rfl ?_
  refine g_callV (k := ld) (n9 := 1) (av := [.int (nI t)]) (st := []) E (ct_X4_has l t hw hLd hBr (by omega)) gciX4 dX4_crosses_13 hLd_a q1237 q1160 q1161 q126 q1162 (by decide +kernel) rfl rfl ⟨by decide, by decide⟩ ⟨by decide, by decide⟩ (Nat.le_of_ble_eq_true rfl) rfl (gPu.k ?_)
  refine g_istore E dX4_crosses_16 (by decide) rfl (lo1 := [some (.ref ld), some (.int (nI t)), some (.int f), some (.int e), some (.ref lw), some (.int (zAsk B R t f r e)), some (.int (zHas B R t)), none]) rfl rfl ?_
  refine g_iconst E (v := 0) dX4_crosses_18 (by decide) rfl ?_
  refine g_istore E dX4_crosses_19 (by decide) rfl (lo1 := [some (.ref ld), some (.int (nI t)), some (.int f), some (.int e), some (.ref lw), some (.int (zAsk B R t f r e)), some (.int (zHas B R t)), some (.int 0)]) rfl rfl ?_
  have lp21 : ∀ (r9 : Nat) (k : Nat) (gw : gWM), (k ≤ B 0 3) → (B 0 3 - k < r9) → (pLd gw ld (.ref bb) B (zCr B R t f k) d) → (∀ j, (j < ld ∨ ld + 4 ≤ j) → gw j = g j) → gV z gw 0 0 21 [some (.ref ld), some (.int (nI t)), some (.int f), some (.int e), some (.ref lw), some (.int (zAsk B R t f r e)), some (.int (zHas B R t)), some (.int (nI k))] [] := by
    intro r9
    induction r9 with
    | zero => intro k gw hk hm hLw hfw; exact absurd hm (Nat.not_lt_zero _)
    | succ r9 ih21 =>
      intro k gw hk hm hLw hfw
      have hLw_o := hLw
      obtain ⟨⟨hLw_F, hLw_a, hLw_0, hLw_1, hLw_2, hLw_3, hLw_4, hLw_5⟩, ⟨hLw_s, hLw_sa, hLw_sb⟩, ⟨hLw_e, hLw_ea, hLw_eb⟩, hLw_p, hLw_pa, hLw_pb⟩ := hLw_o
      refine g_iload E dX4_crosses_21 rfl rfl ?_
      refine g_aload_n E dX4_crosses_23 rfl rfl rfl ?_
      refine g_getf E gciX4 dX4_crosses_24 hLw_a 3 rfl (by decide) q291 (.inl rfl) (.ref bb) (hLw_3) rfl ?_
      have x1 := (hfw (bb) (by omega)).trans (hBr_a)
      refine g_getf E gciX14 dX4_crosses_27 x1 12 rfl (by decide) q567 (.inl rfl) (.int (nI (B 0 3))) (hBr_12) rfl ?_
      refine g_icmp_ge E dX4_crosses_30 (tgt := 70) (by decide) rfl (fun c30 => ?_) (fun c30 => ?_)
      · have c30 := (nI_leI (a := B 0 3) (b := k) (by omega) (by omega)).mp c30
        obtain rfl : k = B 0 3 := by omega
        have hLw_o := hLw
        obtain ⟨⟨hLw_F, hLw_a, hLw_0, hLw_1, hLw_2, hLw_3, hLw_4, hLw_5⟩, ⟨hLw_s, hLw_sa, hLw_sb⟩, ⟨hLw_e, hLw_ea, hLw_eb⟩, hLw_p, hLw_pa, hLw_pb⟩ := hLw_o
        refine g_aload_n E dX4_crosses_70 rfl rfl rfl ?_
        refine g_getf E gciX4 dX4_crosses_71 hLw_a 2 rfl (by decide) q289 (.inl rfl) (.ref (ld + 3)) (hLw_2) rfl ?_
        refine g_iload_n E dX4_crosses_74 rfl rfl rfl ?_
        refine g_dup2 E dX4_crosses_75 rfl rfl rfl ?_
        refine g_iald E dX4_crosses_76 (j := t) hLw_pa (rfl) (by omega) (by decide) (v := (zCr B R t f (B 0 3)) (12 + t)) (hLw_pb t (by omega)) rfl ?_
        refine g_as (y := R (12 + t)) (zCr_hi (by omega)) ?_
        refine g_iload E dX4_crosses_77 rfl rfl ?_
        refine g_iadd E dX4_crosses_79 rfl ?_
        refine g_iast E dX4_crosses_80 (j := t) hLw_pa (rfl) (by omega) (by decide) rfl (g_upk (fun g2 h2 f2 => ?_))
        refine g_iload E dX4_crosses_81 rfl rfl ?_
        exact g_iret E Rt dX4_crosses_83 rfl (by decide) (by decide) (⟨rfl, pLd.pd hLw (by omega) hLw_pa h2 f2 (by omega) (by omega), fun j9 h9 => (f2 j9 (by omega)).trans (hfw j9 h9)⟩)
      · have c30 := mt (nI_leI (a := B 0 3) (b := k) (by omega) (by omega)).mpr c30
        refine g_iload E dX4_crosses_33 rfl rfl ?_
        refine g_iload E dX4_crosses_35 rfl rfl ?_
        refine g_callSN (n9 := 2) (av := [.int (zHas B R t), .int (nI k)]) (st := []) E (ct_X1_has l (zHas B R t) k) dX4_crosses_37 q1238 q1164 q120 q1165 (by decide +kernel) rfl rfl ⟨by decide, by decide⟩ ⟨by decide, by decide⟩ (Nat.le_of_ble_eq_true rfl) rfl (gPu.k ?_)
        refine g_as (y := zb (zHp B R t k)) (by rw [zBit_has (by omega) (by omega)]) ?_
        refine g_if_eq E dX4_crosses_40 (tgt := 64) (by decide) rfl (fun c40 => ?_) (fun c40 => ?_)
        · have c40 := zb_0.mp c40
          refine g_iinc E dX4_crosses_64 rfl (v := nI (k + 1)) (nI_c _) (by decide) rfl (lo1 := [some (.ref ld), some (.int (nI t)), some (.int f), some (.int e), some (.ref lw), some (.int (zAsk B R t f r e)), some (.int (zHas B R t)), some (.int (nI (k + 1)))]) rfl rfl ?_
          refine g_goto E dX4_crosses_67 (tgt := 21) (by decide) ?_
          exact ih21 (k + 1) gw (by omega) (by omega) (by rw [zCr_f c40]; exact hLw) hfw
        · have c40 := zb_n0.mp c40
          refine g_aload_n E dX4_crosses_43 rfl rfl rfl ?_
          refine g_getf E gciX4 dX4_crosses_44 hLw_a 0 rfl (by decide) q284 (.inl rfl) (.ref (ld + 1)) (hLw_0) rfl ?_
          refine g_iload E dX4_crosses_47 rfl rfl ?_
          refine g_iload_n E dX4_crosses_49 rfl rfl rfl ?_
          refine g_iload E dX4_crosses_50 rfl rfl ?_
          refine g_callSN (n9 := 2) (av := [.int f, .int (nI k)]) (st := [.int (nI k), .ref (ld + 1)]) E (ct_X1_has l f k) dX4_crosses_52 q1238 q1164 q120 q1165 (by decide +kernel) rfl rfl ⟨by decide, by decide⟩ ⟨by decide, by decide⟩ (Nat.le_of_ble_eq_true rfl) rfl (gPu.k ?_)
          refine g_if_eq E dX4_crosses_55 (tgt := 62) (by decide) rfl (fun c55 => ?_) (fun c55 => ?_)
          · have c55 := zb_0.mp c55
            refine g_iconst E (v := 2) dX4_crosses_62 (by decide) rfl ?_
            refine g_iast E dX4_crosses_63 (j := k) hLw_sa (rfl) (by omega) (by decide) rfl (g_upk (fun g3 h3 f3 => ?_))
            refine g_iinc E dX4_crosses_64 rfl (v := nI (k + 1)) (nI_c _) (by decide) rfl (lo1 := [some (.ref ld), some (.int (nI t)), some (.int f), some (.int e), some (.ref lw), some (.int (zAsk B R t f r e)), some (.int (zHas B R t)), some (.int (nI (k + 1)))]) rfl rfl ?_
            refine g_goto E dX4_crosses_67 (tgt := 21) (by decide) ?_
            exact ih21 (k + 1) g3 (by omega) (by omega) (by rw [zCr_t c40, c55]; exact pLd.st hLw (by omega) hLw_sa h3 f3 (by omega)) (fun j9 h9 => (f3 j9 (by omega)).trans (hfw j9 h9))
          · have c55 := zb_n0.mp c55
            refine g_iconst E (v := 3) dX4_crosses_58 (by decide) rfl ?_
            refine g_goto E dX4_crosses_59 (tgt := 63) (by decide) ?_
            refine g_iast E dX4_crosses_63 (j := k) hLw_sa (rfl) (by omega) (by decide) rfl (g_upk (fun g4 h4 f4 => ?_))
            refine g_iinc E dX4_crosses_64 rfl (v := nI (k + 1)) (nI_c _) (by decide) rfl (lo1 := [some (.ref ld), some (.int (nI t)), some (.int f), some (.int e), some (.ref lw), some (.int (zAsk B R t f r e)), some (.int (zHas B R t)), some (.int (nI (k + 1)))]) rfl rfl ?_
            refine g_goto E dX4_crosses_67 (tgt := 21) (by decide) ?_
            exact ih21 (k + 1) g4 (by omega) (by omega) (by rw [zCr_t c40, c55]; exact pLd.st hLw (by omega) hLw_sa h4 f4 (by omega)) (fun j9 h9 => (f4 j9 (by omega)).trans (hfw j9 h9))
  exact lp21 (B 0 3 + 1) 0 g (Nat.zero_le _) (by omega) (by rw [zCr_0]; exact hLd) (fun j9 h9 => rfl)
set_option maxHeartbeats 400000 in
theorem ct_X4_begin (l : Launch) {g : gWM} {ld bb : Nat} {B : gBar} (hw : wfB B) (hLs : pLs g ld) (hBr : pBr g bb B) (hs : ld + 4 ≤ bb) : gCt l yX4_begin cX4_begin 3 none 0 0 0 0 [.ref ld, .ref bb] g (gPn (fun g1 => pLd g1 ld (.ref bb) B (zR0 B) 0 ∧ ∀ j, (j < ld ∨ ld + 4 ≤ j) → g1 j = g j)) := by
  refine gCt.of RX4 (by decide) rfl (lo := [some (.ref ld), some (.ref bb), none]) 1 rfl (Nat.le_of_ble_eq_true rfl) (fun z E Rt => ?_)
  have hw_n := hw.1
  have hLs_o := hLs
  obtain ⟨⟨hLs_F, hLs_a, hLs_0, hLs_1, hLs_2⟩, ⟨hLs_s, hLs_sa⟩, ⟨hLs_e, hLs_ea⟩, hLs_p, hLs_pa⟩ := hLs_o
  have hBr_o := hBr
  obtain ⟨⟨hBr_F, hBr_a, hBr_0, hBr_1, hBr_2, hBr_3, hBr_4, hBr_5, hBr_6, hBr_7, hBr_8, hBr_9, hBr_10, hBr_11, hBr_12, hBr_13, hBr_14, hBr_15⟩, ⟨hBr_f1, hBr_a1, hBr_b1⟩, ⟨hBr_f2, hBr_a2, hBr_b2⟩, ⟨hBr_f3, hBr_a3, hBr_b3⟩, ⟨hBr_f4, hBr_a4, hBr_b4⟩, ⟨hBr_f5, hBr_a5, hBr_b5⟩, ⟨hBr_f6, hBr_a6, hBr_b6⟩, ⟨hBr_f7, hBr_a7, hBr_b7⟩, hBr_c1, hBr_c2, hBr_c3, hBr_c4, hBr_c5⟩ := hBr_o
  refine g_aload_n E dX4_begin_0 rfl rfl rfl ?_
  refine g_aload_n E dX4_begin_1 rfl rfl rfl ?_
  refine g_putf E gciX4 (v := .ref bb) dX4_begin_2 hLs_a 3 rfl (by decide) q291 (.inl rfl) rfl (fun _ => rfl) (fun _ => rfl) rfl (g_upk (fun g1 h1 f1 => ?_))
  refine g_aload_n E dX4_begin_5 rfl rfl rfl ?_
  refine g_iconst E (v := 0) dX4_begin_6 (by decide) rfl ?_
  refine g_putf E gciX4 (v := .int 0) dX4_begin_7 h1 5 rfl (by decide) q296 (.inl rfl) rfl (fun _ => rfl) (fun _ => rfl) rfl (g_upk (fun g2 h2 f2 => ?_))
  refine g_aload_n E dX4_begin_10 rfl rfl rfl ?_
  refine g_iconst E (v := 0) dX4_begin_11 (by decide) rfl ?_
  refine g_putf E gciX4 (v := .int 0) dX4_begin_12 h2 4 rfl (by decide) q293 (.inl rfl) rfl (fun _ => rfl) (fun _ => rfl) rfl (g_upk (fun g3 h3 f3 => ?_))
  refine g_iconst E (v := 0) dX4_begin_15 (by decide) rfl ?_
  refine g_istore_n E dX4_begin_16 rfl (by decide) rfl (lo1 := [some (.ref ld), some (.ref bb), some (.int 0)]) rfl rfl ?_
  have lp17 : ∀ (r9 : Nat) (k : Nat) (gw : gWM), (k ≤ B 0 3) → (B 0 3 - k < r9) → (pLx gw ld (.ref bb) (orTo (fun j => decide (B 18 j = 1)) k) 0 k 0) → (∀ j, (j < ld ∨ ld + 4 ≤ j) → gw j = g j) → gV z gw 0 0 17 [some (.ref ld), some (.ref bb), some (.int (nI k))] [] := by
    intro r9
    induction r9 with
    | zero => intro k gw hk hm hLw hfw; exact absurd hm (Nat.not_lt_zero _)
    | succ r9 ih17 =>
      intro k gw hk hm hLw hfw
      have hLw_o := hLw
      obtain ⟨⟨hLw_F, hLw_a, hLw_0, hLw_1, hLw_2, hLw_3, hLw_4, hLw_5⟩, ⟨hLw_s, hLw_sa, hLw_sb⟩, ⟨hLw_e, hLw_ea, hLw_eb⟩, hLw_p, hLw_pa, hLw_pb⟩ := hLw_o
      refine g_iload_n E dX4_begin_17 rfl rfl rfl ?_
      refine g_aload_n E dX4_begin_18 rfl rfl rfl ?_
      have x4 := (hfw (bb) (by omega)).trans (hBr_a)
      refine g_getf E gciX14 dX4_begin_19 x4 12 rfl (by decide) q567 (.inl rfl) (.int (nI (B 0 3))) (hBr_12) rfl ?_
      refine g_icmp_ge E dX4_begin_22 (tgt := 66) (by decide) rfl (fun c22 => ?_) (fun c22 => ?_)
      · have c22 := (nI_leI (a := B 0 3) (b := k) (by omega) (by omega)).mp c22
        obtain rfl : k = B 0 3 := by omega
        refine g_iconst E (v := 0) dX4_begin_66 (by decide) rfl ?_
        refine g_istore_n E dX4_begin_67 rfl (by decide) rfl (lo1 := [some (.ref ld), some (.ref bb), some (.int 0)]) rfl rfl ?_
        have lp68 : ∀ (r9 : Nat) (k : Nat) (gx : gWM), (k ≤ 4) → (4 - k < r9) → (pLx gx ld (.ref bb) (zHid B) 0 (B 0 3) k) → (∀ j, (j < ld ∨ ld + 4 ≤ j) → gx j = g j) → gV z gx 0 0 68 [some (.ref ld), some (.ref bb), some (.int (nI k))] [] := by
          intro r9
          induction r9 with
          | zero => intro k gx hk hm hLw hfx; exact absurd hm (Nat.not_lt_zero _)
          | succ r9 ih68 =>
            intro k gx hk hm hLw hfx
            have hLw_o := hLw
            obtain ⟨⟨hLw_F, hLw_a, hLw_0, hLw_1, hLw_2, hLw_3, hLw_4, hLw_5⟩, ⟨hLw_s, hLw_sa, hLw_sb⟩, ⟨hLw_e, hLw_ea, hLw_eb⟩, hLw_p, hLw_pa, hLw_pb⟩ := hLw_o
            refine g_iload_n E dX4_begin_68 rfl rfl rfl ?_
            refine g_iconst E (v := 4) dX4_begin_69 (by decide) rfl ?_
            refine g_icmp_ge E dX4_begin_70 (tgt := 93) (by decide) rfl (fun c70 => ?_) (fun c70 => ?_)
            · have c70 := (nI_leI (a := 4) (b := k) (by omega) (by omega)).mp c70
              obtain rfl : k = 4 := by omega
              exact g_vret E Rt dX4_begin_93 rfl (by decide) (by decide) (⟨rfl, pLx.ld hw hLw, hfx⟩)
            · have c70 := mt (nI_leI (a := 4) (b := k) (by omega) (by omega)).mpr c70
              refine g_aload_n E dX4_begin_73 rfl rfl rfl ?_
              refine g_getf E gciX4 dX4_begin_74 hLw_a 1 rfl (by decide) q287 (.inl rfl) (.ref (ld + 2)) (hLw_1) rfl ?_
              refine g_iload_n E dX4_begin_77 rfl rfl rfl ?_
              refine g_iconst E (v := 0) dX4_begin_78 (by decide) rfl ?_
              refine g_iast E dX4_begin_79 (j := k) hLw_ea (rfl) (by omega) (by decide) rfl (g_upk (fun g5 h5 f5 => ?_))
              refine g_aload_n E dX4_begin_80 rfl rfl rfl ?_
              have x6 := (f5 (ld) (by omega)).trans (hLw_a)
              refine g_getf E gciX4 dX4_begin_81 x6 2 rfl (by decide) q289 (.inl rfl) (.ref (ld + 3)) (hLw_2) rfl ?_
              refine g_iload_n E dX4_begin_84 rfl rfl rfl ?_
              refine g_iconst E (v := 0) dX4_begin_85 (by decide) rfl ?_
              have x7 := (f5 (ld + 3) (by omega)).trans (hLw_pa)
              refine g_iast E dX4_begin_86 (j := k) x7 (rfl) (by omega) (by decide) rfl (g_upk (fun g8 h8 f8 => ?_))
              refine g_iinc E dX4_begin_87 rfl (v := nI (k + 1)) (nI_c _) (by decide) rfl (lo1 := [some (.ref ld), some (.ref bb), some (.int (nI (k + 1)))]) rfl rfl ?_
              refine g_goto E dX4_begin_90 (tgt := 68) (by decide) ?_
              have x9 := (f8 (ld) (by omega)).trans (x6)
              have x10 := (f8 (ld + 1) (by omega)).trans ((f5 (ld + 1) (by omega)).trans (hLw_sa))
              have x11 := (f8 (ld + 2) (by omega)).trans (h5)
              exact ih68 (k + 1) g8 (by omega) (by omega) (⟨⟨_, x9, hLw_0, hLw_1, hLw_2, hLw_3, hLw_4, hLw_5⟩, ⟨_, x10, hLw_sb⟩, ⟨_, x11, upd0 hLw_eb⟩, _, h8, upd0 hLw_pb⟩) (fun j9 h9 => ((f8 j9 (by omega)).trans (f5 j9 (by omega))).trans (hfx j9 (by omega)))
        exact lp68 (4 + 1) 0 gw (Nat.zero_le _) (by omega) hLw hfw
      · have c22 := mt (nI_leI (a := B 0 3) (b := k) (by omega) (by omega)).mpr c22
        refine g_aload_n E dX4_begin_25 rfl rfl rfl ?_
        refine g_getf E gciX4 dX4_begin_26 hLw_a 0 rfl (by decide) q284 (.inl rfl) (.ref (ld + 1)) (hLw_0) rfl ?_
        refine g_iload_n E dX4_begin_29 rfl rfl rfl ?_
        refine g_iconst E (v := 0) dX4_begin_30 (by decide) rfl ?_
        refine g_iast E dX4_begin_31 (j := k) hLw_sa (rfl) (by omega) (by decide) rfl (g_upk (fun g12 h12 f12 => ?_))
        refine g_aload_n E dX4_begin_32 rfl rfl rfl ?_
        refine g_dup E dX4_begin_33 rfl rfl ?_
        have x13 := (f12 (ld) (by omega)).trans (hLw_a)
        refine g_getf E gciX4 dX4_begin_34 x13 4 rfl (by decide) q293 (.inl rfl) (.int (orTo (fun j => decide (B 18 j = 1)) k)) (hLw_4) rfl ?_
        refine g_aload_n E dX4_begin_37 rfl rfl rfl ?_
        have x14 := (f12 (bb) (by omega)).trans (x4)
        refine g_getf E gciX14 dX4_begin_38 x14 3 rfl (by decide) q540 (.inl rfl) (.ref (bb + 4)) (hBr_3) rfl ?_
        refine g_iload_n E dX4_begin_41 rfl rfl rfl ?_
        have x15 := (f12 (bb + 4) (by omega)).trans ((hfw (bb + 4) (by omega)).trans (hBr_a4))
        refine g_aald E dX4_begin_42 (j := k) x15 (fun _ => rfl) (rfl) (by omega) (by decide) (b := bb + 40 + k) (hBr_b4 k (by omega)) rfl ?_
        have y16 := ((hBr.fr hw (fun j9 a9 b9 => hfw j9 (by omega))).fr hw (fun j9 a9 b9 => f12 j9 (by omega)))
        have u17 := pBr.good y16 hw (j := k) (by omega)
        have u17_b := wfB.goods hw (j := k) (by omega)
        have o18 := u17
        obtain ⟨⟨o18_F, o18_a, o18_0, o18_1, o18_2, o18_3, o18_4, o18_7⟩, o18_m, o18_k⟩ := o18
        refine g_getG E dX4_begin_43 o18_a (o18_k) 4 (by decide) rfl rfl rfl rfl rfl q978 (.inl rfl) (.int (nI (B 18 k))) (o18_4) rfl ?_
        refine g_if_eq E dX4_begin_46 (tgt := 55) (by decide) rfl (fun c46 => ?_) (fun c46 => ?_)
        · have c46 := (nI_eq (a := B 18 k) (b := 0) (by omega) (by omega)).mp c46
          refine g_iconst E (v := 0) dX4_begin_55 (by decide) rfl ?_
          refine g_ior E dX4_begin_56 rfl ?_
          refine g_as (y := orTo (fun j => decide (B 18 j = 1)) (k + 1)) (orTo_f (by simp; omega)) ?_
          refine g_putf E gciX4 (v := .int (orTo (fun j => decide (B 18 j = 1)) (k + 1))) dX4_begin_57 x13 4 rfl (by decide) q293 (.inl rfl) rfl (fun _ => rfl) (fun _ => rfl) rfl (g_upk (fun g19 h19 f19 => ?_))
          refine g_iinc E dX4_begin_60 rfl (v := nI (k + 1)) (nI_c _) (by decide) rfl (lo1 := [some (.ref ld), some (.ref bb), some (.int (nI (k + 1)))]) rfl rfl ?_
          refine g_goto E dX4_begin_63 (tgt := 17) (by decide) ?_
          have x20 := (f19 (ld + 1) (by omega)).trans (h12)
          have x21 := (f19 (ld + 2) (by omega)).trans ((f12 (ld + 2) (by omega)).trans (hLw_ea))
          have x22 := (f19 (ld + 3) (by omega)).trans ((f12 (ld + 3) (by omega)).trans (hLw_pa))
          exact ih17 (k + 1) g19 (by omega) (by omega) (⟨⟨_, h19, hLw_0, hLw_1, hLw_2, hLw_3, rfl, hLw_5⟩, ⟨_, x20, upd0 hLw_sb⟩, ⟨_, x21, (fun i9 h9 => absurd h9 (Nat.not_lt_zero i9))⟩, _, x22, (fun i9 h9 => absurd h9 (Nat.not_lt_zero i9))⟩) (fun j9 h9 => ((f19 j9 (by omega)).trans (f12 j9 (by omega))).trans (hfw j9 (by omega)))
        · have c46 := mt (nI_eq (a := B 18 k) (b := 0) (by omega) (by omega)).mpr c46
          refine g_iconst E (v := 1) dX4_begin_49 (by decide) rfl ?_
          refine g_iload_n E dX4_begin_50 rfl rfl rfl ?_
          refine g_ishl E dX4_begin_51 rfl ?_
          refine g_goto E dX4_begin_52 (tgt := 56) (by decide) ?_
          refine g_ior E dX4_begin_56 rfl ?_
          refine g_as (y := orTo (fun j => decide (B 18 j = 1)) (k + 1)) (orTo_t (by simp; omega)) ?_
          refine g_putf E gciX4 (v := .int (orTo (fun j => decide (B 18 j = 1)) (k + 1))) dX4_begin_57 x13 4 rfl (by decide) q293 (.inl rfl) rfl (fun _ => rfl) (fun _ => rfl) rfl (g_upk (fun g23 h23 f23 => ?_))
          refine g_iinc E dX4_begin_60 rfl (v := nI (k + 1)) (nI_c _) (by decide) rfl (lo1 := [some (.ref ld), some (.ref bb), some (.int (nI (k + 1)))]) rfl rfl ?_
          refine g_goto E dX4_begin_63 (tgt := 17) (by decide) ?_
          have x24 := (f23 (ld + 1) (by omega)).trans (h12)
          have x25 := (f23 (ld + 2) (by omega)).trans ((f12 (ld + 2) (by omega)).trans (hLw_ea))
          have x26 := (f23 (ld + 3) (by omega)).trans ((f12 (ld + 3) (by omega)).trans (hLw_pa))
          exact ih17 (k + 1) g23 (by omega) (by omega) (⟨⟨_, h23, hLw_0, hLw_1, hLw_2, hLw_3, rfl, hLw_5⟩, ⟨_, x24, upd0 hLw_sb⟩, ⟨_, x25, (fun i9 h9 => absurd h9 (Nat.not_lt_zero i9))⟩, _, x26, (fun i9 h9 => absurd h9 (Nat.not_lt_zero i9))⟩) (fun j9 h9 => ((f23 j9 (by omega)).trans (f12 j9 (by omega))).trans (hfw j9 (by omega)))
  have x27 := (f3 (ld + 1) (by omega)).trans ((f2 (ld + 1) (by omega)).trans ((f1 (ld + 1) (by omega)).trans (hLs_sa)))
  have x28 := (f3 (ld + 2) (by omega)).trans ((f2 (ld + 2) (by omega)).trans ((f1 (ld + 2) (by omega)).trans (hLs_ea)))
  have x29 := (f3 (ld + 3) (by omega)).trans ((f2 (ld + 3) (by omega)).trans ((f1 (ld + 3) (by omega)).trans (hLs_pa)))
  exact lp17 (B 0 3 + 1) 0 g3 (Nat.zero_le _) (by omega) (⟨⟨_, h3, hLs_0, hLs_1, hLs_2, rfl, rfl, rfl⟩, ⟨_, x27, (fun i9 h9 => absurd h9 (Nat.not_lt_zero i9))⟩, ⟨_, x28, (fun i9 h9 => absurd h9 (Nat.not_lt_zero i9))⟩, _, x29, (fun i9 h9 => absurd h9 (Nat.not_lt_zero i9))⟩) (fun j9 h9 => ((f3 j9 (by omega)).trans (f2 j9 (by omega))).trans (f1 j9 (by omega)))
set_option maxHeartbeats 400000 in
theorem ct_X4_become (l : Launch) {g : gWM} {ld lb bb : Nat} {B : gBar} {R : Nat → Int32} {d : Int32} (hw : wfB B) (hLs : pLs g ld) (hLd : pLd g lb (.ref bb) B R d) (hs : ld + 4 ≤ lb ∨ lb + 4 ≤ ld) : gCt l yX4_become cX4_become 2 none 1 0 0 60 [.ref ld, .ref lb] g (gPn (fun g1 => pLd g1 ld (.ref bb) B R d ∧ ∀ j, (j < ld ∨ ld + 4 ≤ j) → g1 j = g j)) := by
  refine gCt.of RX4 (by decide) rfl (lo := [some (.ref ld), some (.ref lb)]) 0 rfl (Nat.le_of_ble_eq_true rfl) (fun z E Rt => ?_)
  have hw_n := hw.1
  have hLs_o := hLs
  obtain ⟨⟨hLs_F, hLs_a, hLs_0, hLs_1, hLs_2⟩, ⟨hLs_s, hLs_sa⟩, ⟨hLs_e, hLs_ea⟩, hLs_p, hLs_pa⟩ := hLs_o
  have hLd_o := hLd
  obtain ⟨⟨hLd_F, hLd_a, hLd_0, hLd_1, hLd_2, hLd_3, hLd_4, hLd_5⟩, ⟨hLd_s, hLd_sa, hLd_sb⟩, ⟨hLd_e, hLd_ea, hLd_eb⟩, hLd_p, hLd_pa, hLd_pb⟩ := hLd_o
  refine g_aload_n E dX4_become_0 rfl rfl rfl ?_
  refine g_aload_n E dX4_become_1 rfl rfl rfl ?_
  refine g_getf E gciX4 dX4_become_2 hLd_a 3 rfl (by decide) q291 (.inl rfl) (.ref bb) (hLd_3) rfl ?_
  refine g_putf E gciX4 (v := .ref bb) dX4_become_5 hLs_a 3 rfl (by decide) q291 (.inl rfl) rfl (fun _ => rfl) (fun _ => rfl) rfl (g_upk (fun g1 h1 f1 => ?_))
  refine g_aload_n E dX4_become_8 rfl rfl rfl ?_
  refine g_aload_n E dX4_become_9 rfl rfl rfl ?_
  have x2 := (f1 (lb) (by omega)).trans (hLd_a)
  refine g_getf E gciX4 dX4_become_10 x2 5 rfl (by decide) q296 (.inl rfl) (.int d) (hLd_5) rfl ?_
  refine g_putf E gciX4 (v := .int d) dX4_become_13 h1 5 rfl (by decide) q296 (.inl rfl) rfl (fun _ => rfl) (fun _ => rfl) rfl (g_upk (fun g3 h3 f3 => ?_))
  refine g_aload_n E dX4_become_16 rfl rfl rfl ?_
  refine g_aload_n E dX4_become_17 rfl rfl rfl ?_
  have x4 := (f3 (lb) (by omega)).trans (x2)
  refine g_getf E gciX4 dX4_become_18 x4 4 rfl (by decide) q293 (.inl rfl) (.int (R 16)) (hLd_4) rfl ?_
  refine g_putf E gciX4 (v := .int (R 16)) dX4_become_21 h3 4 rfl (by decide) q293 (.inl rfl) rfl (fun _ => rfl) (fun _ => rfl) rfl (g_upk (fun g5 h5 f5 => ?_))
  refine g_aload_n E dX4_become_24 rfl rfl rfl ?_
  have x6 := (f5 (lb) (by omega)).trans (x4)
  refine g_getf E gciX4 dX4_become_25 x6 0 rfl (by decide) q284 (.inl rfl) (.ref (lb + 1)) (hLd_0) rfl ?_
  refine g_iconst E (v := 0) dX4_become_28 (by decide) rfl ?_
  refine g_aload_n E dX4_become_29 rfl rfl rfl ?_
  refine g_getf E gciX4 dX4_become_30 h5 0 rfl (by decide) q284 (.inl rfl) (.ref (ld + 1)) (hLs_0) rfl ?_
  refine g_iconst E (v := 0) dX4_become_33 (by decide) rfl ?_
  refine g_bipush E (v := 8) dX4_become_34 (by decide) rfl ?_
  have x7 := (f5 (lb + 1) (by omega)).trans ((f3 (lb + 1) (by omega)).trans ((f1 (lb + 1) (by omega)).trans (hLd_sa)))
  have x8 := (f5 (ld + 1) (by omega)).trans ((f3 (ld + 1) (by omega)).trans ((f1 (ld + 1) (by omega)).trans (hLs_sa)))
  refine g_copyI E dX4_become_36 q1461 q1463 q1462 q156 x7 x8 (j := 8) rfl (by decide) (by decide) (by decide) ⟨by decide, by decide⟩ (Nat.le_of_ble_eq_true rfl) rfl (g_upk (fun g9 h9 f9 => ?_))
  refine g_aload_n E dX4_become_39 rfl rfl rfl ?_
  have x10 := (f9 (lb) (by omega)).trans (x6)
  refine g_getf E gciX4 dX4_become_40 x10 1 rfl (by decide) q287 (.inl rfl) (.ref (lb + 2)) (hLd_1) rfl ?_
  refine g_iconst E (v := 0) dX4_become_43 (by decide) rfl ?_
  refine g_aload_n E dX4_become_44 rfl rfl rfl ?_
  have x11 := (f9 (ld) (by omega)).trans (h5)
  refine g_getf E gciX4 dX4_become_45 x11 1 rfl (by decide) q287 (.inl rfl) (.ref (ld + 2)) (hLs_1) rfl ?_
  refine g_iconst E (v := 0) dX4_become_48 (by decide) rfl ?_
  refine g_iconst E (v := 4) dX4_become_49 (by decide) rfl ?_
  have x12 := (f9 (lb + 2) (by omega)).trans ((f5 (lb + 2) (by omega)).trans ((f3 (lb + 2) (by omega)).trans ((f1 (lb + 2) (by omega)).trans (hLd_ea))))
  have x13 := (f9 (ld + 2) (by omega)).trans ((f5 (ld + 2) (by omega)).trans ((f3 (ld + 2) (by omega)).trans ((f1 (ld + 2) (by omega)).trans (hLs_ea))))
  refine g_copyI E dX4_become_50 q1461 q1463 q1462 q156 x12 x13 (j := 4) rfl (by decide) (by decide) (by decide) ⟨by decide, by decide⟩ (Nat.le_of_ble_eq_true rfl) rfl (g_upk (fun g14 h14 f14 => ?_))
  refine g_aload_n E dX4_become_53 rfl rfl rfl ?_
  have x15 := (f14 (lb) (by omega)).trans (x10)
  refine g_getf E gciX4 dX4_become_54 x15 2 rfl (by decide) q289 (.inl rfl) (.ref (lb + 3)) (hLd_2) rfl ?_
  refine g_iconst E (v := 0) dX4_become_57 (by decide) rfl ?_
  refine g_aload_n E dX4_become_58 rfl rfl rfl ?_
  have x16 := (f14 (ld) (by omega)).trans (x11)
  refine g_getf E gciX4 dX4_become_59 x16 2 rfl (by decide) q289 (.inl rfl) (.ref (ld + 3)) (hLs_2) rfl ?_
  refine g_iconst E (v := 0) dX4_become_62 (by decide) rfl ?_
  refine g_iconst E (v := 4) dX4_become_63 (by decide) rfl ?_
  have x17 := (f14 (lb + 3) (by omega)).trans ((f9 (lb + 3) (by omega)).trans ((f5 (lb + 3) (by omega)).trans ((f3 (lb + 3) (by omega)).trans ((f1 (lb + 3) (by omega)).trans (hLd_pa)))))
  have x18 := (f14 (ld + 3) (by omega)).trans ((f9 (ld + 3) (by omega)).trans ((f5 (ld + 3) (by omega)).trans ((f3 (ld + 3) (by omega)).trans ((f1 (ld + 3) (by omega)).trans (hLs_pa)))))
  refine g_copyI E dX4_become_64 q1461 q1463 q1462 q156 x17 x18 (j := 4) rfl (by decide) (by decide) (by decide) ⟨by decide, by decide⟩ (Nat.le_of_ble_eq_true rfl) rfl (g_upk (fun g19 h19 f19 => ?_))
  have x20 := (f19 (ld) (by omega)).trans (x16)
  have x21 := (f19 (ld + 1) (by omega)).trans ((f14 (ld + 1) (by omega)).trans (h9))
  have x22 := (f19 (ld + 2) (by omega)).trans (h14)
  exact g_vret E Rt dX4_become_67 rfl (by decide) (by decide) (⟨rfl, ⟨⟨_, x20, hLs_0, hLs_1, hLs_2, rfl, rfl, rfl⟩, ⟨_, x21, fun k9 h9 => by rw [sb_cpy0 (by omega)]; exact hLd_sb k9 h9⟩, ⟨_, x22, fun k9 h9 => by rw [sb_cpy0 (by omega)]; exact hLd_eb k9 h9⟩, _, h19, fun k9 h9 => by rw [sb_cpy0 (by omega)]; exact hLd_pb k9 h9⟩, fun j9 h9 => (((((f19 j9 (by omega)).trans (f14 j9 (by omega))).trans (f9 j9 (by omega))).trans (f5 j9 (by omega))).trans (f3 j9 (by omega))).trans (f1 j9 (by omega))⟩)
