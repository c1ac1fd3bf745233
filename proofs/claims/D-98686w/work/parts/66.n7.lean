/-! THE MODEL, walks, seventh: acts -/
set_option maxRecDepth 100000
set_option maxHeartbeats 1000000 in
theorem ct_X13_remembers (l : Launch) {g : gWM} {mb : Nat} {B : gBar} {R : Nat → Int32} {d : Int32} {th tr wh fa : Int32} {tp ac mk : Nat} {U : zHi} (hw : wfB B) (hM : pMq g (.ref mb) th tr wh tp fa ac mk []) (hV : pRw g 2002 B R d) (hU : pHi g 2004 288 B U ac) (hac : ac ≤ 16) : gCt l yX13_remembers cX13_remembers 2 none 0 0 0 0 [.ref 2000] g (gPn (fun g1 => pMq g1 (.ref mb) th tr wh tp fa (zUm ac) mk [] ∧ pHi g1 2004 288 B (zUh ac U R d) (zUm ac) ∧ ∀ j, (j ≠ 2000 ∧ j ≠ 2004) → g1 j = g j)) := by
  refine gCt.of RX13 (by decide) rfl (lo := [some (.ref 2000), none]) 1 rfl (Nat.le_of_ble_eq_true rfl) (fun z E Rt => ?_)
  have hw_n := hw.1
  have hM_o := hM
  obtain ⟨hM_F, hM_a, hM_0, hM_1, hM_2, hM_3, hM_5, hM_6, hM_12, hM_15, hM_16, hM_17, hM_18, hM_19, hM_20, hM_26, hM_28, hM_29, -⟩ := hM_o
  have hV_o := hV
  obtain ⟨hV_f, hV_a, hV_r, hV_d⟩ := hV_o
  have hU_o := hU
  obtain ⟨hU_f, hU_a, hU_h⟩ := hU_o
  refine g_aload_n E dX13_remembers_0 rfl rfl rfl ?_
  refine g_getf E gciX13 dX13_remembers_1 hM_a 19 rfl (by decide) q1759 (.inl rfl) (.int (nI ac)) (hM_19) rfl ?_
  refine g_bipush E (v := 16) dX13_remembers_4 (by decide) rfl ?_
  refine g_icmp_ne E dX13_remembers_6 (tgt := 49) (by decide) rfl (fun c6 => ?_) (fun c6 => ?_)
  · have c6 := mt (nI_eq (a := ac) (b := 16) (by omega) (by omega)).mpr c6
    refine g_iconst E (v := 0) dX13_remembers_49 (by decide) rfl ?_
    refine g_istore_n E dX13_remembers_50 rfl (by decide) rfl (lo1 := [some (.ref 2000), some (.int 0)]) rfl rfl ?_
    have lp51 : ∀ (r9 : Nat) (k : Nat) (gx : gWM), (k ≤ 18) → (18 - k < r9) → (pMq gx (.ref mb) th tr wh tp fa ac mk []) → (pIa gx 2004 288 288 (zCpd hU_f hV_f (18 * ac) k)) → (∀ j, (j ≠ 2000 ∧ j ≠ 2004) → gx j = g j) → gV z gx 0 0 51 [some (.ref 2000), some (.int (nI k))] [] := by
      intro r9
      induction r9 with
      | zero => intro k gx hk2 hm hMx hSx hfx; exact absurd hm (Nat.not_lt_zero _)
      | succ r9 ih51 =>
        intro k gx hk2 hm hMx hSx hfx
        have hMx_o := hMx
        obtain ⟨hMx_F, hMx_a, hMx_0, hMx_1, hMx_2, hMx_3, hMx_5, hMx_6, hMx_12, hMx_15, hMx_16, hMx_17, hMx_18, hMx_19, hMx_20, hMx_26, hMx_28, hMx_29, -⟩ := hMx_o
        obtain ⟨hSx_f, hSx_a, hSx_r⟩ := hSx
        refine g_iload_n E dX13_remembers_51 rfl rfl rfl ?_
        refine g_bipush E (v := 18) dX13_remembers_52 (by decide) rfl ?_
        refine g_icmp_ge E dX13_remembers_54 (tgt := 83) (by decide) rfl (fun c54 => ?_) (fun c54 => ?_)
        · have c54 := (nI_leI (a := 18) (b := k) (by omega) (by omega)).mp c54
          obtain rfl : k = 18 := by omega
          refine g_aload_n E dX13_remembers_83 rfl rfl rfl ?_
          refine g_dup E dX13_remembers_84 rfl rfl ?_
          refine g_getf E gciX13 dX13_remembers_85 hMx_a 19 rfl (by decide) q1759 (.inl rfl) (.int (nI ac)) (hMx_19) rfl ?_
          refine g_iconst E (v := 1) dX13_remembers_88 (by decide) rfl ?_
          refine g_iadd E dX13_remembers_89 rfl ?_
          refine g_as (y := nI (ac + 1)) ((nI_succ ac).symm) ?_
          refine g_putf E gciX13 (v := .int (nI (ac + 1))) dX13_remembers_90 hMx_a 19 rfl (by decide) q1759 (.inl rfl) rfl (fun _ => rfl) (fun _ => rfl) rfl (g_upk (fun g1 h1 f1 => ?_))
          have e2a : zUm ac = ac + 1 := if_neg c6
          have e2c : zUh ac U R d = (fun k => if k = ac then (R, d) else U k) := if_neg c6
          have e2h := pHi.put (f1 := hU_f) (R := R) (d := d) (sz := 288) hw (hU_h) ⟨hV_r, hV_d⟩ hSx_r (by omega)
          have x3 := (f1 (2004) (by omega)).trans (hSx_a)
          exact g_vret E Rt dX13_remembers_93 rfl (by decide) (by decide) (by rw [e2a, e2c]; exact ⟨rfl, ⟨_, h1, hMx_0, hMx_1, hMx_2, hMx_3, hMx_5, hMx_6, hMx_12, hMx_15, hMx_16, hMx_17, hMx_18, rfl, hMx_20, hMx_26, hMx_28, hMx_29, trivial⟩, ⟨_, x3, e2h⟩, fun j9 h9 => (f1 j9 (by omega)).trans (hfx j9 (by omega))⟩)
        · have c54 := mt (nI_leI (a := 18) (b := k) (by omega) (by omega)).mpr c54
          refine g_aload_n E dX13_remembers_57 rfl rfl rfl ?_
          refine g_getf E gciX13 dX13_remembers_58 hMx_a 17 rfl (by decide) q1757 (.inl rfl) (.ref 2004) (hMx_17) rfl ?_
          refine g_bipush E (v := 18) dX13_remembers_61 (by decide) rfl ?_
          refine g_aload_n E dX13_remembers_63 rfl rfl rfl ?_
          refine g_getf E gciX13 dX13_remembers_64 hMx_a 19 rfl (by decide) q1759 (.inl rfl) (.int (nI ac)) (hMx_19) rfl ?_
          refine g_imul E dX13_remembers_67 rfl ?_
          refine g_as (y := nI (18 * ac)) (pk_mul 18 _) ?_
          refine g_iload_n E dX13_remembers_68 rfl rfl rfl ?_
          refine g_iadd E dX13_remembers_69 rfl ?_
          refine g_as (y := nI (18 * ac + k)) (nI_add _ _) ?_
          refine g_aload_n E dX13_remembers_70 rfl rfl rfl ?_
          refine g_getf E gciX13 dX13_remembers_71 hMx_a 15 rfl (by decide) q1755 (.inl rfl) (.ref 2002) (hMx_15) rfl ?_
          refine g_iload_n E dX13_remembers_74 rfl rfl rfl ?_
          have x4 := (hfx (2002) (by omega)).trans (hV_a)
          refine g_iald E dX13_remembers_75 (j := k) x4 (rfl) (by omega) (by decide) (v := hV_f k) (rfl) rfl ?_
          refine g_iast E dX13_remembers_76 (j := 18 * ac + k) hSx_a (rfl) (by omega) (by decide) rfl (g_upk (fun g5 h5 f5 => ?_))
          refine g_iinc E dX13_remembers_77 rfl (v := nI (k + 1)) (nI_c _) (by decide) rfl (lo1 := [some (.ref 2000), some (.int (nI (k + 1)))]) rfl rfl ?_
          refine g_goto E dX13_remembers_80 (tgt := 51) (by decide) ?_
          have x6 := (f5 (2000) (by omega)).trans (hMx_a)
          exact ih51 (k + 1) g5 (by omega) (by omega) (⟨_, x6, hMx_0, hMx_1, hMx_2, hMx_3, hMx_5, hMx_6, hMx_12, hMx_15, hMx_16, hMx_17, hMx_18, hMx_19, hMx_20, hMx_26, hMx_28, hMx_29, trivial⟩) ⟨_, h5, zCpd_s hSx_r⟩ (fun j9 h9 => (f5 j9 (by omega)).trans (hfx j9 (by omega)))
    exact lp51 (18 + 1) 0 g (by decide) (by decide) (⟨_, hM_a, hM_0, hM_1, hM_2, hM_3, hM_5, hM_6, hM_12, hM_15, hM_16, hM_17, hM_18, hM_19, hM_20, hM_26, hM_28, hM_29, trivial⟩) ⟨_, hU_a, fun i9 h9 => zCpd_0⟩ (fun j9 h9 => rfl)
  · have c6 := (nI_eq (a := ac) (b := 16) (by omega) (by omega)).mp c6
    refine g_iconst E (v := 0) dX13_remembers_9 (by decide) rfl ?_
    refine g_istore_n E dX13_remembers_10 rfl (by decide) rfl (lo1 := [some (.ref 2000), some (.int 0)]) rfl rfl ?_
    have lp11 : ∀ (r9 : Nat) (k : Nat) (gw : gWM), (k ≤ 270) → (270 - k < r9) → (pIa gw 2004 288 288 (zMvd hU_f k)) → (∀ j, j ≠ 2004 → gw j = g j) → gV z gw 0 0 11 [some (.ref 2000), some (.int (nI k))] [] := by
      intro r9
      induction r9 with
      | zero => intro k gw hk hm hSw hfw; exact absurd hm (Nat.not_lt_zero _)
      | succ r9 ih11 =>
        intro k gw hk hm hSw hfw
        obtain ⟨hSw_f, hSw_a, hSw_r⟩ := hSw
        refine g_iload_n E dX13_remembers_11 rfl rfl rfl ?_
        refine g_sipush E (v := 270) dX13_remembers_12 (by decide) rfl ?_
        refine g_icmp_ge E dX13_remembers_15 (tgt := 39) (by decide) rfl (fun c15 => ?_) (fun c15 => ?_)
        · have c15 := (nI_leI (a := 270) (b := k) (by omega) (by omega)).mp c15
          obtain rfl : k = 270 := by omega
          refine g_aload_n E dX13_remembers_39 rfl rfl rfl ?_
          refine g_dup E dX13_remembers_40 rfl rfl ?_
          have x7 := (hfw (2000) (by omega)).trans (hM_a)
          refine g_getf E gciX13 dX13_remembers_41 x7 19 rfl (by decide) q1759 (.inl rfl) (.int (nI ac)) (hM_19) rfl ?_
          refine g_iconst E (v := 1) dX13_remembers_44 (by decide) rfl ?_
          refine g_isub E dX13_remembers_45 rfl ?_
          refine g_as (y := nI 15) (by rw [c6]; rfl) ?_
          refine g_putf E gciX13 (v := .int (nI 15)) dX13_remembers_46 x7 19 rfl (by decide) q1759 (.inl rfl) rfl (fun _ => rfl) (fun _ => rfl) rfl (g_upk (fun g8 h8 f8 => ?_))
          refine g_iconst E (v := 0) dX13_remembers_49 (by decide) rfl ?_
          refine g_istore_n E dX13_remembers_50 rfl (by decide) rfl (lo1 := [some (.ref 2000), some (.int 0)]) rfl rfl ?_
          have lp51 : ∀ (r9 : Nat) (k : Nat) (gx : gWM), (k ≤ 18) → (18 - k < r9) → (pMq gx (.ref mb) th tr wh tp fa 15 mk []) → (pIa gx 2004 288 288 (zCpd hSw_f hV_f (18 * 15) k)) → (∀ j, (j ≠ 2000 ∧ j ≠ 2004) → gx j = g j) → gV z gx 0 0 51 [some (.ref 2000), some (.int (nI k))] [] := by
            intro r9
            induction r9 with
            | zero => intro k gx hk2 hm hMx hSx hfx; exact absurd hm (Nat.not_lt_zero _)
            | succ r9 ih51 =>
              intro k gx hk2 hm hMx hSx hfx
              have hMx_o := hMx
              obtain ⟨hMx_F, hMx_a, hMx_0, hMx_1, hMx_2, hMx_3, hMx_5, hMx_6, hMx_12, hMx_15, hMx_16, hMx_17, hMx_18, hMx_19, hMx_20, hMx_26, hMx_28, hMx_29, -⟩ := hMx_o
              obtain ⟨hSx_f, hSx_a, hSx_r⟩ := hSx
              refine g_iload_n E dX13_remembers_51 rfl rfl rfl ?_
              refine g_bipush E (v := 18) dX13_remembers_52 (by decide) rfl ?_
              refine g_icmp_ge E dX13_remembers_54 (tgt := 83) (by decide) rfl (fun c54 => ?_) (fun c54 => ?_)
              · have c54 := (nI_leI (a := 18) (b := k) (by omega) (by omega)).mp c54
                obtain rfl : k = 18 := by omega
                refine g_aload_n E dX13_remembers_83 rfl rfl rfl ?_
                refine g_dup E dX13_remembers_84 rfl rfl ?_
                refine g_getf E gciX13 dX13_remembers_85 hMx_a 19 rfl (by decide) q1759 (.inl rfl) (.int (nI 15)) (hMx_19) rfl ?_
                refine g_iconst E (v := 1) dX13_remembers_88 (by decide) rfl ?_
                refine g_iadd E dX13_remembers_89 rfl ?_
                refine g_as (y := nI 16) (rfl) ?_
                refine g_putf E gciX13 (v := .int (nI 16)) dX13_remembers_90 hMx_a 19 rfl (by decide) q1759 (.inl rfl) rfl (fun _ => rfl) (fun _ => rfl) rfl (g_upk (fun g9 h9 f9 => ?_))
                have e10a : zUm ac = 16 := if_pos c6
                have e10c : zUh ac U R d = (fun k => if k = 15 then (R, d) else U (k + 1)) := if_pos c6
                have e10h := pHi.put (f1 := hSw_f) (R := R) (d := d) (sz := 288) hw (zMvd_h hw hSw_r (fun a9 h9 => hU_h a9 (by omega))) ⟨hV_r, hV_d⟩ hSx_r (by omega)
                have x11 := (f9 (2004) (by omega)).trans (hSx_a)
                exact g_vret E Rt dX13_remembers_93 rfl (by decide) (by decide) (by rw [e10a, e10c]; exact ⟨rfl, ⟨_, h9, hMx_0, hMx_1, hMx_2, hMx_3, hMx_5, hMx_6, hMx_12, hMx_15, hMx_16, hMx_17, hMx_18, rfl, hMx_20, hMx_26, hMx_28, hMx_29, trivial⟩, ⟨_, x11, e10h⟩, fun j9 h9 => (f9 j9 (by omega)).trans (hfx j9 (by omega))⟩)
              · have c54 := mt (nI_leI (a := 18) (b := k) (by omega) (by omega)).mpr c54
                refine g_aload_n E dX13_remembers_57 rfl rfl rfl ?_
                refine g_getf E gciX13 dX13_remembers_58 hMx_a 17 rfl (by decide) q1757 (.inl rfl) (.ref 2004) (hMx_17) rfl ?_
                refine g_bipush E (v := 18) dX13_remembers_61 (by decide) rfl ?_
                refine g_aload_n E dX13_remembers_63 rfl rfl rfl ?_
                refine g_getf E gciX13 dX13_remembers_64 hMx_a 19 rfl (by decide) q1759 (.inl rfl) (.int (nI 15)) (hMx_19) rfl ?_
                refine g_imul E dX13_remembers_67 rfl ?_
                refine g_as (y := nI (18 * 15)) (pk_mul 18 _) ?_
                refine g_iload_n E dX13_remembers_68 rfl rfl rfl ?_
                refine g_iadd E dX13_remembers_69 rfl ?_
                refine g_as (y := nI (18 * 15 + k)) (nI_add _ _) ?_
                refine g_aload_n E dX13_remembers_70 rfl rfl rfl ?_
                refine g_getf E gciX13 dX13_remembers_71 hMx_a 15 rfl (by decide) q1755 (.inl rfl) (.ref 2002) (hMx_15) rfl ?_
                refine g_iload_n E dX13_remembers_74 rfl rfl rfl ?_
                have x12 := (hfx (2002) (by omega)).trans (hV_a)
                refine g_iald E dX13_remembers_75 (j := k) x12 (rfl) (by omega) (by decide) (v := hV_f k) (rfl) rfl ?_
                refine g_iast E dX13_remembers_76 (j := 18 * 15 + k) hSx_a (rfl) (by omega) (by decide) rfl (g_upk (fun g13 h13 f13 => ?_))
                refine g_iinc E dX13_remembers_77 rfl (v := nI (k + 1)) (nI_c _) (by decide) rfl (lo1 := [some (.ref 2000), some (.int (nI (k + 1)))]) rfl rfl ?_
                refine g_goto E dX13_remembers_80 (tgt := 51) (by decide) ?_
                have x14 := (f13 (2000) (by omega)).trans (hMx_a)
                exact ih51 (k + 1) g13 (by omega) (by omega) (⟨_, x14, hMx_0, hMx_1, hMx_2, hMx_3, hMx_5, hMx_6, hMx_12, hMx_15, hMx_16, hMx_17, hMx_18, hMx_19, hMx_20, hMx_26, hMx_28, hMx_29, trivial⟩) ⟨_, h13, zCpd_s hSx_r⟩ (fun j9 h9 => (f13 j9 (by omega)).trans (hfx j9 (by omega)))
          have x15 := (f8 (2004) (by omega)).trans (hSw_a)
          exact lp51 (18 + 1) 0 g8 (by decide) (by decide) (⟨_, h8, hM_0, hM_1, hM_2, hM_3, hM_5, hM_6, hM_12, hM_15, hM_16, hM_17, hM_18, rfl, hM_20, hM_26, hM_28, hM_29, trivial⟩) ⟨_, x15, fun i9 h9 => zCpd_0⟩ (fun j9 h9 => (f8 j9 (by omega)).trans (hfw j9 (by omega)))
        · have c15 := mt (nI_leI (a := 270) (b := k) (by omega) (by omega)).mpr c15
          refine g_aload_n E dX13_remembers_18 rfl rfl rfl ?_
          have x16 := (hfw (2000) (by omega)).trans (hM_a)
          refine g_getf E gciX13 dX13_remembers_19 x16 17 rfl (by decide) q1757 (.inl rfl) (.ref 2004) (hM_17) rfl ?_
          refine g_iload_n E dX13_remembers_22 rfl rfl rfl ?_
          refine g_aload_n E dX13_remembers_23 rfl rfl rfl ?_
          refine g_getf E gciX13 dX13_remembers_24 x16 17 rfl (by decide) q1757 (.inl rfl) (.ref 2004) (hM_17) rfl ?_
          refine g_iload_n E dX13_remembers_27 rfl rfl rfl ?_
          refine g_bipush E (v := 18) dX13_remembers_28 (by decide) rfl ?_
          refine g_iadd E dX13_remembers_30 rfl ?_
          refine g_as (y := nI (k + 18)) (nI_add _ 18) ?_
          refine g_iald E dX13_remembers_31 (j := k + 18) hSw_a (rfl) (by omega) (by decide) (v := hU_f (k + 18)) (zMvd_k hSw_r (by omega)) rfl ?_
          refine g_iast E dX13_remembers_32 (j := k) hSw_a (rfl) (by omega) (by decide) rfl (g_upk (fun g17 h17 f17 => ?_))
          refine g_iinc E dX13_remembers_33 rfl (v := nI (k + 1)) (nI_c _) (by decide) rfl (lo1 := [some (.ref 2000), some (.int (nI (k + 1)))]) rfl rfl ?_
          refine g_goto E dX13_remembers_36 (tgt := 11) (by decide) ?_
          exact ih11 (k + 1) g17 (by omega) (by omega) ⟨_, h17, zMvd_s hSw_r⟩ (fun j9 h9 => (f17 j9 (by omega)).trans (hfw j9 (by omega)))
    exact lp11 (270 + 1) 0 g (by decide) (by decide) ⟨_, hU_a, fun i9 h9 => zMvd_0⟩ (fun j9 h9 => rfl)
set_option maxHeartbeats 2000000 in
theorem ct_X13_eat (l : Launch) {g : gWM} {mb : Nat} {B : gBar} {R : Nat → Int32} {d : Int32} {th tr wh fa : Int32} {tp ac mk : Nat} {U : zHi} (p : Int32) (hw : wfB B) (hM : pMq g (.ref mb) th tr wh tp fa ac mk []) (hMb : pMb g mb B) (hV : pRw g 2002 B R d) (h9 : 10000 ≤ mb) (hU : pHi g 2004 288 B U ac) (hac : ac ≤ 16) : gCt l yX13_eat cX13_eat 2 (some .boolean) 2 0 0 42 [.ref 2000, .int p] g (gPi (zb (decide (sEat B R p = 0))) (fun g1 => pAm g1 mb B tp fa mk (sEat B R p) R d ac U (zEat B R p) (d) ∧ ∀ j, (j ≠ 2000 ∧ j ≠ 2002 ∧ j ≠ 2004) → g1 j = g j)) := by
  refine gCt.of RX13 (by decide) rfl (lo := [some (.ref 2000), some (.int p)]) 0 rfl (Nat.le_of_ble_eq_true rfl) (fun z E Rt => ?_)
  have hw_n := hw.1
  have hM_o := hM
  obtain ⟨hM_F, hM_a, hM_0, hM_1, hM_2, hM_3, hM_5, hM_6, hM_12, hM_15, hM_16, hM_17, hM_18, hM_19, hM_20, hM_26, hM_28, hM_29, -⟩ := hM_o
  have hMb_o := hMb
  obtain ⟨⟨hMb_F, hMb_a, hMb_0, hMb_1, hMb_2, hMb_3, hMb_4, hMb_5, hMb_6, hMb_7, hMb_8, hMb_9, hMb_11, hMb_12, hMb_13, hMb_14, hMb_15, hMb_16, hMb_17, hMb_18, hMb_19, hMb_20, hMb_21, hMb_22, hMb_23, hMb_24, hMb_25, hMb_26, hMb_27, hMb_28, hMb_29, hMb_30, hMb_31⟩, ⟨hMb_f1, hMb_a1, hMb_b1⟩, ⟨hMb_f2, hMb_a2, hMb_b2⟩, ⟨hMb_f3, hMb_a3, hMb_b3⟩, ⟨hMb_f4, hMb_a4, hMb_b4⟩, ⟨hMb_f5, hMb_a5, hMb_b5⟩, ⟨hMb_f6, hMb_a6, hMb_b6⟩, ⟨hMb_f7, hMb_a7, hMb_b7⟩, ⟨hMb_f8, hMb_a8, hMb_b8⟩, ⟨hMb_f9, hMb_a9, hMb_b9⟩, ⟨hMb_f10, hMb_a10, hMb_b10⟩, ⟨hMb_f11, hMb_a11, hMb_b11⟩, ⟨hMb_f12, hMb_a12, hMb_b12⟩, ⟨hMb_f13, hMb_a13, hMb_b13⟩, ⟨hMb_f14, hMb_a14, hMb_b14⟩, ⟨hMb_f15, hMb_a15, hMb_b15⟩, ⟨hMb_f16, hMb_a16, hMb_b16⟩, ⟨hMb_f17, hMb_a17, hMb_b17⟩, ⟨hMb_f18, hMb_a18, hMb_b18⟩, ⟨hMb_f19, hMb_a19, hMb_b19⟩, ⟨hMb_f20, hMb_a20, hMb_b20⟩, ⟨hMb_f21, hMb_a21, hMb_b21⟩⟩ := hMb_o
  have hV_o := hV
  obtain ⟨hV_f, hV_a, hV_r, hV_d⟩ := hV_o
  have hU_o := hU
  obtain ⟨hU_f, hU_a, hU_h⟩ := hU_o
  refine g_aload_n E dX13_eat_0 rfl rfl rfl ?_
  refine g_iconst E (v := 0) dX13_eat_1 (by decide) rfl ?_
  refine g_putf E gciX13 (v := .int 0) dX13_eat_2 hM_a 0 rfl (by decide) q1740 (.inl rfl) rfl (fun _ => rfl) (fun _ => rfl) rfl (g_upk (fun g1 h1 f1 => ?_))
  refine g_aload_n E dX13_eat_5 rfl rfl rfl ?_
  refine g_iload_n E dX13_eat_6 rfl rfl rfl ?_
  have hM2 : pMq g1 (.ref mb) 0 tr wh tp fa ac mk [] := ⟨_, h1, rfl, hM_1, hM_2, hM_3, hM_5, hM_6, hM_12, hM_15, hM_16, hM_17, hM_18, hM_19, hM_20, hM_26, hM_28, hM_29, trivial⟩
  have y3 := (hMb.fr  (fun j9 a9 b9 => f1 j9 (by omega)))
  refine g_callV (k := 2000) (n9 := 1) (av := [.int p]) (st := []) E (ct_X13_isGood l p hw hM2 y3) gciX13 dX13_eat_7 h1 q2197 q2199 qs81 q135 q2200 (by decide +kernel) rfl rfl ⟨by decide, by decide⟩ ⟨by decide, by decide⟩ (Nat.le_of_ble_eq_true rfl) rfl (gPu.k ?_)
  refine g_if_ne E dX13_eat_10 (tgt := 19) (by decide) rfl (fun c10 => ?_) (fun c10 => ?_)
  · have c10 := zb_n0.mp c10
    obtain ⟨j, q4⟩ := isSome_of c10
    obtain ⟨rfl, q4_l⟩ := qI_some (by omega) q4
    have hgd := hw.goods (j := j) (by omega)
    refine g_aload_n E dX13_eat_19 rfl rfl rfl ?_
    refine g_getf E gciX13 dX13_eat_20 h1 15 rfl (by decide) q1755 (.inl rfl) (.ref 2002) (hM_15) rfl ?_
    refine g_iconst E (v := 0) dX13_eat_23 (by decide) rfl ?_
    refine g_iload_n E dX13_eat_24 rfl rfl rfl ?_
    refine g_iadd E dX13_eat_25 rfl ?_
    refine g_as (y := nI j) (Int32.zero_add _) ?_
    have x5 := (f1 (2002) (by omega)).trans (hV_a)
    refine g_iald E dX13_eat_26 (j := j) x5 (rfl) (by omega) (by decide) (v := R j) (hV_r j (by unfold zRel; omega)) rfl ?_
    refine g_if_ne E dX13_eat_27 (tgt := 50) (by decide) rfl (fun c27 => ?_) (fun c27 => ?_)
    · refine g_aload_n E dX13_eat_50 rfl rfl rfl ?_
      refine g_iconst E (v := 5) dX13_eat_51 (by decide) rfl ?_
      refine g_callV (k := 2000) (n9 := 1) (av := [.int 5]) (st := []) E (ct_X13_denied l 5 hM2) gciX13 dX13_eat_52 h1 q2496 q2498 qs116 q135 q2499 (by decide +kernel) rfl rfl ⟨by decide, by decide⟩ ⟨by decide, by decide⟩ (Nat.le_of_ble_eq_true rfl) rfl (gPi.k (fun g6 h6 => ?_))
      obtain ⟨hm6, f6⟩ := h6
      have hm6_o := hm6
      obtain ⟨hm6_F, hm6_a, hm6_0, hm6_1, hm6_2, hm6_3, hm6_5, hm6_6, hm6_12, hm6_15, hm6_16, hm6_17, hm6_18, hm6_19, hm6_20, hm6_26, hm6_28, hm6_29, -⟩ := hm6_o
      have e7 : sEat B R (nI j) = 5 := by simp [sEat, c10, q4, c27]
      have y8 := ((hV.fr  (fun j9 a9 b9 => f1 j9 (by omega))).fr  (fun j9 a9 b9 => f6 j9 (by omega)))
      have y9 := ((hU.fr  (fun j9 a9 b9 => f1 j9 (by omega))).fr  (fun j9 a9 b9 => f6 j9 (by omega)))
      exact g_zret E Rt dX13_eat_55 rfl (by decide) (by decide) (by decide) (by rw [e7]; exact ⟨rfl, pAm.no (by decide) (⟨_, hm6_a, hm6_0, hm6_1, hm6_2, hm6_3, hm6_5, hm6_6, hm6_12, hm6_15, hm6_16, hm6_17, hm6_18, hm6_19, hm6_20, hm6_26, hm6_28, hm6_29, trivial⟩) y8 y9, fun j9 h9 => (f6 j9 (by omega)).trans (f1 j9 (by omega))⟩)
    · refine g_aload_n E dX13_eat_30 rfl rfl rfl ?_
      refine g_getf E gciX13 dX13_eat_31 h1 15 rfl (by decide) q1755 (.inl rfl) (.ref 2002) (hM_15) rfl ?_
      refine g_bipush E (v := 8) dX13_eat_34 (by decide) rfl ?_
      refine g_aload_n E dX13_eat_36 rfl rfl rfl ?_
      refine g_getf E gciX13 dX13_eat_37 h1 3 rfl (by decide) q1743 (.inl rfl) (.ref mb) (hM_3) rfl ?_
      have x10 := (f1 (mb) (by omega)).trans (hMb_a)
      refine g_getfN E gciX27 dX13_eat_40 x10 22 rfl (by decide) q1892 (.inl rfl) (.ref (mb + 12)) (hMb_22) rfl ?_
      refine g_iload_n E dX13_eat_43 rfl rfl rfl ?_
      have x11 := (f1 (mb + 12) (by omega)).trans (hMb_a12)
      refine g_iald E dX13_eat_44 (j := j) x11 (rfl) (by omega) (by decide) (v := nI (B 14 j)) (hMb_b12 j (by omega)) rfl ?_
      refine g_iadd E dX13_eat_45 rfl ?_
      refine g_as (y := nI (8 + B 14 j)) (nI_add 8 _) ?_
      refine g_iald E dX13_eat_46 (j := 8 + B 14 j) x5 (rfl) (by omega) (by decide) (v := R (8 + B 14 j)) (hV_r (8 + B 14 j) (by unfold zRel; omega)) rfl ?_
      refine g_if_ne E dX13_eat_47 (tgt := 56) (by decide) rfl (fun c47 => ?_) (fun c47 => ?_)
      · refine g_aload_n E dX13_eat_56 rfl rfl rfl ?_
        have y12 := (hV.fr  (fun j9 a9 b9 => f1 j9 (by omega)))
        have y13 := (hU.fr  (fun j9 a9 b9 => f1 j9 (by omega)))
        refine g_callV (k := 2000) (n9 := 0) (av := []) (st := []) E (ct_X13_remembers l hw hM2 y12 y13 hac) gciX13 dX13_eat_57 h1 q2500 q2502 qs117 q135 q2503 (by decide +kernel) rfl rfl ⟨by decide, by decide⟩ ⟨by decide, by decide⟩ (Nat.le_of_ble_eq_true rfl) rfl (gPn.k (fun g14 h14 => ?_))
        obtain ⟨hm14, hu14, f14⟩ := h14
        have hm14_o := hm14
        obtain ⟨hm14_F, hm14_a, hm14_0, hm14_1, hm14_2, hm14_3, hm14_5, hm14_6, hm14_12, hm14_15, hm14_16, hm14_17, hm14_18, hm14_19, hm14_20, hm14_26, hm14_28, hm14_29, -⟩ := hm14_o
        have hu14_o := hu14
        obtain ⟨hu14_f, hu14_a, hu14_h⟩ := hu14_o
        refine g_aload_n E dX13_eat_60 rfl rfl rfl ?_
        refine g_getf E gciX13 dX13_eat_61 hm14_a 15 rfl (by decide) q1755 (.inl rfl) (.ref 2002) (hm14_15) rfl ?_
        refine g_iconst E (v := 0) dX13_eat_64 (by decide) rfl ?_
        refine g_iload_n E dX13_eat_65 rfl rfl rfl ?_
        refine g_iadd E dX13_eat_66 rfl ?_
        refine g_as (y := nI j) (Int32.zero_add _) ?_
        refine g_iconst E (v := 1) dX13_eat_67 (by decide) rfl ?_
        have x15 := (f14 (2002) (by omega)).trans (x5)
        refine g_iast E dX13_eat_68 (j := j) x15 (rfl) (by omega) (by decide) rfl (g_upk (fun g16 h16 f16 => ?_))
        have hx17 : pRw g16 2002 B (upd R j 1) d := ⟨_, h16, updR ⟨hV_r, hV_d⟩ (by omega)⟩
        have hx17_o := hx17
        obtain ⟨hx17_f, hx17_a, hx17_r, hx17_d⟩ := hx17_o
        refine g_aload_n E dX13_eat_69 rfl rfl rfl ?_
        have x18 := (f16 (2000) (by omega)).trans (hm14_a)
        refine g_getf E gciX13 dX13_eat_70 x18 15 rfl (by decide) q1755 (.inl rfl) (.ref 2002) (hm14_15) rfl ?_
        refine g_bipush E (v := 8) dX13_eat_73 (by decide) rfl ?_
        refine g_aload_n E dX13_eat_75 rfl rfl rfl ?_
        refine g_getf E gciX13 dX13_eat_76 x18 3 rfl (by decide) q1743 (.inl rfl) (.ref mb) (hm14_3) rfl ?_
        have x19 := (f16 (mb) (by omega)).trans ((f14 (mb) (by omega)).trans (x10))
        refine g_getfN E gciX27 dX13_eat_79 x19 22 rfl (by decide) q1892 (.inl rfl) (.ref (mb + 12)) (hMb_22) rfl ?_
        refine g_iload_n E dX13_eat_82 rfl rfl rfl ?_
        have x20 := (f16 (mb + 12) (by omega)).trans ((f14 (mb + 12) (by omega)).trans (x11))
        refine g_iald E dX13_eat_83 (j := j) x20 (rfl) (by omega) (by decide) (v := nI (B 14 j)) (hMb_b12 j (by omega)) rfl ?_
        refine g_iadd E dX13_eat_84 rfl ?_
        refine g_as (y := nI (8 + B 14 j)) (nI_add 8 _) ?_
        refine g_dup2 E dX13_eat_85 rfl rfl rfl ?_
        refine g_iald E dX13_eat_86 (j := 8 + B 14 j) hx17_a (rfl) (by omega) (by decide) (v := (upd R j 1) (8 + B 14 j)) (hx17_r (8 + B 14 j) (by unfold zRel; omega)) rfl ?_
        refine g_iconst E (v := 1) dX13_eat_87 (by decide) rfl ?_
        refine g_isub E dX13_eat_88 rfl ?_
        refine g_iast E dX13_eat_89 (j := 8 + B 14 j) hx17_a (rfl) (by omega) (by decide) rfl (g_upk (fun g21 h21 f21 => ?_))
        have hx22 : pRw g21 2002 B (upd (upd R j 1) (8 + B 14 j) (upd R j 1 (8 + B 14 j) - 1)) d := ⟨_, h21, updR ⟨hx17_r, hx17_d⟩ (by omega)⟩
        have hx22_o := hx22
        obtain ⟨hx22_f, hx22_a, hx22_r, hx22_d⟩ := hx22_o
        refine g_aload_n E dX13_eat_90 rfl rfl rfl ?_
        have x23 := (f21 (2000) (by omega)).trans (x18)
        have hM24 : pMq g21 (.ref mb) 0 tr wh tp fa (zUm ac) mk [] := ⟨_, x23, hm14_0, hm14_1, hm14_2, hm14_3, hm14_5, hm14_6, hm14_12, hm14_15, hm14_16, hm14_17, hm14_18, hm14_19, hm14_20, hm14_26, hm14_28, hm14_29, trivial⟩
        refine g_callV (k := 2000) (n9 := 0) (av := []) (st := []) E (ct_X13_granted l hM24) gciX13 dX13_eat_91 x23 q2504 q2506 qs118 q135 q2507 (by decide +kernel) rfl rfl ⟨by decide, by decide⟩ ⟨by decide, by decide⟩ (Nat.le_of_ble_eq_true rfl) rfl (gPi.k (fun g25 h25 => ?_))
        obtain ⟨hm25, f25⟩ := h25
        have hm25_o := hm25
        obtain ⟨hm25_F, hm25_a, hm25_0, hm25_1, hm25_2, hm25_3, hm25_5, hm25_6, hm25_12, hm25_15, hm25_16, hm25_17, hm25_18, hm25_19, hm25_20, hm25_26, hm25_28, hm25_29, -⟩ := hm25_o
        have e26 : sEat B R (nI j) = 0 := by simp [sEat, c10, q4, c27, c47]
        have y27 := (hx22.fr  (fun j9 a9 b9 => f25 j9 (by omega)))
        have y28 := (((hu14.fr  (fun j9 a9 b9 => f16 j9 (by omega))).fr  (fun j9 a9 b9 => f21 j9 (by omega))).fr  (fun j9 a9 b9 => f25 j9 (by omega)))
        have e26r : zEat B R (nI j) = upd (upd R j 1) (8 + B 14 j) (upd R j 1 (8 + B 14 j) - 1) := by simp [zEat, c10, q4, c27, c47]
        exact g_zret E Rt dX13_eat_94 rfl (by decide) (by decide) (by decide) (by rw [e26]; exact ⟨rfl, pAm.yes (⟨_, hm25_a, hm25_0, hm25_1, hm25_2, hm25_3, hm25_5, hm25_6, hm25_12, hm25_15, hm25_16, hm25_17, hm25_18, hm25_19, hm25_20, hm25_26, hm25_28, hm25_29, trivial⟩) (by rw [e26r]; exact y27) y28, fun j9 h9 => ((((f25 j9 (by omega)).trans (f21 j9 (by omega))).trans (f16 j9 (by omega))).trans (f14 j9 (by omega))).trans (f1 j9 (by omega))⟩)
      · refine g_aload_n E dX13_eat_50 rfl rfl rfl ?_
        refine g_iconst E (v := 5) dX13_eat_51 (by decide) rfl ?_
        refine g_callV (k := 2000) (n9 := 1) (av := [.int 5]) (st := []) E (ct_X13_denied l 5 hM2) gciX13 dX13_eat_52 h1 q2496 q2498 qs116 q135 q2499 (by decide +kernel) rfl rfl ⟨by decide, by decide⟩ ⟨by decide, by decide⟩ (Nat.le_of_ble_eq_true rfl) rfl (gPi.k (fun g29 h29 => ?_))
        obtain ⟨hm29, f29⟩ := h29
        have hm29_o := hm29
        obtain ⟨hm29_F, hm29_a, hm29_0, hm29_1, hm29_2, hm29_3, hm29_5, hm29_6, hm29_12, hm29_15, hm29_16, hm29_17, hm29_18, hm29_19, hm29_20, hm29_26, hm29_28, hm29_29, -⟩ := hm29_o
        have e30 : sEat B R (nI j) = 5 := by simp [sEat, c10, q4, c27, c47]
        have y31 := ((hV.fr  (fun j9 a9 b9 => f1 j9 (by omega))).fr  (fun j9 a9 b9 => f29 j9 (by omega)))
        have y32 := ((hU.fr  (fun j9 a9 b9 => f1 j9 (by omega))).fr  (fun j9 a9 b9 => f29 j9 (by omega)))
        exact g_zret E Rt dX13_eat_55 rfl (by decide) (by decide) (by decide) (by rw [e30]; exact ⟨rfl, pAm.no (by decide) (⟨_, hm29_a, hm29_0, hm29_1, hm29_2, hm29_3, hm29_5, hm29_6, hm29_12, hm29_15, hm29_16, hm29_17, hm29_18, hm29_19, hm29_20, hm29_26, hm29_28, hm29_29, trivial⟩) y31 y32, fun j9 h9 => (f29 j9 (by omega)).trans (f1 j9 (by omega))⟩)
  · have c10 := zb_0.mp c10
    have q33 := isNone_of c10
    refine g_aload_n E dX13_eat_13 rfl rfl rfl ?_
    refine g_iconst E (v := 1) dX13_eat_14 (by decide) rfl ?_
    refine g_callV (k := 2000) (n9 := 1) (av := [.int 1]) (st := []) E (ct_X13_denied l 1 hM2) gciX13 dX13_eat_15 h1 q2496 q2498 qs116 q135 q2499 (by decide +kernel) rfl rfl ⟨by decide, by decide⟩ ⟨by decide, by decide⟩ (Nat.le_of_ble_eq_true rfl) rfl (gPi.k (fun g34 h34 => ?_))
    obtain ⟨hm34, f34⟩ := h34
    have hm34_o := hm34
    obtain ⟨hm34_F, hm34_a, hm34_0, hm34_1, hm34_2, hm34_3, hm34_5, hm34_6, hm34_12, hm34_15, hm34_16, hm34_17, hm34_18, hm34_19, hm34_20, hm34_26, hm34_28, hm34_29, -⟩ := hm34_o
    have e35 : sEat B R p = 1 := by simp [sEat, c10, q33]
    have y36 := ((hV.fr  (fun j9 a9 b9 => f1 j9 (by omega))).fr  (fun j9 a9 b9 => f34 j9 (by omega)))
    have y37 := ((hU.fr  (fun j9 a9 b9 => f1 j9 (by omega))).fr  (fun j9 a9 b9 => f34 j9 (by omega)))
    exact g_zret E Rt dX13_eat_18 rfl (by decide) (by decide) (by decide) (by rw [e35]; exact ⟨rfl, pAm.no (by decide) (⟨_, hm34_a, hm34_0, hm34_1, hm34_2, hm34_3, hm34_5, hm34_6, hm34_12, hm34_15, hm34_16, hm34_17, hm34_18, hm34_19, hm34_20, hm34_26, hm34_28, hm34_29, trivial⟩) y36 y37, fun j9 h9 => (f34 j9 (by omega)).trans (f1 j9 (by omega))⟩)
set_option maxHeartbeats 1000000 in
theorem ct_X13_eat_N (l : Launch) {g : gWM} {th tr wh fa : Int32} {tp ac mk : Nat} (p : Int32) (hM : pMq g .null th tr wh tp fa ac mk []) : gCt l yX13_eat cX13_eat 2 (some .boolean) 2 0 0 42 [.ref 2000, .int p] g (gPi 0 (fun g1 => pMq g1 .null 0 (sEat zB0 (fun _ => 0) p) (-1) tp fa ac mk [] ∧ ∀ j, j ≠ 2000 → g1 j = g j)) := by
  refine gCt.of RX13 (by decide) rfl (lo := [some (.ref 2000), some (.int p)]) 0 rfl (Nat.le_of_ble_eq_true rfl) (fun z E Rt => ?_)
  have hM_o := hM
  obtain ⟨hM_F, hM_a, hM_0, hM_1, hM_2, hM_3, hM_5, hM_6, hM_12, hM_15, hM_16, hM_17, hM_18, hM_19, hM_20, hM_26, hM_28, hM_29, -⟩ := hM_o
  refine g_aload_n E dX13_eat_0 rfl rfl rfl ?_
  refine g_iconst E (v := 0) dX13_eat_1 (by decide) rfl ?_
  refine g_putf E gciX13 (v := .int 0) dX13_eat_2 hM_a 0 rfl (by decide) q1740 (.inl rfl) rfl (fun _ => rfl) (fun _ => rfl) rfl (g_upk (fun g1 h1 f1 => ?_))
  refine g_aload_n E dX13_eat_5 rfl rfl rfl ?_
  refine g_iload_n E dX13_eat_6 rfl rfl rfl ?_
  have hM2 : pMq g1 .null 0 tr wh tp fa ac mk [] := ⟨_, h1, rfl, hM_1, hM_2, hM_3, hM_5, hM_6, hM_12, hM_15, hM_16, hM_17, hM_18, hM_19, hM_20, hM_26, hM_28, hM_29, trivial⟩
  refine g_callV (k := 2000) (n9 := 1) (av := [.int p]) (st := []) E (ct_X13_isGood_N l p hM2) gciX13 dX13_eat_7 h1 q2197 q2199 qs81 q135 q2200 (by decide +kernel) rfl rfl ⟨by decide, by decide⟩ ⟨by decide, by decide⟩ (Nat.le_of_ble_eq_true rfl) rfl (gPu.k ?_)
  refine g_if_ne E dX13_eat_10 (tgt := 19) (by decide) rfl (fun h9 => absurd h9 (by decide)) (fun _ => ?_)
  refine g_aload_n E dX13_eat_13 rfl rfl rfl ?_
  refine g_iconst E (v := 1) dX13_eat_14 (by decide) rfl ?_
  refine g_callV (k := 2000) (n9 := 1) (av := [.int 1]) (st := []) E (ct_X13_denied l 1 hM2) gciX13 dX13_eat_15 h1 q2496 q2498 qs116 q135 q2499 (by decide +kernel) rfl rfl ⟨by decide, by decide⟩ ⟨by decide, by decide⟩ (Nat.le_of_ble_eq_true rfl) rfl (gPi.k (fun g3 h3 => ?_))
  obtain ⟨hm3, f3⟩ := h3
  have hm3_o := hm3
  obtain ⟨hm3_F, hm3_a, hm3_0, hm3_1, hm3_2, hm3_3, hm3_5, hm3_6, hm3_12, hm3_15, hm3_16, hm3_17, hm3_18, hm3_19, hm3_20, hm3_26, hm3_28, hm3_29, -⟩ := hm3_o
  have e4 : sEat zB0 (fun _ => 0) p = 1 := by simp [sEat, qI_z]
  exact g_zret E Rt dX13_eat_18 rfl (by decide) (by decide) (by decide) (by rw [e4]; exact ⟨rfl, ⟨_, hm3_a, hm3_0, hm3_1, hm3_2, hm3_3, hm3_5, hm3_6, hm3_12, hm3_15, hm3_16, hm3_17, hm3_18, hm3_19, hm3_20, hm3_26, hm3_28, hm3_29, trivial⟩, fun j9 h9 => (f3 j9 (by omega)).trans (f1 j9 (by omega))⟩)
set_option maxHeartbeats 2000000 in
theorem ct_X13_hide (l : Launch) {g : gWM} {mb : Nat} {B : gBar} {R : Nat → Int32} {d : Int32} {th tr wh fa : Int32} {tp ac mk : Nat} {U : zHi} (p : Int32) (b : Bool) (hw : wfB B) (hM : pMq g (.ref mb) th tr wh tp fa ac mk []) (hMb : pMb g mb B) (hV : pRw g 2002 B R d) (h9 : 10000 ≤ mb) (hU : pHi g 2004 288 B U ac) (hac : ac ≤ 16) : gCt l yX13_hide cX13_hide 3 (some .boolean) 2 0 0 43 [.ref 2000, .int p, .int (zb b)] g (gPi (zb (decide (sHid B R p b = 0))) (fun g1 => pAm g1 mb B tp fa mk (sHid B R p b) R d ac U (zHdn B R p) (d) ∧ ∀ j, (j ≠ 2000 ∧ j ≠ 2002 ∧ j ≠ 2004) → g1 j = g j)) := by
  refine gCt.of RX13 (by decide) rfl (lo := [some (.ref 2000), some (.int p), some (.int (zb b))]) 0 rfl (Nat.le_of_ble_eq_true rfl) (fun z E Rt => ?_)
  have hw_n := hw.1
  have hM_o := hM
  obtain ⟨hM_F, hM_a, hM_0, hM_1, hM_2, hM_3, hM_5, hM_6, hM_12, hM_15, hM_16, hM_17, hM_18, hM_19, hM_20, hM_26, hM_28, hM_29, -⟩ := hM_o
  have hMb_o := hMb
  obtain ⟨⟨hMb_F, hMb_a, hMb_0, hMb_1, hMb_2, hMb_3, hMb_4, hMb_5, hMb_6, hMb_7, hMb_8, hMb_9, hMb_11, hMb_12, hMb_13, hMb_14, hMb_15, hMb_16, hMb_17, hMb_18, hMb_19, hMb_20, hMb_21, hMb_22, hMb_23, hMb_24, hMb_25, hMb_26, hMb_27, hMb_28, hMb_29, hMb_30, hMb_31⟩, ⟨hMb_f1, hMb_a1, hMb_b1⟩, ⟨hMb_f2, hMb_a2, hMb_b2⟩, ⟨hMb_f3, hMb_a3, hMb_b3⟩, ⟨hMb_f4, hMb_a4, hMb_b4⟩, ⟨hMb_f5, hMb_a5, hMb_b5⟩, ⟨hMb_f6, hMb_a6, hMb_b6⟩, ⟨hMb_f7, hMb_a7, hMb_b7⟩, ⟨hMb_f8, hMb_a8, hMb_b8⟩, ⟨hMb_f9, hMb_a9, hMb_b9⟩, ⟨hMb_f10, hMb_a10, hMb_b10⟩, ⟨hMb_f11, hMb_a11, hMb_b11⟩, ⟨hMb_f12, hMb_a12, hMb_b12⟩, ⟨hMb_f13, hMb_a13, hMb_b13⟩, ⟨hMb_f14, hMb_a14, hMb_b14⟩, ⟨hMb_f15, hMb_a15, hMb_b15⟩, ⟨hMb_f16, hMb_a16, hMb_b16⟩, ⟨hMb_f17, hMb_a17, hMb_b17⟩, ⟨hMb_f18, hMb_a18, hMb_b18⟩, ⟨hMb_f19, hMb_a19, hMb_b19⟩, ⟨hMb_f20, hMb_a20, hMb_b20⟩, ⟨hMb_f21, hMb_a21, hMb_b21⟩⟩ := hMb_o
  have hV_o := hV
  obtain ⟨hV_f, hV_a, hV_r, hV_d⟩ := hV_o
  have hU_o := hU
  obtain ⟨hU_f, hU_a, hU_h⟩ := hU_o
  refine g_aload_n E dX13_hide_0 rfl rfl rfl ?_
  refine g_iconst E (v := 0) dX13_hide_1 (by decide) rfl ?_
  refine g_putf E gciX13 (v := .int 0) dX13_hide_2 hM_a 0 rfl (by decide) q1740 (.inl rfl) rfl (fun _ => rfl) (fun _ => rfl) rfl (g_upk (fun g1 h1 f1 => ?_))
  refine g_aload_n E dX13_hide_5 rfl rfl rfl ?_
  refine g_iload_n E dX13_hide_6 rfl rfl rfl ?_
  have hM2 : pMq g1 (.ref mb) 0 tr wh tp fa ac mk [] := ⟨_, h1, rfl, hM_1, hM_2, hM_3, hM_5, hM_6, hM_12, hM_15, hM_16, hM_17, hM_18, hM_19, hM_20, hM_26, hM_28, hM_29, trivial⟩
  have y3 := (hMb.fr  (fun j9 a9 b9 => f1 j9 (by omega)))
  refine g_callV (k := 2000) (n9 := 1) (av := [.int p]) (st := []) E (ct_X13_isGood l p hw hM2 y3) gciX13 dX13_hide_7 h1 q2197 q2199 qs81 q135 q2200 (by decide +kernel) rfl rfl ⟨by decide, by decide⟩ ⟨by decide, by decide⟩ (Nat.le_of_ble_eq_true rfl) rfl (gPu.k ?_)
  refine g_if_ne E dX13_hide_10 (tgt := 19) (by decide) rfl (fun c10 => ?_) (fun c10 => ?_)
  · have c10 := zb_n0.mp c10
    obtain ⟨j, q4⟩ := isSome_of c10
    obtain ⟨rfl, q4_l⟩ := qI_some (by omega) q4
    refine g_aload_n E dX13_hide_19 rfl rfl rfl ?_
    refine g_getf E gciX13 dX13_hide_20 h1 15 rfl (by decide) q1755 (.inl rfl) (.ref 2002) (hM_15) rfl ?_
    refine g_iconst E (v := 0) dX13_hide_23 (by decide) rfl ?_
    refine g_iload_n E dX13_hide_24 rfl rfl rfl ?_
    refine g_iadd E dX13_hide_25 rfl ?_
    refine g_as (y := nI j) (Int32.zero_add _) ?_
    have x5 := (f1 (2002) (by omega)).trans (hV_a)
    refine g_iald E dX13_hide_26 (j := j) x5 (rfl) (by omega) (by decide) (v := R j) (hV_r j (by unfold zRel; omega)) rfl ?_
    refine g_if_ne E dX13_hide_27 (tgt := 43) (by decide) rfl (fun c27 => ?_) (fun c27 => ?_)
    · refine g_aload_n E dX13_hide_43 rfl rfl rfl ?_
      refine g_iconst E (v := 5) dX13_hide_44 (by decide) rfl ?_
      refine g_callV (k := 2000) (n9 := 1) (av := [.int 5]) (st := []) E (ct_X13_denied l 5 hM2) gciX13 dX13_hide_45 h1 q2496 q2498 qs116 q135 q2499 (by decide +kernel) rfl rfl ⟨by decide, by decide⟩ ⟨by decide, by decide⟩ (Nat.le_of_ble_eq_true rfl) rfl (gPi.k (fun g6 h6 => ?_))
      obtain ⟨hm6, f6⟩ := h6
      have hm6_o := hm6
      obtain ⟨hm6_F, hm6_a, hm6_0, hm6_1, hm6_2, hm6_3, hm6_5, hm6_6, hm6_12, hm6_15, hm6_16, hm6_17, hm6_18, hm6_19, hm6_20, hm6_26, hm6_28, hm6_29, -⟩ := hm6_o
      have e7 : sHid B R (nI j) b = 5 := by simp [sHid, c10, q4, c27]
      have y8 := ((hV.fr  (fun j9 a9 b9 => f1 j9 (by omega))).fr  (fun j9 a9 b9 => f6 j9 (by omega)))
      have y9 := ((hU.fr  (fun j9 a9 b9 => f1 j9 (by omega))).fr  (fun j9 a9 b9 => f6 j9 (by omega)))
      exact g_zret E Rt dX13_hide_48 rfl (by decide) (by decide) (by decide) (by rw [e7]; exact ⟨rfl, pAm.no (by decide) (⟨_, hm6_a, hm6_0, hm6_1, hm6_2, hm6_3, hm6_5, hm6_6, hm6_12, hm6_15, hm6_16, hm6_17, hm6_18, hm6_19, hm6_20, hm6_26, hm6_28, hm6_29, trivial⟩) y8 y9, fun j9 h9 => (f6 j9 (by omega)).trans (f1 j9 (by omega))⟩)
    · refine g_aload_n E dX13_hide_30 rfl rfl rfl ?_
      refine g_aload_n E dX13_hide_31 rfl rfl rfl ?_
      refine g_getf E gciX13 dX13_hide_32 h1 15 rfl (by decide) q1755 (.inl rfl) (.ref 2002) (hM_15) rfl ?_
      refine g_iload_n E dX13_hide_35 rfl rfl rfl ?_
      have y10 := (hV.fr  (fun j9 a9 b9 => f1 j9 (by omega)))
      refine g_callV (k := 2000) (n9 := 2) (av := [.ref 2002, .int (nI j)]) (st := []) E (ct_X13_isHiddenIn l j hw hM2 y3 y10 (by omega)) gciX13 dX13_hide_36 h1 q2201 q2203 qs82 q135 q2204 (by decide +kernel) rfl rfl ⟨by decide, by decide⟩ ⟨by decide, by decide⟩ (Nat.le_of_ble_eq_true rfl) rfl (gPu.k ?_)
      refine g_iload_n E dX13_hide_39 rfl rfl rfl ?_
      refine g_icmp_ne E dX13_hide_40 (tgt := 49) (by decide) rfl (fun c40 => ?_) (fun c40 => ?_)
      · have c40 : ¬ zBit (R 16) j = b := fun h9 => c40 (congrArg zb h9)
        refine g_aload_n E dX13_hide_49 rfl rfl rfl ?_
        have y11 := (hU.fr  (fun j9 a9 b9 => f1 j9 (by omega)))
        refine g_callV (k := 2000) (n9 := 0) (av := []) (st := []) E (ct_X13_remembers l hw hM2 y10 y11 hac) gciX13 dX13_hide_50 h1 q2500 q2502 qs117 q135 q2503 (by decide +kernel) rfl rfl ⟨by decide, by decide⟩ ⟨by decide, by decide⟩ (Nat.le_of_ble_eq_true rfl) rfl (gPn.k (fun g12 h12 => ?_))
        obtain ⟨hm12, hu12, f12⟩ := h12
        have hm12_o := hm12
        obtain ⟨hm12_F, hm12_a, hm12_0, hm12_1, hm12_2, hm12_3, hm12_5, hm12_6, hm12_12, hm12_15, hm12_16, hm12_17, hm12_18, hm12_19, hm12_20, hm12_26, hm12_28, hm12_29, -⟩ := hm12_o
        have hu12_o := hu12
        obtain ⟨hu12_f, hu12_a, hu12_h⟩ := hu12_o
        refine g_aload_n E dX13_hide_53 rfl rfl rfl ?_
        refine g_getf E gciX13 dX13_hide_54 hm12_a 15 rfl (by decide) q1755 (.inl rfl) (.ref 2002) (hm12_15) rfl ?_
        refine g_bipush E (v := 16) dX13_hide_57 (by decide) rfl ?_
        refine g_dup2 E dX13_hide_59 rfl rfl rfl ?_
        have x13 := (f12 (2002) (by omega)).trans (x5)
        refine g_iald E dX13_hide_60 (j := 16) x13 (rfl) (by omega) (by decide) (v := R 16) (hV_r 16 (by unfold zRel; omega)) rfl ?_
        refine g_iconst E (v := 1) dX13_hide_61 (by decide) rfl ?_
        refine g_iload_n E dX13_hide_62 rfl rfl rfl ?_
        refine g_ishl E dX13_hide_63 rfl ?_
        refine g_ixor E dX13_hide_64 rfl ?_
        refine g_iast E dX13_hide_65 (j := 16) x13 (rfl) (by omega) (by decide) rfl (g_upk (fun g14 h14 f14 => ?_))
        have hx15 : pRw g14 2002 B (upd R 16 (R 16 ^^^ (1 <<< (nI j &&& 31)))) d := ⟨_, h14, updR ⟨hV_r, hV_d⟩ (by omega)⟩
        have hx15_o := hx15
        obtain ⟨hx15_f, hx15_a, hx15_r, hx15_d⟩ := hx15_o
        refine g_aload_n E dX13_hide_66 rfl rfl rfl ?_
        have x16 := (f14 (2000) (by omega)).trans (hm12_a)
        have hM17 : pMq g14 (.ref mb) 0 tr wh tp fa (zUm ac) mk [] := ⟨_, x16, hm12_0, hm12_1, hm12_2, hm12_3, hm12_5, hm12_6, hm12_12, hm12_15, hm12_16, hm12_17, hm12_18, hm12_19, hm12_20, hm12_26, hm12_28, hm12_29, trivial⟩
        refine g_callV (k := 2000) (n9 := 0) (av := []) (st := []) E (ct_X13_granted l hM17) gciX13 dX13_hide_67 x16 q2504 q2506 qs118 q135 q2507 (by decide +kernel) rfl rfl ⟨by decide, by decide⟩ ⟨by decide, by decide⟩ (Nat.le_of_ble_eq_true rfl) rfl (gPi.k (fun g18 h18 => ?_))
        obtain ⟨hm18, f18⟩ := h18
        have hm18_o := hm18
        obtain ⟨hm18_F, hm18_a, hm18_0, hm18_1, hm18_2, hm18_3, hm18_5, hm18_6, hm18_12, hm18_15, hm18_16, hm18_17, hm18_18, hm18_19, hm18_20, hm18_26, hm18_28, hm18_29, -⟩ := hm18_o
        have e19 : sHid B R (nI j) b = 0 := by simp [sHid, c10, q4, c27, c40]
        have y20 := (hx15.fr  (fun j9 a9 b9 => f18 j9 (by omega)))
        have y21 := ((hu12.fr  (fun j9 a9 b9 => f14 j9 (by omega))).fr  (fun j9 a9 b9 => f18 j9 (by omega)))
        have e19r : zHdn B R (nI j) = upd R 16 (R 16 ^^^ (1 <<< (nI j &&& 31))) := by simp [zHdn, c10, q4, c27, c40]
        exact g_zret E Rt dX13_hide_70 rfl (by decide) (by decide) (by decide) (by rw [e19]; exact ⟨rfl, pAm.yes (⟨_, hm18_a, hm18_0, hm18_1, hm18_2, hm18_3, hm18_5, hm18_6, hm18_12, hm18_15, hm18_16, hm18_17, hm18_18, hm18_19, hm18_20, hm18_26, hm18_28, hm18_29, trivial⟩) (by rw [e19r]; exact y20) y21, fun j9 h9 => (((f18 j9 (by omega)).trans (f14 j9 (by omega))).trans (f12 j9 (by omega))).trans (f1 j9 (by omega))⟩)
      · have c40 : zBit (R 16) j = b := zb_inj.mp c40
        refine g_aload_n E dX13_hide_43 rfl rfl rfl ?_
        refine g_iconst E (v := 5) dX13_hide_44 (by decide) rfl ?_
        refine g_callV (k := 2000) (n9 := 1) (av := [.int 5]) (st := []) E (ct_X13_denied l 5 hM2) gciX13 dX13_hide_45 h1 q2496 q2498 qs116 q135 q2499 (by decide +kernel) rfl rfl ⟨by decide, by decide⟩ ⟨by decide, by decide⟩ (Nat.le_of_ble_eq_true rfl) rfl (gPi.k (fun g22 h22 => ?_))
        obtain ⟨hm22, f22⟩ := h22
        have hm22_o := hm22
        obtain ⟨hm22_F, hm22_a, hm22_0, hm22_1, hm22_2, hm22_3, hm22_5, hm22_6, hm22_12, hm22_15, hm22_16, hm22_17, hm22_18, hm22_19, hm22_20, hm22_26, hm22_28, hm22_29, -⟩ := hm22_o
        have e23 : sHid B R (nI j) b = 5 := by simp [sHid, c10, q4, c27, c40]
        have y24 := (y10.fr  (fun j9 a9 b9 => f22 j9 (by omega)))
        have y25 := ((hU.fr  (fun j9 a9 b9 => f1 j9 (by omega))).fr  (fun j9 a9 b9 => f22 j9 (by omega)))
        exact g_zret E Rt dX13_hide_48 rfl (by decide) (by decide) (by decide) (by rw [e23]; exact ⟨rfl, pAm.no (by decide) (⟨_, hm22_a, hm22_0, hm22_1, hm22_2, hm22_3, hm22_5, hm22_6, hm22_12, hm22_15, hm22_16, hm22_17, hm22_18, hm22_19, hm22_20, hm22_26, hm22_28, hm22_29, trivial⟩) y24 y25, fun j9 h9 => (f22 j9 (by omega)).trans (f1 j9 (by omega))⟩)
  · have c10 := zb_0.mp c10
    have q26 := isNone_of c10
    refine g_aload_n E dX13_hide_13 rfl rfl rfl ?_
    refine g_iconst E (v := 1) dX13_hide_14 (by decide) rfl ?_
    refine g_callV (k := 2000) (n9 := 1) (av := [.int 1]) (st := []) E (ct_X13_denied l 1 hM2) gciX13 dX13_hide_15 h1 q2496 q2498 qs116 q135 q2499 (by decide +kernel) rfl rfl ⟨by decide, by decide⟩ ⟨by decide, by decide⟩ (Nat.le_of_ble_eq_true rfl) rfl (gPi.k (fun g27 h27 => ?_))
    obtain ⟨hm27, f27⟩ := h27
    have hm27_o := hm27
    obtain ⟨hm27_F, hm27_a, hm27_0, hm27_1, hm27_2, hm27_3, hm27_5, hm27_6, hm27_12, hm27_15, hm27_16, hm27_17, hm27_18, hm27_19, hm27_20, hm27_26, hm27_28, hm27_29, -⟩ := hm27_o
    have e28 : sHid B R p b = 1 := by simp [sHid, c10, q26]
    have y29 := ((hV.fr  (fun j9 a9 b9 => f1 j9 (by omega))).fr  (fun j9 a9 b9 => f27 j9 (by omega)))
    have y30 := ((hU.fr  (fun j9 a9 b9 => f1 j9 (by omega))).fr  (fun j9 a9 b9 => f27 j9 (by omega)))
    exact g_zret E Rt dX13_hide_18 rfl (by decide) (by decide) (by decide) (by rw [e28]; exact ⟨rfl, pAm.no (by decide) (⟨_, hm27_a, hm27_0, hm27_1, hm27_2, hm27_3, hm27_5, hm27_6, hm27_12, hm27_15, hm27_16, hm27_17, hm27_18, hm27_19, hm27_20, hm27_26, hm27_28, hm27_29, trivial⟩) y29 y30, fun j9 h9 => (f27 j9 (by omega)).trans (f1 j9 (by omega))⟩)
set_option maxHeartbeats 1000000 in
theorem ct_X13_hide_N (l : Launch) {g : gWM} {th tr wh fa : Int32} {tp ac mk : Nat} (p : Int32) (b : Bool) (hM : pMq g .null th tr wh tp fa ac mk []) : gCt l yX13_hide cX13_hide 3 (some .boolean) 2 0 0 42 [.ref 2000, .int p, .int (zb b)] g (gPi 0 (fun g1 => pMq g1 .null 0 (sHid zB0 (fun _ => 0) p b) (-1) tp fa ac mk [] ∧ ∀ j, j ≠ 2000 → g1 j = g j)) := by
  refine gCt.of RX13 (by decide) rfl (lo := [some (.ref 2000), some (.int p), some (.int (zb b))]) 0 rfl (Nat.le_of_ble_eq_true rfl) (fun z E Rt => ?_)
  have hM_o := hM
  obtain ⟨hM_F, hM_a, hM_0, hM_1, hM_2, hM_3, hM_5, hM_6, hM_12, hM_15, hM_16, hM_17, hM_18, hM_19, hM_20, hM_26, hM_28, hM_29, -⟩ := hM_o
  refine g_aload_n E dX13_hide_0 rfl rfl rfl ?_
  refine g_iconst E (v := 0) dX13_hide_1 (by decide) rfl ?_
  refine g_putf E gciX13 (v := .int 0) dX13_hide_2 hM_a 0 rfl (by decide) q1740 (.inl rfl) rfl (fun _ => rfl) (fun _ => rfl) rfl (g_upk (fun g1 h1 f1 => ?_))
  refine g_aload_n E dX13_hide_5 rfl rfl rfl ?_
  refine g_iload_n E dX13_hide_6 rfl rfl rfl ?_
  have hM2 : pMq g1 .null 0 tr wh tp fa ac mk [] := ⟨_, h1, rfl, hM_1, hM_2, hM_3, hM_5, hM_6, hM_12, hM_15, hM_16, hM_17, hM_18, hM_19, hM_20, hM_26, hM_28, hM_29, trivial⟩
  refine g_callV (k := 2000) (n9 := 1) (av := [.int p]) (st := []) E (ct_X13_isGood_N l p hM2) gciX13 dX13_hide_7 h1 q2197 q2199 qs81 q135 q2200 (by decide +kernel) rfl rfl ⟨by decide, by decide⟩ ⟨by decide, by decide⟩ (Nat.le_of_ble_eq_true rfl) rfl (gPu.k ?_)
  refine g_if_ne E dX13_hide_10 (tgt := 19) (by decide) rfl (fun h9 => absurd h9 (by decide)) (fun _ => ?_)
  refine g_aload_n E dX13_hide_13 rfl rfl rfl ?_
  refine g_iconst E (v := 1) dX13_hide_14 (by decide) rfl ?_
  refine g_callV (k := 2000) (n9 := 1) (av := [.int 1]) (st := []) E (ct_X13_denied l 1 hM2) gciX13 dX13_hide_15 h1 q2496 q2498 qs116 q135 q2499 (by decide +kernel) rfl rfl ⟨by decide, by decide⟩ ⟨by decide, by decide⟩ (Nat.le_of_ble_eq_true rfl) rfl (gPi.k (fun g3 h3 => ?_))
  obtain ⟨hm3, f3⟩ := h3
  have hm3_o := hm3
  obtain ⟨hm3_F, hm3_a, hm3_0, hm3_1, hm3_2, hm3_3, hm3_5, hm3_6, hm3_12, hm3_15, hm3_16, hm3_17, hm3_18, hm3_19, hm3_20, hm3_26, hm3_28, hm3_29, -⟩ := hm3_o
  have e4 : sHid zB0 (fun _ => 0) p b = 1 := by simp [sHid, qI_z]
  exact g_zret E Rt dX13_hide_18 rfl (by decide) (by decide) (by decide) (by rw [e4]; exact ⟨rfl, ⟨_, hm3_a, hm3_0, hm3_1, hm3_2, hm3_3, hm3_5, hm3_6, hm3_12, hm3_15, hm3_16, hm3_17, hm3_18, hm3_19, hm3_20, hm3_26, hm3_28, hm3_29, trivial⟩, fun j9 h9 => (f3 j9 (by omega)).trans (f1 j9 (by omega))⟩)
set_option maxHeartbeats 2000000 in
theorem ct_X13_cross (l : Launch) {g : gWM} {mb : Nat} {B : gBar} {R : Nat → Int32} {d : Int32} {th tr wh fa : Int32} {tp ac mk : Nat} {U : zHi} (p : Int32) (q : Int32) (hw : wfB B) (hM : pMq g (.ref mb) th tr wh tp fa ac mk []) (hMb : pMb g mb B) (hV : pRw g 2002 B R d) (h9 : 10000 ≤ mb) (hU : pHi g 2004 288 B U ac) (hac : ac ≤ 16) : gCt l yX13_cross cX13_cross 3 (some .int) 5 0 0 119 [.ref 2000, .int p, .int q] g (gPi (if sCrs B R p q = 0 then aCrs B R d p q else -1) (fun g1 => pAm g1 mb B tp fa mk (sCrs B R p q) R d ac U (zCrs B R d p q) (d) ∧ ∀ j, (j ≠ 2000 ∧ j ≠ 2002 ∧ j ≠ 2004) → g1 j = g j)) := by
  refine gCt.of RX13 (by decide) rfl (lo := [some (.ref 2000), some (.int p), some (.int q)]) 0 rfl (Nat.le_of_ble_eq_true rfl) (fun z E Rt => ?_)
  have hw_n := hw.1
  have hM_o := hM
  obtain ⟨hM_F, hM_a, hM_0, hM_1, hM_2, hM_3, hM_5, hM_6, hM_12, hM_15, hM_16, hM_17, hM_18, hM_19, hM_20, hM_26, hM_28, hM_29, -⟩ := hM_o
  have hMb_o := hMb
  obtain ⟨⟨hMb_F, hMb_a, hMb_0, hMb_1, hMb_2, hMb_3, hMb_4, hMb_5, hMb_6, hMb_7, hMb_8, hMb_9, hMb_11, hMb_12, hMb_13, hMb_14, hMb_15, hMb_16, hMb_17, hMb_18, hMb_19, hMb_20, hMb_21, hMb_22, hMb_23, hMb_24, hMb_25, hMb_26, hMb_27, hMb_28, hMb_29, hMb_30, hMb_31⟩, ⟨hMb_f1, hMb_a1, hMb_b1⟩, ⟨hMb_f2, hMb_a2, hMb_b2⟩, ⟨hMb_f3, hMb_a3, hMb_b3⟩, ⟨hMb_f4, hMb_a4, hMb_b4⟩, ⟨hMb_f5, hMb_a5, hMb_b5⟩, ⟨hMb_f6, hMb_a6, hMb_b6⟩, ⟨hMb_f7, hMb_a7, hMb_b7⟩, ⟨hMb_f8, hMb_a8, hMb_b8⟩, ⟨hMb_f9, hMb_a9, hMb_b9⟩, ⟨hMb_f10, hMb_a10, hMb_b10⟩, ⟨hMb_f11, hMb_a11, hMb_b11⟩, ⟨hMb_f12, hMb_a12, hMb_b12⟩, ⟨hMb_f13, hMb_a13, hMb_b13⟩, ⟨hMb_f14, hMb_a14, hMb_b14⟩, ⟨hMb_f15, hMb_a15, hMb_b15⟩, ⟨hMb_f16, hMb_a16, hMb_b16⟩, ⟨hMb_f17, hMb_a17, hMb_b17⟩, ⟨hMb_f18, hMb_a18, hMb_b18⟩, ⟨hMb_f19, hMb_a19, hMb_b19⟩, ⟨hMb_f20, hMb_a20, hMb_b20⟩, ⟨hMb_f21, hMb_a21, hMb_b21⟩⟩ := hMb_o
  have hV_o := hV
  obtain ⟨hV_f, hV_a, hV_r, hV_d⟩ := hV_o
  have hU_o := hU
  obtain ⟨hU_f, hU_a, hU_h⟩ := hU_o
  refine g_aload_n E dX13_cross_0 rfl rfl rfl ?_
  refine g_iconst E (v := 0) dX13_cross_1 (by decide) rfl ?_
  refine g_putf E gciX13 (v := .int 0) dX13_cross_2 hM_a 0 rfl (by decide) q1740 (.inl rfl) rfl (fun _ => rfl) (fun _ => rfl) rfl (g_upk (fun g1 h1 f1 => ?_))
  refine g_aload_n E dX13_cross_5 rfl rfl rfl ?_
  refine g_iload_n E dX13_cross_6 rfl rfl rfl ?_
  have hM2 : pMq g1 (.ref mb) 0 tr wh tp fa ac mk [] := ⟨_, h1, rfl, hM_1, hM_2, hM_3, hM_5, hM_6, hM_12, hM_15, hM_16, hM_17, hM_18, hM_19, hM_20, hM_26, hM_28, hM_29, trivial⟩
  have y3 := (hMb.fr  (fun j9 a9 b9 => f1 j9 (by omega)))
  refine g_callV (k := 2000) (n9 := 1) (av := [.int p]) (st := []) E (ct_X13_isTraveller l p hw hM2 y3) gciX13 dX13_cross_7 h1 q2209 q2211 qs83 q135 q2212 (by decide +kernel) rfl rfl ⟨by decide, by decide⟩ ⟨by decide, by decide⟩ (Nat.le_of_ble_eq_true rfl) rfl (gPu.k ?_)
  refine g_if_eq E dX13_cross_10 (tgt := 21) (by decide) rfl (fun c10 => ?_) (fun c10 => ?_)
  · have c10 := zb_0.mp c10
    have q4 := isNone_of c10
    refine g_aload_n E dX13_cross_21 rfl rfl rfl ?_
    refine g_iconst E (v := 1) dX13_cross_22 (by decide) rfl ?_
    refine g_callV (k := 2000) (n9 := 1) (av := [.int 1]) (st := []) E (ct_X13_refused l 1 hM2) gciX13 dX13_cross_23 h1 q1846 q1848 qs52 q135 q1849 (by decide +kernel) rfl rfl ⟨by decide, by decide⟩ ⟨by decide, by decide⟩ (Nat.le_of_ble_eq_true rfl) rfl (gPi.k (fun g5 h5 => ?_))
    obtain ⟨hm5, f5⟩ := h5
    have hm5_o := hm5
    obtain ⟨hm5_F, hm5_a, hm5_0, hm5_1, hm5_2, hm5_3, hm5_5, hm5_6, hm5_12, hm5_15, hm5_16, hm5_17, hm5_18, hm5_19, hm5_20, hm5_26, hm5_28, hm5_29, -⟩ := hm5_o
    have e6 : sCrs B R p q = 1 := by simp [sCrs, c10, q4]
    have y7 := ((hV.fr  (fun j9 a9 b9 => f1 j9 (by omega))).fr  (fun j9 a9 b9 => f5 j9 (by omega)))
    have y8 := ((hU.fr  (fun j9 a9 b9 => f1 j9 (by omega))).fr  (fun j9 a9 b9 => f5 j9 (by omega)))
    exact g_iret E Rt dX13_cross_26 rfl (by decide) (by decide) (by rw [e6]; exact ⟨rfl, pAm.no (by decide) (⟨_, hm5_a, hm5_0, hm5_1, hm5_2, hm5_3, hm5_5, hm5_6, hm5_12, hm5_15, hm5_16, hm5_17, hm5_18, hm5_19, hm5_20, hm5_26, hm5_28, hm5_29, trivial⟩) y7 y8, fun j9 h9 => (f5 j9 (by omega)).trans (f1 j9 (by omega))⟩)
  · have c10 := zb_n0.mp c10
    obtain ⟨t, q9⟩ := isSome_of c10
    obtain ⟨rfl, q9_l⟩ := qI_some (by omega) q9
    refine g_aload_n E dX13_cross_13 rfl rfl rfl ?_
    refine g_iload_n E dX13_cross_14 rfl rfl rfl ?_
    refine g_callV (k := 2000) (n9 := 1) (av := [.int q]) (st := []) E (ct_X13_isGate l q hw hM2 y3) gciX13 dX13_cross_15 h1 q2225 q2227 qs86 q135 q2228 (by decide +kernel) rfl rfl ⟨by decide, by decide⟩ ⟨by decide, by decide⟩ (Nat.le_of_ble_eq_true rfl) rfl (gPu.k ?_)
    refine g_if_ne E dX13_cross_18 (tgt := 27) (by decide) rfl (fun c18 => ?_) (fun c18 => ?_)
    · have c18 := zb_n0.mp c18
      obtain ⟨k9, q10⟩ := isSome_of c18
      obtain ⟨rfl, q10_l⟩ := qI_some (by omega) q10
      refine g_aload_n E dX13_cross_27 rfl rfl rfl ?_
      refine g_iload_n E dX13_cross_28 rfl rfl rfl ?_
      have y11 := (hV.fr  (fun j9 a9 b9 => f1 j9 (by omega)))
      refine g_callV (k := 2000) (n9 := 1) (av := [.int (nI t)]) (st := []) E (ct_X13_setOf l t hw hM2 y3 y11 (by omega)) gciX13 dX13_cross_29 h1 q2213 q2215 qs84 q135 q2216 (by decide +kernel) rfl rfl ⟨by decide, by decide⟩ ⟨by decide, by decide⟩ (Nat.le_of_ble_eq_true rfl) rfl (gPu.k ?_)
      refine g_if_ne E dX13_cross_32 (tgt := 41) (by decide) rfl (fun c32 => ?_) (fun c32 => ?_)
      · refine g_aload_n E dX13_cross_41 rfl rfl rfl ?_
        have y12 := (hU.fr  (fun j9 a9 b9 => f1 j9 (by omega)))
        refine g_callV (k := 2000) (n9 := 0) (av := []) (st := []) E (ct_X13_remembers l hw hM2 y11 y12 hac) gciX13 dX13_cross_42 h1 q2500 q2502 qs117 q135 q2503 (by decide +kernel) rfl rfl ⟨by decide, by decide⟩ ⟨by decide, by decide⟩ (Nat.le_of_ble_eq_true rfl) rfl (gPn.k (fun g13 h13 => ?_))
        obtain ⟨hm13, hu13, f13⟩ := h13
        have hm13_o := hm13
        obtain ⟨hm13_F, hm13_a, hm13_0, hm13_1, hm13_2, hm13_3, hm13_5, hm13_6, hm13_12, hm13_15, hm13_16, hm13_17, hm13_18, hm13_19, hm13_20, hm13_26, hm13_28, hm13_29, -⟩ := hm13_o
        have hu13_o := hu13
        obtain ⟨hu13_f, hu13_a, hu13_h⟩ := hu13_o
        refine g_aload_n E dX13_cross_45 rfl rfl rfl ?_
        refine g_aload_n E dX13_cross_46 rfl rfl rfl ?_
        refine g_aload_n E dX13_cross_47 rfl rfl rfl ?_
        refine g_getf E gciX13 dX13_cross_48 hm13_a 15 rfl (by decide) q1755 (.inl rfl) (.ref 2002) (hm13_15) rfl ?_
        refine g_iload_n E dX13_cross_51 rfl rfl rfl ?_
        refine g_aload_n E dX13_cross_52 rfl rfl rfl ?_
        refine g_aload_n E dX13_cross_53 rfl rfl rfl ?_
        refine g_getf E gciX13 dX13_cross_54 hm13_a 15 rfl (by decide) q1755 (.inl rfl) (.ref 2002) (hm13_15) rfl ?_
        refine g_iload_n E dX13_cross_57 rfl rfl rfl ?_
        refine g_iload_n E dX13_cross_58 rfl rfl rfl ?_
        refine g_iconst E (v := 0) dX13_cross_59 (by decide) rfl ?_
        have hM14 : pMq g13 (.ref mb) 0 tr wh tp fa (zUm ac) mk [] := ⟨_, hm13_a, hm13_0, hm13_1, hm13_2, hm13_3, hm13_5, hm13_6, hm13_12, hm13_15, hm13_16, hm13_17, hm13_18, hm13_19, hm13_20, hm13_26, hm13_28, hm13_29, trivial⟩
        have y15 := (y3.fr  (fun j9 a9 b9 => f13 j9 (by omega)))
        have y16 := (y11.fr  (fun j9 a9 b9 => f13 j9 (by omega)))
        refine g_callV (k := 2000) (n9 := 4) (av := [.ref 2002, .int (nI t), .int (nI k9), .int 0]) (st := [.int (nI t), .ref 2002, .ref 2000, .ref 2000]) E (ct_X13_foundIn l t k9 0 hw hM14 y15 y16 (by omega) (by omega)) gciX13 dX13_cross_60 hm13_a q2293 q2295 qs96 q135 q2296 (by decide +kernel) rfl rfl ⟨by decide, by decide⟩ ⟨by decide, by decide⟩ (Nat.le_of_ble_eq_true rfl) rfl (gPu.k ?_)
        refine g_callV (k := 2000) (n9 := 3) (av := [.ref 2002, .int (nI t), .int (zFou B R t k9 d 0)]) (st := [.ref 2000]) E (ct_X13_crosses l t (zFou B R t k9 d 0) hw hM14 y15 y16 (by omega) (zFok_fou hw) (.inl rfl) (by omega)) gciX13 dX13_cross_63 hm13_a q2431 q2433 qs110 q135 q2434 (by decide +kernel) rfl rfl ⟨by decide, by decide⟩ ⟨by decide, by decide⟩ (Nat.le_of_ble_eq_true rfl) rfl (gPi.k (fun g17 h17 => ?_))
        obtain ⟨hr17, f17⟩ := h17
        have hr17_o := hr17
        obtain ⟨hr17_f, hr17_a, hr17_r, hr17_d⟩ := hr17_o
        have x18 := (f17 (2000) (by omega)).trans (hm13_a)
        have hM19 : pMq g17 (.ref mb) 0 tr wh tp fa (zUm ac) mk [] := ⟨_, x18, hm13_0, hm13_1, hm13_2, hm13_3, hm13_5, hm13_6, hm13_12, hm13_15, hm13_16, hm13_17, hm13_18, hm13_19, hm13_20, hm13_26, hm13_28, hm13_29, trivial⟩
        refine g_callV (k := 2000) (n9 := 1) (av := [.int (zAsk B R t (zFou B R t k9 d 0) 1 d)]) (st := []) E (ct_X13_fine l (zAsk B R t (zFou B R t k9 d 0) 1 d) hM19) gciX13 dX13_cross_66 x18 q2181 q2183 qs80 q135 q2184 (by decide +kernel) rfl rfl ⟨by decide, by decide⟩ ⟨by decide, by decide⟩ (Nat.le_of_ble_eq_true rfl) rfl (gPi.k (fun g20 h20 => ?_))
        obtain ⟨hm20, f20⟩ := h20
        have hm20_o := hm20
        obtain ⟨hm20_F, hm20_a, hm20_0, hm20_1, hm20_2, hm20_3, hm20_5, hm20_6, hm20_12, hm20_15, hm20_16, hm20_17, hm20_18, hm20_19, hm20_20, hm20_26, hm20_28, hm20_29, -⟩ := hm20_o
        have e21 : sCrs B R (nI t) (nI k9) = 0 := by simp [sCrs, c10, q9, c18, q10, c32]
        have y22 := (hr17.fr  (fun j9 a9 b9 => f20 j9 (by omega)))
        have y23 := ((hu13.fr  (fun j9 a9 b9 => f17 j9 (by omega))).fr  (fun j9 a9 b9 => f20 j9 (by omega)))
        have e21r : zCrs B R d (nI t) (nI k9) = (zCro B R t (zFou B R t k9 d 0) (zAsk B R t (zFou B R t k9 d 0) 1 d)) := by simp [zCrs, c10, q9, c18, q10, c32]
        exact g_iret E Rt dX13_cross_69 rfl (by decide) (by decide) (by rw [e21]; exact ⟨congrArg (fun x => some (Value.int x)) (by simp [aCrs, c10, q9, c18, q10, c32]), pAm.yes (⟨_, hm20_a, hm20_0, hm20_1, hm20_2, hm20_3, hm20_5, hm20_6, hm20_12, hm20_15, hm20_16, hm20_17, hm20_18, hm20_19, hm20_20, hm20_26, hm20_28, hm20_29, trivial⟩) (by rw [e21r]; exact y22) y23, fun j9 h9 => (((f20 j9 (by omega)).trans (f17 j9 (by omega))).trans (f13 j9 (by omega))).trans (f1 j9 (by omega))⟩)
      · refine g_aload_n E dX13_cross_35 rfl rfl rfl ?_
        refine g_iconst E (v := 5) dX13_cross_36 (by decide) rfl ?_
        refine g_callV (k := 2000) (n9 := 1) (av := [.int 5]) (st := []) E (ct_X13_refused l 5 hM2) gciX13 dX13_cross_37 h1 q1846 q1848 qs52 q135 q1849 (by decide +kernel) rfl rfl ⟨by decide, by decide⟩ ⟨by decide, by decide⟩ (Nat.le_of_ble_eq_true rfl) rfl (gPi.k (fun g24 h24 => ?_))
        obtain ⟨hm24, f24⟩ := h24
        have hm24_o := hm24
        obtain ⟨hm24_F, hm24_a, hm24_0, hm24_1, hm24_2, hm24_3, hm24_5, hm24_6, hm24_12, hm24_15, hm24_16, hm24_17, hm24_18, hm24_19, hm24_20, hm24_26, hm24_28, hm24_29, -⟩ := hm24_o
        have e25 : sCrs B R (nI t) (nI k9) = 5 := by simp [sCrs, c10, q9, c18, q10, c32]
        have y26 := (y11.fr  (fun j9 a9 b9 => f24 j9 (by omega)))
        have y27 := ((hU.fr  (fun j9 a9 b9 => f1 j9 (by omega))).fr  (fun j9 a9 b9 => f24 j9 (by omega)))
        exact g_iret E Rt dX13_cross_40 rfl (by decide) (by decide) (by rw [e25]; exact ⟨rfl, pAm.no (by decide) (⟨_, hm24_a, hm24_0, hm24_1, hm24_2, hm24_3, hm24_5, hm24_6, hm24_12, hm24_15, hm24_16, hm24_17, hm24_18, hm24_19, hm24_20, hm24_26, hm24_28, hm24_29, trivial⟩) y26 y27, fun j9 h9 => (f24 j9 (by omega)).trans (f1 j9 (by omega))⟩)
    · have c18 := zb_0.mp c18
      have q28 := isNone_of c18
      refine g_aload_n E dX13_cross_21 rfl rfl rfl ?_
      refine g_iconst E (v := 1) dX13_cross_22 (by decide) rfl ?_
      refine g_callV (k := 2000) (n9 := 1) (av := [.int 1]) (st := []) E (ct_X13_refused l 1 hM2) gciX13 dX13_cross_23 h1 q1846 q1848 qs52 q135 q1849 (by decide +kernel) rfl rfl ⟨by decide, by decide⟩ ⟨by decide, by decide⟩ (Nat.le_of_ble_eq_true rfl) rfl (gPi.k (fun g29 h29 => ?_))
      obtain ⟨hm29, f29⟩ := h29
      have hm29_o := hm29
      obtain ⟨hm29_F, hm29_a, hm29_0, hm29_1, hm29_2, hm29_3, hm29_5, hm29_6, hm29_12, hm29_15, hm29_16, hm29_17, hm29_18, hm29_19, hm29_20, hm29_26, hm29_28, hm29_29, -⟩ := hm29_o
      have e30 : sCrs B R (nI t) q = 1 := by simp [sCrs, c10, q9, c18, q28]
      have y31 := ((hV.fr  (fun j9 a9 b9 => f1 j9 (by omega))).fr  (fun j9 a9 b9 => f29 j9 (by omega)))
      have y32 := ((hU.fr  (fun j9 a9 b9 => f1 j9 (by omega))).fr  (fun j9 a9 b9 => f29 j9 (by omega)))
      exact g_iret E Rt dX13_cross_26 rfl (by decide) (by decide) (by rw [e30]; exact ⟨rfl, pAm.no (by decide) (⟨_, hm29_a, hm29_0, hm29_1, hm29_2, hm29_3, hm29_5, hm29_6, hm29_12, hm29_15, hm29_16, hm29_17, hm29_18, hm29_19, hm29_20, hm29_26, hm29_28, hm29_29, trivial⟩) y31 y32, fun j9 h9 => (f29 j9 (by omega)).trans (f1 j9 (by omega))⟩)
set_option maxHeartbeats 1000000 in
theorem ct_X13_cross_N (l : Launch) {g : gWM} {th tr wh fa : Int32} {tp ac mk : Nat} (p : Int32) (q : Int32) (hM : pMq g .null th tr wh tp fa ac mk []) : gCt l yX13_cross cX13_cross 3 (some .int) 1 0 0 21 [.ref 2000, .int p, .int q] g (gPi (-1) (fun g1 => pMq g1 .null 0 (sCrs zB0 (fun _ => 0) p q) (-1) tp fa ac mk [] ∧ ∀ j, j ≠ 2000 → g1 j = g j)) := by
  refine gCt.of RX13 (by decide) rfl (lo := [some (.ref 2000), some (.int p), some (.int q)]) 0 rfl (Nat.le_of_ble_eq_true rfl) (fun z E Rt => ?_)
  have hM_o := hM
  obtain ⟨hM_F, hM_a, hM_0, hM_1, hM_2, hM_3, hM_5, hM_6, hM_12, hM_15, hM_16, hM_17, hM_18, hM_19, hM_20, hM_26, hM_28, hM_29, -⟩ := hM_o
  refine g_aload_n E dX13_cross_0 rfl rfl rfl ?_
  refine g_iconst E (v := 0) dX13_cross_1 (by decide) rfl ?_
  refine g_putf E gciX13 (v := .int 0) dX13_cross_2 hM_a 0 rfl (by decide) q1740 (.inl rfl) rfl (fun _ => rfl) (fun _ => rfl) rfl (g_upk (fun g1 h1 f1 => ?_))
  refine g_aload_n E dX13_cross_5 rfl rfl rfl ?_
  refine g_iload_n E dX13_cross_6 rfl rfl rfl ?_
  have hM2 : pMq g1 .null 0 tr wh tp fa ac mk [] := ⟨_, h1, rfl, hM_1, hM_2, hM_3, hM_5, hM_6, hM_12, hM_15, hM_16, hM_17, hM_18, hM_19, hM_20, hM_26, hM_28, hM_29, trivial⟩
  refine g_callV (k := 2000) (n9 := 1) (av := [.int p]) (st := []) E (ct_X13_isTraveller_N l p hM2) gciX13 dX13_cross_7 h1 q2209 q2211 qs83 q135 q2212 (by decide +kernel) rfl rfl ⟨by decide, by decide⟩ ⟨by decide, by decide⟩ (Nat.le_of_ble_eq_true rfl) rfl (gPu.k ?_)
  refine g_if_eq E dX13_cross_10 (tgt := 21) (by decide) rfl (fun _ => ?_) (fun h9 => absurd h9 (by decide))
  refine g_aload_n E dX13_cross_21 rfl rfl rfl ?_
  refine g_iconst E (v := 1) dX13_cross_22 (by decide) rfl ?_
  refine g_callV (k := 2000) (n9 := 1) (av := [.int 1]) (st := []) E (ct_X13_refused l 1 hM2) gciX13 dX13_cross_23 h1 q1846 q1848 qs52 q135 q1849 (by decide +kernel) rfl rfl ⟨by decide, by decide⟩ ⟨by decide, by decide⟩ (Nat.le_of_ble_eq_true rfl) rfl (gPi.k (fun g3 h3 => ?_))
  obtain ⟨hm3, f3⟩ := h3
  have hm3_o := hm3
  obtain ⟨hm3_F, hm3_a, hm3_0, hm3_1, hm3_2, hm3_3, hm3_5, hm3_6, hm3_12, hm3_15, hm3_16, hm3_17, hm3_18, hm3_19, hm3_20, hm3_26, hm3_28, hm3_29, -⟩ := hm3_o
  have e4 : sCrs zB0 (fun _ => 0) p q = 1 := by simp [sCrs, qI_z]
  exact g_iret E Rt dX13_cross_26 rfl (by decide) (by decide) (by rw [e4]; exact ⟨rfl, ⟨_, hm3_a, hm3_0, hm3_1, hm3_2, hm3_3, hm3_5, hm3_6, hm3_12, hm3_15, hm3_16, hm3_17, hm3_18, hm3_19, hm3_20, hm3_26, hm3_28, hm3_29, trivial⟩, fun j9 h9 => (f3 j9 (by omega)).trans (f1 j9 (by omega))⟩)
set_option maxHeartbeats 2000000 in
theorem ct_X13_days (l : Launch) {g : gWM} {mb : Nat} {B : gBar} {R : Nat → Int32} {d : Int32} {th tr wh fa : Int32} {tp ac mk : Nat} {U : zHi} (n : Int32) (hw : wfB B) (hM : pMq g (.ref mb) th tr wh tp fa ac mk []) (hMb : pMb g mb B) (hV : pRw g 2002 B R d) (h9 : 10000 ≤ mb) (hU : pHi g 2004 288 B U ac) (hac : ac ≤ 16) : gCt l yX13_days cX13_days 2 (some .int) 1 0 0 22 [.ref 2000, .int n] g (gPi (if sDay true d n = 0 then d + n else -1) (fun g1 => pAm g1 mb B tp fa mk (sDay true d n) R d ac U (R) (d + n) ∧ ∀ j, (j ≠ 2000 ∧ j ≠ 2002 ∧ j ≠ 2004) → g1 j = g j)) := by
  refine gCt.of RX13 (by decide) rfl (lo := [some (.ref 2000), some (.int n)]) 0 rfl (Nat.le_of_ble_eq_true rfl) (fun z E Rt => ?_)
  have hw_n := hw.1
  have hM_o := hM
  obtain ⟨hM_F, hM_a, hM_0, hM_1, hM_2, hM_3, hM_5, hM_6, hM_12, hM_15, hM_16, hM_17, hM_18, hM_19, hM_20, hM_26, hM_28, hM_29, -⟩ := hM_o
  have hMb_o := hMb
  obtain ⟨⟨hMb_F, hMb_a, hMb_0, hMb_1, hMb_2, hMb_3, hMb_4, hMb_5, hMb_6, hMb_7, hMb_8, hMb_9, hMb_11, hMb_12, hMb_13, hMb_14, hMb_15, hMb_16, hMb_17, hMb_18, hMb_19, hMb_20, hMb_21, hMb_22, hMb_23, hMb_24, hMb_25, hMb_26, hMb_27, hMb_28, hMb_29, hMb_30, hMb_31⟩, ⟨hMb_f1, hMb_a1, hMb_b1⟩, ⟨hMb_f2, hMb_a2, hMb_b2⟩, ⟨hMb_f3, hMb_a3, hMb_b3⟩, ⟨hMb_f4, hMb_a4, hMb_b4⟩, ⟨hMb_f5, hMb_a5, hMb_b5⟩, ⟨hMb_f6, hMb_a6, hMb_b6⟩, ⟨hMb_f7, hMb_a7, hMb_b7⟩, ⟨hMb_f8, hMb_a8, hMb_b8⟩, ⟨hMb_f9, hMb_a9, hMb_b9⟩, ⟨hMb_f10, hMb_a10, hMb_b10⟩, ⟨hMb_f11, hMb_a11, hMb_b11⟩, ⟨hMb_f12, hMb_a12, hMb_b12⟩, ⟨hMb_f13, hMb_a13, hMb_b13⟩, ⟨hMb_f14, hMb_a14, hMb_b14⟩, ⟨hMb_f15, hMb_a15, hMb_b15⟩, ⟨hMb_f16, hMb_a16, hMb_b16⟩, ⟨hMb_f17, hMb_a17, hMb_b17⟩, ⟨hMb_f18, hMb_a18, hMb_b18⟩, ⟨hMb_f19, hMb_a19, hMb_b19⟩, ⟨hMb_f20, hMb_a20, hMb_b20⟩, ⟨hMb_f21, hMb_a21, hMb_b21⟩⟩ := hMb_o
  have hV_o := hV
  obtain ⟨hV_f, hV_a, hV_r, hV_d⟩ := hV_o
  have hU_o := hU
  obtain ⟨hU_f, hU_a, hU_h⟩ := hU_o
  refine g_aload_n E dX13_days_0 rfl rfl rfl ?_
  refine g_iconst E (v := 0) dX13_days_1 (by decide) rfl ?_
  refine g_putf E gciX13 (v := .int 0) dX13_days_2 hM_a 0 rfl (by decide) q1740 (.inl rfl) rfl (fun _ => rfl) (fun _ => rfl) rfl (g_upk (fun g1 h1 f1 => ?_))
  refine g_aload_n E dX13_days_5 rfl rfl rfl ?_
  refine g_getf E gciX13 dX13_days_6 h1 3 rfl (by decide) q1743 (.inl rfl) (.ref mb) (hM_3) rfl ?_
  refine g_ifnonnullY E dX13_days_9 (tgt := 18) (by decide) ?_
  refine g_iload_n E dX13_days_18 rfl rfl rfl ?_
  refine g_iconst E (v := 1) dX13_days_19 (by decide) rfl ?_
  refine g_bipush E (v := 60) dX13_days_20 (by decide) rfl ?_
  refine g_callS (n9 := 3) (av := [.int n, .int 1, .int 60]) (st := []) E (ct_X13_in l n 1 60) dX13_days_22 q2069 q2070 q135 q2071 (by decide +kernel) rfl rfl ⟨by decide, by decide⟩ ⟨by decide, by decide⟩ (Nat.le_of_ble_eq_true rfl) rfl (gPu.k ?_)
  refine g_if_ne E dX13_days_25 (tgt := 34) (by decide) rfl (fun c25 => ?_) (fun c25 => ?_)
  · have c25 := zb_n0.mp c25
    refine g_aload_n E dX13_days_34 rfl rfl rfl ?_
    refine g_getf E gciX13 dX13_days_35 h1 15 rfl (by decide) q1755 (.inl rfl) (.ref 2002) (hM_15) rfl ?_
    refine g_bipush E (v := 17) dX13_days_38 (by decide) rfl ?_
    have x2 := (f1 (2002) (by omega)).trans (hV_a)
    refine g_iald E dX13_days_40 (j := 17) x2 (rfl) (by omega) (by decide) (v := d) (hV_d) rfl ?_
    refine g_iload_n E dX13_days_41 rfl rfl rfl ?_
    refine g_iadd E dX13_days_42 rfl ?_
    refine g_sipush E (v := 300) dX13_days_43 (by decide) rfl ?_
    refine g_icmp_le E dX13_days_46 (tgt := 55) (by decide) rfl (fun c46 => ?_) (fun c46 => ?_)
    · refine g_aload_n E dX13_days_55 rfl rfl rfl ?_
      have hM3 : pMq g1 (.ref mb) 0 tr wh tp fa ac mk [] := ⟨_, h1, rfl, hM_1, hM_2, hM_3, hM_5, hM_6, hM_12, hM_15, hM_16, hM_17, hM_18, hM_19, hM_20, hM_26, hM_28, hM_29, trivial⟩
      have y4 := (hV.fr  (fun j9 a9 b9 => f1 j9 (by omega)))
      have y5 := (hU.fr  (fun j9 a9 b9 => f1 j9 (by omega)))
      refine g_callV (k := 2000) (n9 := 0) (av := []) (st := []) E (ct_X13_remembers l hw hM3 y4 y5 hac) gciX13 dX13_days_56 h1 q2500 q2502 qs117 q135 q2503 (by decide +kernel) rfl rfl ⟨by decide, by decide⟩ ⟨by decide, by decide⟩ (Nat.le_of_ble_eq_true rfl) rfl (gPn.k (fun g6 h6 => ?_))
      obtain ⟨hm6, hu6, f6⟩ := h6
      have hm6_o := hm6
      obtain ⟨hm6_F, hm6_a, hm6_0, hm6_1, hm6_2, hm6_3, hm6_5, hm6_6, hm6_12, hm6_15, hm6_16, hm6_17, hm6_18, hm6_19, hm6_20, hm6_26, hm6_28, hm6_29, -⟩ := hm6_o
      have hu6_o := hu6
      obtain ⟨hu6_f, hu6_a, hu6_h⟩ := hu6_o
      refine g_aload_n E dX13_days_59 rfl rfl rfl ?_
      refine g_getf E gciX13 dX13_days_60 hm6_a 15 rfl (by decide) q1755 (.inl rfl) (.ref 2002) (hm6_15) rfl ?_
      refine g_bipush E (v := 17) dX13_days_63 (by decide) rfl ?_
      refine g_dup2 E dX13_days_65 rfl rfl rfl ?_
      have x7 := (f6 (2002) (by omega)).trans (x2)
      refine g_iald E dX13_days_66 (j := 17) x7 (rfl) (by omega) (by decide) (v := d) (hV_d) rfl ?_
      refine g_iload_n E dX13_days_67 rfl rfl rfl ?_
      refine g_iadd E dX13_days_68 rfl ?_
      refine g_iast E dX13_days_69 (j := 17) x7 (rfl) (by omega) (by decide) rfl (g_upk (fun g8 h8 f8 => ?_))
      have hx9 : pRw g8 2002 B R (d + n) := ⟨_, h8, updD hw ⟨hV_r, hV_d⟩⟩
      have hx9_o := hx9
      obtain ⟨hx9_f, hx9_a, hx9_r, hx9_d⟩ := hx9_o
      refine g_aload_n E dX13_days_70 rfl rfl rfl ?_
      refine g_aload_n E dX13_days_71 rfl rfl rfl ?_
      have x10 := (f8 (2000) (by omega)).trans (hm6_a)
      refine g_getf E gciX13 dX13_days_72 x10 15 rfl (by decide) q1755 (.inl rfl) (.ref 2002) (hm6_15) rfl ?_
      refine g_bipush E (v := 17) dX13_days_75 (by decide) rfl ?_
      refine g_iald E dX13_days_77 (j := 17) hx9_a (rfl) (by omega) (by decide) (v := d + n) (hx9_d) rfl ?_
      have hM11 : pMq g8 (.ref mb) 0 tr wh tp fa (zUm ac) mk [] := ⟨_, x10, hm6_0, hm6_1, hm6_2, hm6_3, hm6_5, hm6_6, hm6_12, hm6_15, hm6_16, hm6_17, hm6_18, hm6_19, hm6_20, hm6_26, hm6_28, hm6_29, trivial⟩
      refine g_callV (k := 2000) (n9 := 1) (av := [.int (d + n)]) (st := []) E (ct_X13_fine l (d + n) hM11) gciX13 dX13_days_78 x10 q2181 q2183 qs80 q135 q2184 (by decide +kernel) rfl rfl ⟨by decide, by decide⟩ ⟨by decide, by decide⟩ (Nat.le_of_ble_eq_true rfl) rfl (gPi.k (fun g12 h12 => ?_))
      obtain ⟨hm12, f12⟩ := h12
      have hm12_o := hm12
      obtain ⟨hm12_F, hm12_a, hm12_0, hm12_1, hm12_2, hm12_3, hm12_5, hm12_6, hm12_12, hm12_15, hm12_16, hm12_17, hm12_18, hm12_19, hm12_20, hm12_26, hm12_28, hm12_29, -⟩ := hm12_o
      have e13 : sDay true d n = 0 := by simp [sDay, c25, c46]
      have y14 := (hx9.fr  (fun j9 a9 b9 => f12 j9 (by omega)))
      have y15 := ((hu6.fr  (fun j9 a9 b9 => f8 j9 (by omega))).fr  (fun j9 a9 b9 => f12 j9 (by omega)))
      exact g_iret E Rt dX13_days_81 rfl (by decide) (by decide) (by rw [e13]; exact ⟨rfl, pAm.yes (⟨_, hm12_a, hm12_0, hm12_1, hm12_2, hm12_3, hm12_5, hm12_6, hm12_12, hm12_15, hm12_16, hm12_17, hm12_18, hm12_19, hm12_20, hm12_26, hm12_28, hm12_29, trivial⟩) y14 y15, fun j9 h9 => (((f12 j9 (by omega)).trans (f8 j9 (by omega))).trans (f6 j9 (by omega))).trans (f1 j9 (by omega))⟩)
    · refine g_aload_n E dX13_days_49 rfl rfl rfl ?_
      refine g_iconst E (v := 3) dX13_days_50 (by decide) rfl ?_
      have hM16 : pMq g1 (.ref mb) 0 tr wh tp fa ac mk [] := ⟨_, h1, rfl, hM_1, hM_2, hM_3, hM_5, hM_6, hM_12, hM_15, hM_16, hM_17, hM_18, hM_19, hM_20, hM_26, hM_28, hM_29, trivial⟩
      refine g_callV (k := 2000) (n9 := 1) (av := [.int 3]) (st := []) E (ct_X13_refused l 3 hM16) gciX13 dX13_days_51 h1 q1846 q1848 qs52 q135 q1849 (by decide +kernel) rfl rfl ⟨by decide, by decide⟩ ⟨by decide, by decide⟩ (Nat.le_of_ble_eq_true rfl) rfl (gPi.k (fun g17 h17 => ?_))
      obtain ⟨hm17, f17⟩ := h17
      have hm17_o := hm17
      obtain ⟨hm17_F, hm17_a, hm17_0, hm17_1, hm17_2, hm17_3, hm17_5, hm17_6, hm17_12, hm17_15, hm17_16, hm17_17, hm17_18, hm17_19, hm17_20, hm17_26, hm17_28, hm17_29, -⟩ := hm17_o
      have e18 : sDay true d n = 3 := by simp [sDay, c25, c46]
      have y19 := ((hV.fr  (fun j9 a9 b9 => f1 j9 (by omega))).fr  (fun j9 a9 b9 => f17 j9 (by omega)))
      have y20 := ((hU.fr  (fun j9 a9 b9 => f1 j9 (by omega))).fr  (fun j9 a9 b9 => f17 j9 (by omega)))
      exact g_iret E Rt dX13_days_54 rfl (by decide) (by decide) (by rw [e18]; exact ⟨rfl, pAm.no (by decide) (⟨_, hm17_a, hm17_0, hm17_1, hm17_2, hm17_3, hm17_5, hm17_6, hm17_12, hm17_15, hm17_16, hm17_17, hm17_18, hm17_19, hm17_20, hm17_26, hm17_28, hm17_29, trivial⟩) y19 y20, fun j9 h9 => (f17 j9 (by omega)).trans (f1 j9 (by omega))⟩)
  · have c25 := zb_0.mp c25
    refine g_aload_n E dX13_days_28 rfl rfl rfl ?_
    refine g_iconst E (v := 2) dX13_days_29 (by decide) rfl ?_
    have hM21 : pMq g1 (.ref mb) 0 tr wh tp fa ac mk [] := ⟨_, h1, rfl, hM_1, hM_2, hM_3, hM_5, hM_6, hM_12, hM_15, hM_16, hM_17, hM_18, hM_19, hM_20, hM_26, hM_28, hM_29, trivial⟩
    refine g_callV (k := 2000) (n9 := 1) (av := [.int 2]) (st := []) E (ct_X13_refused l 2 hM21) gciX13 dX13_days_30 h1 q1846 q1848 qs52 q135 q1849 (by decide +kernel) rfl rfl ⟨by decide, by decide⟩ ⟨by decide, by decide⟩ (Nat.le_of_ble_eq_true rfl) rfl (gPi.k (fun g22 h22 => ?_))
    obtain ⟨hm22, f22⟩ := h22
    have hm22_o := hm22
    obtain ⟨hm22_F, hm22_a, hm22_0, hm22_1, hm22_2, hm22_3, hm22_5, hm22_6, hm22_12, hm22_15, hm22_16, hm22_17, hm22_18, hm22_19, hm22_20, hm22_26, hm22_28, hm22_29, -⟩ := hm22_o
    have e23 : sDay true d n = 2 := by simp [sDay, c25]
    have y24 := ((hV.fr  (fun j9 a9 b9 => f1 j9 (by omega))).fr  (fun j9 a9 b9 => f22 j9 (by omega)))
    have y25 := ((hU.fr  (fun j9 a9 b9 => f1 j9 (by omega))).fr  (fun j9 a9 b9 => f22 j9 (by omega)))
    exact g_iret E Rt dX13_days_33 rfl (by decide) (by decide) (by rw [e23]; exact ⟨rfl, pAm.no (by decide) (⟨_, hm22_a, hm22_0, hm22_1, hm22_2, hm22_3, hm22_5, hm22_6, hm22_12, hm22_15, hm22_16, hm22_17, hm22_18, hm22_19, hm22_20, hm22_26, hm22_28, hm22_29, trivial⟩) y24 y25, fun j9 h9 => (f22 j9 (by omega)).trans (f1 j9 (by omega))⟩)
set_option maxHeartbeats 1000000 in
theorem ct_X13_days_N (l : Launch) {g : gWM} {th tr wh fa : Int32} {tp ac mk : Nat} (n : Int32) (hM : pMq g .null th tr wh tp fa ac mk []) : gCt l yX13_days cX13_days 2 (some .int) 1 0 0 21 [.ref 2000, .int n] g (gPi (-1) (fun g1 => pMq g1 .null 0 (sDay false 0 n) (-1) tp fa ac mk [] ∧ ∀ j, j ≠ 2000 → g1 j = g j)) := by
  refine gCt.of RX13 (by decide) rfl (lo := [some (.ref 2000), some (.int n)]) 0 rfl (Nat.le_of_ble_eq_true rfl) (fun z E Rt => ?_)
  have hM_o := hM
  obtain ⟨hM_F, hM_a, hM_0, hM_1, hM_2, hM_3, hM_5, hM_6, hM_12, hM_15, hM_16, hM_17, hM_18, hM_19, hM_20, hM_26, hM_28, hM_29, -⟩ := hM_o
  refine g_aload_n E dX13_days_0 rfl rfl rfl ?_
  refine g_iconst E (v := 0) dX13_days_1 (by decide) rfl ?_
  refine g_putf E gciX13 (v := .int 0) dX13_days_2 hM_a 0 rfl (by decide) q1740 (.inl rfl) rfl (fun _ => rfl) (fun _ => rfl) rfl (g_upk (fun g1 h1 f1 => ?_))
  refine g_aload_n E dX13_days_5 rfl rfl rfl ?_
  refine g_getf E gciX13 dX13_days_6 h1 3 rfl (by decide) q1743 (.inl rfl) (.null) (hM_3) rfl ?_
  refine g_ifnonnullN E dX13_days_9 rfl ?_
  refine g_aload_n E dX13_days_12 rfl rfl rfl ?_
  refine g_iconst E (v := 1) dX13_days_13 (by decide) rfl ?_
  have hM2 : pMq g1 .null 0 tr wh tp fa ac mk [] := ⟨_, h1, rfl, hM_1, hM_2, hM_3, hM_5, hM_6, hM_12, hM_15, hM_16, hM_17, hM_18, hM_19, hM_20, hM_26, hM_28, hM_29, trivial⟩
  refine g_callV (k := 2000) (n9 := 1) (av := [.int 1]) (st := []) E (ct_X13_refused l 1 hM2) gciX13 dX13_days_14 h1 q1846 q1848 qs52 q135 q1849 (by decide +kernel) rfl rfl ⟨by decide, by decide⟩ ⟨by decide, by decide⟩ (Nat.le_of_ble_eq_true rfl) rfl (gPi.k (fun g3 h3 => ?_))
  obtain ⟨hm3, f3⟩ := h3
  have hm3_o := hm3
  obtain ⟨hm3_F, hm3_a, hm3_0, hm3_1, hm3_2, hm3_3, hm3_5, hm3_6, hm3_12, hm3_15, hm3_16, hm3_17, hm3_18, hm3_19, hm3_20, hm3_26, hm3_28, hm3_29, -⟩ := hm3_o
  have e4 : sDay false 0 n = 1 := by simp [sDay, qI_z]
  exact g_iret E Rt dX13_days_17 rfl (by decide) (by decide) (by rw [e4]; exact ⟨rfl, ⟨_, hm3_a, hm3_0, hm3_1, hm3_2, hm3_3, hm3_5, hm3_6, hm3_12, hm3_15, hm3_16, hm3_17, hm3_18, hm3_19, hm3_20, hm3_26, hm3_28, hm3_29, trivial⟩, fun j9 h9 => (f3 j9 (by omega)).trans (f1 j9 (by omega))⟩)
set_option maxHeartbeats 1000000 in
theorem ct_X13_undo (l : Launch) {g : gWM} {mb : Nat} {B : gBar} {R : Nat → Int32} {d : Int32} {th tr wh fa : Int32} {tp ac mk : Nat} {U : zHi} (hw : wfB B) (hM : pMq g (.ref mb) th tr wh tp fa ac mk []) (hMb : pMb g mb B) (hV : pRw g 2002 B R d) (h9 : 10000 ≤ mb) (hU : pHi g 2004 288 B U ac) (hac : ac ≤ 16) : gCt l yX13_undo cX13_undo 2 (some .boolean) 2 0 0 42 [.ref 2000] g (gPi (zb (decide (ac ≠ 0))) (fun g1 => pMq g1 (.ref mb) 0 (if ac = 0 then 6 else 0) (-1) tp fa (ac - 1) mk [] ∧ pRw g1 2002 B (if ac = 0 then R else (U (ac - 1)).1) (if ac = 0 then d else (U (ac - 1)).2) ∧ ∀ j, (j ≠ 2000 ∧ j ≠ 2002) → g1 j = g j)) := by
  refine gCt.of RX13 (by decide) rfl (lo := [some (.ref 2000), none]) 1 rfl (Nat.le_of_ble_eq_true rfl) (fun z E Rt => ?_)
  have hw_n := hw.1
  have hM_o := hM
  obtain ⟨hM_F, hM_a, hM_0, hM_1, hM_2, hM_3, hM_5, hM_6, hM_12, hM_15, hM_16, hM_17, hM_18, hM_19, hM_20, hM_26, hM_28, hM_29, -⟩ := hM_o
  have hMb_o := hMb
  obtain ⟨⟨hMb_F, hMb_a, hMb_0, hMb_1, hMb_2, hMb_3, hMb_4, hMb_5, hMb_6, hMb_7, hMb_8, hMb_9, hMb_11, hMb_12, hMb_13, hMb_14, hMb_15, hMb_16, hMb_17, hMb_18, hMb_19, hMb_20, hMb_21, hMb_22, hMb_23, hMb_24, hMb_25, hMb_26, hMb_27, hMb_28, hMb_29, hMb_30, hMb_31⟩, ⟨hMb_f1, hMb_a1, hMb_b1⟩, ⟨hMb_f2, hMb_a2, hMb_b2⟩, ⟨hMb_f3, hMb_a3, hMb_b3⟩, ⟨hMb_f4, hMb_a4, hMb_b4⟩, ⟨hMb_f5, hMb_a5, hMb_b5⟩, ⟨hMb_f6, hMb_a6, hMb_b6⟩, ⟨hMb_f7, hMb_a7, hMb_b7⟩, ⟨hMb_f8, hMb_a8, hMb_b8⟩, ⟨hMb_f9, hMb_a9, hMb_b9⟩, ⟨hMb_f10, hMb_a10, hMb_b10⟩, ⟨hMb_f11, hMb_a11, hMb_b11⟩, ⟨hMb_f12, hMb_a12, hMb_b12⟩, ⟨hMb_f13, hMb_a13, hMb_b13⟩, ⟨hMb_f14, hMb_a14, hMb_b14⟩, ⟨hMb_f15, hMb_a15, hMb_b15⟩, ⟨hMb_f16, hMb_a16, hMb_b16⟩, ⟨hMb_f17, hMb_a17, hMb_b17⟩, ⟨hMb_f18, hMb_a18, hMb_b18⟩, ⟨hMb_f19, hMb_a19, hMb_b19⟩, ⟨hMb_f20, hMb_a20, hMb_b20⟩, ⟨hMb_f21, hMb_a21, hMb_b21⟩⟩ := hMb_o
  have hV_o := hV
  obtain ⟨hV_f, hV_a, hV_r, hV_d⟩ := hV_o
  have hU_o := hU
  obtain ⟨hU_f, hU_a, hU_h⟩ := hU_o
  refine g_aload_n E dX13_undo_0 rfl rfl rfl ?_
  refine g_iconst E (v := 0) dX13_undo_1 (by decide) rfl ?_
  refine g_putf E gciX13 (v := .int 0) dX13_undo_2 hM_a 0 rfl (by decide) q1740 (.inl rfl) rfl (fun _ => rfl) (fun _ => rfl) rfl (g_upk (fun g1 h1 f1 => ?_))
  refine g_aload_n E dX13_undo_5 rfl rfl rfl ?_
  refine g_getf E gciX13 dX13_undo_6 h1 3 rfl (by decide) q1743 (.inl rfl) (.ref mb) (hM_3) rfl ?_
  refine g_ifnullN E dX13_undo_9 rfl ?_
  refine g_aload_n E dX13_undo_12 rfl rfl rfl ?_
  refine g_getf E gciX13 dX13_undo_13 h1 19 rfl (by decide) q1759 (.inl rfl) (.int (nI ac)) (hM_19) rfl ?_
  refine g_if_ne E dX13_undo_16 (tgt := 26) (by decide) rfl (fun c16 => ?_) (fun c16 => ?_)
  · have c16 := mt (nI_eq (a := ac) (b := 0) (by omega) (by omega)).mpr c16
    refine g_aload_n E dX13_undo_26 rfl rfl rfl ?_
    refine g_dup E dX13_undo_27 rfl rfl ?_
    refine g_getf E gciX13 dX13_undo_28 h1 19 rfl (by decide) q1759 (.inl rfl) (.int (nI ac)) (hM_19) rfl ?_
    refine g_iconst E (v := 1) dX13_undo_31 (by decide) rfl ?_
    refine g_isub E dX13_undo_32 rfl ?_
    refine g_as (y := nI (ac - 1)) (by rw [show ac = ac - 1 + 1 by omega, nI_succ, Int32.add_sub_cancel]; simp) ?_
    refine g_putf E gciX13 (v := .int (nI (ac - 1))) dX13_undo_33 h1 19 rfl (by decide) q1759 (.inl rfl) rfl (fun _ => rfl) (fun _ => rfl) rfl (g_upk (fun g2 h2 f2 => ?_))
    refine g_iconst E (v := 0) dX13_undo_36 (by decide) rfl ?_
    refine g_istore_n E dX13_undo_37 rfl (by decide) rfl (lo1 := [some (.ref 2000), some (.int 0)]) rfl rfl ?_
    have lp38 : ∀ (r9 : Nat) (k : Nat) (gw : gWM), (k ≤ 18) → (18 - k < r9) → (pMq gw (.ref mb) 0 tr wh tp fa (ac - 1) mk []) → (pIa gw 2002 18 k (fun i => hU_f (18 * (ac - 1) + i))) → (∀ j, (j ≠ 2000 ∧ j ≠ 2002) → gw j = g j) → gV z gw 0 0 38 [some (.ref 2000), some (.int (nI k))] [] := by
      intro r9
      induction r9 with
      | zero => intro k gw hk hm hMw hSw hfw; exact absurd hm (Nat.not_lt_zero _)
      | succ r9 ih38 =>
        intro k gw hk hm hMw hSw hfw
        have hMw_o := hMw
        obtain ⟨hMw_F, hMw_a, hMw_0, hMw_1, hMw_2, hMw_3, hMw_5, hMw_6, hMw_12, hMw_15, hMw_16, hMw_17, hMw_18, hMw_19, hMw_20, hMw_26, hMw_28, hMw_29, -⟩ := hMw_o
        obtain ⟨hSw_f, hSw_a, hSw_r⟩ := hSw
        refine g_iload_n E dX13_undo_38 rfl rfl rfl ?_
        refine g_bipush E (v := 18) dX13_undo_39 (by decide) rfl ?_
        refine g_icmp_ge E dX13_undo_41 (tgt := 70) (by decide) rfl (fun c41 => ?_) (fun c41 => ?_)
        · have c41 := (nI_leI (a := 18) (b := k) (by omega) (by omega)).mp c41
          obtain rfl : k = 18 := by omega
          refine g_aload_n E dX13_undo_70 rfl rfl rfl ?_
          have hM3 : pMq gw (.ref mb) 0 tr wh tp fa (ac - 1) mk [] := ⟨_, hMw_a, hMw_0, hMw_1, hMw_2, hMw_3, hMw_5, hMw_6, hMw_12, hMw_15, hMw_16, hMw_17, hMw_18, hMw_19, hMw_20, hMw_26, hMw_28, hMw_29, trivial⟩
          refine g_callV (k := 2000) (n9 := 0) (av := []) (st := []) E (ct_X13_granted l hM3) gciX13 dX13_undo_71 hMw_a q2504 q2506 qs118 q135 q2507 (by decide +kernel) rfl rfl ⟨by decide, by decide⟩ ⟨by decide, by decide⟩ (Nat.le_of_ble_eq_true rfl) rfl (gPi.k (fun g4 h4 => ?_))
          obtain ⟨hm4, f4⟩ := h4
          have hm4_o := hm4
          obtain ⟨hm4_F, hm4_a, hm4_0, hm4_1, hm4_2, hm4_3, hm4_5, hm4_6, hm4_12, hm4_15, hm4_16, hm4_17, hm4_18, hm4_19, hm4_20, hm4_26, hm4_28, hm4_29, -⟩ := hm4_o
          have e5 : ¬ ac = 0 := by omega
          have x6 := (f4 (2002) (by omega)).trans (hSw_a)
          have e5d : decide (ac ≠ 0) = true := by simp [e5]
          have e5r : pRw g4 2002 B (if ac = 0 then R else (U (ac - 1)).1) (if ac = 0 then d else (U (ac - 1)).2) := by rw [if_neg e5, if_neg e5]; exact ⟨_, x6, pHi.row (k := 2004) (sz := 288) (g := g) (e := hSw_f) hU_h (by omega) hSw_r hw⟩
          have e5m : pMq g4 (.ref mb) 0 (if ac = 0 then 6 else 0) (-1) tp fa (ac - 1) mk [] := by rw [if_neg e5]; exact ⟨_, hm4_a, hm4_0, hm4_1, hm4_2, hm4_3, hm4_5, hm4_6, hm4_12, hm4_15, hm4_16, hm4_17, hm4_18, hm4_19, hm4_20, hm4_26, hm4_28, hm4_29, trivial⟩
          exact g_zret E Rt dX13_undo_74 rfl (by decide) (by decide) (by decide) (by rw [e5d]; exact ⟨rfl, e5m, e5r, fun j9 h9 => (f4 j9 (by omega)).trans (hfw j9 (by omega))⟩)
        · have c41 := mt (nI_leI (a := 18) (b := k) (by omega) (by omega)).mpr c41
          refine g_aload_n E dX13_undo_44 rfl rfl rfl ?_
          refine g_getf E gciX13 dX13_undo_45 hMw_a 15 rfl (by decide) q1755 (.inl rfl) (.ref 2002) (hMw_15) rfl ?_
          refine g_iload_n E dX13_undo_48 rfl rfl rfl ?_
          refine g_aload_n E dX13_undo_49 rfl rfl rfl ?_
          refine g_getf E gciX13 dX13_undo_50 hMw_a 17 rfl (by decide) q1757 (.inl rfl) (.ref 2004) (hMw_17) rfl ?_
          refine g_bipush E (v := 18) dX13_undo_53 (by decide) rfl ?_
          refine g_aload_n E dX13_undo_55 rfl rfl rfl ?_
          refine g_getf E gciX13 dX13_undo_56 hMw_a 19 rfl (by decide) q1759 (.inl rfl) (.int (nI (ac - 1))) (hMw_19) rfl ?_
          refine g_imul E dX13_undo_59 rfl ?_
          refine g_as (y := nI (18 * (ac - 1))) (pk_mul 18 _) ?_
          refine g_iload_n E dX13_undo_60 rfl rfl rfl ?_
          refine g_iadd E dX13_undo_61 rfl ?_
          refine g_as (y := nI (18 * (ac - 1) + k)) (nI_add _ _) ?_
          have x7 := (hfw (2004) (by omega)).trans (hU_a)
          refine g_iald E dX13_undo_62 (j := 18 * (ac - 1) + k) x7 (rfl) (by omega) (by decide) (v := hU_f (18 * (ac - 1) + k)) (rfl) rfl ?_
          refine g_iast E dX13_undo_63 (j := k) hSw_a (rfl) (by omega) (by decide) rfl (g_upk (fun g8 h8 f8 => ?_))
          refine g_iinc E dX13_undo_64 rfl (v := nI (k + 1)) (nI_c _) (by decide) rfl (lo1 := [some (.ref 2000), some (.int (nI (k + 1)))]) rfl rfl ?_
          refine g_goto E dX13_undo_67 (tgt := 38) (by decide) ?_
          have x9 := (f8 (2000) (by omega)).trans (hMw_a)
          exact ih38 (k + 1) g8 (by omega) (by omega) (⟨_, x9, hMw_0, hMw_1, hMw_2, hMw_3, hMw_5, hMw_6, hMw_12, hMw_15, hMw_16, hMw_17, hMw_18, hMw_19, hMw_20, hMw_26, hMw_28, hMw_29, trivial⟩) ⟨_, h8, updE (e := fun i => hU_f (18 * (ac - 1) + i)) hSw_r⟩ (fun j9 h9 => (f8 j9 (by omega)).trans (hfw j9 (by omega)))
    have x10 := (f2 (2002) (by omega)).trans ((f1 (2002) (by omega)).trans (hV_a))
    exact lp38 (18 + 1) 0 g2 (by decide) (by decide) (⟨_, h2, rfl, hM_1, hM_2, hM_3, hM_5, hM_6, hM_12, hM_15, hM_16, hM_17, hM_18, rfl, hM_20, hM_26, hM_28, hM_29, trivial⟩) ⟨_, x10, fun i9 h9 => absurd h9 (Nat.not_lt_zero i9)⟩ (fun j9 h9 => (f2 j9 (by omega)).trans (f1 j9 (by omega)))
  · have c16 := (nI_eq (a := ac) (b := 0) (by omega) (by omega)).mp c16
    refine g_aload_n E dX13_undo_19 rfl rfl rfl ?_
    refine g_bipush E (v := 6) dX13_undo_20 (by decide) rfl ?_
    have hM11 : pMq g1 (.ref mb) 0 tr wh tp fa ac mk [] := ⟨_, h1, rfl, hM_1, hM_2, hM_3, hM_5, hM_6, hM_12, hM_15, hM_16, hM_17, hM_18, hM_19, hM_20, hM_26, hM_28, hM_29, trivial⟩
    refine g_callV (k := 2000) (n9 := 1) (av := [.int 6]) (st := []) E (ct_X13_denied l 6 hM11) gciX13 dX13_undo_22 h1 q2496 q2498 qs116 q135 q2499 (by decide +kernel) rfl rfl ⟨by decide, by decide⟩ ⟨by decide, by decide⟩ (Nat.le_of_ble_eq_true rfl) rfl (gPi.k (fun g12 h12 => ?_))
    obtain ⟨hm12, f12⟩ := h12
    have hm12_o := hm12
    obtain ⟨hm12_F, hm12_a, hm12_0, hm12_1, hm12_2, hm12_3, hm12_5, hm12_6, hm12_12, hm12_15, hm12_16, hm12_17, hm12_18, hm12_19, hm12_20, hm12_26, hm12_28, hm12_29, -⟩ := hm12_o
    have e13 : ac = 0 := by omega
    have y14 := ((hV.fr  (fun j9 a9 b9 => f1 j9 (by omega))).fr  (fun j9 a9 b9 => f12 j9 (by omega)))
    have e13d : decide (ac ≠ 0) = false := by simp [e13]
    have e13r : pRw g12 2002 B (if ac = 0 then R else (U (ac - 1)).1) (if ac = 0 then d else (U (ac - 1)).2) := by rw [if_pos e13, if_pos e13]; exact y14
    have e13m : pMq g12 (.ref mb) 0 (if ac = 0 then 6 else 0) (-1) tp fa (ac - 1) mk [] := by rw [if_pos e13, show ac - 1 = ac by omega]; exact ⟨_, hm12_a, hm12_0, hm12_1, hm12_2, hm12_3, hm12_5, hm12_6, hm12_12, hm12_15, hm12_16, hm12_17, hm12_18, hm12_19, hm12_20, hm12_26, hm12_28, hm12_29, trivial⟩
    exact g_zret E Rt dX13_undo_25 rfl (by decide) (by decide) (by decide) (by rw [e13d]; exact ⟨rfl, e13m, e13r, fun j9 h9 => (f12 j9 (by omega)).trans (f1 j9 (by omega))⟩)
set_option maxHeartbeats 1000000 in
theorem ct_X13_undo_N (l : Launch) {g : gWM} {th tr wh fa : Int32} {tp ac mk : Nat}  (hM : pMq g .null th tr wh tp fa ac mk []) : gCt l yX13_undo cX13_undo 2 (some .boolean) 2 0 0 42 [.ref 2000] g (gPi 0 (fun g1 => pMq g1 .null 0 6 (-1) tp fa ac mk [] ∧ ∀ j, j ≠ 2000 → g1 j = g j)) := by
  refine gCt.of RX13 (by decide) rfl (lo := [some (.ref 2000), none]) 1 rfl (Nat.le_of_ble_eq_true rfl) (fun z E Rt => ?_)
  have hM_o := hM
  obtain ⟨hM_F, hM_a, hM_0, hM_1, hM_2, hM_3, hM_5, hM_6, hM_12, hM_15, hM_16, hM_17, hM_18, hM_19, hM_20, hM_26, hM_28, hM_29, -⟩ := hM_o
  refine g_aload_n E dX13_undo_0 rfl rfl rfl ?_
  refine g_iconst E (v := 0) dX13_undo_1 (by decide) rfl ?_
  refine g_putf E gciX13 (v := .int 0) dX13_undo_2 hM_a 0 rfl (by decide) q1740 (.inl rfl) rfl (fun _ => rfl) (fun _ => rfl) rfl (g_upk (fun g1 h1 f1 => ?_))
  refine g_aload_n E dX13_undo_5 rfl rfl rfl ?_
  refine g_getf E gciX13 dX13_undo_6 h1 3 rfl (by decide) q1743 (.inl rfl) (.null) (hM_3) rfl ?_
  refine g_ifnullY E dX13_undo_9 (tgt := 19) (by decide) ?_
  refine g_aload_n E dX13_undo_19 rfl rfl rfl ?_
  refine g_bipush E (v := 6) dX13_undo_20 (by decide) rfl ?_
  have hM2 : pMq g1 .null 0 tr wh tp fa ac mk [] := ⟨_, h1, rfl, hM_1, hM_2, hM_3, hM_5, hM_6, hM_12, hM_15, hM_16, hM_17, hM_18, hM_19, hM_20, hM_26, hM_28, hM_29, trivial⟩
  refine g_callV (k := 2000) (n9 := 1) (av := [.int 6]) (st := []) E (ct_X13_denied l 6 hM2) gciX13 dX13_undo_22 h1 q2496 q2498 qs116 q135 q2499 (by decide +kernel) rfl rfl ⟨by decide, by decide⟩ ⟨by decide, by decide⟩ (Nat.le_of_ble_eq_true rfl) rfl (gPi.k (fun g3 h3 => ?_))
  obtain ⟨hm3, f3⟩ := h3
  have hm3_o := hm3
  obtain ⟨hm3_F, hm3_a, hm3_0, hm3_1, hm3_2, hm3_3, hm3_5, hm3_6, hm3_12, hm3_15, hm3_16, hm3_17, hm3_18, hm3_19, hm3_20, hm3_26, hm3_28, hm3_29, -⟩ := hm3_o
  exact g_zret E Rt dX13_undo_25 rfl (by decide) (by decide) (by decide) (⟨rfl, ⟨_, hm3_a, hm3_0, hm3_1, hm3_2, hm3_3, hm3_5, hm3_6, hm3_12, hm3_15, hm3_16, hm3_17, hm3_18, hm3_19, hm3_20, hm3_26, hm3_28, hm3_29, trivial⟩, fun j9 h9 => (f3 j9 (by omega)).trans (f1 j9 (by omega))⟩)
set_option maxHeartbeats 1000000 in
theorem ct_X13_mark (l : Launch) {g : gWM} {mb : Nat} {B : gBar} {R : Nat → Int32} {d : Int32} {th tr wh fa : Int32} {tp ac mk : Nat} {M : zHi} (hw : wfB B) (hM : pMq g (.ref mb) th tr wh tp fa ac mk []) (hMb : pMb g mb B) (hV : pRw g 2002 B R d) (h9 : 10000 ≤ mb) (hK : pHi g 2005 54 B M mk) (hmm : mk ≤ 3) : gCt l yX13_mark cX13_mark 2 (some .int) 1 0 0 21 [.ref 2000] g (gPi (if mk = 3 then -1 else nI mk) (fun g1 => pMq g1 (.ref mb) 0 (if mk = 3 then 3 else 0) (-1) tp fa ac (if mk = 3 then mk else mk + 1) [] ∧ pHi g1 2005 54 B (if mk = 3 then M else fun k => if k = mk then (R, d) else M k) (if mk = 3 then mk else mk + 1) ∧ ∀ j, (j ≠ 2000 ∧ j ≠ 2005) → g1 j = g j)) := by
  refine gCt.of RX13 (by decide) rfl (lo := [some (.ref 2000), none]) 1 rfl (Nat.le_of_ble_eq_true rfl) (fun z E Rt => ?_)
  have hw_n := hw.1
  have hM_o := hM
  obtain ⟨hM_F, hM_a, hM_0, hM_1, hM_2, hM_3, hM_5, hM_6, hM_12, hM_15, hM_16, hM_17, hM_18, hM_19, hM_20, hM_26, hM_28, hM_29, -⟩ := hM_o
  have hMb_o := hMb
  obtain ⟨⟨hMb_F, hMb_a, hMb_0, hMb_1, hMb_2, hMb_3, hMb_4, hMb_5, hMb_6, hMb_7, hMb_8, hMb_9, hMb_11, hMb_12, hMb_13, hMb_14, hMb_15, hMb_16, hMb_17, hMb_18, hMb_19, hMb_20, hMb_21, hMb_22, hMb_23, hMb_24, hMb_25, hMb_26, hMb_27, hMb_28, hMb_29, hMb_30, hMb_31⟩, ⟨hMb_f1, hMb_a1, hMb_b1⟩, ⟨hMb_f2, hMb_a2, hMb_b2⟩, ⟨hMb_f3, hMb_a3, hMb_b3⟩, ⟨hMb_f4, hMb_a4, hMb_b4⟩, ⟨hMb_f5, hMb_a5, hMb_b5⟩, ⟨hMb_f6, hMb_a6, hMb_b6⟩, ⟨hMb_f7, hMb_a7, hMb_b7⟩, ⟨hMb_f8, hMb_a8, hMb_b8⟩, ⟨hMb_f9, hMb_a9, hMb_b9⟩, ⟨hMb_f10, hMb_a10, hMb_b10⟩, ⟨hMb_f11, hMb_a11, hMb_b11⟩, ⟨hMb_f12, hMb_a12, hMb_b12⟩, ⟨hMb_f13, hMb_a13, hMb_b13⟩, ⟨hMb_f14, hMb_a14, hMb_b14⟩, ⟨hMb_f15, hMb_a15, hMb_b15⟩, ⟨hMb_f16, hMb_a16, hMb_b16⟩, ⟨hMb_f17, hMb_a17, hMb_b17⟩, ⟨hMb_f18, hMb_a18, hMb_b18⟩, ⟨hMb_f19, hMb_a19, hMb_b19⟩, ⟨hMb_f20, hMb_a20, hMb_b20⟩, ⟨hMb_f21, hMb_a21, hMb_b21⟩⟩ := hMb_o
  have hV_o := hV
  obtain ⟨hV_f, hV_a, hV_r, hV_d⟩ := hV_o
  have hK_o := hK
  obtain ⟨hK_f, hK_a, hK_h⟩ := hK_o
  refine g_aload_n E dX13_mark_0 rfl rfl rfl ?_
  refine g_iconst E (v := 0) dX13_mark_1 (by decide) rfl ?_
  refine g_putf E gciX13 (v := .int 0) dX13_mark_2 hM_a 0 rfl (by decide) q1740 (.inl rfl) rfl (fun _ => rfl) (fun _ => rfl) rfl (g_upk (fun g1 h1 f1 => ?_))
  refine g_aload_n E dX13_mark_5 rfl rfl rfl ?_
  refine g_getf E gciX13 dX13_mark_6 h1 3 rfl (by decide) q1743 (.inl rfl) (.ref mb) (hM_3) rfl ?_
  refine g_ifnonnullY E dX13_mark_9 (tgt := 18) (by decide) ?_
  refine g_aload_n E dX13_mark_18 rfl rfl rfl ?_
  refine g_getf E gciX13 dX13_mark_19 h1 20 rfl (by decide) q1760 (.inl rfl) (.int (nI mk)) (hM_20) rfl ?_
  refine g_iconst E (v := 3) dX13_mark_22 (by decide) rfl ?_
  refine g_icmp_ne E dX13_mark_23 (tgt := 32) (by decide) rfl (fun c23 => ?_) (fun c23 => ?_)
  · have c23 := mt (nI_eq (a := mk) (b := 3) (by omega) (by omega)).mpr c23
    refine g_iconst E (v := 0) dX13_mark_32 (by decide) rfl ?_
    refine g_istore_n E dX13_mark_33 rfl (by decide) rfl (lo1 := [some (.ref 2000), some (.int 0)]) rfl rfl ?_
    have lp34 : ∀ (r9 : Nat) (k : Nat) (gw : gWM), (k ≤ 18) → (18 - k < r9) → (pMq gw (.ref mb) 0 tr wh tp fa ac mk []) → (pIa gw 2005 54 54 (zCpd hK_f hV_f (18 * mk) k)) → (∀ j, (j ≠ 2000 ∧ j ≠ 2005) → gw j = g j) → gV z gw 0 0 34 [some (.ref 2000), some (.int (nI k))] [] := by
      intro r9
      induction r9 with
      | zero => intro k gw hk hm hMw hSw hfw; exact absurd hm (Nat.not_lt_zero _)
      | succ r9 ih34 =>
        intro k gw hk hm hMw hSw hfw
        have hMw_o := hMw
        obtain ⟨hMw_F, hMw_a, hMw_0, hMw_1, hMw_2, hMw_3, hMw_5, hMw_6, hMw_12, hMw_15, hMw_16, hMw_17, hMw_18, hMw_19, hMw_20, hMw_26, hMw_28, hMw_29, -⟩ := hMw_o
        obtain ⟨hSw_f, hSw_a, hSw_r⟩ := hSw
        refine g_iload_n E dX13_mark_34 rfl rfl rfl ?_
        refine g_bipush E (v := 18) dX13_mark_35 (by decide) rfl ?_
        refine g_icmp_ge E dX13_mark_37 (tgt := 66) (by decide) rfl (fun c37 => ?_) (fun c37 => ?_)
        · have c37 := (nI_leI (a := 18) (b := k) (by omega) (by omega)).mp c37
          obtain rfl : k = 18 := by omega
          refine g_aload_n E dX13_mark_66 rfl rfl rfl ?_
          refine g_dup E dX13_mark_67 rfl rfl ?_
          refine g_getf E gciX13 dX13_mark_68 hMw_a 20 rfl (by decide) q1760 (.inl rfl) (.int (nI mk)) (hMw_20) rfl ?_
          refine g_iconst E (v := 1) dX13_mark_71 (by decide) rfl ?_
          refine g_iadd E dX13_mark_72 rfl ?_
          refine g_as (y := nI (mk + 1)) ((nI_succ mk).symm) ?_
          refine g_putf E gciX13 (v := .int (nI (mk + 1))) dX13_mark_73 hMw_a 20 rfl (by decide) q1760 (.inl rfl) rfl (fun _ => rfl) (fun _ => rfl) rfl (g_upk (fun g2 h2 f2 => ?_))
          refine g_aload_n E dX13_mark_76 rfl rfl rfl ?_
          refine g_aload_n E dX13_mark_77 rfl rfl rfl ?_
          refine g_getf E gciX13 dX13_mark_78 h2 20 rfl (by decide) q1760 (.inl rfl) (.int (nI (mk + 1))) (rfl) rfl ?_
          refine g_iconst E (v := 1) dX13_mark_81 (by decide) rfl ?_
          refine g_isub E dX13_mark_82 rfl ?_
          refine g_as (y := nI mk) (by rw [nI_succ, Int32.add_sub_cancel]) ?_
          have hM3 : pMq g2 (.ref mb) 0 tr wh tp fa ac (mk + 1) [] := ⟨_, h2, hMw_0, hMw_1, hMw_2, hMw_3, hMw_5, hMw_6, hMw_12, hMw_15, hMw_16, hMw_17, hMw_18, hMw_19, rfl, hMw_26, hMw_28, hMw_29, trivial⟩
          refine g_callV (k := 2000) (n9 := 1) (av := [.int (nI mk)]) (st := []) E (ct_X13_fine l (nI mk) hM3) gciX13 dX13_mark_83 h2 q2181 q2183 qs80 q135 q2184 (by decide +kernel) rfl rfl ⟨by decide, by decide⟩ ⟨by decide, by decide⟩ (Nat.le_of_ble_eq_true rfl) rfl (gPi.k (fun g4 h4 => ?_))
          obtain ⟨hm4, f4⟩ := h4
          have hm4_o := hm4
          obtain ⟨hm4_F, hm4_a, hm4_0, hm4_1, hm4_2, hm4_3, hm4_5, hm4_6, hm4_12, hm4_15, hm4_16, hm4_17, hm4_18, hm4_19, hm4_20, hm4_26, hm4_28, hm4_29, -⟩ := hm4_o
          have hh9 := pHi.put (f1 := hK_f) (R := R) (d := d) (sz := 54) hw hK_h ⟨hV_r, hV_d⟩ hSw_r (by omega)
          have x5 := (f4 (2005) (by omega)).trans ((f2 (2005) (by omega)).trans (hSw_a))
          exact g_iret E Rt dX13_mark_86 rfl (by decide) (by decide) (by rw [if_neg c23, if_neg c23, if_neg c23, if_neg c23]; exact ⟨rfl, ⟨_, hm4_a, hm4_0, hm4_1, hm4_2, hm4_3, hm4_5, hm4_6, hm4_12, hm4_15, hm4_16, hm4_17, hm4_18, hm4_19, hm4_20, hm4_26, hm4_28, hm4_29, trivial⟩, ⟨_, x5, hh9⟩, fun j9 h9 => ((f4 j9 (by omega)).trans (f2 j9 (by omega))).trans (hfw j9 (by omega))⟩)
        · have c37 := mt (nI_leI (a := 18) (b := k) (by omega) (by omega)).mpr c37
          refine g_aload_n E dX13_mark_40 rfl rfl rfl ?_
          refine g_getf E gciX13 dX13_mark_41 hMw_a 18 rfl (by decide) q1758 (.inl rfl) (.ref 2005) (hMw_18) rfl ?_
          refine g_bipush E (v := 18) dX13_mark_44 (by decide) rfl ?_
          refine g_aload_n E dX13_mark_46 rfl rfl rfl ?_
          refine g_getf E gciX13 dX13_mark_47 hMw_a 20 rfl (by decide) q1760 (.inl rfl) (.int (nI mk)) (hMw_20) rfl ?_
          refine g_imul E dX13_mark_50 rfl ?_
          refine g_as (y := nI (18 * mk)) (pk_mul 18 _) ?_
          refine g_iload_n E dX13_mark_51 rfl rfl rfl ?_
          refine g_iadd E dX13_mark_52 rfl ?_
          refine g_as (y := nI (18 * mk + k)) (nI_add _ _) ?_
          refine g_aload_n E dX13_mark_53 rfl rfl rfl ?_
          refine g_getf E gciX13 dX13_mark_54 hMw_a 15 rfl (by decide) q1755 (.inl rfl) (.ref 2002) (hMw_15) rfl ?_
          refine g_iload_n E dX13_mark_57 rfl rfl rfl ?_
          have x6 := (hfw (2002) (by omega)).trans (hV_a)
          refine g_iald E dX13_mark_58 (j := k) x6 (rfl) (by omega) (by decide) (v := hV_f k) (rfl) rfl ?_
          refine g_iast E dX13_mark_59 (j := 18 * mk + k) hSw_a (rfl) (by omega) (by decide) rfl (g_upk (fun g7 h7 f7 => ?_))
          refine g_iinc E dX13_mark_60 rfl (v := nI (k + 1)) (nI_c _) (by decide) rfl (lo1 := [some (.ref 2000), some (.int (nI (k + 1)))]) rfl rfl ?_
          refine g_goto E dX13_mark_63 (tgt := 34) (by decide) ?_
          have x8 := (f7 (2000) (by omega)).trans (hMw_a)
          exact ih34 (k + 1) g7 (by omega) (by omega) (⟨_, x8, hMw_0, hMw_1, hMw_2, hMw_3, hMw_5, hMw_6, hMw_12, hMw_15, hMw_16, hMw_17, hMw_18, hMw_19, hMw_20, hMw_26, hMw_28, hMw_29, trivial⟩) ⟨_, h7, zCpd_s hSw_r⟩ (fun j9 h9 => (f7 j9 (by omega)).trans (hfw j9 (by omega)))
    have x9 := (f1 (2005) (by omega)).trans (hK_a)
    exact lp34 (18 + 1) 0 g1 (by decide) (by decide) (⟨_, h1, rfl, hM_1, hM_2, hM_3, hM_5, hM_6, hM_12, hM_15, hM_16, hM_17, hM_18, hM_19, hM_20, hM_26, hM_28, hM_29, trivial⟩) ⟨_, x9, fun i9 h9 => zCpd_0⟩ (fun j9 h9 => f1 j9 (by omega))
  · have c23 := (nI_eq (a := mk) (b := 3) (by omega) (by omega)).mp c23
    refine g_aload_n E dX13_mark_26 rfl rfl rfl ?_
    refine g_iconst E (v := 3) dX13_mark_27 (by decide) rfl ?_
    have hM10 : pMq g1 (.ref mb) 0 tr wh tp fa ac mk [] := ⟨_, h1, rfl, hM_1, hM_2, hM_3, hM_5, hM_6, hM_12, hM_15, hM_16, hM_17, hM_18, hM_19, hM_20, hM_26, hM_28, hM_29, trivial⟩
    refine g_callV (k := 2000) (n9 := 1) (av := [.int 3]) (st := []) E (ct_X13_refused l 3 hM10) gciX13 dX13_mark_28 h1 q1846 q1848 qs52 q135 q1849 (by decide +kernel) rfl rfl ⟨by decide, by decide⟩ ⟨by decide, by decide⟩ (Nat.le_of_ble_eq_true rfl) rfl (gPi.k (fun g11 h11 => ?_))
    obtain ⟨hm11, f11⟩ := h11
    have hm11_o := hm11
    obtain ⟨hm11_F, hm11_a, hm11_0, hm11_1, hm11_2, hm11_3, hm11_5, hm11_6, hm11_12, hm11_15, hm11_16, hm11_17, hm11_18, hm11_19, hm11_20, hm11_26, hm11_28, hm11_29, -⟩ := hm11_o
    have y12 := ((hK.fr  (fun j9 a9 b9 => f1 j9 (by omega))).fr  (fun j9 a9 b9 => f11 j9 (by omega)))
    exact g_iret E Rt dX13_mark_31 rfl (by decide) (by decide) (by rw [if_pos c23, if_pos c23, if_pos c23, if_pos c23]; exact ⟨rfl, ⟨_, hm11_a, hm11_0, hm11_1, hm11_2, hm11_3, hm11_5, hm11_6, hm11_12, hm11_15, hm11_16, hm11_17, hm11_18, hm11_19, hm11_20, hm11_26, hm11_28, hm11_29, trivial⟩, y12, fun j9 h9 => (f11 j9 (by omega)).trans (f1 j9 (by omega))⟩)
set_option maxHeartbeats 1000000 in
theorem ct_X13_mark_N (l : Launch) {g : gWM} {th tr wh fa : Int32} {tp ac mk : Nat}  (hM : pMq g .null th tr wh tp fa ac mk []) : gCt l yX13_mark cX13_mark 2 (some .int) 1 0 0 21 [.ref 2000] g (gPi (-1) (fun g1 => pMq g1 .null 0 1 (-1) tp fa ac mk [] ∧ ∀ j, j ≠ 2000 → g1 j = g j)) := by
  refine gCt.of RX13 (by decide) rfl (lo := [some (.ref 2000), none]) 1 rfl (Nat.le_of_ble_eq_true rfl) (fun z E Rt => ?_)
  have hM_o := hM
  obtain ⟨hM_F, hM_a, hM_0, hM_1, hM_2, hM_3, hM_5, hM_6, hM_12, hM_15, hM_16, hM_17, hM_18, hM_19, hM_20, hM_26, hM_28, hM_29, -⟩ := hM_o
  refine g_aload_n E dX13_mark_0 rfl rfl rfl ?_
  refine g_iconst E (v := 0) dX13_mark_1 (by decide) rfl ?_
  refine g_putf E gciX13 (v := .int 0) dX13_mark_2 hM_a 0 rfl (by decide) q1740 (.inl rfl) rfl (fun _ => rfl) (fun _ => rfl) rfl (g_upk (fun g1 h1 f1 => ?_))
  refine g_aload_n E dX13_mark_5 rfl rfl rfl ?_
  refine g_getf E gciX13 dX13_mark_6 h1 3 rfl (by decide) q1743 (.inl rfl) (.null) (hM_3) rfl ?_
  refine g_ifnonnullN E dX13_mark_9 rfl ?_
  refine g_aload_n E dX13_mark_12 rfl rfl rfl ?_
  refine g_iconst E (v := 1) dX13_mark_13 (by decide) rfl ?_
  have hM2 : pMq g1 .null 0 tr wh tp fa ac mk [] := ⟨_, h1, rfl, hM_1, hM_2, hM_3, hM_5, hM_6, hM_12, hM_15, hM_16, hM_17, hM_18, hM_19, hM_20, hM_26, hM_28, hM_29, trivial⟩
  refine g_callV (k := 2000) (n9 := 1) (av := [.int 1]) (st := []) E (ct_X13_refused l 1 hM2) gciX13 dX13_mark_14 h1 q1846 q1848 qs52 q135 q1849 (by decide +kernel) rfl rfl ⟨by decide, by decide⟩ ⟨by decide, by decide⟩ (Nat.le_of_ble_eq_true rfl) rfl (gPi.k (fun g3 h3 => ?_))
  obtain ⟨hm3, f3⟩ := h3
  have hm3_o := hm3
  obtain ⟨hm3_F, hm3_a, hm3_0, hm3_1, hm3_2, hm3_3, hm3_5, hm3_6, hm3_12, hm3_15, hm3_16, hm3_17, hm3_18, hm3_19, hm3_20, hm3_26, hm3_28, hm3_29, -⟩ := hm3_o
  exact g_iret E Rt dX13_mark_17 rfl (by decide) (by decide) (⟨rfl, ⟨_, hm3_a, hm3_0, hm3_1, hm3_2, hm3_3, hm3_5, hm3_6, hm3_12, hm3_15, hm3_16, hm3_17, hm3_18, hm3_19, hm3_20, hm3_26, hm3_28, hm3_29, trivial⟩, fun j9 h9 => (f3 j9 (by omega)).trans (f1 j9 (by omega))⟩)
set_option maxHeartbeats 1000000 in
theorem ct_X13_back (l : Launch) {g : gWM} {mb : Nat} {B : gBar} {R : Nat → Int32} {d : Int32} {th tr wh fa : Int32} {tp ac mk : Nat} {M : zHi} (p : Int32) (hw : wfB B) (hM : pMq g (.ref mb) th tr wh tp fa ac mk []) (hMb : pMb g mb B) (hV : pRw g 2002 B R d) (h9 : 10000 ≤ mb) (hK : pHi g 2005 54 B M mk) (hmm : mk ≤ 3) : gCt l yX13_back cX13_back 3 (some .boolean) 2 0 0 42 [.ref 2000, .int p] g (gPi (zb (qI mk p).isSome) (fun g1 => pBm g1 mb B tp fa mk ac M R d p ∧ ∀ j, (j ≠ 2000 ∧ j ≠ 2002) → g1 j = g j)) := by
  refine gCt.of RX13 (by decide) rfl (lo := [some (.ref 2000), some (.int p), none]) 1 rfl (Nat.le_of_ble_eq_true rfl) (fun z E Rt => ?_)
  have hw_n := hw.1
  have hM_o := hM
  obtain ⟨hM_F, hM_a, hM_0, hM_1, hM_2, hM_3, hM_5, hM_6, hM_12, hM_15, hM_16, hM_17, hM_18, hM_19, hM_20, hM_26, hM_28, hM_29, -⟩ := hM_o
  have hMb_o := hMb
  obtain ⟨⟨hMb_F, hMb_a, hMb_0, hMb_1, hMb_2, hMb_3, hMb_4, hMb_5, hMb_6, hMb_7, hMb_8, hMb_9, hMb_11, hMb_12, hMb_13, hMb_14, hMb_15, hMb_16, hMb_17, hMb_18, hMb_19, hMb_20, hMb_21, hMb_22, hMb_23, hMb_24, hMb_25, hMb_26, hMb_27, hMb_28, hMb_29, hMb_30, hMb_31⟩, ⟨hMb_f1, hMb_a1, hMb_b1⟩, ⟨hMb_f2, hMb_a2, hMb_b2⟩, ⟨hMb_f3, hMb_a3, hMb_b3⟩, ⟨hMb_f4, hMb_a4, hMb_b4⟩, ⟨hMb_f5, hMb_a5, hMb_b5⟩, ⟨hMb_f6, hMb_a6, hMb_b6⟩, ⟨hMb_f7, hMb_a7, hMb_b7⟩, ⟨hMb_f8, hMb_a8, hMb_b8⟩, ⟨hMb_f9, hMb_a9, hMb_b9⟩, ⟨hMb_f10, hMb_a10, hMb_b10⟩, ⟨hMb_f11, hMb_a11, hMb_b11⟩, ⟨hMb_f12, hMb_a12, hMb_b12⟩, ⟨hMb_f13, hMb_a13, hMb_b13⟩, ⟨hMb_f14, hMb_a14, hMb_b14⟩, ⟨hMb_f15, hMb_a15, hMb_b15⟩, ⟨hMb_f16, hMb_a16, hMb_b16⟩, ⟨hMb_f17, hMb_a17, hMb_b17⟩, ⟨hMb_f18, hMb_a18, hMb_b18⟩, ⟨hMb_f19, hMb_a19, hMb_b19⟩, ⟨hMb_f20, hMb_a20, hMb_b20⟩, ⟨hMb_f21, hMb_a21, hMb_b21⟩⟩ := hMb_o
  have hV_o := hV
  obtain ⟨hV_f, hV_a, hV_r, hV_d⟩ := hV_o
  have hK_o := hK
  obtain ⟨hK_f, hK_a, hK_h⟩ := hK_o
  refine g_aload_n E dX13_back_0 rfl rfl rfl ?_
  refine g_iconst E (v := 0) dX13_back_1 (by decide) rfl ?_
  refine g_putf E gciX13 (v := .int 0) dX13_back_2 hM_a 0 rfl (by decide) q1740 (.inl rfl) rfl (fun _ => rfl) (fun _ => rfl) rfl (g_upk (fun g1 h1 f1 => ?_))
  refine g_aload_n E dX13_back_5 rfl rfl rfl ?_
  refine g_getf E gciX13 dX13_back_6 h1 3 rfl (by decide) q1743 (.inl rfl) (.ref mb) (hM_3) rfl ?_
  refine g_ifnullN E dX13_back_9 rfl ?_
  refine g_iload_n E dX13_back_12 rfl rfl rfl ?_
  refine g_if_lt E dX13_back_13 (tgt := 24) (by decide) rfl (fun c13 => ?_) (fun c13 => ?_)
  · have hq := isNone_of (qI_neg (n := mk) c13)
    refine g_aload_n E dX13_back_24 rfl rfl rfl ?_
    refine g_iconst E (v := 1) dX13_back_25 (by decide) rfl ?_
    have hM2 : pMq g1 (.ref mb) 0 tr wh tp fa ac mk [] := ⟨_, h1, rfl, hM_1, hM_2, hM_3, hM_5, hM_6, hM_12, hM_15, hM_16, hM_17, hM_18, hM_19, hM_20, hM_26, hM_28, hM_29, trivial⟩
    refine g_callV (k := 2000) (n9 := 1) (av := [.int 1]) (st := []) E (ct_X13_denied l 1 hM2) gciX13 dX13_back_26 h1 q2496 q2498 qs116 q135 q2499 (by decide +kernel) rfl rfl ⟨by decide, by decide⟩ ⟨by decide, by decide⟩ (Nat.le_of_ble_eq_true rfl) rfl (gPi.k (fun g3 h3 => ?_))
    obtain ⟨hm3, f3⟩ := h3
    have hm3_o := hm3
    obtain ⟨hm3_F, hm3_a, hm3_0, hm3_1, hm3_2, hm3_3, hm3_5, hm3_6, hm3_12, hm3_15, hm3_16, hm3_17, hm3_18, hm3_19, hm3_20, hm3_26, hm3_28, hm3_29, -⟩ := hm3_o
    have y5 := ((hV.fr  (fun j9 a9 b9 => f1 j9 (by omega))).fr  (fun j9 a9 b9 => f3 j9 (by omega)))
    have e4q : pBm g3 mb B tp fa mk ac M R d p := by unfold pBm; rw [hq]; exact ⟨⟨_, hm3_a, hm3_0, hm3_1, hm3_2, hm3_3, hm3_5, hm3_6, hm3_12, hm3_15, hm3_16, hm3_17, hm3_18, hm3_19, hm3_20, hm3_26, hm3_28, hm3_29, trivial⟩, y5⟩
    exact g_zret E Rt dX13_back_29 rfl (by decide) (by decide) (by decide) (by rw [show (qI mk p).isSome = false by rw [hq]; rfl]; exact ⟨rfl, e4q, fun j9 h9 => (f3 j9 (by omega)).trans (f1 j9 (by omega))⟩)
  · refine g_iload_n E dX13_back_16 rfl rfl rfl ?_
    refine g_aload_n E dX13_back_17 rfl rfl rfl ?_
    refine g_getf E gciX13 dX13_back_18 h1 20 rfl (by decide) q1760 (.inl rfl) (.int (nI mk)) (hM_20) rfl ?_
    refine g_icmp_lt E dX13_back_21 (tgt := 30) (by decide) rfl (fun c21 => ?_) (fun c21 => ?_)
    · have hq9 : (qI mk p).isSome = true := qI_ok (by omega) c13 (Int32.not_le.mpr c21)
      obtain ⟨m, hq⟩ := isSome_of hq9
      obtain ⟨rfl, hql⟩ := qI_some (by omega) hq
      refine g_iconst E (v := 0) dX13_back_30 (by decide) rfl ?_
      refine g_istore_n E dX13_back_31 rfl (by decide) rfl (lo1 := [some (.ref 2000), some (.int (nI m)), some (.int 0)]) rfl rfl ?_
      have lp32 : ∀ (r9 : Nat) (k : Nat) (gw : gWM), (k ≤ 18) → (18 - k < r9) → (pMq gw (.ref mb) 0 tr wh tp fa ac mk []) → (pIa gw 2002 18 k (fun i => hK_f (18 * m + i))) → (∀ j, (j ≠ 2000 ∧ j ≠ 2002) → gw j = g j) → gV z gw 0 0 32 [some (.ref 2000), some (.int (nI m)), some (.int (nI k))] [] := by
        intro r9
        induction r9 with
        | zero => intro k gw hk hm hMw hSw hfw; exact absurd hm (Nat.not_lt_zero _)
        | succ r9 ih32 =>
          intro k gw hk hm hMw hSw hfw
          have hMw_o := hMw
          obtain ⟨hMw_F, hMw_a, hMw_0, hMw_1, hMw_2, hMw_3, hMw_5, hMw_6, hMw_12, hMw_15, hMw_16, hMw_17, hMw_18, hMw_19, hMw_20, hMw_26, hMw_28, hMw_29, -⟩ := hMw_o
          obtain ⟨hSw_f, hSw_a, hSw_r⟩ := hSw
          refine g_iload_n E dX13_back_32 rfl rfl rfl ?_
          refine g_bipush E (v := 18) dX13_back_33 (by decide) rfl ?_
          refine g_icmp_ge E dX13_back_35 (tgt := 61) (by decide) rfl (fun c35 => ?_) (fun c35 => ?_)
          · have c35 := (nI_leI (a := 18) (b := k) (by omega) (by omega)).mp c35
            obtain rfl : k = 18 := by omega
            refine g_aload_n E dX13_back_61 rfl rfl rfl ?_
            refine g_iconst E (v := 0) dX13_back_62 (by decide) rfl ?_
            refine g_putf E gciX13 (v := .int 0) dX13_back_63 hMw_a 19 rfl (by decide) q1759 (.inl rfl) rfl (fun _ => rfl) (fun _ => rfl) rfl (g_upk (fun g6 h6 f6 => ?_))
            refine g_aload_n E dX13_back_66 rfl rfl rfl ?_
            have hM7 : pMq g6 (.ref mb) 0 tr wh tp fa 0 mk [] := ⟨_, h6, hMw_0, hMw_1, hMw_2, hMw_3, hMw_5, hMw_6, hMw_12, hMw_15, hMw_16, hMw_17, hMw_18, rfl, hMw_20, hMw_26, hMw_28, hMw_29, trivial⟩
            refine g_callV (k := 2000) (n9 := 0) (av := []) (st := []) E (ct_X13_granted l hM7) gciX13 dX13_back_67 h6 q2504 q2506 qs118 q135 q2507 (by decide +kernel) rfl rfl ⟨by decide, by decide⟩ ⟨by decide, by decide⟩ (Nat.le_of_ble_eq_true rfl) rfl (gPi.k (fun g8 h8 => ?_))
            obtain ⟨hm8, f8⟩ := h8
            have hm8_o := hm8
            obtain ⟨hm8_F, hm8_a, hm8_0, hm8_1, hm8_2, hm8_3, hm8_5, hm8_6, hm8_12, hm8_15, hm8_16, hm8_17, hm8_18, hm8_19, hm8_20, hm8_26, hm8_28, hm8_29, -⟩ := hm8_o
            have x10 := (f8 (2002) (by omega)).trans ((f6 (2002) (by omega)).trans (hSw_a))
            have e9q : pBm g8 mb B tp fa mk ac M R d (nI m) := by unfold pBm; rw [hq]; exact ⟨⟨_, hm8_a, hm8_0, hm8_1, hm8_2, hm8_3, hm8_5, hm8_6, hm8_12, hm8_15, hm8_16, hm8_17, hm8_18, hm8_19, hm8_20, hm8_26, hm8_28, hm8_29, trivial⟩, ⟨_, x10, pHi.row (k := 2005) (sz := 54) (g := g) (e := hSw_f) hK_h (by omega) hSw_r hw⟩⟩
            exact g_zret E Rt dX13_back_70 rfl (by decide) (by decide) (by decide) (by rw [show (qI mk (nI m)).isSome = true by rw [hq]; rfl]; exact ⟨rfl, e9q, fun j9 h9 => ((f8 j9 (by omega)).trans (f6 j9 (by omega))).trans (hfw j9 (by omega))⟩)
          · have c35 := mt (nI_leI (a := 18) (b := k) (by omega) (by omega)).mpr c35
            refine g_aload_n E dX13_back_38 rfl rfl rfl ?_
            refine g_getf E gciX13 dX13_back_39 hMw_a 15 rfl (by decide) q1755 (.inl rfl) (.ref 2002) (hMw_15) rfl ?_
            refine g_iload_n E dX13_back_42 rfl rfl rfl ?_
            refine g_aload_n E dX13_back_43 rfl rfl rfl ?_
            refine g_getf E gciX13 dX13_back_44 hMw_a 18 rfl (by decide) q1758 (.inl rfl) (.ref 2005) (hMw_18) rfl ?_
            refine g_bipush E (v := 18) dX13_back_47 (by decide) rfl ?_
            refine g_iload_n E dX13_back_49 rfl rfl rfl ?_
            refine g_imul E dX13_back_50 rfl ?_
            refine g_as (y := nI (18 * m)) (pk_mul 18 _) ?_
            refine g_iload_n E dX13_back_51 rfl rfl rfl ?_
            refine g_iadd E dX13_back_52 rfl ?_
            refine g_as (y := nI (18 * m + k)) (nI_add _ _) ?_
            have x11 := (hfw (2005) (by omega)).trans (hK_a)
            refine g_iald E dX13_back_53 (j := 18 * m + k) x11 (rfl) (by omega) (by decide) (v := hK_f (18 * m + k)) (rfl) rfl ?_
            refine g_iast E dX13_back_54 (j := k) hSw_a (rfl) (by omega) (by decide) rfl (g_upk (fun g12 h12 f12 => ?_))
            refine g_iinc E dX13_back_55 rfl (v := nI (k + 1)) (nI_c _) (by decide) rfl (lo1 := [some (.ref 2000), some (.int (nI m)), some (.int (nI (k + 1)))]) rfl rfl ?_
            refine g_goto E dX13_back_58 (tgt := 32) (by decide) ?_
            have x13 := (f12 (2000) (by omega)).trans (hMw_a)
            exact ih32 (k + 1) g12 (by omega) (by omega) (⟨_, x13, hMw_0, hMw_1, hMw_2, hMw_3, hMw_5, hMw_6, hMw_12, hMw_15, hMw_16, hMw_17, hMw_18, hMw_19, hMw_20, hMw_26, hMw_28, hMw_29, trivial⟩) ⟨_, h12, updE (e := fun i => hK_f (18 * m + i)) hSw_r⟩ (fun j9 h9 => (f12 j9 (by omega)).trans (hfw j9 (by omega)))
      have x14 := (f1 (2002) (by omega)).trans (hV_a)
      exact lp32 (18 + 1) 0 g1 (by decide) (by decide) (⟨_, h1, rfl, hM_1, hM_2, hM_3, hM_5, hM_6, hM_12, hM_15, hM_16, hM_17, hM_18, hM_19, hM_20, hM_26, hM_28, hM_29, trivial⟩) ⟨_, x14, fun i9 h9 => absurd h9 (Nat.not_lt_zero i9)⟩ (fun j9 h9 => f1 j9 (by omega))
    · have hq := isNone_of (qI_ge (n := mk) (by omega) (Int32.not_lt.mp c21))
      refine g_aload_n E dX13_back_24 rfl rfl rfl ?_
      refine g_iconst E (v := 1) dX13_back_25 (by decide) rfl ?_
      have hM15 : pMq g1 (.ref mb) 0 tr wh tp fa ac mk [] := ⟨_, h1, rfl, hM_1, hM_2, hM_3, hM_5, hM_6, hM_12, hM_15, hM_16, hM_17, hM_18, hM_19, hM_20, hM_26, hM_28, hM_29, trivial⟩
      refine g_callV (k := 2000) (n9 := 1) (av := [.int 1]) (st := []) E (ct_X13_denied l 1 hM15) gciX13 dX13_back_26 h1 q2496 q2498 qs116 q135 q2499 (by decide +kernel) rfl rfl ⟨by decide, by decide⟩ ⟨by decide, by decide⟩ (Nat.le_of_ble_eq_true rfl) rfl (gPi.k (fun g16 h16 => ?_))
      obtain ⟨hm16, f16⟩ := h16
      have hm16_o := hm16
      obtain ⟨hm16_F, hm16_a, hm16_0, hm16_1, hm16_2, hm16_3, hm16_5, hm16_6, hm16_12, hm16_15, hm16_16, hm16_17, hm16_18, hm16_19, hm16_20, hm16_26, hm16_28, hm16_29, -⟩ := hm16_o
      have y18 := ((hV.fr  (fun j9 a9 b9 => f1 j9 (by omega))).fr  (fun j9 a9 b9 => f16 j9 (by omega)))
      have e17q : pBm g16 mb B tp fa mk ac M R d p := by unfold pBm; rw [hq]; exact ⟨⟨_, hm16_a, hm16_0, hm16_1, hm16_2, hm16_3, hm16_5, hm16_6, hm16_12, hm16_15, hm16_16, hm16_17, hm16_18, hm16_19, hm16_20, hm16_26, hm16_28, hm16_29, trivial⟩, y18⟩
      exact g_zret E Rt dX13_back_29 rfl (by decide) (by decide) (by decide) (by rw [show (qI mk p).isSome = false by rw [hq]; rfl]; exact ⟨rfl, e17q, fun j9 h9 => (f16 j9 (by omega)).trans (f1 j9 (by omega))⟩)
set_option maxHeartbeats 1000000 in
theorem ct_X13_back_N (l : Launch) {g : gWM} {th tr wh fa : Int32} {tp ac mk : Nat} (p : Int32) (hM : pMq g .null th tr wh tp fa ac mk []) : gCt l yX13_back cX13_back 3 (some .boolean) 2 0 0 42 [.ref 2000, .int p] g (gPi 0 (fun g1 => pMq g1 .null 0 1 (-1) tp fa ac mk [] ∧ ∀ j, j ≠ 2000 → g1 j = g j)) := by
  refine gCt.of RX13 (by decide) rfl (lo := [some (.ref 2000), some (.int p), none]) 1 rfl (Nat.le_of_ble_eq_true rfl) (fun z E Rt => ?_)
  have hM_o := hM
  obtain ⟨hM_F, hM_a, hM_0, hM_1, hM_2, hM_3, hM_5, hM_6, hM_12, hM_15, hM_16, hM_17, hM_18, hM_19, hM_20, hM_26, hM_28, hM_29, -⟩ := hM_o
  refine g_aload_n E dX13_back_0 rfl rfl rfl ?_
  refine g_iconst E (v := 0) dX13_back_1 (by decide) rfl ?_
  refine g_putf E gciX13 (v := .int 0) dX13_back_2 hM_a 0 rfl (by decide) q1740 (.inl rfl) rfl (fun _ => rfl) (fun _ => rfl) rfl (g_upk (fun g1 h1 f1 => ?_))
  refine g_aload_n E dX13_back_5 rfl rfl rfl ?_
  refine g_getf E gciX13 dX13_back_6 h1 3 rfl (by decide) q1743 (.inl rfl) (.null) (hM_3) rfl ?_
  refine g_ifnullY E dX13_back_9 (tgt := 24) (by decide) ?_
  refine g_aload_n E dX13_back_24 rfl rfl rfl ?_
  refine g_iconst E (v := 1) dX13_back_25 (by decide) rfl ?_
  have hM2 : pMq g1 .null 0 tr wh tp fa ac mk [] := ⟨_, h1, rfl, hM_1, hM_2, hM_3, hM_5, hM_6, hM_12, hM_15, hM_16, hM_17, hM_18, hM_19, hM_20, hM_26, hM_28, hM_29, trivial⟩
  refine g_callV (k := 2000) (n9 := 1) (av := [.int 1]) (st := []) E (ct_X13_denied l 1 hM2) gciX13 dX13_back_26 h1 q2496 q2498 qs116 q135 q2499 (by decide +kernel) rfl rfl ⟨by decide, by decide⟩ ⟨by decide, by decide⟩ (Nat.le_of_ble_eq_true rfl) rfl (gPi.k (fun g3 h3 => ?_))
  obtain ⟨hm3, f3⟩ := h3
  have hm3_o := hm3
  obtain ⟨hm3_F, hm3_a, hm3_0, hm3_1, hm3_2, hm3_3, hm3_5, hm3_6, hm3_12, hm3_15, hm3_16, hm3_17, hm3_18, hm3_19, hm3_20, hm3_26, hm3_28, hm3_29, -⟩ := hm3_o
  exact g_zret E Rt dX13_back_29 rfl (by decide) (by decide) (by decide) (⟨rfl, ⟨_, hm3_a, hm3_0, hm3_1, hm3_2, hm3_3, hm3_5, hm3_6, hm3_12, hm3_15, hm3_16, hm3_17, hm3_18, hm3_19, hm3_20, hm3_26, hm3_28, hm3_29, trivial⟩, fun j9 h9 => (f3 j9 (by omega)).trans (f1 j9 (by omega))⟩)
