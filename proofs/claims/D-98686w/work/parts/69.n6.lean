/-! THE MODEL, walks, sixth: crumbs -/
set_option maxRecDepth 100000
set_option maxHeartbeats 400000 in
theorem ct_X13_isLeftBy (l : Launch) {g : gWM} {mb : Nat} {B : gBar} {th tr wh fa : Int32} {tp ac mk : Nat} (c t : Nat) (hw : wfB B) (hM : pMq g (.ref mb) th tr wh tp fa ac mk []) (hMb : pMb g mb B) (hc6 : c < B 0 6) (ht : t < 4) : gCt l yX13_isLeftBy cX13_isLeftBy 4 (some .boolean) 1 0 0 22 [.ref 2000, .int (nI c), .int (nI t)] g (gPu (.int (zb (zAny (zGd B c t) (B 0 3)))) g) := by
  refine gCt.of RX13 (by decide) rfl (lo := [some (.ref 2000), some (.int (nI c)), some (.int (nI t)), none]) 1 rfl (Nat.le_of_ble_eq_true rfl) (fun z E Rt => ?_)
  have hw_n := hw.1
  have hM_o := hM
  obtain ⟨hM_F, hM_a, hM_0, hM_1, hM_2, hM_3, hM_5, hM_6, hM_12, hM_15, hM_16, hM_17, hM_18, hM_19, hM_20, hM_26, hM_28, hM_29, -⟩ := hM_o
  have hMb_o := hMb
  obtain ⟨⟨hMb_F, hMb_a, hMb_0, hMb_1, hMb_2, hMb_3, hMb_4, hMb_5, hMb_6, hMb_7, hMb_8, hMb_9, hMb_11, hMb_12, hMb_13, hMb_14, hMb_15, hMb_16, hMb_17, hMb_18, hMb_19, hMb_20, hMb_21, hMb_22, hMb_23, hMb_24, hMb_25, hMb_26, hMb_27, hMb_28, hMb_29, hMb_30, hMb_31⟩, ⟨hMb_f1, hMb_a1, hMb_b1⟩, ⟨hMb_f2, hMb_a2, hMb_b2⟩, ⟨hMb_f3, hMb_a3, hMb_b3⟩, ⟨hMb_f4, hMb_a4, hMb_b4⟩, ⟨hMb_f5, hMb_a5, hMb_b5⟩, ⟨hMb_f6, hMb_a6, hMb_b6⟩, ⟨hMb_f7, hMb_a7, hMb_b7⟩, ⟨hMb_f8, hMb_a8, hMb_b8⟩, ⟨hMb_f9, hMb_a9, hMb_b9⟩, ⟨hMb_f10, hMb_a10, hMb_b10⟩, ⟨hMb_f11, hMb_a11, hMb_b11⟩, ⟨hMb_f12, hMb_a12, hMb_b12⟩, ⟨hMb_f13, hMb_a13, hMb_b13⟩, ⟨hMb_f14, hMb_a14, hMb_b14⟩, ⟨hMb_f15, hMb_a15, hMb_b15⟩, ⟨hMb_f16, hMb_a16, hMb_b16⟩, ⟨hMb_f17, hMb_a17, hMb_b17⟩, ⟨hMb_f18, hMb_a18, hMb_b18⟩, ⟨hMb_f19, hMb_a19, hMb_b19⟩, ⟨hMb_f20, hMb_a20, hMb_b20⟩, ⟨hMb_f21, hMb_a21, hMb_b21⟩⟩ := hMb_o
  have hcb := hw.crumb hc6
  refine g_iconst E (v := 0) dX13_isLeftBy_0 (by decide) rfl ?_
  refine g_istore_n E dX13_isLeftBy_1 rfl (by decide) rfl (lo1 := [some (.ref 2000), some (.int (nI c)), some (.int (nI t)), some (.int 0)]) rfl rfl ?_
  have lp2 : ∀ (r9 : Nat) (k : Nat), (k ≤ B 0 3) → (zAny (zGd B c t) k = false) → (B 0 3 - k < r9) → gV z g 0 0 2 [some (.ref 2000), some (.int (nI c)), some (.int (nI t)), some (.int (nI k))] [] := by
    intro r9
    induction r9 with
    | zero => intro k hk hy hm; exact absurd hm (Nat.not_lt_zero _)
    | succ r9 ih2 =>
      intro k hk hy hm
      refine g_iload_n E dX13_isLeftBy_2 rfl rfl rfl ?_
      refine g_aload_n E dX13_isLeftBy_3 rfl rfl rfl ?_
      refine g_getf E gciX13 dX13_isLeftBy_4 hM_a 3 rfl (by decide) q1743 (.inl rfl) (.ref mb) (hM_3) rfl ?_
      refine g_getfN E gciX27 dX13_isLeftBy_7 hMb_a 5 rfl (by decide) q1862 (.inl rfl) (.int (nI (B 0 3))) (hMb_5) rfl ?_
      refine g_icmp_ge E dX13_isLeftBy_10 (tgt := 88) (by decide) rfl (fun c10 => ?_) (fun c10 => ?_)
      · have c10 := (nI_leI (a := B 0 3) (b := k) (by omega) (by omega)).mp c10
        obtain rfl : k = B 0 3 := by omega
        refine g_iconst E (v := 0) dX13_isLeftBy_88 (by decide) rfl ?_
        exact g_zret E Rt dX13_isLeftBy_89 rfl (by decide) (by decide) (by decide) (⟨congrArg (fun x => some (Value.int x)) (by rw [hy]; rfl), rfl⟩)
      · have c10 := mt (nI_leI (a := B 0 3) (b := k) (by omega) (by omega)).mpr c10
        have hgk := hw.goods (j := k) (by omega)
        refine g_aload_n E dX13_isLeftBy_13 rfl rfl rfl ?_
        refine g_getf E gciX13 dX13_isLeftBy_14 hM_a 3 rfl (by decide) q1743 (.inl rfl) (.ref mb) (hM_3) rfl ?_
        refine g_getfN E gciX27 dX13_isLeftBy_17 hMb_a 22 rfl (by decide) q1892 (.inl rfl) (.ref (mb + 12)) (hMb_22) rfl ?_
        refine g_iload_n E dX13_isLeftBy_20 rfl rfl rfl ?_
        refine g_iald E dX13_isLeftBy_21 (j := k) hMb_a12 (rfl) (by omega) (by decide) (v := nI (B 14 k)) (hMb_b12 k (by omega)) rfl ?_
        refine g_iload_n E dX13_isLeftBy_22 rfl rfl rfl ?_
        refine g_icmp_ne E dX13_isLeftBy_23 (tgt := 82) (by decide) rfl (fun c23 => ?_) (fun c23 => ?_)
        · have c23 := mt (nI_eq (a := B 14 k) (b := t) (by omega) (by omega)).mpr c23
          refine g_iinc E dX13_isLeftBy_82 rfl (v := nI (k + 1)) (nI_c _) (by decide) rfl (lo1 := [some (.ref 2000), some (.int (nI c)), some (.int (nI t)), some (.int (nI (k + 1)))]) rfl rfl ?_
          refine g_goto E dX13_isLeftBy_85 (tgt := 2) (by decide) ?_
          exact ih2 (k + 1) (by omega) (by show (_ || _) = false; rw [hy, Bool.false_or]; exact zGd_1 c23) (by omega)
        · have c23 := (nI_eq (a := B 14 k) (b := t) (by omega) (by omega)).mp c23
          refine g_aload_n E dX13_isLeftBy_26 rfl rfl rfl ?_
          refine g_getf E gciX13 dX13_isLeftBy_27 hM_a 3 rfl (by decide) q1743 (.inl rfl) (.ref mb) (hM_3) rfl ?_
          refine g_getfN E gciX27 dX13_isLeftBy_30 hMb_a 21 rfl (by decide) q1890 (.inl rfl) (.ref (mb + 11)) (hMb_21) rfl ?_
          refine g_iload_n E dX13_isLeftBy_33 rfl rfl rfl ?_
          refine g_iald E dX13_isLeftBy_34 (j := k) hMb_a11 (rfl) (by omega) (by decide) (v := if B 12 k = 0 then -2 else nI (B 13 k)) (hMb_b11 k (by omega)) rfl ?_
          refine g_aload_n E dX13_isLeftBy_35 rfl rfl rfl ?_
          refine g_getf E gciX13 dX13_isLeftBy_36 hM_a 3 rfl (by decide) q1743 (.inl rfl) (.ref mb) (hM_3) rfl ?_
          refine g_getfN E gciX27 dX13_isLeftBy_39 hMb_a 30 rfl (by decide) q1908 (.inl rfl) (.ref (mb + 20)) (hMb_30) rfl ?_
          refine g_iload_n E dX13_isLeftBy_42 rfl rfl rfl ?_
          refine g_iald E dX13_isLeftBy_43 (j := c) hMb_a20 (rfl) (by omega) (by decide) (v := nI (B 23 c)) (hMb_b20 c (by omega)) rfl ?_
          refine g_icmp_eq E dX13_isLeftBy_44 (tgt := 50) (by decide) rfl (fun c44 => ?_) (fun c44 => ?_)
          · have hby := by_yes c44 (by omega) (by omega)
            refine g_aload_n E dX13_isLeftBy_50 rfl rfl rfl ?_
            refine g_getf E gciX13 dX13_isLeftBy_51 hM_a 3 rfl (by decide) q1743 (.inl rfl) (.ref mb) (hM_3) rfl ?_
            refine g_iload_n E dX13_isLeftBy_54 rfl rfl rfl ?_
            refine g_aload_n E dX13_isLeftBy_55 rfl rfl rfl ?_
            refine g_getf E gciX13 dX13_isLeftBy_56 hM_a 3 rfl (by decide) q1743 (.inl rfl) (.ref mb) (hM_3) rfl ?_
            refine g_getfN E gciX27 dX13_isLeftBy_59 hMb_a 23 rfl (by decide) q1894 (.inl rfl) (.ref (mb + 13)) (hMb_23) rfl ?_
            refine g_iload_n E dX13_isLeftBy_62 rfl rfl rfl ?_
            refine g_iald E dX13_isLeftBy_63 (j := k) hMb_a13 (rfl) (by omega) (by decide) (v := nI (B 15 k)) (hMb_b13 k (by omega)) rfl ?_
            refine g_aload_n E dX13_isLeftBy_64 rfl rfl rfl ?_
            refine g_getf E gciX13 dX13_isLeftBy_65 hM_a 3 rfl (by decide) q1743 (.inl rfl) (.ref mb) (hM_3) rfl ?_
            refine g_getfN E gciX27 dX13_isLeftBy_68 hMb_a 31 rfl (by decide) q1910 (.inl rfl) (.ref (mb + 21)) (hMb_31) rfl ?_
            refine g_iload_n E dX13_isLeftBy_71 rfl rfl rfl ?_
            refine g_iald E dX13_isLeftBy_72 (j := c) hMb_a21 (rfl) (by omega) (by decide) (v := nI (B 24 c)) (hMb_b21 c (by omega)) rfl ?_
            refine g_iadd E dX13_isLeftBy_73 rfl ?_
            refine g_as (y := zAge B k (nI (B 24 c))) (rfl) ?_
            refine g_callV (k := mb) (n9 := 2) (av := [.int (nI k), .int (zAge B k (nI (B 24 c)))]) (st := []) E (ct_X27_isTurned l k (zAge B k (nI (B 24 c))) hw hMb (by omega)) gciX27 dX13_isLeftBy_74 hMb_a q2257 q2258 q2259 q155 q2260 (by decide +kernel) rfl rfl ⟨by decide, by decide⟩ ⟨by decide, by decide⟩ (Nat.le_of_ble_eq_true rfl) rfl (gPu.k ?_)
            refine g_if_ne E dX13_isLeftBy_77 (tgt := 82) (by decide) rfl (fun c77 => ?_) (fun c77 => ?_)
            · have c77 := zb_n0.mp c77
              refine g_iinc E dX13_isLeftBy_82 rfl (v := nI (k + 1)) (nI_c _) (by decide) rfl (lo1 := [some (.ref 2000), some (.int (nI c)), some (.int (nI t)), some (.int (nI (k + 1)))]) rfl rfl ?_
              refine g_goto E dX13_isLeftBy_85 (tgt := 2) (by decide) ?_
              exact ih2 (k + 1) (by omega) (by show (_ || _) = false; rw [hy, Bool.false_or]; exact zGd_3 c77) (by omega)
            · have c77 := zb_0.mp c77
              refine g_iconst E (v := 1) dX13_isLeftBy_80 (by decide) rfl ?_
              exact g_zret E Rt dX13_isLeftBy_81 rfl (by decide) (by decide) (by decide) (⟨congrArg (fun x => some (Value.int x)) (by rw [zAny_of (p := zGd B c t) (k := k) (by omega) (zGd_y c23 hby c77)]; rfl), rfl⟩)
          · have hby := by_no c44 (by omega)
            refine g_goto E dX13_isLeftBy_47 (tgt := 82) (by decide) ?_
            refine g_iinc E dX13_isLeftBy_82 rfl (v := nI (k + 1)) (nI_c _) (by decide) rfl (lo1 := [some (.ref 2000), some (.int (nI c)), some (.int (nI t)), some (.int (nI (k + 1)))]) rfl rfl ?_
            refine g_goto E dX13_isLeftBy_85 (tgt := 2) (by decide) ?_
            exact ih2 (k + 1) (by omega) (by show (_ || _) = false; rw [hy, Bool.false_or]; exact zGd_2 hby) (by omega)
  exact lp2 (B 0 3 + 1) 0 (Nat.zero_le _) rfl (by omega)
set_option maxHeartbeats 400000 in
theorem ct_X13_isRow (l : Launch) {g : gWM} {mb : Nat} {B : gBar} {w : Nat → Nat} {c t : Nat} {th tr wh fa : Int32} {tp ac mk : Nat} (hw : wfB B) (hM : pMq g (.ref mb) th tr wh tp fa ac mk []) (hMb : pMb g mb B) (hRo : pRo g w c (nI t)) (hc6 : c < B 0 6) (ht : t < 4) (hwb : ∀ i, i < c → w i < 4) : gCt l yX13_isRow cX13_isRow 3 (some .boolean) 2 0 0 45 [.ref 2000, .int (nI c)] g (gPu (.int (zb (zCan B w c t))) g) := by
  refine gCt.of RX13 (by decide) rfl (lo := [some (.ref 2000), some (.int (nI c)), none]) 1 rfl (Nat.le_of_ble_eq_true rfl) (fun z E Rt => ?_)
  have hw_n := hw.1
  have hM_o := hM
  obtain ⟨hM_F, hM_a, hM_0, hM_1, hM_2, hM_3, hM_5, hM_6, hM_12, hM_15, hM_16, hM_17, hM_18, hM_19, hM_20, hM_26, hM_28, hM_29, -⟩ := hM_o
  have hMb_o := hMb
  obtain ⟨⟨hMb_F, hMb_a, hMb_0, hMb_1, hMb_2, hMb_3, hMb_4, hMb_5, hMb_6, hMb_7, hMb_8, hMb_9, hMb_11, hMb_12, hMb_13, hMb_14, hMb_15, hMb_16, hMb_17, hMb_18, hMb_19, hMb_20, hMb_21, hMb_22, hMb_23, hMb_24, hMb_25, hMb_26, hMb_27, hMb_28, hMb_29, hMb_30, hMb_31⟩, ⟨hMb_f1, hMb_a1, hMb_b1⟩, ⟨hMb_f2, hMb_a2, hMb_b2⟩, ⟨hMb_f3, hMb_a3, hMb_b3⟩, ⟨hMb_f4, hMb_a4, hMb_b4⟩, ⟨hMb_f5, hMb_a5, hMb_b5⟩, ⟨hMb_f6, hMb_a6, hMb_b6⟩, ⟨hMb_f7, hMb_a7, hMb_b7⟩, ⟨hMb_f8, hMb_a8, hMb_b8⟩, ⟨hMb_f9, hMb_a9, hMb_b9⟩, ⟨hMb_f10, hMb_a10, hMb_b10⟩, ⟨hMb_f11, hMb_a11, hMb_b11⟩, ⟨hMb_f12, hMb_a12, hMb_b12⟩, ⟨hMb_f13, hMb_a13, hMb_b13⟩, ⟨hMb_f14, hMb_a14, hMb_b14⟩, ⟨hMb_f15, hMb_a15, hMb_b15⟩, ⟨hMb_f16, hMb_a16, hMb_b16⟩, ⟨hMb_f17, hMb_a17, hMb_b17⟩, ⟨hMb_f18, hMb_a18, hMb_b18⟩, ⟨hMb_f19, hMb_a19, hMb_b19⟩, ⟨hMb_f20, hMb_a20, hMb_b20⟩, ⟨hMb_f21, hMb_a21, hMb_b21⟩⟩ := hMb_o
  have hRo_o := hRo
  obtain ⟨hRo_f, hRo_a, hRo_w, hRo_c⟩ := hRo_o
  refine g_aload_n E dX13_isRow_0 rfl rfl rfl ?_
  refine g_iload_n E dX13_isRow_1 rfl rfl rfl ?_
  refine g_aload_n E dX13_isRow_2 rfl rfl rfl ?_
  refine g_getf E gciX13 dX13_isRow_3 hM_a 28 rfl (by decide) q1768 (.inl rfl) (.ref 2007) (hM_28) rfl ?_
  refine g_iload_n E dX13_isRow_6 rfl rfl rfl ?_
  refine g_iald E dX13_isRow_7 (j := c) hRo_a (rfl) (by omega) (by decide) (v := nI t) (hRo_c) rfl ?_
  have hM1 : pMq g (.ref mb) th tr wh tp fa ac mk [] := ⟨_, hM_a, hM_0, hM_1, hM_2, hM_3, hM_5, hM_6, hM_12, hM_15, hM_16, hM_17, hM_18, hM_19, hM_20, hM_26, hM_28, hM_29, trivial⟩
  refine g_callV (k := 2000) (n9 := 2) (av := [.int (nI c), .int (nI t)]) (st := []) E (ct_X13_isLeftBy l c t hw hM1 hMb (by omega) (by omega)) gciX13 dX13_isRow_8 hM_a q2455 q2457 qs113 q135 q2458 (by decide +kernel) rfl rfl ⟨by decide, by decide⟩ ⟨by decide, by decide⟩ (Nat.le_of_ble_eq_true rfl) rfl (gPu.k ?_)
  refine g_if_ne E dX13_isRow_11 (tgt := 16) (by decide) rfl (fun c11 => ?_) (fun c11 => ?_)
  · have c11 := zb_n0.mp c11
    refine g_iconst E (v := 0) dX13_isRow_16 (by decide) rfl ?_
    refine g_istore_n E dX13_isRow_17 rfl (by decide) rfl (lo1 := [some (.ref 2000), some (.int (nI c)), some (.int 0)]) rfl rfl ?_
    have lp18 : ∀ (r9 : Nat) (k : Nat), (k ≤ c) → (zDif B w c t k = true) → (c - k < r9) → gV z g 0 0 18 [some (.ref 2000), some (.int (nI c)), some (.int (nI k))] [] := by
      intro r9
      induction r9 with
      | zero => intro k hk hz hm; exact absurd hm (Nat.not_lt_zero _)
      | succ r9 ih18 =>
        intro k hk hz hm
        refine g_iload_n E dX13_isRow_18 rfl rfl rfl ?_
        refine g_iload_n E dX13_isRow_19 rfl rfl rfl ?_
        refine g_icmp_ge E dX13_isRow_20 (tgt := 67) (by decide) rfl (fun c20 => ?_) (fun c20 => ?_)
        · have c20 := (nI_leI (a := c) (b := k) (by omega) (by omega)).mp c20
          obtain rfl : c = k := by omega
          refine g_iconst E (v := 1) dX13_isRow_67 (by decide) rfl ?_
          exact g_zret E Rt dX13_isRow_68 rfl (by decide) (by decide) (by decide) (⟨congrArg (fun x => some (Value.int x)) (by rw [zCan, hz, c11]; rfl), rfl⟩)
        · have c20 := mt (nI_leI (a := c) (b := k) (by omega) (by omega)).mpr c20
          have hwk := hwb k (by omega)
          have hck := hw.crumb (c := k) (by omega)
          have hcc := hw.crumb hc6
          refine g_aload_n E dX13_isRow_23 rfl rfl rfl ?_
          refine g_getf E gciX13 dX13_isRow_24 hM_a 28 rfl (by decide) q1768 (.inl rfl) (.ref 2007) (hM_28) rfl ?_
          refine g_iload_n E dX13_isRow_27 rfl rfl rfl ?_
          refine g_iald E dX13_isRow_28 (j := k) hRo_a (rfl) (by omega) (by decide) (v := nI (w k)) (hRo_w k (by omega)) rfl ?_
          refine g_aload_n E dX13_isRow_29 rfl rfl rfl ?_
          refine g_getf E gciX13 dX13_isRow_30 hM_a 28 rfl (by decide) q1768 (.inl rfl) (.ref 2007) (hM_28) rfl ?_
          refine g_iload_n E dX13_isRow_33 rfl rfl rfl ?_
          refine g_iald E dX13_isRow_34 (j := c) hRo_a (rfl) (by omega) (by decide) (v := nI t) (hRo_c) rfl ?_
          refine g_icmp_ne E dX13_isRow_35 (tgt := 61) (by decide) rfl (fun c35 => ?_) (fun c35 => ?_)
          · have c35 := mt (nI_eq (a := w k) (b := t) (by omega) (by omega)).mpr c35
            refine g_iinc E dX13_isRow_61 rfl (v := nI (k + 1)) (nI_c _) (by decide) rfl (lo1 := [some (.ref 2000), some (.int (nI c)), some (.int (nI (k + 1)))]) rfl rfl ?_
            refine g_goto E dX13_isRow_64 (tgt := 18) (by decide) ?_
            exact ih18 (k + 1) (by omega) (by show (_ && _) = true; rw [hz]; simp [c35]) (by omega)
          · have c35 := (nI_eq (a := w k) (b := t) (by omega) (by omega)).mp c35
            refine g_aload_n E dX13_isRow_38 rfl rfl rfl ?_
            refine g_getf E gciX13 dX13_isRow_39 hM_a 3 rfl (by decide) q1743 (.inl rfl) (.ref mb) (hM_3) rfl ?_
            refine g_getfN E gciX27 dX13_isRow_42 hMb_a 31 rfl (by decide) q1910 (.inl rfl) (.ref (mb + 21)) (hMb_31) rfl ?_
            refine g_iload_n E dX13_isRow_45 rfl rfl rfl ?_
            refine g_iald E dX13_isRow_46 (j := k) hMb_a21 (rfl) (by omega) (by decide) (v := nI (B 24 k)) (hMb_b21 k (by omega)) rfl ?_
            refine g_aload_n E dX13_isRow_47 rfl rfl rfl ?_
            refine g_getf E gciX13 dX13_isRow_48 hM_a 3 rfl (by decide) q1743 (.inl rfl) (.ref mb) (hM_3) rfl ?_
            refine g_getfN E gciX27 dX13_isRow_51 hMb_a 31 rfl (by decide) q1910 (.inl rfl) (.ref (mb + 21)) (hMb_31) rfl ?_
            refine g_iload_n E dX13_isRow_54 rfl rfl rfl ?_
            refine g_iald E dX13_isRow_55 (j := c) hMb_a21 (rfl) (by omega) (by decide) (v := nI (B 24 c)) (hMb_b21 c (by omega)) rfl ?_
            refine g_icmp_ne E dX13_isRow_56 (tgt := 61) (by decide) rfl (fun c56 => ?_) (fun c56 => ?_)
            · have c56 := mt (nI_eq (a := B 24 k) (b := B 24 c) (by omega) (by omega)).mpr c56
              refine g_iinc E dX13_isRow_61 rfl (v := nI (k + 1)) (nI_c _) (by decide) rfl (lo1 := [some (.ref 2000), some (.int (nI c)), some (.int (nI (k + 1)))]) rfl rfl ?_
              refine g_goto E dX13_isRow_64 (tgt := 18) (by decide) ?_
              exact ih18 (k + 1) (by omega) (by show (_ && _) = true; rw [hz]; simp [c35, c56]) (by omega)
            · have c56 := (nI_eq (a := B 24 k) (b := B 24 c) (by omega) (by omega)).mp c56
              refine g_iconst E (v := 0) dX13_isRow_59 (by decide) rfl ?_
              exact g_zret E Rt dX13_isRow_60 rfl (by decide) (by decide) (by decide) (⟨congrArg (fun x => some (Value.int x)) (by rw [zCan, zDif_no (k := k) (by omega) c35 c56]; rfl), rfl⟩)
    exact lp18 (c + 1) 0 (Nat.zero_le _) rfl (by omega)
  · have c11 := zb_0.mp c11
    refine g_iconst E (v := 0) dX13_isRow_14 (by decide) rfl ?_
    exact g_zret E Rt dX13_isRow_15 rfl (by decide) (by decide) (by decide) (⟨congrArg (fun x => some (Value.int x)) (by rw [zCan, c11, Bool.and_false]; rfl), rfl⟩)
set_option maxHeartbeats 4000000 in
theorem ct_X13_fitting (l : Launch) {g : gWM} {mb : Nat} {B : gBar} {th tr wh fa : Int32} {tp ac mk : Nat} (hw : wfB B) (hM : pMq g (.ref mb) th tr wh tp fa ac mk []) (hMb : pMb g mb B) (hRq : pIx g 2007 5) (hCq : pIx g 2008 5) (h9 : 10000 ≤ mb) (h60 : 0 < B 0 6) : gCt l yX13_fitting cX13_fitting 3 none 3 0 0 67 [.ref 2000] g (gPn (fun g1 => pMq g1 (.ref mb) th tr wh tp fa ac mk [(30, (zSk B).1)] ∧ pIx g1 2007 5 ∧ pCd g1 (zSk B) ∧ ∀ j, (j ≠ 2000 ∧ j ≠ 2007 ∧ j ≠ 2008) → g1 j = g j)) := by
  refine gCt.of RX13 (by decide) rfl (lo := [some (.ref 2000), none, none]) 2 rfl (Nat.le_of_ble_eq_true rfl) (fun z E Rt => ?_)
  have hw_n := hw.1
  have hM_o := hM
  obtain ⟨hM_F, hM_a, hM_0, hM_1, hM_2, hM_3, hM_5, hM_6, hM_12, hM_15, hM_16, hM_17, hM_18, hM_19, hM_20, hM_26, hM_28, hM_29, -⟩ := hM_o
  have hMb_o := hMb
  obtain ⟨⟨hMb_F, hMb_a, hMb_0, hMb_1, hMb_2, hMb_3, hMb_4, hMb_5, hMb_6, hMb_7, hMb_8, hMb_9, hMb_11, hMb_12, hMb_13, hMb_14, hMb_15, hMb_16, hMb_17, hMb_18, hMb_19, hMb_20, hMb_21, hMb_22, hMb_23, hMb_24, hMb_25, hMb_26, hMb_27, hMb_28, hMb_29, hMb_30, hMb_31⟩, ⟨hMb_f1, hMb_a1, hMb_b1⟩, ⟨hMb_f2, hMb_a2, hMb_b2⟩, ⟨hMb_f3, hMb_a3, hMb_b3⟩, ⟨hMb_f4, hMb_a4, hMb_b4⟩, ⟨hMb_f5, hMb_a5, hMb_b5⟩, ⟨hMb_f6, hMb_a6, hMb_b6⟩, ⟨hMb_f7, hMb_a7, hMb_b7⟩, ⟨hMb_f8, hMb_a8, hMb_b8⟩, ⟨hMb_f9, hMb_a9, hMb_b9⟩, ⟨hMb_f10, hMb_a10, hMb_b10⟩, ⟨hMb_f11, hMb_a11, hMb_b11⟩, ⟨hMb_f12, hMb_a12, hMb_b12⟩, ⟨hMb_f13, hMb_a13, hMb_b13⟩, ⟨hMb_f14, hMb_a14, hMb_b14⟩, ⟨hMb_f15, hMb_a15, hMb_b15⟩, ⟨hMb_f16, hMb_a16, hMb_b16⟩, ⟨hMb_f17, hMb_a17, hMb_b17⟩, ⟨hMb_f18, hMb_a18, hMb_b18⟩, ⟨hMb_f19, hMb_a19, hMb_b19⟩, ⟨hMb_f20, hMb_a20, hMb_b20⟩, ⟨hMb_f21, hMb_a21, hMb_b21⟩⟩ := hMb_o
  have hRq_o := hRq
  obtain ⟨hRq_f, hRq_a⟩ := hRq_o
  have hCq_o := hCq
  obtain ⟨hCq_f, hCq_a⟩ := hCq_o
  refine g_aload_n E dX13_fitting_0 rfl rfl rfl ?_
  refine g_iconst E (v := 0) dX13_fitting_1 (by decide) rfl ?_
  refine g_putf E gciX13 (v := .int 0) dX13_fitting_2 hM_a 30 rfl (by decide) q1770 (.inl rfl) rfl (fun _ => rfl) (fun _ => rfl) rfl (g_upk (fun g1 h1 f1 => ?_))
  refine g_iconst E (v := 0) dX13_fitting_5 (by decide) rfl ?_
  refine g_istore_n E dX13_fitting_6 rfl (by decide) rfl (lo1 := [some (.ref 2000), some (.int 0), none]) rfl rfl ?_
  have lp7 : ∀ (r9 : Nat) (k : Nat) (gz : gWM), (k ≤ 5) → (5 - k < r9) → (pMq gz (.ref mb) th tr wh tp fa ac mk [(30, 0)]) → (gz 2007 = some (.inl (0, 5, .inl hRq_f))) → (pIa gz 2008 5 k (fun _ => 0)) → (∀ j, (j ≠ 2000 ∧ j ≠ 2007 ∧ j ≠ 2008) → gz j = g j) → gV z gz 0 0 7 [some (.ref 2000), some (.int (nI k)), none] [] := by
    intro r9
    induction r9 with
    | zero => intro k gz hk hm hMz hZq hZw hfz; exact absurd hm (Nat.not_lt_zero _)
    | succ r9 ih7 =>
      intro k gz hk hm hMz hZq hZw hfz
      have hMz_o := hMz
      obtain ⟨hMz_F, hMz_a, hMz_0, hMz_1, hMz_2, hMz_3, hMz_5, hMz_6, hMz_12, hMz_15, hMz_16, hMz_17, hMz_18, hMz_19, hMz_20, hMz_26, hMz_28, hMz_29, hMz_30, -⟩ := hMz_o
      obtain ⟨hZw_f, hZw_a, hZw_r⟩ := hZw
      refine g_iload_n E dX13_fitting_7 rfl rfl rfl ?_
      refine g_iconst E (v := 5) dX13_fitting_8 (by decide) rfl ?_
      refine g_icmp_ge E dX13_fitting_9 (tgt := 25) (by decide) rfl (fun c9 => ?_) (fun c9 => ?_)
      · have c9 := (nI_leI (a := 5) (b := k) (by omega) (by omega)).mp c9
        obtain rfl : k = 5 := by omega
        refine g_iconst E (v := 0) dX13_fitting_25 (by decide) rfl ?_
        refine g_istore_n E dX13_fitting_26 rfl (by decide) rfl (lo1 := [some (.ref 2000), some (.int 0), none]) rfl rfl ?_
        refine g_aload_n E dX13_fitting_27 rfl rfl rfl ?_
        refine g_getf E gciX13 dX13_fitting_28 hMz_a 28 rfl (by decide) q1768 (.inl rfl) (.ref 2007) (hMz_28) rfl ?_
        refine g_iconst E (v := 0) dX13_fitting_31 (by decide) rfl ?_
        refine g_iconst E (v := (-1)) dX13_fitting_32 (by decide) rfl ?_
        refine g_iast E dX13_fitting_33 (j := 0) hZq (rfl) (by decide) (by decide) rfl (g_upk (fun g2 h2 f2 => ?_))
        refine g_iload_n E dX13_fitting_34 rfl rfl rfl ?_
        refine g_if_lt E dX13_fitting_35 (tgt := 182) (by decide) rfl (fun h9 => absurd h9 (by decide)) (fun _ => ?_)
        refine g_aload_n E dX13_fitting_38 rfl rfl rfl ?_
        have x3 := (f2 (2000) (by omega)).trans (hMz_a)
        refine g_getf E gciX13 dX13_fitting_39 x3 28 rfl (by decide) q1768 (.inl rfl) (.ref 2007) (hMz_28) rfl ?_
        refine g_iload_n E dX13_fitting_42 rfl rfl rfl ?_
        refine g_dup2 E dX13_fitting_43 rfl rfl rfl ?_
        refine g_iald E dX13_fitting_44 (j := 0) h2 (rfl) (by decide) (by decide) (v := (-1)) (upd_s) rfl ?_
        refine g_iconst E (v := 1) dX13_fitting_45 (by decide) rfl ?_
        refine g_iadd E dX13_fitting_46 rfl ?_
        refine g_as (y := nI 0) (rfl) ?_
        refine g_iast E dX13_fitting_47 (j := 0) h2 (rfl) (by decide) (by decide) rfl (g_upk (fun g4 h4 f4 => ?_))
        obtain ⟨n0, hn0⟩ : ∃ n0, B 0 6 = n0 + 1 := ⟨B 0 6 - 1, by omega⟩
        have main : ∀ (n c : Nat) (w : Nat → Nat) (m t : Nat) (S : zCS) (gw : gWM), c + n + 1 = B 0 6 → t + m = B 0 1 → (∀ i, i < c → w i < 4) → (pMq gw (.ref mb) th tr wh tp fa ac mk [(30, S.1)]) → (pRo gw w c (nI t)) → (pCd gw S) → (∀ j, (j ≠ 2000 ∧ j ≠ 2007 ∧ j ≠ 2008) → gw j = g j) → (∀ gx, (pMq gx (.ref mb) th tr wh tp fa ac mk [(30, (zFr B n w c m t S).1)]) → pRq gx w c → pCd gx (zFr B n w c m t S) → (∀ j, (j ≠ 2000 ∧ j ≠ 2007 ∧ j ≠ 2008) → gx j = g j) → gV z gx 0 0 34 [some (.ref 2000), some (.int (nI c + (-1))), none] []) → gV z gw 0 0 48 [some (.ref 2000), some (.int (nI c)), none] [] := by
          intro n
          induction n with
          | zero =>
            intro c w m
            induction m with
            | zero =>
              intro t S gw hcn htm hwb hMw hRw hCw hfw hk
              have hMw_o := hMw
              obtain ⟨hMw_F, hMw_a, hMw_0, hMw_1, hMw_2, hMw_3, hMw_5, hMw_6, hMw_12, hMw_15, hMw_16, hMw_17, hMw_18, hMw_19, hMw_20, hMw_26, hMw_28, hMw_29, hMw_30, -⟩ := hMw_o
              have hRw_o := hRw
              obtain ⟨hRw_f, hRw_a, hRw_w, hRw_c⟩ := hRw_o
              have hCw_o := hCw
              obtain ⟨hCw_f, hCw_a, hCw_b⟩ := hCw_o
              have hcx := hw.crumb (c := c) (by omega)
              refine g_aload_n E dX13_fitting_48 rfl rfl rfl ?_
              refine g_getf E gciX13 dX13_fitting_49 hMw_a 28 rfl (by decide) q1768 (.inl rfl) (.ref 2007) (hMw_28) rfl ?_
              refine g_iload_n E dX13_fitting_52 rfl rfl rfl ?_
              refine g_iald E dX13_fitting_53 (j := c) hRw_a (rfl) (by omega) (by decide) (v := nI t) (hRw_c) rfl ?_
              refine g_aload_n E dX13_fitting_54 rfl rfl rfl ?_
              refine g_getf E gciX13 dX13_fitting_55 hMw_a 3 rfl (by decide) q1743 (.inl rfl) (.ref mb) (hMw_3) rfl ?_
              have x5 := (hfw (mb) (by omega)).trans (hMb_a)
              refine g_getfN E gciX27 dX13_fitting_58 x5 3 rfl (by decide) q1860 (.inl rfl) (.int (nI (B 0 1))) (hMb_3) rfl ?_
              refine g_icmp_ge E dX13_fitting_61 (tgt := 85) (by decide) rfl (fun c61 => ?_) (fun c61 => ?_)
              · have c61 := (nI_leI (a := B 0 1) (b := t) (by omega) (by omega)).mp c61
                refine g_aload_n E dX13_fitting_85 rfl rfl rfl ?_
                refine g_getf E gciX13 dX13_fitting_86 hMw_a 28 rfl (by decide) q1768 (.inl rfl) (.ref 2007) (hMw_28) rfl ?_
                refine g_iload_n E dX13_fitting_89 rfl rfl rfl ?_
                refine g_iald E dX13_fitting_90 (j := c) hRw_a (rfl) (by omega) (by decide) (v := nI t) (hRw_c) rfl ?_
                refine g_aload_n E dX13_fitting_91 rfl rfl rfl ?_
                refine g_getf E gciX13 dX13_fitting_92 hMw_a 3 rfl (by decide) q1743 (.inl rfl) (.ref mb) (hMw_3) rfl ?_
                refine g_getfN E gciX27 dX13_fitting_95 x5 3 rfl (by decide) q1860 (.inl rfl) (.int (nI (B 0 1))) (hMb_3) rfl ?_
                refine g_icmp_lt E dX13_fitting_98 (tgt := 107) (by decide) rfl (fun c98 => ?_) (fun c98 => ?_)
                · have c98 := (nI_ltI (a := t) (b := B 0 1) (by omega) (by omega)).mp c98
                  exact absurd c98 (by omega)
                · have c98 := mt (nI_ltI (a := t) (b := B 0 1) (by omega) (by omega)).mpr c98
                  refine g_iinc E dX13_fitting_101 rfl (v := nI c + (-1)) (rfl) (by decide) rfl (lo1 := [some (.ref 2000), some (.int (nI c + (-1))), none]) rfl rfl ?_
                  refine g_goto E dX13_fitting_104 (tgt := 34) (by decide) ?_
                  exact hk gw (⟨_, hMw_a, hMw_0, hMw_1, hMw_2, hMw_3, hMw_5, hMw_6, hMw_12, hMw_15, hMw_16, hMw_17, hMw_18, hMw_19, hMw_20, hMw_26, hMw_28, hMw_29, hMw_30, trivial⟩) ⟨_, hRw_a, hRw_w⟩ ⟨_, hCw_a, hCw_b⟩ (fun j9 h9 => hfw j9 (by omega))
              · have c61 := mt (nI_leI (a := B 0 1) (b := t) (by omega) (by omega)).mpr c61
                exact absurd c61 (by omega)
            | succ m ihm =>
              intro t S gw hcn htm hwb hMw hRw hCw hfw hk
              have hMw_o := hMw
              obtain ⟨hMw_F, hMw_a, hMw_0, hMw_1, hMw_2, hMw_3, hMw_5, hMw_6, hMw_12, hMw_15, hMw_16, hMw_17, hMw_18, hMw_19, hMw_20, hMw_26, hMw_28, hMw_29, hMw_30, -⟩ := hMw_o
              have hRw_o := hRw
              obtain ⟨hRw_f, hRw_a, hRw_w, hRw_c⟩ := hRw_o
              have hCw_o := hCw
              obtain ⟨hCw_f, hCw_a, hCw_b⟩ := hCw_o
              have hcx := hw.crumb (c := c) (by omega)
              refine g_aload_n E dX13_fitting_48 rfl rfl rfl ?_
              refine g_getf E gciX13 dX13_fitting_49 hMw_a 28 rfl (by decide) q1768 (.inl rfl) (.ref 2007) (hMw_28) rfl ?_
              refine g_iload_n E dX13_fitting_52 rfl rfl rfl ?_
              refine g_iald E dX13_fitting_53 (j := c) hRw_a (rfl) (by omega) (by decide) (v := nI t) (hRw_c) rfl ?_
              refine g_aload_n E dX13_fitting_54 rfl rfl rfl ?_
              refine g_getf E gciX13 dX13_fitting_55 hMw_a 3 rfl (by decide) q1743 (.inl rfl) (.ref mb) (hMw_3) rfl ?_
              have x6 := (hfw (mb) (by omega)).trans (hMb_a)
              refine g_getfN E gciX27 dX13_fitting_58 x6 3 rfl (by decide) q1860 (.inl rfl) (.int (nI (B 0 1))) (hMb_3) rfl ?_
              refine g_icmp_ge E dX13_fitting_61 (tgt := 85) (by decide) rfl (fun c61 => ?_) (fun c61 => ?_)
              · have c61 := (nI_leI (a := B 0 1) (b := t) (by omega) (by omega)).mp c61
                exact absurd c61 (by omega)
              · have c61 := mt (nI_leI (a := B 0 1) (b := t) (by omega) (by omega)).mpr c61
                refine g_aload_n E dX13_fitting_64 rfl rfl rfl ?_
                refine g_iload_n E dX13_fitting_65 rfl rfl rfl ?_
                have hM7 : pMq gw (.ref mb) th tr wh tp fa ac mk [] := ⟨_, hMw_a, hMw_0, hMw_1, hMw_2, hMw_3, hMw_5, hMw_6, hMw_12, hMw_15, hMw_16, hMw_17, hMw_18, hMw_19, hMw_20, hMw_26, hMw_28, hMw_29, trivial⟩
                have y8 := (hMb.fr  (fun j9 a9 b9 => hfw j9 (by omega)))
                refine g_callV (k := 2000) (n9 := 1) (av := [.int (nI c)]) (st := []) E (ct_X13_isRow l hw hM7 y8 (⟨_, hRw_a, hRw_w, hRw_c⟩) (by omega) (by omega) hwb) gciX13 dX13_fitting_66 hMw_a q2451 q2453 qs112 q135 q2454 (by decide +kernel) rfl rfl ⟨by decide, by decide⟩ ⟨by decide, by decide⟩ (Nat.le_of_ble_eq_true rfl) rfl (gPu.k ?_)
                refine g_if_ne E dX13_fitting_69 (tgt := 85) (by decide) rfl (fun c69 => ?_) (fun c69 => ?_)
                · have c69 := zb_n0.mp c69
                  refine g_aload_n E dX13_fitting_85 rfl rfl rfl ?_
                  refine g_getf E gciX13 dX13_fitting_86 hMw_a 28 rfl (by decide) q1768 (.inl rfl) (.ref 2007) (hMw_28) rfl ?_
                  refine g_iload_n E dX13_fitting_89 rfl rfl rfl ?_
                  refine g_iald E dX13_fitting_90 (j := c) hRw_a (rfl) (by omega) (by decide) (v := nI t) (hRw_c) rfl ?_
                  refine g_aload_n E dX13_fitting_91 rfl rfl rfl ?_
                  refine g_getf E gciX13 dX13_fitting_92 hMw_a 3 rfl (by decide) q1743 (.inl rfl) (.ref mb) (hMw_3) rfl ?_
                  refine g_getfN E gciX27 dX13_fitting_95 x6 3 rfl (by decide) q1860 (.inl rfl) (.int (nI (B 0 1))) (hMb_3) rfl ?_
                  refine g_icmp_lt E dX13_fitting_98 (tgt := 107) (by decide) rfl (fun c98 => ?_) (fun c98 => ?_)
                  · have c98 := (nI_ltI (a := t) (b := B 0 1) (by omega) (by omega)).mp c98
                    refine g_iload_n E dX13_fitting_107 rfl rfl rfl ?_
                    refine g_iconst E (v := 1) dX13_fitting_108 (by decide) rfl ?_
                    refine g_iadd E dX13_fitting_109 rfl ?_
                    refine g_as (y := nI (c + 1)) ((nI_succ c).symm) ?_
                    refine g_aload_n E dX13_fitting_110 rfl rfl rfl ?_
                    refine g_getf E gciX13 dX13_fitting_111 hMw_a 3 rfl (by decide) q1743 (.inl rfl) (.ref mb) (hMw_3) rfl ?_
                    refine g_getfN E gciX27 dX13_fitting_114 x6 8 rfl (by decide) q1865 (.inl rfl) (.int (nI (B 0 6))) (hMb_8) rfl ?_
                    refine g_icmp_ge E dX13_fitting_117 (tgt := 133) (by decide) rfl (fun c117 => ?_) (fun c117 => ?_)
                    · have c117 := (nI_leI (a := B 0 6) (b := c + 1) (by omega) (by omega)).mp c117
                      refine g_aload_n E dX13_fitting_133 rfl rfl rfl ?_
                      refine g_dup E dX13_fitting_134 rfl rfl ?_
                      refine g_getf E gciX13 dX13_fitting_135 hMw_a 30 rfl (by decide) q1770 (.inl rfl) (.int S.1) (hMw_30) rfl ?_
                      refine g_iconst E (v := 1) dX13_fitting_138 (by decide) rfl ?_
                      refine g_iadd E dX13_fitting_139 rfl ?_
                      refine g_as (y := S.1 + 1) (rfl) ?_
                      refine g_putf E gciX13 (v := .int (S.1 + 1)) dX13_fitting_140 hMw_a 30 rfl (by decide) q1770 (.inl rfl) rfl (fun _ => rfl) (fun _ => rfl) rfl (g_upk (fun g9 h9 f9 => ?_))
                      refine g_iconst E (v := 0) dX13_fitting_143 (by decide) rfl ?_
                      refine g_istore_n E dX13_fitting_144 rfl (by decide) rfl (lo1 := [some (.ref 2000), some (.int (nI c)), some (.int 0)]) rfl rfl ?_
                      have lp145 : ∀ (r9 : Nat) (k : Nat) (gv : gWM), (k ≤ c + 1) → (c + 1 - k < r9) → (pMq gv (.ref mb) th tr wh tp fa ac mk [(30, S.1 + 1)]) → (gv 2007 = some (.inl (0, 5, .inl hRw_f))) → (∃ f, gv 2008 = some (.inl (0, 5, .inl f)) ∧ ∀ i, i < 5 → f i = (zLf (fun i => if i = c then t else w i) k S).2.1 i) → (∀ j, (j ≠ 2000 ∧ j ≠ 2007 ∧ j ≠ 2008) → gv j = g j) → gV z gv 0 0 145 [some (.ref 2000), some (.int (nI c)), some (.int (nI k))] [] := by
                        intro r9
                        induction r9 with
                        | zero => intro k gv hk7 hm hMv hRv hCv hfv; exact absurd hm (Nat.not_lt_zero _)
                        | succ r9 ih145 =>
                          intro k gv hk7 hm hMv hRv hCv hfv
                          have hMv_o := hMv
                          obtain ⟨hMv_F, hMv_a, hMv_0, hMv_1, hMv_2, hMv_3, hMv_5, hMv_6, hMv_12, hMv_15, hMv_16, hMv_17, hMv_18, hMv_19, hMv_20, hMv_26, hMv_28, hMv_29, hMv_30, -⟩ := hMv_o
                          have hRv_b := rowS hRw_w hRw_c
                          obtain ⟨hCv_f, hCv_a, hCv_b⟩ := hCv
                          refine g_iload_n E dX13_fitting_145 rfl rfl rfl ?_
                          refine g_aload_n E dX13_fitting_146 rfl rfl rfl ?_
                          refine g_getf E gciX13 dX13_fitting_147 hMv_a 3 rfl (by decide) q1743 (.inl rfl) (.ref mb) (hMv_3) rfl ?_
                          have x10 := (hfv (mb) (by omega)).trans (hMb_a)
                          refine g_getfN E gciX27 dX13_fitting_150 x10 8 rfl (by decide) q1865 (.inl rfl) (.int (nI (B 0 6))) (hMb_8) rfl ?_
                          refine g_icmp_ge E dX13_fitting_153 (tgt := 179) (by decide) rfl (fun c153 => ?_) (fun c153 => ?_)
                          · have c153 := (nI_leI (a := B 0 6) (b := k) (by omega) (by omega)).mp c153
                            obtain rfl : k = c + 1 := by omega
                            refine g_goto E dX13_fitting_179 (tgt := 34) (by decide) ?_
                            refine g_iload_n E dX13_fitting_34 rfl rfl rfl ?_
                            refine g_if_lt E dX13_fitting_35 (tgt := 182) (by decide) rfl (fun c35 => ?_) (fun c35 => ?_)
                            · have c35 := (nI_ltI (a := c) (b := 0) (by omega) (by omega)).mp c35
                              exact absurd c35 (by omega)
                            · have c35 := mt (nI_ltI (a := c) (b := 0) (by omega) (by omega)).mpr c35
                              refine g_aload_n E dX13_fitting_38 rfl rfl rfl ?_
                              refine g_getf E gciX13 dX13_fitting_39 hMv_a 28 rfl (by decide) q1768 (.inl rfl) (.ref 2007) (hMv_28) rfl ?_
                              refine g_iload_n E dX13_fitting_42 rfl rfl rfl ?_
                              refine g_dup2 E dX13_fitting_43 rfl rfl rfl ?_
                              refine g_iald E dX13_fitting_44 (j := c) hRv (rfl) (by omega) (by decide) (v := nI t) (hRw_c) rfl ?_
                              refine g_iconst E (v := 1) dX13_fitting_45 (by decide) rfl ?_
                              refine g_iadd E dX13_fitting_46 rfl ?_
                              refine g_as (y := nI (t + 1)) ((nI_succ t).symm) ?_
                              refine g_iast E dX13_fitting_47 (j := c) hRv (rfl) (by omega) (by decide) rfl (g_upk (fun g11 h11 f11 => ?_))
                              have hs12 : zStp B 0 w c S t = zLf (fun i => if i = c then t else w i) (c + 1) S := zStp_0 c69
                              have x13 := (f11 (2000) (by omega)).trans (hMv_a)
                              have x14 := (f11 (2008) (by omega)).trans (hCv_a)
                              exact g_les (lo1 := [some (.ref 2000), some (.int (nI c)), none]) (⟨rfl, rfl, trivial⟩) (ihm (t + 1) (zLf (fun i => if i = c then t else w i) (c + 1) S) g11 hcn (by omega) hwb (⟨_, x13, hMv_0, hMv_1, hMv_2, hMv_3, hMv_5, hMv_6, hMv_12, hMv_15, hMv_16, hMv_17, hMv_18, hMv_19, hMv_20, hMv_26, hMv_28, hMv_29, hMv_30, trivial⟩) ⟨_, h11, rowU hRw_w (Nat.le_refl _), upd_s⟩ ⟨_, x14, hCv_b⟩ (fun j9 h9 => (f11 j9 (by omega)).trans (hfv j9 (by omega))) (by rw [← hs12]; exact hk))
                          · have c153 := mt (nI_leI (a := B 0 6) (b := k) (by omega) (by omega)).mpr c153
                            refine g_aload_n E dX13_fitting_156 rfl rfl rfl ?_
                            refine g_getf E gciX13 dX13_fitting_157 hMv_a 29 rfl (by decide) q1769 (.inl rfl) (.ref 2008) (hMv_29) rfl ?_
                            refine g_iload_n E dX13_fitting_160 rfl rfl rfl ?_
                            refine g_dup2 E dX13_fitting_161 rfl rfl rfl ?_
                            refine g_iald E dX13_fitting_162 (j := k) hCv_a (rfl) (by omega) (by decide) (v := S.2.1 k) ((hCv_b k (by omega)).trans zLf_o) rfl ?_
                            refine g_iconst E (v := 1) dX13_fitting_163 (by decide) rfl ?_
                            refine g_aload_n E dX13_fitting_164 rfl rfl rfl ?_
                            refine g_getf E gciX13 dX13_fitting_165 hMv_a 28 rfl (by decide) q1768 (.inl rfl) (.ref 2007) (hMv_28) rfl ?_
                            refine g_iload_n E dX13_fitting_168 rfl rfl rfl ?_
                            refine g_iald E dX13_fitting_169 (j := k) hRv (rfl) (by omega) (by decide) (v := nI ((fun i => if i = c then t else w i) k)) (hRv_b k (by omega)) rfl ?_
                            refine g_ishl E dX13_fitting_170 rfl ?_
                            refine g_ior E dX13_fitting_171 rfl ?_
                            refine g_iast E dX13_fitting_172 (j := k) hCv_a (rfl) (by omega) (by decide) rfl (g_upk (fun g15 h15 f15 => ?_))
                            refine g_iinc E dX13_fitting_173 rfl (v := nI (k + 1)) (nI_c _) (by decide) rfl (lo1 := [some (.ref 2000), some (.int (nI c)), some (.int (nI (k + 1)))]) rfl rfl ?_
                            refine g_goto E dX13_fitting_176 (tgt := 145) (by decide) ?_
                            have x16 := (f15 (2000) (by omega)).trans (hMv_a)
                            have x17 := (f15 (2007) (by omega)).trans (hRv)
                            exact ih145 (k + 1) g15 (by omega) (by omega) (⟨_, x16, hMv_0, hMv_1, hMv_2, hMv_3, hMv_5, hMv_6, hMv_12, hMv_15, hMv_16, hMv_17, hMv_18, hMv_19, hMv_20, hMv_26, hMv_28, hMv_29, hMv_30, trivial⟩) x17 ⟨_, h15, updLo (w := (fun i => if i = c then t else w i)) hCv_b⟩ (fun j9 h9 => (f15 j9 (by omega)).trans (hfv j9 (by omega)))
                      have x18 := (f9 (2007) (by omega)).trans (hRw_a)
                      have x19 := (f9 (2008) (by omega)).trans (hCw_a)
                      exact lp145 (c + 2) 0 g9 (Nat.zero_le _) (by omega) (⟨_, h9, hMw_0, hMw_1, hMw_2, hMw_3, hMw_5, hMw_6, hMw_12, hMw_15, hMw_16, hMw_17, hMw_18, hMw_19, hMw_20, hMw_26, hMw_28, hMw_29, rfl, trivial⟩) x18 ⟨_, x19, fun i9 h9 => (hCw_b i9 h9).trans (zLf_z (w := (fun i => if i = c then t else w i))).symm⟩ (fun j9 h9 => (f9 j9 (by omega)).trans (hfw j9 (by omega)))
                    · have c117 := mt (nI_leI (a := B 0 6) (b := c + 1) (by omega) (by omega)).mpr c117
                      exact absurd c117 (by omega)
                  · have c98 := mt (nI_ltI (a := t) (b := B 0 1) (by omega) (by omega)).mpr c98
                    exact absurd c98 (by omega)
                · have c69 := zb_0.mp c69
                  refine g_aload_n E dX13_fitting_72 rfl rfl rfl ?_
                  refine g_getf E gciX13 dX13_fitting_73 hMw_a 28 rfl (by decide) q1768 (.inl rfl) (.ref 2007) (hMw_28) rfl ?_
                  refine g_iload_n E dX13_fitting_76 rfl rfl rfl ?_
                  refine g_dup2 E dX13_fitting_77 rfl rfl rfl ?_
                  refine g_iald E dX13_fitting_78 (j := c) hRw_a (rfl) (by omega) (by decide) (v := nI t) (hRw_c) rfl ?_
                  refine g_iconst E (v := 1) dX13_fitting_79 (by decide) rfl ?_
                  refine g_iadd E dX13_fitting_80 rfl ?_
                  refine g_as (y := nI (t + 1)) ((nI_succ t).symm) ?_
                  refine g_iast E dX13_fitting_81 (j := c) hRw_a (rfl) (by omega) (by decide) rfl (g_upk (fun g20 h20 f20 => ?_))
                  refine g_goto E dX13_fitting_82 (tgt := 48) (by decide) ?_
                  have hs21 : zStp B 0 w c S t = S := zStp_n c69
                  have x22 := (f20 (2000) (by omega)).trans (hMw_a)
                  have x23 := (f20 (2008) (by omega)).trans (hCw_a)
                  exact ihm (t + 1) S g20 hcn (by omega) hwb (⟨_, x22, hMw_0, hMw_1, hMw_2, hMw_3, hMw_5, hMw_6, hMw_12, hMw_15, hMw_16, hMw_17, hMw_18, hMw_19, hMw_20, hMw_26, hMw_28, hMw_29, hMw_30, trivial⟩) ⟨_, h20, rowU hRw_w (Nat.le_refl _), upd_s⟩ ⟨_, x23, hCw_b⟩ (fun j9 h9 => (f20 j9 (by omega)).trans (hfw j9 (by omega))) (by rw [← hs21]; exact hk)
          | succ n ihn =>
            intro c w m
            induction m with
            | zero =>
              intro t S gw hcn htm hwb hMw hRw hCw hfw hk
              have hMw_o := hMw
              obtain ⟨hMw_F, hMw_a, hMw_0, hMw_1, hMw_2, hMw_3, hMw_5, hMw_6, hMw_12, hMw_15, hMw_16, hMw_17, hMw_18, hMw_19, hMw_20, hMw_26, hMw_28, hMw_29, hMw_30, -⟩ := hMw_o
              have hRw_o := hRw
              obtain ⟨hRw_f, hRw_a, hRw_w, hRw_c⟩ := hRw_o
              have hCw_o := hCw
              obtain ⟨hCw_f, hCw_a, hCw_b⟩ := hCw_o
              have hcx := hw.crumb (c := c) (by omega)
              refine g_aload_n E dX13_fitting_48 rfl rfl rfl ?_
              refine g_getf E gciX13 dX13_fitting_49 hMw_a 28 rfl (by decide) q1768 (.inl rfl) (.ref 2007) (hMw_28) rfl ?_
              refine g_iload_n E dX13_fitting_52 rfl rfl rfl ?_
              refine g_iald E dX13_fitting_53 (j := c) hRw_a (rfl) (by omega) (by decide) (v := nI t) (hRw_c) rfl ?_
              refine g_aload_n E dX13_fitting_54 rfl rfl rfl ?_
              refine g_getf E gciX13 dX13_fitting_55 hMw_a 3 rfl (by decide) q1743 (.inl rfl) (.ref mb) (hMw_3) rfl ?_
              have x24 := (hfw (mb) (by omega)).trans (hMb_a)
              refine g_getfN E gciX27 dX13_fitting_58 x24 3 rfl (by decide) q1860 (.inl rfl) (.int (nI (B 0 1))) (hMb_3) rfl ?_
              refine g_icmp_ge E dX13_fitting_61 (tgt := 85) (by decide) rfl (fun c61 => ?_) (fun c61 => ?_)
              · have c61 := (nI_leI (a := B 0 1) (b := t) (by omega) (by omega)).mp c61
                refine g_aload_n E dX13_fitting_85 rfl rfl rfl ?_
                refine g_getf E gciX13 dX13_fitting_86 hMw_a 28 rfl (by decide) q1768 (.inl rfl) (.ref 2007) (hMw_28) rfl ?_
                refine g_iload_n E dX13_fitting_89 rfl rfl rfl ?_
                refine g_iald E dX13_fitting_90 (j := c) hRw_a (rfl) (by omega) (by decide) (v := nI t) (hRw_c) rfl ?_
                refine g_aload_n E dX13_fitting_91 rfl rfl rfl ?_
                refine g_getf E gciX13 dX13_fitting_92 hMw_a 3 rfl (by decide) q1743 (.inl rfl) (.ref mb) (hMw_3) rfl ?_
                refine g_getfN E gciX27 dX13_fitting_95 x24 3 rfl (by decide) q1860 (.inl rfl) (.int (nI (B 0 1))) (hMb_3) rfl ?_
                refine g_icmp_lt E dX13_fitting_98 (tgt := 107) (by decide) rfl (fun c98 => ?_) (fun c98 => ?_)
                · have c98 := (nI_ltI (a := t) (b := B 0 1) (by omega) (by omega)).mp c98
                  exact absurd c98 (by omega)
                · have c98 := mt (nI_ltI (a := t) (b := B 0 1) (by omega) (by omega)).mpr c98
                  refine g_iinc E dX13_fitting_101 rfl (v := nI c + (-1)) (rfl) (by decide) rfl (lo1 := [some (.ref 2000), some (.int (nI c + (-1))), none]) rfl rfl ?_
                  refine g_goto E dX13_fitting_104 (tgt := 34) (by decide) ?_
                  exact hk gw (⟨_, hMw_a, hMw_0, hMw_1, hMw_2, hMw_3, hMw_5, hMw_6, hMw_12, hMw_15, hMw_16, hMw_17, hMw_18, hMw_19, hMw_20, hMw_26, hMw_28, hMw_29, hMw_30, trivial⟩) ⟨_, hRw_a, hRw_w⟩ ⟨_, hCw_a, hCw_b⟩ (fun j9 h9 => hfw j9 (by omega))
              · have c61 := mt (nI_leI (a := B 0 1) (b := t) (by omega) (by omega)).mpr c61
                exact absurd c61 (by omega)
            | succ m ihm =>
              intro t S gw hcn htm hwb hMw hRw hCw hfw hk
              have hMw_o := hMw
              obtain ⟨hMw_F, hMw_a, hMw_0, hMw_1, hMw_2, hMw_3, hMw_5, hMw_6, hMw_12, hMw_15, hMw_16, hMw_17, hMw_18, hMw_19, hMw_20, hMw_26, hMw_28, hMw_29, hMw_30, -⟩ := hMw_o
              have hRw_o := hRw
              obtain ⟨hRw_f, hRw_a, hRw_w, hRw_c⟩ := hRw_o
              have hCw_o := hCw
              obtain ⟨hCw_f, hCw_a, hCw_b⟩ := hCw_o
              have hcx := hw.crumb (c := c) (by omega)
              refine g_aload_n E dX13_fitting_48 rfl rfl rfl ?_
              refine g_getf E gciX13 dX13_fitting_49 hMw_a 28 rfl (by decide) q1768 (.inl rfl) (.ref 2007) (hMw_28) rfl ?_
              refine g_iload_n E dX13_fitting_52 rfl rfl rfl ?_
              refine g_iald E dX13_fitting_53 (j := c) hRw_a (rfl) (by omega) (by decide) (v := nI t) (hRw_c) rfl ?_
              refine g_aload_n E dX13_fitting_54 rfl rfl rfl ?_
              refine g_getf E gciX13 dX13_fitting_55 hMw_a 3 rfl (by decide) q1743 (.inl rfl) (.ref mb) (hMw_3) rfl ?_
              have x25 := (hfw (mb) (by omega)).trans (hMb_a)
              refine g_getfN E gciX27 dX13_fitting_58 x25 3 rfl (by decide) q1860 (.inl rfl) (.int (nI (B 0 1))) (hMb_3) rfl ?_
              refine g_icmp_ge E dX13_fitting_61 (tgt := 85) (by decide) rfl (fun c61 => ?_) (fun c61 => ?_)
              · have c61 := (nI_leI (a := B 0 1) (b := t) (by omega) (by omega)).mp c61
                exact absurd c61 (by omega)
              · have c61 := mt (nI_leI (a := B 0 1) (b := t) (by omega) (by omega)).mpr c61
                refine g_aload_n E dX13_fitting_64 rfl rfl rfl ?_
                refine g_iload_n E dX13_fitting_65 rfl rfl rfl ?_
                have hM26 : pMq gw (.ref mb) th tr wh tp fa ac mk [] := ⟨_, hMw_a, hMw_0, hMw_1, hMw_2, hMw_3, hMw_5, hMw_6, hMw_12, hMw_15, hMw_16, hMw_17, hMw_18, hMw_19, hMw_20, hMw_26, hMw_28, hMw_29, trivial⟩
                have y27 := (hMb.fr  (fun j9 a9 b9 => hfw j9 (by omega)))
                refine g_callV (k := 2000) (n9 := 1) (av := [.int (nI c)]) (st := []) E (ct_X13_isRow l hw hM26 y27 (⟨_, hRw_a, hRw_w, hRw_c⟩) (by omega) (by omega) hwb) gciX13 dX13_fitting_66 hMw_a q2451 q2453 qs112 q135 q2454 (by decide +kernel) rfl rfl ⟨by decide, by decide⟩ ⟨by decide, by decide⟩ (Nat.le_of_ble_eq_true rfl) rfl (gPu.k ?_)
                refine g_if_ne E dX13_fitting_69 (tgt := 85) (by decide) rfl (fun c69 => ?_) (fun c69 => ?_)
                · have c69 := zb_n0.mp c69
                  refine g_aload_n E dX13_fitting_85 rfl rfl rfl ?_
                  refine g_getf E gciX13 dX13_fitting_86 hMw_a 28 rfl (by decide) q1768 (.inl rfl) (.ref 2007) (hMw_28) rfl ?_
                  refine g_iload_n E dX13_fitting_89 rfl rfl rfl ?_
                  refine g_iald E dX13_fitting_90 (j := c) hRw_a (rfl) (by omega) (by decide) (v := nI t) (hRw_c) rfl ?_
                  refine g_aload_n E dX13_fitting_91 rfl rfl rfl ?_
                  refine g_getf E gciX13 dX13_fitting_92 hMw_a 3 rfl (by decide) q1743 (.inl rfl) (.ref mb) (hMw_3) rfl ?_
                  refine g_getfN E gciX27 dX13_fitting_95 x25 3 rfl (by decide) q1860 (.inl rfl) (.int (nI (B 0 1))) (hMb_3) rfl ?_
                  refine g_icmp_lt E dX13_fitting_98 (tgt := 107) (by decide) rfl (fun c98 => ?_) (fun c98 => ?_)
                  · have c98 := (nI_ltI (a := t) (b := B 0 1) (by omega) (by omega)).mp c98
                    refine g_iload_n E dX13_fitting_107 rfl rfl rfl ?_
                    refine g_iconst E (v := 1) dX13_fitting_108 (by decide) rfl ?_
                    refine g_iadd E dX13_fitting_109 rfl ?_
                    refine g_as (y := nI (c + 1)) ((nI_succ c).symm) ?_
                    refine g_aload_n E dX13_fitting_110 rfl rfl rfl ?_
                    refine g_getf E gciX13 dX13_fitting_111 hMw_a 3 rfl (by decide) q1743 (.inl rfl) (.ref mb) (hMw_3) rfl ?_
                    refine g_getfN E gciX27 dX13_fitting_114 x25 8 rfl (by decide) q1865 (.inl rfl) (.int (nI (B 0 6))) (hMb_8) rfl ?_
                    refine g_icmp_ge E dX13_fitting_117 (tgt := 133) (by decide) rfl (fun c117 => ?_) (fun c117 => ?_)
                    · have c117 := (nI_leI (a := B 0 6) (b := c + 1) (by omega) (by omega)).mp c117
                      exact absurd c117 (by omega)
                    · have c117 := mt (nI_leI (a := B 0 6) (b := c + 1) (by omega) (by omega)).mpr c117
                      refine g_iinc E dX13_fitting_120 rfl (v := nI (c + 1)) (nI_c _) (by decide) rfl (lo1 := [some (.ref 2000), some (.int (nI (c + 1))), none]) rfl rfl ?_
                      refine g_aload_n E dX13_fitting_123 rfl rfl rfl ?_
                      refine g_getf E gciX13 dX13_fitting_124 hMw_a 28 rfl (by decide) q1768 (.inl rfl) (.ref 2007) (hMw_28) rfl ?_
                      refine g_iload_n E dX13_fitting_127 rfl rfl rfl ?_
                      refine g_iconst E (v := (-1)) dX13_fitting_128 (by decide) rfl ?_
                      refine g_iast E dX13_fitting_129 (j := c + 1) hRw_a (rfl) (by omega) (by decide) rfl (g_upk (fun g28 h28 f28 => ?_))
                      refine g_goto E dX13_fitting_130 (tgt := 34) (by decide) ?_
                      refine g_iload_n E dX13_fitting_34 rfl rfl rfl ?_
                      refine g_if_lt E dX13_fitting_35 (tgt := 182) (by decide) rfl (fun c35 => ?_) (fun c35 => ?_)
                      · have c35 := (nI_ltI (a := c + 1) (b := 0) (by omega) (by omega)).mp c35
                        exact absurd c35 (by omega)
                      · have c35 := mt (nI_ltI (a := c + 1) (b := 0) (by omega) (by omega)).mpr c35
                        refine g_aload_n E dX13_fitting_38 rfl rfl rfl ?_
                        have x29 := (f28 (2000) (by omega)).trans (hMw_a)
                        refine g_getf E gciX13 dX13_fitting_39 x29 28 rfl (by decide) q1768 (.inl rfl) (.ref 2007) (hMw_28) rfl ?_
                        refine g_iload_n E dX13_fitting_42 rfl rfl rfl ?_
                        refine g_dup2 E dX13_fitting_43 rfl rfl rfl ?_
                        refine g_iald E dX13_fitting_44 (j := c + 1) h28 (rfl) (by omega) (by decide) (v := (-1)) (upd_s) rfl ?_
                        refine g_iconst E (v := 1) dX13_fitting_45 (by decide) rfl ?_
                        refine g_iadd E dX13_fitting_46 rfl ?_
                        refine g_as (y := nI 0) (rfl) ?_
                        refine g_iast E dX13_fitting_47 (j := c + 1) h28 (rfl) (by omega) (by decide) rfl (g_upk (fun g30 h30 f30 => ?_))
                        have x31 := (f30 (2000) (by omega)).trans (x29)
                        have x32 := (f30 (2008) (by omega)).trans ((f28 (2008) (by omega)).trans (hCw_a))
                        refine ihn (c + 1) (fun i => if i = c then t else w i) (B 0 1) 0 S g30 (by omega) (by omega) (wlS hwb (by omega)) (⟨_, x31, hMw_0, hMw_1, hMw_2, hMw_3, hMw_5, hMw_6, hMw_12, hMw_15, hMw_16, hMw_17, hMw_18, hMw_19, hMw_20, hMw_26, hMw_28, hMw_29, hMw_30, trivial⟩) ⟨_, h30, rowU (rowU (rowS hRw_w hRw_c) (Nat.le_refl _)) (Nat.le_refl _), upd_s⟩ ⟨_, x32, hCw_b⟩ (fun j9 h9 => ((f30 j9 (by omega)).trans (f28 j9 (by omega))).trans (hfw j9 (by omega))) (fun gx hMx hRx hCx hfx => ?_)
                        have hMx_o := hMx
                        obtain ⟨hMx_F, hMx_a, hMx_0, hMx_1, hMx_2, hMx_3, hMx_5, hMx_6, hMx_12, hMx_15, hMx_16, hMx_17, hMx_18, hMx_19, hMx_20, hMx_26, hMx_28, hMx_29, hMx_30, -⟩ := hMx_o
                        obtain ⟨hRx_f, hRx_a, hRx_b⟩ := hRx
                        obtain ⟨hCx_f, hCx_a, hCx_b⟩ := hCx
                        have hRx_c : hRx_f c = nI t := (hRx_b c (by omega)).trans (by show nI (if c = c then t else w c) = _; rw [if_pos rfl])
                        have hRx_w : ∀ i, i < c → hRx_f i = nI (w i) := fun i9 h9 => (hRx_b i9 (by omega)).trans (by show nI (if i9 = c then t else w i9) = _; rw [if_neg (by omega)])
                        refine g_lo (lo1 := [some (.ref 2000), some (.int (nI c)), none]) (by rw [nI_succ, show ((-1 : Int32)) = -1 from rfl, show nI c + 1 + (-1) = nI c by rw [← Int32.sub_eq_add_neg, Int32.add_sub_cancel]]) ?_
                        refine g_iload_n E dX13_fitting_34 rfl rfl rfl ?_
                        refine g_if_lt E dX13_fitting_35 (tgt := 182) (by decide) rfl (fun c35 => ?_) (fun c35 => ?_)
                        · have c35 := (nI_ltI (a := c) (b := 0) (by omega) (by omega)).mp c35
                          exact absurd c35 (by omega)
                        · have c35 := mt (nI_ltI (a := c) (b := 0) (by omega) (by omega)).mpr c35
                          refine g_aload_n E dX13_fitting_38 rfl rfl rfl ?_
                          refine g_getf E gciX13 dX13_fitting_39 hMx_a 28 rfl (by decide) q1768 (.inl rfl) (.ref 2007) (hMx_28) rfl ?_
                          refine g_iload_n E dX13_fitting_42 rfl rfl rfl ?_
                          refine g_dup2 E dX13_fitting_43 rfl rfl rfl ?_
                          refine g_iald E dX13_fitting_44 (j := c) hRx_a (rfl) (by omega) (by decide) (v := nI t) (hRx_c) rfl ?_
                          refine g_iconst E (v := 1) dX13_fitting_45 (by decide) rfl ?_
                          refine g_iadd E dX13_fitting_46 rfl ?_
                          refine g_as (y := nI (t + 1)) ((nI_succ t).symm) ?_
                          refine g_iast E dX13_fitting_47 (j := c) hRx_a (rfl) (by omega) (by decide) rfl (g_upk (fun g33 h33 f33 => ?_))
                          have hs34 : zStp B (n + 1) w c S t = (zFr B n (fun i => if i = c then t else w i) (c + 1) (B 0 1) 0 S) := zStp_s c69
                          have x35 := (f33 (2000) (by omega)).trans (hMx_a)
                          have x36 := (f33 (2008) (by omega)).trans (hCx_a)
                          exact ihm (t + 1) (zFr B n (fun i => if i = c then t else w i) (c + 1) (B 0 1) 0 S) g33 hcn (by omega) hwb (⟨_, x35, hMx_0, hMx_1, hMx_2, hMx_3, hMx_5, hMx_6, hMx_12, hMx_15, hMx_16, hMx_17, hMx_18, hMx_19, hMx_20, hMx_26, hMx_28, hMx_29, hMx_30, trivial⟩) ⟨_, h33, rowU hRx_w (Nat.le_refl _), upd_s⟩ ⟨_, x36, hCx_b⟩ (fun j9 h9 => (f33 j9 (by omega)).trans (hfx j9 (by omega))) (by rw [← hs34]; exact hk)
                  · have c98 := mt (nI_ltI (a := t) (b := B 0 1) (by omega) (by omega)).mpr c98
                    exact absurd c98 (by omega)
                · have c69 := zb_0.mp c69
                  refine g_aload_n E dX13_fitting_72 rfl rfl rfl ?_
                  refine g_getf E gciX13 dX13_fitting_73 hMw_a 28 rfl (by decide) q1768 (.inl rfl) (.ref 2007) (hMw_28) rfl ?_
                  refine g_iload_n E dX13_fitting_76 rfl rfl rfl ?_
                  refine g_dup2 E dX13_fitting_77 rfl rfl rfl ?_
                  refine g_iald E dX13_fitting_78 (j := c) hRw_a (rfl) (by omega) (by decide) (v := nI t) (hRw_c) rfl ?_
                  refine g_iconst E (v := 1) dX13_fitting_79 (by decide) rfl ?_
                  refine g_iadd E dX13_fitting_80 rfl ?_
                  refine g_as (y := nI (t + 1)) ((nI_succ t).symm) ?_
                  refine g_iast E dX13_fitting_81 (j := c) hRw_a (rfl) (by omega) (by decide) rfl (g_upk (fun g37 h37 f37 => ?_))
                  refine g_goto E dX13_fitting_82 (tgt := 48) (by decide) ?_
                  have hs38 : zStp B (n + 1) w c S t = S := zStp_n c69
                  have x39 := (f37 (2000) (by omega)).trans (hMw_a)
                  have x40 := (f37 (2008) (by omega)).trans (hCw_a)
                  exact ihm (t + 1) S g37 hcn (by omega) hwb (⟨_, x39, hMw_0, hMw_1, hMw_2, hMw_3, hMw_5, hMw_6, hMw_12, hMw_15, hMw_16, hMw_17, hMw_18, hMw_19, hMw_20, hMw_26, hMw_28, hMw_29, hMw_30, trivial⟩) ⟨_, h37, rowU hRw_w (Nat.le_refl _), upd_s⟩ ⟨_, x40, hCw_b⟩ (fun j9 h9 => (f37 j9 (by omega)).trans (hfw j9 (by omega))) (by rw [← hs38]; exact hk)
        have x41 := (f4 (2000) (by omega)).trans (x3)
        have x42 := (f4 (2008) (by omega)).trans ((f2 (2008) (by omega)).trans (hZw_a))
        refine main n0 0 (fun _ => 0) (B 0 1) 0 (0, (fun _ => 0), fun _ => 15) g4 (by omega) (by omega) (fun i9 h9 => absurd h9 (Nat.not_lt_zero i9)) (⟨_, x41, hMz_0, hMz_1, hMz_2, hMz_3, hMz_5, hMz_6, hMz_12, hMz_15, hMz_16, hMz_17, hMz_18, hMz_19, hMz_20, hMz_26, hMz_28, hMz_29, hMz_30, trivial⟩) ⟨_, h4, fun i9 h9 => absurd h9 (Nat.not_lt_zero i9), upd_s⟩ ⟨_, x42, fun i9 h9 => hZw_r i9 (by omega)⟩ (fun j9 h9 => ((f4 j9 (by omega)).trans (f2 j9 (by omega))).trans (hfz j9 (by omega))) (fun gy hMy hRy hCy hfy => ?_)
        rw [← zTr_r, ← hn0] at hMy hCy
        have hMy_o := hMy
        obtain ⟨hMy_F, hMy_a, hMy_0, hMy_1, hMy_2, hMy_3, hMy_5, hMy_6, hMy_12, hMy_15, hMy_16, hMy_17, hMy_18, hMy_19, hMy_20, hMy_26, hMy_28, hMy_29, hMy_30, -⟩ := hMy_o
        obtain ⟨hRy_f, hRy_a, -⟩ := hRy
        refine g_lo (lo1 := [some (.ref 2000), some (.int (-1)), none]) rfl ?_
        refine g_iload_n E dX13_fitting_34 rfl rfl rfl ?_
        refine g_if_lt E dX13_fitting_35 (tgt := 182) (by decide) rfl (fun _ => ?_) (fun h9 => absurd h9 (by decide))
        exact g_vret E Rt dX13_fitting_182 rfl (by decide) (by decide) (⟨rfl, ⟨_, hMy_a, hMy_0, hMy_1, hMy_2, hMy_3, hMy_5, hMy_6, hMy_12, hMy_15, hMy_16, hMy_17, hMy_18, hMy_19, hMy_20, hMy_26, hMy_28, hMy_29, hMy_30, trivial⟩, ⟨_, hRy_a⟩, hCy, fun j9 h9 => hfy j9 (by omega)⟩)
      · have c9 := mt (nI_leI (a := 5) (b := k) (by omega) (by omega)).mpr c9
        refine g_aload_n E dX13_fitting_12 rfl rfl rfl ?_
        refine g_getf E gciX13 dX13_fitting_13 hMz_a 29 rfl (by decide) q1769 (.inl rfl) (.ref 2008) (hMz_29) rfl ?_
        refine g_iload_n E dX13_fitting_16 rfl rfl rfl ?_
        refine g_iconst E (v := 0) dX13_fitting_17 (by decide) rfl ?_
        refine g_iast E dX13_fitting_18 (j := k) hZw_a (rfl) (by omega) (by decide) rfl (g_upk (fun g43 h43 f43 => ?_))
        refine g_iinc E dX13_fitting_19 rfl (v := nI (k + 1)) (nI_c _) (by decide) rfl (lo1 := [some (.ref 2000), some (.int (nI (k + 1))), none]) rfl rfl ?_
        refine g_goto E dX13_fitting_22 (tgt := 7) (by decide) ?_
        have x44 := (f43 (2000) (by omega)).trans (hMz_a)
        have x45 := (f43 (2007) (by omega)).trans (hZq)
        exact ih7 (k + 1) g43 (by omega) (by omega) (⟨_, x44, hMz_0, hMz_1, hMz_2, hMz_3, hMz_5, hMz_6, hMz_12, hMz_15, hMz_16, hMz_17, hMz_18, hMz_19, hMz_20, hMz_26, hMz_28, hMz_29, hMz_30, trivial⟩) x45 ⟨_, h43, upd0 hZw_r⟩ (fun j9 h9 => (f43 j9 (by omega)).trans (hfz j9 (by omega)))
  have x46 := (f1 (2007) (by omega)).trans (hRq_a)
  have x47 := (f1 (2008) (by omega)).trans (hCq_a)
  exact lp7 (5 + 1) 0 g1 (by decide) (by decide) (⟨_, h1, hM_0, hM_1, hM_2, hM_3, hM_5, hM_6, hM_12, hM_15, hM_16, hM_17, hM_18, hM_19, hM_20, hM_26, hM_28, hM_29, rfl, trivial⟩) x46 ⟨_, x47, fun i9 h9 => absurd h9 (Nat.not_lt_zero i9)⟩ (fun j9 h9 => f1 j9 (by omega))
set_option maxHeartbeats 1000000 in
theorem ct_X13_fits (l : Launch) {g : gWM} {mb : Nat} {B : gBar} {R : Nat → Int32} {d : Int32} {th tr wh fa : Int32} {tp ac mk : Nat}  (hw : wfB B) (hM : pMq g (.ref mb) th tr wh tp fa ac mk []) (hMb : pMb g mb B) (hV : pRw g 2002 B R d) (hX : pIx g 2003 18) (h9 : 10000 ≤ mb) (hRq : pIx g 2007 5) (hCq : pIx g 2008 5) : gCt l yX13_fits cX13_fits 1 (some .int) 4 0 0 89 [.ref 2000] g (gPi (sFit true B).1 (fun g1 => pMq g1 (.ref mb) 0 ((sFit true B).2) (-1) tp fa ac mk [] ∧ pIx g1 2007 5 ∧ pIx g1 2008 5 ∧ ∀ j, (j ≠ 2000 ∧ j ≠ 2007 ∧ j ≠ 2008) → g1 j = g j)) := by
  refine gCt.of RX13 (by decide) rfl (lo := [some (.ref 2000)]) 0 rfl (Nat.le_of_ble_eq_true rfl) (fun z E Rt => ?_)
  have hw_n := hw.1
  have hM_o := hM
  obtain ⟨hM_F, hM_a, hM_0, hM_1, hM_2, hM_3, hM_5, hM_6, hM_12, hM_15, hM_16, hM_17, hM_18, hM_19, hM_20, hM_26, hM_28, hM_29, -⟩ := hM_o
  have hMb_o := hMb
  obtain ⟨⟨hMb_F, hMb_a, hMb_0, hMb_1, hMb_2, hMb_3, hMb_4, hMb_5, hMb_6, hMb_7, hMb_8, hMb_9, hMb_11, hMb_12, hMb_13, hMb_14, hMb_15, hMb_16, hMb_17, hMb_18, hMb_19, hMb_20, hMb_21, hMb_22, hMb_23, hMb_24, hMb_25, hMb_26, hMb_27, hMb_28, hMb_29, hMb_30, hMb_31⟩, ⟨hMb_f1, hMb_a1, hMb_b1⟩, ⟨hMb_f2, hMb_a2, hMb_b2⟩, ⟨hMb_f3, hMb_a3, hMb_b3⟩, ⟨hMb_f4, hMb_a4, hMb_b4⟩, ⟨hMb_f5, hMb_a5, hMb_b5⟩, ⟨hMb_f6, hMb_a6, hMb_b6⟩, ⟨hMb_f7, hMb_a7, hMb_b7⟩, ⟨hMb_f8, hMb_a8, hMb_b8⟩, ⟨hMb_f9, hMb_a9, hMb_b9⟩, ⟨hMb_f10, hMb_a10, hMb_b10⟩, ⟨hMb_f11, hMb_a11, hMb_b11⟩, ⟨hMb_f12, hMb_a12, hMb_b12⟩, ⟨hMb_f13, hMb_a13, hMb_b13⟩, ⟨hMb_f14, hMb_a14, hMb_b14⟩, ⟨hMb_f15, hMb_a15, hMb_b15⟩, ⟨hMb_f16, hMb_a16, hMb_b16⟩, ⟨hMb_f17, hMb_a17, hMb_b17⟩, ⟨hMb_f18, hMb_a18, hMb_b18⟩, ⟨hMb_f19, hMb_a19, hMb_b19⟩, ⟨hMb_f20, hMb_a20, hMb_b20⟩, ⟨hMb_f21, hMb_a21, hMb_b21⟩⟩ := hMb_o
  have hV_o := hV
  obtain ⟨hV_f, hV_a, hV_r, hV_d⟩ := hV_o
  have hX_o := hX
  obtain ⟨hX_f, hX_a⟩ := hX_o
  have hRq_o := hRq
  obtain ⟨hRq_f, hRq_a⟩ := hRq_o
  have hCq_o := hCq
  obtain ⟨hCq_f, hCq_a⟩ := hCq_o
  refine g_aload_n E dX13_fits_0 rfl rfl rfl ?_
  refine g_iconst E (v := 0) dX13_fits_1 (by decide) rfl ?_
  refine g_putf E gciX13 (v := .int 0) dX13_fits_2 hM_a 0 rfl (by decide) q1740 (.inl rfl) rfl (fun _ => rfl) (fun _ => rfl) rfl (g_upk (fun g1 h1 f1 => ?_))
  refine g_aload_n E dX13_fits_5 rfl rfl rfl ?_
  refine g_getf E gciX13 dX13_fits_6 h1 3 rfl (by decide) q1743 (.inl rfl) (.ref mb) (hM_3) rfl ?_
  refine g_ifnonnullY E dX13_fits_9 (tgt := 18) (by decide) ?_
  refine g_aload_n E dX13_fits_18 rfl rfl rfl ?_
  refine g_getf E gciX13 dX13_fits_19 h1 3 rfl (by decide) q1743 (.inl rfl) (.ref mb) (hM_3) rfl ?_
  have x2 := (f1 (mb) (by omega)).trans (hMb_a)
  refine g_getfN E gciX27 dX13_fits_22 x2 8 rfl (by decide) q1865 (.inl rfl) (.int (nI (B 0 6))) (hMb_8) rfl ?_
  refine g_if_ne E dX13_fits_25 (tgt := 35) (by decide) rfl (fun c25 => ?_) (fun c25 => ?_)
  · have c25 := mt (nI_eq (a := B 0 6) (b := 0) (by omega) (by omega)).mpr c25
    refine g_aload_n E dX13_fits_35 rfl rfl rfl ?_
    have hM3 : pMq g1 (.ref mb) 0 tr wh tp fa ac mk [] := ⟨_, h1, rfl, hM_1, hM_2, hM_3, hM_5, hM_6, hM_12, hM_15, hM_16, hM_17, hM_18, hM_19, hM_20, hM_26, hM_28, hM_29, trivial⟩
    have y4 := (hMb.fr  (fun j9 a9 b9 => f1 j9 (by omega)))
    have x5 := (f1 (2007) (by omega)).trans (hRq_a)
    have x6 := (f1 (2008) (by omega)).trans (hCq_a)
    refine g_callV (k := 2000) (n9 := 0) (av := []) (st := []) E (ct_X13_fitting l hw hM3 y4 (⟨_, x5⟩) (⟨_, x6⟩) (by omega) (by omega)) gciX13 dX13_fits_36 h1 q2447 q2449 qs111 q135 q2450 (by decide +kernel) rfl rfl ⟨by decide, by decide⟩ ⟨by decide, by decide⟩ (Nat.le_of_ble_eq_true rfl) rfl (gPn.k (fun g7 h7 => ?_))
    obtain ⟨hm7, ⟨hq7_f, hq7_a⟩, ⟨hc7_f, hc7_a, hc7_b⟩, f7⟩ := h7
    have hm7_o := hm7
    obtain ⟨hm7_F, hm7_a, hm7_0, hm7_1, hm7_2, hm7_3, hm7_5, hm7_6, hm7_12, hm7_15, hm7_16, hm7_17, hm7_18, hm7_19, hm7_20, hm7_26, hm7_28, hm7_29, hm7_30, -⟩ := hm7_o
    refine g_aload_n E dX13_fits_39 rfl rfl rfl ?_
    refine g_aload_n E dX13_fits_40 rfl rfl rfl ?_
    refine g_getf E gciX13 dX13_fits_41 hm7_a 30 rfl (by decide) q1770 (.inl rfl) (.int ((zSk B).1)) (hm7_30) rfl ?_
    have hM8 : pMq g7 (.ref mb) 0 tr wh tp fa ac mk [] := ⟨_, hm7_a, hm7_0, hm7_1, hm7_2, hm7_3, hm7_5, hm7_6, hm7_12, hm7_15, hm7_16, hm7_17, hm7_18, hm7_19, hm7_20, hm7_26, hm7_28, hm7_29, trivial⟩
    refine g_callV (k := 2000) (n9 := 1) (av := [.int ((zSk B).1)]) (st := []) E (ct_X13_fine l ((zSk B).1) hM8) gciX13 dX13_fits_44 hm7_a q2181 q2183 qs80 q135 q2184 (by decide +kernel) rfl rfl ⟨by decide, by decide⟩ ⟨by decide, by decide⟩ (Nat.le_of_ble_eq_true rfl) rfl (gPi.k (fun g9 h9 => ?_))
    obtain ⟨hm9, f9⟩ := h9
    have hm9_o := hm9
    obtain ⟨hm9_F, hm9_a, hm9_0, hm9_1, hm9_2, hm9_3, hm9_5, hm9_6, hm9_12, hm9_15, hm9_16, hm9_17, hm9_18, hm9_19, hm9_20, hm9_26, hm9_28, hm9_29, -⟩ := hm9_o
    have hs10 : sFit true B = ((zSk B).1, 0) := by first | (simp [sFit, c25]; done) | (simp [sFit, c25, qWy]; done)
    have x11 := (f9 (2007) (by omega)).trans (hq7_a)
    have x12 := (f9 (2008) (by omega)).trans (hc7_a)
    exact g_iret E Rt dX13_fits_47 rfl (by decide) (by decide) (by rw [hs10]; exact ⟨rfl, ⟨_, hm9_a, hm9_0, hm9_1, hm9_2, hm9_3, hm9_5, hm9_6, hm9_12, hm9_15, hm9_16, hm9_17, hm9_18, hm9_19, hm9_20, hm9_26, hm9_28, hm9_29, trivial⟩, ⟨_, x11⟩, ⟨_, x12⟩, fun j9 h9 => ((f9 j9 (by omega)).trans (f7 j9 (by omega))).trans (f1 j9 (by omega))⟩)
  · have c25 := (nI_eq (a := B 0 6) (b := 0) (by omega) (by omega)).mp c25
    refine g_aload_n E dX13_fits_28 rfl rfl rfl ?_
    refine g_bipush E (v := 6) dX13_fits_29 (by decide) rfl ?_
    have hM13 : pMq g1 (.ref mb) 0 tr wh tp fa ac mk [] := ⟨_, h1, rfl, hM_1, hM_2, hM_3, hM_5, hM_6, hM_12, hM_15, hM_16, hM_17, hM_18, hM_19, hM_20, hM_26, hM_28, hM_29, trivial⟩
    refine g_callV (k := 2000) (n9 := 1) (av := [.int 6]) (st := []) E (ct_X13_refused l 6 hM13) gciX13 dX13_fits_31 h1 q1846 q1848 qs52 q135 q1849 (by decide +kernel) rfl rfl ⟨by decide, by decide⟩ ⟨by decide, by decide⟩ (Nat.le_of_ble_eq_true rfl) rfl (gPi.k (fun g14 h14 => ?_))
    obtain ⟨hm14, f14⟩ := h14
    have hm14_o := hm14
    obtain ⟨hm14_F, hm14_a, hm14_0, hm14_1, hm14_2, hm14_3, hm14_5, hm14_6, hm14_12, hm14_15, hm14_16, hm14_17, hm14_18, hm14_19, hm14_20, hm14_26, hm14_28, hm14_29, -⟩ := hm14_o
    have hs15 : sFit true B = ((-1), 6) := by first | (simp [sFit, c25]; done) | (simp [sFit, c25, qWy]; done)
    have x16 := (f14 (2007) (by omega)).trans ((f1 (2007) (by omega)).trans (hRq_a))
    have x17 := (f14 (2008) (by omega)).trans ((f1 (2008) (by omega)).trans (hCq_a))
    exact g_iret E Rt dX13_fits_34 rfl (by decide) (by decide) (by rw [hs15]; exact ⟨rfl, ⟨_, hm14_a, hm14_0, hm14_1, hm14_2, hm14_3, hm14_5, hm14_6, hm14_12, hm14_15, hm14_16, hm14_17, hm14_18, hm14_19, hm14_20, hm14_26, hm14_28, hm14_29, trivial⟩, ⟨_, x16⟩, ⟨_, x17⟩, fun j9 h9 => (f14 j9 (by omega)).trans (f1 j9 (by omega))⟩)
set_option maxHeartbeats 1000000 in
theorem ct_X13_fits_N (l : Launch) {g : gWM} {th tr wh fa : Int32} {tp ac mk : Nat}  (hM : pMq g .null th tr wh tp fa ac mk []) : gCt l yX13_fits cX13_fits 1 (some .int) 1 0 0 21 [.ref 2000] g (gPi (sFit false zB0).1 (fun g1 => pMq g1 .null 0 ((sFit false zB0).2) (-1) tp fa ac mk [] ∧ ∀ j, j ≠ 2000 → g1 j = g j)) := by
  refine gCt.of RX13 (by decide) rfl (lo := [some (.ref 2000)]) 0 rfl (Nat.le_of_ble_eq_true rfl) (fun z E Rt => ?_)
  have hM_o := hM
  obtain ⟨hM_F, hM_a, hM_0, hM_1, hM_2, hM_3, hM_5, hM_6, hM_12, hM_15, hM_16, hM_17, hM_18, hM_19, hM_20, hM_26, hM_28, hM_29, -⟩ := hM_o
  refine g_aload_n E dX13_fits_0 rfl rfl rfl ?_
  refine g_iconst E (v := 0) dX13_fits_1 (by decide) rfl ?_
  refine g_putf E gciX13 (v := .int 0) dX13_fits_2 hM_a 0 rfl (by decide) q1740 (.inl rfl) rfl (fun _ => rfl) (fun _ => rfl) rfl (g_upk (fun g1 h1 f1 => ?_))
  refine g_aload_n E dX13_fits_5 rfl rfl rfl ?_
  refine g_getf E gciX13 dX13_fits_6 h1 3 rfl (by decide) q1743 (.inl rfl) (.null) (hM_3) rfl ?_
  refine g_ifnonnullN E dX13_fits_9 rfl ?_
  refine g_aload_n E dX13_fits_12 rfl rfl rfl ?_
  refine g_iconst E (v := 1) dX13_fits_13 (by decide) rfl ?_
  have hM2 : pMq g1 .null 0 tr wh tp fa ac mk [] := ⟨_, h1, rfl, hM_1, hM_2, hM_3, hM_5, hM_6, hM_12, hM_15, hM_16, hM_17, hM_18, hM_19, hM_20, hM_26, hM_28, hM_29, trivial⟩
  refine g_callV (k := 2000) (n9 := 1) (av := [.int 1]) (st := []) E (ct_X13_refused l 1 hM2) gciX13 dX13_fits_14 h1 q1846 q1848 qs52 q135 q1849 (by decide +kernel) rfl rfl ⟨by decide, by decide⟩ ⟨by decide, by decide⟩ (Nat.le_of_ble_eq_true rfl) rfl (gPi.k (fun g3 h3 => ?_))
  obtain ⟨hm3, f3⟩ := h3
  have hm3_o := hm3
  obtain ⟨hm3_F, hm3_a, hm3_0, hm3_1, hm3_2, hm3_3, hm3_5, hm3_6, hm3_12, hm3_15, hm3_16, hm3_17, hm3_18, hm3_19, hm3_20, hm3_26, hm3_28, hm3_29, -⟩ := hm3_o
  have hs4 : sFit false zB0 = ((-1), 1) := by first | (simp [sFit, qI_z, qWy]; done) | (simp [sFit, qI_z, qWy, qWy]; done)
  exact g_iret E Rt dX13_fits_17 rfl (by decide) (by decide) (by rw [hs4]; exact ⟨rfl, ⟨_, hm3_a, hm3_0, hm3_1, hm3_2, hm3_3, hm3_5, hm3_6, hm3_12, hm3_15, hm3_16, hm3_17, hm3_18, hm3_19, hm3_20, hm3_26, hm3_28, hm3_29, trivial⟩, fun j9 h9 => (f3 j9 (by omega)).trans (f1 j9 (by omega))⟩)
set_option maxHeartbeats 1000000 in
theorem ct_X13_could (l : Launch) {g : gWM} {mb : Nat} {B : gBar} {R : Nat → Int32} {d : Int32} {th tr wh fa : Int32} {tp ac mk : Nat} (p : Int32) (hw : wfB B) (hM : pMq g (.ref mb) th tr wh tp fa ac mk []) (hMb : pMb g mb B) (hV : pRw g 2002 B R d) (hX : pIx g 2003 18) (h9 : 10000 ≤ mb) (hRq : pIx g 2007 5) (hCq : pIx g 2008 5) : gCt l yX13_could cX13_could 2 (some .int) 4 0 0 89 [.ref 2000, .int p] g (gPi (sCou B p).1 (fun g1 => pMq g1 (.ref mb) 0 ((sCou B p).2) (-1) tp fa ac mk [] ∧ pIx g1 2007 5 ∧ pIx g1 2008 5 ∧ ∀ j, (j ≠ 2000 ∧ j ≠ 2007 ∧ j ≠ 2008) → g1 j = g j)) := by
  refine gCt.of RX13 (by decide) rfl (lo := [some (.ref 2000), some (.int p)]) 0 rfl (Nat.le_of_ble_eq_true rfl) (fun z E Rt => ?_)
  have hw_n := hw.1
  have hM_o := hM
  obtain ⟨hM_F, hM_a, hM_0, hM_1, hM_2, hM_3, hM_5, hM_6, hM_12, hM_15, hM_16, hM_17, hM_18, hM_19, hM_20, hM_26, hM_28, hM_29, -⟩ := hM_o
  have hMb_o := hMb
  obtain ⟨⟨hMb_F, hMb_a, hMb_0, hMb_1, hMb_2, hMb_3, hMb_4, hMb_5, hMb_6, hMb_7, hMb_8, hMb_9, hMb_11, hMb_12, hMb_13, hMb_14, hMb_15, hMb_16, hMb_17, hMb_18, hMb_19, hMb_20, hMb_21, hMb_22, hMb_23, hMb_24, hMb_25, hMb_26, hMb_27, hMb_28, hMb_29, hMb_30, hMb_31⟩, ⟨hMb_f1, hMb_a1, hMb_b1⟩, ⟨hMb_f2, hMb_a2, hMb_b2⟩, ⟨hMb_f3, hMb_a3, hMb_b3⟩, ⟨hMb_f4, hMb_a4, hMb_b4⟩, ⟨hMb_f5, hMb_a5, hMb_b5⟩, ⟨hMb_f6, hMb_a6, hMb_b6⟩, ⟨hMb_f7, hMb_a7, hMb_b7⟩, ⟨hMb_f8, hMb_a8, hMb_b8⟩, ⟨hMb_f9, hMb_a9, hMb_b9⟩, ⟨hMb_f10, hMb_a10, hMb_b10⟩, ⟨hMb_f11, hMb_a11, hMb_b11⟩, ⟨hMb_f12, hMb_a12, hMb_b12⟩, ⟨hMb_f13, hMb_a13, hMb_b13⟩, ⟨hMb_f14, hMb_a14, hMb_b14⟩, ⟨hMb_f15, hMb_a15, hMb_b15⟩, ⟨hMb_f16, hMb_a16, hMb_b16⟩, ⟨hMb_f17, hMb_a17, hMb_b17⟩, ⟨hMb_f18, hMb_a18, hMb_b18⟩, ⟨hMb_f19, hMb_a19, hMb_b19⟩, ⟨hMb_f20, hMb_a20, hMb_b20⟩, ⟨hMb_f21, hMb_a21, hMb_b21⟩⟩ := hMb_o
  have hV_o := hV
  obtain ⟨hV_f, hV_a, hV_r, hV_d⟩ := hV_o
  have hX_o := hX
  obtain ⟨hX_f, hX_a⟩ := hX_o
  have hRq_o := hRq
  obtain ⟨hRq_f, hRq_a⟩ := hRq_o
  have hCq_o := hCq
  obtain ⟨hCq_f, hCq_a⟩ := hCq_o
  refine g_aload_n E dX13_could_0 rfl rfl rfl ?_
  refine g_iconst E (v := 0) dX13_could_1 (by decide) rfl ?_
  refine g_putf E gciX13 (v := .int 0) dX13_could_2 hM_a 0 rfl (by decide) q1740 (.inl rfl) rfl (fun _ => rfl) (fun _ => rfl) rfl (g_upk (fun g1 h1 f1 => ?_))
  refine g_aload_n E dX13_could_5 rfl rfl rfl ?_
  refine g_iload_n E dX13_could_6 rfl rfl rfl ?_
  have hM2 : pMq g1 (.ref mb) 0 tr wh tp fa ac mk [] := ⟨_, h1, rfl, hM_1, hM_2, hM_3, hM_5, hM_6, hM_12, hM_15, hM_16, hM_17, hM_18, hM_19, hM_20, hM_26, hM_28, hM_29, trivial⟩
  have y3 := (hMb.fr  (fun j9 a9 b9 => f1 j9 (by omega)))
  refine g_callV (k := 2000) (n9 := 1) (av := [.int p]) (st := []) E (ct_X13_isCrumb l p hw hM2 y3) gciX13 dX13_could_7 h1 q2463 q2465 qs114 q135 q2466 (by decide +kernel) rfl rfl ⟨by decide, by decide⟩ ⟨by decide, by decide⟩ (Nat.le_of_ble_eq_true rfl) rfl (gPu.k ?_)
  refine g_if_ne E dX13_could_10 (tgt := 19) (by decide) rfl (fun c10 => ?_) (fun c10 => ?_)
  · have c10 := zb_n0.mp c10
    obtain ⟨b9, q4⟩ := isSome_of c10
    obtain ⟨rfl, q4_l⟩ := qI_some (by omega) q4
    refine g_aload_n E dX13_could_19 rfl rfl rfl ?_
    have x5 := (f1 (2007) (by omega)).trans (hRq_a)
    have x6 := (f1 (2008) (by omega)).trans (hCq_a)
    refine g_callV (k := 2000) (n9 := 0) (av := []) (st := []) E (ct_X13_fitting l hw hM2 y3 (⟨_, x5⟩) (⟨_, x6⟩) (by omega) (by omega)) gciX13 dX13_could_20 h1 q2447 q2449 qs111 q135 q2450 (by decide +kernel) rfl rfl ⟨by decide, by decide⟩ ⟨by decide, by decide⟩ (Nat.le_of_ble_eq_true rfl) rfl (gPn.k (fun g7 h7 => ?_))
    obtain ⟨hm7, ⟨hq7_f, hq7_a⟩, ⟨hc7_f, hc7_a, hc7_b⟩, f7⟩ := h7
    have hm7_o := hm7
    obtain ⟨hm7_F, hm7_a, hm7_0, hm7_1, hm7_2, hm7_3, hm7_5, hm7_6, hm7_12, hm7_15, hm7_16, hm7_17, hm7_18, hm7_19, hm7_20, hm7_26, hm7_28, hm7_29, hm7_30, -⟩ := hm7_o
    refine g_aload_n E dX13_could_23 rfl rfl rfl ?_
    refine g_aload_n E dX13_could_24 rfl rfl rfl ?_
    refine g_getf E gciX13 dX13_could_25 hm7_a 29 rfl (by decide) q1769 (.inl rfl) (.ref 2008) (hm7_29) rfl ?_
    refine g_iload_n E dX13_could_28 rfl rfl rfl ?_
    refine g_iald E dX13_could_29 (j := b9) hc7_a (rfl) (by omega) (by decide) (v := (zSk B).2.1 b9) (hc7_b b9 (by omega)) rfl ?_
    have hM8 : pMq g7 (.ref mb) 0 tr wh tp fa ac mk [] := ⟨_, hm7_a, hm7_0, hm7_1, hm7_2, hm7_3, hm7_5, hm7_6, hm7_12, hm7_15, hm7_16, hm7_17, hm7_18, hm7_19, hm7_20, hm7_26, hm7_28, hm7_29, trivial⟩
    refine g_callV (k := 2000) (n9 := 1) (av := [.int ((zSk B).2.1 b9)]) (st := []) E (ct_X13_fine l ((zSk B).2.1 b9) hM8) gciX13 dX13_could_30 hm7_a q2181 q2183 qs80 q135 q2184 (by decide +kernel) rfl rfl ⟨by decide, by decide⟩ ⟨by decide, by decide⟩ (Nat.le_of_ble_eq_true rfl) rfl (gPi.k (fun g9 h9 => ?_))
    obtain ⟨hm9, f9⟩ := h9
    have hm9_o := hm9
    obtain ⟨hm9_F, hm9_a, hm9_0, hm9_1, hm9_2, hm9_3, hm9_5, hm9_6, hm9_12, hm9_15, hm9_16, hm9_17, hm9_18, hm9_19, hm9_20, hm9_26, hm9_28, hm9_29, -⟩ := hm9_o
    have hs10 : sCou B (nI b9) = ((zSk B).2.1 b9, 0) := by first | (simp [sCou, c10, q4]; done) | (simp [sCou, c10, q4, qWy]; done)
    have x11 := (f9 (2007) (by omega)).trans (hq7_a)
    have x12 := (f9 (2008) (by omega)).trans (hc7_a)
    exact g_iret E Rt dX13_could_33 rfl (by decide) (by decide) (by rw [hs10]; exact ⟨rfl, ⟨_, hm9_a, hm9_0, hm9_1, hm9_2, hm9_3, hm9_5, hm9_6, hm9_12, hm9_15, hm9_16, hm9_17, hm9_18, hm9_19, hm9_20, hm9_26, hm9_28, hm9_29, trivial⟩, ⟨_, x11⟩, ⟨_, x12⟩, fun j9 h9 => ((f9 j9 (by omega)).trans (f7 j9 (by omega))).trans (f1 j9 (by omega))⟩)
  · have c10 := zb_0.mp c10
    have q13 := isNone_of c10
    refine g_aload_n E dX13_could_13 rfl rfl rfl ?_
    refine g_iconst E (v := 1) dX13_could_14 (by decide) rfl ?_
    refine g_callV (k := 2000) (n9 := 1) (av := [.int 1]) (st := []) E (ct_X13_refused l 1 hM2) gciX13 dX13_could_15 h1 q1846 q1848 qs52 q135 q1849 (by decide +kernel) rfl rfl ⟨by decide, by decide⟩ ⟨by decide, by decide⟩ (Nat.le_of_ble_eq_true rfl) rfl (gPi.k (fun g14 h14 => ?_))
    obtain ⟨hm14, f14⟩ := h14
    have hm14_o := hm14
    obtain ⟨hm14_F, hm14_a, hm14_0, hm14_1, hm14_2, hm14_3, hm14_5, hm14_6, hm14_12, hm14_15, hm14_16, hm14_17, hm14_18, hm14_19, hm14_20, hm14_26, hm14_28, hm14_29, -⟩ := hm14_o
    have hs15 : sCou B p = ((-1), 1) := by first | (simp [sCou, c10, q13]; done) | (simp [sCou, c10, q13, qWy]; done)
    have x16 := (f14 (2007) (by omega)).trans ((f1 (2007) (by omega)).trans (hRq_a))
    have x17 := (f14 (2008) (by omega)).trans ((f1 (2008) (by omega)).trans (hCq_a))
    exact g_iret E Rt dX13_could_18 rfl (by decide) (by decide) (by rw [hs15]; exact ⟨rfl, ⟨_, hm14_a, hm14_0, hm14_1, hm14_2, hm14_3, hm14_5, hm14_6, hm14_12, hm14_15, hm14_16, hm14_17, hm14_18, hm14_19, hm14_20, hm14_26, hm14_28, hm14_29, trivial⟩, ⟨_, x16⟩, ⟨_, x17⟩, fun j9 h9 => (f14 j9 (by omega)).trans (f1 j9 (by omega))⟩)
set_option maxHeartbeats 1000000 in
theorem ct_X13_could_N (l : Launch) {g : gWM} {th tr wh fa : Int32} {tp ac mk : Nat} (p : Int32) (hM : pMq g .null th tr wh tp fa ac mk []) : gCt l yX13_could cX13_could 2 (some .int) 1 0 0 21 [.ref 2000, .int p] g (gPi (sCou zB0 p).1 (fun g1 => pMq g1 .null 0 ((sCou zB0 p).2) (-1) tp fa ac mk [] ∧ ∀ j, j ≠ 2000 → g1 j = g j)) := by
  refine gCt.of RX13 (by decide) rfl (lo := [some (.ref 2000), some (.int p)]) 0 rfl (Nat.le_of_ble_eq_true rfl) (fun z E Rt => ?_)
  have hM_o := hM
  obtain ⟨hM_F, hM_a, hM_0, hM_1, hM_2, hM_3, hM_5, hM_6, hM_12, hM_15, hM_16, hM_17, hM_18, hM_19, hM_20, hM_26, hM_28, hM_29, -⟩ := hM_o
  refine g_aload_n E dX13_could_0 rfl rfl rfl ?_
  refine g_iconst E (v := 0) dX13_could_1 (by decide) rfl ?_
  refine g_putf E gciX13 (v := .int 0) dX13_could_2 hM_a 0 rfl (by decide) q1740 (.inl rfl) rfl (fun _ => rfl) (fun _ => rfl) rfl (g_upk (fun g1 h1 f1 => ?_))
  refine g_aload_n E dX13_could_5 rfl rfl rfl ?_
  refine g_iload_n E dX13_could_6 rfl rfl rfl ?_
  have hM2 : pMq g1 .null 0 tr wh tp fa ac mk [] := ⟨_, h1, rfl, hM_1, hM_2, hM_3, hM_5, hM_6, hM_12, hM_15, hM_16, hM_17, hM_18, hM_19, hM_20, hM_26, hM_28, hM_29, trivial⟩
  refine g_callV (k := 2000) (n9 := 1) (av := [.int p]) (st := []) E (ct_X13_isCrumb_N l p hM2) gciX13 dX13_could_7 h1 q2463 q2465 qs114 q135 q2466 (by decide +kernel) rfl rfl ⟨by decide, by decide⟩ ⟨by decide, by decide⟩ (Nat.le_of_ble_eq_true rfl) rfl (gPu.k ?_)
  refine g_if_ne E dX13_could_10 (tgt := 19) (by decide) rfl (fun h9 => absurd h9 (by decide)) (fun _ => ?_)
  refine g_aload_n E dX13_could_13 rfl rfl rfl ?_
  refine g_iconst E (v := 1) dX13_could_14 (by decide) rfl ?_
  refine g_callV (k := 2000) (n9 := 1) (av := [.int 1]) (st := []) E (ct_X13_refused l 1 hM2) gciX13 dX13_could_15 h1 q1846 q1848 qs52 q135 q1849 (by decide +kernel) rfl rfl ⟨by decide, by decide⟩ ⟨by decide, by decide⟩ (Nat.le_of_ble_eq_true rfl) rfl (gPi.k (fun g3 h3 => ?_))
  obtain ⟨hm3, f3⟩ := h3
  have hm3_o := hm3
  obtain ⟨hm3_F, hm3_a, hm3_0, hm3_1, hm3_2, hm3_3, hm3_5, hm3_6, hm3_12, hm3_15, hm3_16, hm3_17, hm3_18, hm3_19, hm3_20, hm3_26, hm3_28, hm3_29, -⟩ := hm3_o
  have hs4 : sCou zB0 p = ((-1), 1) := by first | (simp [sCou, qI_z, qWy]; done) | (simp [sCou, qI_z, qWy, qWy]; done)
  exact g_iret E Rt dX13_could_18 rfl (by decide) (by decide) (by rw [hs4]; exact ⟨rfl, ⟨_, hm3_a, hm3_0, hm3_1, hm3_2, hm3_3, hm3_5, hm3_6, hm3_12, hm3_15, hm3_16, hm3_17, hm3_18, hm3_19, hm3_20, hm3_26, hm3_28, hm3_29, trivial⟩, fun j9 h9 => (f3 j9 (by omega)).trans (f1 j9 (by omega))⟩)
set_option maxHeartbeats 1000000 in
theorem ct_X13_surely (l : Launch) {g : gWM} {mb : Nat} {B : gBar} {R : Nat → Int32} {d : Int32} {th tr wh fa : Int32} {tp ac mk : Nat} (p : Int32) (hw : wfB B) (hM : pMq g (.ref mb) th tr wh tp fa ac mk []) (hMb : pMb g mb B) (hV : pRw g 2002 B R d) (hX : pIx g 2003 18) (h9 : 10000 ≤ mb) (hRq : pIx g 2007 5) (hCq : pIx g 2008 5) : gCt l yX13_surely cX13_surely 3 (some .int) 4 0 0 89 [.ref 2000, .int p] g (gPi (sSur B p).1 (fun g1 => pMq g1 (.ref mb) 0 ((sSur B p).2) (-1) tp fa ac mk [] ∧ pIx g1 2007 5 ∧ pIx g1 2008 5 ∧ ∀ j, (j ≠ 2000 ∧ j ≠ 2007 ∧ j ≠ 2008) → g1 j = g j)) := by
  refine gCt.of RX13 (by decide) rfl (lo := [some (.ref 2000), some (.int p), none]) 1 rfl (Nat.le_of_ble_eq_true rfl) (fun z E Rt => ?_)
  have hw_n := hw.1
  have hM_o := hM
  obtain ⟨hM_F, hM_a, hM_0, hM_1, hM_2, hM_3, hM_5, hM_6, hM_12, hM_15, hM_16, hM_17, hM_18, hM_19, hM_20, hM_26, hM_28, hM_29, -⟩ := hM_o
  have hMb_o := hMb
  obtain ⟨⟨hMb_F, hMb_a, hMb_0, hMb_1, hMb_2, hMb_3, hMb_4, hMb_5, hMb_6, hMb_7, hMb_8, hMb_9, hMb_11, hMb_12, hMb_13, hMb_14, hMb_15, hMb_16, hMb_17, hMb_18, hMb_19, hMb_20, hMb_21, hMb_22, hMb_23, hMb_24, hMb_25, hMb_26, hMb_27, hMb_28, hMb_29, hMb_30, hMb_31⟩, ⟨hMb_f1, hMb_a1, hMb_b1⟩, ⟨hMb_f2, hMb_a2, hMb_b2⟩, ⟨hMb_f3, hMb_a3, hMb_b3⟩, ⟨hMb_f4, hMb_a4, hMb_b4⟩, ⟨hMb_f5, hMb_a5, hMb_b5⟩, ⟨hMb_f6, hMb_a6, hMb_b6⟩, ⟨hMb_f7, hMb_a7, hMb_b7⟩, ⟨hMb_f8, hMb_a8, hMb_b8⟩, ⟨hMb_f9, hMb_a9, hMb_b9⟩, ⟨hMb_f10, hMb_a10, hMb_b10⟩, ⟨hMb_f11, hMb_a11, hMb_b11⟩, ⟨hMb_f12, hMb_a12, hMb_b12⟩, ⟨hMb_f13, hMb_a13, hMb_b13⟩, ⟨hMb_f14, hMb_a14, hMb_b14⟩, ⟨hMb_f15, hMb_a15, hMb_b15⟩, ⟨hMb_f16, hMb_a16, hMb_b16⟩, ⟨hMb_f17, hMb_a17, hMb_b17⟩, ⟨hMb_f18, hMb_a18, hMb_b18⟩, ⟨hMb_f19, hMb_a19, hMb_b19⟩, ⟨hMb_f20, hMb_a20, hMb_b20⟩, ⟨hMb_f21, hMb_a21, hMb_b21⟩⟩ := hMb_o
  have hV_o := hV
  obtain ⟨hV_f, hV_a, hV_r, hV_d⟩ := hV_o
  have hX_o := hX
  obtain ⟨hX_f, hX_a⟩ := hX_o
  have hRq_o := hRq
  obtain ⟨hRq_f, hRq_a⟩ := hRq_o
  have hCq_o := hCq
  obtain ⟨hCq_f, hCq_a⟩ := hCq_o
  refine g_aload_n E dX13_surely_0 rfl rfl rfl ?_
  refine g_iconst E (v := 0) dX13_surely_1 (by decide) rfl ?_
  refine g_putf E gciX13 (v := .int 0) dX13_surely_2 hM_a 0 rfl (by decide) q1740 (.inl rfl) rfl (fun _ => rfl) (fun _ => rfl) rfl (g_upk (fun g1 h1 f1 => ?_))
  refine g_aload_n E dX13_surely_5 rfl rfl rfl ?_
  refine g_iload_n E dX13_surely_6 rfl rfl rfl ?_
  have hM2 : pMq g1 (.ref mb) 0 tr wh tp fa ac mk [] := ⟨_, h1, rfl, hM_1, hM_2, hM_3, hM_5, hM_6, hM_12, hM_15, hM_16, hM_17, hM_18, hM_19, hM_20, hM_26, hM_28, hM_29, trivial⟩
  have y3 := (hMb.fr  (fun j9 a9 b9 => f1 j9 (by omega)))
  refine g_callV (k := 2000) (n9 := 1) (av := [.int p]) (st := []) E (ct_X13_isCrumb l p hw hM2 y3) gciX13 dX13_surely_7 h1 q2463 q2465 qs114 q135 q2466 (by decide +kernel) rfl rfl ⟨by decide, by decide⟩ ⟨by decide, by decide⟩ (Nat.le_of_ble_eq_true rfl) rfl (gPu.k ?_)
  refine g_if_ne E dX13_surely_10 (tgt := 19) (by decide) rfl (fun c10 => ?_) (fun c10 => ?_)
  · have c10 := zb_n0.mp c10
    obtain ⟨b9, q4⟩ := isSome_of c10
    obtain ⟨rfl, q4_l⟩ := qI_some (by omega) q4
    refine g_aload_n E dX13_surely_19 rfl rfl rfl ?_
    have x5 := (f1 (2007) (by omega)).trans (hRq_a)
    have x6 := (f1 (2008) (by omega)).trans (hCq_a)
    refine g_callV (k := 2000) (n9 := 0) (av := []) (st := []) E (ct_X13_fitting l hw hM2 y3 (⟨_, x5⟩) (⟨_, x6⟩) (by omega) (by omega)) gciX13 dX13_surely_20 h1 q2447 q2449 qs111 q135 q2450 (by decide +kernel) rfl rfl ⟨by decide, by decide⟩ ⟨by decide, by decide⟩ (Nat.le_of_ble_eq_true rfl) rfl (gPn.k (fun g7 h7 => ?_))
    obtain ⟨hm7, ⟨hq7_f, hq7_a⟩, ⟨hc7_f, hc7_a, hc7_b⟩, f7⟩ := h7
    have hm7_o := hm7
    obtain ⟨hm7_F, hm7_a, hm7_0, hm7_1, hm7_2, hm7_3, hm7_5, hm7_6, hm7_12, hm7_15, hm7_16, hm7_17, hm7_18, hm7_19, hm7_20, hm7_26, hm7_28, hm7_29, hm7_30, -⟩ := hm7_o
    refine g_iconst E (v := 0) dX13_surely_23 (by decide) rfl ?_
    refine g_istore_n E dX13_surely_24 rfl (by decide) rfl (lo1 := [some (.ref 2000), some (.int (nI b9)), some (.int 0)]) rfl rfl ?_
    have lp25 : ∀ (r9 : Nat) (k : Nat), (k ≤ B 0 1) → (zSv (zSk B) b9 (B 0 1) 0 = zSv (zSk B) b9 (B 0 1 - k) k) → (B 0 1 - k < r9) → gV z g7 0 0 25 [some (.ref 2000), some (.int (nI b9)), some (.int (nI k))] [] := by
      intro r9
      induction r9 with
      | zero => intro k hk hz hm; exact absurd hm (Nat.not_lt_zero _)
      | succ r9 ih25 =>
        intro k hk hz hm
        refine g_iload_n E dX13_surely_25 rfl rfl rfl ?_
        refine g_aload_n E dX13_surely_26 rfl rfl rfl ?_
        refine g_getf E gciX13 dX13_surely_27 hm7_a 3 rfl (by decide) q1743 (.inl rfl) (.ref mb) (hm7_3) rfl ?_
        have x8 := (f7 (mb) (by omega)).trans ((f1 (mb) (by omega)).trans (hMb_a))
        refine g_getfN E gciX27 dX13_surely_30 x8 3 rfl (by decide) q1860 (.inl rfl) (.int (nI (B 0 1))) (hMb_3) rfl ?_
        refine g_icmp_ge E dX13_surely_33 (tgt := 60) (by decide) rfl (fun c33 => ?_) (fun c33 => ?_)
        · have c33 := (nI_leI (a := B 0 1) (b := k) (by omega) (by omega)).mp c33
          refine g_aload_n E dX13_surely_60 rfl rfl rfl ?_
          refine g_bipush E (v := (-2)) dX13_surely_61 (by decide) rfl ?_
          have hM9 : pMq g7 (.ref mb) 0 tr wh tp fa ac mk [] := ⟨_, hm7_a, hm7_0, hm7_1, hm7_2, hm7_3, hm7_5, hm7_6, hm7_12, hm7_15, hm7_16, hm7_17, hm7_18, hm7_19, hm7_20, hm7_26, hm7_28, hm7_29, trivial⟩
          refine g_callV (k := 2000) (n9 := 1) (av := [.int (-2)]) (st := []) E (ct_X13_fine l (-2) hM9) gciX13 dX13_surely_63 hm7_a q2181 q2183 qs80 q135 q2184 (by decide +kernel) rfl rfl ⟨by decide, by decide⟩ ⟨by decide, by decide⟩ (Nat.le_of_ble_eq_true rfl) rfl (gPi.k (fun g10 h10 => ?_))
          obtain ⟨hm10, f10⟩ := h10
          have hm10_o := hm10
          obtain ⟨hm10_F, hm10_a, hm10_0, hm10_1, hm10_2, hm10_3, hm10_5, hm10_6, hm10_12, hm10_15, hm10_16, hm10_17, hm10_18, hm10_19, hm10_20, hm10_26, hm10_28, hm10_29, -⟩ := hm10_o
          have hs11 : sSur B (nI b9) = ((-2), 0) := by simp [sSur, q4]; rw [zSur_v hw (by omega), hz, show B 0 1 - k = 0 by omega]; rfl
          have x12 := (f10 (2007) (by omega)).trans (hq7_a)
          have x13 := (f10 (2008) (by omega)).trans (hc7_a)
          exact g_iret E Rt dX13_surely_66 rfl (by decide) (by decide) (by rw [hs11]; exact ⟨rfl, ⟨_, hm10_a, hm10_0, hm10_1, hm10_2, hm10_3, hm10_5, hm10_6, hm10_12, hm10_15, hm10_16, hm10_17, hm10_18, hm10_19, hm10_20, hm10_26, hm10_28, hm10_29, trivial⟩, ⟨_, x12⟩, ⟨_, x13⟩, fun j9 h9 => ((f10 j9 (by omega)).trans (f7 j9 (by omega))).trans (f1 j9 (by omega))⟩)
        · have c33 := mt (nI_leI (a := B 0 1) (b := k) (by omega) (by omega)).mpr c33
          refine g_aload_n E dX13_surely_36 rfl rfl rfl ?_
          refine g_getf E gciX13 dX13_surely_37 hm7_a 29 rfl (by decide) q1769 (.inl rfl) (.ref 2008) (hm7_29) rfl ?_
          refine g_iload_n E dX13_surely_40 rfl rfl rfl ?_
          refine g_iald E dX13_surely_41 (j := b9) hc7_a (rfl) (by omega) (by decide) (v := (zSk B).2.1 b9) (hc7_b b9 (by omega)) rfl ?_
          refine g_iconst E (v := 1) dX13_surely_42 (by decide) rfl ?_
          refine g_iload_n E dX13_surely_43 rfl rfl rfl ?_
          refine g_ishl E dX13_surely_44 rfl ?_
          refine g_icmp_ne E dX13_surely_45 (tgt := 54) (by decide) rfl (fun c45 => ?_) (fun c45 => ?_)
          · refine g_iinc E dX13_surely_54 rfl (v := nI (k + 1)) (nI_c _) (by decide) rfl (lo1 := [some (.ref 2000), some (.int (nI b9)), some (.int (nI (k + 1)))]) rfl rfl ?_
            refine g_goto E dX13_surely_57 (tgt := 25) (by decide) ?_
            exact ih25 (k + 1) (by omega) (hz.trans (zSv_f (B := B) (by omega) c45)) (by omega)
          · refine g_aload_n E dX13_surely_48 rfl rfl rfl ?_
            refine g_iload_n E dX13_surely_49 rfl rfl rfl ?_
            have hM14 : pMq g7 (.ref mb) 0 tr wh tp fa ac mk [] := ⟨_, hm7_a, hm7_0, hm7_1, hm7_2, hm7_3, hm7_5, hm7_6, hm7_12, hm7_15, hm7_16, hm7_17, hm7_18, hm7_19, hm7_20, hm7_26, hm7_28, hm7_29, trivial⟩
            refine g_callV (k := 2000) (n9 := 1) (av := [.int (nI k)]) (st := []) E (ct_X13_fine l (nI k) hM14) gciX13 dX13_surely_50 hm7_a q2181 q2183 qs80 q135 q2184 (by decide +kernel) rfl rfl ⟨by decide, by decide⟩ ⟨by decide, by decide⟩ (Nat.le_of_ble_eq_true rfl) rfl (gPi.k (fun g15 h15 => ?_))
            obtain ⟨hm15, f15⟩ := h15
            have hm15_o := hm15
            obtain ⟨hm15_F, hm15_a, hm15_0, hm15_1, hm15_2, hm15_3, hm15_5, hm15_6, hm15_12, hm15_15, hm15_16, hm15_17, hm15_18, hm15_19, hm15_20, hm15_26, hm15_28, hm15_29, -⟩ := hm15_o
            have hs16 : sSur B (nI b9) = (nI k, 0) := by simp [sSur, q4]; rw [zSur_v hw (by omega)]; exact hz.trans (zSv_t (by omega) c45)
            have x17 := (f15 (2007) (by omega)).trans (hq7_a)
            have x18 := (f15 (2008) (by omega)).trans (hc7_a)
            exact g_iret E Rt dX13_surely_53 rfl (by decide) (by decide) (by rw [hs16]; exact ⟨rfl, ⟨_, hm15_a, hm15_0, hm15_1, hm15_2, hm15_3, hm15_5, hm15_6, hm15_12, hm15_15, hm15_16, hm15_17, hm15_18, hm15_19, hm15_20, hm15_26, hm15_28, hm15_29, trivial⟩, ⟨_, x17⟩, ⟨_, x18⟩, fun j9 h9 => ((f15 j9 (by omega)).trans (f7 j9 (by omega))).trans (f1 j9 (by omega))⟩)
    exact lp25 (B 0 1 + 1) 0 (Nat.zero_le _) rfl (by omega)
  · have c10 := zb_0.mp c10
    have q19 := isNone_of c10
    refine g_aload_n E dX13_surely_13 rfl rfl rfl ?_
    refine g_iconst E (v := 1) dX13_surely_14 (by decide) rfl ?_
    refine g_callV (k := 2000) (n9 := 1) (av := [.int 1]) (st := []) E (ct_X13_refused l 1 hM2) gciX13 dX13_surely_15 h1 q1846 q1848 qs52 q135 q1849 (by decide +kernel) rfl rfl ⟨by decide, by decide⟩ ⟨by decide, by decide⟩ (Nat.le_of_ble_eq_true rfl) rfl (gPi.k (fun g20 h20 => ?_))
    obtain ⟨hm20, f20⟩ := h20
    have hm20_o := hm20
    obtain ⟨hm20_F, hm20_a, hm20_0, hm20_1, hm20_2, hm20_3, hm20_5, hm20_6, hm20_12, hm20_15, hm20_16, hm20_17, hm20_18, hm20_19, hm20_20, hm20_26, hm20_28, hm20_29, -⟩ := hm20_o
    have hs21 : sSur B p = ((-1), 1) := by first | (simp [sSur, c10, q19]; done) | (simp [sSur, c10, q19, qWy]; done)
    have x22 := (f20 (2007) (by omega)).trans ((f1 (2007) (by omega)).trans (hRq_a))
    have x23 := (f20 (2008) (by omega)).trans ((f1 (2008) (by omega)).trans (hCq_a))
    exact g_iret E Rt dX13_surely_18 rfl (by decide) (by decide) (by rw [hs21]; exact ⟨rfl, ⟨_, hm20_a, hm20_0, hm20_1, hm20_2, hm20_3, hm20_5, hm20_6, hm20_12, hm20_15, hm20_16, hm20_17, hm20_18, hm20_19, hm20_20, hm20_26, hm20_28, hm20_29, trivial⟩, ⟨_, x22⟩, ⟨_, x23⟩, fun j9 h9 => (f20 j9 (by omega)).trans (f1 j9 (by omega))⟩)
set_option maxHeartbeats 1000000 in
theorem ct_X13_surely_N (l : Launch) {g : gWM} {th tr wh fa : Int32} {tp ac mk : Nat} (p : Int32) (hM : pMq g .null th tr wh tp fa ac mk []) : gCt l yX13_surely cX13_surely 3 (some .int) 1 0 0 21 [.ref 2000, .int p] g (gPi (sSur zB0 p).1 (fun g1 => pMq g1 .null 0 ((sSur zB0 p).2) (-1) tp fa ac mk [] ∧ ∀ j, j ≠ 2000 → g1 j = g j)) := by
  refine gCt.of RX13 (by decide) rfl (lo := [some (.ref 2000), some (.int p), none]) 1 rfl (Nat.le_of_ble_eq_true rfl) (fun z E Rt => ?_)
  have hM_o := hM
  obtain ⟨hM_F, hM_a, hM_0, hM_1, hM_2, hM_3, hM_5, hM_6, hM_12, hM_15, hM_16, hM_17, hM_18, hM_19, hM_20, hM_26, hM_28, hM_29, -⟩ := hM_o
  refine g_aload_n E dX13_surely_0 rfl rfl rfl ?_
  refine g_iconst E (v := 0) dX13_surely_1 (by decide) rfl ?_
  refine g_putf E gciX13 (v := .int 0) dX13_surely_2 hM_a 0 rfl (by decide) q1740 (.inl rfl) rfl (fun _ => rfl) (fun _ => rfl) rfl (g_upk (fun g1 h1 f1 => ?_))
  refine g_aload_n E dX13_surely_5 rfl rfl rfl ?_
  refine g_iload_n E dX13_surely_6 rfl rfl rfl ?_
  have hM2 : pMq g1 .null 0 tr wh tp fa ac mk [] := ⟨_, h1, rfl, hM_1, hM_2, hM_3, hM_5, hM_6, hM_12, hM_15, hM_16, hM_17, hM_18, hM_19, hM_20, hM_26, hM_28, hM_29, trivial⟩
  refine g_callV (k := 2000) (n9 := 1) (av := [.int p]) (st := []) E (ct_X13_isCrumb_N l p hM2) gciX13 dX13_surely_7 h1 q2463 q2465 qs114 q135 q2466 (by decide +kernel) rfl rfl ⟨by decide, by decide⟩ ⟨by decide, by decide⟩ (Nat.le_of_ble_eq_true rfl) rfl (gPu.k ?_)
  refine g_if_ne E dX13_surely_10 (tgt := 19) (by decide) rfl (fun h9 => absurd h9 (by decide)) (fun _ => ?_)
  refine g_aload_n E dX13_surely_13 rfl rfl rfl ?_
  refine g_iconst E (v := 1) dX13_surely_14 (by decide) rfl ?_
  refine g_callV (k := 2000) (n9 := 1) (av := [.int 1]) (st := []) E (ct_X13_refused l 1 hM2) gciX13 dX13_surely_15 h1 q1846 q1848 qs52 q135 q1849 (by decide +kernel) rfl rfl ⟨by decide, by decide⟩ ⟨by decide, by decide⟩ (Nat.le_of_ble_eq_true rfl) rfl (gPi.k (fun g3 h3 => ?_))
  obtain ⟨hm3, f3⟩ := h3
  have hm3_o := hm3
  obtain ⟨hm3_F, hm3_a, hm3_0, hm3_1, hm3_2, hm3_3, hm3_5, hm3_6, hm3_12, hm3_15, hm3_16, hm3_17, hm3_18, hm3_19, hm3_20, hm3_26, hm3_28, hm3_29, -⟩ := hm3_o
  have hs4 : sSur zB0 p = ((-1), 1) := by first | (simp [sSur, qI_z, qWy]; done) | (simp [sSur, qI_z, qWy, qWy]; done)
  exact g_iret E Rt dX13_surely_18 rfl (by decide) (by decide) (by rw [hs4]; exact ⟨rfl, ⟨_, hm3_a, hm3_0, hm3_1, hm3_2, hm3_3, hm3_5, hm3_6, hm3_12, hm3_15, hm3_16, hm3_17, hm3_18, hm3_19, hm3_20, hm3_26, hm3_28, hm3_29, trivial⟩, fun j9 h9 => (f3 j9 (by omega)).trans (f1 j9 (by omega))⟩)
