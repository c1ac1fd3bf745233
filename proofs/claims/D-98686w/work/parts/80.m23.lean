/-! WALKS, twenty-third: Strings -/
set_option maxRecDepth 100000
set_option maxHeartbeats 400000 in
theorem ct_J6_equals_L (l : Launch) {g : gWM} {k j : Nat} {w : List Int32} {q9 : String × Nat × String} (hS : ∃ f, g k = some (.inl (1, w.length, .inl f)) ∧ ∀ i, i < w.length → f i = w.getD i 0) (hwl : w.length < 1000) (hj : gSites[j]? = some q9) : gCt l yJ6_equals cJ6_equals 3 (some .boolean) 0 0 0 0 [.ref k, .ref (2 + 2 * j)] g (gPu (.int (zb (decide (w = gByt q9.2.2)))) g) := by
  refine gCt.of RJ6 (by decide) rfl (lo := [some (.ref k), some (.ref (2 + 2 * j)), none]) 1 rfl (Nat.le_of_ble_eq_true rfl) (fun z E Rt => ?_)
  obtain ⟨hS_f, hS_b, hS_c⟩ := hS
  have hj_l := gS_l hj
  refine g_aload_n E dJ6_equals_0 rfl rfl rfl ?_
  refine g_alen E dJ6_equals_1 hS_b (by decide) (nI w.length) rfl rfl ?_
  refine g_aload_n E dJ6_equals_2 rfl rfl rfl ?_
  refine g_alenL E (j := j) (q9 := q9) hj dJ6_equals_3 rfl ?_
  refine g_icmp_ne E dJ6_equals_4 (tgt := 34) (by decide) rfl (fun c4 => ?_) (fun c4 => ?_)
  · have c4 := mt (nI_eq (a := w.length) (b := (gByt q9.2.2).length) (by omega) (by omega)).mpr c4
    refine g_iconst E (v := 0) dJ6_equals_34 (by decide) rfl ?_
    exact g_zret E Rt dJ6_equals_35 rfl (by decide) (by decide) (by decide) (⟨congrArg (fun x => some (Value.int x)) (zbF (fun e9 => c4 (by rw [e9]))), rfl⟩)
  · have c4 := (nI_eq (a := w.length) (b := (gByt q9.2.2).length) (by omega) (by omega)).mp c4
    refine g_iconst E (v := 0) dJ6_equals_7 (by decide) rfl ?_
    refine g_istore_n E dJ6_equals_8 rfl (by decide) rfl (lo1 := [some (.ref k), some (.ref (2 + 2 * j)), some (.int 0)]) rfl rfl ?_
    have lp9 : ∀ (r9 : Nat) (i : Nat), (i ≤ w.length) → (∀ i2, i2 < i → w.getD i2 0 = (gByt q9.2.2).getD i2 0) → (w.length - i < r9) → gV z g 0 0 9 [some (.ref k), some (.ref (2 + 2 * j)), some (.int (nI i))] [] := by
      intro r9
      induction r9 with
      | zero => intro i hi hz hm; exact absurd hm (Nat.not_lt_zero _)
      | succ r9 ih9 =>
        intro i hi hz hm
        refine g_iload_n E dJ6_equals_9 rfl rfl rfl ?_
        refine g_aload_n E dJ6_equals_10 rfl rfl rfl ?_
        refine g_alen E dJ6_equals_11 hS_b (by decide) (nI w.length) rfl rfl ?_
        refine g_icmp_ge E dJ6_equals_12 (tgt := 32) (by decide) rfl (fun c12 => ?_) (fun c12 => ?_)
        · have c12 := (nI_leI (a := w.length) (b := i) (by omega) (by omega)).mp c12
          refine g_iconst E (v := 1) dJ6_equals_32 (by decide) rfl ?_
          exact g_zret E Rt dJ6_equals_33 rfl (by decide) (by decide) (by decide) (⟨congrArg (fun x => some (Value.int x)) (zbT (lst_eq c4 (fun i9 h9 => hz i9 (by omega)))), rfl⟩)
        · have c12 := mt (nI_leI (a := w.length) (b := i) (by omega) (by omega)).mpr c12
          refine g_aload_n E dJ6_equals_15 rfl rfl rfl ?_
          refine g_iload_n E dJ6_equals_16 rfl rfl rfl ?_
          refine g_bald E dJ6_equals_17 (j := i) hS_b (rfl) (by omega) (by omega) (v := w.getD i 0) (hS_c i (by omega)) rfl ?_
          refine g_aload_n E dJ6_equals_18 rfl rfl rfl ?_
          refine g_iload_n E dJ6_equals_19 rfl rfl rfl ?_
          refine g_baldL E (j := j) (k := i) (q9 := q9) hj dJ6_equals_20 (rfl) (by omega) (by omega) rfl ?_
          refine g_icmp_eq E dJ6_equals_21 (tgt := 26) (by decide) rfl (fun c21 => ?_) (fun c21 => ?_)
          · refine g_iinc E dJ6_equals_26 rfl (v := nI (i + 1)) (nI_c _) (by decide) rfl (lo1 := [some (.ref k), some (.ref (2 + 2 * j)), some (.int (nI (i + 1)))]) rfl rfl ?_
            refine g_goto E dJ6_equals_29 (tgt := 9) (by decide) ?_
            exact ih9 (i + 1) (by omega) (fun i9 h9 => by rcases Nat.lt_succ_iff_lt_or_eq.mp h9 with h8 | h8; exact hz i9 h8; rw [h8]; exact c21) (by omega)
          · refine g_iconst E (v := 0) dJ6_equals_24 (by decide) rfl ?_
            exact g_zret E Rt dJ6_equals_25 rfl (by decide) (by decide) (by decide) (⟨congrArg (fun x => some (Value.int x)) (zbF (fun e9 => c21 (by rw [e9]))), rfl⟩)
    exact lp9 (w.length + 1) 0 (Nat.zero_le _) (fun i9 h9 => absurd h9 (Nat.not_lt_zero i9)) (by omega)
set_option maxHeartbeats 400000 in
theorem ct_J6_equals (l : Launch) {g : gWM} {k k2 : Nat} {w v : List Int32}  (hS : ∃ f, g k = some (.inl (1, w.length, .inl f)) ∧ ∀ i, i < w.length → f i = w.getD i 0) (hwl : w.length < 1000) (hV : ∃ f, g k2 = some (.inl (1, v.length, .inl f)) ∧ ∀ i, i < v.length → f i = v.getD i 0) (hvl : v.length < 1000) : gCt l yJ6_equals cJ6_equals 3 (some .boolean) 0 0 0 0 [.ref k, .ref k2] g (gPu (.int (zb (decide (w = v)))) g) := by
  refine gCt.of RJ6 (by decide) rfl (lo := [some (.ref k), some (.ref k2), none]) 1 rfl (Nat.le_of_ble_eq_true rfl) (fun z E Rt => ?_)
  obtain ⟨hS_f, hS_b, hS_c⟩ := hS
  obtain ⟨hV_f, hV_b, hV_c⟩ := hV
  refine g_aload_n E dJ6_equals_0 rfl rfl rfl ?_
  refine g_alen E dJ6_equals_1 hS_b (by decide) (nI w.length) rfl rfl ?_
  refine g_aload_n E dJ6_equals_2 rfl rfl rfl ?_
  refine g_alen E dJ6_equals_3 hV_b (by decide) (nI v.length) rfl rfl ?_
  refine g_icmp_ne E dJ6_equals_4 (tgt := 34) (by decide) rfl (fun c4 => ?_) (fun c4 => ?_)
  · have c4 := mt (nI_eq (a := w.length) (b := v.length) (by omega) (by omega)).mpr c4
    refine g_iconst E (v := 0) dJ6_equals_34 (by decide) rfl ?_
    exact g_zret E Rt dJ6_equals_35 rfl (by decide) (by decide) (by decide) (⟨congrArg (fun x => some (Value.int x)) (zbF (fun e9 => c4 (by rw [e9]))), rfl⟩)
  · have c4 := (nI_eq (a := w.length) (b := v.length) (by omega) (by omega)).mp c4
    refine g_iconst E (v := 0) dJ6_equals_7 (by decide) rfl ?_
    refine g_istore_n E dJ6_equals_8 rfl (by decide) rfl (lo1 := [some (.ref k), some (.ref k2), some (.int 0)]) rfl rfl ?_
    have lp9 : ∀ (r9 : Nat) (i : Nat), (i ≤ w.length) → (∀ i2, i2 < i → w.getD i2 0 = (v).getD i2 0) → (w.length - i < r9) → gV z g 0 0 9 [some (.ref k), some (.ref k2), some (.int (nI i))] [] := by
      intro r9
      induction r9 with
      | zero => intro i hi hz hm; exact absurd hm (Nat.not_lt_zero _)
      | succ r9 ih9 =>
        intro i hi hz hm
        refine g_iload_n E dJ6_equals_9 rfl rfl rfl ?_
        refine g_aload_n E dJ6_equals_10 rfl rfl rfl ?_
        refine g_alen E dJ6_equals_11 hS_b (by decide) (nI w.length) rfl rfl ?_
        refine g_icmp_ge E dJ6_equals_12 (tgt := 32) (by decide) rfl (fun c12 => ?_) (fun c12 => ?_)
        · have c12 := (nI_leI (a := w.length) (b := i) (by omega) (by omega)).mp c12
          refine g_iconst E (v := 1) dJ6_equals_32 (by decide) rfl ?_
          exact g_zret E Rt dJ6_equals_33 rfl (by decide) (by decide) (by decide) (⟨congrArg (fun x => some (Value.int x)) (zbT (lst_eq c4 (fun i9 h9 => hz i9 (by omega)))), rfl⟩)
        · have c12 := mt (nI_leI (a := w.length) (b := i) (by omega) (by omega)).mpr c12
          refine g_aload_n E dJ6_equals_15 rfl rfl rfl ?_
          refine g_iload_n E dJ6_equals_16 rfl rfl rfl ?_
          refine g_bald E dJ6_equals_17 (j := i) hS_b (rfl) (by omega) (by omega) (v := w.getD i 0) (hS_c i (by omega)) rfl ?_
          refine g_aload_n E dJ6_equals_18 rfl rfl rfl ?_
          refine g_iload_n E dJ6_equals_19 rfl rfl rfl ?_
          refine g_bald E dJ6_equals_20 (j := i) hV_b (rfl) (by omega) (by omega) (v := v.getD i 0) (hV_c i (by omega)) rfl ?_
          refine g_icmp_eq E dJ6_equals_21 (tgt := 26) (by decide) rfl (fun c21 => ?_) (fun c21 => ?_)
          · refine g_iinc E dJ6_equals_26 rfl (v := nI (i + 1)) (nI_c _) (by decide) rfl (lo1 := [some (.ref k), some (.ref k2), some (.int (nI (i + 1)))]) rfl rfl ?_
            refine g_goto E dJ6_equals_29 (tgt := 9) (by decide) ?_
            exact ih9 (i + 1) (by omega) (fun i9 h9 => by rcases Nat.lt_succ_iff_lt_or_eq.mp h9 with h8 | h8; exact hz i9 h8; rw [h8]; exact c21) (by omega)
          · refine g_iconst E (v := 0) dJ6_equals_24 (by decide) rfl ?_
            exact g_zret E Rt dJ6_equals_25 rfl (by decide) (by decide) (by decide) (⟨congrArg (fun x => some (Value.int x)) (zbF (fun e9 => c21 (by rw [e9]))), rfl⟩)
    exact lp9 (w.length + 1) 0 (Nat.zero_le _) (fun i9 h9 => absurd h9 (Nat.not_lt_zero i9)) (by omega)
set_option maxHeartbeats 400000 in
theorem ct_J3_equals_L (l : Launch) {g : gWM} {k j : Nat} {w : List Int32} {q9 : String × Nat × String} (hS : pSt g k w) (hwl : w.length < 1000) (hj : gSites[j]? = some q9) : gCt l yJ3_equals cJ3_equals 3 (some .boolean) 1 0 0 22 [.ref k, .ref (1 + 2 * j)] g (gPu (.int (zb (decide (w = gByt q9.2.2)))) g) := by
  refine gCt.of RJ3 (by decide) rfl (lo := [some (.ref k), some (.ref (1 + 2 * j)), none]) 1 rfl (Nat.le_of_ble_eq_true rfl) (fun z E Rt => ?_)
  have hS_o := hS
  obtain ⟨hS_F, hS_h, hS_iz, hS_a, hS_0, hS_1, hS_2, hS_3, hS_4, hS_5, hS_f, hS_b, hS_c⟩ := hS_o
  have hj_l := gS_l hj
  refine g_aload_n E dJ3_equals_0 rfl rfl rfl ?_
  refine g_aload_n E dJ3_equals_1 rfl rfl rfl ?_
  refine g_acmpL E (j := j) (q9 := q9) hj dJ3_equals_2 (tgt := 7) (by decide) (by rw [hS_a]; exact (fun h9 => by cases h9)) ?_
  refine g_aload_n E dJ3_equals_7 rfl rfl rfl ?_
  refine g_instL E (j := j) (q9 := q9) hj dJ3_equals_8 q782 rfl ?_
  refine g_if_eq E dJ3_equals_11 (tgt := 54) (by decide) rfl (fun h9 => absurd h9 (by decide)) (fun _ => ?_)
  refine g_aload_n E dJ3_equals_14 rfl rfl rfl ?_
  refine g_castL E (j := j) (q9 := q9) hj dJ3_equals_15 q782 rfl ?_
  refine g_astore_n E dJ3_equals_18 rfl (by decide) rfl (lo1 := [some (.ref k), some (.ref (1 + 2 * j)), some (.ref (1 + 2 * j))]) rfl rfl ?_
  refine g_getsI E (.inl ⟨rfl, rfl, rfl⟩) dJ3_equals_19 q651 rfl ?_
  refine g_if_eq E dJ3_equals_22 (tgt := 36) (by decide) rfl (fun h9 => absurd h9 (by decide)) (fun _ => ?_)
  refine g_aload_n E dJ3_equals_25 rfl rfl rfl ?_
  refine g_getf E gciJ3 dJ3_equals_26 hS_a 1 rfl (by decide) q696 (.inl rfl) (.int 0) (hS_1) rfl ?_
  refine g_aload_n E dJ3_equals_29 rfl rfl rfl ?_
  refine g_getcL E (j := j) (q9 := q9) hj dJ3_equals_30 q696 rfl ?_
  refine g_icmp_ne E dJ3_equals_33 (tgt := 54) (by decide) rfl (fun h9 => absurd h9 (by decide)) (fun _ => ?_)
  refine g_aload_n E dJ3_equals_36 rfl rfl rfl ?_
  refine g_getf E gciJ3 dJ3_equals_37 hS_a 0 rfl (by decide) q695 (.inl rfl) (.ref (k + 1)) (hS_0) rfl ?_
  refine g_aload_n E dJ3_equals_40 rfl rfl rfl ?_
  refine g_getvL E (j := j) (q9 := q9) hj dJ3_equals_41 q695 rfl ?_
  refine g_callS (n9 := 2) (av := [.ref (k + 1), .ref (2 + 2 * j)]) (st := []) E (ct_J6_equals_L l (⟨_, hS_b, hS_c⟩) (by omega) hj) dJ3_equals_44 q783 q784 q140 q785 (by decide +kernel) rfl rfl ⟨by decide, by decide⟩ ⟨by decide, by decide⟩ (Nat.le_of_ble_eq_true rfl) rfl (gPu.k ?_)
  refine g_if_eq E dJ3_equals_47 (tgt := 54) (by decide) rfl (fun c47 => ?_) (fun c47 => ?_)
  · have c47 := zb_0.mp c47
    refine g_iconst E (v := 0) dJ3_equals_54 (by decide) rfl ?_
    exact g_zret E Rt dJ3_equals_55 rfl (by decide) (by decide) (by decide) (⟨congrArg (fun x => some (Value.int x)) (zbF (of_decide_eq_false c47)), rfl⟩)
  · have c47 := zb_n0.mp c47
    refine g_iconst E (v := 1) dJ3_equals_50 (by decide) rfl ?_
    refine g_goto E dJ3_equals_51 (tgt := 55) (by decide) ?_
    exact g_zret E Rt dJ3_equals_55 rfl (by decide) (by decide) (by decide) (⟨congrArg (fun x => some (Value.int x)) (zbT (of_decide_eq_true c47)), rfl⟩)
set_option maxHeartbeats 400000 in
theorem ct_J3_equals (l : Launch) {g : gWM} {k k2 : Nat} {w v : List Int32}  (hS : pSt g k w) (hwl : w.length < 1000) (hV : pSt g k2 v) (hvl : v.length < 1000) : gCt l yJ3_equals cJ3_equals 3 (some .boolean) 1 0 0 22 [.ref k, .ref k2] g (gPu (.int (zb (decide (w = v)))) g) := by
  refine gCt.of RJ3 (by decide) rfl (lo := [some (.ref k), some (.ref k2), none]) 1 rfl (Nat.le_of_ble_eq_true rfl) (fun z E Rt => ?_)
  have hS_o := hS
  obtain ⟨hS_F, hS_h, hS_iz, hS_a, hS_0, hS_1, hS_2, hS_3, hS_4, hS_5, hS_f, hS_b, hS_c⟩ := hS_o
  have hV_o := hV
  obtain ⟨hV_F, hV_h, hV_iz, hV_a, hV_0, hV_1, hV_2, hV_3, hV_4, hV_5, hV_f, hV_b, hV_c⟩ := hV_o
  refine g_aload_n E dJ3_equals_0 rfl rfl rfl ?_
  refine g_aload_n E dJ3_equals_1 rfl rfl rfl ?_
  refine g_acmp_ne E dJ3_equals_2 (tgt := 7) (by decide) (by rw [hS_a]; exact (fun h9 => by cases h9)) (by rw [hV_a]; exact (fun h9 => by cases h9)) rfl (fun c2 => ?_) (fun c2 => ?_)
  · refine g_aload_n E dJ3_equals_7 rfl rfl rfl ?_
    refine g_instY (n9 := 0) E gciJ3 dJ3_equals_8 hV_a q782 (.inl rfl) rfl ?_
    refine g_if_eq E dJ3_equals_11 (tgt := 54) (by decide) rfl (fun h9 => absurd h9 (by decide)) (fun _ => ?_)
    refine g_aload_n E dJ3_equals_14 rfl rfl rfl ?_
    refine g_cast1 (n9 := 0) E gciJ3 dJ3_equals_15 hV_a q782 (.inl rfl) rfl ?_
    refine g_astore_n E dJ3_equals_18 rfl (by decide) rfl (lo1 := [some (.ref k), some (.ref k2), some (.ref k2)]) rfl rfl ?_
    refine g_getsI E (.inl ⟨rfl, rfl, rfl⟩) dJ3_equals_19 q651 rfl ?_
    refine g_if_eq E dJ3_equals_22 (tgt := 36) (by decide) rfl (fun h9 => absurd h9 (by decide)) (fun _ => ?_)
    refine g_aload_n E dJ3_equals_25 rfl rfl rfl ?_
    refine g_getf E gciJ3 dJ3_equals_26 hS_a 1 rfl (by decide) q696 (.inl rfl) (.int 0) (hS_1) rfl ?_
    refine g_aload_n E dJ3_equals_29 rfl rfl rfl ?_
    refine g_getf E gciJ3 dJ3_equals_30 hV_a 1 rfl (by decide) q696 (.inl rfl) (.int 0) (hV_1) rfl ?_
    refine g_icmp_ne E dJ3_equals_33 (tgt := 54) (by decide) rfl (fun h9 => absurd h9 (by decide)) (fun _ => ?_)
    refine g_aload_n E dJ3_equals_36 rfl rfl rfl ?_
    refine g_getf E gciJ3 dJ3_equals_37 hS_a 0 rfl (by decide) q695 (.inl rfl) (.ref (k + 1)) (hS_0) rfl ?_
    refine g_aload_n E dJ3_equals_40 rfl rfl rfl ?_
    refine g_getf E gciJ3 dJ3_equals_41 hV_a 0 rfl (by decide) q695 (.inl rfl) (.ref (k2 + 1)) (hV_0) rfl ?_
    refine g_callS (n9 := 2) (av := [.ref (k + 1), .ref (k2 + 1)]) (st := []) E (ct_J6_equals l (⟨_, hS_b, hS_c⟩) (by omega) (⟨_, hV_b, hV_c⟩) (by omega)) dJ3_equals_44 q783 q784 q140 q785 (by decide +kernel) rfl rfl ⟨by decide, by decide⟩ ⟨by decide, by decide⟩ (Nat.le_of_ble_eq_true rfl) rfl (gPu.k ?_)
    refine g_if_eq E dJ3_equals_47 (tgt := 54) (by decide) rfl (fun c47 => ?_) (fun c47 => ?_)
    · have c47 := zb_0.mp c47
      refine g_iconst E (v := 0) dJ3_equals_54 (by decide) rfl ?_
      exact g_zret E Rt dJ3_equals_55 rfl (by decide) (by decide) (by decide) (⟨congrArg (fun x => some (Value.int x)) (zbF (of_decide_eq_false c47)), rfl⟩)
    · have c47 := zb_n0.mp c47
      refine g_iconst E (v := 1) dJ3_equals_50 (by decide) rfl ?_
      refine g_goto E dJ3_equals_51 (tgt := 55) (by decide) ?_
      exact g_zret E Rt dJ3_equals_55 rfl (by decide) (by decide) (by decide) (⟨congrArg (fun x => some (Value.int x)) (zbT (of_decide_eq_true c47)), rfl⟩)
  · have hwv := pSt.inj hS hV (h := c2)
    refine g_iconst E (v := 1) dJ3_equals_5 (by decide) rfl ?_
    exact g_zret E Rt dJ3_equals_6 rfl (by decide) (by decide) (by decide) (⟨congrArg (fun x => some (Value.int x)) (zbT hwv), rfl⟩)
set_option maxHeartbeats 400000 in
theorem ct_J7_signedHashCode (l : Launch) {g : gWM} {k : Nat} {w : List Int32} (hS : ∃ f, g k = some (.inl (1, w.length, .inl f)) ∧ ∀ i, i < w.length → f i = w.getD i 0) (hwl : w.length < 1000) : gCt l yJ7_signedHashCode cJ7_signedHashCode 6 (some .int) 0 0 0 0 [.int 0, .ref k, .int 0, .int (nI w.length)] g (gPu (.int (zHs w)) g) := by
  refine gCt.of RJ7 (by decide) rfl (lo := [some (.int 0), some (.ref k), some (.int 0), some (.int (nI w.length)), none, none]) 2 rfl (Nat.le_of_ble_eq_true rfl) (fun z E Rt => ?_)
  obtain ⟨hS_f, hS_b, hS_c⟩ := hS
  refine g_iload_n E dJ7_signedHashCode_0 rfl rfl rfl ?_
  refine g_iload_n E dJ7_signedHashCode_1 rfl rfl rfl ?_
  refine g_iadd E dJ7_signedHashCode_2 rfl ?_
  refine g_as (y := nI w.length) (Int32.zero_add _) ?_
  refine g_istore E dJ7_signedHashCode_3 (by decide) rfl (lo1 := [some (.int 0), some (.ref k), some (.int 0), some (.int (nI w.length)), some (.int (nI w.length)), none]) rfl rfl ?_
  refine g_iload_n E dJ7_signedHashCode_5 rfl rfl rfl ?_
  refine g_istore E dJ7_signedHashCode_6 (by decide) rfl (lo1 := [some (.int 0), some (.ref k), some (.int 0), some (.int (nI w.length)), some (.int (nI w.length)), some (.int 0)]) rfl rfl ?_
  have lp8 : ∀ (r9 : Nat) (i : Nat), (i ≤ w.length) → (w.length - i < r9) → gV z g 0 0 8 [some (.int (zHx (fun i => w.getD i 0) i)), some (.ref k), some (.int 0), some (.int (nI w.length)), some (.int (nI w.length)), some (.int (nI i))] [] := by
    intro r9
    induction r9 with
    | zero => intro i hi hm; exact absurd hm (Nat.not_lt_zero _)
    | succ r9 ih8 =>
      intro i hi hm
      refine g_iload E dJ7_signedHashCode_8 rfl rfl ?_
      refine g_iload E dJ7_signedHashCode_10 rfl rfl ?_
      refine g_icmp_ge E dJ7_signedHashCode_12 (tgt := 35) (by decide) rfl (fun c12 => ?_) (fun c12 => ?_)
      · have c12 := (nI_leI (a := w.length) (b := i) (by omega) (by omega)).mp c12
        refine g_iload_n E dJ7_signedHashCode_35 rfl rfl rfl ?_
        exact g_iret E Rt dJ7_signedHashCode_36 rfl (by decide) (by decide) (⟨congrArg (fun x => some (Value.int x)) (show zHx (fun i => w.getD i 0) i = zHx _ w.length by rw [show i = w.length by omega]), rfl⟩)
      · have c12 := mt (nI_leI (a := w.length) (b := i) (by omega) (by omega)).mpr c12
        refine g_bipush E (v := 31) dJ7_signedHashCode_15 (by decide) rfl ?_
        refine g_iload_n E dJ7_signedHashCode_17 rfl rfl rfl ?_
        refine g_imul E dJ7_signedHashCode_18 rfl ?_
        refine g_aload_n E dJ7_signedHashCode_19 rfl rfl rfl ?_
        refine g_iload E dJ7_signedHashCode_20 rfl rfl ?_
        refine g_bald E dJ7_signedHashCode_22 (j := i) hS_b (rfl) (by omega) (by omega) (v := w.getD i 0) (hS_c i (by omega)) rfl ?_
        refine g_sipush E (v := 255) dJ7_signedHashCode_23 (by decide) rfl ?_
        refine g_iand E dJ7_signedHashCode_26 rfl ?_
        refine g_iadd E dJ7_signedHashCode_27 rfl ?_
        refine g_as (y := zHx (fun i => w.getD i 0) (i + 1)) (rfl) ?_
        refine g_istore_n E dJ7_signedHashCode_28 rfl (by decide) rfl (lo1 := [some (.int (zHx (fun i => w.getD i 0) (i + 1))), some (.ref k), some (.int 0), some (.int (nI w.length)), some (.int (nI w.length)), some (.int (nI i))]) rfl rfl ?_
        refine g_iinc E dJ7_signedHashCode_29 rfl (v := nI (i + 1)) (nI_c _) (by decide) rfl (lo1 := [some (.int (zHx (fun i => w.getD i 0) (i + 1))), some (.ref k), some (.int 0), some (.int (nI w.length)), some (.int (nI w.length)), some (.int (nI (i + 1)))]) rfl rfl ?_
        refine g_goto E dJ7_signedHashCode_32 (tgt := 8) (by decide) ?_
        exact ih8 (i + 1) (by omega) (by omega)
  exact lp8 (w.length + 1) 0 (Nat.zero_le _) (by omega)
set_option maxHeartbeats 400000 in
theorem ct_J7_vectorizedHashCode (l : Launch) {g : gWM} {k : Nat} {w : List Int32} (hS : ∃ f, g k = some (.inl (1, w.length, .inl f)) ∧ ∀ i, i < w.length → f i = w.getD i 0) (hwl : w.length < 1000) : gCt l yJ7_vectorizedHashCode cJ7_vectorizedHashCode 5 (some .int) 1 0 0 25 [.ref k, .int 0, .int (nI w.length), .int 0, .int 4] g (gPu (.int (zHs w)) g) := by
  refine gCt.of RJ7 (by decide) rfl (lo := [some (.ref k), some (.int 0), some (.int (nI w.length)), some (.int 0), some (.int 4)]) 0 rfl (Nat.le_of_ble_eq_true rfl) (fun z E Rt => ?_)
  obtain ⟨hS_f, hS_b, hS_c⟩ := hS
  refine g_iload E dJ7_vectorizedHashCode_0 rfl rfl ?_
  refine g_tabIn E dJ7_vectorizedHashCode_2 (by decide) (by decide) (off := 42) (by rfl) (tgt := 44) (by decide) ?_
  refine g_iload_n E dJ7_vectorizedHashCode_44 rfl rfl rfl ?_
  refine g_aload_n E dJ7_vectorizedHashCode_45 rfl rfl rfl ?_
  refine g_castB E dJ7_vectorizedHashCode_46 hS_b q738 rfl ?_
  refine g_iload_n E dJ7_vectorizedHashCode_49 rfl rfl rfl ?_
  refine g_iload_n E dJ7_vectorizedHashCode_50 rfl rfl rfl ?_
  refine g_callS (n9 := 4) (av := [.int 0, .ref k, .int 0, .int (nI w.length)]) (st := []) E (ct_J7_signedHashCode l (⟨_, hS_b, hS_c⟩) (by omega)) dJ7_vectorizedHashCode_51 q739 q740 q141 q741 (by decide +kernel) rfl rfl ⟨by decide, by decide⟩ ⟨by decide, by decide⟩ (Nat.le_of_ble_eq_true rfl) rfl (gPu.k ?_)
  refine g_goto E dJ7_vectorizedHashCode_54 (tgt := 157) (by decide) ?_
  exact g_iret E Rt dJ7_vectorizedHashCode_157 rfl (by decide) (by decide) (⟨rfl, rfl⟩)
set_option maxHeartbeats 400000 in
theorem ct_J6_hashCode (l : Launch) {g : gWM} {k : Nat} {w : List Int32} (hS : ∃ f, g k = some (.inl (1, w.length, .inl f)) ∧ ∀ i, i < w.length → f i = w.getD i 0) (hwl : w.length < 1000) : gCt l yJ6_hashCode cJ6_hashCode 1 (some .int) 2 0 0 49 [.ref k] g (gPu (.int (zHs w)) g) := by
  refine gCt.of RJ6 (by decide) rfl (lo := [some (.ref k)]) 0 rfl (Nat.le_of_ble_eq_true rfl) (fun z E Rt => ?_)
  obtain ⟨hS_f, hS_b, hS_c⟩ := hS
  refine g_aload_n E dJ6_hashCode_0 rfl rfl rfl ?_
  refine g_alen E dJ6_hashCode_1 hS_b (by decide) (nI w.length) rfl rfl ?_
  by_cases l2_0 : nI w.length = 0
  · refine g_lookup E dJ6_hashCode_2 (by decide) (by rw [l2_0] <;> rfl) (tgt := 28) (by decide) ?_
    have h0_ : w.length = 0 := (nI_eq (a := w.length) (b := 0) (by omega) (by decide)).mp l2_0
    refine g_iconst E (v := 0) dJ6_hashCode_28 (by decide) rfl ?_
    refine g_goto E dJ6_hashCode_29 (tgt := 51) (by decide) ?_
    exact g_iret E Rt dJ6_hashCode_51 rfl (by decide) (by decide) (⟨congrArg (fun x => some (Value.int x)) (zHs_0 h0_), rfl⟩)
  have n2_0 := l2_0
  by_cases l2_1 : nI w.length = 1
  · refine g_lookup E dJ6_hashCode_2 (by decide) (by rw [l2_1] <;> rfl) (tgt := 32) (by decide) ?_
    have h1_ : w.length = 1 := (nI_eq (a := w.length) (b := 1) (by omega) (by decide)).mp l2_1
    refine g_aload_n E dJ6_hashCode_32 rfl rfl rfl ?_
    refine g_iconst E (v := 0) dJ6_hashCode_33 (by decide) rfl ?_
    refine g_bald E dJ6_hashCode_34 (j := 0) hS_b (rfl) (by omega) (by omega) (v := w.getD 0 0) (hS_c 0 (by omega)) rfl ?_
    refine g_sipush E (v := 255) dJ6_hashCode_35 (by decide) rfl ?_
    refine g_iand E dJ6_hashCode_38 rfl ?_
    refine g_as (y := zHs w) (zHs_1 h1_) ?_
    refine g_goto E dJ6_hashCode_39 (tgt := 51) (by decide) ?_
    exact g_iret E Rt dJ6_hashCode_51 rfl (by decide) (by decide) (⟨rfl, rfl⟩)
  have n2_1 := l2_1
  refine g_lookup E dJ6_hashCode_2 (by decide) (show Op.lookupswitch.offset [(0, 26), (1, 30)] 40 (nI w.length).toInt = 40 by rw [Op.lookupswitch.offset_cons, if_neg (fun h9 => n2_0 (Int32.toInt_inj.mp h9.symm)), Op.lookupswitch.offset_cons, if_neg (fun h9 => n2_1 (Int32.toInt_inj.mp h9.symm)), Op.lookupswitch.offset_nil]) (tgt := 42) (by decide) ?_
  refine g_aload_n E dJ6_hashCode_42 rfl rfl rfl ?_
  refine g_iconst E (v := 0) dJ6_hashCode_43 (by decide) rfl ?_
  refine g_aload_n E dJ6_hashCode_44 rfl rfl rfl ?_
  refine g_alen E dJ6_hashCode_45 hS_b (by decide) (nI w.length) rfl rfl ?_
  refine g_iconst E (v := 0) dJ6_hashCode_46 (by decide) rfl ?_
  refine g_iconst E (v := 4) dJ6_hashCode_47 (by decide) rfl ?_
  refine g_callS (n9 := 5) (av := [.ref k, .int 0, .int (nI w.length), .int 0, .int 4]) (st := []) E (ct_J7_vectorizedHashCode l (⟨_, hS_b, hS_c⟩) (by omega)) dJ6_hashCode_48 q735 q736 q141 q737 (by decide +kernel) rfl rfl ⟨by decide, by decide⟩ ⟨by decide, by decide⟩ (Nat.le_of_ble_eq_true rfl) rfl (gPu.k ?_)
  exact g_iret E Rt dJ6_hashCode_51 rfl (by decide) (by decide) (⟨rfl, rfl⟩)
set_option maxHeartbeats 400000 in
theorem ct_J3_isLatin1 (l : Launch) {g : gWM} {k : Nat} {w : List Int32} (hS : pSt g k w) : gCt l yJ3_isLatin1 cJ3_isLatin1 1 (some .boolean) 0 0 0 0 [.ref k] g (gPu (.int 1) g) := by
  refine gCt.of RJ3 (by decide) rfl (lo := [some (.ref k)]) 0 rfl (Nat.le_of_ble_eq_true rfl) (fun z E Rt => ?_)
  have hS_o := hS
  obtain ⟨hS_F, hS_h, hS_iz, hS_a, hS_0, hS_1, hS_2, hS_3, hS_4, hS_5, hS_f, hS_b, hS_c⟩ := hS_o
  refine g_getsI E (.inl ⟨rfl, rfl, rfl⟩) dJ3_isLatin1_0 q651 rfl ?_
  refine g_if_eq E dJ3_isLatin1_3 (tgt := 17) (by decide) rfl (fun h9 => absurd h9 (by decide)) (fun _ => ?_)
  refine g_aload_n E dJ3_isLatin1_6 rfl rfl rfl ?_
  refine g_getf E gciJ3 dJ3_isLatin1_7 hS_a 1 rfl (by decide) q696 (.inl rfl) (.int 0) (hS_1) rfl ?_
  refine g_if_ne E dJ3_isLatin1_10 (tgt := 17) (by decide) rfl (fun h9 => absurd h9 (by decide)) (fun _ => ?_)
  refine g_iconst E (v := 1) dJ3_isLatin1_13 (by decide) rfl ?_
  refine g_goto E dJ3_isLatin1_14 (tgt := 18) (by decide) ?_
  exact g_zret E Rt dJ3_isLatin1_18 rfl (by decide) (by decide) (by decide) (⟨rfl, rfl⟩)
set_option maxHeartbeats 400000 in
theorem ct_J3_isLatin1_L (l : Launch) {g : gWM} {j : Nat} {q9 : String × Nat × String} (hj : gSites[j]? = some q9) : gCt l yJ3_isLatin1 cJ3_isLatin1 1 (some .boolean) 0 0 0 0 [.ref (1 + 2 * j)] g (gPu (.int 1) g) := by
  refine gCt.of RJ3 (by decide) rfl (lo := [some (.ref (1 + 2 * j))]) 0 rfl (Nat.le_of_ble_eq_true rfl) (fun z E Rt => ?_)
  have hj_l := gS_l hj
  refine g_getsI E (.inl ⟨rfl, rfl, rfl⟩) dJ3_isLatin1_0 q651 rfl ?_
  refine g_if_eq E dJ3_isLatin1_3 (tgt := 17) (by decide) rfl (fun h9 => absurd h9 (by decide)) (fun _ => ?_)
  refine g_aload_n E dJ3_isLatin1_6 rfl rfl rfl ?_
  refine g_getcL E (j := j) (q9 := q9) hj dJ3_isLatin1_7 q696 rfl ?_
  refine g_if_ne E dJ3_isLatin1_10 (tgt := 17) (by decide) rfl (fun h9 => absurd h9 (by decide)) (fun _ => ?_)
  refine g_iconst E (v := 1) dJ3_isLatin1_13 (by decide) rfl ?_
  refine g_goto E dJ3_isLatin1_14 (tgt := 18) (by decide) ?_
  exact g_zret E Rt dJ3_isLatin1_18 rfl (by decide) (by decide) (by decide) (⟨rfl, rfl⟩)
set_option maxHeartbeats 400000 in
theorem ct_J3_coder (l : Launch) {g : gWM} {k : Nat} {w : List Int32} (hS : pSt g k w) : gCt l yJ3_coder cJ3_coder 1 (some .byte) 0 0 0 0 [.ref k] g (gPu (.int 0) g) := by
  refine gCt.of RJ3 (by decide) rfl (lo := [some (.ref k)]) 0 rfl (Nat.le_of_ble_eq_true rfl) (fun z E Rt => ?_)
  have hS_o := hS
  obtain ⟨hS_F, hS_h, hS_iz, hS_a, hS_0, hS_1, hS_2, hS_3, hS_4, hS_5, hS_f, hS_b, hS_c⟩ := hS_o
  refine g_getsI E (.inl ⟨rfl, rfl, rfl⟩) dJ3_coder_0 q651 rfl ?_
  refine g_if_eq E dJ3_coder_3 (tgt := 13) (by decide) rfl (fun h9 => absurd h9 (by decide)) (fun _ => ?_)
  refine g_aload_n E dJ3_coder_6 rfl rfl rfl ?_
  refine g_getf E gciJ3 dJ3_coder_7 hS_a 1 rfl (by decide) q696 (.inl rfl) (.int 0) (hS_1) rfl ?_
  refine g_goto E dJ3_coder_10 (tgt := 14) (by decide) ?_
  exact g_zret E Rt dJ3_coder_14 rfl (by decide) (by decide) (by decide) (⟨rfl, rfl⟩)
set_option maxHeartbeats 400000 in
theorem ct_J3_coder_L (l : Launch) {g : gWM} {j : Nat} {q9 : String × Nat × String} (hj : gSites[j]? = some q9) : gCt l yJ3_coder cJ3_coder 1 (some .byte) 0 0 0 0 [.ref (1 + 2 * j)] g (gPu (.int 0) g) := by
  refine gCt.of RJ3 (by decide) rfl (lo := [some (.ref (1 + 2 * j))]) 0 rfl (Nat.le_of_ble_eq_true rfl) (fun z E Rt => ?_)
  have hj_l := gS_l hj
  refine g_getsI E (.inl ⟨rfl, rfl, rfl⟩) dJ3_coder_0 q651 rfl ?_
  refine g_if_eq E dJ3_coder_3 (tgt := 13) (by decide) rfl (fun h9 => absurd h9 (by decide)) (fun _ => ?_)
  refine g_aload_n E dJ3_coder_6 rfl rfl rfl ?_
  refine g_getcL E (j := j) (q9 := q9) hj dJ3_coder_7 q696 rfl ?_
  refine g_goto E dJ3_coder_10 (tgt := 14) (by decide) ?_
  exact g_zret E Rt dJ3_coder_14 rfl (by decide) (by decide) (by decide) (⟨rfl, rfl⟩)
set_option maxHeartbeats 400000 in
theorem ct_J3_length_L (l : Launch) {g : gWM} {j : Nat} {q9 : String × Nat × String} (hj : gSites[j]? = some q9) : gCt l yJ3_length cJ3_length 1 (some .int) 1 0 0 20 [.ref (1 + 2 * j)] g (gPu (.int (nI (gByt q9.2.2).length)) g) := by
  refine gCt.of RJ3 (by decide) rfl (lo := [some (.ref (1 + 2 * j))]) 0 rfl (Nat.le_of_ble_eq_true rfl) (fun z E Rt => ?_)
  have hj_l := gS_l hj
  refine g_aload_n E dJ3_length_0 rfl rfl rfl ?_
  refine g_getvL E (j := j) (q9 := q9) hj dJ3_length_1 q695 rfl ?_
  refine g_alenL E (j := j) (q9 := q9) hj dJ3_length_4 rfl ?_
  refine g_aload_n E dJ3_length_5 rfl rfl rfl ?_
  refine g_callVL (j := j) (q9 := q9) (n9 := 0) (av := []) (st := [.int (nI (gByt q9.2.2).length)]) E (ct_J3_coder_L l hj) hj dJ3_length_6 q2024 q2025 q2026 q137 q2027 (by decide +kernel) rfl rfl ⟨by decide, by decide⟩ ⟨by decide, by decide⟩ (Nat.le_of_ble_eq_true rfl) rfl (gPu.k ?_)
  refine g_ishr E dJ3_length_9 rfl ?_
  refine g_as (y := nI (gByt q9.2.2).length) (shr0 _) ?_
  exact g_iret E Rt dJ3_length_10 rfl (by decide) (by decide) (⟨rfl, rfl⟩)
set_option maxHeartbeats 400000 in
theorem ct_J4_checkIndex_N (l : Launch) {g : gWM} (i n : Nat) (hi : i < n) (hn : n < 100000) : gCt l yJ4_checkIndex cJ4_checkIndex 3 (some .int) 0 0 0 0 [.int (nI i), .int (nI n), .null] g (gPu (.int (nI i)) g) := by
  refine gCt.of RJ4 (by decide) rfl (lo := [some (.int (nI i)), some (.int (nI n)), some (.null)]) 0 rfl (Nat.le_of_ble_eq_true rfl) (fun z E Rt => ?_)
  refine g_iload_n E dJ4_checkIndex_0 rfl rfl rfl ?_
  refine g_if_lt E dJ4_checkIndex_1 (tgt := 9) (by decide) rfl (fun c1 => ?_) (fun c1 => ?_)
  · exact absurd c1 (nI_pos (by omega))
  · refine g_iload_n E dJ4_checkIndex_4 rfl rfl rfl ?_
    refine g_iload_n E dJ4_checkIndex_5 rfl rfl rfl ?_
    refine g_icmp_lt E dJ4_checkIndex_6 (tgt := 16) (by decide) rfl (fun c6 => ?_) (fun c6 => ?_)
    · have c6 := (nI_ltI (a := i) (b := n) (by omega) (by omega)).mp c6
      refine g_iload_n E dJ4_checkIndex_16 rfl rfl rfl ?_
      exact g_iret E Rt dJ4_checkIndex_17 rfl (by decide) (by decide) (⟨rfl, rfl⟩)
    · have c6 := mt (nI_ltI (a := i) (b := n) (by omega) (by omega)).mpr c6
      exact absurd hi c6
set_option maxHeartbeats 400000 in
theorem ct_J4_checkIndex_R (l : Launch) {g : gWM} (i n : Nat) {b9 : Nat} (hi : i < n) (hn : n < 100000) : gCt l yJ4_checkIndex cJ4_checkIndex 3 (some .int) 0 0 0 0 [.int (nI i), .int (nI n), .ref b9] g (gPu (.int (nI i)) g) := by
  refine gCt.of RJ4 (by decide) rfl (lo := [some (.int (nI i)), some (.int (nI n)), some (.ref b9)]) 0 rfl (Nat.le_of_ble_eq_true rfl) (fun z E Rt => ?_)
  refine g_iload_n E dJ4_checkIndex_0 rfl rfl rfl ?_
  refine g_if_lt E dJ4_checkIndex_1 (tgt := 9) (by decide) rfl (fun c1 => ?_) (fun c1 => ?_)
  · exact absurd c1 (nI_pos (by omega))
  · refine g_iload_n E dJ4_checkIndex_4 rfl rfl rfl ?_
    refine g_iload_n E dJ4_checkIndex_5 rfl rfl rfl ?_
    refine g_icmp_lt E dJ4_checkIndex_6 (tgt := 16) (by decide) rfl (fun c6 => ?_) (fun c6 => ?_)
    · have c6 := (nI_ltI (a := i) (b := n) (by omega) (by omega)).mp c6
      refine g_iload_n E dJ4_checkIndex_16 rfl rfl rfl ?_
      exact g_iret E Rt dJ4_checkIndex_17 rfl (by decide) (by decide) (⟨rfl, rfl⟩)
    · have c6 := mt (nI_ltI (a := i) (b := n) (by omega) (by omega)).mpr c6
      exact absurd hi c6
set_option maxHeartbeats 400000 in
theorem ct_J3_checkIndex (l : Launch) {g : gWM} (i n : Nat) (hi : i < n) (hn : n < 100000) : gCt l yJ3_checkIndex cJ3_checkIndex 2 none 1 0 0 22 [.int (nI i), .int (nI n)] g (gPv g) := by
  refine gCt.of RJ3 (by decide) rfl (lo := [some (.int (nI i)), some (.int (nI n))]) 0 rfl (Nat.le_of_ble_eq_true rfl) (fun z E Rt => ?_)
  refine g_iload_n E dJ3_checkIndex_0 rfl rfl rfl ?_
  refine g_iload_n E dJ3_checkIndex_1 rfl rfl rfl ?_
  refine g_getsR E (k := 902) (.inr (.inr ⟨rfl, rfl, rfl, rfl⟩)) dJ3_checkIndex_2 q641 rfl (fun v9 hv9 => ?_)
  rcases hv9 with rfl | rfl
  · refine g_callS (n9 := 3) (av := [.int (nI i), .int (nI n), .null]) (st := []) E (ct_J4_checkIndex_N l i n (by omega) (by omega)) dJ3_checkIndex_5 q2038 q2039 q138 q2040 (by decide +kernel) rfl rfl ⟨by decide, by decide⟩ ⟨by decide, by decide⟩ (Nat.le_of_ble_eq_true rfl) rfl (gPu.k ?_)
    refine g_pop E dJ3_checkIndex_8 rfl rfl ?_
    exact g_vret E Rt dJ3_checkIndex_9 rfl (by decide) (by decide) (⟨rfl, rfl⟩)
  · refine g_callS (n9 := 3) (av := [.int (nI i), .int (nI n), .ref 902]) (st := []) E (ct_J4_checkIndex_R l i n (by omega) (by omega)) dJ3_checkIndex_5 q2038 q2039 q138 q2040 (by decide +kernel) rfl rfl ⟨by decide, by decide⟩ ⟨by decide, by decide⟩ (Nat.le_of_ble_eq_true rfl) rfl (gPu.k ?_)
    refine g_pop E dJ3_checkIndex_8 rfl rfl ?_
    exact g_vret E Rt dJ3_checkIndex_9 rfl (by decide) (by decide) (⟨rfl, rfl⟩)
set_option maxHeartbeats 400000 in
theorem ct_J6_charAt (l : Launch) {g : gWM} {j : Nat} {q9 : String × Nat × String} (i : Nat) (hj : gSites[j]? = some q9) (hi : i < (gByt q9.2.2).length) : gCt l yJ6_charAt cJ6_charAt 2 (some .char) 2 0 0 43 [.ref (2 + 2 * j), .int (nI i)] g (gPu (.int (zCh ((gByt q9.2.2).getD i 0))) g) := by
  refine gCt.of RJ6 (by decide) rfl (lo := [some (.ref (2 + 2 * j)), some (.int (nI i))]) 0 rfl (Nat.le_of_ble_eq_true rfl) (fun z E Rt => ?_)
  have hj_l := gS_l hj
  refine g_iload_n E dJ6_charAt_0 rfl rfl rfl ?_
  refine g_aload_n E dJ6_charAt_1 rfl rfl rfl ?_
  refine g_alenL E (j := j) (q9 := q9) hj dJ6_charAt_2 rfl ?_
  refine g_callS (n9 := 2) (av := [.int (nI i), .int (nI (gByt q9.2.2).length)]) (st := []) E (ct_J3_checkIndex l i ((gByt q9.2.2).length) (by omega) (by omega)) dJ6_charAt_3 q2035 q2036 q137 q2037 (by decide +kernel) rfl rfl ⟨by decide, by decide⟩ ⟨by decide, by decide⟩ (Nat.le_of_ble_eq_true rfl) rfl (gPv.k ?_)
  refine g_aload_n E dJ6_charAt_6 rfl rfl rfl ?_
  refine g_iload_n E dJ6_charAt_7 rfl rfl rfl ?_
  refine g_baldL E (j := j) (k := i) (q9 := q9) hj dJ6_charAt_8 (rfl) (by omega) (by omega) rfl ?_
  refine g_sipush E (v := 255) dJ6_charAt_9 (by decide) rfl ?_
  refine g_iand E dJ6_charAt_12 rfl ?_
  refine g_i2c E dJ6_charAt_13 rfl ?_
  exact g_zret E Rt dJ6_charAt_14 rfl (nar_ch _) (by decide) (by decide) (⟨rfl, rfl⟩)
set_option maxHeartbeats 400000 in
theorem ct_J3_charAt (l : Launch) {g : gWM} {j : Nat} {q9 : String × Nat × String} (i : Nat) (hj : gSites[j]? = some q9) (hi : i < (gByt q9.2.2).length) : gCt l yJ3_charAt cJ3_charAt 2 (some .char) 3 0 0 64 [.ref (1 + 2 * j), .int (nI i)] g (gPu (.int (zCh ((gByt q9.2.2).getD i 0))) g) := by
  refine gCt.of RJ3 (by decide) rfl (lo := [some (.ref (1 + 2 * j)), some (.int (nI i))]) 0 rfl (Nat.le_of_ble_eq_true rfl) (fun z E Rt => ?_)
  have hj_l := gS_l hj
  refine g_aload_n E dJ3_charAt_0 rfl rfl rfl ?_
  refine g_callVL (j := j) (q9 := q9) (n9 := 0) (av := []) (st := []) E (ct_J3_isLatin1_L l hj) hj dJ3_charAt_1 q728 q729 q730 q137 q731 (by decide +kernel) rfl rfl ⟨by decide, by decide⟩ ⟨by decide, by decide⟩ (Nat.le_of_ble_eq_true rfl) rfl (gPu.k ?_)
  refine g_if_eq E dJ3_charAt_4 (tgt := 16) (by decide) rfl (fun h9 => absurd h9 (by decide)) (fun _ => ?_)
  refine g_aload_n E dJ3_charAt_7 rfl rfl rfl ?_
  refine g_getvL E (j := j) (q9 := q9) hj dJ3_charAt_8 q695 rfl ?_
  refine g_iload_n E dJ3_charAt_11 rfl rfl rfl ?_
  refine g_callS (n9 := 2) (av := [.ref (2 + 2 * j), .int (nI i)]) (st := []) E (ct_J6_charAt l i hj (by omega)) dJ3_charAt_12 q2032 q2033 q140 q2034 (by decide +kernel) rfl rfl ⟨by decide, by decide⟩ ⟨by decide, by decide⟩ (Nat.le_of_ble_eq_true rfl) rfl (gPu.k ?_)
  exact g_zret E Rt dJ3_charAt_15 rfl (nar_ch _) (by decide) (by decide) (⟨rfl, rfl⟩)
set_option maxHeartbeats 400000 in
theorem ct_J3_hashCode (l : Launch) {g : gWM} {k : Nat} {w : List Int32} (hS : pSt g k w) (hwl : w.length < 1000) : gCt l yJ3_hashCode cJ3_hashCode 2 (some .int) 3 0 0 69 [.ref k] g (gPi (zHs w) (fun g1 => pSt g1 k w ∧ ∀ j, j ≠ k → g1 j = g j)) := by
  refine gCt.of RJ3 (by decide) rfl (lo := [some (.ref k), none]) 1 rfl (Nat.le_of_ble_eq_true rfl) (fun z E Rt => ?_)
  have hS_o := hS
  obtain ⟨hS_F, hS_h, hS_iz, hS_a, hS_0, hS_1, hS_2, hS_3, hS_4, hS_5, hS_f, hS_b, hS_c⟩ := hS_o
  refine g_aload_n E dJ3_hashCode_0 rfl rfl rfl ?_
  refine g_getf E gciJ3 dJ3_hashCode_1 hS_a 2 rfl (by decide) q697 (.inl rfl) (.int hS_h) (hS_2) rfl ?_
  refine g_istore_n E dJ3_hashCode_4 rfl (by decide) rfl (lo1 := [some (.ref k), some (.int hS_h)]) rfl rfl ?_
  refine g_iload_n E dJ3_hashCode_5 rfl rfl rfl ?_
  refine g_if_ne E dJ3_hashCode_6 (tgt := 58) (by decide) rfl (fun c6 => ?_) (fun c6 => ?_)
  · refine g_iload_n E dJ3_hashCode_58 rfl rfl rfl ?_
    exact g_iret E Rt dJ3_hashCode_59 rfl (by decide) (by decide) (⟨congrArg (fun x => some (Value.int x)) (hS_4.resolve_left (fun h9 => c6 h9)), ⟨_, _, _, hS_a, hS_0, hS_1, hS_2, hS_3, hS_4, hS_5, _, hS_b, hS_c⟩, fun j9 h9 => rfl⟩)
  · refine g_aload_n E dJ3_hashCode_9 rfl rfl rfl ?_
    refine g_getf E gciJ3 dJ3_hashCode_10 hS_a 3 rfl (by decide) q698 (.inl rfl) (.int hS_iz) (hS_3) rfl ?_
    refine g_if_ne E dJ3_hashCode_13 (tgt := 58) (by decide) rfl (fun c13 => ?_) (fun c13 => ?_)
    · refine g_iload_n E dJ3_hashCode_58 rfl rfl rfl ?_
      exact g_iret E Rt dJ3_hashCode_59 rfl (by decide) (by decide) (⟨congrArg (fun x => some (Value.int x)) (c6.trans (hS_5.resolve_left (fun h9 => c13 h9)).symm), ⟨_, _, _, hS_a, hS_0, hS_1, hS_2, hS_3, hS_4, hS_5, _, hS_b, hS_c⟩, fun j9 h9 => rfl⟩)
    · refine g_aload_n E dJ3_hashCode_16 rfl rfl rfl ?_
      refine g_callV (k := k) (n9 := 0) (av := []) (st := []) E (ct_J3_isLatin1 l hS) gciJ3 dJ3_hashCode_17 hS_a q728 q729 q730 q137 q731 (by decide +kernel) rfl rfl ⟨by decide, by decide⟩ ⟨by decide, by decide⟩ (Nat.le_of_ble_eq_true rfl) rfl (gPu.k ?_)
      refine g_if_eq E dJ3_hashCode_20 (tgt := 33) (by decide) rfl (fun h9 => absurd h9 (by decide)) (fun _ => ?_)
      refine g_aload_n E dJ3_hashCode_23 rfl rfl rfl ?_
      refine g_getf E gciJ3 dJ3_hashCode_24 hS_a 0 rfl (by decide) q695 (.inl rfl) (.ref (k + 1)) (hS_0) rfl ?_
      refine g_callS (n9 := 1) (av := [.ref (k + 1)]) (st := []) E (ct_J6_hashCode l (⟨_, hS_b, hS_c⟩) (by omega)) dJ3_hashCode_27 q732 q733 q140 q734 (by decide +kernel) rfl rfl ⟨by decide, by decide⟩ ⟨by decide, by decide⟩ (Nat.le_of_ble_eq_true rfl) rfl (gPu.k ?_)
      refine g_goto E dJ3_hashCode_30 (tgt := 40) (by decide) ?_
      refine g_istore_n E dJ3_hashCode_40 rfl (by decide) rfl (lo1 := [some (.ref k), some (.int (zHs w))]) rfl rfl ?_
      refine g_iload_n E dJ3_hashCode_41 rfl rfl rfl ?_
      refine g_if_ne E dJ3_hashCode_42 (tgt := 53) (by decide) rfl (fun c42 => ?_) (fun c42 => ?_)
      · refine g_aload_n E dJ3_hashCode_53 rfl rfl rfl ?_
        refine g_iload_n E dJ3_hashCode_54 rfl rfl rfl ?_
        refine g_putf E gciJ3 (v := .int (zHs w)) dJ3_hashCode_55 hS_a 2 rfl (by decide) q697 (.inl rfl) rfl (fun _ => rfl) (fun _ => rfl) rfl (g_upk (fun g1 h1 f1 => ?_))
        refine g_iload_n E dJ3_hashCode_58 rfl rfl rfl ?_
        have x2 := (f1 (k + 1) (by omega)).trans (hS_b)
        exact g_iret E Rt dJ3_hashCode_59 rfl (by decide) (by decide) (⟨congrArg (fun x => some (Value.int x)) (rfl), ⟨_, _, _, h1, hS_0, hS_1, rfl, hS_3, .inr rfl, hS_5, _, x2, hS_c⟩, fun j9 h9 => f1 j9 (by omega)⟩)
      · refine g_aload_n E dJ3_hashCode_45 rfl rfl rfl ?_
        refine g_iconst E (v := 1) dJ3_hashCode_46 (by decide) rfl ?_
        refine g_putf E gciJ3 (v := .int 1) dJ3_hashCode_47 hS_a 3 rfl (by decide) q698 (.inl rfl) rfl (fun _ => show narrow .boolean (.int 1) = .int 1 by decide) (fun _ => show fits .boolean (.int 1) = true by decide) rfl (g_upk (fun g3 h3 f3 => ?_))
        refine g_goto E dJ3_hashCode_50 (tgt := 58) (by decide) ?_
        refine g_iload_n E dJ3_hashCode_58 rfl rfl rfl ?_
        have x4 := (f3 (k + 1) (by omega)).trans (hS_b)
        exact g_iret E Rt dJ3_hashCode_59 rfl (by decide) (by decide) (⟨congrArg (fun x => some (Value.int x)) (rfl), ⟨_, _, _, h3, hS_0, hS_1, hS_2, rfl, hS_4, .inr c42, _, x4, hS_c⟩, fun j9 h9 => f3 j9 (by omega)⟩)
