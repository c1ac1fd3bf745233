/-! WALKS, twenty-fourth: a String out of letters; the next token -/
set_option maxRecDepth 100000
set_option maxHeartbeats 400000 in
theorem ct_J4_checkFromIndexSize_N (l : Launch) {g : gWM} (m : Nat) (hm9 : m ≤ 9) : gCt l yJ4_checkFromIndexSize cJ4_checkFromIndexSize 4 (some .int) 0 0 0 0 [.int 0, .int (nI m), .int 9, .null] g (gPu (.int 0) g) := by
  refine gCt.of RJ4 (by decide) rfl (lo := [some (.int 0), some (.int (nI m)), some (.int 9), some (.null)]) 0 rfl (Nat.le_of_ble_eq_true rfl) (fun z E Rt => ?_)
  refine g_iload_n E dJ4_checkFromIndexSize_0 rfl rfl rfl ?_
  refine g_iload_n E dJ4_checkFromIndexSize_1 rfl rfl rfl ?_
  refine g_ior E dJ4_checkFromIndexSize_2 rfl ?_
  refine g_iload_n E dJ4_checkFromIndexSize_3 rfl rfl rfl ?_
  refine g_ior E dJ4_checkFromIndexSize_4 rfl ?_
  refine g_if_lt E dJ4_checkFromIndexSize_5 (tgt := 15) (by decide) rfl (fun c5 => ?_) (fun c5 => ?_)
  · exact absurd c5 (cfi m hm9)
  · refine g_iload_n E dJ4_checkFromIndexSize_8 rfl rfl rfl ?_
    refine g_iload_n E dJ4_checkFromIndexSize_9 rfl rfl rfl ?_
    refine g_iload_n E dJ4_checkFromIndexSize_10 rfl rfl rfl ?_
    refine g_isub E dJ4_checkFromIndexSize_11 rfl ?_
    refine g_icmp_le E dJ4_checkFromIndexSize_12 (tgt := 23) (by decide) rfl (fun c12 => ?_) (fun c12 => ?_)
    · refine g_iload_n E dJ4_checkFromIndexSize_23 rfl rfl rfl ?_
      exact g_iret E Rt dJ4_checkFromIndexSize_24 rfl (by decide) (by decide) (⟨rfl, rfl⟩)
    · exact absurd ((nI_leI (a := m) (b := 9) (by omega) (by decide)).mpr hm9) c12
set_option maxHeartbeats 400000 in
theorem ct_J4_checkFromIndexSize_R (l : Launch) {g : gWM} (m : Nat) {b9 : Nat} (hm9 : m ≤ 9) : gCt l yJ4_checkFromIndexSize cJ4_checkFromIndexSize 4 (some .int) 0 0 0 0 [.int 0, .int (nI m), .int 9, .ref b9] g (gPu (.int 0) g) := by
  refine gCt.of RJ4 (by decide) rfl (lo := [some (.int 0), some (.int (nI m)), some (.int 9), some (.ref b9)]) 0 rfl (Nat.le_of_ble_eq_true rfl) (fun z E Rt => ?_)
  refine g_iload_n E dJ4_checkFromIndexSize_0 rfl rfl rfl ?_
  refine g_iload_n E dJ4_checkFromIndexSize_1 rfl rfl rfl ?_
  refine g_ior E dJ4_checkFromIndexSize_2 rfl ?_
  refine g_iload_n E dJ4_checkFromIndexSize_3 rfl rfl rfl ?_
  refine g_ior E dJ4_checkFromIndexSize_4 rfl ?_
  refine g_if_lt E dJ4_checkFromIndexSize_5 (tgt := 15) (by decide) rfl (fun c5 => ?_) (fun c5 => ?_)
  · exact absurd c5 (cfi m hm9)
  · refine g_iload_n E dJ4_checkFromIndexSize_8 rfl rfl rfl ?_
    refine g_iload_n E dJ4_checkFromIndexSize_9 rfl rfl rfl ?_
    refine g_iload_n E dJ4_checkFromIndexSize_10 rfl rfl rfl ?_
    refine g_isub E dJ4_checkFromIndexSize_11 rfl ?_
    refine g_icmp_le E dJ4_checkFromIndexSize_12 (tgt := 23) (by decide) rfl (fun c12 => ?_) (fun c12 => ?_)
    · refine g_iload_n E dJ4_checkFromIndexSize_23 rfl rfl rfl ?_
      exact g_iret E Rt dJ4_checkFromIndexSize_24 rfl (by decide) (by decide) (⟨rfl, rfl⟩)
    · exact absurd ((nI_leI (a := m) (b := 9) (by omega) (by decide)).mpr hm9) c12
set_option maxHeartbeats 400000 in
theorem ct_J3_checkBoundsOffCount (l : Launch) {g : gWM} (m : Nat) (hm9 : m ≤ 9) : gCt l yJ3_checkBoundsOffCount cJ3_checkBoundsOffCount 3 (some .int) 1 0 0 23 [.int 0, .int (nI m), .int 9] g (gPu (.int 0) g) := by
  refine gCt.of RJ3 (by decide) rfl (lo := [some (.int 0), some (.int (nI m)), some (.int 9)]) 0 rfl (Nat.le_of_ble_eq_true rfl) (fun z E Rt => ?_)
  refine g_iload_n E dJ3_checkBoundsOffCount_0 rfl rfl rfl ?_
  refine g_iload_n E dJ3_checkBoundsOffCount_1 rfl rfl rfl ?_
  refine g_iload_n E dJ3_checkBoundsOffCount_2 rfl rfl rfl ?_
  refine g_getsR E (k := 902) (.inr (.inr ⟨rfl, rfl, rfl, rfl⟩)) dJ3_checkBoundsOffCount_3 q641 rfl (fun v9 hv9 => ?_)
  rcases hv9 with rfl | rfl
  · refine g_callS (n9 := 4) (av := [.int 0, .int (nI m), .int 9, .null]) (st := []) E (ct_J4_checkFromIndexSize_N l m (by omega)) dJ3_checkBoundsOffCount_6 q643 q644 q138 q645 (by decide +kernel) rfl rfl ⟨by decide, by decide⟩ ⟨by decide, by decide⟩ (Nat.le_of_ble_eq_true rfl) rfl (gPu.k ?_)
    exact g_iret E Rt dJ3_checkBoundsOffCount_9 rfl (by decide) (by decide) (⟨rfl, rfl⟩)
  · refine g_callS (n9 := 4) (av := [.int 0, .int (nI m), .int 9, .ref 902]) (st := []) E (ct_J4_checkFromIndexSize_R l m (by omega)) dJ3_checkBoundsOffCount_6 q643 q644 q138 q645 (by decide +kernel) rfl rfl ⟨by decide, by decide⟩ ⟨by decide, by decide⟩ (Nat.le_of_ble_eq_true rfl) rfl (gPu.k ?_)
    exact g_iret E Rt dJ3_checkBoundsOffCount_9 rfl (by decide) (by decide) (⟨rfl, rfl⟩)
set_option maxHeartbeats 400000 in
theorem ct_J3_rangeCheck (l : Launch) {g : gWM} (m : Nat) (hL : ∃ f, g 1004 = some (.inl (2, 9, .inl f))) (hm9 : m ≤ 9) : gCt l yJ3_rangeCheck cJ3_rangeCheck 3 (some (.object "java/lang/Void")) 2 0 0 45 [.ref 1004, .int 0, .int (nI m)] g (gPu .null g) := by
  refine gCt.of RJ3 (by decide) rfl (lo := [some (.ref 1004), some (.int 0), some (.int (nI m))]) 0 rfl (Nat.le_of_ble_eq_true rfl) (fun z E Rt => ?_)
  obtain ⟨hL_f, hL_a⟩ := hL
  refine g_iload_n E dJ3_rangeCheck_0 rfl rfl rfl ?_
  refine g_iload_n E dJ3_rangeCheck_1 rfl rfl rfl ?_
  refine g_aload_n E dJ3_rangeCheck_2 rfl rfl rfl ?_
  refine g_alen E dJ3_rangeCheck_3 hL_a (by decide) 9 rfl rfl ?_
  refine g_callS (n9 := 3) (av := [.int 0, .int (nI m), .int 9]) (st := []) E (ct_J3_checkBoundsOffCount l m (by omega)) dJ3_rangeCheck_4 q638 q639 q137 q640 (by decide +kernel) rfl rfl ⟨by decide, by decide⟩ ⟨by decide, by decide⟩ (Nat.le_of_ble_eq_true rfl) rfl (gPu.k ?_)
  refine g_pop E dJ3_rangeCheck_7 rfl rfl ?_
  refine g_null E dJ3_rangeCheck_8 rfl ?_
  exact g_aretN E Rt dJ3_rangeCheck_9 rfl (Or.inl ⟨_, rfl⟩) (by decide) (by decide) (⟨rfl, rfl⟩)
set_option maxHeartbeats 400000 in
theorem ct_J5_compress_2 (l : Launch) {g : gWM} {b : Nat} {w : List Int32} (hwo : zWo w) (hCw : ∃ f, g 1004 = some (.inl (2, 9, .inl f)) ∧ ∀ i, i < w.length → f i = w.getD i 0) (hD : ∃ f, g b = some (.inl (1, w.length, .inl f))) (hb : 1004 < b) : gCt l yJ5_compress_2 cJ5_compress_2 7 (some .int) 0 0 0 0 [.ref 1004, .int 0, .ref b, .int 0, .int (nI w.length)] g (gPi (nI w.length) (fun g1 => (∃ f, g1 b = some (.inl (1, w.length, .inl f)) ∧ ∀ i, i < w.length → f i = w.getD i 0) ∧ ∀ j, j ≠ b → g1 j = g j)) := by
  refine gCt.of RJ5 (by decide) rfl (lo := [some (.ref 1004), some (.int 0), some (.ref b), some (.int 0), some (.int (nI w.length)), none, none]) 2 rfl (Nat.le_of_ble_eq_true rfl) (fun z E Rt => ?_)
  obtain ⟨hCw_f, hCw_a, hCw_b⟩ := hCw
  obtain ⟨hD_f, hD_a⟩ := hD
  have hwl := hwo.2.1
  refine g_iconst E (v := 0) dJ5_compress_2_0 (by decide) rfl ?_
  refine g_istore E dJ5_compress_2_1 (by decide) rfl (lo1 := [some (.ref 1004), some (.int 0), some (.ref b), some (.int 0), some (.int (nI w.length)), some (.int 0), none]) rfl rfl ?_
  have lp3 : ∀ (r9 : Nat) (i : Nat) (gw : gWM), (i ≤ w.length) → (w.length - i < r9) → (∃ f, gw b = some (.inl (1, w.length, .inl f)) ∧ ∀ i2, i2 < i → f i2 = w.getD i2 0) → (∀ j, j ≠ b → gw j = g j) → gV z gw 0 0 3 [some (.ref 1004), some (.int (nI i)), some (.ref b), some (.int (nI i)), some (.int (nI w.length)), some (.int (nI i)), none] [] := by
    intro r9
    induction r9 with
    | zero => intro i gw hi hm hSw hfw; exact absurd hm (Nat.not_lt_zero _)
    | succ r9 ih3 =>
      intro i gw hi hm hSw hfw
      obtain ⟨hSw_f, hSw_a, hSw_r⟩ := hSw
      refine g_iload E dJ5_compress_2_3 rfl rfl ?_
      refine g_iload E dJ5_compress_2_5 rfl rfl ?_
      refine g_icmp_ge E dJ5_compress_2_7 (tgt := 44) (by decide) rfl (fun c7 => ?_) (fun c7 => ?_)
      · have c7 := (nI_leI (a := w.length) (b := i) (by omega) (by omega)).mp c7
        refine g_iload E dJ5_compress_2_44 rfl rfl ?_
        exact g_iret E Rt dJ5_compress_2_46 rfl (by decide) (by decide) (⟨rfl, ⟨_, hSw_a, fun i9 h9 => hSw_r i9 (by omega)⟩, hfw⟩)
      · have c7 := mt (nI_leI (a := w.length) (b := i) (by omega) (by omega)).mpr c7
        refine g_aload_n E dJ5_compress_2_10 rfl rfl rfl ?_
        refine g_iload_n E dJ5_compress_2_11 rfl rfl rfl ?_
        have x1 := (hfw (1004) (by omega)).trans (hCw_a)
        refine g_cald E dJ5_compress_2_12 (j := i) x1 (rfl) (by omega) (by decide) (v := w.getD i 0) (hCw_b i (by omega)) rfl ?_
        refine g_istore E dJ5_compress_2_13 (by decide) rfl (lo1 := [some (.ref 1004), some (.int (nI i)), some (.ref b), some (.int (nI i)), some (.int (nI w.length)), some (.int (nI i)), some (.int (w.getD i 0))]) rfl rfl ?_
        refine g_iload E dJ5_compress_2_15 rfl rfl ?_
        refine g_sipush E (v := 255) dJ5_compress_2_17 (by decide) rfl ?_
        refine g_icmp_le E dJ5_compress_2_20 (tgt := 26) (by decide) rfl (fun c20 => ?_) (fun c20 => ?_)
        · refine g_aload_n E dJ5_compress_2_26 rfl rfl rfl ?_
          refine g_iload_n E dJ5_compress_2_27 rfl rfl rfl ?_
          refine g_iload E dJ5_compress_2_28 rfl rfl ?_
          refine g_i2b E dJ5_compress_2_30 rfl ?_
          refine g_bast E dJ5_compress_2_31 (j := i) hSw_a (rfl) (by omega) (by omega) rfl (g_upk (fun g2 h2 f2 => ?_))
          refine g_iinc E dJ5_compress_2_32 rfl (v := nI (i + 1)) (nI_c _) (by decide) rfl (lo1 := [some (.ref 1004), some (.int (nI (i + 1))), some (.ref b), some (.int (nI i)), some (.int (nI w.length)), some (.int (nI i)), some (.int (w.getD i 0))]) rfl rfl ?_
          refine g_iinc E dJ5_compress_2_35 rfl (v := nI (i + 1)) (nI_c _) (by decide) rfl (lo1 := [some (.ref 1004), some (.int (nI (i + 1))), some (.ref b), some (.int (nI (i + 1))), some (.int (nI w.length)), some (.int (nI i)), some (.int (w.getD i 0))]) rfl rfl ?_
          refine g_iinc E dJ5_compress_2_38 rfl (v := nI (i + 1)) (nI_c _) (by decide) rfl (lo1 := [some (.ref 1004), some (.int (nI (i + 1))), some (.ref b), some (.int (nI (i + 1))), some (.int (nI w.length)), some (.int (nI (i + 1))), some (.int (w.getD i 0))]) rfl rfl ?_
          refine g_goto E dJ5_compress_2_41 (tgt := 3) (by decide) ?_
          exact g_les (lo1 := [some (.ref 1004), some (.int (nI (i + 1))), some (.ref b), some (.int (nI (i + 1))), some (.int (nI w.length)), some (.int (nI (i + 1))), none]) (⟨rfl, rfl, rfl, rfl, rfl, rfl, trivial⟩) (ih3 (i + 1) g2 (by omega) (by omega) ⟨_, h2, updB hwo (by omega) hSw_r⟩ (fun j9 h9 => (f2 j9 (by omega)).trans (hfw j9 (by omega))))
        · exact absurd (wo_255 hwo (show i < w.length by omega)) c20
  exact lp3 (w.length + 1) 0 g (Nat.zero_le _) (by omega) ⟨_, hD_a, fun i9 h9 => absurd h9 (Nat.not_lt_zero i9)⟩ (fun j9 h9 => rfl)
set_option maxHeartbeats 400000 in
theorem ct_J5_compress (l : Launch) {g : gWM} {b : Nat} {w : List Int32} (hwo : zWo w) (hCw : ∃ f, g 1004 = some (.inl (2, 9, .inl f)) ∧ ∀ i, i < w.length → f i = w.getD i 0) (hz : ∀ j, b ≤ j → j < b + 1 → g j = none) (hb : 10000 ≤ b) : gCt l yJ5_compress cJ5_compress 6 (some (.array .byte)) 1 1 9 26 [.ref 1004, .int 0, .int (nI w.length)] g (gPr b (fun g1 => (∃ f, g1 b = some (.inl (1, w.length, .inl f)) ∧ ∀ i, i < w.length → f i = w.getD i 0) ∧ ∀ j, j ≠ b → g1 j = g j)) := by
  refine gCt.of RJ5 (by decide) rfl (lo := [some (.ref 1004), some (.int 0), some (.int (nI w.length)), none, none, none]) 3 rfl (Nat.le_of_ble_eq_true rfl) (fun z E Rt => ?_)
  obtain ⟨hCw_f, hCw_a, hCw_b⟩ := hCw
  have hwl := hwo.2.1
  refine g_iload_n E dJ5_compress_0 rfl rfl rfl ?_
  refine g_newaB E dJ5_compress_1 q245 (n := w.length) rfl (by omega) (b) (hz b (by omega) (by omega)) (by omega) (by omega) (by omega) rfl (g_upk (fun g1 h1 f1 => g_widen (kc1 := 1) (ks1 := 9) (by omega) (by omega) ?_))
  refine g_astore_n E dJ5_compress_3 rfl (by decide) rfl (lo1 := [some (.ref 1004), some (.int 0), some (.int (nI w.length)), some (.ref b), none, none]) rfl rfl ?_
  refine g_aload_n E dJ5_compress_4 rfl rfl rfl ?_
  refine g_iload_n E dJ5_compress_5 rfl rfl rfl ?_
  refine g_aload_n E dJ5_compress_6 rfl rfl rfl ?_
  refine g_iconst E (v := 0) dJ5_compress_7 (by decide) rfl ?_
  refine g_iload_n E dJ5_compress_8 rfl rfl rfl ?_
  have x2 := (f1 (1004) (by omega)).trans (hCw_a)
  refine g_callS (n9 := 5) (av := [.ref 1004, .int 0, .ref b, .int 0, .int (nI w.length)]) (st := []) E (ct_J5_compress_2 l hwo (⟨_, x2, hCw_b⟩) (⟨_, h1⟩) (by omega)) dJ5_compress_9 q656 q657 q139 q658 (by decide +kernel) rfl rfl ⟨by decide, by decide⟩ ⟨by decide, by decide⟩ (Nat.le_of_ble_eq_true rfl) rfl (gPi.k (fun g3 h3 => ?_))
  obtain ⟨⟨hb3_f, hb3_a, hb3_b⟩, f3⟩ := h3
  refine g_istore E dJ5_compress_12 (by decide) rfl (lo1 := [some (.ref 1004), some (.int 0), some (.int (nI w.length)), some (.ref b), some (.int (nI w.length)), none]) rfl rfl ?_
  refine g_iload E dJ5_compress_14 rfl rfl ?_
  refine g_iload_n E dJ5_compress_16 rfl rfl rfl ?_
  refine g_icmp_eq E dJ5_compress_17 (tgt := 57) (by decide) rfl (fun c17 => ?_) (fun c17 => ?_)
  · have c17 := (nI_eq (a := w.length) (b := w.length) (by omega) (by omega)).mp c17
    refine g_aload_n E dJ5_compress_57 rfl rfl rfl ?_
    exact g_aret E Rt dJ5_compress_58 rfl (Or.inr ⟨_, rfl⟩) (by decide) (by decide) (⟨rfl, ⟨_, hb3_a, hb3_b⟩, fun j9 h9 => (f3 j9 (by omega)).trans (f1 j9 (by omega))⟩)
  · have c17 := mt (nI_eq (a := w.length) (b := w.length) (by omega) (by omega)).mpr c17
    exact absurd rfl c17
set_option maxHeartbeats 400000 in
theorem ct_J5_coderFromArrayLen (l : Launch) {g : gWM} {b : Nat} (m : Nat) (hB : ∃ f, g b = some (.inl (1, m, .inl f))) (hm9 : m ≤ 9) : gCt l yJ5_coderFromArrayLen cJ5_coderFromArrayLen 2 (some .byte) 0 0 0 0 [.ref b, .int (nI m)] g (gPu (.int 0) g) := by
  refine gCt.of RJ5 (by decide) rfl (lo := [some (.ref b), some (.int (nI m))]) 0 rfl (Nat.le_of_ble_eq_true rfl) (fun z E Rt => ?_)
  obtain ⟨hB_f, hB_a⟩ := hB
  refine g_iload_n E dJ5_coderFromArrayLen_0 rfl rfl rfl ?_
  refine g_aload_n E dJ5_coderFromArrayLen_1 rfl rfl rfl ?_
  refine g_alen E dJ5_coderFromArrayLen_2 hB_a (by decide) (nI m) rfl rfl ?_
  refine g_isub E dJ5_coderFromArrayLen_3 rfl ?_
  refine g_as (y := 0) (Int32.sub_self _) ?_
  refine g_bipush E (v := 31) dJ5_coderFromArrayLen_4 (by decide) rfl ?_
  refine g_iushr E dJ5_coderFromArrayLen_6 rfl ?_
  refine g_as (y := 0) (by decide) ?_
  refine g_i2b E dJ5_coderFromArrayLen_7 rfl ?_
  refine g_as (y := 0) (by decide) ?_
  exact g_zret E Rt dJ5_coderFromArrayLen_8 rfl (by decide) (by decide) (by decide) (⟨rfl, rfl⟩)
set_option maxHeartbeats 400000 in
theorem ct_J3_init_2 (l : Launch) {g : gWM} {k : Nat} {w : List Int32} (hwo : zWo w) (hO : g k = some (.inr (22, fun j => defaultValue (tyJ3 j)))) (hCw : ∃ f, g 1004 = some (.inl (2, 9, .inl f)) ∧ ∀ i, i < w.length → f i = w.getD i 0) (hz : ∀ j, k < j → j < k + 2 → g j = none) (hk9 : 10000 ≤ k) : gCt l yJ3_init_2 cJ3_init_2 6 none 2 1 9 51 [.ref k, .ref 1004, .int 0, .int (nI w.length), .null] g (gPn (fun g1 => pSt g1 k w ∧ ∀ j, (j ≠ k ∧ j ≠ k + 1) → g1 j = g j)) := by
  refine gCt.ofI RJ3 (by decide) rfl (lo := [some (.ref k), some (.ref 1004), some (.int 0), some (.int (nI w.length)), some (.null), none]) 1 rfl (Nat.le_of_ble_eq_true rfl) rfl (fun z E Rt Hin => ?_)
  obtain ⟨hCw_f, hCw_a, hCw_b⟩ := hCw
  have hwl := hwo.2.1
  have hw1 := hwo.1
  refine g_aload_n E dJ3_init_2_0 rfl rfl rfl ?_
  refine g_objInit E dJ3_init_2_1 q649 q164 q165 ⟨by decide, by decide⟩ (Nat.le_of_ble_eq_true rfl) rfl ?_
  refine g_iload_n E dJ3_init_2_4 rfl rfl rfl ?_
  refine g_if_ne E dJ3_init_2_5 (tgt := 27) (by decide) rfl (fun c5 => ?_) (fun c5 => ?_)
  · have c5 := mt (nI_eq (a := w.length) (b := 0) (by omega) (by omega)).mpr c5
    refine g_getsI E (.inl ⟨rfl, rfl, rfl⟩) dJ3_init_2_27 q651 rfl ?_
    refine g_if_eq E dJ3_init_2_30 (tgt := 58) (by decide) rfl (fun h9 => absurd h9 (by decide)) (fun _ => ?_)
    refine g_aload_n E dJ3_init_2_33 rfl rfl rfl ?_
    refine g_iload_n E dJ3_init_2_34 rfl rfl rfl ?_
    refine g_iload_n E dJ3_init_2_35 rfl rfl rfl ?_
    refine g_callS (n9 := 3) (av := [.ref 1004, .int 0, .int (nI w.length)]) (st := []) E (ct_J5_compress l (b := k + 1) hwo ⟨_, hCw_a, hCw_b⟩ (fun j9 a9 b9 => hz j9 (by omega) (by omega)) (by omega)) dJ3_init_2_36 q653 q654 q139 q655 (by decide +kernel) rfl rfl ⟨by decide, by decide⟩ ⟨by decide, by decide⟩ (Nat.le_of_ble_eq_true rfl) rfl (gPr.k (fun g1 h1 => ?_))
    obtain ⟨⟨hb1_f, hb1_a, hb1_b⟩, f1⟩ := h1
    refine g_astore E dJ3_init_2_39 (by decide) rfl (lo1 := [some (.ref k), some (.ref 1004), some (.int 0), some (.int (nI w.length)), some (.null), some (.ref (k + 1))]) rfl rfl ?_
    refine g_aload_n E dJ3_init_2_41 rfl rfl rfl ?_
    refine g_aload E dJ3_init_2_42 rfl rfl ?_
    refine g_iload_n E dJ3_init_2_44 rfl rfl rfl ?_
    refine g_callS (n9 := 2) (av := [.ref (k + 1), .int (nI w.length)]) (st := [.ref k]) E (ct_J5_coderFromArrayLen l w.length (⟨_, hb1_a⟩) (by omega)) dJ3_init_2_45 q691 q692 q139 q693 (by decide +kernel) rfl rfl ⟨by decide, by decide⟩ ⟨by decide, by decide⟩ (Nat.le_of_ble_eq_true rfl) rfl (gPu.k ?_)
    have x2 := (f1 (k) (by omega)).trans (hO)
    refine g_putfF E gciJ3 (v := .int 0) dJ3_init_2_48 x2 1 rfl (by decide) q696 (.inl rfl) rfl Hin rfl (fun _ => rfl) (fun _ => rfl) rfl (g_upk (fun g3 h3 f3 => ?_))
    refine g_aload_n E dJ3_init_2_51 rfl rfl rfl ?_
    refine g_aload E dJ3_init_2_52 rfl rfl ?_
    refine g_putfF E gciJ3 (v := .ref (k + 1)) dJ3_init_2_54 h3 0 rfl (by decide) q695 (.inl rfl) rfl Hin rfl (fun _ => rfl) (fun _ => rfl) rfl (g_upk (fun g4 h4 f4 => ?_))
    have x5 := (f4 (k + 1) (by omega)).trans ((f3 (k + 1) (by omega)).trans (hb1_a))
    exact g_vret E Rt dJ3_init_2_57 rfl (by decide) (by decide) (⟨rfl, ⟨_, _, _, h4, rfl, rfl, rfl, rfl, .inl rfl, .inl rfl, _, x5, hb1_b⟩, fun j9 h9 => ((f4 j9 (by omega)).trans (f3 j9 (by omega))).trans (f1 j9 (by omega))⟩)
  · have c5 := (nI_eq (a := w.length) (b := 0) (by omega) (by omega)).mp c5
    exact absurd c5 (by omega)
set_option maxHeartbeats 400000 in
theorem ct_J3_init (l : Launch) {g : gWM} {k : Nat} {w : List Int32} (hwo : zWo w) (hO : g k = some (.inr (22, fun j => defaultValue (tyJ3 j)))) (hCw : ∃ f, g 1004 = some (.inl (2, 9, .inl f)) ∧ ∀ i, i < w.length → f i = w.getD i 0) (hz : ∀ j, k < j → j < k + 2 → g j = none) (hk9 : 10000 ≤ k) : gCt l yJ3_init cJ3_init 4 none 3 1 9 76 [.ref k, .ref 1004, .int 0, .int (nI w.length)] g (gPn (fun g1 => pSt g1 k w ∧ ∀ j, (j ≠ k ∧ j ≠ k + 1) → g1 j = g j)) := by
  refine gCt.ofI RJ3 (by decide) rfl (lo := [some (.ref k), some (.ref 1004), some (.int 0), some (.int (nI w.length))]) 0 rfl (Nat.le_of_ble_eq_true rfl) rfl (fun z E Rt Hin => ?_)
  obtain ⟨hCw_f, hCw_a, hCw_b⟩ := hCw
  have hwl := hwo.2.1
  refine g_aload_n E dJ3_init_0 rfl rfl rfl ?_
  refine g_aload_n E dJ3_init_1 rfl rfl rfl ?_
  refine g_iload_n E dJ3_init_2 rfl rfl rfl ?_
  refine g_iload_n E dJ3_init_3 rfl rfl rfl ?_
  refine g_aload_n E dJ3_init_4 rfl rfl rfl ?_
  refine g_iload_n E dJ3_init_5 rfl rfl rfl ?_
  refine g_iload_n E dJ3_init_6 rfl rfl rfl ?_
  refine g_callS (n9 := 3) (av := [.ref 1004, .int 0, .int (nI w.length)]) (st := [.int (nI w.length), .int 0, .ref 1004, .ref k]) E (ct_J3_rangeCheck l w.length (⟨_, hCw_a⟩) (by omega)) dJ3_init_7 q635 q636 q137 q637 (by decide +kernel) rfl rfl ⟨by decide, by decide⟩ ⟨by decide, by decide⟩ (Nat.le_of_ble_eq_true rfl) rfl (gPu.k ?_)
  refine g_callI (k := k) (n9 := 4) (av := [.ref 1004, .int 0, .int (nI w.length), .null]) (st := []) E (ct_J3_init_2 l hwo hO (⟨_, hCw_a, hCw_b⟩) hz (by omega)) gciJ3 dJ3_init_10 hO q646 q647 q137 q648 (by decide +kernel) rfl rfl rfl ⟨by decide, by decide⟩ ⟨by decide, by decide⟩ (Nat.le_of_ble_eq_true rfl) rfl (gPn.k (fun g1 h1 => ?_))
  obtain ⟨hst1, f1⟩ := h1
  exact g_vret E Rt dJ3_init_13 rfl (by decide) (by decide) (⟨rfl, hst1, fun j9 h9 => f1 j9 (by omega)⟩)
