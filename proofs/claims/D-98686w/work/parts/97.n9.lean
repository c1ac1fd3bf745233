/-! THE MODEL, walks, ninth: tokens -/
set_option maxRecDepth 100000
set_option maxHeartbeats 400000 in
theorem ct_X13_byteAt (l : Launch) {g : gWM} {n : Nat} {T : Nat → Int32} (k : Nat) (hO : ∃ F, g 2000 = some (.inr (10, F)) ∧ F 5 = .ref 2001 ∧ F 7 = .int (nI n)) (hTp : pTp g 2001 T n) (hn : n ≤ 1100) (hk : k ≤ 2000) : gCt l yX13_byteAt cX13_byteAt 2 (some .int) 0 0 0 0 [.ref 2000, .int (nI k)] g (gPu (.int (zSee T n k)) g) := by
  refine gCt.of RX13 (by decide) rfl (lo := [some (.ref 2000), some (.int (nI k))]) 0 rfl (Nat.le_of_ble_eq_true rfl) (fun z E Rt => ?_)
  obtain ⟨hO_F, hO_a, hO_5, hO_7⟩ := hO
  have hTp_o := hTp
  obtain ⟨hTp_f, hTp_a, hTp_b⟩ := hTp_o
  refine g_iload_n E dX13_byteAt_0 rfl rfl rfl ?_
  refine g_aload_n E dX13_byteAt_1 rfl rfl rfl ?_
  refine g_getf E gciX13 dX13_byteAt_2 hO_a 7 rfl (by decide) q1747 (.inl rfl) (.int (nI n)) (hO_7) rfl ?_
  refine g_icmp_ge E dX13_byteAt_5 (tgt := 21) (by decide) rfl (fun c5 => ?_) (fun c5 => ?_)
  · have c5 := (nI_leI (a := n) (b := k) (by omega) (by omega)).mp c5
    refine g_iconst E (v := (-1)) dX13_byteAt_21 (by decide) rfl ?_
    exact g_iret E Rt dX13_byteAt_22 rfl (by decide) (by decide) (⟨congrArg (fun x => some (Value.int x)) (by unfold zSee; first | rw [if_pos (by omega)] | rw [if_neg (by omega)]), rfl⟩)
  · have c5 := mt (nI_leI (a := n) (b := k) (by omega) (by omega)).mpr c5
    refine g_aload_n E dX13_byteAt_8 rfl rfl rfl ?_
    refine g_getf E gciX13 dX13_byteAt_9 hO_a 5 rfl (by decide) q1745 (.inl rfl) (.ref 2001) (hO_5) rfl ?_
    refine g_iload_n E dX13_byteAt_12 rfl rfl rfl ?_
    refine g_bald E dX13_byteAt_13 (j := k) hTp_a (rfl) (by omega) (by decide) (v := T k) (hTp_b k (by omega)) rfl ?_
    refine g_sipush E (v := 255) dX13_byteAt_14 (by decide) rfl ?_
    refine g_iand E dX13_byteAt_17 rfl ?_
    refine g_goto E dX13_byteAt_18 (tgt := 22) (by decide) ?_
    exact g_iret E Rt dX13_byteAt_22 rfl (by decide) (by decide) (⟨congrArg (fun x => some (Value.int x)) (by unfold zSee; first | rw [if_pos (by omega)] | rw [if_neg (by omega)]), rfl⟩)
set_option maxHeartbeats 400000 in
theorem ct_X13_isLetter (l : Launch) {g : gWM} (c : Int32)  : gCt l yX13_isLetter cX13_isLetter 1 (some .boolean) 0 0 0 0 [.int c] g (gPu (.int (zb (zIn c 97 122))) g) := by
  refine gCt.of RX13 (by decide) rfl (lo := [some (.int c)]) 0 rfl (Nat.le_of_ble_eq_true rfl) (fun z E Rt => ?_)
  refine g_iload_n E dX13_isLetter_0 rfl rfl rfl ?_
  refine g_bipush E (v := 97) dX13_isLetter_1 (by decide) rfl ?_
  refine g_icmp_lt E dX13_isLetter_3 (tgt := 16) (by decide) rfl (fun c3 => ?_) (fun c3 => ?_)
  · refine g_iconst E (v := 0) dX13_isLetter_16 (by decide) rfl ?_
    exact g_zret E Rt dX13_isLetter_17 rfl (by decide) (by decide) (by decide) (⟨congrArg (fun x => some (Value.int x)) (by simp [zIn, zb, c3]), rfl⟩)
  · refine g_iload_n E dX13_isLetter_6 rfl rfl rfl ?_
    refine g_bipush E (v := 122) dX13_isLetter_7 (by decide) rfl ?_
    refine g_icmp_gt E dX13_isLetter_9 (tgt := 16) (by decide) rfl (fun c9 => ?_) (fun c9 => ?_)
    · refine g_iconst E (v := 0) dX13_isLetter_16 (by decide) rfl ?_
      exact g_zret E Rt dX13_isLetter_17 rfl (by decide) (by decide) (by decide) (⟨congrArg (fun x => some (Value.int x)) (by simp [zIn, zb, c3, c9]), rfl⟩)
    · refine g_iconst E (v := 1) dX13_isLetter_12 (by decide) rfl ?_
      refine g_goto E dX13_isLetter_13 (tgt := 17) (by decide) ?_
      exact g_zret E Rt dX13_isLetter_17 rfl (by decide) (by decide) (by decide) (⟨congrArg (fun x => some (Value.int x)) (by simp [zIn, zb, c3, c9]), rfl⟩)
set_option maxHeartbeats 400000 in
theorem ct_X13_isDigit (l : Launch) {g : gWM} (c : Int32)  : gCt l yX13_isDigit cX13_isDigit 1 (some .boolean) 0 0 0 0 [.int c] g (gPu (.int (zb (zIn c 48 57))) g) := by
  refine gCt.of RX13 (by decide) rfl (lo := [some (.int c)]) 0 rfl (Nat.le_of_ble_eq_true rfl) (fun z E Rt => ?_)
  refine g_iload_n E dX13_isDigit_0 rfl rfl rfl ?_
  refine g_bipush E (v := 48) dX13_isDigit_1 (by decide) rfl ?_
  refine g_icmp_lt E dX13_isDigit_3 (tgt := 16) (by decide) rfl (fun c3 => ?_) (fun c3 => ?_)
  · refine g_iconst E (v := 0) dX13_isDigit_16 (by decide) rfl ?_
    exact g_zret E Rt dX13_isDigit_17 rfl (by decide) (by decide) (by decide) (⟨congrArg (fun x => some (Value.int x)) (by simp [zIn, zb, c3]), rfl⟩)
  · refine g_iload_n E dX13_isDigit_6 rfl rfl rfl ?_
    refine g_bipush E (v := 57) dX13_isDigit_7 (by decide) rfl ?_
    refine g_icmp_gt E dX13_isDigit_9 (tgt := 16) (by decide) rfl (fun c9 => ?_) (fun c9 => ?_)
    · refine g_iconst E (v := 0) dX13_isDigit_16 (by decide) rfl ?_
      exact g_zret E Rt dX13_isDigit_17 rfl (by decide) (by decide) (by decide) (⟨congrArg (fun x => some (Value.int x)) (by simp [zIn, zb, c3, c9]), rfl⟩)
    · refine g_iconst E (v := 1) dX13_isDigit_12 (by decide) rfl ?_
      refine g_goto E dX13_isDigit_13 (tgt := 17) (by decide) ?_
      exact g_zret E Rt dX13_isDigit_17 rfl (by decide) (by decide) (by decide) (⟨congrArg (fun x => some (Value.int x)) (by simp [zIn, zb, c3, c9]), rfl⟩)
set_option maxHeartbeats 400000 in
theorem ct_X13_packed (l : Launch) {g : gWM} {j : Nat} {q9 : String × Nat × String} (hj : gSites[j]? = some q9) (hwo : zWo (gByt q9.2.2)) : gCt l yX13_packed cX13_packed 4 (some .long) 4 0 0 85 [.ref (1 + 2 * j)] g (gPu (.long (pk (gByt q9.2.2))) g) := by
  refine gCt.of RX13 (by decide) rfl (lo := [some (.ref (1 + 2 * j)), none, none, none]) 3 rfl (Nat.le_of_ble_eq_true rfl) (fun z E Rt => ?_)
  have hj_l := gS_l hj
  refine g_lconst E (v := 0) dX13_packed_0 (by decide) rfl ?_
  refine g_lstore_n E dX13_packed_1 rfl (by decide) rfl (lo1 := [some (.ref (1 + 2 * j)), some (.long 0), none, none]) rfl rfl ?_
  refine g_iconst E (v := 0) dX13_packed_2 (by decide) rfl ?_
  refine g_istore_n E dX13_packed_3 rfl (by decide) rfl (lo1 := [some (.ref (1 + 2 * j)), some (.long 0), none, some (.int 0)]) rfl rfl ?_
  have lp4 : ∀ (r9 : Nat) (i : Nat), (i ≤ (gByt q9.2.2).length) → ((gByt q9.2.2).length - i < r9) → gV z g 0 0 4 [some (.ref (1 + 2 * j)), some (.long (pkx (fun i => (gByt q9.2.2).getD i 0) i)), none, some (.int (nI i))] [] := by
    intro r9
    induction r9 with
    | zero => intro i hi hm; exact absurd hm (Nat.not_lt_zero _)
    | succ r9 ih4 =>
      intro i hi hm
      refine g_iload_n E dX13_packed_4 rfl rfl rfl ?_
      refine g_aload_n E dX13_packed_5 rfl rfl rfl ?_
      refine g_callVL (j := j) (q9 := q9) (n9 := 0) (av := []) (st := [.int (nI i)]) E (ct_J3_length_L l hj) hj dX13_packed_6 q2020 q2021 q2022 q137 q2023 (by decide +kernel) rfl rfl ⟨by decide, by decide⟩ ⟨by decide, by decide⟩ (Nat.le_of_ble_eq_true rfl) rfl (gPu.k ?_)
      refine g_icmp_ge E dX13_packed_9 (tgt := 36) (by decide) rfl (fun c9 => ?_) (fun c9 => ?_)
      · have c9 := (nI_leI (a := (gByt q9.2.2).length) (b := i) (by omega) (by omega)).mp c9
        refine g_lload_n E dX13_packed_36 rfl rfl rfl ?_
        exact g_lret E Rt dX13_packed_37 rfl (by decide) (by decide) (⟨congrArg (fun x => some (Value.long x)) (show pkx _ i = pkx _ (gByt q9.2.2).length by rw [show i = (gByt q9.2.2).length by omega]), rfl⟩)
      · have c9 := mt (nI_leI (a := (gByt q9.2.2).length) (b := i) (by omega) (by omega)).mpr c9
        refine g_ldc2 E 32 dX13_packed_12 q2000 rfl ?_
        refine g_lload_n E dX13_packed_15 rfl rfl rfl ?_
        refine g_lmul E dX13_packed_16 rfl ?_
        refine g_aload_n E dX13_packed_17 rfl rfl rfl ?_
        refine g_iload_n E dX13_packed_18 rfl rfl rfl ?_
        refine g_callVL (j := j) (q9 := q9) (n9 := 1) (av := [.int (nI i)]) (st := [.long (32 * (pkx (fun i => (gByt q9.2.2).getD i 0) i))]) E (ct_J3_charAt l i hj (by omega)) hj dX13_packed_19 q2028 q2029 q2030 q137 q2031 (by decide +kernel) rfl rfl ⟨by decide, by decide⟩ ⟨by decide, by decide⟩ (Nat.le_of_ble_eq_true rfl) rfl (gPu.k ?_)
        refine g_bipush E (v := 97) dX13_packed_22 (by decide) rfl ?_
        refine g_isub E dX13_packed_24 rfl ?_
        refine g_iconst E (v := 1) dX13_packed_25 (by decide) rfl ?_
        refine g_iadd E dX13_packed_26 rfl ?_
        refine g_i2l E dX13_packed_27 rfl ?_
        refine g_ladd E dX13_packed_28 rfl ?_
        refine g_asl (y := pkx (fun i => (gByt q9.2.2).getD i 0) (i + 1)) (by rw [zCh_wo hwo (by omega)]; rfl) ?_
        refine g_lstore_n E dX13_packed_29 rfl (by decide) rfl (lo1 := [some (.ref (1 + 2 * j)), some (.long (pkx (fun i => (gByt q9.2.2).getD i 0) (i + 1))), none, some (.int (nI i))]) rfl rfl ?_
        refine g_iinc E dX13_packed_30 rfl (v := nI (i + 1)) (nI_c _) (by decide) rfl (lo1 := [some (.ref (1 + 2 * j)), some (.long (pkx (fun i => (gByt q9.2.2).getD i 0) (i + 1))), none, some (.int (nI (i + 1)))]) rfl rfl ?_
        refine g_goto E dX13_packed_33 (tgt := 4) (by decide) ?_
        exact ih4 (i + 1) (by omega) (by omega)
  exact lp4 ((gByt q9.2.2).length + 1) 0 (Nat.zero_le _) (by omega)
set_option maxHeartbeats 400000 in
theorem ct_X13_flaw_L (l : Launch) {g : gWM} {F0 : Nat → Value} {kw : Bool} {e : Nat × Nat} (c : Nat) (hM : pMr g F0 kw (.inl e)) : gCt l yX13_flaw cX13_flaw 2 none 0 0 0 0 [.ref 2000, .int (nI c)] g (gPn (fun g1 => pMr g1 F0 kw (xFl c (.inl e)) ∧ ∀ j, j ≠ 2000 → g1 j = g j)) := by
  refine gCt.of RX13 (by decide) rfl (lo := [some (.ref 2000), some (.int (nI c))]) 0 rfl (Nat.le_of_ble_eq_true rfl) (fun z E Rt => ?_)
  obtain ⟨hM_F, hM_a, hM_r, hM_9, hM_12, hM_13, hM_k⟩ := hM
  refine g_aload_n E dX13_flaw_0 rfl rfl rfl ?_
  refine g_getf E gciX13 dX13_flaw_1 hM_a 9 rfl (by decide) q1749 (.inl rfl) (.int 5) (hM_9) rfl ?_
  refine g_iconst E (v := 5) dX13_flaw_4 (by decide) rfl ?_
  refine g_icmp_ne E dX13_flaw_5 (tgt := 9) (by decide) rfl (fun h9 => absurd h9 (by decide)) (fun _ => ?_)
  exact g_vret E Rt dX13_flaw_8 rfl (by decide) (by decide) (⟨rfl, ⟨_, hM_a, hM_r, hM_9, hM_12, hM_13, hM_k⟩, fun j9 h9 => rfl⟩)
set_option maxHeartbeats 400000 in
theorem ct_X13_flaw_R (l : Launch) {g : gWM} {F0 : Nat → Value} {kw : Bool} {t : zTk} (c : Nat) (hM : pMr g F0 kw (.inr t)) : gCt l yX13_flaw cX13_flaw 2 none 0 0 0 0 [.ref 2000, .int (nI c)] g (gPn (fun g1 => pMr g1 F0 kw (xFl c (.inr t)) ∧ ∀ j, j ≠ 2000 → g1 j = g j)) := by
  refine gCt.of RX13 (by decide) rfl (lo := [some (.ref 2000), some (.int (nI c))]) 0 rfl (Nat.le_of_ble_eq_true rfl) (fun z E Rt => ?_)
  obtain ⟨hM_F, hM_a, hM_r, hM_9, hM_12, hM_8, hM_10, hM_11, hM_14, hM_k⟩ := hM
  refine g_aload_n E dX13_flaw_0 rfl rfl rfl ?_
  refine g_getf E gciX13 dX13_flaw_1 hM_a 9 rfl (by decide) q1749 (.inl rfl) (.int (zSo t.2.1)) (hM_9) rfl ?_
  refine g_iconst E (v := 5) dX13_flaw_4 (by decide) rfl ?_
  refine g_icmp_ne E dX13_flaw_5 (tgt := 9) (by decide) rfl (fun c5 => ?_) (fun c5 => ?_)
  · refine g_aload_n E dX13_flaw_9 rfl rfl rfl ?_
    refine g_iload_n E dX13_flaw_10 rfl rfl rfl ?_
    refine g_putf E gciX13 (v := .int (nI c)) dX13_flaw_11 hM_a 12 rfl (by decide) q1752 (.inl rfl) rfl (fun _ => rfl) (fun _ => rfl) rfl (g_upk (fun g1 h1 f1 => ?_))
    refine g_aload_n E dX13_flaw_14 rfl rfl rfl ?_
    refine g_aload_n E dX13_flaw_15 rfl rfl rfl ?_
    refine g_getf E gciX13 dX13_flaw_16 h1 10 rfl (by decide) q1750 (.inl rfl) (.int (nI t.2.2.1)) (hM_10) rfl ?_
    refine g_putf E gciX13 (v := .int (nI t.2.2.1)) dX13_flaw_19 h1 13 rfl (by decide) q1753 (.inl rfl) rfl (fun _ => rfl) (fun _ => rfl) rfl (g_upk (fun g2 h2 f2 => ?_))
    refine g_aload_n E dX13_flaw_22 rfl rfl rfl ?_
    refine g_iconst E (v := 5) dX13_flaw_23 (by decide) rfl ?_
    refine g_putf E gciX13 (v := .int 5) dX13_flaw_24 h2 9 rfl (by decide) q1749 (.inl rfl) rfl (fun _ => rfl) (fun _ => rfl) rfl (g_upk (fun g3 h3 f3 => ?_))
    exact g_vret E Rt dX13_flaw_27 rfl (by decide) (by decide) (⟨rfl, ⟨_, h3, rF.u (rF.u (rF.u hM_r (by decide)) (by decide)) (by decide), rfl, rfl, rfl, hM_k⟩, fun j9 h9 => ((f3 j9 (by omega)).trans (f2 j9 (by omega))).trans (f1 j9 (by omega))⟩)
  · exact absurd (by first | exact c5 | exact Classical.not_not.mp c5) (zSo_5 _)
theorem ct_X13_flaw (l : Launch) {g : gWM} {F0 : Nat → Value} {kw : Bool} {x : zEr zTk} (c : Nat) (hM : pMr g F0 kw x) : gCt l yX13_flaw cX13_flaw 2 none 0 0 0 0 [.ref 2000, .int (nI c)] g (gPn (fun g1 => pMr g1 F0 kw (xFl c x) ∧ ∀ j, j ≠ 2000 → g1 j = g j)) := by
  cases x with
  | inl e => exact ct_X13_flaw_L l c hM
  | inr t => exact ct_X13_flaw_R l c hM
set_option maxHeartbeats 2000000 in
theorem ct_X13_goesOn_Q (l : Launch) {g : gWM} {n mb : Nat} {T : Nat → Int32} {F0 : Nat → Value} {kw : Bool} {s : Int32} {en : Nat} (hF0 : pF0 F0 mb n) (hG : pYo g F0 kw s en) (hTp : pTp g 2001 T n) (hn : n ≤ 1100) (hen : en ≤ n) (hs5 : ¬ s = 5) : gCt l yX13_goesOn cX13_goesOn 3 none 1 0 0 21 [.ref 2000] g (gPn (fun g1 => pMr g1 F0 kw (.inr (zTn T n en)) ∧ ∀ j, j ≠ 2000 → g1 j = g j)) := by
  refine gCt.of RX13 (by decide) rfl (lo := [some (.ref 2000), none, none]) 2 rfl (Nat.le_of_ble_eq_true rfl) (fun z E Rt => ?_)
  have hF0_o := hF0
  obtain ⟨hF0_4, hF0_5, hF0_7⟩ := hF0_o
  obtain ⟨hG_F, hG_a, hG_r, hG_9, hG_12, hG_8, hG_k⟩ := hG
  have hTp_o := hTp
  obtain ⟨hTp_f, hTp_a, hTp_b⟩ := hTp_o
  obtain ⟨K, hK⟩ : ∃ K, zEn (zSpc T n) n en = K := ⟨_, rfl⟩
  have hKl := zEn_le (P := zSpc T n) hen
  rw [hK] at hKl
  refine g_aload_n E dX13_goesOn_0 rfl rfl rfl ?_
  refine g_getf E gciX13 dX13_goesOn_1 hG_a 9 rfl (by decide) q1749 (.inl rfl) (.int s) (hG_9) rfl ?_
  refine g_iconst E (v := 5) dX13_goesOn_4 (by decide) rfl ?_
  refine g_icmp_ne E dX13_goesOn_5 (tgt := 9) (by decide) rfl (fun c5 => ?_) (fun c5 => ?_)
  · have lp9 : ∀ (r9 : Nat) (k : Nat) (gw : gWM), (k ≤ n) → (zEn (zSpc T n) n k = K) → (n + 1 - k < r9) → (pYo gw F0 kw s k) → (∀ j, j ≠ 2000 → gw j = g j) → gV z gw 0 0 9 [some (.ref 2000), none, none] [] := by
      intro r9
      induction r9 with
      | zero => intro k gw hk hzz hm hY hfw; exact absurd hm (Nat.not_lt_zero _)
      | succ r9 ih9 =>
        intro k gw hk hzz hm hY hfw
        obtain ⟨hY_F, hY_a, hY_r, hY_9, hY_12, hY_8, hY_k⟩ := hY
        refine g_aload_n E dX13_goesOn_9 rfl rfl rfl ?_
        refine g_aload_n E dX13_goesOn_10 rfl rfl rfl ?_
        refine g_getf E gciX13 dX13_goesOn_11 hY_a 8 rfl (by decide) q1748 (.inl rfl) (.int (nI k)) (hY_8) rfl ?_
        have y1 := (hTp.fr  (fun j9 a9 b9 => hfw j9 (by omega)))
        refine g_callV (k := 2000) (n9 := 1) (av := [.int (nI k)]) (st := []) E (ct_X13_byteAt l k (⟨_, hY_a, (hY_r 5 (.inl (by decide))).trans hF0_5, (hY_r 7 (.inl (by decide))).trans hF0_7⟩) y1 (by omega) (by omega)) gciX13 dX13_goesOn_14 hY_a q1993 q1995 qs54 q135 q1996 (by decide +kernel) rfl rfl ⟨by decide, by decide⟩ ⟨by decide, by decide⟩ (Nat.le_of_ble_eq_true rfl) rfl (gPu.k ?_)
        refine g_bipush E (v := 32) dX13_goesOn_17 (by decide) rfl ?_
        refine g_icmp_ne E dX13_goesOn_19 (tgt := 35) (by decide) rfl (fun c19 => ?_) (fun c19 => ?_)
        · obtain rfl : k = K := (zEn_f (P := zSpc T n) (decide_eq_false c19)).symm.trans hzz
          refine g_aload_n E dX13_goesOn_35 rfl rfl rfl ?_
          refine g_aload_n E dX13_goesOn_36 rfl rfl rfl ?_
          refine g_getf E gciX13 dX13_goesOn_37 hY_a 8 rfl (by decide) q1748 (.inl rfl) (.int (nI k)) (hY_8) rfl ?_
          refine g_putf E gciX13 (v := .int (nI k)) dX13_goesOn_40 hY_a 10 rfl (by decide) q1750 (.inl rfl) rfl (fun _ => rfl) (fun _ => rfl) rfl (g_upk (fun g2 h2 f2 => ?_))
          refine g_aload_n E dX13_goesOn_43 rfl rfl rfl ?_
          refine g_iconst E (v := 0) dX13_goesOn_44 (by decide) rfl ?_
          refine g_putf E gciX13 (v := .int 0) dX13_goesOn_45 h2 9 rfl (by decide) q1749 (.inl rfl) rfl (fun _ => rfl) (fun _ => rfl) rfl (g_upk (fun g3 h3 f3 => ?_))
          refine g_aload_n E dX13_goesOn_48 rfl rfl rfl ?_
          refine g_aload_n E dX13_goesOn_49 rfl rfl rfl ?_
          refine g_getf E gciX13 dX13_goesOn_50 h3 8 rfl (by decide) q1748 (.inl rfl) (.int (nI k)) (hY_8) rfl ?_
          have y4 := ((y1.fr  (fun j9 a9 b9 => f2 j9 (by omega))).fr  (fun j9 a9 b9 => f3 j9 (by omega)))
          refine g_callV (k := 2000) (n9 := 1) (av := [.int (nI k)]) (st := []) E (ct_X13_byteAt l k (⟨_, h3, (hY_r 5 (.inl (by decide))).trans hF0_5, (hY_r 7 (.inl (by decide))).trans hF0_7⟩) y4 (by omega) (by omega)) gciX13 dX13_goesOn_53 h3 q1993 q1995 qs54 q135 q1996 (by decide +kernel) rfl rfl ⟨by decide, by decide⟩ ⟨by decide, by decide⟩ (Nat.le_of_ble_eq_true rfl) rfl (gPu.k ?_)
          refine g_istore_n E dX13_goesOn_56 rfl (by decide) rfl (lo1 := [some (.ref 2000), some (.int (zSee T n k)), none]) rfl rfl ?_
          refine g_iconst E (v := 0) dX13_goesOn_57 (by decide) rfl ?_
          refine g_istore_n E dX13_goesOn_58 rfl (by decide) rfl (lo1 := [some (.ref 2000), some (.int (zSee T n k)), some (.int 0)]) rfl rfl ?_
          refine g_iload_n E dX13_goesOn_59 rfl rfl rfl ?_
          refine g_iconst E (v := (-1)) dX13_goesOn_60 (by decide) rfl ?_
          refine g_icmp_ne E dX13_goesOn_61 (tgt := 72) (by decide) rfl (fun c61 => ?_) (fun c61 => ?_)
          · refine g_iload_n E dX13_goesOn_72 rfl rfl rfl ?_
            refine g_callS (n9 := 1) (av := [.int (zSee T n k)]) (st := []) E (ct_X13_isLetter l (zSee T n k)) dX13_goesOn_73 q1997 q1998 q135 q1999 (by decide +kernel) rfl rfl ⟨by decide, by decide⟩ ⟨by decide, by decide⟩ (Nat.le_of_ble_eq_true rfl) rfl (gPu.k ?_)
            refine g_if_eq E dX13_goesOn_76 (tgt := 161) (by decide) rfl (fun c76 => ?_) (fun c76 => ?_)
            · have c76 := zb_0.mp c76
              refine g_iload_n E dX13_goesOn_161 rfl rfl rfl ?_
              refine g_callS (n9 := 1) (av := [.int (zSee T n k)]) (st := []) E (ct_X13_isDigit l (zSee T n k)) dX13_goesOn_162 q2001 q2002 q135 q2003 (by decide +kernel) rfl rfl ⟨by decide, by decide⟩ ⟨by decide, by decide⟩ (Nat.le_of_ble_eq_true rfl) rfl (gPu.k ?_)
              refine g_if_eq E dX13_goesOn_165 (tgt := 244) (by decide) rfl (fun c165 => ?_) (fun c165 => ?_)
              · have c165 := zb_0.mp c165
                refine g_iload_n E dX13_goesOn_244 rfl rfl rfl ?_
                refine g_bipush E (v := 59) dX13_goesOn_245 (by decide) rfl ?_
                refine g_icmp_ne E dX13_goesOn_247 (tgt := 265) (by decide) rfl (fun c247 => ?_) (fun c247 => ?_)
                · have ht5 := zTn_b hK c61 c76 c165 c247
                  exact g_vret E Rt dX13_goesOn_265 rfl (by decide) (by decide) (by rw [ht5]; exact ⟨rfl, ⟨_, h3, rF.u (rF.u hY_r (by decide)) (by decide), rfl, hY_12, (fun h9 => absurd rfl h9), rfl, (fun h9 => by cases h9), (fun h9 => by cases h9), hY_k⟩, fun j9 h9 => ((f3 j9 (by omega)).trans (f2 j9 (by omega))).trans (hfw j9 (by omega))⟩)
                · refine g_aload_n E dX13_goesOn_250 rfl rfl rfl ?_
                  refine g_iconst E (v := 4) dX13_goesOn_251 (by decide) rfl ?_
                  refine g_putf E gciX13 (v := .int 4) dX13_goesOn_252 h3 9 rfl (by decide) q1749 (.inl rfl) rfl (fun _ => rfl) (fun _ => rfl) rfl (g_upk (fun g6 h6 f6 => ?_))
                  refine g_aload_n E dX13_goesOn_255 rfl rfl rfl ?_
                  refine g_dup E dX13_goesOn_256 rfl rfl ?_
                  refine g_getf E gciX13 dX13_goesOn_257 h6 8 rfl (by decide) q1748 (.inl rfl) (.int (nI k)) (hY_8) rfl ?_
                  refine g_iconst E (v := 1) dX13_goesOn_260 (by decide) rfl ?_
                  refine g_iadd E dX13_goesOn_261 rfl ?_
                  refine g_as (y := nI (k + 1)) ((nI_succ _).symm) ?_
                  refine g_putf E gciX13 (v := .int (nI (k + 1))) dX13_goesOn_262 h6 8 rfl (by decide) q1748 (.inl rfl) rfl (fun _ => rfl) (fun _ => rfl) rfl (g_upk (fun g7 h7 f7 => ?_))
                  have ht8 := zTn_s hK c61 c76 c165 c247
                  exact g_vret E Rt dX13_goesOn_265 rfl (by decide) (by decide) (by rw [ht8]; exact ⟨rfl, ⟨_, h7, rF.u (rF.u (rF.u (rF.u hY_r (by decide)) (by decide)) (by decide)) (by decide), rfl, hY_12, (fun _ => rfl), rfl, (fun h9 => by cases h9), (fun h9 => by cases h9), hY_k⟩, fun j9 h9 => ((((f7 j9 (by omega)).trans (f6 j9 (by omega))).trans (f3 j9 (by omega))).trans (f2 j9 (by omega))).trans (hfw j9 (by omega))⟩)
              · have c165 := zb_n0.mp c165
                refine g_aload_n E dX13_goesOn_168 rfl rfl rfl ?_
                refine g_iconst E (v := 0) dX13_goesOn_169 (by decide) rfl ?_
                refine g_putf E gciX13 (v := .int 0) dX13_goesOn_170 h3 11 rfl (by decide) q1751 (.inl rfl) rfl (fun _ => rfl) (fun _ => rfl) rfl (g_upk (fun g9 h9 f9 => ?_))
                have lp173 : ∀ (r9 : Nat) (e m9 x : Nat) (gw : gWM), (k ≤ e) → (m9 = e - k) → (e ≤ n) → (e - k ≤ 3 → x = zDg T n k (e - k)) → (zEn (zDgt T n) n k = zEn (zDgt T n) n e) → (n + 1 - e < r9) → (pYd gw F0 kw e k x) → (∀ j, j ≠ 2000 → gw j = g j) → gV z gw 0 0 173 [some (.ref 2000), some (.int (zSee T n k)), some (.int (nI m9))] [] := by
                  intro r9
                  induction r9 with
                  | zero => intro e m9 x gw hke hm9 hen2 hx3 hzz2 hm hYd hfw; exact absurd hm (Nat.not_lt_zero _)
                  | succ r9 ih173 =>
                    intro e m9 x gw hke hm9 hen2 hx3 hzz2 hm hYd hfw
                    obtain ⟨hYd_F, hYd_a, hYd_r, hYd_9, hYd_12, hYd_8, hYd_10, hYd_11, hYd_k⟩ := hYd
                    refine g_aload_n E dX13_goesOn_173 rfl rfl rfl ?_
                    refine g_aload_n E dX13_goesOn_174 rfl rfl rfl ?_
                    refine g_getf E gciX13 dX13_goesOn_175 hYd_a 8 rfl (by decide) q1748 (.inl rfl) (.int (nI e)) (hYd_8) rfl ?_
                    have y10 := (hTp.fr  (fun j9 a9 b9 => hfw j9 (by omega)))
                    refine g_callV (k := 2000) (n9 := 1) (av := [.int (nI e)]) (st := []) E (ct_X13_byteAt l e (⟨_, hYd_a, (hYd_r 5 (.inl (by decide))).trans hF0_5, (hYd_r 7 (.inl (by decide))).trans hF0_7⟩) y10 (by omega) (by omega)) gciX13 dX13_goesOn_178 hYd_a q1993 q1995 qs54 q135 q1996 (by decide +kernel) rfl rfl ⟨by decide, by decide⟩ ⟨by decide, by decide⟩ (Nat.le_of_ble_eq_true rfl) rfl (gPu.k ?_)
                    refine g_callS (n9 := 1) (av := [.int (zSee T n e)]) (st := []) E (ct_X13_isDigit l (zSee T n e)) dX13_goesOn_181 q2001 q2002 q135 q2003 (by decide +kernel) rfl rfl ⟨by decide, by decide⟩ ⟨by decide, by decide⟩ (Nat.le_of_ble_eq_true rfl) rfl (gPu.k ?_)
                    refine g_if_eq E dX13_goesOn_184 (tgt := 231) (by decide) rfl (fun c184 => ?_) (fun c184 => ?_)
                    · have c184 := zb_0.mp c184
                      have hE : zEn (zDgt T n) n k = e := hzz2.trans (zEn_f c184)
                      refine g_iload_n E dX13_goesOn_231 rfl rfl rfl ?_
                      refine g_iconst E (v := 3) dX13_goesOn_232 (by decide) rfl ?_
                      refine g_icmp_gt E dX13_goesOn_233 (tgt := 265) (by decide) rfl (fun c233 => ?_) (fun c233 => ?_)
                      · have c233 := (nI_ltI (a := 3) (b := m9) (by omega) (by omega)).mp c233
                        have ht11 := zTn_bd hK c61 c76 c165 hE (show 3 < e - k by omega)
                        exact g_vret E Rt dX13_goesOn_265 rfl (by decide) (by decide) (by rw [ht11]; exact ⟨rfl, ⟨_, hYd_a, hYd_r, hYd_9, hYd_12, (fun h9 => absurd rfl h9), hYd_10, (fun h9 => by cases h9), (fun h9 => by cases h9), hYd_k⟩, fun j9 h9 => hfw j9 (by omega)⟩)
                      · have c233 := mt (nI_ltI (a := 3) (b := m9) (by omega) (by omega)).mpr c233
                        refine g_aload_n E dX13_goesOn_236 rfl rfl rfl ?_
                        refine g_iconst E (v := 3) dX13_goesOn_237 (by decide) rfl ?_
                        refine g_putf E gciX13 (v := .int 3) dX13_goesOn_238 hYd_a 9 rfl (by decide) q1749 (.inl rfl) rfl (fun _ => rfl) (fun _ => rfl) rfl (g_upk (fun g12 h12 f12 => ?_))
                        refine g_goto E dX13_goesOn_241 (tgt := 265) (by decide) ?_
                        have ht13 := zTn_d hK c61 c76 c165 hE (show ¬ 3 < e - k by omega)
                        exact g_vret E Rt dX13_goesOn_265 rfl (by decide) (by decide) (by rw [ht13]; exact ⟨rfl, ⟨_, h12, rF.u hYd_r (by decide), rfl, hYd_12, (fun _ => hYd_8), hYd_10, (fun _ => (hYd_11).trans (by rw [hx3 (by omega)])), (fun h9 => by cases h9), hYd_k⟩, fun j9 h9 => (f12 j9 (by omega)).trans (hfw j9 (by omega))⟩)
                    · have c184 := zb_n0.mp c184
                      refine g_iload_n E dX13_goesOn_187 rfl rfl rfl ?_
                      refine g_iconst E (v := 3) dX13_goesOn_188 (by decide) rfl ?_
                      refine g_icmp_ge E dX13_goesOn_189 (tgt := 215) (by decide) rfl (fun c189 => ?_) (fun c189 => ?_)
                      · have c189 := (nI_leI (a := 3) (b := m9) (by omega) (by omega)).mp c189
                        refine g_iinc E dX13_goesOn_215 rfl (v := nI (m9 + 1)) (nI_c _) (by decide) rfl (lo1 := [some (.ref 2000), some (.int (zSee T n k)), some (.int (nI (m9 + 1)))]) rfl rfl ?_
                        refine g_aload_n E dX13_goesOn_218 rfl rfl rfl ?_
                        refine g_dup E dX13_goesOn_219 rfl rfl ?_
                        refine g_getf E gciX13 dX13_goesOn_220 hYd_a 8 rfl (by decide) q1748 (.inl rfl) (.int (nI e)) (hYd_8) rfl ?_
                        refine g_iconst E (v := 1) dX13_goesOn_223 (by decide) rfl ?_
                        refine g_iadd E dX13_goesOn_224 rfl ?_
                        refine g_as (y := nI (e + 1)) ((nI_succ _).symm) ?_
                        refine g_putf E gciX13 (v := .int (nI (e + 1))) dX13_goesOn_225 hYd_a 8 rfl (by decide) q1748 (.inl rfl) rfl (fun _ => rfl) (fun _ => rfl) rfl (g_upk (fun g14 h14 f14 => ?_))
                        refine g_goto E dX13_goesOn_228 (tgt := 173) (by decide) ?_
                        exact ih173 (e + 1) (m9 + 1) x g14 (by omega) (by omega) (by have := zDgt_lt c184; omega) (fun h9 => by omega) (hzz2.trans (zEn_t (zDgt_lt c184) c184)) (by omega) (⟨_, h14, rF.u hYd_r (by decide), hYd_9, hYd_12, rfl, hYd_10, hYd_11, hYd_k⟩) (fun j9 h9 => (f14 j9 (by omega)).trans (hfw j9 (by omega)))
                      · have c189 := mt (nI_leI (a := 3) (b := m9) (by omega) (by omega)).mpr c189
                        have hx := hx3 (by omega)
                        refine g_aload_n E dX13_goesOn_192 rfl rfl rfl ?_
                        refine g_bipush E (v := 10) dX13_goesOn_193 (by decide) rfl ?_
                        refine g_aload_n E dX13_goesOn_195 rfl rfl rfl ?_
                        refine g_getf E gciX13 dX13_goesOn_196 hYd_a 11 rfl (by decide) q1751 (.inl rfl) (.int (nI x)) (hYd_11) rfl ?_
                        refine g_imul E dX13_goesOn_199 rfl ?_
                        refine g_aload_n E dX13_goesOn_200 rfl rfl rfl ?_
                        refine g_aload_n E dX13_goesOn_201 rfl rfl rfl ?_
                        refine g_getf E gciX13 dX13_goesOn_202 hYd_a 8 rfl (by decide) q1748 (.inl rfl) (.int (nI e)) (hYd_8) rfl ?_
                        refine g_callV (k := 2000) (n9 := 1) (av := [.int (nI e)]) (st := [.int (10 * (nI x)), .ref 2000]) E (ct_X13_byteAt l e (⟨_, hYd_a, (hYd_r 5 (.inl (by decide))).trans hF0_5, (hYd_r 7 (.inl (by decide))).trans hF0_7⟩) y10 (by omega) (by omega)) gciX13 dX13_goesOn_205 hYd_a q1993 q1995 qs54 q135 q1996 (by decide +kernel) rfl rfl ⟨by decide, by decide⟩ ⟨by decide, by decide⟩ (Nat.le_of_ble_eq_true rfl) rfl (gPu.k ?_)
                        refine g_iadd E dX13_goesOn_208 rfl ?_
                        refine g_bipush E (v := 48) dX13_goesOn_209 (by decide) rfl ?_
                        refine g_isub E dX13_goesOn_211 rfl ?_
                        refine g_as (y := nI (zDg T n k (e + 1 - k))) (by rw [hx]; exact zDg_s hke c184) ?_
                        refine g_putf E gciX13 (v := .int (nI (zDg T n k (e + 1 - k)))) dX13_goesOn_212 hYd_a 11 rfl (by decide) q1751 (.inl rfl) rfl (fun _ => rfl) (fun _ => rfl) rfl (g_upk (fun g15 h15 f15 => ?_))
                        refine g_iinc E dX13_goesOn_215 rfl (v := nI (m9 + 1)) (nI_c _) (by decide) rfl (lo1 := [some (.ref 2000), some (.int (zSee T n k)), some (.int (nI (m9 + 1)))]) rfl rfl ?_
                        refine g_aload_n E dX13_goesOn_218 rfl rfl rfl ?_
                        refine g_dup E dX13_goesOn_219 rfl rfl ?_
                        refine g_getf E gciX13 dX13_goesOn_220 h15 8 rfl (by decide) q1748 (.inl rfl) (.int (nI e)) (hYd_8) rfl ?_
                        refine g_iconst E (v := 1) dX13_goesOn_223 (by decide) rfl ?_
                        refine g_iadd E dX13_goesOn_224 rfl ?_
                        refine g_as (y := nI (e + 1)) ((nI_succ _).symm) ?_
                        refine g_putf E gciX13 (v := .int (nI (e + 1))) dX13_goesOn_225 h15 8 rfl (by decide) q1748 (.inl rfl) rfl (fun _ => rfl) (fun _ => rfl) rfl (g_upk (fun g16 h16 f16 => ?_))
                        refine g_goto E dX13_goesOn_228 (tgt := 173) (by decide) ?_
                        exact ih173 (e + 1) (m9 + 1) (zDg T n k (e + 1 - k)) g16 (by omega) (by omega) (by have := zDgt_lt c184; omega) (fun _ => rfl) (hzz2.trans (zEn_t (zDgt_lt c184) c184)) (by omega) (⟨_, h16, rF.u (rF.u hYd_r (by decide)) (by decide), hYd_9, hYd_12, rfl, hYd_10, rfl, hYd_k⟩) (fun j9 h9 => ((f16 j9 (by omega)).trans (f15 j9 (by omega))).trans (hfw j9 (by omega)))
                exact lp173 (n + 2) k 0 0 g9 (Nat.le_refl _) (by omega) (by omega) (fun _ => by rw [Nat.sub_self]; rfl) rfl (by omega) (⟨_, h9, rF.u (rF.u (rF.u hY_r (by decide)) (by decide)) (by decide), rfl, hY_12, hY_8, rfl, rfl, hY_k⟩) (fun j9 h9 => (((f9 j9 (by omega)).trans (f3 j9 (by omega))).trans (f2 j9 (by omega))).trans (hfw j9 (by omega)))
            · have c76 := zb_n0.mp c76
              refine g_aload_n E dX13_goesOn_79 rfl rfl rfl ?_
              refine g_lconst E (v := 0) dX13_goesOn_80 (by decide) rfl ?_
              refine g_putf E gciX13 (v := .long 0) dX13_goesOn_81 h3 14 rfl (by decide) q1754 (.inl rfl) rfl (fun _ => rfl) (fun _ => rfl) rfl (g_upk (fun g17 h17 f17 => ?_))
              have lp84 : ∀ (r9 : Nat) (e m9 : Nat) (x : Int64) (gw : gWM), (k ≤ e) → (m9 = e - k) → (e ≤ n) → (zEn (zLtr T n) n k = zEn (zLtr T n) n e) → (e - k ≤ 9 → x = pkx (fun i => zSee T n (k + i)) (e - k)) → (n + 1 - e < r9) → (pYw gw F0 e k x) → (∀ j, j ≠ 2000 → gw j = g j) → gV z gw 0 0 84 [some (.ref 2000), some (.int (zSee T n k)), some (.int (nI m9))] [] := by
                intro r9
                induction r9 with
                | zero => intro e m9 x gw hke hm9 hen2 hzz2 hx9 hm hYw hfw; exact absurd hm (Nat.not_lt_zero _)
                | succ r9 ih84 =>
                  intro e m9 x gw hke hm9 hen2 hzz2 hx9 hm hYw hfw
                  obtain ⟨hYw_F, hYw_a, hYw_r, hYw_9, hYw_12, hYw_8, hYw_10, hYw_14⟩ := hYw
                  refine g_aload_n E dX13_goesOn_84 rfl rfl rfl ?_
                  refine g_aload_n E dX13_goesOn_85 rfl rfl rfl ?_
                  refine g_getf E gciX13 dX13_goesOn_86 hYw_a 8 rfl (by decide) q1748 (.inl rfl) (.int (nI e)) (hYw_8) rfl ?_
                  have y18 := (hTp.fr  (fun j9 a9 b9 => hfw j9 (by omega)))
                  refine g_callV (k := 2000) (n9 := 1) (av := [.int (nI e)]) (st := []) E (ct_X13_byteAt l e (⟨_, hYw_a, (hYw_r 5 (.inl (by decide))).trans hF0_5, (hYw_r 7 (.inl (by decide))).trans hF0_7⟩) y18 (by omega) (by omega)) gciX13 dX13_goesOn_89 hYw_a q1993 q1995 qs54 q135 q1996 (by decide +kernel) rfl rfl ⟨by decide, by decide⟩ ⟨by decide, by decide⟩ (Nat.le_of_ble_eq_true rfl) rfl (gPu.k ?_)
                  refine g_callS (n9 := 1) (av := [.int (zSee T n e)]) (st := []) E (ct_X13_isLetter l (zSee T n e)) dX13_goesOn_92 q1997 q1998 q135 q1999 (by decide +kernel) rfl rfl ⟨by decide, by decide⟩ ⟨by decide, by decide⟩ (Nat.le_of_ble_eq_true rfl) rfl (gPu.k ?_)
                  refine g_if_eq E dX13_goesOn_95 (tgt := 147) (by decide) rfl (fun c95 => ?_) (fun c95 => ?_)
                  · have c95 := zb_0.mp c95
                    have hE : zEn (zLtr T n) n k = e := hzz2.trans (zEn_f c95)
                    refine g_iload_n E dX13_goesOn_147 rfl rfl rfl ?_
                    refine g_bipush E (v := 9) dX13_goesOn_148 (by decide) rfl ?_
                    refine g_icmp_gt E dX13_goesOn_150 (tgt := 265) (by decide) rfl (fun c150 => ?_) (fun c150 => ?_)
                    · have c150 := (nI_ltI (a := 9) (b := m9) (by omega) (by omega)).mp c150
                      have ht19 := zTn_bw hK c61 c76 hE (show 9 < e - k by omega)
                      exact g_vret E Rt dX13_goesOn_265 rfl (by decide) (by decide) (by rw [ht19]; exact ⟨rfl, ⟨_, hYw_a, hYw_r, hYw_9, hYw_12, (fun h9 => absurd rfl h9), hYw_10, (fun h9 => by cases h9), (fun h9 => by cases h9), (fun _ => ⟨_, hYw_14⟩)⟩, fun j9 h9 => hfw j9 (by omega)⟩)
                    · have c150 := mt (nI_ltI (a := 9) (b := m9) (by omega) (by omega)).mpr c150
                      refine g_aload_n E dX13_goesOn_153 rfl rfl rfl ?_
                      refine g_iconst E (v := 2) dX13_goesOn_154 (by decide) rfl ?_
                      refine g_putf E gciX13 (v := .int 2) dX13_goesOn_155 hYw_a 9 rfl (by decide) q1749 (.inl rfl) rfl (fun _ => rfl) (fun _ => rfl) rfl (g_upk (fun g20 h20 f20 => ?_))
                      refine g_goto E dX13_goesOn_158 (tgt := 265) (by decide) ?_
                      have ht21 := zTn_w hK c61 c76 hE (show ¬ 9 < e - k by omega)
                      exact g_vret E Rt dX13_goesOn_265 rfl (by decide) (by decide) (by rw [ht21]; exact ⟨rfl, ⟨_, h20, rF.u hYw_r (by decide), rfl, hYw_12, (fun _ => hYw_8), hYw_10, (fun h9 => by cases h9), (fun _ => (hYw_14).trans (by rw [zWd_pk, hx9 (by omega)])), (fun _ => ⟨_, hYw_14⟩)⟩, fun j9 h9 => (f20 j9 (by omega)).trans (hfw j9 (by omega))⟩)
                  · have c95 := zb_n0.mp c95
                    refine g_iload_n E dX13_goesOn_98 rfl rfl rfl ?_
                    refine g_bipush E (v := 9) dX13_goesOn_99 (by decide) rfl ?_
                    refine g_icmp_ge E dX13_goesOn_101 (tgt := 131) (by decide) rfl (fun c101 => ?_) (fun c101 => ?_)
                    · have c101 := (nI_leI (a := 9) (b := m9) (by omega) (by omega)).mp c101
                      refine g_iinc E dX13_goesOn_131 rfl (v := nI (m9 + 1)) (nI_c _) (by decide) rfl (lo1 := [some (.ref 2000), some (.int (zSee T n k)), some (.int (nI (m9 + 1)))]) rfl rfl ?_
                      refine g_aload_n E dX13_goesOn_134 rfl rfl rfl ?_
                      refine g_dup E dX13_goesOn_135 rfl rfl ?_
                      refine g_getf E gciX13 dX13_goesOn_136 hYw_a 8 rfl (by decide) q1748 (.inl rfl) (.int (nI e)) (hYw_8) rfl ?_
                      refine g_iconst E (v := 1) dX13_goesOn_139 (by decide) rfl ?_
                      refine g_iadd E dX13_goesOn_140 rfl ?_
                      refine g_as (y := nI (e + 1)) ((nI_succ _).symm) ?_
                      refine g_putf E gciX13 (v := .int (nI (e + 1))) dX13_goesOn_141 hYw_a 8 rfl (by decide) q1748 (.inl rfl) rfl (fun _ => rfl) (fun _ => rfl) rfl (g_upk (fun g22 h22 f22 => ?_))
                      refine g_goto E dX13_goesOn_144 (tgt := 84) (by decide) ?_
                      exact ih84 (e + 1) (m9 + 1) x g22 (by omega) (by omega) (by have := zLtr_lt c95; omega) (hzz2.trans (zEn_t (zLtr_lt c95) c95)) (fun h9 => by omega) (by omega) (⟨_, h22, rF.u hYw_r (by decide), hYw_9, hYw_12, rfl, hYw_10, hYw_14⟩) (fun j9 h9 => (f22 j9 (by omega)).trans (hfw j9 (by omega)))
                    · have c101 := mt (nI_leI (a := 9) (b := m9) (by omega) (by omega)).mpr c101
                      refine g_aload_n E dX13_goesOn_104 rfl rfl rfl ?_
                      refine g_ldc2 E 32 dX13_goesOn_105 q2000 rfl ?_
                      refine g_aload_n E dX13_goesOn_108 rfl rfl rfl ?_
                      refine g_getf E gciX13 dX13_goesOn_109 hYw_a 14 rfl (by decide) q1754 (.inl rfl) (.long x) (hYw_14) rfl ?_
                      refine g_lmul E dX13_goesOn_112 rfl ?_
                      refine g_aload_n E dX13_goesOn_113 rfl rfl rfl ?_
                      refine g_aload_n E dX13_goesOn_114 rfl rfl rfl ?_
                      refine g_getf E gciX13 dX13_goesOn_115 hYw_a 8 rfl (by decide) q1748 (.inl rfl) (.int (nI e)) (hYw_8) rfl ?_
                      refine g_callV (k := 2000) (n9 := 1) (av := [.int (nI e)]) (st := [.long (32 * x), .ref 2000]) E (ct_X13_byteAt l e (⟨_, hYw_a, (hYw_r 5 (.inl (by decide))).trans hF0_5, (hYw_r 7 (.inl (by decide))).trans hF0_7⟩) y18 (by omega) (by omega)) gciX13 dX13_goesOn_118 hYw_a q1993 q1995 qs54 q135 q1996 (by decide +kernel) rfl rfl ⟨by decide, by decide⟩ ⟨by decide, by decide⟩ (Nat.le_of_ble_eq_true rfl) rfl (gPu.k ?_)
                      refine g_bipush E (v := 97) dX13_goesOn_121 (by decide) rfl ?_
                      refine g_isub E dX13_goesOn_123 rfl ?_
                      refine g_iconst E (v := 1) dX13_goesOn_124 (by decide) rfl ?_
                      refine g_iadd E dX13_goesOn_125 rfl ?_
                      refine g_i2l E dX13_goesOn_126 rfl ?_
                      refine g_ladd E dX13_goesOn_127 rfl ?_
                      refine g_putf E gciX13 (v := .long ((32 * x) + ((((zSee T n e) - 97) + 1).toInt64))) dX13_goesOn_128 hYw_a 14 rfl (by decide) q1754 (.inl rfl) rfl (fun _ => rfl) (fun _ => rfl) rfl (g_upk (fun g23 h23 f23 => ?_))
                      refine g_iinc E dX13_goesOn_131 rfl (v := nI (m9 + 1)) (nI_c _) (by decide) rfl (lo1 := [some (.ref 2000), some (.int (zSee T n k)), some (.int (nI (m9 + 1)))]) rfl rfl ?_
                      refine g_aload_n E dX13_goesOn_134 rfl rfl rfl ?_
                      refine g_dup E dX13_goesOn_135 rfl rfl ?_
                      refine g_getf E gciX13 dX13_goesOn_136 h23 8 rfl (by decide) q1748 (.inl rfl) (.int (nI e)) (hYw_8) rfl ?_
                      refine g_iconst E (v := 1) dX13_goesOn_139 (by decide) rfl ?_
                      refine g_iadd E dX13_goesOn_140 rfl ?_
                      refine g_as (y := nI (e + 1)) ((nI_succ _).symm) ?_
                      refine g_putf E gciX13 (v := .int (nI (e + 1))) dX13_goesOn_141 h23 8 rfl (by decide) q1748 (.inl rfl) rfl (fun _ => rfl) (fun _ => rfl) rfl (g_upk (fun g24 h24 f24 => ?_))
                      refine g_goto E dX13_goesOn_144 (tgt := 84) (by decide) ?_
                      exact ih84 (e + 1) (m9 + 1) _ g24 (by omega) (by omega) (by have := zLtr_lt c95; omega) (hzz2.trans (zEn_t (zLtr_lt c95) c95)) (fun h9 => by rw [hx9 (by omega), show e + 1 - k = e - k + 1 by omega]; show _ = 32 * _ + (zSee T n (k + (e - k)) - 97 + 1).toInt64; rw [show k + (e - k) = e by omega]) (by omega) (⟨_, h24, rF.u (rF.u hYw_r (by decide)) (by decide), hYw_9, hYw_12, rfl, hYw_10, rfl⟩) (fun j9 h9 => ((f24 j9 (by omega)).trans (f23 j9 (by omega))).trans (hfw j9 (by omega)))
              exact lp84 (n + 2) k 0 0 g17 (Nat.le_refl _) (by omega) (by omega) rfl (fun _ => by rw [Nat.sub_self]; rfl) (by omega) (⟨_, h17, rF.u (rF.u (rF.u hY_r (by decide)) (by decide)) (by decide), rfl, hY_12, hY_8, rfl, rfl⟩) (fun j9 h9 => (((f17 j9 (by omega)).trans (f3 j9 (by omega))).trans (f2 j9 (by omega))).trans (hfw j9 (by omega)))
          · refine g_aload_n E dX13_goesOn_64 rfl rfl rfl ?_
            refine g_iconst E (v := 1) dX13_goesOn_65 (by decide) rfl ?_
            refine g_putf E gciX13 (v := .int 1) dX13_goesOn_66 h3 9 rfl (by decide) q1749 (.inl rfl) rfl (fun _ => rfl) (fun _ => rfl) rfl (g_upk (fun g25 h25 f25 => ?_))
            refine g_goto E dX13_goesOn_69 (tgt := 265) (by decide) ?_
            have ht26 := zTn_end hK c61
            exact g_vret E Rt dX13_goesOn_265 rfl (by decide) (by decide) (by rw [ht26]; exact ⟨rfl, ⟨_, h25, rF.u (rF.u (rF.u hY_r (by decide)) (by decide)) (by decide), rfl, hY_12, (fun _ => hY_8), rfl, (fun h9 => by cases h9), (fun h9 => by cases h9), hY_k⟩, fun j9 h9 => (((f25 j9 (by omega)).trans (f3 j9 (by omega))).trans (f2 j9 (by omega))).trans (hfw j9 (by omega))⟩)
        · refine g_aload_n E dX13_goesOn_22 rfl rfl rfl ?_
          refine g_dup E dX13_goesOn_23 rfl rfl ?_
          refine g_getf E gciX13 dX13_goesOn_24 hY_a 8 rfl (by decide) q1748 (.inl rfl) (.int (nI k)) (hY_8) rfl ?_
          refine g_iconst E (v := 1) dX13_goesOn_27 (by decide) rfl ?_
          refine g_iadd E dX13_goesOn_28 rfl ?_
          refine g_as (y := nI (k + 1)) ((nI_succ _).symm) ?_
          refine g_putf E gciX13 (v := .int (nI (k + 1))) dX13_goesOn_29 hY_a 8 rfl (by decide) q1748 (.inl rfl) rfl (fun _ => rfl) (fun _ => rfl) rfl (g_upk (fun g27 h27 f27 => ?_))
          refine g_goto E dX13_goesOn_32 (tgt := 9) (by decide) ?_
          exact ih9 (k + 1) g27 (by have := zSpc_lt c19; omega) ((zEn_t (zSpc_lt c19) (decide_eq_true c19)).symm.trans hzz) (by have := zSpc_lt c19; omega) (⟨_, h27, rF.u hY_r (by decide), hY_9, hY_12, rfl, hY_k⟩) (fun j9 h9 => (f27 j9 (by omega)).trans (hfw j9 (by omega)))
    exact lp9 (n + 2) en g hen hK (by omega) (⟨_, hG_a, hG_r, hG_9, hG_12, hG_8, hG_k⟩) (fun j9 h9 => rfl)
  · exact absurd (by first | exact c5 | exact Classical.not_not.mp c5) hs5
