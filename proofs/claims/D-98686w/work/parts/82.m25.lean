/-! WALKS, twenty-fifth: the next token -/
set_option maxRecDepth 100000
set_option maxHeartbeats 400000 in
theorem ct_X2_see (l : Launch) {g : gWM} {n : Nat} {T : Nat → Int32} (k : Nat) (hTs : pTs g n) (hTp : pTp g 1001 T n) (hn : n ≤ 1100) (hk : k ≤ 2000) : gCt l yX2_see cX2_see 2 (some .int) 0 0 0 0 [.ref 1002, .int (nI k)] g (gPu (.int (zSee T n k)) g) := by
  refine gCt.of RX2 (by decide) rfl (lo := [some (.ref 1002), some (.int (nI k))]) 0 rfl (Nat.le_of_ble_eq_true rfl) (fun z E Rt => ?_)
  obtain ⟨hTs_F, hTs_a, hTs_1, hTs_3⟩ := hTs
  have hTp_o := hTp
  obtain ⟨hTp_f, hTp_a, hTp_b⟩ := hTp_o
  refine g_iload_n E dX2_see_0 rfl rfl rfl ?_
  refine g_aload_n E dX2_see_1 rfl rfl rfl ?_
  refine g_getf E gciX2 dX2_see_2 hTs_a 3 rfl (by decide) q249 (.inl rfl) (.int (nI n)) (hTs_3) rfl ?_
  refine g_icmp_ge E dX2_see_5 (tgt := 21) (by decide) rfl (fun c5 => ?_) (fun c5 => ?_)
  · have c5 := (nI_leI (a := n) (b := k) (by omega) (by omega)).mp c5
    refine g_iconst E (v := (-1)) dX2_see_21 (by decide) rfl ?_
    exact g_iret E Rt dX2_see_22 rfl (by decide) (by decide) (⟨congrArg (fun x => some (Value.int x)) (by unfold zSee; first | rw [if_pos (by omega)] | rw [if_neg (by omega)]), rfl⟩)
  · have c5 := mt (nI_leI (a := n) (b := k) (by omega) (by omega)).mpr c5
    refine g_aload_n E dX2_see_8 rfl rfl rfl ?_
    refine g_getf E gciX2 dX2_see_9 hTs_a 1 rfl (by decide) q247 (.inl rfl) (.ref 1001) (hTs_1) rfl ?_
    refine g_iload_n E dX2_see_12 rfl rfl rfl ?_
    refine g_bald E dX2_see_13 (j := k) hTp_a (rfl) (by omega) (by decide) (v := T k) (hTp_b k (by omega)) rfl ?_
    refine g_sipush E (v := 255) dX2_see_14 (by decide) rfl ?_
    refine g_iand E dX2_see_17 rfl ?_
    refine g_goto E dX2_see_18 (tgt := 22) (by decide) ?_
    exact g_iret E Rt dX2_see_22 rfl (by decide) (by decide) (⟨congrArg (fun x => some (Value.int x)) (by unfold zSee; first | rw [if_pos (by omega)] | rw [if_neg (by omega)]), rfl⟩)
set_option maxHeartbeats 400000 in
theorem ct_X2_isSmall (l : Launch) {g : gWM} (c : Int32)  : gCt l yX2_isSmall cX2_isSmall 1 (some .boolean) 1 0 0 22 [.int c] g (gPu (.int (zb (zIn c 97 122))) g) := by
  refine gCt.of RX2 (by decide) rfl (lo := [some (.int c)]) 0 rfl (Nat.le_of_ble_eq_true rfl) (fun z E Rt => ?_)
  refine g_iload_n E dX2_isSmall_0 rfl rfl rfl ?_
  refine g_bipush E (v := 97) dX2_isSmall_1 (by decide) rfl ?_
  refine g_bipush E (v := 122) dX2_isSmall_3 (by decide) rfl ?_
  refine g_callSN (n9 := 3) (av := [.int c, .int 97, .int 122]) (st := []) E (ct_X1_in l c 97 122) dX2_isSmall_5 q629 q501 q120 q502 (by decide +kernel) rfl rfl ⟨by decide, by decide⟩ ⟨by decide, by decide⟩ (Nat.le_of_ble_eq_true rfl) rfl (gPu.k ?_)
  exact g_zret E Rt dX2_isSmall_8 rfl (zb_nar) (by decide) (by decide) (⟨rfl, rfl⟩)
set_option maxHeartbeats 400000 in
theorem ct_X2_isDigit (l : Launch) {g : gWM} (c : Int32)  : gCt l yX2_isDigit cX2_isDigit 1 (some .boolean) 1 0 0 22 [.int c] g (gPu (.int (zb (zIn c 48 57))) g) := by
  refine gCt.of RX2 (by decide) rfl (lo := [some (.int c)]) 0 rfl (Nat.le_of_ble_eq_true rfl) (fun z E Rt => ?_)
  refine g_iload_n E dX2_isDigit_0 rfl rfl rfl ?_
  refine g_bipush E (v := 48) dX2_isDigit_1 (by decide) rfl ?_
  refine g_bipush E (v := 57) dX2_isDigit_3 (by decide) rfl ?_
  refine g_callSN (n9 := 3) (av := [.int c, .int 48, .int 57]) (st := []) E (ct_X1_in l c 48 57) dX2_isDigit_5 q629 q501 q120 q502 (by decide +kernel) rfl rfl ⟨by decide, by decide⟩ ⟨by decide, by decide⟩ (Nat.le_of_ble_eq_true rfl) rfl (gPu.k ?_)
  exact g_zret E Rt dX2_isDigit_8 rfl (zb_nar) (by decide) (by decide) (⟨rfl, rfl⟩)
set_option maxHeartbeats 2000000 in
theorem ct_X2_next (l : Launch) {g : gWM} {n bb en N : Nat} {T : Nat → Int32} (hQ : pTq g n bb en N T) (hn : n ≤ 1100) (hen : en ≤ n) (hbb : 10000 ≤ bb) (hN : bb + 100 ≤ N) : gCt l yX2_next cX2_next 3 none 4 2 13 99 [.ref 1002] g (gPn (fun g1 => pSp g1 g n bb (zTn T n en) N N T)) := by
  refine gCt.of RX2 (by decide) rfl (lo := [some (.ref 1002), none, none]) 2 rfl (Nat.le_of_ble_eq_true rfl) (fun z E Rt => ?_)
  have hQ_o := hQ
  obtain ⟨⟨hQ_F, hQ_a, hQ_0, hQ_1, hQ_2, hQ_3, hQ_4, hQ_9⟩, ⟨hQ_G, hQ_b⟩, ⟨hQ_l, hQ_c⟩, hQ_t, hQ_z⟩ := hQ_o
  have hQ_t_o := hQ_t
  obtain ⟨hQ_t_f, hQ_t_a, hQ_t_b⟩ := hQ_t_o
  obtain ⟨K, hK⟩ : ∃ K, zEn (zSpc T n) n en = K := ⟨_, rfl⟩
  have hKl := zEn_le (P := zSpc T n) hen
  rw [hK] at hKl
  refine g_aload_n E dX2_next_0 rfl rfl rfl ?_
  refine g_getf E gciX2 dX2_next_1 hQ_a 4 rfl (by decide) q250 (.inl rfl) (.int (nI en)) (hQ_4) rfl ?_
  refine g_istore_n E dX2_next_4 rfl (by decide) rfl (lo1 := [some (.ref 1002), some (.int (nI en)), none]) rfl rfl ?_
  have lp5 : ∀ (r9 : Nat) (k : Nat), (k ≤ n) → (zEn (zSpc T n) n k = K) → (n + 1 - k < r9) → gV z g 0 0 5 [some (.ref 1002), some (.int (nI k)), none] [] := by
    intro r9
    induction r9 with
    | zero => intro k hk hzz hm; exact absurd hm (Nat.not_lt_zero _)
    | succ r9 ih5 =>
      intro k hk hzz hm
      refine g_aload_n E dX2_next_5 rfl rfl rfl ?_
      refine g_iload_n E dX2_next_6 rfl rfl rfl ?_
      refine g_callV (k := 1002) (n9 := 1) (av := [.int (nI k)]) (st := []) E (ct_X2_see l k (⟨_, hQ_a, hQ_1, hQ_3⟩) hQ_t (by omega) (by omega)) gciX2 dX2_next_7 hQ_a q622 q624 qs5 q121 q625 (by decide +kernel) rfl rfl ⟨by decide, by decide⟩ ⟨by decide, by decide⟩ (Nat.le_of_ble_eq_true rfl) rfl (gPu.k ?_)
      refine g_bipush E (v := 32) dX2_next_10 (by decide) rfl ?_
      refine g_icmp_ne E dX2_next_12 (tgt := 21) (by decide) rfl (fun c12 => ?_) (fun c12 => ?_)
      · obtain rfl : k = K := (zEn_f (P := zSpc T n) (decide_eq_false c12)).symm.trans hzz
        refine g_aload_n E dX2_next_21 rfl rfl rfl ?_
        refine g_iload_n E dX2_next_22 rfl rfl rfl ?_
        refine g_putf E gciX2 (v := .int (nI k)) dX2_next_23 hQ_a 6 rfl (by decide) q252 (.inl rfl) rfl (fun _ => rfl) (fun _ => rfl) rfl (g_upk (fun g1 h1 f1 => ?_))
        refine g_aload_n E dX2_next_26 rfl rfl rfl ?_
        refine g_iload_n E dX2_next_27 rfl rfl rfl ?_
        refine g_iconst E (v := 1) dX2_next_28 (by decide) rfl ?_
        refine g_iadd E dX2_next_29 rfl ?_
        refine g_as (y := nI (k + 1)) ((nI_succ _).symm) ?_
        refine g_putf E gciX2 (v := .int (nI (k + 1))) dX2_next_30 h1 4 rfl (by decide) q250 (.inl rfl) rfl (fun _ => rfl) (fun _ => rfl) rfl (g_upk (fun g2 h2 f2 => ?_))
        refine g_aload_n E dX2_next_33 rfl rfl rfl ?_
        refine g_iload_n E dX2_next_34 rfl rfl rfl ?_
        have y3 := ((hQ_t.fr  (fun j9 a9 b9 => f1 j9 (by omega))).fr  (fun j9 a9 b9 => f2 j9 (by omega)))
        refine g_callV (k := 1002) (n9 := 1) (av := [.int (nI k)]) (st := []) E (ct_X2_see l k (⟨_, h2, hQ_1, hQ_3⟩) y3 (by omega) (by omega)) gciX2 dX2_next_35 h2 q622 q624 qs5 q121 q625 (by decide +kernel) rfl rfl ⟨by decide, by decide⟩ ⟨by decide, by decide⟩ (Nat.le_of_ble_eq_true rfl) rfl (gPu.k ?_)
        refine g_istore_n E dX2_next_38 rfl (by decide) rfl (lo1 := [some (.ref 1002), some (.int (nI k)), some (.int (zSee T n k))]) rfl rfl ?_
        refine g_iload_n E dX2_next_39 rfl rfl rfl ?_
        refine g_iconst E (v := (-1)) dX2_next_40 (by decide) rfl ?_
        refine g_icmp_ne E dX2_next_41 (tgt := 57) (by decide) rfl (fun c41 => ?_) (fun c41 => ?_)
        · refine g_iload_n E dX2_next_57 rfl rfl rfl ?_
          refine g_callS (n9 := 1) (av := [.int (zSee T n k)]) (st := []) E (ct_X2_isSmall l (zSee T n k)) dX2_next_58 q626 q627 q121 q628 (by decide +kernel) rfl rfl ⟨by decide, by decide⟩ ⟨by decide, by decide⟩ (Nat.le_of_ble_eq_true rfl) rfl (gPu.k ?_)
          refine g_if_eq E dX2_next_61 (tgt := 185) (by decide) rfl (fun c61 => ?_) (fun c61 => ?_)
          · have c61 := zb_0.mp c61
            refine g_iload_n E dX2_next_185 rfl rfl rfl ?_
            refine g_callS (n9 := 1) (av := [.int (zSee T n k)]) (st := []) E (ct_X2_isDigit l (zSee T n k)) dX2_next_186 q709 q710 q121 q711 (by decide +kernel) rfl rfl ⟨by decide, by decide⟩ ⟨by decide, by decide⟩ (Nat.le_of_ble_eq_true rfl) rfl (gPu.k ?_)
            refine g_if_eq E dX2_next_189 (tgt := 284) (by decide) rfl (fun c189 => ?_) (fun c189 => ?_)
            · have c189 := zb_0.mp c189
              refine g_aload_n E dX2_next_284 rfl rfl rfl ?_
              refine g_iload_n E dX2_next_285 rfl rfl rfl ?_
              refine g_bipush E (v := 59) dX2_next_286 (by decide) rfl ?_
              refine g_icmp_ne E dX2_next_288 (tgt := 295) (by decide) rfl (fun c288 => ?_) (fun c288 => ?_)
              · refine g_iconst E (v := 1) dX2_next_295 (by decide) rfl ?_
                refine g_putf E gciX2 (v := .int 1) dX2_next_296 h2 5 rfl (by decide) q251 (.inl rfl) rfl (fun _ => rfl) (fun _ => rfl) rfl (g_upk (fun g4 h4 f4 => ?_))
                have ht5 := zTn_b hK c41 c61 c189 c288
                have x6 := (f4 (1003) (by omega)).trans ((f2 (1003) (by omega)).trans ((f1 (1003) (by omega)).trans (hQ_b)))
                have x7 := (f4 (1004) (by omega)).trans ((f2 (1004) (by omega)).trans ((f1 (1004) (by omega)).trans (hQ_c)))
                have y8 := (y3.fr  (fun j9 a9 b9 => f4 j9 (by omega)))
                exact g_vret E Rt dX2_next_299 rfl (by decide) (by decide) (by rw [ht5]; exact ⟨rfl, N, N, Nat.le_refl _, by omega, ⟨⟨_, h4, hQ_0, hQ_1, hQ_2, hQ_3, rfl, rfl, rfl, (fun h9 => by cases h9), (fun h9 => by cases h9), hQ_9⟩, (fun h9 => by cases h9), ⟨_, x6⟩, ⟨_, x7⟩, y8, fun j9 a9 => (f4 j9 (by omega)).trans ((f2 j9 (by omega)).trans ((f1 j9 (by omega)).trans (hQ_z j9 (by omega))))⟩, fun j9 h9 => ((f4 j9 (by omega)).trans (f2 j9 (by omega))).trans (f1 j9 (by omega))⟩)
              · refine g_iload_n E dX2_next_291 rfl rfl rfl ?_
                refine g_goto E dX2_next_292 (tgt := 296) (by decide) ?_
                refine g_putf E gciX2 (v := .int (zSee T n k)) dX2_next_296 h2 5 rfl (by decide) q251 (.inl rfl) rfl (fun _ => rfl) (fun _ => rfl) rfl (g_upk (fun g9 h9 f9 => ?_))
                have ht10 := zTn_s hK c41 c61 c189 c288
                have x11 := (f9 (1003) (by omega)).trans ((f2 (1003) (by omega)).trans ((f1 (1003) (by omega)).trans (hQ_b)))
                have x12 := (f9 (1004) (by omega)).trans ((f2 (1004) (by omega)).trans ((f1 (1004) (by omega)).trans (hQ_c)))
                have y13 := (y3.fr  (fun j9 a9 b9 => f9 j9 (by omega)))
                exact g_vret E Rt dX2_next_299 rfl (by decide) (by decide) (by rw [ht10]; exact ⟨rfl, N, N, Nat.le_refl _, by omega, ⟨⟨_, h9, hQ_0, hQ_1, hQ_2, hQ_3, rfl, (congrArg Value.int c288).trans rfl, rfl, (fun h9 => by cases h9), (fun h9 => by cases h9), hQ_9⟩, (fun h9 => by cases h9), ⟨_, x11⟩, ⟨_, x12⟩, y13, fun j9 a9 => (f9 j9 (by omega)).trans ((f2 j9 (by omega)).trans ((f1 j9 (by omega)).trans (hQ_z j9 (by omega))))⟩, fun j9 h9 => ((f9 j9 (by omega)).trans (f2 j9 (by omega))).trans (f1 j9 (by omega))⟩)
            · have c189 := zb_n0.mp c189
              refine g_aload_n E dX2_next_192 rfl rfl rfl ?_
              refine g_iconst E (v := 0) dX2_next_193 (by decide) rfl ?_
              refine g_putf E gciX2 (v := .int 0) dX2_next_194 h2 7 rfl (by decide) q253 (.inl rfl) rfl (fun _ => rfl) (fun _ => rfl) rfl (g_upk (fun g14 h14 f14 => ?_))
              refine g_aload_n E dX2_next_197 rfl rfl rfl ?_
              refine g_iload_n E dX2_next_198 rfl rfl rfl ?_
              refine g_putf E gciX2 (v := .int (nI k)) dX2_next_199 h14 4 rfl (by decide) q250 (.inl rfl) rfl (fun _ => rfl) (fun _ => rfl) rfl (g_upk (fun g15 h15 f15 => ?_))
              have lp202 : ∀ (r9 : Nat) (e x : Nat) (gw : gWM), (k ≤ e) → (e ≤ n) → (e - k ≤ 3 → x = zDg T n k (e - k)) → (zEn (zDgt T n) n k = zEn (zDgt T n) n e) → (n + 1 - e < r9) → (pNd gw n bb e k x) → (∀ j, (j ≠ 1002) → gw j = g j) → gV z gw 0 0 202 [some (.ref 1002), some (.int (nI k)), some (.int (zSee T n k))] [] := by
                intro r9
                induction r9 with
                | zero => intro e x gw hke hen2 hx3 hzz2 hm hNx hfw; exact absurd hm (Nat.not_lt_zero _)
                | succ r9 ih202 =>
                  intro e x gw hke hen2 hx3 hzz2 hm hNx hfw
                  obtain ⟨hNx_F, hNx_a, hNx_0, hNx_1, hNx_2, hNx_3, hNx_4, hNx_6, hNx_7, hNx_9⟩ := hNx
                  refine g_aload_n E dX2_next_202 rfl rfl rfl ?_
                  refine g_aload_n E dX2_next_203 rfl rfl rfl ?_
                  refine g_getf E gciX2 dX2_next_204 hNx_a 4 rfl (by decide) q250 (.inl rfl) (.int (nI e)) (hNx_4) rfl ?_
                  have y16 := (hQ_t.fr  (fun j9 a9 b9 => hfw j9 (by omega)))
                  refine g_callV (k := 1002) (n9 := 1) (av := [.int (nI e)]) (st := []) E (ct_X2_see l e (⟨_, hNx_a, hNx_1, hNx_3⟩) y16 (by omega) (by omega)) gciX2 dX2_next_207 hNx_a q622 q624 qs5 q121 q625 (by decide +kernel) rfl rfl ⟨by decide, by decide⟩ ⟨by decide, by decide⟩ (Nat.le_of_ble_eq_true rfl) rfl (gPu.k ?_)
                  refine g_callS (n9 := 1) (av := [.int (zSee T n e)]) (st := []) E (ct_X2_isDigit l (zSee T n e)) dX2_next_210 q709 q710 q121 q711 (by decide +kernel) rfl rfl ⟨by decide, by decide⟩ ⟨by decide, by decide⟩ (Nat.le_of_ble_eq_true rfl) rfl (gPu.k ?_)
                  refine g_if_eq E dX2_next_213 (tgt := 262) (by decide) rfl (fun c213 => ?_) (fun c213 => ?_)
                  · have c213 := zb_0.mp c213
                    have hE : zEn (zDgt T n) n k = e := hzz2.trans (zEn_f c213)
                    refine g_aload_n E dX2_next_262 rfl rfl rfl ?_
                    refine g_aload_n E dX2_next_263 rfl rfl rfl ?_
                    refine g_getf E gciX2 dX2_next_264 hNx_a 4 rfl (by decide) q250 (.inl rfl) (.int (nI e)) (hNx_4) rfl ?_
                    refine g_iload_n E dX2_next_267 rfl rfl rfl ?_
                    refine g_isub E dX2_next_268 rfl ?_
                    refine g_as (y := nI (e - k)) (pk_sub (by omega)) ?_
                    refine g_iconst E (v := 3) dX2_next_269 (by decide) rfl ?_
                    refine g_icmp_le E dX2_next_270 (tgt := 277) (by decide) rfl (fun c270 => ?_) (fun c270 => ?_)
                    · have c270 := (nI_leI (a := e - k) (b := 3) (by omega) (by omega)).mp c270
                      refine g_iconst E (v := 3) dX2_next_277 (by decide) rfl ?_
                      refine g_putf E gciX2 (v := .int 3) dX2_next_278 hNx_a 5 rfl (by decide) q251 (.inl rfl) rfl (fun _ => rfl) (fun _ => rfl) rfl (g_upk (fun g17 h17 f17 => ?_))
                      refine g_goto E dX2_next_281 (tgt := 299) (by decide) ?_
                      have ht18 := zTn_d hK c41 c61 c189 hE (show ¬ 3 < e - k by omega)
                      have x19 := (f17 (1003) (by omega)).trans ((hfw (1003) (by omega)).trans (hQ_b))
                      have x20 := (f17 (1004) (by omega)).trans ((hfw (1004) (by omega)).trans (hQ_c))
                      have y21 := (y16.fr  (fun j9 a9 b9 => f17 j9 (by omega)))
                      exact g_vret E Rt dX2_next_299 rfl (by decide) (by decide) (by rw [ht18]; exact ⟨rfl, N, N, Nat.le_refl _, by omega, ⟨⟨_, h17, hNx_0, hNx_1, hNx_2, hNx_3, hNx_4, rfl, hNx_6, (fun _ => hNx_7 |>.trans (by rw [hx3 (by omega)])), (fun h9 => by cases h9), hNx_9⟩, (fun h9 => by cases h9), ⟨_, x19⟩, ⟨_, x20⟩, y21, fun j9 a9 => (f17 j9 (by omega)).trans ((hfw j9 (by omega)).trans (hQ_z j9 (by omega)))⟩, fun j9 h9 => (f17 j9 (by omega)).trans (hfw j9 (by omega))⟩)
                    · have c270 := mt (nI_leI (a := e - k) (b := 3) (by omega) (by omega)).mpr c270
                      refine g_iconst E (v := 1) dX2_next_273 (by decide) rfl ?_
                      refine g_goto E dX2_next_274 (tgt := 278) (by decide) ?_
                      refine g_putf E gciX2 (v := .int 1) dX2_next_278 hNx_a 5 rfl (by decide) q251 (.inl rfl) rfl (fun _ => rfl) (fun _ => rfl) rfl (g_upk (fun g22 h22 f22 => ?_))
                      refine g_goto E dX2_next_281 (tgt := 299) (by decide) ?_
                      have ht23 := zTn_bd hK c41 c61 c189 hE (show 3 < e - k by omega)
                      have x24 := (f22 (1003) (by omega)).trans ((hfw (1003) (by omega)).trans (hQ_b))
                      have x25 := (f22 (1004) (by omega)).trans ((hfw (1004) (by omega)).trans (hQ_c))
                      have y26 := (y16.fr  (fun j9 a9 b9 => f22 j9 (by omega)))
                      exact g_vret E Rt dX2_next_299 rfl (by decide) (by decide) (by rw [ht23]; exact ⟨rfl, N, N, Nat.le_refl _, by omega, ⟨⟨_, h22, hNx_0, hNx_1, hNx_2, hNx_3, hNx_4, rfl, hNx_6, (fun h9 => by cases h9), (fun h9 => by cases h9), hNx_9⟩, (fun h9 => by cases h9), ⟨_, x24⟩, ⟨_, x25⟩, y26, fun j9 a9 => (f22 j9 (by omega)).trans ((hfw j9 (by omega)).trans (hQ_z j9 (by omega)))⟩, fun j9 h9 => (f22 j9 (by omega)).trans (hfw j9 (by omega))⟩)
                  · have c213 := zb_n0.mp c213
                    refine g_aload_n E dX2_next_216 rfl rfl rfl ?_
                    refine g_getf E gciX2 dX2_next_217 hNx_a 4 rfl (by decide) q250 (.inl rfl) (.int (nI e)) (hNx_4) rfl ?_
                    refine g_iload_n E dX2_next_220 rfl rfl rfl ?_
                    refine g_isub E dX2_next_221 rfl ?_
                    refine g_as (y := nI (e - k)) (pk_sub (by omega)) ?_
                    refine g_iconst E (v := 3) dX2_next_222 (by decide) rfl ?_
                    refine g_icmp_ge E dX2_next_223 (tgt := 249) (by decide) rfl (fun c223 => ?_) (fun c223 => ?_)
                    · have c223 := (nI_leI (a := 3) (b := e - k) (by omega) (by omega)).mp c223
                      refine g_aload_n E dX2_next_249 rfl rfl rfl ?_
                      refine g_dup E dX2_next_250 rfl rfl ?_
                      refine g_getf E gciX2 dX2_next_251 hNx_a 4 rfl (by decide) q250 (.inl rfl) (.int (nI e)) (hNx_4) rfl ?_
                      refine g_iconst E (v := 1) dX2_next_254 (by decide) rfl ?_
                      refine g_iadd E dX2_next_255 rfl ?_
                      refine g_as (y := nI (e + 1)) ((nI_succ _).symm) ?_
                      refine g_putf E gciX2 (v := .int (nI (e + 1))) dX2_next_256 hNx_a 4 rfl (by decide) q250 (.inl rfl) rfl (fun _ => rfl) (fun _ => rfl) rfl (g_upk (fun g27 h27 f27 => ?_))
                      refine g_goto E dX2_next_259 (tgt := 202) (by decide) ?_
                      exact ih202 (e + 1) x g27 (by omega) (by have := zDgt_lt c213; omega) (fun h9 => by omega) (hzz2.trans (zEn_t (zDgt_lt c213) c213)) (by omega) (⟨_, h27, hNx_0, hNx_1, hNx_2, hNx_3, rfl, hNx_6, hNx_7, hNx_9⟩) (fun j9 h9 => (f27 j9 (by omega)).trans (hfw j9 (by omega)))
                    · have c223 := mt (nI_leI (a := 3) (b := e - k) (by omega) (by omega)).mpr c223
                      have hx := hx3 (by omega)
                      refine g_aload_n E dX2_next_226 rfl rfl rfl ?_
                      refine g_bipush E (v := 10) dX2_next_227 (by decide) rfl ?_
                      refine g_aload_n E dX2_next_229 rfl rfl rfl ?_
                      refine g_getf E gciX2 dX2_next_230 hNx_a 7 rfl (by decide) q253 (.inl rfl) (.int (nI x)) (hNx_7) rfl ?_
                      refine g_imul E dX2_next_233 rfl ?_
                      refine g_aload_n E dX2_next_234 rfl rfl rfl ?_
                      refine g_aload_n E dX2_next_235 rfl rfl rfl ?_
                      refine g_getf E gciX2 dX2_next_236 hNx_a 4 rfl (by decide) q250 (.inl rfl) (.int (nI e)) (hNx_4) rfl ?_
                      refine g_callV (k := 1002) (n9 := 1) (av := [.int (nI e)]) (st := [.int (10 * (nI x)), .ref 1002]) E (ct_X2_see l e (⟨_, hNx_a, hNx_1, hNx_3⟩) y16 (by omega) (by omega)) gciX2 dX2_next_239 hNx_a q622 q624 qs5 q121 q625 (by decide +kernel) rfl rfl ⟨by decide, by decide⟩ ⟨by decide, by decide⟩ (Nat.le_of_ble_eq_true rfl) rfl (gPu.k ?_)
                      refine g_iadd E dX2_next_242 rfl ?_
                      refine g_bipush E (v := 48) dX2_next_243 (by decide) rfl ?_
                      refine g_isub E dX2_next_245 rfl ?_
                      refine g_as (y := nI (zDg T n k (e + 1 - k))) (by rw [hx]; exact zDg_s hke c213) ?_
                      refine g_putf E gciX2 (v := .int (nI (zDg T n k (e + 1 - k)))) dX2_next_246 hNx_a 7 rfl (by decide) q253 (.inl rfl) rfl (fun _ => rfl) (fun _ => rfl) rfl (g_upk (fun g28 h28 f28 => ?_))
                      refine g_aload_n E dX2_next_249 rfl rfl rfl ?_
                      refine g_dup E dX2_next_250 rfl rfl ?_
                      refine g_getf E gciX2 dX2_next_251 h28 4 rfl (by decide) q250 (.inl rfl) (.int (nI e)) (hNx_4) rfl ?_
                      refine g_iconst E (v := 1) dX2_next_254 (by decide) rfl ?_
                      refine g_iadd E dX2_next_255 rfl ?_
                      refine g_as (y := nI (e + 1)) ((nI_succ _).symm) ?_
                      refine g_putf E gciX2 (v := .int (nI (e + 1))) dX2_next_256 h28 4 rfl (by decide) q250 (.inl rfl) rfl (fun _ => rfl) (fun _ => rfl) rfl (g_upk (fun g29 h29 f29 => ?_))
                      refine g_goto E dX2_next_259 (tgt := 202) (by decide) ?_
                      exact ih202 (e + 1) (zDg T n k (e + 1 - k)) g29 (by omega) (by have := zDgt_lt c213; omega) (fun _ => rfl) (hzz2.trans (zEn_t (zDgt_lt c213) c213)) (by omega) (⟨_, h29, hNx_0, hNx_1, hNx_2, hNx_3, rfl, hNx_6, rfl, hNx_9⟩) (fun j9 h9 => ((f29 j9 (by omega)).trans (f28 j9 (by omega))).trans (hfw j9 (by omega)))
              exact lp202 (n + 2) k 0 g15 (Nat.le_refl _) (by omega) (fun _ => by rw [Nat.sub_self]; rfl) rfl (by omega) (⟨_, h15, hQ_0, hQ_1, hQ_2, hQ_3, rfl, rfl, rfl, hQ_9⟩) (fun j9 h9 => (((f15 j9 (by omega)).trans (f14 j9 (by omega))).trans (f2 j9 (by omega))).trans (f1 j9 (by omega)))
          · have c61 := zb_n0.mp c61
            refine g_aload_n E dX2_next_64 rfl rfl rfl ?_
            refine g_iload_n E dX2_next_65 rfl rfl rfl ?_
            refine g_putf E gciX2 (v := .int (nI k)) dX2_next_66 h2 4 rfl (by decide) q250 (.inl rfl) rfl (fun _ => rfl) (fun _ => rfl) rfl (g_upk (fun g30 h30 f30 => ?_))
            have lp69 : ∀ (r9 : Nat) (e : Nat) (gw : gWM), (k ≤ e) → (e ≤ n) → (zEn (zLtr T n) n k = zEn (zLtr T n) n e) → (n + 1 - e < r9) → (pNx gw n bb e k) → (∃ f, gw 1004 = some (.inl (2, 9, .inl f)) ∧ ∀ i, i < e - k → i < 9 → f i = zSee T n (k + i)) → (∀ j, (j ≠ 1002 ∧ j ≠ 1004) → gw j = g j) → gV z gw 0 0 69 [some (.ref 1002), some (.int (nI k)), some (.int (zSee T n k))] [] := by
              intro r9
              induction r9 with
              | zero => intro e gw hke hen2 hzz2 hm hNx hLw hfw; exact absurd hm (Nat.not_lt_zero _)
              | succ r9 ih69 =>
                intro e gw hke hen2 hzz2 hm hNx hLw hfw
                obtain ⟨hNx_F, hNx_a, hNx_0, hNx_1, hNx_2, hNx_3, hNx_4, hNx_6, hNx_9⟩ := hNx
                obtain ⟨hLw_f, hLw_a, hLw_b⟩ := hLw
                refine g_aload_n E dX2_next_69 rfl rfl rfl ?_
                refine g_aload_n E dX2_next_70 rfl rfl rfl ?_
                refine g_getf E gciX2 dX2_next_71 hNx_a 4 rfl (by decide) q250 (.inl rfl) (.int (nI e)) (hNx_4) rfl ?_
                have y31 := (hQ_t.fr  (fun j9 a9 b9 => hfw j9 (by omega)))
                refine g_callV (k := 1002) (n9 := 1) (av := [.int (nI e)]) (st := []) E (ct_X2_see l e (⟨_, hNx_a, hNx_1, hNx_3⟩) y31 (by omega) (by omega)) gciX2 dX2_next_74 hNx_a q622 q624 qs5 q121 q625 (by decide +kernel) rfl rfl ⟨by decide, by decide⟩ ⟨by decide, by decide⟩ (Nat.le_of_ble_eq_true rfl) rfl (gPu.k ?_)
                refine g_callS (n9 := 1) (av := [.int (zSee T n e)]) (st := []) E (ct_X2_isSmall l (zSee T n e)) dX2_next_77 q626 q627 q121 q628 (by decide +kernel) rfl rfl ⟨by decide, by decide⟩ ⟨by decide, by decide⟩ (Nat.le_of_ble_eq_true rfl) rfl (gPu.k ?_)
                refine g_if_eq E dX2_next_80 (tgt := 127) (by decide) rfl (fun c80 => ?_) (fun c80 => ?_)
                · have c80 := zb_0.mp c80
                  have hE : zEn (zLtr T n) n k = e := hzz2.trans (zEn_f c80)
                  refine g_aload_n E dX2_next_127 rfl rfl rfl ?_
                  refine g_aload_n E dX2_next_128 rfl rfl rfl ?_
                  refine g_getf E gciX2 dX2_next_129 hNx_a 4 rfl (by decide) q250 (.inl rfl) (.int (nI e)) (hNx_4) rfl ?_
                  refine g_iload_n E dX2_next_132 rfl rfl rfl ?_
                  refine g_isub E dX2_next_133 rfl ?_
                  refine g_as (y := nI (e - k)) (pk_sub (by omega)) ?_
                  refine g_bipush E (v := 9) dX2_next_134 (by decide) rfl ?_
                  refine g_icmp_le E dX2_next_136 (tgt := 143) (by decide) rfl (fun c136 => ?_) (fun c136 => ?_)
                  · have c136 := (nI_leI (a := e - k) (b := 9) (by omega) (by omega)).mp c136
                    refine g_iconst E (v := 2) dX2_next_143 (by decide) rfl ?_
                    refine g_putf E gciX2 (v := .int 2) dX2_next_144 hNx_a 5 rfl (by decide) q251 (.inl rfl) rfl (fun _ => rfl) (fun _ => rfl) rfl (g_upk (fun g32 h32 f32 => ?_))
                    refine g_aload_n E dX2_next_147 rfl rfl rfl ?_
                    refine g_aload_n E dX2_next_148 rfl rfl rfl ?_
                    refine g_getf E gciX2 dX2_next_149 h32 5 rfl (by decide) q251 (.inl rfl) (.int 2) (rfl) rfl ?_
                    refine g_iconst E (v := 2) dX2_next_152 (by decide) rfl ?_
                    refine g_icmp_ne E dX2_next_153 (tgt := 177) (by decide) rfl (fun h9 => absurd h9 (by decide)) (fun _ => ?_)
                    refine g_new E gciJ3 dX2_next_156 q630 q631 q137 (N) ((f32 (N) (by omega)).trans ((hfw (N) (by omega)).trans (hQ_z (N) (by omega)))) (by omega) (by decide) (by decide) rfl (g_upk (fun g33 h33 f33 => ?_))
                    refine g_dup E dX2_next_159 rfl rfl ?_
                    refine g_aload_n E dX2_next_160 rfl rfl rfl ?_
                    have x34 := (f33 (1002) (by omega)).trans (h32)
                    refine g_getf E gciX2 dX2_next_161 x34 2 rfl (by decide) q248 (.inl rfl) (.ref 1004) (hNx_2) rfl ?_
                    refine g_iconst E (v := 0) dX2_next_164 (by decide) rfl ?_
                    refine g_aload_n E dX2_next_165 rfl rfl rfl ?_
                    refine g_getf E gciX2 dX2_next_166 x34 4 rfl (by decide) q250 (.inl rfl) (.int (nI e)) (hNx_4) rfl ?_
                    refine g_iload_n E dX2_next_169 rfl rfl rfl ?_
                    refine g_isub E dX2_next_170 rfl ?_
                    refine g_as (y := nI (zWd T n k (e - k)).length) (by rw [pk_sub (by omega), zWd_len]) ?_
                    have htn := zTn_w hK c41 c61 hE (show ¬ 9 < e - k by omega)
                    have hwo : zWo (zWd T n k (e - k)) := by have h9 := zTn_wo (T := T) hen (by rw [htn]); rw [htn] at h9; exact h9
                    have hcw_b : ∀ i, i < (zWd T n k (e - k)).length → hLw_f i = (zWd T n k (e - k)).getD i 0 := fun i h9 => by rw [zWd_len] at h9; rw [zWd_at h9]; exact hLw_b i h9 (by omega)
                    have x35 := (f33 (1004) (by omega)).trans ((f32 (1004) (by omega)).trans (hLw_a))
                    refine g_callI (k := N) (n9 := 3) (av := [.ref 1004, .int 0, .int (nI (zWd T n k (e - k)).length)]) (st := [.ref N, .ref 1002]) E (ct_J3_init l hwo h33 (⟨_, x35, hcw_b⟩) (fun j9 a9 b9 => (f33 j9 (by omega)).trans ((f32 j9 (by omega)).trans ((hfw j9 (by omega)).trans (hQ_z j9 (by omega))))) (by omega)) gciJ3 dX2_next_171 h33 q632 q633 q137 q634 (by decide +kernel) rfl rfl rfl ⟨by decide, by decide⟩ ⟨by decide, by decide⟩ (Nat.le_of_ble_eq_true rfl) rfl (gPn.k (fun g36 h36 => ?_))
                    obtain ⟨hst36, f36⟩ := h36
                    refine g_goto E dX2_next_174 (tgt := 179) (by decide) ?_
                    have x37 := (f36 (1002) (by omega)).trans (x34)
                    refine g_putf E gciX2 (v := .ref N) dX2_next_179 x37 8 rfl (by decide) q254 (.inl rfl) rfl (fun _ => rfl) (fun _ => rfl) rfl (g_upk (fun g38 h38 f38 => ?_))
                    refine g_goto E dX2_next_182 (tgt := 299) (by decide) ?_
                    have ht39 := htn
                    have y40 := (hst36.fr  (fun j9 a9 b9 => f38 j9 (by omega)))
                    have x41 := (f38 (1003) (by omega)).trans ((f36 (1003) (by omega)).trans ((f33 (1003) (by omega)).trans ((f32 (1003) (by omega)).trans ((hfw (1003) (by omega)).trans (hQ_b)))))
                    have x42 := (f38 (1004) (by omega)).trans ((f36 (1004) (by omega)).trans (x35))
                    have y43 := ((((y31.fr  (fun j9 a9 b9 => f32 j9 (by omega))).fr  (fun j9 a9 b9 => f33 j9 (by omega))).fr  (fun j9 a9 b9 => f36 j9 (by omega))).fr  (fun j9 a9 b9 => f38 j9 (by omega)))
                    exact g_vret E Rt dX2_next_299 rfl (by decide) (by decide) (by rw [ht39]; exact ⟨rfl, N, N + 2, Nat.le_refl _, by omega, ⟨⟨_, h38, hNx_0, hNx_1, hNx_2, hNx_3, hNx_4, rfl, hNx_6, (fun h9 => by cases h9), (fun _ => rfl), hNx_9⟩, (fun _ => ⟨y40, Nat.le_refl _⟩), ⟨_, x41⟩, ⟨_, x42⟩, y43, fun j9 a9 => (f38 j9 (by omega)).trans ((f36 j9 (by omega)).trans ((f33 j9 (by omega)).trans ((f32 j9 (by omega)).trans ((hfw j9 (by omega)).trans (hQ_z j9 (by omega))))))⟩, fun j9 h9 => ((((f38 j9 (by omega)).trans (f36 j9 (by omega))).trans (f33 j9 (by omega))).trans (f32 j9 (by omega))).trans (hfw j9 (by omega))⟩)
                  · have c136 := mt (nI_leI (a := e - k) (b := 9) (by omega) (by omega)).mpr c136
                    refine g_iconst E (v := 1) dX2_next_139 (by decide) rfl ?_
                    refine g_goto E dX2_next_140 (tgt := 144) (by decide) ?_
                    refine g_putf E gciX2 (v := .int 1) dX2_next_144 hNx_a 5 rfl (by decide) q251 (.inl rfl) rfl (fun _ => rfl) (fun _ => rfl) rfl (g_upk (fun g44 h44 f44 => ?_))
                    refine g_aload_n E dX2_next_147 rfl rfl rfl ?_
                    refine g_aload_n E dX2_next_148 rfl rfl rfl ?_
                    refine g_getf E gciX2 dX2_next_149 h44 5 rfl (by decide) q251 (.inl rfl) (.int 1) (rfl) rfl ?_
                    refine g_iconst E (v := 2) dX2_next_152 (by decide) rfl ?_
                    refine g_icmp_ne E dX2_next_153 (tgt := 177) (by decide) rfl (fun _ => ?_) (fun h9 => absurd h9 (by decide))
                    refine g_ldcS E (j := 0) (tx := "") rfl dX2_next_177 rfl ?_
                    refine g_putf E gciX2 (v := .ref (1 + 2 * 0)) dX2_next_179 h44 8 rfl (by decide) q254 (.inl rfl) rfl (fun _ => rfl) (fun _ => rfl) rfl (g_upk (fun g45 h45 f45 => ?_))
                    refine g_goto E dX2_next_182 (tgt := 299) (by decide) ?_
                    have ht46 := zTn_bw hK c41 c61 hE (show 9 < e - k by omega)
                    have x47 := (f45 (1003) (by omega)).trans ((f44 (1003) (by omega)).trans ((hfw (1003) (by omega)).trans (hQ_b)))
                    have x48 := (f45 (1004) (by omega)).trans ((f44 (1004) (by omega)).trans (hLw_a))
                    have y49 := ((y31.fr  (fun j9 a9 b9 => f44 j9 (by omega))).fr  (fun j9 a9 b9 => f45 j9 (by omega)))
                    exact g_vret E Rt dX2_next_299 rfl (by decide) (by decide) (by rw [ht46]; exact ⟨rfl, N, N, Nat.le_refl _, by omega, ⟨⟨_, h45, hNx_0, hNx_1, hNx_2, hNx_3, hNx_4, rfl, hNx_6, (fun h9 => by cases h9), (fun h9 => by cases h9), hNx_9⟩, (fun h9 => by cases h9), ⟨_, x47⟩, ⟨_, x48⟩, y49, fun j9 a9 => (f45 j9 (by omega)).trans ((f44 j9 (by omega)).trans ((hfw j9 (by omega)).trans (hQ_z j9 (by omega))))⟩, fun j9 h9 => ((f45 j9 (by omega)).trans (f44 j9 (by omega))).trans (hfw j9 (by omega))⟩)
                · have c80 := zb_n0.mp c80
                  refine g_aload_n E dX2_next_83 rfl rfl rfl ?_
                  refine g_getf E gciX2 dX2_next_84 hNx_a 4 rfl (by decide) q250 (.inl rfl) (.int (nI e)) (hNx_4) rfl ?_
                  refine g_iload_n E dX2_next_87 rfl rfl rfl ?_
                  refine g_isub E dX2_next_88 rfl ?_
                  refine g_as (y := nI (e - k)) (pk_sub (by omega)) ?_
                  refine g_bipush E (v := 9) dX2_next_89 (by decide) rfl ?_
                  refine g_icmp_ge E dX2_next_91 (tgt := 114) (by decide) rfl (fun c91 => ?_) (fun c91 => ?_)
                  · have c91 := (nI_leI (a := 9) (b := e - k) (by omega) (by omega)).mp c91
                    refine g_aload_n E dX2_next_114 rfl rfl rfl ?_
                    refine g_dup E dX2_next_115 rfl rfl ?_
                    refine g_getf E gciX2 dX2_next_116 hNx_a 4 rfl (by decide) q250 (.inl rfl) (.int (nI e)) (hNx_4) rfl ?_
                    refine g_iconst E (v := 1) dX2_next_119 (by decide) rfl ?_
                    refine g_iadd E dX2_next_120 rfl ?_
                    refine g_as (y := nI (e + 1)) ((nI_succ _).symm) ?_
                    refine g_putf E gciX2 (v := .int (nI (e + 1))) dX2_next_121 hNx_a 4 rfl (by decide) q250 (.inl rfl) rfl (fun _ => rfl) (fun _ => rfl) rfl (g_upk (fun g50 h50 f50 => ?_))
                    refine g_goto E dX2_next_124 (tgt := 69) (by decide) ?_
                    have x51 := (f50 (1004) (by omega)).trans (hLw_a)
                    exact ih69 (e + 1) g50 (by omega) (by have := zLtr_lt c80; omega) (hzz2.trans (zEn_t (zLtr_lt c80) c80)) (by omega) (⟨_, h50, hNx_0, hNx_1, hNx_2, hNx_3, rfl, hNx_6, hNx_9⟩) ⟨_, x51, fun i9 a9 b9 => hLw_b i9 (by omega) b9⟩ (fun j9 h9 => (f50 j9 (by omega)).trans (hfw j9 (by omega)))
                  · have c91 := mt (nI_leI (a := 9) (b := e - k) (by omega) (by omega)).mpr c91
                    refine g_aload_n E dX2_next_94 rfl rfl rfl ?_
                    refine g_getf E gciX2 dX2_next_95 hNx_a 2 rfl (by decide) q248 (.inl rfl) (.ref 1004) (hNx_2) rfl ?_
                    refine g_aload_n E dX2_next_98 rfl rfl rfl ?_
                    refine g_getf E gciX2 dX2_next_99 hNx_a 4 rfl (by decide) q250 (.inl rfl) (.int (nI e)) (hNx_4) rfl ?_
                    refine g_iload_n E dX2_next_102 rfl rfl rfl ?_
                    refine g_isub E dX2_next_103 rfl ?_
                    refine g_as (y := nI (e - k)) (pk_sub (by omega)) ?_
                    refine g_aload_n E dX2_next_104 rfl rfl rfl ?_
                    refine g_aload_n E dX2_next_105 rfl rfl rfl ?_
                    refine g_getf E gciX2 dX2_next_106 hNx_a 4 rfl (by decide) q250 (.inl rfl) (.int (nI e)) (hNx_4) rfl ?_
                    refine g_callV (k := 1002) (n9 := 1) (av := [.int (nI e)]) (st := [.int (nI (e - k)), .ref 1004]) E (ct_X2_see l e (⟨_, hNx_a, hNx_1, hNx_3⟩) y31 (by omega) (by omega)) gciX2 dX2_next_109 hNx_a q622 q624 qs5 q121 q625 (by decide +kernel) rfl rfl ⟨by decide, by decide⟩ ⟨by decide, by decide⟩ (Nat.le_of_ble_eq_true rfl) rfl (gPu.k ?_)
                    refine g_i2c E dX2_next_112 rfl ?_
                    refine g_as (y := zSee T n e) (i2c_l c80) ?_
                    refine g_cast E dX2_next_113 (j := e - k) hLw_a (rfl) (by omega) (by decide) rfl (g_upk (fun g52 h52 f52 => ?_))
                    refine g_aload_n E dX2_next_114 rfl rfl rfl ?_
                    refine g_dup E dX2_next_115 rfl rfl ?_
                    have x53 := (f52 (1002) (by omega)).trans (hNx_a)
                    refine g_getf E gciX2 dX2_next_116 x53 4 rfl (by decide) q250 (.inl rfl) (.int (nI e)) (hNx_4) rfl ?_
                    refine g_iconst E (v := 1) dX2_next_119 (by decide) rfl ?_
                    refine g_iadd E dX2_next_120 rfl ?_
                    refine g_as (y := nI (e + 1)) ((nI_succ _).symm) ?_
                    refine g_putf E gciX2 (v := .int (nI (e + 1))) dX2_next_121 x53 4 rfl (by decide) q250 (.inl rfl) rfl (fun _ => rfl) (fun _ => rfl) rfl (g_upk (fun g54 h54 f54 => ?_))
                    refine g_goto E dX2_next_124 (tgt := 69) (by decide) ?_
                    have x55 := (f54 (1004) (by omega)).trans (h52)
                    exact ih69 (e + 1) g54 (by omega) (by have := zLtr_lt c80; omega) (hzz2.trans (zEn_t (zLtr_lt c80) c80)) (by omega) (⟨_, h54, hNx_0, hNx_1, hNx_2, hNx_3, rfl, hNx_6, hNx_9⟩) ⟨_, x55, updC9 hke c80 hLw_b⟩ (fun j9 h9 => ((f54 j9 (by omega)).trans (f52 j9 (by omega))).trans (hfw j9 (by omega)))
            have x56 := (f30 (1004) (by omega)).trans ((f2 (1004) (by omega)).trans ((f1 (1004) (by omega)).trans (hQ_c)))
            exact lp69 (n + 2) k g30 (Nat.le_refl _) (by omega) rfl (by omega) (⟨_, h30, hQ_0, hQ_1, hQ_2, hQ_3, rfl, rfl, hQ_9⟩) ⟨_, x56, fun i9 h9 => absurd h9 (by omega)⟩ (fun j9 h9 => ((f30 j9 (by omega)).trans (f2 j9 (by omega))).trans (f1 j9 (by omega)))
        · refine g_aload_n E dX2_next_44 rfl rfl rfl ?_
          refine g_iconst E (v := 0) dX2_next_45 (by decide) rfl ?_
          refine g_putf E gciX2 (v := .int 0) dX2_next_46 h2 5 rfl (by decide) q251 (.inl rfl) rfl (fun _ => rfl) (fun _ => rfl) rfl (g_upk (fun g57 h57 f57 => ?_))
          refine g_aload_n E dX2_next_49 rfl rfl rfl ?_
          refine g_iload_n E dX2_next_50 rfl rfl rfl ?_
          refine g_putf E gciX2 (v := .int (nI k)) dX2_next_51 h57 4 rfl (by decide) q250 (.inl rfl) rfl (fun _ => rfl) (fun _ => rfl) rfl (g_upk (fun g58 h58 f58 => ?_))
          refine g_goto E dX2_next_54 (tgt := 299) (by decide) ?_
          have ht59 := zTn_end hK c41
          have x60 := (f58 (1003) (by omega)).trans ((f57 (1003) (by omega)).trans ((f2 (1003) (by omega)).trans ((f1 (1003) (by omega)).trans (hQ_b))))
          have x61 := (f58 (1004) (by omega)).trans ((f57 (1004) (by omega)).trans ((f2 (1004) (by omega)).trans ((f1 (1004) (by omega)).trans (hQ_c))))
          have y62 := ((y3.fr  (fun j9 a9 b9 => f57 j9 (by omega))).fr  (fun j9 a9 b9 => f58 j9 (by omega)))
          exact g_vret E Rt dX2_next_299 rfl (by decide) (by decide) (by rw [ht59]; exact ⟨rfl, N, N, Nat.le_refl _, by omega, ⟨⟨_, h58, hQ_0, hQ_1, hQ_2, hQ_3, rfl, rfl, rfl, (fun h9 => by cases h9), (fun h9 => by cases h9), hQ_9⟩, (fun h9 => by cases h9), ⟨_, x60⟩, ⟨_, x61⟩, y62, fun j9 a9 => (f58 j9 (by omega)).trans ((f57 j9 (by omega)).trans ((f2 j9 (by omega)).trans ((f1 j9 (by omega)).trans (hQ_z j9 (by omega)))))⟩, fun j9 h9 => (((f58 j9 (by omega)).trans (f57 j9 (by omega))).trans (f2 j9 (by omega))).trans (f1 j9 (by omega))⟩)
      · refine g_iinc E dX2_next_15 rfl (v := nI (k + 1)) (nI_c _) (by decide) rfl (lo1 := [some (.ref 1002), some (.int (nI (k + 1))), none]) rfl rfl ?_
        refine g_goto E dX2_next_18 (tgt := 5) (by decide) ?_
        exact ih5 (k + 1) (by have := zSpc_lt c12; omega) ((zEn_t (zSpc_lt c12) (decide_eq_true c12)).symm.trans hzz) (by have := zSpc_lt c12; omega)
  exact lp5 (n + 2) en hen hK (by omega)
