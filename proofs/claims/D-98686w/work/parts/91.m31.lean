/-! WALKS, thirty-first: read -/
set_option maxRecDepth 100000
/-- the reader between two barriers -/
def pRdy (g : gWM) (bb n : Nat) (T : Nat → Int32) : Prop := (∃ F, g 1002 = some (.inr (1, F)) ∧ F 0 = .ref 1003 ∧ F 1 = .ref 1001 ∧ F 2 = .ref 1004) ∧ (∃ F, g 1003 = some (.inr (2, F))) ∧ (∃ f, g 1004 = some (.inl (2, 9, .inl f))) ∧ pTp g 1001 T n ∧ ∀ j, bb ≤ j → g j = none
def pRo9 (g1 g : gWM) (bb : Nat) (a : gBar × zNm) : Prop := pBr g1 bb a.1 ∧ wfB a.1 ∧ (∃ F, g1 1002 = some (.inr (1, F)) ∧ F 0 = .ref 1003 ∧ F 1 = .ref 1001 ∧ F 2 = .ref 1004) ∧ (∃ F, g1 1003 = some (.inr (2, F))) ∧ (∃ f, g1 1004 = some (.inl (2, 9, .inl f))) ∧ (∃ N1, bb + 100 ≤ N1 ∧ ∀ j, N1 ≤ j → g1 j = none) ∧ ∀ j, (j ≠ 1002 ∧ j ≠ 1004 ∧ j < bb) → g1 j = g j
theorem zPk_0w : wfB zB0 := (zPk_0 (T := fun _ => 0) (n := 0)).2.1
theorem zXs_0 : zXs zB0 := (zPk_0 (T := fun _ => 0) (n := 0)).2.2.1
theorem zNl_0 : zNl zB0 (fun _ _ => []) := fun s k hs hk => absurd hk (Nat.not_lt_zero _)
theorem pSl_0 {g : gWM} {bb : Nat} (h : ∀ j, bb + 10 ≤ j → j < bb + 60 → g j = none) : pSl g bb zB0 := fun k hk => ⟨fun _ => h _ (by omega) (by omega), fun _ => h _ (by omega) (by omega), fun _ => h _ (by omega) (by omega), fun _ => h _ (by omega) (by omega), fun _ => h _ (by omega) (by omega)⟩
theorem pBq.b0 {g : gWM} {bb M : Nat} {B : gBar} {Nm : zNm} (h : pBq g bb B Nm M) : pB0 g bb (B 0) := by
  obtain ⟨⟨⟨F, h1, p0, p1, p2, p3, p4, p5, p6, p7, p8, p9, p10, p11, p12, p13, p14, p15⟩, -⟩, ⟨F2, h2, p16⟩, -⟩ := h
  obtain rfl := inj_obj h1 h2
  exact ⟨F, h1, p0, p1, p2, p3, p4, p5, p6, p7, p8, p9, p10, p11, p12, p13, p14, p15, p16⟩
set_option maxHeartbeats 4000000 in
theorem ct_X2_read (l : Launch) {g : gWM} {n bb : Nat} {T : Nat → Int32} (hR : pRdy g bb n T) (hn : n ≤ 1100) (hbb : 10000 ≤ bb) : gXt l yX2_read cX2_read 2 (some (.object "SaltedGate$Barrier")) 11 (50 + 35 * (n + 2)) (400 + 229 * (n + 2)) 251 [.ref 1002, .int (nI n)] g (gPe (zRead T n) (fun _ => some (.ref bb)) (fun a g1 => pRo9 g1 g bb a)) (fun g1 => ∃ e, zRead T n = .inl e ∧ pXx g1 g bb e) := by
  refine gXt.of RX2 (by decide) rfl (lo := [some (.ref 1002), some (.int (nI n))]) 0 rfl (Nat.le_of_ble_eq_true rfl) (fun z E Rx => ?_)
  obtain ⟨⟨hR_F, hR_a, hR_0, hR_1, hR_2⟩, ⟨hR_G, hR_b⟩, ⟨hR_l, hR_c⟩, hR_t, hR_z⟩ := hR
  have hR_t_o := hR_t
  obtain ⟨hR_t_f, hR_t_a, hR_t_b⟩ := hR_t_o
  refine g_aload_n E dX2_read_0 rfl rfl rfl ?_
  refine g_iload_n E dX2_read_1 rfl rfl rfl ?_
  refine g_putf E gciX2 (v := .int (nI n)) dX2_read_2 hR_a 3 rfl (by decide) q249 (.inl rfl) rfl (fun _ => rfl) (fun _ => rfl) rfl (g_upk (fun g1 h1 f1 => ?_))
  refine g_aload_n E dX2_read_5 rfl rfl rfl ?_
  refine g_iconst E (v := 0) dX2_read_6 (by decide) rfl ?_
  refine g_putf E gciX2 (v := .int 0) dX2_read_7 h1 4 rfl (by decide) q250 (.inl rfl) rfl (fun _ => rfl) (fun _ => rfl) rfl (g_upk (fun g2 h2 f2 => ?_))
  refine g_aload_n E dX2_read_10 rfl rfl rfl ?_
  refine g_new E gciX14 dX2_read_11 q511 q512 q136 (bb) ((f2 (bb) (by omega)).trans ((f1 (bb) (by omega)).trans (hR_z (bb) (by omega)))) (by omega) (by omega) (by omega) rfl (g_upk (fun g3 h3 f3 => ?_))
  refine g_dup E dX2_read_14 rfl rfl ?_
  refine g_callIN (k := bb) (n9 := 0) (av := []) (st := [.ref bb, .ref 1002]) E (ct_X14_init l h3 (by omega) (fun j9 h9 => (f3 j9 (by omega)).trans ((f2 j9 (by omega)).trans ((f1 j9 (by omega)).trans (hR_z j9 (by omega)))))) gciX14 dX2_read_15 h3 q513 q514 q136 q515 (by decide +kernel) rfl rfl rfl ⟨by omega, by omega⟩ ⟨by omega, by omega⟩ (Nat.le_of_ble_eq_true rfl) rfl (gPn.k (fun g4 h4 => ?_))
  obtain ⟨hbr4, hbF4, f4⟩ := h4
  have hqq : pBq g4 bb zB0 (fun _ _ => []) (bb + 100) := ⟨hbr4, hbF4, fun s k hs hk => absurd hk (Nat.not_lt_zero _)⟩
  have hss : pSl g4 bb zB0 := pSl_0 (fun j9 a9 b9 => (f4 j9 (by omega)).trans ((f3 j9 (by omega)).trans ((f2 j9 (by omega)).trans ((f1 j9 (by omega)).trans (hR_z j9 (by omega))))))
  have x5 := (f4 (1002) (by omega)).trans ((f3 (1002) (by omega)).trans (h2))
  refine g_putf E gciX2 (v := .ref bb) dX2_read_18 x5 9 rfl (by decide) q255 (.inl rfl) rfl (fun _ => rfl) (fun _ => rfl) rfl (g_upk (fun g6 h6 f6 => ?_))
  refine g_aload_n E dX2_read_21 rfl rfl rfl ?_
  have x7 := (f6 (1003) (by omega)).trans ((f4 (1003) (by omega)).trans ((f3 (1003) (by omega)).trans ((f2 (1003) (by omega)).trans ((f1 (1003) (by omega)).trans (hR_b)))))
  have x8 := (f6 (1004) (by omega)).trans ((f4 (1004) (by omega)).trans ((f3 (1004) (by omega)).trans ((f2 (1004) (by omega)).trans ((f1 (1004) (by omega)).trans (hR_c)))))
  have y9 := (((((hR_t.fr  (fun j9 a9 b9 => f1 j9 (by omega))).fr  (fun j9 a9 b9 => f2 j9 (by omega))).fr  (fun j9 a9 b9 => f3 j9 (by omega))).fr  (fun j9 a9 b9 => f4 j9 (by omega))).fr  (fun j9 a9 b9 => f6 j9 (by omega)))
  refine g_callV (k := 1002) (n9 := 0) (av := []) (st := []) E (ct_X2_next l (show pTq g6 n bb 0 (bb + 100) T from ⟨⟨_, h6, hR_0, hR_1, hR_2, rfl, rfl, rfl⟩, ⟨_, x7⟩, ⟨_, x8⟩, y9, fun j9 a9 => (f6 j9 (by omega)).trans ((f4 j9 (by omega)).trans ((f3 j9 (by omega)).trans ((f2 j9 (by omega)).trans ((f1 j9 (by omega)).trans (hR_z j9 (by omega))))))⟩) (by omega) (Nat.zero_le _) (by omega) (by omega)) gciX2 dX2_read_22 h6 q618 q620 qs4 q121 q621 (by decide +kernel) rfl rfl ⟨by omega, by omega⟩ ⟨by omega, by omega⟩ (Nat.le_of_ble_eq_true rfl) rfl (gPn.k (fun g10 h10 => ?_))
  have hok0 : zOk n (0, 0, 0, 0, []) := ⟨Nat.zero_le _, Nat.zero_le _, Nat.zero_le _, (fun h9 => by cases h9), (fun h9 => by cases h9)⟩
  obtain ⟨M10, N10, hM10, hN10, hT10, f10⟩ := h10
  have hT10_o := hT10
  obtain ⟨⟨hT10_F, hT10_a, hT10_0, hT10_1, hT10_2, hT10_3, hT10_4, hT10_5, hT10_6, hT10_7, hT10_8, hT10_9⟩, hT10_s, ⟨hT10_G, hT10_b⟩, ⟨hT10_l, hT10_c⟩, hT10_t, hT10_z⟩ := hT10_o
  have hT10_t_o := hT10_t
  obtain ⟨hT10_t_f, hT10_t_a, hT10_t_b⟩ := hT10_t_o
  have hok10 : zOk n (zTn T n 0) := zTn_ok hok0.1
  have hok10_o := hok10
  obtain ⟨hok10_1, hok10_2, hok10_3, hok10_4, hok10_5⟩ := hok10_o
  refine g_aload_n E dX2_read_25 rfl rfl rfl ?_
  have y11 := ((hqq.fr zPk_0w (by omega) (fun j9 a9 b9 => f6 j9 (by omega))).fr zPk_0w (by omega) (fun j9 a9 b9 => f10 j9 (by omega)))
  have y12 := ((hss.fr  (fun j9 a9 b9 => f6 j9 (by omega))).fr  (fun j9 a9 b9 => f10 j9 (by omega)))
  refine g_callVX (k := 1002) (n9 := 0) (av := []) (st := []) E Rx (ct_X2_line l hT10 (by omega) hok10 (by omega) (by omega) (by omega) zPk_0w (pBq.mono y11 (by omega)) zNl_0 zXs_0 y12) gciX2 dX2_read_26 hT10_a q712 q714 qs6 q121 q715 (by decide +kernel) rfl rfl ⟨by omega, by omega⟩ ⟨by omega, by omega⟩ (Nat.le_of_ble_eq_true rfl) rfl (fun g9 ⟨e9, h9e, h9p⟩ => ⟨e9, by rw [zRead_eq, zBd_l h9e], h9p.tr (fun j9 h9 => (((((f10 j9 (by omega)).trans (f6 j9 (by omega))).trans (f4 j9 (by omega))).trans (f3 j9 (by omega))).trans (f2 j9 (by omega))).trans (f1 j9 (by omega)))⟩) (gPe.kn (fun a13 g13 he13 h13 => ?_))
  obtain ⟨M13, N13, hM13, hN13, hT13, hQ13, hS13, f13⟩ := h13
  have lp29 : ∀ (r9 : Nat) (i : Nat) (P : zPs) (M N kc ks : Nat) (gw : gWM), (i ≤ P.1.1) → (n + 1 - i < r9) → (zPk n P) → (pTk gw n bb P.1 M N T) → (pBq gw bb P.2.1 P.2.2 M) → (pSl gw bb P.2.1) → (bb + 100 ≤ M) → (M ≤ N) → (zRead T n = zBd (zLs T n (n + 1 - i) P) zFn) → (∀ j, (j ≠ 1002 ∧ j ≠ 1004 ∧ j < bb) → gw j = g j) → (kc ≤ 50 + 35 * i) → (ks ≤ 400 + 229 * i) → gV z gw kc ks 29 [some (.ref 1002), some (.int (nI n))] [] := by
    intro r9
    induction r9 with
    | zero => intro i P M N kc ks gw hi hm hP hTw hQw hSw hMw hMNw hz hfw hkc hks; exact absurd hm (Nat.not_lt_zero _)
    | succ r9 ih29 =>
      intro i P M N kc ks gw hi hm hP hTw hQw hSw hMw hMNw hz hfw hkc hks
      obtain ⟨hPok, hPw, hPx, hPl⟩ := hP
      have hn9 := hPw.1
      have hok_o := hPok
      obtain ⟨hok_1, hok_2, hok_3, hok_4, hok_5⟩ := hok_o
      have hTw_o := hTw
      obtain ⟨⟨hTw_F, hTw_a, hTw_0, hTw_1, hTw_2, hTw_3, hTw_4, hTw_5, hTw_6, hTw_7, hTw_8, hTw_9⟩, hTw_s, ⟨hTw_G, hTw_b⟩, ⟨hTw_l, hTw_c⟩, hTw_t, hTw_z⟩ := hTw_o
      have hTw_t_o := hTw_t
      obtain ⟨hTw_t_f, hTw_t_a, hTw_t_b⟩ := hTw_t_o
      refine g_aload_n E dX2_read_29 rfl rfl rfl ?_
      refine g_getf E gciX2 dX2_read_30 hTw_a 5 rfl (by decide) q251 (.inl rfl) (.int (nI (P.1.2.1))) (hTw_5) rfl ?_
      refine g_bipush E (v := 59) dX2_read_33 (by decide) rfl ?_
      refine g_icmp_ne E dX2_read_35 (tgt := 49) (by decide) rfl (fun c35 => ?_) (fun c35 => ?_)
      · have c35 := mt (nI_eq (a := P.1.2.1) (b := 59) (by omega) (by omega)).mpr c35
        have hb9 := pBq.b0 hQw
        obtain ⟨Fb, hFb, hFb_0, hFb_1, hFb_2, hFb_3, hFb_4, hFb_5, hFb_6, hFb_7, hFb_8, hFb_9, hFb_10, hFb_11, hFb_12, hFb_13, hFb_14, hFb_15, hFb_16⟩ := hb9
        have hPx9 : P.2.1 0 9 ≤ 1 := hPx.2.2
        refine g_aload_n E dX2_read_49 rfl rfl rfl ?_
        refine g_getf E gciX2 dX2_read_50 hTw_a 5 rfl (by decide) q251 (.inl rfl) (.int (nI (P.1.2.1))) (hTw_5) rfl ?_
        refine g_if_eq E dX2_read_53 (tgt := 62) (by decide) rfl (fun c53 => ?_) (fun c53 => ?_)
        · have c53 := (nI_eq (a := P.1.2.1) (b := 0) (by omega) (by omega)).mp c53
          refine g_aload_n E dX2_read_62 rfl rfl rfl ?_
          refine g_getf E gciX2 dX2_read_63 hTw_a 9 rfl (by decide) q255 (.inl rfl) (.ref bb) (hTw_9) rfl ?_
          refine g_getf E gciX14 dX2_read_66 hFb 16 rfl (by decide) q582 (.inl rfl) (.int (nI (P.2.1 0 9))) (hFb_16) rfl ?_
          refine g_if_eq E dX2_read_69 (tgt := 92) (by decide) rfl (fun c69 => ?_) (fun c69 => ?_)
          · have c69 := (nI_eq (a := P.2.1 0 9) (b := 0) (by omega) (by omega)).mp c69
            refine g_aload_n E dX2_read_92 rfl rfl rfl ?_
            refine g_bipush E (v := 6) dX2_read_93 (by decide) rfl ?_
            refine g_callV (k := 1002) (n9 := 1) (av := [.int 6]) (st := []) E (ct_X2_fail l 6 (⟨_, hTw_a, hTw_0, hTw_6⟩) (⟨_, hTw_b⟩)) gciX2 dX2_read_95 hTw_a q716 q718 qs7 q121 q719 (by decide +kernel) rfl rfl ⟨by omega, by omega⟩ ⟨by omega, by omega⟩ (Nat.le_of_ble_eq_true rfl) rfl (gPr.k (fun g14 h14 => ?_))
            obtain ⟨⟨F14, h14, h14a, h14b⟩, f14⟩ := h14
            have x15 := (f14 (1002) (by omega)).trans (hTw_a)
            have x16 := (f14 (1004) (by omega)).trans (hTw_c)
            exact g_athrow E Rx dX2_read_98 h14 (by omega) (by omega) (⟨(6, P.1.2.2.1), by rw [hz, zLs_s c35]; show zFn P = _; unfold zFn; rw [if_pos c53, if_neg (by omega)], ⟨⟨_, h14, h14a, h14b⟩, ⟨_, x15, hTw_0, hTw_1, hTw_2⟩, ⟨_, x16⟩, ⟨N, by omega, fun j9 a9 => (f14 j9 (by omega)).trans (hTw_z j9 (by omega))⟩, fun j9 h9 => (f14 j9 (by omega)).trans (hfw j9 (by omega))⟩⟩)
          · have c69 := mt (nI_eq (a := P.2.1 0 9) (b := 0) (by omega) (by omega)).mpr c69
            refine g_aload_n E dX2_read_72 rfl rfl rfl ?_
            refine g_getf E gciX2 dX2_read_73 hTw_a 9 rfl (by decide) q255 (.inl rfl) (.ref bb) (hTw_9) rfl ?_
            refine g_getf E gciX14 dX2_read_76 hFb 10 rfl (by decide) q563 (.inl rfl) (.int (nI (P.2.1 0 1))) (hFb_10) rfl ?_
            refine g_if_eq E dX2_read_79 (tgt := 92) (by decide) rfl (fun c79 => ?_) (fun c79 => ?_)
            · have c79 := (nI_eq (a := P.2.1 0 1) (b := 0) (by omega) (by omega)).mp c79
              refine g_aload_n E dX2_read_92 rfl rfl rfl ?_
              refine g_bipush E (v := 6) dX2_read_93 (by decide) rfl ?_
              refine g_callV (k := 1002) (n9 := 1) (av := [.int 6]) (st := []) E (ct_X2_fail l 6 (⟨_, hTw_a, hTw_0, hTw_6⟩) (⟨_, hTw_b⟩)) gciX2 dX2_read_95 hTw_a q716 q718 qs7 q121 q719 (by decide +kernel) rfl rfl ⟨by omega, by omega⟩ ⟨by omega, by omega⟩ (Nat.le_of_ble_eq_true rfl) rfl (gPr.k (fun g17 h17 => ?_))
              obtain ⟨⟨F17, h17, h17a, h17b⟩, f17⟩ := h17
              have x18 := (f17 (1002) (by omega)).trans (hTw_a)
              have x19 := (f17 (1004) (by omega)).trans (hTw_c)
              exact g_athrow E Rx dX2_read_98 h17 (by omega) (by omega) (⟨(6, P.1.2.2.1), by rw [hz, zLs_s c35]; show zFn P = _; unfold zFn; rw [if_pos c53, if_neg (by omega)], ⟨⟨_, h17, h17a, h17b⟩, ⟨_, x18, hTw_0, hTw_1, hTw_2⟩, ⟨_, x19⟩, ⟨N, by omega, fun j9 a9 => (f17 j9 (by omega)).trans (hTw_z j9 (by omega))⟩, fun j9 h9 => (f17 j9 (by omega)).trans (hfw j9 (by omega))⟩⟩)
            · have c79 := mt (nI_eq (a := P.2.1 0 1) (b := 0) (by omega) (by omega)).mpr c79
              refine g_aload_n E dX2_read_82 rfl rfl rfl ?_
              refine g_getf E gciX2 dX2_read_83 hTw_a 9 rfl (by decide) q255 (.inl rfl) (.ref bb) (hTw_9) rfl ?_
              refine g_getf E gciX14 dX2_read_86 hFb 11 rfl (by decide) q566 (.inl rfl) (.int (nI (P.2.1 0 2))) (hFb_11) rfl ?_
              refine g_if_ne E dX2_read_89 (tgt := 99) (by decide) rfl (fun c89 => ?_) (fun c89 => ?_)
              · have c89 := mt (nI_eq (a := P.2.1 0 2) (b := 0) (by omega) (by omega)).mpr c89
                refine g_aload_n E dX2_read_99 rfl rfl rfl ?_
                refine g_getf E gciX2 dX2_read_100 hTw_a 9 rfl (by decide) q255 (.inl rfl) (.ref bb) (hTw_9) rfl ?_
                exact (gRx_leave Rx E).elim (fun z9 h9z => h9z.2.2 _ _ _ _ _ _ (g_aret h9z.2.1 h9z.1 dX2_read_103 rfl (Or.inl ⟨_, rfl⟩) (by omega) (by omega) (⟨P.2, by rw [hz, zLs_s c35]; show zFn P = _; unfold zFn; rw [if_pos c53, if_pos (by omega)], rfl, hQw.1, hPw, ⟨_, hTw_a, hTw_0, hTw_1, hTw_2⟩, ⟨_, hTw_b⟩, ⟨_, hTw_c⟩, ⟨N, by omega, fun j9 a9 => hTw_z j9 (by omega)⟩, fun j9 h9 => hfw j9 (by omega)⟩)))
              · have c89 := (nI_eq (a := P.2.1 0 2) (b := 0) (by omega) (by omega)).mp c89
                refine g_aload_n E dX2_read_92 rfl rfl rfl ?_
                refine g_bipush E (v := 6) dX2_read_93 (by decide) rfl ?_
                refine g_callV (k := 1002) (n9 := 1) (av := [.int 6]) (st := []) E (ct_X2_fail l 6 (⟨_, hTw_a, hTw_0, hTw_6⟩) (⟨_, hTw_b⟩)) gciX2 dX2_read_95 hTw_a q716 q718 qs7 q121 q719 (by decide +kernel) rfl rfl ⟨by omega, by omega⟩ ⟨by omega, by omega⟩ (Nat.le_of_ble_eq_true rfl) rfl (gPr.k (fun g20 h20 => ?_))
                obtain ⟨⟨F20, h20, h20a, h20b⟩, f20⟩ := h20
                have x21 := (f20 (1002) (by omega)).trans (hTw_a)
                have x22 := (f20 (1004) (by omega)).trans (hTw_c)
                exact g_athrow E Rx dX2_read_98 h20 (by omega) (by omega) (⟨(6, P.1.2.2.1), by rw [hz, zLs_s c35]; show zFn P = _; unfold zFn; rw [if_pos c53, if_neg (by omega)], ⟨⟨_, h20, h20a, h20b⟩, ⟨_, x21, hTw_0, hTw_1, hTw_2⟩, ⟨_, x22⟩, ⟨N, by omega, fun j9 a9 => (f20 j9 (by omega)).trans (hTw_z j9 (by omega))⟩, fun j9 h9 => (f20 j9 (by omega)).trans (hfw j9 (by omega))⟩⟩)
        · have c53 := mt (nI_eq (a := P.1.2.1) (b := 0) (by omega) (by omega)).mpr c53
          refine g_aload_n E dX2_read_56 rfl rfl rfl ?_
          refine g_iconst E (v := 1) dX2_read_57 (by decide) rfl ?_
          refine g_callV (k := 1002) (n9 := 1) (av := [.int 1]) (st := []) E (ct_X2_fail l 1 (⟨_, hTw_a, hTw_0, hTw_6⟩) (⟨_, hTw_b⟩)) gciX2 dX2_read_58 hTw_a q716 q718 qs7 q121 q719 (by decide +kernel) rfl rfl ⟨by omega, by omega⟩ ⟨by omega, by omega⟩ (Nat.le_of_ble_eq_true rfl) rfl (gPr.k (fun g23 h23 => ?_))
          obtain ⟨⟨F23, h23, h23a, h23b⟩, f23⟩ := h23
          have x24 := (f23 (1002) (by omega)).trans (hTw_a)
          have x25 := (f23 (1004) (by omega)).trans (hTw_c)
          exact g_athrow E Rx dX2_read_61 h23 (by omega) (by omega) (⟨(1, P.1.2.2.1), by rw [hz, zLs_s c35]; show zFn P = _; unfold zFn; rw [if_neg c53], ⟨⟨_, h23, h23a, h23b⟩, ⟨_, x24, hTw_0, hTw_1, hTw_2⟩, ⟨_, x25⟩, ⟨N, by omega, fun j9 a9 => (f23 j9 (by omega)).trans (hTw_z j9 (by omega))⟩, fun j9 h9 => (f23 j9 (by omega)).trans (hfw j9 (by omega))⟩⟩)
      · have c35 := (nI_eq (a := P.1.2.1) (b := 59) (by omega) (by omega)).mp c35
        refine g_aload_n E dX2_read_38 rfl rfl rfl ?_
        refine g_callV (k := 1002) (n9 := 0) (av := []) (st := []) E (ct_X2_next l hTw.q (by omega) hPok.1 (by omega) (by omega)) gciX2 dX2_read_39 hTw_a q618 q620 qs4 q121 q621 (by decide +kernel) rfl rfl ⟨by omega, by omega⟩ ⟨by omega, by omega⟩ (Nat.le_of_ble_eq_true rfl) rfl (gPn.k (fun g26 h26 => ?_))
        obtain ⟨M26, N26, hM26, hN26, hT26, f26⟩ := h26
        have hT26_o := hT26
        obtain ⟨⟨hT26_F, hT26_a, hT26_0, hT26_1, hT26_2, hT26_3, hT26_4, hT26_5, hT26_6, hT26_7, hT26_8, hT26_9⟩, hT26_s, ⟨hT26_G, hT26_b⟩, ⟨hT26_l, hT26_c⟩, hT26_t, hT26_z⟩ := hT26_o
        have hT26_t_o := hT26_t
        obtain ⟨hT26_t_f, hT26_t_a, hT26_t_b⟩ := hT26_t_o
        have hok26 : zOk n (zTn T n P.1.1) := zTn_ok hPok.1
        have hok26_o := hok26
        obtain ⟨hok26_1, hok26_2, hok26_3, hok26_4, hok26_5⟩ := hok26_o
        refine g_aload_n E dX2_read_42 rfl rfl rfl ?_
        have y27 := (hQw.fr hPw hMw (fun j9 a9 b9 => f26 j9 (by omega)))
        have y28 := (hSw.fr  (fun j9 a9 b9 => f26 j9 (by omega)))
        refine g_callVX (k := 1002) (n9 := 0) (av := []) (st := []) E Rx (ct_X2_line l hT26 (by omega) hok26 (by omega) (by omega) (by omega) hPw (pBq.mono y27 (by omega)) hPl hPx y28) gciX2 dX2_read_43 hT26_a q712 q714 qs6 q121 q715 (by decide +kernel) rfl rfl ⟨by omega, by omega⟩ ⟨by omega, by omega⟩ (Nat.le_of_ble_eq_true rfl) rfl (fun g9 ⟨e9, h9e, h9p⟩ => ⟨e9, by rw [hz, zLs_t (by omega) c35]; rw [zBd_l (show zBd (zLn T n (zTn T n P.1.1, P.2)) (zLs T n (n + 1 - i - 1)) = .inl e9 from zBd_l h9e)], h9p.tr (fun j9 h9 => (f26 j9 (by omega)).trans (hfw j9 (by omega)))⟩) (gPe.kn (fun a29 g29 he29 h29 => ?_))
        obtain ⟨M29, N29, hM29, hN29, hT29, hQ29, hS29, f29⟩ := h29
        refine g_goto E dX2_read_46 (tgt := 29) (by decide) ?_
        have hge := zTn_gt (T := T) hok_1 (zLn_w he29)
        have hpk := zLn_ok (P := (zTn T n P.1.1, P.2)) ⟨zTn_ok hok_1, hPw, hPx, hPl⟩ he29
        have hle := hpk.2
        have hle2 : (zTn T n P.1.1).1 ≤ a29.1.1 := hle
        exact ih29 (i + 1) a29 M29 N29 _ _ g29 (by omega) (by omega) hpk.1 hT29 hQ29 hS29 (by omega) hN29 (by rw [hz, zLs_t (by omega) c35, zBd_r he29, show n + 1 - i - 1 = n + 1 - (i + 1) by omega]) (fun j9 h9 => ((f29 j9 (by omega)).trans (f26 j9 (by omega))).trans (hfw j9 (by omega))) (by omega) (by omega)
  exact lp29 (n + 2) 0 a13 M13 N13 _ _ g13 (Nat.zero_le _) (by omega) (zLn_ok zPk_0 he13).1 hT13 hQ13 hS13 (by omega) hN13 (by rw [zRead_eq, zBd_r he13]; rfl) (fun j9 h9 => ((((((f13 j9 (by omega)).trans (f10 j9 (by omega))).trans (f6 j9 (by omega))).trans (f4 j9 (by omega))).trans (f3 j9 (by omega))).trans (f2 j9 (by omega))).trans (f1 j9 (by omega))) (by omega) (by omega)
