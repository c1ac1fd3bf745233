/-! THE MODEL, walks, thirteenth: lines -/
set_option maxRecDepth 100000
set_option maxHeartbeats 400000 in
theorem ct_X13_names (l : Launch) {g : gWM} {mb len : Nat} {F : Nat → Value} {f22 : Nat → Int64} {f23 f24 : Nat → Int32} (w9 : Int64) (s9 k9 : Nat) (hm : g mb = some (.inr (21, F))) (hm10 : F 10 = .int (nI len)) (hm32 : F 32 = .ref (mb + 22)) (hm33 : F 33 = .ref (mb + 23)) (hm34 : F 34 = .ref (mb + 24)) (h22 : g (mb + 22) = some (.inl (3, 19, .inr (.inl f22)))) (h23 : g (mb + 23) = some (.inl (0, 19, .inl f23))) (h24 : g (mb + 24) = some (.inl (0, 19, .inl f24))) (hlen : len < 19) (hmb : 10000 ≤ mb) (hO : ∃ F, g 2000 = some (.inr (10, F)) ∧ F 4 = .ref mb) : gCt l yX13_names cX13_names 5 none 0 0 0 0 [.ref 2000, .long w9, .int (nI s9), .int (nI k9)] g (gPn (fun g1 => g1 mb = some (.inr (21, va_up F 10 (.int (nI (len + 1))))) ∧ g1 (mb + 22) = some (.inl (3, 19, .inr (.inl (vp_updL f22 len w9)))) ∧ g1 (mb + 23) = some (.inl (0, 19, .inl (upd f23 len (nI s9)))) ∧ g1 (mb + 24) = some (.inl (0, 19, .inl (upd f24 len (nI k9)))) ∧ ∀ j, (j ≠ mb ∧ j ≠ mb + 22 ∧ j ≠ mb + 23 ∧ j ≠ mb + 24) → g1 j = g j)) := by
  refine gCt.of RX13 (by decide) rfl (lo := [some (.ref 2000), some (.long w9), none, some (.int (nI s9)), some (.int (nI k9))]) 0 rfl (Nat.le_of_ble_eq_true rfl) (fun z E Rt => ?_)
  obtain ⟨hO_F, hO_a, hO_4⟩ := hO
  refine g_aload_n E dX13_names_0 rfl rfl rfl ?_
  refine g_getf E gciX13 dX13_names_1 hO_a 4 rfl (by decide) q1744 (.inl rfl) (.ref mb) (hO_4) rfl ?_
  refine g_getfN E gciX27 dX13_names_4 hm 32 rfl (by decide) q1912 (.inl rfl) (.ref (mb + 22)) (hm32) rfl ?_
  refine g_aload_n E dX13_names_7 rfl rfl rfl ?_
  refine g_getf E gciX13 dX13_names_8 hO_a 4 rfl (by decide) q1744 (.inl rfl) (.ref mb) (hO_4) rfl ?_
  refine g_getfN E gciX27 dX13_names_11 hm 10 rfl (by decide) q1868 (.inl rfl) (.int (nI len)) (hm10) rfl ?_
  refine g_lload_n E dX13_names_14 rfl rfl rfl ?_
  refine g_last E dX13_names_15 (j := len) h22 (rfl) (by omega) (by decide) rfl (g_upk (fun g1 h1 f1 => ?_))
  refine g_aload_n E dX13_names_16 rfl rfl rfl ?_
  have x2 := (f1 (2000) (by omega)).trans (hO_a)
  refine g_getf E gciX13 dX13_names_17 x2 4 rfl (by decide) q1744 (.inl rfl) (.ref mb) (hO_4) rfl ?_
  have x3 := (f1 (mb) (by omega)).trans (hm)
  refine g_getfN E gciX27 dX13_names_20 x3 33 rfl (by decide) q1914 (.inl rfl) (.ref (mb + 23)) (hm33) rfl ?_
  refine g_aload_n E dX13_names_23 rfl rfl rfl ?_
  refine g_getf E gciX13 dX13_names_24 x2 4 rfl (by decide) q1744 (.inl rfl) (.ref mb) (hO_4) rfl ?_
  refine g_getfN E gciX27 dX13_names_27 x3 10 rfl (by decide) q1868 (.inl rfl) (.int (nI len)) (hm10) rfl ?_
  refine g_iload_n E dX13_names_30 rfl rfl rfl ?_
  have x4 := (f1 (mb + 23) (by omega)).trans (h23)
  refine g_iast E dX13_names_31 (j := len) x4 (rfl) (by omega) (by decide) rfl (g_upk (fun g5 h5 f5 => ?_))
  refine g_aload_n E dX13_names_32 rfl rfl rfl ?_
  have x6 := (f5 (2000) (by omega)).trans (x2)
  refine g_getf E gciX13 dX13_names_33 x6 4 rfl (by decide) q1744 (.inl rfl) (.ref mb) (hO_4) rfl ?_
  have x7 := (f5 (mb) (by omega)).trans (x3)
  refine g_getfN E gciX27 dX13_names_36 x7 34 rfl (by decide) q1916 (.inl rfl) (.ref (mb + 24)) (hm34) rfl ?_
  refine g_aload_n E dX13_names_39 rfl rfl rfl ?_
  refine g_getf E gciX13 dX13_names_40 x6 4 rfl (by decide) q1744 (.inl rfl) (.ref mb) (hO_4) rfl ?_
  refine g_getfN E gciX27 dX13_names_43 x7 10 rfl (by decide) q1868 (.inl rfl) (.int (nI len)) (hm10) rfl ?_
  refine g_iload E dX13_names_46 rfl rfl ?_
  have x8 := (f5 (mb + 24) (by omega)).trans ((f1 (mb + 24) (by omega)).trans (h24))
  refine g_iast E dX13_names_48 (j := len) x8 (rfl) (by omega) (by decide) rfl (g_upk (fun g9 h9 f9 => ?_))
  refine g_aload_n E dX13_names_49 rfl rfl rfl ?_
  have x10 := (f9 (2000) (by omega)).trans (x6)
  refine g_getf E gciX13 dX13_names_50 x10 4 rfl (by decide) q1744 (.inl rfl) (.ref mb) (hO_4) rfl ?_
  refine g_dup E dX13_names_53 rfl rfl ?_
  have x11 := (f9 (mb) (by omega)).trans (x7)
  refine g_getfN E gciX27 dX13_names_54 x11 10 rfl (by decide) q1868 (.inl rfl) (.int (nI len)) (hm10) rfl ?_
  refine g_iconst E (v := 1) dX13_names_57 (by decide) rfl ?_
  refine g_iadd E dX13_names_58 rfl ?_
  refine g_as (y := nI (len + 1)) ((nI_succ _).symm) ?_
  refine g_putfN E gciX27 (v := .int (nI (len + 1))) dX13_names_59 x11 10 rfl (by decide) q1868 (.inl rfl) rfl (fun _ => rfl) (fun _ => rfl) rfl (g_upk (fun g12 h12 f12 => ?_))
  have x13 := (f12 (mb + 22) (by omega)).trans ((f9 (mb + 22) (by omega)).trans ((f5 (mb + 22) (by omega)).trans (h1)))
  have x14 := (f12 (mb + 23) (by omega)).trans ((f9 (mb + 23) (by omega)).trans (h5))
  have x15 := (f12 (mb + 24) (by omega)).trans (h9)
  exact g_vret E Rt dX13_names_62 rfl (by decide) (by decide) (⟨rfl, h12, x13, x14, x15, fun j9 h9 => (((f12 j9 (by omega)).trans (f9 j9 (by omega))).trans (f5 j9 (by omega))).trans (f1 j9 (by omega))⟩)
def qLn (g1 g : gWM) (F0 : Nat → Value) (mb : Nat) (R : zEr zPs) (B : gBar) (Nm : zNm) (nl : List (Nat × Nat)) : Prop := (match R with
  | .inl e => pMr g1 F0 true (.inl e) ∧ pMt g1 mb B Nm nl
  | .inr P => pMr g1 F0 true (.inr P.1) ∧ ∃ nl1, zNk P.2.1 P.2.2 nl1 ∧ pMt g1 mb P.2.1 P.2.2 nl1) ∧ ∀ j, (j ≠ 2000 ∧ (j < mb ∨ mb + 25 ≤ j)) → g1 j = g j
theorem nw_xy {T : Nat → Int32} {n : Nat} {B : gBar} {Nm : zNm} {x : zEr zTk} {a : List Int32 × zTk} (h : zBd x (zNw T n B Nm) = .inr a) (hok : xOk n x) : zWo a.1 ∧ zFind B Nm a.1 = none := by
  cases x with
  | inl e => cases h
  | inr t =>
    refine ⟨(zNw_ok hok h).2, ?_⟩
    have h : zNw T n B Nm t = .inr a := h
    unfold zNw at h
    obtain ⟨u, e1, h⟩ := zBd_inr h
    revert h
    cases hq : zFind B Nm t.2.2.2.2 with
    | none => intro h; have h := Sum.inr.inj h; subst h; exact hq
    | some q => intro h; cases h
theorem bg_can {T : Nat → Int32} {n : Nat} {B : gBar} {can : Bool} {x : zEr zTk} {t : zTk} (h : zBd x (zBg T n B can) = .inr t) (hok : xOk n x) : can = true := by
  cases x with
  | inl e => cases h
  | inr u => exact (zBg_ok hok h).2.1
theorem updN {f : Nat → Int32} {N : Nat} {x : Int32} : upd f N x N = x := if_pos rfl
theorem updO {f : Nat → Int32} {N k : Nat} {x : Int32} (h : ¬ k = N) : upd f N x k = f k := if_neg h
set_option maxHeartbeats 4000000 in
theorem ct_X13_readTraveller (l : Launch) {g : gWM} {n mb : Nat} {T : Nat → Int32} {F0 : Nat → Value} {B : gBar} {Nm : zNm} {nl : List (Nat × Nat)} {x : zEr zTk} (hF0 : pF0 F0 mb n) (hM : pMr g F0 true (x)) (hTp : pTp g 2001 T n) (hn : n ≤ 1100) (hok : xOk n x) (hnb : xNb x) (hw : wfB B) (hx : zXs B) (hQ : pMt g mb B Nm nl) (hnl9 : nl.length ≤ 19) (hnk : zNk B Nm nl) (hmb : 10000 ≤ mb) : gCt l yX13_readTraveller cX13_readTraveller 5 none 8 0 0 173 [.ref 2000] g (gPn (fun g1 => qLn g1 g F0 mb (zBd x fun t => zLT T n (t, B, Nm)) B Nm nl)) := by
  refine gCt.of RX13 (by decide) rfl (lo := [some (.ref 2000), none, none, none, none]) 4 rfl (Nat.le_of_ble_eq_true rfl) (fun z E Rt => ?_)
  have hF0_o := hF0
  obtain ⟨hF0_4, hF0_5, hF0_7⟩ := hF0_o
  have hM_o := hM
  obtain ⟨hM_F, hM_a, hM_r, hM_s⟩ := hM_o
  have hTp_o := hTp
  obtain ⟨hTp_f, hTp_a, hTp_b⟩ := hTp_o
  have hw_n := hw.1
  have hQ_o := hQ
  obtain ⟨⟨hQ_F, hQ_a, hQ_0, hQ_1, hQ_2, hQ_3, hQ_4, hQ_5, hQ_6, hQ_7, hQ_8, hQ_9, hQ_10, hQ_11, hQ_12, hQ_13, hQ_14, hQ_15, hQ_16, hQ_17, hQ_18, hQ_19, hQ_20, hQ_21, hQ_22, hQ_23, hQ_24, hQ_25, hQ_26, hQ_27, hQ_28, hQ_29, hQ_30, hQ_31, hQ_32, hQ_33, hQ_34⟩, ⟨⟨hQ_f1, hQ_a1, hQ_b1⟩, ⟨hQ_f2, hQ_a2, hQ_b2⟩, ⟨hQ_f3, hQ_a3, hQ_b3⟩, ⟨hQ_f4, hQ_a4, hQ_b4⟩, ⟨hQ_f5, hQ_a5, hQ_b5⟩, ⟨hQ_f6, hQ_a6, hQ_b6⟩, ⟨hQ_f7, hQ_a7, hQ_b7⟩, ⟨hQ_f8, hQ_a8, hQ_b8⟩, ⟨hQ_f9, hQ_a9, hQ_b9⟩, ⟨hQ_f10, hQ_a10, hQ_b10⟩, ⟨hQ_f11, hQ_a11, hQ_b11⟩, ⟨hQ_f12, hQ_a12, hQ_b12⟩, ⟨hQ_f13, hQ_a13, hQ_b13⟩, ⟨hQ_f14, hQ_a14, hQ_b14⟩, ⟨hQ_f15, hQ_a15, hQ_b15⟩, ⟨hQ_f16, hQ_a16, hQ_b16⟩, ⟨hQ_f17, hQ_a17, hQ_b17⟩, ⟨hQ_f18, hQ_a18, hQ_b18⟩, ⟨hQ_f19, hQ_a19, hQ_b19⟩, ⟨hQ_f20, hQ_a20, hQ_b20⟩, ⟨hQ_f21, hQ_a21, hQ_b21⟩⟩, ⟨hQ_f22, hQ_a22, hQ_b22⟩, ⟨hQ_f23, hQ_a23, hQ_b23⟩, hQ_f24, hQ_a24, hQ_b24⟩ := hQ_o
  refine g_aload_n E dX13_readTraveller_0 rfl rfl rfl ?_
  refine g_aload_n E dX13_readTraveller_1 rfl rfl rfl ?_
  refine g_getf E gciX13 dX13_readTraveller_2 hM_a 4 rfl (by decide) q1744 (.inl rfl) (.ref mb) ((hM_r 4 (.inl (by decide))).trans hF0_4) rfl ?_
  refine g_getfN E gciX27 dX13_readTraveller_5 hQ_a 3 rfl (by decide) q1860 (.inl rfl) (.int (nI (B 0 1))) (hQ_3) rfl ?_
  refine g_iconst E (v := 4) dX13_readTraveller_8 (by decide) rfl ?_
  refine g_callV (k := 2000) (n9 := 2) (av := [.int (nI (B 0 1)), .int 4]) (st := []) E (ct_X13_begins l (B 0 1) 4 hF0 hM hTp (by omega) hok hw hQ (by omega) hx.2.2 hnb (by omega) (by omega)) gciX13 dX13_readTraveller_9 hM_a q2078 q2080 qs64 q135 q2081 (by decide +kernel) rfl rfl ⟨by decide, by decide⟩ ⟨by decide, by decide⟩ (Nat.le_of_ble_eq_true rfl) rfl (gPn.k (fun g1 h1 => ?_))
  obtain ⟨hm1, f1⟩ := h1
  obtain ⟨x1, hx1⟩ : ∃ y, y = zBd x (zBg T n B (decide (B 0 1 < 4))) := ⟨_, rfl⟩
  rw [← hx1] at hm1
  have hm1_o := hm1
  obtain ⟨hm1_F, hm1_a, hm1_r, hm1_s⟩ := hm1_o
  have hokx1 : xOk n x1 := by rw [hx1]; exact zBg_x hok
  refine g_aload_n E dX13_readTraveller_12 rfl rfl rfl ?_
  have y2 := (hTp.fr  (fun j9 a9 b9 => f1 j9 (by omega)))
  have y3 := (hQ.fr  (fun j9 a9 b9 => f1 j9 (by omega)))
  refine g_callV (k := 2000) (n9 := 0) (av := []) (st := []) E (ct_X13_readFresh l hF0 hm1 y2 (by omega) hokx1 y3 hnl9 hnk (by omega)) gciX13 dX13_readTraveller_13 hm1_a q2082 q2084 qs65 q135 q2085 (by decide +kernel) rfl rfl ⟨by decide, by decide⟩ ⟨by decide, by decide⟩ (Nat.le_of_ble_eq_true rfl) rfl (gPw.k (fun w4 g4 h4 => ?_))
  obtain ⟨hv4, hm4, f4⟩ := h4
  obtain ⟨y4, hy4⟩ : ∃ y, y = zBd x1 (zNw T n B Nm) := ⟨_, rfl⟩
  rw [← hy4] at hm4 hv4
  obtain ⟨x4, hx4⟩ : ∃ y, y = zSt y4 := ⟨_, rfl⟩
  rw [← hx4] at hm4
  have hm4_o := hm4
  obtain ⟨hm4_F, hm4_a, hm4_r, hm4_s⟩ := hm4_o
  refine g_lstore_n E dX13_readTraveller_16 rfl (by decide) rfl (lo1 := [some (.ref 2000), some (.long w4), none, none, none]) rfl rfl ?_
  have hokx4 : xOk n x4 := by rw [hx4, hy4]; exact zNw_x hokx1
  refine g_aload_n E dX13_readTraveller_17 rfl rfl rfl ?_
  refine g_ldcwS E (j := 49) (tx := "allow") rfl dX13_readTraveller_18 rfl ?_
  refine g_iconst E (v := 0) dX13_readTraveller_21 (by decide) rfl ?_
  refine g_bipush E (v := 99) dX13_readTraveller_22 (by decide) rfl ?_
  have y5 := (y2.fr  (fun j9 a9 b9 => f4 j9 (by omega)))
  refine g_callV (k := 2000) (n9 := 3) (av := [.ref (1 + 2 * 49), .int 0, .int 99]) (st := []) E (ct_X13_readPart l 0 99 hF0 hm4 y5 (by omega) hokx4 rfl (wo_dec _ (by decide +kernel)) (by omega) (by omega)) gciX13 dX13_readTraveller_24 hm4_a q2057 q2059 qs60 q135 q2060 (by decide +kernel) rfl rfl ⟨by decide, by decide⟩ ⟨by decide, by decide⟩ (Nat.le_of_ble_eq_true rfl) rfl (gPi.k (fun g6 h6 => ?_))
  obtain ⟨hm6, f6⟩ := h6
  obtain ⟨y6, hy6⟩ : ∃ y, y = zBd x4 (zAf T n (gByt "allow") 0 99) := ⟨_, rfl⟩
  rw [← hy6] at hm6
  refine g_as (y := nI (zVl 0 y6)) (by rw [hy6]) ?_
  obtain ⟨x6, hx6⟩ : ∃ y, y = zSt y6 := ⟨_, rfl⟩
  rw [← hx6] at hm6
  have hm6_o := hm6
  obtain ⟨hm6_F, hm6_a, hm6_r, hm6_s⟩ := hm6_o
  refine g_istore_n E dX13_readTraveller_27 rfl (by decide) rfl (lo1 := [some (.ref 2000), some (.long w4), none, some (.int (nI (zVl 0 y6))), none]) rfl rfl ?_
  have hokx6 : xOk n x6 := by rw [hx6, hy6]; exact zAf_x2 hokx4
  refine g_aload_n E dX13_readTraveller_28 rfl rfl rfl ?_
  refine g_ldcwS E (j := 50) (tx := "hunger") rfl dX13_readTraveller_29 rfl ?_
  refine g_iconst E (v := 0) dX13_readTraveller_32 (by decide) rfl ?_
  refine g_iconst E (v := 3) dX13_readTraveller_33 (by decide) rfl ?_
  have y7 := (y5.fr  (fun j9 a9 b9 => f6 j9 (by omega)))
  refine g_callV (k := 2000) (n9 := 3) (av := [.ref (1 + 2 * 50), .int 0, .int 3]) (st := []) E (ct_X13_readPart l 0 3 hF0 hm6 y7 (by omega) hokx6 rfl (wo_dec _ (by decide +kernel)) (by omega) (by omega)) gciX13 dX13_readTraveller_34 hm6_a q2057 q2059 qs60 q135 q2060 (by decide +kernel) rfl rfl ⟨by decide, by decide⟩ ⟨by decide, by decide⟩ (Nat.le_of_ble_eq_true rfl) rfl (gPi.k (fun g8 h8 => ?_))
  obtain ⟨hm8, f8⟩ := h8
  obtain ⟨y8, hy8⟩ : ∃ y, y = zBd x6 (zAf T n (gByt "hunger") 0 3) := ⟨_, rfl⟩
  rw [← hy8] at hm8
  refine g_as (y := nI (zVl 0 y8)) (by rw [hy8]) ?_
  obtain ⟨x8, hx8⟩ : ∃ y, y = zSt y8 := ⟨_, rfl⟩
  rw [← hx8] at hm8
  have hm8_o := hm8
  obtain ⟨hm8_F, hm8_a, hm8_r, hm8_s⟩ := hm8_o
  refine g_istore E dX13_readTraveller_37 (by decide) rfl (lo1 := [some (.ref 2000), some (.long w4), none, some (.int (nI (zVl 0 y6))), some (.int (nI (zVl 0 y8)))]) rfl rfl ?_
  cases hc_ : x8 with
  | inl e =>
    rw [hc_] at hm8
    have hF_ := fold_T_l (Nm := Nm) hx1 hy4 hx4 hy6 hx6 hy8 hx8 hc_
    have hm8_o := hm8
    obtain ⟨hm8_F, hm8_a, hm8_r, hm8_9, hm8_12, hm8_13, hm8_k⟩ := hm8_o
    obtain ⟨hm8_w, hm8_wh⟩ := hm8_k rfl
    refine g_aload_n E dX13_readTraveller_39 rfl rfl rfl ?_
    refine g_getf E gciX13 dX13_readTraveller_40 hm8_a 9 rfl (by decide) q1749 (.inl rfl) (.int 5) (hm8_9) rfl ?_
    refine g_iconst E (v := 5) dX13_readTraveller_43 (by decide) rfl ?_
    refine g_icmp_ne E dX13_readTraveller_44 (tgt := 48) (by decide) rfl (fun h9 => absurd h9 (by decide)) (fun _ => ?_)
    have y9 := (((y3.fr  (fun j9 a9 b9 => f4 j9 (by omega))).fr  (fun j9 a9 b9 => f6 j9 (by omega))).fr  (fun j9 a9 b9 => f8 j9 (by omega)))
    exact g_vret E Rt dX13_readTraveller_47 rfl (by decide) (by decide) (⟨rfl, by rw [hF_]; exact ⟨⟨hm8, y9⟩, fun j9 h9 => (((f8 j9 (by omega)).trans (f6 j9 (by omega))).trans (f4 j9 (by omega))).trans (f1 j9 (by omega))⟩⟩)
  | inr t9 =>
    rw [hc_] at hm8
    obtain ⟨a0_, a1_, a2_, r0_, r1_, hF_, r2_⟩ := fold_T_r (Nm := Nm) hx1 hy4 hx4 hy6 hx6 hy8 hx8 hc_
    have hm8_o := hm8
    obtain ⟨hm8_F, hm8_a, hm8_r, hm8_9, hm8_12, hm8_8, hm8_10, hm8_11, hm8_14, hm8_k⟩ := hm8_o
    obtain ⟨hm8_w, hm8_wh⟩ := hm8_k rfl
    obtain ⟨t1_, s1_, -⟩ := zBd_inr (hy4.symm.trans r0_)
    have hcan_ := of_decide_eq_true (bg_can (hx1.symm.trans s1_) hok)
    have hlen9 := hnk.2.2.2.2
    have hwn := hw.1
    have v0_ := hv4 a0_ r0_
    have v1_ : zVl 0 y6 = a1_.1 := by rw [r1_]; rfl
    have v2_ : zVl 0 y8 = a2_.1 := by rw [r2_]; rfl
    refine g_aload_n E dX13_readTraveller_39 rfl rfl rfl ?_
    refine g_getf E gciX13 dX13_readTraveller_40 hm8_a 9 rfl (by decide) q1749 (.inl rfl) (.int (zSo t9.2.1)) (hm8_9) rfl ?_
    refine g_iconst E (v := 5) dX13_readTraveller_43 (by decide) rfl ?_
    refine g_icmp_ne E dX13_readTraveller_44 (tgt := 48) (by decide) rfl (fun c44 => ?_) (fun c44 => ?_)
    · refine g_aload_n E dX13_readTraveller_48 rfl rfl rfl ?_
      refine g_lload_n E dX13_readTraveller_49 rfl rfl rfl ?_
      refine g_iconst E (v := 1) dX13_readTraveller_50 (by decide) rfl ?_
      refine g_aload_n E dX13_readTraveller_51 rfl rfl rfl ?_
      refine g_getf E gciX13 dX13_readTraveller_52 hm8_a 4 rfl (by decide) q1744 (.inl rfl) (.ref mb) ((hm8_r 4 (.inl (by decide))).trans hF0_4) rfl ?_
      have x10 := (f8 (mb) (by omega)).trans ((f6 (mb) (by omega)).trans ((f4 (mb) (by omega)).trans ((f1 (mb) (by omega)).trans (hQ_a))))
      refine g_getfN E gciX27 dX13_readTraveller_55 x10 3 rfl (by decide) q1860 (.inl rfl) (.int (nI (B 0 1))) (hQ_3) rfl ?_
      have x11 := (f8 (mb + 22) (by omega)).trans ((f6 (mb + 22) (by omega)).trans ((f4 (mb + 22) (by omega)).trans ((f1 (mb + 22) (by omega)).trans (hQ_a22))))
      have x12 := (f8 (mb + 23) (by omega)).trans ((f6 (mb + 23) (by omega)).trans ((f4 (mb + 23) (by omega)).trans ((f1 (mb + 23) (by omega)).trans (hQ_a23))))
      have x13 := (f8 (mb + 24) (by omega)).trans ((f6 (mb + 24) (by omega)).trans ((f4 (mb + 24) (by omega)).trans ((f1 (mb + 24) (by omega)).trans (hQ_a24))))
      refine g_callV (k := 2000) (n9 := 3) (av := [.long w4, .int 1, .int (nI (B 0 1))]) (st := []) E (ct_X13_names l w4 1 (B 0 1) x10 hQ_10 hQ_32 hQ_33 hQ_34 x11 x12 x13 (by omega) (by omega) (⟨_, hm8_a, (hm8_r 4 (.inl (by decide))).trans hF0_4⟩)) gciX13 dX13_readTraveller_58 hm8_a q2106 q2108 qs67 q135 q2109 (by decide +kernel) rfl rfl ⟨by decide, by decide⟩ ⟨by decide, by decide⟩ (Nat.le_of_ble_eq_true rfl) rfl (gPn.k (fun g14 h14 => ?_))
      obtain ⟨hm14, ha14, hb14, hc14, f14⟩ := h14
      refine g_aload_n E dX13_readTraveller_61 rfl rfl rfl ?_
      have x15 := (f14 (2000) (by omega)).trans (hm8_a)
      refine g_getf E gciX13 dX13_readTraveller_62 x15 4 rfl (by decide) q1744 (.inl rfl) (.ref mb) ((hm8_r 4 (.inl (by decide))).trans hF0_4) rfl ?_
      refine g_getfN E gciX27 dX13_readTraveller_65 hm14 15 rfl (by decide) q1878 (.inl rfl) (.ref (mb + 5)) (hQ_15) rfl ?_
      refine g_aload_n E dX13_readTraveller_68 rfl rfl rfl ?_
      refine g_getf E gciX13 dX13_readTraveller_69 x15 4 rfl (by decide) q1744 (.inl rfl) (.ref mb) ((hm8_r 4 (.inl (by decide))).trans hF0_4) rfl ?_
      refine g_getfN E gciX27 dX13_readTraveller_72 hm14 3 rfl (by decide) q1860 (.inl rfl) (.int (nI (B 0 1))) (hQ_3) rfl ?_
      refine g_iload_n E dX13_readTraveller_75 rfl rfl rfl ?_
      have x16 := (f14 (mb + 5) (by omega)).trans ((f8 (mb + 5) (by omega)).trans ((f6 (mb + 5) (by omega)).trans ((f4 (mb + 5) (by omega)).trans ((f1 (mb + 5) (by omega)).trans (hQ_a5)))))
      refine g_iast E dX13_readTraveller_76 (j := B 0 1) x16 (rfl) (by omega) (by decide) rfl (g_upk (fun g17 h17 f17 => ?_))
      refine g_aload_n E dX13_readTraveller_77 rfl rfl rfl ?_
      have x18 := (f17 (2000) (by omega)).trans (x15)
      refine g_getf E gciX13 dX13_readTraveller_78 x18 4 rfl (by decide) q1744 (.inl rfl) (.ref mb) ((hm8_r 4 (.inl (by decide))).trans hF0_4) rfl ?_
      have x19 := (f17 (mb) (by omega)).trans (hm14)
      refine g_getfN E gciX27 dX13_readTraveller_81 x19 16 rfl (by decide) q1880 (.inl rfl) (.ref (mb + 6)) (hQ_16) rfl ?_
      refine g_aload_n E dX13_readTraveller_84 rfl rfl rfl ?_
      refine g_getf E gciX13 dX13_readTraveller_85 x18 4 rfl (by decide) q1744 (.inl rfl) (.ref mb) ((hm8_r 4 (.inl (by decide))).trans hF0_4) rfl ?_
      refine g_getfN E gciX27 dX13_readTraveller_88 x19 3 rfl (by decide) q1860 (.inl rfl) (.int (nI (B 0 1))) (hQ_3) rfl ?_
      refine g_iload E dX13_readTraveller_91 rfl rfl ?_
      have x20 := (f17 (mb + 6) (by omega)).trans ((f14 (mb + 6) (by omega)).trans ((f8 (mb + 6) (by omega)).trans ((f6 (mb + 6) (by omega)).trans ((f4 (mb + 6) (by omega)).trans ((f1 (mb + 6) (by omega)).trans (hQ_a6))))))
      refine g_iast E dX13_readTraveller_93 (j := B 0 1) x20 (rfl) (by omega) (by decide) rfl (g_upk (fun g21 h21 f21 => ?_))
      refine g_aload_n E dX13_readTraveller_94 rfl rfl rfl ?_
      have x22 := (f21 (2000) (by omega)).trans (x18)
      refine g_getf E gciX13 dX13_readTraveller_95 x22 4 rfl (by decide) q1744 (.inl rfl) (.ref mb) ((hm8_r 4 (.inl (by decide))).trans hF0_4) rfl ?_
      refine g_dup E dX13_readTraveller_98 rfl rfl ?_
      have x23 := (f21 (mb) (by omega)).trans (x19)
      refine g_getfN E gciX27 dX13_readTraveller_99 x23 3 rfl (by decide) q1860 (.inl rfl) (.int (nI (B 0 1))) (hQ_3) rfl ?_
      refine g_iconst E (v := 1) dX13_readTraveller_102 (by decide) rfl ?_
      refine g_iadd E dX13_readTraveller_103 rfl ?_
      refine g_as (y := nI (B 0 1 + 1)) ((nI_succ _).symm) ?_
      refine g_putfN E gciX27 (v := .int (nI (B 0 1 + 1))) dX13_readTraveller_104 x23 3 rfl (by decide) q1860 (.inl rfl) rfl (fun _ => rfl) (fun _ => rfl) rfl (g_upk (fun g24 h24 f24 => ?_))
      have hnw_ := nw_xy (hy4.symm.trans r0_) hokx1
      have x25 := (f24 (mb + 22) (by omega)).trans ((f21 (mb + 22) (by omega)).trans ((f17 (mb + 22) (by omega)).trans (ha14)))
      have x26 := (f24 (mb + 23) (by omega)).trans ((f21 (mb + 23) (by omega)).trans ((f17 (mb + 23) (by omega)).trans (hb14)))
      have x27 := (f24 (mb + 24) (by omega)).trans ((f21 (mb + 24) (by omega)).trans ((f17 (mb + 24) (by omega)).trans (hc14)))
      have x28 := (f24 (mb + 5) (by omega)).trans ((f21 (mb + 5) (by omega)).trans (h17))
      have x29 := (f24 (mb + 6) (by omega)).trans (h21)
      have y30 := ((((hm8.fr  (fun j9 a9 b9 => f14 j9 (by omega))).fr  (fun j9 a9 b9 => f17 j9 (by omega))).fr  (fun j9 a9 b9 => f21 j9 (by omega))).fr  (fun j9 a9 b9 => f24 j9 (by omega)))
      exact g_vret E Rt dX13_readTraveller_107 rfl (by decide) (by decide) (⟨rfl, by rw [hF_]; exact ⟨⟨y30, _, zNk_n hnk (by decide) (s4 rfl rfl rfl rfl) hnw_.1 hnw_.2, pMt_T hQ ⟨_, h24, hQ_0, hQ_1, hQ_2, rfl, hQ_4, hQ_5, hQ_6, hQ_7, hQ_8, hQ_9, (by rw [List.length_append]; rfl), hQ_11, hQ_12, hQ_13, hQ_14, hQ_15, hQ_16, hQ_17, hQ_18, hQ_19, hQ_20, hQ_21, hQ_22, hQ_23, hQ_24, hQ_25, hQ_26, hQ_27, hQ_28, hQ_29, hQ_30, hQ_31, hQ_32, hQ_33, hQ_34⟩ (pNl_n (w := a0_.1) hQ.2.2 hnk hQ_b22 hQ_b23 hQ_b24 (by rw [← v0_]; exact x25) x26 x27) ⟨_, x28, updN.trans (by rw [v1_]), fun k9 h9 => (updO (by omega)).trans (hQ_b5 k9 h9)⟩ ⟨_, x29, updN.trans (by rw [v2_]), fun k9 h9 => (updO (by omega)).trans (hQ_b6 k9 h9)⟩ (fun j9 a9 b9 c0_ c1_ c2_ c3_ c4_ c5_ => (((((((f24 j9 (by omega)).trans (f21 j9 (by omega))).trans (f17 j9 (by omega))).trans (f14 j9 (by omega))).trans (f8 j9 (by omega))).trans (f6 j9 (by omega))).trans (f4 j9 (by omega))).trans (f1 j9 (by omega)))⟩, fun j9 h9 => (((((((f24 j9 (by omega)).trans (f21 j9 (by omega))).trans (f17 j9 (by omega))).trans (f14 j9 (by omega))).trans (f8 j9 (by omega))).trans (f6 j9 (by omega))).trans (f4 j9 (by omega))).trans (f1 j9 (by omega))⟩⟩)
    · exact absurd (by first | exact c44 | exact Classical.not_not.mp c44) (zSo_5 _)
set_option maxHeartbeats 4000000 in
theorem ct_X13_readMeans (l : Launch) {g : gWM} {n mb : Nat} {T : Nat → Int32} {F0 : Nat → Value} {B : gBar} {Nm : zNm} {nl : List (Nat × Nat)} {x : zEr zTk} (hF0 : pF0 F0 mb n) (hM : pMr g F0 true (x)) (hTp : pTp g 2001 T n) (hn : n ≤ 1100) (hok : xOk n x) (hnb : xNb x) (hw : wfB B) (hx : zXs B) (hQ : pMt g mb B Nm nl) (hnl9 : nl.length ≤ 19) (hnk : zNk B Nm nl) (hmb : 10000 ≤ mb) : gCt l yX13_readMeans cX13_readMeans 6 none 8 0 0 173 [.ref 2000] g (gPn (fun g1 => qLn g1 g F0 mb (zBd x fun t => zLM T n (t, B, Nm)) B Nm nl)) := by
  refine gCt.of RX13 (by decide) rfl (lo := [some (.ref 2000), none, none, none, none, none]) 5 rfl (Nat.le_of_ble_eq_true rfl) (fun z E Rt => ?_)
  have hF0_o := hF0
  obtain ⟨hF0_4, hF0_5, hF0_7⟩ := hF0_o
  have hM_o := hM
  obtain ⟨hM_F, hM_a, hM_r, hM_s⟩ := hM_o
  have hTp_o := hTp
  obtain ⟨hTp_f, hTp_a, hTp_b⟩ := hTp_o
  have hw_n := hw.1
  have hQ_o := hQ
  obtain ⟨⟨hQ_F, hQ_a, hQ_0, hQ_1, hQ_2, hQ_3, hQ_4, hQ_5, hQ_6, hQ_7, hQ_8, hQ_9, hQ_10, hQ_11, hQ_12, hQ_13, hQ_14, hQ_15, hQ_16, hQ_17, hQ_18, hQ_19, hQ_20, hQ_21, hQ_22, hQ_23, hQ_24, hQ_25, hQ_26, hQ_27, hQ_28, hQ_29, hQ_30, hQ_31, hQ_32, hQ_33, hQ_34⟩, ⟨⟨hQ_f1, hQ_a1, hQ_b1⟩, ⟨hQ_f2, hQ_a2, hQ_b2⟩, ⟨hQ_f3, hQ_a3, hQ_b3⟩, ⟨hQ_f4, hQ_a4, hQ_b4⟩, ⟨hQ_f5, hQ_a5, hQ_b5⟩, ⟨hQ_f6, hQ_a6, hQ_b6⟩, ⟨hQ_f7, hQ_a7, hQ_b7⟩, ⟨hQ_f8, hQ_a8, hQ_b8⟩, ⟨hQ_f9, hQ_a9, hQ_b9⟩, ⟨hQ_f10, hQ_a10, hQ_b10⟩, ⟨hQ_f11, hQ_a11, hQ_b11⟩, ⟨hQ_f12, hQ_a12, hQ_b12⟩, ⟨hQ_f13, hQ_a13, hQ_b13⟩, ⟨hQ_f14, hQ_a14, hQ_b14⟩, ⟨hQ_f15, hQ_a15, hQ_b15⟩, ⟨hQ_f16, hQ_a16, hQ_b16⟩, ⟨hQ_f17, hQ_a17, hQ_b17⟩, ⟨hQ_f18, hQ_a18, hQ_b18⟩, ⟨hQ_f19, hQ_a19, hQ_b19⟩, ⟨hQ_f20, hQ_a20, hQ_b20⟩, ⟨hQ_f21, hQ_a21, hQ_b21⟩⟩, ⟨hQ_f22, hQ_a22, hQ_b22⟩, ⟨hQ_f23, hQ_a23, hQ_b23⟩, hQ_f24, hQ_a24, hQ_b24⟩ := hQ_o
  refine g_aload_n E dX13_readMeans_0 rfl rfl rfl ?_
  refine g_aload_n E dX13_readMeans_1 rfl rfl rfl ?_
  refine g_getf E gciX13 dX13_readMeans_2 hM_a 4 rfl (by decide) q1744 (.inl rfl) (.ref mb) ((hM_r 4 (.inl (by decide))).trans hF0_4) rfl ?_
  refine g_getfN E gciX27 dX13_readMeans_5 hQ_a 2 rfl (by decide) q1859 (.inl rfl) (.int (nI (B 0 0))) (hQ_2) rfl ?_
  refine g_iconst E (v := 4) dX13_readMeans_8 (by decide) rfl ?_
  refine g_callV (k := 2000) (n9 := 2) (av := [.int (nI (B 0 0)), .int 4]) (st := []) E (ct_X13_begins l (B 0 0) 4 hF0 hM hTp (by omega) hok hw hQ (by omega) hx.2.2 hnb (by omega) (by omega)) gciX13 dX13_readMeans_9 hM_a q2078 q2080 qs64 q135 q2081 (by decide +kernel) rfl rfl ⟨by decide, by decide⟩ ⟨by decide, by decide⟩ (Nat.le_of_ble_eq_true rfl) rfl (gPn.k (fun g1 h1 => ?_))
  obtain ⟨hm1, f1⟩ := h1
  obtain ⟨x1, hx1⟩ : ∃ y, y = zBd x (zBg T n B (decide (B 0 0 < 4))) := ⟨_, rfl⟩
  rw [← hx1] at hm1
  have hm1_o := hm1
  obtain ⟨hm1_F, hm1_a, hm1_r, hm1_s⟩ := hm1_o
  have hokx1 : xOk n x1 := by rw [hx1]; exact zBg_x hok
  refine g_aload_n E dX13_readMeans_12 rfl rfl rfl ?_
  have y2 := (hTp.fr  (fun j9 a9 b9 => f1 j9 (by omega)))
  have y3 := (hQ.fr  (fun j9 a9 b9 => f1 j9 (by omega)))
  refine g_callV (k := 2000) (n9 := 0) (av := []) (st := []) E (ct_X13_readFresh l hF0 hm1 y2 (by omega) hokx1 y3 hnl9 hnk (by omega)) gciX13 dX13_readMeans_13 hm1_a q2082 q2084 qs65 q135 q2085 (by decide +kernel) rfl rfl ⟨by decide, by decide⟩ ⟨by decide, by decide⟩ (Nat.le_of_ble_eq_true rfl) rfl (gPw.k (fun w4 g4 h4 => ?_))
  obtain ⟨hv4, hm4, f4⟩ := h4
  obtain ⟨y4, hy4⟩ : ∃ y, y = zBd x1 (zNw T n B Nm) := ⟨_, rfl⟩
  rw [← hy4] at hm4 hv4
  obtain ⟨x4, hx4⟩ : ∃ y, y = zSt y4 := ⟨_, rfl⟩
  rw [← hx4] at hm4
  have hm4_o := hm4
  obtain ⟨hm4_F, hm4_a, hm4_r, hm4_s⟩ := hm4_o
  refine g_lstore_n E dX13_readMeans_16 rfl (by decide) rfl (lo1 := [some (.ref 2000), some (.long w4), none, none, none, none]) rfl rfl ?_
  have hokx4 : xOk n x4 := by rw [hx4, hy4]; exact zNw_x hokx1
  refine g_aload_n E dX13_readMeans_17 rfl rfl rfl ?_
  refine g_ldcS E (j := 46) (tx := "rate") rfl dX13_readMeans_18 rfl ?_
  refine g_iconst E (v := 0) dX13_readMeans_20 (by decide) rfl ?_
  refine g_bipush E (v := 9) dX13_readMeans_21 (by decide) rfl ?_
  have y5 := (y2.fr  (fun j9 a9 b9 => f4 j9 (by omega)))
  refine g_callV (k := 2000) (n9 := 3) (av := [.ref (1 + 2 * 46), .int 0, .int 9]) (st := []) E (ct_X13_readPart l 0 9 hF0 hm4 y5 (by omega) hokx4 rfl (wo_dec _ (by decide +kernel)) (by omega) (by omega)) gciX13 dX13_readMeans_23 hm4_a q2057 q2059 qs60 q135 q2060 (by decide +kernel) rfl rfl ⟨by decide, by decide⟩ ⟨by decide, by decide⟩ (Nat.le_of_ble_eq_true rfl) rfl (gPi.k (fun g6 h6 => ?_))
  obtain ⟨hm6, f6⟩ := h6
  obtain ⟨y6, hy6⟩ : ∃ y, y = zBd x4 (zAf T n (gByt "rate") 0 9) := ⟨_, rfl⟩
  rw [← hy6] at hm6
  refine g_as (y := nI (zVl 0 y6)) (by rw [hy6]) ?_
  obtain ⟨x6, hx6⟩ : ∃ y, y = zSt y6 := ⟨_, rfl⟩
  rw [← hx6] at hm6
  have hm6_o := hm6
  obtain ⟨hm6_F, hm6_a, hm6_r, hm6_s⟩ := hm6_o
  refine g_istore_n E dX13_readMeans_26 rfl (by decide) rfl (lo1 := [some (.ref 2000), some (.long w4), none, some (.int (nI (zVl 0 y6))), none, none]) rfl rfl ?_
  refine g_aload_n E dX13_readMeans_27 rfl rfl rfl ?_
  have hokx6 : xOk n x6 := by rw [hx6, hy6]; exact zAf_x2 hokx4
  refine g_ldcS E (j := 47) (tx := "or") rfl dX13_readMeans_28 rfl ?_
  refine g_iconst E (v := 0) dX13_readMeans_30 (by decide) rfl ?_
  refine g_bipush E (v := 9) dX13_readMeans_31 (by decide) rfl ?_
  have y7 := (y5.fr  (fun j9 a9 b9 => f6 j9 (by omega)))
  refine g_callV (k := 2000) (n9 := 3) (av := [.ref (1 + 2 * 47), .int 0, .int 9]) (st := []) E (ct_X13_readPart l 0 9 hF0 hm6 y7 (by omega) hokx6 rfl (wo_dec _ (by decide +kernel)) (by omega) (by omega)) gciX13 dX13_readMeans_33 hm6_a q2057 q2059 qs60 q135 q2060 (by decide +kernel) rfl rfl ⟨by decide, by decide⟩ ⟨by decide, by decide⟩ (Nat.le_of_ble_eq_true rfl) rfl (gPi.k (fun g8 h8 => ?_))
  obtain ⟨hm8, f8⟩ := h8
  obtain ⟨y8, hy8⟩ : ∃ y, y = zBd x6 (zAf T n (gByt "or") 0 9) := ⟨_, rfl⟩
  rw [← hy8] at hm8
  refine g_as (y := nI (zVl 0 y8)) (by rw [hy8]) ?_
  obtain ⟨x8, hx8⟩ : ∃ y, y = zSt y8 := ⟨_, rfl⟩
  rw [← hx8] at hm8
  have hm8_o := hm8
  obtain ⟨hm8_F, hm8_a, hm8_r, hm8_s⟩ := hm8_o
  refine g_istore E dX13_readMeans_36 (by decide) rfl (lo1 := [some (.ref 2000), some (.long w4), none, some (.int (nI (zVl 0 y6))), some (.int (nI (zVl 0 y8))), none]) rfl rfl ?_
  have hokx8 : xOk n x8 := by rw [hx8, hy8]; exact zAf_x2 hokx6
  refine g_aload_n E dX13_readMeans_38 rfl rfl rfl ?_
  refine g_ldcS E (j := 48) (tx := "keeps") rfl dX13_readMeans_39 rfl ?_
  refine g_iconst E (v := 1) dX13_readMeans_41 (by decide) rfl ?_
  refine g_sipush E (v := 300) dX13_readMeans_42 (by decide) rfl ?_
  have y9 := (y7.fr  (fun j9 a9 b9 => f8 j9 (by omega)))
  refine g_callV (k := 2000) (n9 := 3) (av := [.ref (1 + 2 * 48), .int 1, .int 300]) (st := []) E (ct_X13_readPart l 1 300 hF0 hm8 y9 (by omega) hokx8 rfl (wo_dec _ (by decide +kernel)) (by omega) (by omega)) gciX13 dX13_readMeans_45 hm8_a q2057 q2059 qs60 q135 q2060 (by decide +kernel) rfl rfl ⟨by decide, by decide⟩ ⟨by decide, by decide⟩ (Nat.le_of_ble_eq_true rfl) rfl (gPi.k (fun g10 h10 => ?_))
  obtain ⟨hm10, f10⟩ := h10
  obtain ⟨y10, hy10⟩ : ∃ y, y = zBd x8 (zAf T n (gByt "keeps") 1 300) := ⟨_, rfl⟩
  rw [← hy10] at hm10
  refine g_as (y := nI (zVl 1 y10)) (by rw [hy10]) ?_
  obtain ⟨x10, hx10⟩ : ∃ y, y = zSt y10 := ⟨_, rfl⟩
  rw [← hx10] at hm10
  have hm10_o := hm10
  obtain ⟨hm10_F, hm10_a, hm10_r, hm10_s⟩ := hm10_o
  refine g_istore E dX13_readMeans_48 (by decide) rfl (lo1 := [some (.ref 2000), some (.long w4), none, some (.int (nI (zVl 0 y6))), some (.int (nI (zVl 0 y8))), some (.int (nI (zVl 1 y10)))]) rfl rfl ?_
  cases hc_ : x10 with
  | inl e =>
    rw [hc_] at hm10
    have hF_ := fold_M_l (Nm := Nm) hx1 hy4 hx4 hy6 hx6 hy8 hx8 hy10 hx10 hc_
    have hm10_o := hm10
    obtain ⟨hm10_F, hm10_a, hm10_r, hm10_9, hm10_12, hm10_13, hm10_k⟩ := hm10_o
    obtain ⟨hm10_w, hm10_wh⟩ := hm10_k rfl
    refine g_aload_n E dX13_readMeans_50 rfl rfl rfl ?_
    refine g_getf E gciX13 dX13_readMeans_51 hm10_a 9 rfl (by decide) q1749 (.inl rfl) (.int 5) (hm10_9) rfl ?_
    refine g_iconst E (v := 5) dX13_readMeans_54 (by decide) rfl ?_
    refine g_icmp_ne E dX13_readMeans_55 (tgt := 59) (by decide) rfl (fun h9 => absurd h9 (by decide)) (fun _ => ?_)
    have y11 := ((((y3.fr  (fun j9 a9 b9 => f4 j9 (by omega))).fr  (fun j9 a9 b9 => f6 j9 (by omega))).fr  (fun j9 a9 b9 => f8 j9 (by omega))).fr  (fun j9 a9 b9 => f10 j9 (by omega)))
    exact g_vret E Rt dX13_readMeans_58 rfl (by decide) (by decide) (⟨rfl, by rw [hF_]; exact ⟨⟨hm10, y11⟩, fun j9 h9 => ((((f10 j9 (by omega)).trans (f8 j9 (by omega))).trans (f6 j9 (by omega))).trans (f4 j9 (by omega))).trans (f1 j9 (by omega))⟩⟩)
  | inr t9 =>
    rw [hc_] at hm10
    obtain ⟨a0_, a1_, a2_, a3_, r0_, r1_, r2_, hF_, r3_⟩ := fold_M_r (Nm := Nm) hx1 hy4 hx4 hy6 hx6 hy8 hx8 hy10 hx10 hc_
    have hm10_o := hm10
    obtain ⟨hm10_F, hm10_a, hm10_r, hm10_9, hm10_12, hm10_8, hm10_10, hm10_11, hm10_14, hm10_k⟩ := hm10_o
    obtain ⟨hm10_w, hm10_wh⟩ := hm10_k rfl
    obtain ⟨t1_, s1_, -⟩ := zBd_inr (hy4.symm.trans r0_)
    have hcan_ := of_decide_eq_true (bg_can (hx1.symm.trans s1_) hok)
    have hlen9 := hnk.2.2.2.2
    have hwn := hw.1
    have v0_ := hv4 a0_ r0_
    have v1_ : zVl 0 y6 = a1_.1 := by rw [r1_]; rfl
    have v2_ : zVl 0 y8 = a2_.1 := by rw [r2_]; rfl
    have v3_ : zVl 1 y10 = a3_.1 := by rw [r3_]; rfl
    refine g_aload_n E dX13_readMeans_50 rfl rfl rfl ?_
    refine g_getf E gciX13 dX13_readMeans_51 hm10_a 9 rfl (by decide) q1749 (.inl rfl) (.int (zSo t9.2.1)) (hm10_9) rfl ?_
    refine g_iconst E (v := 5) dX13_readMeans_54 (by decide) rfl ?_
    refine g_icmp_ne E dX13_readMeans_55 (tgt := 59) (by decide) rfl (fun c55 => ?_) (fun c55 => ?_)
    · refine g_aload_n E dX13_readMeans_59 rfl rfl rfl ?_
      refine g_lload_n E dX13_readMeans_60 rfl rfl rfl ?_
      refine g_iconst E (v := 0) dX13_readMeans_61 (by decide) rfl ?_
      refine g_aload_n E dX13_readMeans_62 rfl rfl rfl ?_
      refine g_getf E gciX13 dX13_readMeans_63 hm10_a 4 rfl (by decide) q1744 (.inl rfl) (.ref mb) ((hm10_r 4 (.inl (by decide))).trans hF0_4) rfl ?_
      have x12 := (f10 (mb) (by omega)).trans ((f8 (mb) (by omega)).trans ((f6 (mb) (by omega)).trans ((f4 (mb) (by omega)).trans ((f1 (mb) (by omega)).trans (hQ_a)))))
      refine g_getfN E gciX27 dX13_readMeans_66 x12 2 rfl (by decide) q1859 (.inl rfl) (.int (nI (B 0 0))) (hQ_2) rfl ?_
      have x13 := (f10 (mb + 22) (by omega)).trans ((f8 (mb + 22) (by omega)).trans ((f6 (mb + 22) (by omega)).trans ((f4 (mb + 22) (by omega)).trans ((f1 (mb + 22) (by omega)).trans (hQ_a22)))))
      have x14 := (f10 (mb + 23) (by omega)).trans ((f8 (mb + 23) (by omega)).trans ((f6 (mb + 23) (by omega)).trans ((f4 (mb + 23) (by omega)).trans ((f1 (mb + 23) (by omega)).trans (hQ_a23)))))
      have x15 := (f10 (mb + 24) (by omega)).trans ((f8 (mb + 24) (by omega)).trans ((f6 (mb + 24) (by omega)).trans ((f4 (mb + 24) (by omega)).trans ((f1 (mb + 24) (by omega)).trans (hQ_a24)))))
      refine g_callV (k := 2000) (n9 := 3) (av := [.long w4, .int 0, .int (nI (B 0 0))]) (st := []) E (ct_X13_names l w4 0 (B 0 0) x12 hQ_10 hQ_32 hQ_33 hQ_34 x13 x14 x15 (by omega) (by omega) (⟨_, hm10_a, (hm10_r 4 (.inl (by decide))).trans hF0_4⟩)) gciX13 dX13_readMeans_69 hm10_a q2106 q2108 qs67 q135 q2109 (by decide +kernel) rfl rfl ⟨by decide, by decide⟩ ⟨by decide, by decide⟩ (Nat.le_of_ble_eq_true rfl) rfl (gPn.k (fun g16 h16 => ?_))
      obtain ⟨hm16, ha16, hb16, hc16, f16⟩ := h16
      refine g_aload_n E dX13_readMeans_72 rfl rfl rfl ?_
      have x17 := (f16 (2000) (by omega)).trans (hm10_a)
      refine g_getf E gciX13 dX13_readMeans_73 x17 4 rfl (by decide) q1744 (.inl rfl) (.ref mb) ((hm10_r 4 (.inl (by decide))).trans hF0_4) rfl ?_
      refine g_getfN E gciX27 dX13_readMeans_76 hm16 11 rfl (by decide) q1870 (.inl rfl) (.ref (mb + 1)) (hQ_11) rfl ?_
      refine g_aload_n E dX13_readMeans_79 rfl rfl rfl ?_
      refine g_getf E gciX13 dX13_readMeans_80 x17 4 rfl (by decide) q1744 (.inl rfl) (.ref mb) ((hm10_r 4 (.inl (by decide))).trans hF0_4) rfl ?_
      refine g_getfN E gciX27 dX13_readMeans_83 hm16 2 rfl (by decide) q1859 (.inl rfl) (.int (nI (B 0 0))) (hQ_2) rfl ?_
      refine g_iload_n E dX13_readMeans_86 rfl rfl rfl ?_
      have x18 := (f16 (mb + 1) (by omega)).trans ((f10 (mb + 1) (by omega)).trans ((f8 (mb + 1) (by omega)).trans ((f6 (mb + 1) (by omega)).trans ((f4 (mb + 1) (by omega)).trans ((f1 (mb + 1) (by omega)).trans (hQ_a1))))))
      refine g_iast E dX13_readMeans_87 (j := B 0 0) x18 (rfl) (by omega) (by decide) rfl (g_upk (fun g19 h19 f19 => ?_))
      refine g_aload_n E dX13_readMeans_88 rfl rfl rfl ?_
      have x20 := (f19 (2000) (by omega)).trans (x17)
      refine g_getf E gciX13 dX13_readMeans_89 x20 4 rfl (by decide) q1744 (.inl rfl) (.ref mb) ((hm10_r 4 (.inl (by decide))).trans hF0_4) rfl ?_
      have x21 := (f19 (mb) (by omega)).trans (hm16)
      refine g_getfN E gciX27 dX13_readMeans_92 x21 11 rfl (by decide) q1870 (.inl rfl) (.ref (mb + 1)) (hQ_11) rfl ?_
      refine g_iconst E (v := 4) dX13_readMeans_95 (by decide) rfl ?_
      refine g_aload_n E dX13_readMeans_96 rfl rfl rfl ?_
      refine g_getf E gciX13 dX13_readMeans_97 x20 4 rfl (by decide) q1744 (.inl rfl) (.ref mb) ((hm10_r 4 (.inl (by decide))).trans hF0_4) rfl ?_
      refine g_getfN E gciX27 dX13_readMeans_100 x21 2 rfl (by decide) q1859 (.inl rfl) (.int (nI (B 0 0))) (hQ_2) rfl ?_
      refine g_iadd E dX13_readMeans_103 rfl ?_
      refine g_as (y := nI (4 + B 0 0)) (by rw [show (4 : Int32) = nI 4 from rfl, nI_add]) ?_
      refine g_iload E dX13_readMeans_104 rfl rfl ?_
      refine g_iast E dX13_readMeans_106 (j := 4 + B 0 0) h19 (rfl) (by omega) (by decide) rfl (g_upk (fun g22 h22 f22 => ?_))
      refine g_aload_n E dX13_readMeans_107 rfl rfl rfl ?_
      have x23 := (f22 (2000) (by omega)).trans (x20)
      refine g_getf E gciX13 dX13_readMeans_108 x23 4 rfl (by decide) q1744 (.inl rfl) (.ref mb) ((hm10_r 4 (.inl (by decide))).trans hF0_4) rfl ?_
      have x24 := (f22 (mb) (by omega)).trans (x21)
      refine g_getfN E gciX27 dX13_readMeans_111 x24 12 rfl (by decide) q1872 (.inl rfl) (.ref (mb + 2)) (hQ_12) rfl ?_
      refine g_aload_n E dX13_readMeans_114 rfl rfl rfl ?_
      refine g_getf E gciX13 dX13_readMeans_115 x23 4 rfl (by decide) q1744 (.inl rfl) (.ref mb) ((hm10_r 4 (.inl (by decide))).trans hF0_4) rfl ?_
      refine g_getfN E gciX27 dX13_readMeans_118 x24 2 rfl (by decide) q1859 (.inl rfl) (.int (nI (B 0 0))) (hQ_2) rfl ?_
      refine g_iload E dX13_readMeans_121 rfl rfl ?_
      have x25 := (f22 (mb + 2) (by omega)).trans ((f19 (mb + 2) (by omega)).trans ((f16 (mb + 2) (by omega)).trans ((f10 (mb + 2) (by omega)).trans ((f8 (mb + 2) (by omega)).trans ((f6 (mb + 2) (by omega)).trans ((f4 (mb + 2) (by omega)).trans ((f1 (mb + 2) (by omega)).trans (hQ_a2))))))))
      refine g_iast E dX13_readMeans_123 (j := B 0 0) x25 (rfl) (by omega) (by decide) rfl (g_upk (fun g26 h26 f26 => ?_))
      refine g_aload_n E dX13_readMeans_124 rfl rfl rfl ?_
      have x27 := (f26 (2000) (by omega)).trans (x23)
      refine g_getf E gciX13 dX13_readMeans_125 x27 4 rfl (by decide) q1744 (.inl rfl) (.ref mb) ((hm10_r 4 (.inl (by decide))).trans hF0_4) rfl ?_
      have x28 := (f26 (mb) (by omega)).trans (x24)
      refine g_getfN E gciX27 dX13_readMeans_128 x28 13 rfl (by decide) q1874 (.inl rfl) (.ref (mb + 3)) (hQ_13) rfl ?_
      refine g_aload_n E dX13_readMeans_131 rfl rfl rfl ?_
      refine g_getf E gciX13 dX13_readMeans_132 x27 4 rfl (by decide) q1744 (.inl rfl) (.ref mb) ((hm10_r 4 (.inl (by decide))).trans hF0_4) rfl ?_
      refine g_getfN E gciX27 dX13_readMeans_135 x28 2 rfl (by decide) q1859 (.inl rfl) (.int (nI (B 0 0))) (hQ_2) rfl ?_
      refine g_iconst E (v := (-1)) dX13_readMeans_138 (by decide) rfl ?_
      have x29 := (f26 (mb + 3) (by omega)).trans ((f22 (mb + 3) (by omega)).trans ((f19 (mb + 3) (by omega)).trans ((f16 (mb + 3) (by omega)).trans ((f10 (mb + 3) (by omega)).trans ((f8 (mb + 3) (by omega)).trans ((f6 (mb + 3) (by omega)).trans ((f4 (mb + 3) (by omega)).trans ((f1 (mb + 3) (by omega)).trans (hQ_a3)))))))))
      refine g_iast E dX13_readMeans_139 (j := B 0 0) x29 (rfl) (by omega) (by decide) rfl (g_upk (fun g30 h30 f30 => ?_))
      refine g_aload_n E dX13_readMeans_140 rfl rfl rfl ?_
      have x31 := (f30 (2000) (by omega)).trans (x27)
      refine g_getf E gciX13 dX13_readMeans_141 x31 4 rfl (by decide) q1744 (.inl rfl) (.ref mb) ((hm10_r 4 (.inl (by decide))).trans hF0_4) rfl ?_
      refine g_dup E dX13_readMeans_144 rfl rfl ?_
      have x32 := (f30 (mb) (by omega)).trans (x28)
      refine g_getfN E gciX27 dX13_readMeans_145 x32 2 rfl (by decide) q1859 (.inl rfl) (.int (nI (B 0 0))) (hQ_2) rfl ?_
      refine g_iconst E (v := 1) dX13_readMeans_148 (by decide) rfl ?_
      refine g_iadd E dX13_readMeans_149 rfl ?_
      refine g_as (y := nI (B 0 0 + 1)) ((nI_succ _).symm) ?_
      refine g_putfN E gciX27 (v := .int (nI (B 0 0 + 1))) dX13_readMeans_150 x32 2 rfl (by decide) q1859 (.inl rfl) rfl (fun _ => rfl) (fun _ => rfl) rfl (g_upk (fun g33 h33 f33 => ?_))
      have hnw_ := nw_xy (hy4.symm.trans r0_) hokx1
      have x34 := (f33 (mb + 22) (by omega)).trans ((f30 (mb + 22) (by omega)).trans ((f26 (mb + 22) (by omega)).trans ((f22 (mb + 22) (by omega)).trans ((f19 (mb + 22) (by omega)).trans (ha16)))))
      have x35 := (f33 (mb + 23) (by omega)).trans ((f30 (mb + 23) (by omega)).trans ((f26 (mb + 23) (by omega)).trans ((f22 (mb + 23) (by omega)).trans ((f19 (mb + 23) (by omega)).trans (hb16)))))
      have x36 := (f33 (mb + 24) (by omega)).trans ((f30 (mb + 24) (by omega)).trans ((f26 (mb + 24) (by omega)).trans ((f22 (mb + 24) (by omega)).trans ((f19 (mb + 24) (by omega)).trans (hc16)))))
      have x37 := (f33 (mb + 1) (by omega)).trans ((f30 (mb + 1) (by omega)).trans ((f26 (mb + 1) (by omega)).trans (h22)))
      have x38 := (f33 (mb + 2) (by omega)).trans ((f30 (mb + 2) (by omega)).trans (h26))
      have x39 := (f33 (mb + 3) (by omega)).trans (h30)
      have y40 := ((((((hm10.fr  (fun j9 a9 b9 => f16 j9 (by omega))).fr  (fun j9 a9 b9 => f19 j9 (by omega))).fr  (fun j9 a9 b9 => f22 j9 (by omega))).fr  (fun j9 a9 b9 => f26 j9 (by omega))).fr  (fun j9 a9 b9 => f30 j9 (by omega))).fr  (fun j9 a9 b9 => f33 j9 (by omega)))
      exact g_vret E Rt dX13_readMeans_153 rfl (by decide) (by decide) (⟨rfl, by rw [hF_]; exact ⟨⟨y40, _, zNk_n hnk (by decide) (s4 rfl rfl rfl rfl) hnw_.1 hnw_.2, pMt_M hQ (hx.1 _ (Nat.le_refl _)).2.2 ⟨_, h33, hQ_0, hQ_1, rfl, hQ_3, hQ_4, hQ_5, hQ_6, hQ_7, hQ_8, hQ_9, (by rw [List.length_append]; rfl), hQ_11, hQ_12, hQ_13, hQ_14, hQ_15, hQ_16, hQ_17, hQ_18, hQ_19, hQ_20, hQ_21, hQ_22, hQ_23, hQ_24, hQ_25, hQ_26, hQ_27, hQ_28, hQ_29, hQ_30, hQ_31, hQ_32, hQ_33, hQ_34⟩ (pNl_n (w := a0_.1) hQ.2.2 hnk hQ_b22 hQ_b23 hQ_b24 (by rw [← v0_]; exact x34) x35 x36) ⟨_, x37, (updO (by omega)).trans (updN.trans (by rw [v1_])), updN.trans (by rw [v2_]), fun k9 h9 => ⟨(updO (by omega)).trans ((updO (by omega)).trans (hQ_b1 k9 h9).1), (updO (by omega)).trans ((updO (by omega)).trans (hQ_b1 k9 h9).2)⟩⟩ ⟨_, x38, updN.trans (by rw [v3_]), fun k9 h9 => (updO (by omega)).trans (hQ_b2 k9 h9)⟩ ⟨_, x39, updN, fun k9 h9 => (updO (by omega)).trans (hQ_b3 k9 h9)⟩ (fun j9 a9 b9 c0_ c1_ c2_ c3_ c4_ c5_ c6_ => ((((((((((f33 j9 (by omega)).trans (f30 j9 (by omega))).trans (f26 j9 (by omega))).trans (f22 j9 (by omega))).trans (f19 j9 (by omega))).trans (f16 j9 (by omega))).trans (f10 j9 (by omega))).trans (f8 j9 (by omega))).trans (f6 j9 (by omega))).trans (f4 j9 (by omega))).trans (f1 j9 (by omega)))⟩, fun j9 h9 => ((((((((((f33 j9 (by omega)).trans (f30 j9 (by omega))).trans (f26 j9 (by omega))).trans (f22 j9 (by omega))).trans (f19 j9 (by omega))).trans (f16 j9 (by omega))).trans (f10 j9 (by omega))).trans (f8 j9 (by omega))).trans (f6 j9 (by omega))).trans (f4 j9 (by omega))).trans (f1 j9 (by omega))⟩⟩)
    · exact absurd (by first | exact c55 | exact Classical.not_not.mp c55) (zSo_5 _)
set_option maxHeartbeats 4000000 in
theorem ct_X13_readCrumb (l : Launch) {g : gWM} {n mb : Nat} {T : Nat → Int32} {F0 : Nat → Value} {B : gBar} {Nm : zNm} {nl : List (Nat × Nat)} {x : zEr zTk} (hF0 : pF0 F0 mb n) (hM : pMr g F0 true (x)) (hTp : pTp g 2001 T n) (hn : n ≤ 1100) (hok : xOk n x) (hnb : xNb x) (hw : wfB B) (hx : zXs B) (hQ : pMt g mb B Nm nl) (hnl9 : nl.length ≤ 19) (hnk : zNk B Nm nl) (hmb : 10000 ≤ mb) : gCt l yX13_readCrumb cX13_readCrumb 3 none 9 0 0 193 [.ref 2000] g (gPn (fun g1 => qLn g1 g F0 mb (zBd x fun t => zLK T n (t, B, Nm)) B Nm nl)) := by
  refine gCt.of RX13 (by decide) rfl (lo := [some (.ref 2000), none, none]) 2 rfl (Nat.le_of_ble_eq_true rfl) (fun z E Rt => ?_)
  have hF0_o := hF0
  obtain ⟨hF0_4, hF0_5, hF0_7⟩ := hF0_o
  have hM_o := hM
  obtain ⟨hM_F, hM_a, hM_r, hM_s⟩ := hM_o
  have hTp_o := hTp
  obtain ⟨hTp_f, hTp_a, hTp_b⟩ := hTp_o
  have hw_n := hw.1
  have hQ_o := hQ
  obtain ⟨⟨hQ_F, hQ_a, hQ_0, hQ_1, hQ_2, hQ_3, hQ_4, hQ_5, hQ_6, hQ_7, hQ_8, hQ_9, hQ_10, hQ_11, hQ_12, hQ_13, hQ_14, hQ_15, hQ_16, hQ_17, hQ_18, hQ_19, hQ_20, hQ_21, hQ_22, hQ_23, hQ_24, hQ_25, hQ_26, hQ_27, hQ_28, hQ_29, hQ_30, hQ_31, hQ_32, hQ_33, hQ_34⟩, ⟨⟨hQ_f1, hQ_a1, hQ_b1⟩, ⟨hQ_f2, hQ_a2, hQ_b2⟩, ⟨hQ_f3, hQ_a3, hQ_b3⟩, ⟨hQ_f4, hQ_a4, hQ_b4⟩, ⟨hQ_f5, hQ_a5, hQ_b5⟩, ⟨hQ_f6, hQ_a6, hQ_b6⟩, ⟨hQ_f7, hQ_a7, hQ_b7⟩, ⟨hQ_f8, hQ_a8, hQ_b8⟩, ⟨hQ_f9, hQ_a9, hQ_b9⟩, ⟨hQ_f10, hQ_a10, hQ_b10⟩, ⟨hQ_f11, hQ_a11, hQ_b11⟩, ⟨hQ_f12, hQ_a12, hQ_b12⟩, ⟨hQ_f13, hQ_a13, hQ_b13⟩, ⟨hQ_f14, hQ_a14, hQ_b14⟩, ⟨hQ_f15, hQ_a15, hQ_b15⟩, ⟨hQ_f16, hQ_a16, hQ_b16⟩, ⟨hQ_f17, hQ_a17, hQ_b17⟩, ⟨hQ_f18, hQ_a18, hQ_b18⟩, ⟨hQ_f19, hQ_a19, hQ_b19⟩, ⟨hQ_f20, hQ_a20, hQ_b20⟩, ⟨hQ_f21, hQ_a21, hQ_b21⟩⟩, ⟨hQ_f22, hQ_a22, hQ_b22⟩, ⟨hQ_f23, hQ_a23, hQ_b23⟩, hQ_f24, hQ_a24, hQ_b24⟩ := hQ_o
  refine g_aload_n E dX13_readCrumb_0 rfl rfl rfl ?_
  refine g_aload_n E dX13_readCrumb_1 rfl rfl rfl ?_
  refine g_getf E gciX13 dX13_readCrumb_2 hM_a 4 rfl (by decide) q1744 (.inl rfl) (.ref mb) ((hM_r 4 (.inl (by decide))).trans hF0_4) rfl ?_
  refine g_getfN E gciX27 dX13_readCrumb_5 hQ_a 8 rfl (by decide) q1865 (.inl rfl) (.int (nI (B 0 6))) (hQ_8) rfl ?_
  refine g_iconst E (v := 5) dX13_readCrumb_8 (by decide) rfl ?_
  refine g_callV (k := 2000) (n9 := 2) (av := [.int (nI (B 0 6)), .int 5]) (st := []) E (ct_X13_begins l (B 0 6) 5 hF0 hM hTp (by omega) hok hw hQ (by omega) hx.2.2 hnb (by omega) (by omega)) gciX13 dX13_readCrumb_9 hM_a q2078 q2080 qs64 q135 q2081 (by decide +kernel) rfl rfl ⟨by decide, by decide⟩ ⟨by decide, by decide⟩ (Nat.le_of_ble_eq_true rfl) rfl (gPn.k (fun g1 h1 => ?_))
  obtain ⟨hm1, f1⟩ := h1
  obtain ⟨x1, hx1⟩ : ∃ y, y = zBd x (zBg T n B (decide (B 0 6 < 5))) := ⟨_, rfl⟩
  rw [← hx1] at hm1
  have hm1_o := hm1
  obtain ⟨hm1_F, hm1_a, hm1_r, hm1_s⟩ := hm1_o
  have hokx1 : xOk n x1 := by rw [hx1]; exact zBg_x hok
  refine g_aload_n E dX13_readCrumb_12 rfl rfl rfl ?_
  refine g_iconst E (v := 0) dX13_readCrumb_13 (by decide) rfl ?_
  have y2 := (hTp.fr  (fun j9 a9 b9 => f1 j9 (by omega)))
  have y3 := (hQ.fr  (fun j9 a9 b9 => f1 j9 (by omega)))
  refine g_callV (k := 2000) (n9 := 1) (av := [.int 0]) (st := []) E (ct_X13_readKnown l 0 hF0 hm1 y2 (by omega) hokx1 y3 hnl9 hnk (by omega) (by omega)) gciX13 dX13_readCrumb_14 hm1_a q2135 q2137 qs72 q135 q2138 (by decide +kernel) rfl rfl ⟨by decide, by decide⟩ ⟨by decide, by decide⟩ (Nat.le_of_ble_eq_true rfl) rfl (gPi.k (fun g4 h4 => ?_))
  obtain ⟨hm4, f4⟩ := h4
  obtain ⟨y4, hy4⟩ : ∃ y, y = zBd x1 (zKx T n 0 B Nm) := ⟨_, rfl⟩
  rw [← hy4] at hm4
  refine g_as (y := nI (zVl 0 y4)) (by rw [hy4]) ?_
  obtain ⟨x4, hx4⟩ : ∃ y, y = zSt y4 := ⟨_, rfl⟩
  rw [← hx4] at hm4
  have hm4_o := hm4
  obtain ⟨hm4_F, hm4_a, hm4_r, hm4_s⟩ := hm4_o
  refine g_istore_n E dX13_readCrumb_17 rfl (by decide) rfl (lo1 := [some (.ref 2000), some (.int (nI (zVl 0 y4))), none]) rfl rfl ?_
  have hokx4 : xOk n x4 := by rw [hx4, hy4]; exact zKx_x hokx1
  refine g_aload_n E dX13_readCrumb_18 rfl rfl rfl ?_
  refine g_ldcwS E (j := 61) (tx := "day") rfl dX13_readCrumb_19 rfl ?_
  refine g_iconst E (v := 0) dX13_readCrumb_22 (by decide) rfl ?_
  refine g_bipush E (v := 60) dX13_readCrumb_23 (by decide) rfl ?_
  have y5 := (y2.fr  (fun j9 a9 b9 => f4 j9 (by omega)))
  refine g_callV (k := 2000) (n9 := 3) (av := [.ref (1 + 2 * 61), .int 0, .int 60]) (st := []) E (ct_X13_readPart l 0 60 hF0 hm4 y5 (by omega) hokx4 rfl (wo_dec _ (by decide +kernel)) (by omega) (by omega)) gciX13 dX13_readCrumb_25 hm4_a q2057 q2059 qs60 q135 q2060 (by decide +kernel) rfl rfl ⟨by decide, by decide⟩ ⟨by decide, by decide⟩ (Nat.le_of_ble_eq_true rfl) rfl (gPi.k (fun g6 h6 => ?_))
  obtain ⟨hm6, f6⟩ := h6
  obtain ⟨y6, hy6⟩ : ∃ y, y = zBd x4 (zAf T n (gByt "day") 0 60) := ⟨_, rfl⟩
  rw [← hy6] at hm6
  refine g_as (y := nI (zVl 0 y6)) (by rw [hy6]) ?_
  obtain ⟨x6, hx6⟩ : ∃ y, y = zSt y6 := ⟨_, rfl⟩
  rw [← hx6] at hm6
  have hm6_o := hm6
  obtain ⟨hm6_F, hm6_a, hm6_r, hm6_s⟩ := hm6_o
  refine g_istore_n E dX13_readCrumb_28 rfl (by decide) rfl (lo1 := [some (.ref 2000), some (.int (nI (zVl 0 y4))), some (.int (nI (zVl 0 y6)))]) rfl rfl ?_
  cases hc_ : x6 with
  | inl e =>
    rw [hc_] at hm6
    have hF_ := fold_K_l (Nm := Nm) hx1 hy4 hx4 hy6 hx6 hc_
    have hm6_o := hm6
    obtain ⟨hm6_F, hm6_a, hm6_r, hm6_9, hm6_12, hm6_13, hm6_k⟩ := hm6_o
    obtain ⟨hm6_w, hm6_wh⟩ := hm6_k rfl
    refine g_aload_n E dX13_readCrumb_29 rfl rfl rfl ?_
    refine g_getf E gciX13 dX13_readCrumb_30 hm6_a 9 rfl (by decide) q1749 (.inl rfl) (.int 5) (hm6_9) rfl ?_
    refine g_iconst E (v := 5) dX13_readCrumb_33 (by decide) rfl ?_
    refine g_icmp_ne E dX13_readCrumb_34 (tgt := 38) (by decide) rfl (fun h9 => absurd h9 (by decide)) (fun _ => ?_)
    have y7 := ((y3.fr  (fun j9 a9 b9 => f4 j9 (by omega))).fr  (fun j9 a9 b9 => f6 j9 (by omega)))
    exact g_vret E Rt dX13_readCrumb_37 rfl (by decide) (by decide) (⟨rfl, by rw [hF_]; exact ⟨⟨hm6, y7⟩, fun j9 h9 => ((f6 j9 (by omega)).trans (f4 j9 (by omega))).trans (f1 j9 (by omega))⟩⟩)
  | inr t9 =>
    rw [hc_] at hm6
    obtain ⟨a0_, a1_, r0_, hF_, r1_⟩ := fold_K_r (Nm := Nm) hx1 hy4 hx4 hy6 hx6 hc_
    have hm6_o := hm6
    obtain ⟨hm6_F, hm6_a, hm6_r, hm6_9, hm6_12, hm6_8, hm6_10, hm6_11, hm6_14, hm6_k⟩ := hm6_o
    obtain ⟨hm6_w, hm6_wh⟩ := hm6_k rfl
    obtain ⟨t1_, s1_, -⟩ := zBd_inr (hy4.symm.trans r0_)
    have hcan_ := of_decide_eq_true (bg_can (hx1.symm.trans s1_) hok)
    have hlen9 := hnk.2.2.2.2
    have hwn := hw.1
    have v0_ : zVl 0 y4 = a0_.1 := by rw [r0_]; rfl
    have v1_ : zVl 0 y6 = a1_.1 := by rw [r1_]; rfl
    refine g_aload_n E dX13_readCrumb_29 rfl rfl rfl ?_
    refine g_getf E gciX13 dX13_readCrumb_30 hm6_a 9 rfl (by decide) q1749 (.inl rfl) (.int (zSo t9.2.1)) (hm6_9) rfl ?_
    refine g_iconst E (v := 5) dX13_readCrumb_33 (by decide) rfl ?_
    refine g_icmp_ne E dX13_readCrumb_34 (tgt := 38) (by decide) rfl (fun c34 => ?_) (fun c34 => ?_)
    · refine g_aload_n E dX13_readCrumb_38 rfl rfl rfl ?_
      refine g_getf E gciX13 dX13_readCrumb_39 hm6_a 4 rfl (by decide) q1744 (.inl rfl) (.ref mb) ((hm6_r 4 (.inl (by decide))).trans hF0_4) rfl ?_
      have x8 := (f6 (mb) (by omega)).trans ((f4 (mb) (by omega)).trans ((f1 (mb) (by omega)).trans (hQ_a)))
      refine g_getfN E gciX27 dX13_readCrumb_42 x8 30 rfl (by decide) q1908 (.inl rfl) (.ref (mb + 20)) (hQ_30) rfl ?_
      refine g_aload_n E dX13_readCrumb_45 rfl rfl rfl ?_
      refine g_getf E gciX13 dX13_readCrumb_46 hm6_a 4 rfl (by decide) q1744 (.inl rfl) (.ref mb) ((hm6_r 4 (.inl (by decide))).trans hF0_4) rfl ?_
      refine g_getfN E gciX27 dX13_readCrumb_49 x8 8 rfl (by decide) q1865 (.inl rfl) (.int (nI (B 0 6))) (hQ_8) rfl ?_
      refine g_iload_n E dX13_readCrumb_52 rfl rfl rfl ?_
      have x9 := (f6 (mb + 20) (by omega)).trans ((f4 (mb + 20) (by omega)).trans ((f1 (mb + 20) (by omega)).trans (hQ_a20)))
      refine g_iast E dX13_readCrumb_53 (j := B 0 6) x9 (rfl) (by omega) (by decide) rfl (g_upk (fun g10 h10 f10 => ?_))
      refine g_aload_n E dX13_readCrumb_54 rfl rfl rfl ?_
      have x11 := (f10 (2000) (by omega)).trans (hm6_a)
      refine g_getf E gciX13 dX13_readCrumb_55 x11 4 rfl (by decide) q1744 (.inl rfl) (.ref mb) ((hm6_r 4 (.inl (by decide))).trans hF0_4) rfl ?_
      have x12 := (f10 (mb) (by omega)).trans (x8)
      refine g_getfN E gciX27 dX13_readCrumb_58 x12 31 rfl (by decide) q1910 (.inl rfl) (.ref (mb + 21)) (hQ_31) rfl ?_
      refine g_aload_n E dX13_readCrumb_61 rfl rfl rfl ?_
      refine g_getf E gciX13 dX13_readCrumb_62 x11 4 rfl (by decide) q1744 (.inl rfl) (.ref mb) ((hm6_r 4 (.inl (by decide))).trans hF0_4) rfl ?_
      refine g_getfN E gciX27 dX13_readCrumb_65 x12 8 rfl (by decide) q1865 (.inl rfl) (.int (nI (B 0 6))) (hQ_8) rfl ?_
      refine g_iload_n E dX13_readCrumb_68 rfl rfl rfl ?_
      have x13 := (f10 (mb + 21) (by omega)).trans ((f6 (mb + 21) (by omega)).trans ((f4 (mb + 21) (by omega)).trans ((f1 (mb + 21) (by omega)).trans (hQ_a21))))
      refine g_iast E dX13_readCrumb_69 (j := B 0 6) x13 (rfl) (by omega) (by decide) rfl (g_upk (fun g14 h14 f14 => ?_))
      refine g_aload_n E dX13_readCrumb_70 rfl rfl rfl ?_
      have x15 := (f14 (2000) (by omega)).trans (x11)
      refine g_getf E gciX13 dX13_readCrumb_71 x15 4 rfl (by decide) q1744 (.inl rfl) (.ref mb) ((hm6_r 4 (.inl (by decide))).trans hF0_4) rfl ?_
      refine g_dup E dX13_readCrumb_74 rfl rfl ?_
      have x16 := (f14 (mb) (by omega)).trans (x12)
      refine g_getfN E gciX27 dX13_readCrumb_75 x16 8 rfl (by decide) q1865 (.inl rfl) (.int (nI (B 0 6))) (hQ_8) rfl ?_
      refine g_iconst E (v := 1) dX13_readCrumb_78 (by decide) rfl ?_
      refine g_iadd E dX13_readCrumb_79 rfl ?_
      refine g_as (y := nI (B 0 6 + 1)) ((nI_succ _).symm) ?_
      refine g_putfN E gciX27 (v := .int (nI (B 0 6 + 1))) dX13_readCrumb_80 x16 8 rfl (by decide) q1865 (.inl rfl) rfl (fun _ => rfl) (fun _ => rfl) rfl (g_upk (fun g17 h17 f17 => ?_))
      have x18 := (f17 (mb + 20) (by omega)).trans ((f14 (mb + 20) (by omega)).trans (h10))
      have x19 := (f17 (mb + 21) (by omega)).trans (h14)
      have y20 := (((hm6.fr  (fun j9 a9 b9 => f10 j9 (by omega))).fr  (fun j9 a9 b9 => f14 j9 (by omega))).fr  (fun j9 a9 b9 => f17 j9 (by omega)))
      exact g_vret E Rt dX13_readCrumb_83 rfl (by decide) (by decide) (⟨rfl, by rw [hF_]; exact ⟨⟨y20, _, zNk_o hnk (s4 rfl rfl rfl rfl), pMt_K hQ ⟨_, h17, hQ_0, hQ_1, hQ_2, hQ_3, hQ_4, hQ_5, hQ_6, hQ_7, rfl, hQ_9, hQ_10, hQ_11, hQ_12, hQ_13, hQ_14, hQ_15, hQ_16, hQ_17, hQ_18, hQ_19, hQ_20, hQ_21, hQ_22, hQ_23, hQ_24, hQ_25, hQ_26, hQ_27, hQ_28, hQ_29, hQ_30, hQ_31, hQ_32, hQ_33, hQ_34⟩ ⟨_, x18, updN.trans (by rw [v0_]), fun k9 h9 => (updO (by omega)).trans (hQ_b20 k9 h9)⟩ ⟨_, x19, updN.trans (by rw [v1_]), fun k9 h9 => (updO (by omega)).trans (hQ_b21 k9 h9)⟩ (fun j9 a9 b9 c0_ c1_ c2_ => (((((f17 j9 (by omega)).trans (f14 j9 (by omega))).trans (f10 j9 (by omega))).trans (f6 j9 (by omega))).trans (f4 j9 (by omega))).trans (f1 j9 (by omega)))⟩, fun j9 h9 => (((((f17 j9 (by omega)).trans (f14 j9 (by omega))).trans (f10 j9 (by omega))).trans (f6 j9 (by omega))).trans (f4 j9 (by omega))).trans (f1 j9 (by omega))⟩⟩)
    · exact absurd (by first | exact c34 | exact Classical.not_not.mp c34) (zSo_5 _)
set_option maxHeartbeats 4000000 in
theorem ct_X13_readGate (l : Launch) {g : gWM} {n mb : Nat} {T : Nat → Int32} {F0 : Nat → Value} {B : gBar} {Nm : zNm} {nl : List (Nat × Nat)} {x : zEr zTk} (hF0 : pF0 F0 mb n) (hM : pMr g F0 true (x)) (hTp : pTp g 2001 T n) (hn : n ≤ 1100) (hok : xOk n x) (hnb : xNb x) (hw : wfB B) (hx : zXs B) (hQ : pMt g mb B Nm nl) (hnl9 : nl.length ≤ 19) (hnk : zNk B Nm nl) (hmb : 10000 ≤ mb) : gCt l yX13_readGate cX13_readGate 6 none 8 0 0 173 [.ref 2000] g (gPn (fun g1 => qLn g1 g F0 mb (zBd x fun t => zLG T n (t, B, Nm)) B Nm nl)) := by
  refine gCt.of RX13 (by decide) rfl (lo := [some (.ref 2000), none, none, none, none, none]) 5 rfl (Nat.le_of_ble_eq_true rfl) (fun z E Rt => ?_)
  have hF0_o := hF0
  obtain ⟨hF0_4, hF0_5, hF0_7⟩ := hF0_o
  have hM_o := hM
  obtain ⟨hM_F, hM_a, hM_r, hM_s⟩ := hM_o
  have hTp_o := hTp
  obtain ⟨hTp_f, hTp_a, hTp_b⟩ := hTp_o
  have hw_n := hw.1
  have hQ_o := hQ
  obtain ⟨⟨hQ_F, hQ_a, hQ_0, hQ_1, hQ_2, hQ_3, hQ_4, hQ_5, hQ_6, hQ_7, hQ_8, hQ_9, hQ_10, hQ_11, hQ_12, hQ_13, hQ_14, hQ_15, hQ_16, hQ_17, hQ_18, hQ_19, hQ_20, hQ_21, hQ_22, hQ_23, hQ_24, hQ_25, hQ_26, hQ_27, hQ_28, hQ_29, hQ_30, hQ_31, hQ_32, hQ_33, hQ_34⟩, ⟨⟨hQ_f1, hQ_a1, hQ_b1⟩, ⟨hQ_f2, hQ_a2, hQ_b2⟩, ⟨hQ_f3, hQ_a3, hQ_b3⟩, ⟨hQ_f4, hQ_a4, hQ_b4⟩, ⟨hQ_f5, hQ_a5, hQ_b5⟩, ⟨hQ_f6, hQ_a6, hQ_b6⟩, ⟨hQ_f7, hQ_a7, hQ_b7⟩, ⟨hQ_f8, hQ_a8, hQ_b8⟩, ⟨hQ_f9, hQ_a9, hQ_b9⟩, ⟨hQ_f10, hQ_a10, hQ_b10⟩, ⟨hQ_f11, hQ_a11, hQ_b11⟩, ⟨hQ_f12, hQ_a12, hQ_b12⟩, ⟨hQ_f13, hQ_a13, hQ_b13⟩, ⟨hQ_f14, hQ_a14, hQ_b14⟩, ⟨hQ_f15, hQ_a15, hQ_b15⟩, ⟨hQ_f16, hQ_a16, hQ_b16⟩, ⟨hQ_f17, hQ_a17, hQ_b17⟩, ⟨hQ_f18, hQ_a18, hQ_b18⟩, ⟨hQ_f19, hQ_a19, hQ_b19⟩, ⟨hQ_f20, hQ_a20, hQ_b20⟩, ⟨hQ_f21, hQ_a21, hQ_b21⟩⟩, ⟨hQ_f22, hQ_a22, hQ_b22⟩, ⟨hQ_f23, hQ_a23, hQ_b23⟩, hQ_f24, hQ_a24, hQ_b24⟩ := hQ_o
  refine g_aload_n E dX13_readGate_0 rfl rfl rfl ?_
  refine g_aload_n E dX13_readGate_1 rfl rfl rfl ?_
  refine g_getf E gciX13 dX13_readGate_2 hM_a 4 rfl (by decide) q1744 (.inl rfl) (.ref mb) ((hM_r 4 (.inl (by decide))).trans hF0_4) rfl ?_
  refine g_getfN E gciX27 dX13_readGate_5 hQ_a 4 rfl (by decide) q1861 (.inl rfl) (.int (nI (B 0 2))) (hQ_4) rfl ?_
  refine g_iconst E (v := 3) dX13_readGate_8 (by decide) rfl ?_
  refine g_callV (k := 2000) (n9 := 2) (av := [.int (nI (B 0 2)), .int 3]) (st := []) E (ct_X13_begins l (B 0 2) 3 hF0 hM hTp (by omega) hok hw hQ (by omega) hx.2.2 hnb (by omega) (by omega)) gciX13 dX13_readGate_9 hM_a q2078 q2080 qs64 q135 q2081 (by decide +kernel) rfl rfl ⟨by decide, by decide⟩ ⟨by decide, by decide⟩ (Nat.le_of_ble_eq_true rfl) rfl (gPn.k (fun g1 h1 => ?_))
  obtain ⟨hm1, f1⟩ := h1
  obtain ⟨x1, hx1⟩ : ∃ y, y = zBd x (zBg T n B (decide (B 0 2 < 3))) := ⟨_, rfl⟩
  rw [← hx1] at hm1
  have hm1_o := hm1
  obtain ⟨hm1_F, hm1_a, hm1_r, hm1_s⟩ := hm1_o
  have hokx1 : xOk n x1 := by rw [hx1]; exact zBg_x hok
  refine g_aload_n E dX13_readGate_12 rfl rfl rfl ?_
  have y2 := (hTp.fr  (fun j9 a9 b9 => f1 j9 (by omega)))
  have y3 := (hQ.fr  (fun j9 a9 b9 => f1 j9 (by omega)))
  refine g_callV (k := 2000) (n9 := 0) (av := []) (st := []) E (ct_X13_readFresh l hF0 hm1 y2 (by omega) hokx1 y3 hnl9 hnk (by omega)) gciX13 dX13_readGate_13 hm1_a q2082 q2084 qs65 q135 q2085 (by decide +kernel) rfl rfl ⟨by decide, by decide⟩ ⟨by decide, by decide⟩ (Nat.le_of_ble_eq_true rfl) rfl (gPw.k (fun w4 g4 h4 => ?_))
  obtain ⟨hv4, hm4, f4⟩ := h4
  obtain ⟨y4, hy4⟩ : ∃ y, y = zBd x1 (zNw T n B Nm) := ⟨_, rfl⟩
  rw [← hy4] at hm4 hv4
  obtain ⟨x4, hx4⟩ : ∃ y, y = zSt y4 := ⟨_, rfl⟩
  rw [← hx4] at hm4
  have hm4_o := hm4
  obtain ⟨hm4_F, hm4_a, hm4_r, hm4_s⟩ := hm4_o
  refine g_lstore_n E dX13_readGate_16 rfl (by decide) rfl (lo1 := [some (.ref 2000), some (.long w4), none, none, none, none]) rfl rfl ?_
  have hokx4 : xOk n x4 := by rw [hx4, hy4]; exact zNw_x hokx1
  refine g_aload_n E dX13_readGate_17 rfl rfl rfl ?_
  refine g_ldcwS E (j := 51) (tx := "nose") rfl dX13_readGate_18 rfl ?_
  refine g_iconst E (v := 1) dX13_readGate_21 (by decide) rfl ?_
  refine g_bipush E (v := 99) dX13_readGate_22 (by decide) rfl ?_
  have y5 := (y2.fr  (fun j9 a9 b9 => f4 j9 (by omega)))
  refine g_callV (k := 2000) (n9 := 3) (av := [.ref (1 + 2 * 51), .int 1, .int 99]) (st := []) E (ct_X13_readPart l 1 99 hF0 hm4 y5 (by omega) hokx4 rfl (wo_dec _ (by decide +kernel)) (by omega) (by omega)) gciX13 dX13_readGate_24 hm4_a q2057 q2059 qs60 q135 q2060 (by decide +kernel) rfl rfl ⟨by decide, by decide⟩ ⟨by decide, by decide⟩ (Nat.le_of_ble_eq_true rfl) rfl (gPi.k (fun g6 h6 => ?_))
  obtain ⟨hm6, f6⟩ := h6
  obtain ⟨y6, hy6⟩ : ∃ y, y = zBd x4 (zAf T n (gByt "nose") 1 99) := ⟨_, rfl⟩
  rw [← hy6] at hm6
  refine g_as (y := nI (zVl 1 y6)) (by rw [hy6]) ?_
  obtain ⟨x6, hx6⟩ : ∃ y, y = zSt y6 := ⟨_, rfl⟩
  rw [← hx6] at hm6
  have hm6_o := hm6
  obtain ⟨hm6_F, hm6_a, hm6_r, hm6_s⟩ := hm6_o
  refine g_istore_n E dX13_readGate_27 rfl (by decide) rfl (lo1 := [some (.ref 2000), some (.long w4), none, some (.int (nI (zVl 1 y6))), none, none]) rfl rfl ?_
  have hokx6 : xOk n x6 := by rw [hx6, hy6]; exact zAf_x2 hokx4
  refine g_aload_n E dX13_readGate_28 rfl rfl rfl ?_
  refine g_ldcwS E (j := 52) (tx := "opens") rfl dX13_readGate_29 rfl ?_
  refine g_iconst E (v := 0) dX13_readGate_32 (by decide) rfl ?_
  refine g_bipush E (v := 23) dX13_readGate_33 (by decide) rfl ?_
  have y7 := (y5.fr  (fun j9 a9 b9 => f6 j9 (by omega)))
  refine g_callV (k := 2000) (n9 := 3) (av := [.ref (1 + 2 * 52), .int 0, .int 23]) (st := []) E (ct_X13_readPart l 0 23 hF0 hm6 y7 (by omega) hokx6 rfl (wo_dec _ (by decide +kernel)) (by omega) (by omega)) gciX13 dX13_readGate_35 hm6_a q2057 q2059 qs60 q135 q2060 (by decide +kernel) rfl rfl ⟨by decide, by decide⟩ ⟨by decide, by decide⟩ (Nat.le_of_ble_eq_true rfl) rfl (gPi.k (fun g8 h8 => ?_))
  obtain ⟨hm8, f8⟩ := h8
  obtain ⟨y8, hy8⟩ : ∃ y, y = zBd x6 (zAf T n (gByt "opens") 0 23) := ⟨_, rfl⟩
  rw [← hy8] at hm8
  refine g_as (y := nI (zVl 0 y8)) (by rw [hy8]) ?_
  obtain ⟨x8, hx8⟩ : ∃ y, y = zSt y8 := ⟨_, rfl⟩
  rw [← hx8] at hm8
  have hm8_o := hm8
  obtain ⟨hm8_F, hm8_a, hm8_r, hm8_s⟩ := hm8_o
  refine g_istore E dX13_readGate_38 (by decide) rfl (lo1 := [some (.ref 2000), some (.long w4), none, some (.int (nI (zVl 1 y6))), some (.int (nI (zVl 0 y8))), none]) rfl rfl ?_
  have hokx8 : xOk n x8 := by rw [hx8, hy8]; exact zAf_x2 hokx6
  have hz4_ : zVl 0 y8 ≤ 23 := by rw [hy8]; exact zVl_le (by decide) (by decide)
  refine g_aload_n E dX13_readGate_40 rfl rfl rfl ?_
  refine g_ldcwS E (j := 53) (tx := "shuts") rfl dX13_readGate_41 rfl ?_
  refine g_iload E dX13_readGate_44 rfl rfl ?_
  refine g_bipush E (v := 23) dX13_readGate_46 (by decide) rfl ?_
  have y9 := (y7.fr  (fun j9 a9 b9 => f8 j9 (by omega)))
  refine g_callV (k := 2000) (n9 := 3) (av := [.ref (1 + 2 * 53), .int (nI (zVl 0 y8)), .int 23]) (st := []) E (ct_X13_readPart l (zVl 0 y8) 23 hF0 hm8 y9 (by omega) hokx8 rfl (wo_dec _ (by decide +kernel)) (by omega) (by omega)) gciX13 dX13_readGate_48 hm8_a q2057 q2059 qs60 q135 q2060 (by decide +kernel) rfl rfl ⟨by decide, by decide⟩ ⟨by decide, by decide⟩ (Nat.le_of_ble_eq_true rfl) rfl (gPi.k (fun g10 h10 => ?_))
  obtain ⟨hm10, f10⟩ := h10
  obtain ⟨y10, hy10⟩ : ∃ y, y = zBd x8 (zAf T n (gByt "shuts") (zVl 0 y8) 23) := ⟨_, rfl⟩
  rw [← hy10] at hm10
  refine g_as (y := nI (zVl (zVl 0 y8) y10)) (by rw [hy10]) ?_
  obtain ⟨x10, hx10⟩ : ∃ y, y = zSt y10 := ⟨_, rfl⟩
  rw [← hx10] at hm10
  have hm10_o := hm10
  obtain ⟨hm10_F, hm10_a, hm10_r, hm10_s⟩ := hm10_o
  refine g_istore E dX13_readGate_51 (by decide) rfl (lo1 := [some (.ref 2000), some (.long w4), none, some (.int (nI (zVl 1 y6))), some (.int (nI (zVl 0 y8))), some (.int (nI (zVl (zVl 0 y8) y10)))]) rfl rfl ?_
  cases hc_ : x10 with
  | inl e =>
    rw [hc_] at hm10
    have hF_ := fold_G_l (Nm := Nm) hx1 hy4 hx4 hy6 hx6 hy8 hx8 hy10 hx10 hc_
    have hm10_o := hm10
    obtain ⟨hm10_F, hm10_a, hm10_r, hm10_9, hm10_12, hm10_13, hm10_k⟩ := hm10_o
    obtain ⟨hm10_w, hm10_wh⟩ := hm10_k rfl
    refine g_aload_n E dX13_readGate_53 rfl rfl rfl ?_
    refine g_getf E gciX13 dX13_readGate_54 hm10_a 9 rfl (by decide) q1749 (.inl rfl) (.int 5) (hm10_9) rfl ?_
    refine g_iconst E (v := 5) dX13_readGate_57 (by decide) rfl ?_
    refine g_icmp_ne E dX13_readGate_58 (tgt := 62) (by decide) rfl (fun h9 => absurd h9 (by decide)) (fun _ => ?_)
    have y11 := ((((y3.fr  (fun j9 a9 b9 => f4 j9 (by omega))).fr  (fun j9 a9 b9 => f6 j9 (by omega))).fr  (fun j9 a9 b9 => f8 j9 (by omega))).fr  (fun j9 a9 b9 => f10 j9 (by omega)))
    exact g_vret E Rt dX13_readGate_61 rfl (by decide) (by decide) (⟨rfl, by rw [hF_]; exact ⟨⟨hm10, y11⟩, fun j9 h9 => ((((f10 j9 (by omega)).trans (f8 j9 (by omega))).trans (f6 j9 (by omega))).trans (f4 j9 (by omega))).trans (f1 j9 (by omega))⟩⟩)
  | inr t9 =>
    rw [hc_] at hm10
    obtain ⟨a0_, a1_, a2_, a3_, r0_, r1_, r2_, hF_, r3_⟩ := fold_G_r (Nm := Nm) hx1 hy4 hx4 hy6 hx6 hy8 hx8 hy10 hx10 hc_
    have hm10_o := hm10
    obtain ⟨hm10_F, hm10_a, hm10_r, hm10_9, hm10_12, hm10_8, hm10_10, hm10_11, hm10_14, hm10_k⟩ := hm10_o
    obtain ⟨hm10_w, hm10_wh⟩ := hm10_k rfl
    obtain ⟨t1_, s1_, -⟩ := zBd_inr (hy4.symm.trans r0_)
    have hcan_ := of_decide_eq_true (bg_can (hx1.symm.trans s1_) hok)
    have hlen9 := hnk.2.2.2.2
    have hwn := hw.1
    have v0_ := hv4 a0_ r0_
    have v1_ : zVl 1 y6 = a1_.1 := by rw [r1_]; rfl
    have v2_ : zVl 0 y8 = a2_.1 := by rw [r2_]; rfl
    have v3_ : zVl (zVl 0 y8) y10 = a3_.1 := by rw [r3_]; rfl
    refine g_aload_n E dX13_readGate_53 rfl rfl rfl ?_
    refine g_getf E gciX13 dX13_readGate_54 hm10_a 9 rfl (by decide) q1749 (.inl rfl) (.int (zSo t9.2.1)) (hm10_9) rfl ?_
    refine g_iconst E (v := 5) dX13_readGate_57 (by decide) rfl ?_
    refine g_icmp_ne E dX13_readGate_58 (tgt := 62) (by decide) rfl (fun c58 => ?_) (fun c58 => ?_)
    · refine g_aload_n E dX13_readGate_62 rfl rfl rfl ?_
      refine g_lload_n E dX13_readGate_63 rfl rfl rfl ?_
      refine g_iconst E (v := 2) dX13_readGate_64 (by decide) rfl ?_
      refine g_aload_n E dX13_readGate_65 rfl rfl rfl ?_
      refine g_getf E gciX13 dX13_readGate_66 hm10_a 4 rfl (by decide) q1744 (.inl rfl) (.ref mb) ((hm10_r 4 (.inl (by decide))).trans hF0_4) rfl ?_
      have x12 := (f10 (mb) (by omega)).trans ((f8 (mb) (by omega)).trans ((f6 (mb) (by omega)).trans ((f4 (mb) (by omega)).trans ((f1 (mb) (by omega)).trans (hQ_a)))))
      refine g_getfN E gciX27 dX13_readGate_69 x12 4 rfl (by decide) q1861 (.inl rfl) (.int (nI (B 0 2))) (hQ_4) rfl ?_
      have x13 := (f10 (mb + 22) (by omega)).trans ((f8 (mb + 22) (by omega)).trans ((f6 (mb + 22) (by omega)).trans ((f4 (mb + 22) (by omega)).trans ((f1 (mb + 22) (by omega)).trans (hQ_a22)))))
      have x14 := (f10 (mb + 23) (by omega)).trans ((f8 (mb + 23) (by omega)).trans ((f6 (mb + 23) (by omega)).trans ((f4 (mb + 23) (by omega)).trans ((f1 (mb + 23) (by omega)).trans (hQ_a23)))))
      have x15 := (f10 (mb + 24) (by omega)).trans ((f8 (mb + 24) (by omega)).trans ((f6 (mb + 24) (by omega)).trans ((f4 (mb + 24) (by omega)).trans ((f1 (mb + 24) (by omega)).trans (hQ_a24)))))
      refine g_callV (k := 2000) (n9 := 3) (av := [.long w4, .int 2, .int (nI (B 0 2))]) (st := []) E (ct_X13_names l w4 2 (B 0 2) x12 hQ_10 hQ_32 hQ_33 hQ_34 x13 x14 x15 (by omega) (by omega) (⟨_, hm10_a, (hm10_r 4 (.inl (by decide))).trans hF0_4⟩)) gciX13 dX13_readGate_72 hm10_a q2106 q2108 qs67 q135 q2109 (by decide +kernel) rfl rfl ⟨by decide, by decide⟩ ⟨by decide, by decide⟩ (Nat.le_of_ble_eq_true rfl) rfl (gPn.k (fun g16 h16 => ?_))
      obtain ⟨hm16, ha16, hb16, hc16, f16⟩ := h16
      refine g_aload_n E dX13_readGate_75 rfl rfl rfl ?_
      have x17 := (f16 (2000) (by omega)).trans (hm10_a)
      refine g_getf E gciX13 dX13_readGate_76 x17 4 rfl (by decide) q1744 (.inl rfl) (.ref mb) ((hm10_r 4 (.inl (by decide))).trans hF0_4) rfl ?_
      refine g_getfN E gciX27 dX13_readGate_79 hm16 17 rfl (by decide) q1882 (.inl rfl) (.ref (mb + 7)) (hQ_17) rfl ?_
      refine g_aload_n E dX13_readGate_82 rfl rfl rfl ?_
      refine g_getf E gciX13 dX13_readGate_83 x17 4 rfl (by decide) q1744 (.inl rfl) (.ref mb) ((hm10_r 4 (.inl (by decide))).trans hF0_4) rfl ?_
      refine g_getfN E gciX27 dX13_readGate_86 hm16 4 rfl (by decide) q1861 (.inl rfl) (.int (nI (B 0 2))) (hQ_4) rfl ?_
      refine g_iload_n E dX13_readGate_89 rfl rfl rfl ?_
      have x18 := (f16 (mb + 7) (by omega)).trans ((f10 (mb + 7) (by omega)).trans ((f8 (mb + 7) (by omega)).trans ((f6 (mb + 7) (by omega)).trans ((f4 (mb + 7) (by omega)).trans ((f1 (mb + 7) (by omega)).trans (hQ_a7))))))
      refine g_iast E dX13_readGate_90 (j := B 0 2) x18 (rfl) (by omega) (by decide) rfl (g_upk (fun g19 h19 f19 => ?_))
      refine g_aload_n E dX13_readGate_91 rfl rfl rfl ?_
      have x20 := (f19 (2000) (by omega)).trans (x17)
      refine g_getf E gciX13 dX13_readGate_92 x20 4 rfl (by decide) q1744 (.inl rfl) (.ref mb) ((hm10_r 4 (.inl (by decide))).trans hF0_4) rfl ?_
      have x21 := (f19 (mb) (by omega)).trans (hm16)
      refine g_getfN E gciX27 dX13_readGate_95 x21 18 rfl (by decide) q1884 (.inl rfl) (.ref (mb + 8)) (hQ_18) rfl ?_
      refine g_aload_n E dX13_readGate_98 rfl rfl rfl ?_
      refine g_getf E gciX13 dX13_readGate_99 x20 4 rfl (by decide) q1744 (.inl rfl) (.ref mb) ((hm10_r 4 (.inl (by decide))).trans hF0_4) rfl ?_
      refine g_getfN E gciX27 dX13_readGate_102 x21 4 rfl (by decide) q1861 (.inl rfl) (.int (nI (B 0 2))) (hQ_4) rfl ?_
      refine g_iload E dX13_readGate_105 rfl rfl ?_
      have x22 := (f19 (mb + 8) (by omega)).trans ((f16 (mb + 8) (by omega)).trans ((f10 (mb + 8) (by omega)).trans ((f8 (mb + 8) (by omega)).trans ((f6 (mb + 8) (by omega)).trans ((f4 (mb + 8) (by omega)).trans ((f1 (mb + 8) (by omega)).trans (hQ_a8)))))))
      refine g_iast E dX13_readGate_107 (j := B 0 2) x22 (rfl) (by omega) (by decide) rfl (g_upk (fun g23 h23 f23 => ?_))
      refine g_aload_n E dX13_readGate_108 rfl rfl rfl ?_
      have x24 := (f23 (2000) (by omega)).trans (x20)
      refine g_getf E gciX13 dX13_readGate_109 x24 4 rfl (by decide) q1744 (.inl rfl) (.ref mb) ((hm10_r 4 (.inl (by decide))).trans hF0_4) rfl ?_
      have x25 := (f23 (mb) (by omega)).trans (x21)
      refine g_getfN E gciX27 dX13_readGate_112 x25 19 rfl (by decide) q1886 (.inl rfl) (.ref (mb + 9)) (hQ_19) rfl ?_
      refine g_aload_n E dX13_readGate_115 rfl rfl rfl ?_
      refine g_getf E gciX13 dX13_readGate_116 x24 4 rfl (by decide) q1744 (.inl rfl) (.ref mb) ((hm10_r 4 (.inl (by decide))).trans hF0_4) rfl ?_
      refine g_getfN E gciX27 dX13_readGate_119 x25 4 rfl (by decide) q1861 (.inl rfl) (.int (nI (B 0 2))) (hQ_4) rfl ?_
      refine g_iload E dX13_readGate_122 rfl rfl ?_
      have x26 := (f23 (mb + 9) (by omega)).trans ((f19 (mb + 9) (by omega)).trans ((f16 (mb + 9) (by omega)).trans ((f10 (mb + 9) (by omega)).trans ((f8 (mb + 9) (by omega)).trans ((f6 (mb + 9) (by omega)).trans ((f4 (mb + 9) (by omega)).trans ((f1 (mb + 9) (by omega)).trans (hQ_a9))))))))
      refine g_iast E dX13_readGate_124 (j := B 0 2) x26 (rfl) (by omega) (by decide) rfl (g_upk (fun g27 h27 f27 => ?_))
      refine g_aload_n E dX13_readGate_125 rfl rfl rfl ?_
      have x28 := (f27 (2000) (by omega)).trans (x24)
      refine g_getf E gciX13 dX13_readGate_126 x28 4 rfl (by decide) q1744 (.inl rfl) (.ref mb) ((hm10_r 4 (.inl (by decide))).trans hF0_4) rfl ?_
      refine g_dup E dX13_readGate_129 rfl rfl ?_
      have x29 := (f27 (mb) (by omega)).trans (x25)
      refine g_getfN E gciX27 dX13_readGate_130 x29 4 rfl (by decide) q1861 (.inl rfl) (.int (nI (B 0 2))) (hQ_4) rfl ?_
      refine g_iconst E (v := 1) dX13_readGate_133 (by decide) rfl ?_
      refine g_iadd E dX13_readGate_134 rfl ?_
      refine g_as (y := nI (B 0 2 + 1)) ((nI_succ _).symm) ?_
      refine g_putfN E gciX27 (v := .int (nI (B 0 2 + 1))) dX13_readGate_135 x29 4 rfl (by decide) q1861 (.inl rfl) rfl (fun _ => rfl) (fun _ => rfl) rfl (g_upk (fun g30 h30 f30 => ?_))
      have hnw_ := nw_xy (hy4.symm.trans r0_) hokx1
      have x31 := (f30 (mb + 22) (by omega)).trans ((f27 (mb + 22) (by omega)).trans ((f23 (mb + 22) (by omega)).trans ((f19 (mb + 22) (by omega)).trans (ha16))))
      have x32 := (f30 (mb + 23) (by omega)).trans ((f27 (mb + 23) (by omega)).trans ((f23 (mb + 23) (by omega)).trans ((f19 (mb + 23) (by omega)).trans (hb16))))
      have x33 := (f30 (mb + 24) (by omega)).trans ((f27 (mb + 24) (by omega)).trans ((f23 (mb + 24) (by omega)).trans ((f19 (mb + 24) (by omega)).trans (hc16))))
      have x34 := (f30 (mb + 7) (by omega)).trans ((f27 (mb + 7) (by omega)).trans ((f23 (mb + 7) (by omega)).trans (h19)))
      have x35 := (f30 (mb + 8) (by omega)).trans ((f27 (mb + 8) (by omega)).trans (h23))
      have x36 := (f30 (mb + 9) (by omega)).trans (h27)
      have y37 := (((((hm10.fr  (fun j9 a9 b9 => f16 j9 (by omega))).fr  (fun j9 a9 b9 => f19 j9 (by omega))).fr  (fun j9 a9 b9 => f23 j9 (by omega))).fr  (fun j9 a9 b9 => f27 j9 (by omega))).fr  (fun j9 a9 b9 => f30 j9 (by omega)))
      exact g_vret E Rt dX13_readGate_138 rfl (by decide) (by decide) (⟨rfl, by rw [hF_]; exact ⟨⟨y37, _, zNk_n hnk (by decide) (s4 rfl rfl rfl rfl) hnw_.1 hnw_.2, pMt_G hQ ⟨_, h30, hQ_0, hQ_1, hQ_2, hQ_3, rfl, hQ_5, hQ_6, hQ_7, hQ_8, hQ_9, (by rw [List.length_append]; rfl), hQ_11, hQ_12, hQ_13, hQ_14, hQ_15, hQ_16, hQ_17, hQ_18, hQ_19, hQ_20, hQ_21, hQ_22, hQ_23, hQ_24, hQ_25, hQ_26, hQ_27, hQ_28, hQ_29, hQ_30, hQ_31, hQ_32, hQ_33, hQ_34⟩ (pNl_n (w := a0_.1) hQ.2.2 hnk hQ_b22 hQ_b23 hQ_b24 (by rw [← v0_]; exact x31) x32 x33) ⟨_, x34, updN.trans (by rw [v1_]), fun k9 h9 => (updO (by omega)).trans (hQ_b7 k9 h9)⟩ ⟨_, x35, updN.trans (by rw [v2_]), fun k9 h9 => (updO (by omega)).trans (hQ_b8 k9 h9)⟩ ⟨_, x36, updN.trans (by rw [v3_]), fun k9 h9 => (updO (by omega)).trans (hQ_b9 k9 h9)⟩ (fun j9 a9 b9 c0_ c1_ c2_ c3_ c4_ c5_ c6_ => (((((((((f30 j9 (by omega)).trans (f27 j9 (by omega))).trans (f23 j9 (by omega))).trans (f19 j9 (by omega))).trans (f16 j9 (by omega))).trans (f10 j9 (by omega))).trans (f8 j9 (by omega))).trans (f6 j9 (by omega))).trans (f4 j9 (by omega))).trans (f1 j9 (by omega)))⟩, fun j9 h9 => (((((((((f30 j9 (by omega)).trans (f27 j9 (by omega))).trans (f23 j9 (by omega))).trans (f19 j9 (by omega))).trans (f16 j9 (by omega))).trans (f10 j9 (by omega))).trans (f8 j9 (by omega))).trans (f6 j9 (by omega))).trans (f4 j9 (by omega))).trans (f1 j9 (by omega))⟩⟩)
    · exact absurd (by first | exact c58 | exact Classical.not_not.mp c58) (zSo_5 _)
set_option maxHeartbeats 4000000 in
theorem ct_X13_readBarrier (l : Launch) {g : gWM} {n mb : Nat} {T : Nat → Int32} {F0 : Nat → Value} {B : gBar} {Nm : zNm} {nl : List (Nat × Nat)} {x : zEr zTk} (hF0 : pF0 F0 mb n) (hM : pMr g F0 true (x)) (hTp : pTp g 2001 T n) (hn : n ≤ 1100) (hok : xOk n x) (hnb : xNb x) (hw : wfB B) (hx : zXs B) (hQ : pMt g mb B Nm nl) (hnl9 : nl.length ≤ 19) (hnk : zNk B Nm nl) (hmb : 10000 ≤ mb) : gCt l yX13_readBarrier cX13_readBarrier 3 none 8 0 0 173 [.ref 2000] g (gPn (fun g1 => qLn g1 g F0 mb (zBd x fun t => zLB T n (t, B, Nm)) B Nm nl)) := by
  refine gCt.of RX13 (by decide) rfl (lo := [some (.ref 2000), none, none]) 2 rfl (Nat.le_of_ble_eq_true rfl) (fun z E Rt => ?_)
  have hF0_o := hF0
  obtain ⟨hF0_4, hF0_5, hF0_7⟩ := hF0_o
  have hM_o := hM
  obtain ⟨hM_F, hM_a, hM_r, hM_s⟩ := hM_o
  have hTp_o := hTp
  obtain ⟨hTp_f, hTp_a, hTp_b⟩ := hTp_o
  have hw_n := hw.1
  have hQ_o := hQ
  obtain ⟨⟨hQ_F, hQ_a, hQ_0, hQ_1, hQ_2, hQ_3, hQ_4, hQ_5, hQ_6, hQ_7, hQ_8, hQ_9, hQ_10, hQ_11, hQ_12, hQ_13, hQ_14, hQ_15, hQ_16, hQ_17, hQ_18, hQ_19, hQ_20, hQ_21, hQ_22, hQ_23, hQ_24, hQ_25, hQ_26, hQ_27, hQ_28, hQ_29, hQ_30, hQ_31, hQ_32, hQ_33, hQ_34⟩, ⟨⟨hQ_f1, hQ_a1, hQ_b1⟩, ⟨hQ_f2, hQ_a2, hQ_b2⟩, ⟨hQ_f3, hQ_a3, hQ_b3⟩, ⟨hQ_f4, hQ_a4, hQ_b4⟩, ⟨hQ_f5, hQ_a5, hQ_b5⟩, ⟨hQ_f6, hQ_a6, hQ_b6⟩, ⟨hQ_f7, hQ_a7, hQ_b7⟩, ⟨hQ_f8, hQ_a8, hQ_b8⟩, ⟨hQ_f9, hQ_a9, hQ_b9⟩, ⟨hQ_f10, hQ_a10, hQ_b10⟩, ⟨hQ_f11, hQ_a11, hQ_b11⟩, ⟨hQ_f12, hQ_a12, hQ_b12⟩, ⟨hQ_f13, hQ_a13, hQ_b13⟩, ⟨hQ_f14, hQ_a14, hQ_b14⟩, ⟨hQ_f15, hQ_a15, hQ_b15⟩, ⟨hQ_f16, hQ_a16, hQ_b16⟩, ⟨hQ_f17, hQ_a17, hQ_b17⟩, ⟨hQ_f18, hQ_a18, hQ_b18⟩, ⟨hQ_f19, hQ_a19, hQ_b19⟩, ⟨hQ_f20, hQ_a20, hQ_b20⟩, ⟨hQ_f21, hQ_a21, hQ_b21⟩⟩, ⟨hQ_f22, hQ_a22, hQ_b22⟩, ⟨hQ_f23, hQ_a23, hQ_b23⟩, hQ_f24, hQ_a24, hQ_b24⟩ := hQ_o
  refine g_aload_n E dX13_readBarrier_0 rfl rfl rfl ?_
  refine g_getf E gciX13 dX13_readBarrier_1 hM_a 4 rfl (by decide) q1744 (.inl rfl) (.ref mb) ((hM_r 4 (.inl (by decide))).trans hF0_4) rfl ?_
  refine g_getfN E gciX27 dX13_readBarrier_4 hQ_a 0 rfl (by decide) q1857 (.inl rfl) (.int (if B 0 9 = 1 then nI (B 0 7) else -1)) (hQ_0) rfl ?_
  refine g_iconst E (v := (-1)) dX13_readBarrier_7 (by decide) rfl ?_
  refine g_icmp_eq E dX13_readBarrier_8 (tgt := 16) (by decide) rfl (fun c8 => ?_) (fun c8 => ?_)
  · have hwn0 := hw.1
    have ht : ¬ B 0 9 = 1 := fun h9 => nI_m1 (a := B 0 7) (by omega) ((if_pos h9).symm.trans c8)
    refine g_aload_n E dX13_readBarrier_16 rfl rfl rfl ?_
    refine g_callV (k := 2000) (n9 := 0) (av := []) (st := []) E (ct_X13_goesOn l hF0 hM hTp (by omega) hok hnb) gciX13 dX13_readBarrier_17 hM_a q1989 q1991 qs53 q135 q1992 (by decide +kernel) rfl rfl ⟨by decide, by decide⟩ ⟨by decide, by decide⟩ (Nat.le_of_ble_eq_true rfl) rfl (gPn.k (fun g1 h1 => ?_))
    obtain ⟨hm1, f1⟩ := h1
    obtain ⟨x1, hx1⟩ : ∃ y, y = xGo T n x := ⟨_, rfl⟩
    rw [← hx1] at hm1
    have hm1_o := hm1
    obtain ⟨hm1_F, hm1_a, hm1_r, hm1_s⟩ := hm1_o
    have hB_ : x1 = zBd x (zF1 T n B) := by rw [hx1]; exact zF1_n ht
    have hokx1 : xOk n x1 := by rw [hx1]; exact xGo_ok hok
    refine g_aload_n E dX13_readBarrier_20 rfl rfl rfl ?_
    refine g_ldcS E (j := 34) (tx := "fee") rfl dX13_readBarrier_21 rfl ?_
    refine g_iconst E (v := 0) dX13_readBarrier_23 (by decide) rfl ?_
    refine g_bipush E (v := 9) dX13_readBarrier_24 (by decide) rfl ?_
    have y2 := (hTp.fr  (fun j9 a9 b9 => f1 j9 (by omega)))
    refine g_callV (k := 2000) (n9 := 3) (av := [.ref (1 + 2 * 34), .int 0, .int 9]) (st := []) E (ct_X13_readPart l 0 9 hF0 hm1 y2 (by omega) hokx1 rfl (wo_dec _ (by decide +kernel)) (by omega) (by omega)) gciX13 dX13_readBarrier_26 hm1_a q2057 q2059 qs60 q135 q2060 (by decide +kernel) rfl rfl ⟨by decide, by decide⟩ ⟨by decide, by decide⟩ (Nat.le_of_ble_eq_true rfl) rfl (gPi.k (fun g3 h3 => ?_))
    obtain ⟨hm3, f3⟩ := h3
    obtain ⟨y3, hy3⟩ : ∃ y, y = zBd x1 (zAf T n (gByt "fee") 0 9) := ⟨_, rfl⟩
    rw [← hy3] at hm3
    refine g_as (y := nI (zVl 0 y3)) (by rw [hy3]) ?_
    obtain ⟨x3, hx3⟩ : ∃ y, y = zSt y3 := ⟨_, rfl⟩
    rw [← hx3] at hm3
    have hm3_o := hm3
    obtain ⟨hm3_F, hm3_a, hm3_r, hm3_s⟩ := hm3_o
    refine g_istore_n E dX13_readBarrier_29 rfl (by decide) rfl (lo1 := [some (.ref 2000), some (.int (nI (zVl 0 y3))), none]) rfl rfl ?_
    have hokx3 : xOk n x3 := by rw [hx3, hy3]; exact zAf_x2 hokx1
    refine g_aload_n E dX13_readBarrier_30 rfl rfl rfl ?_
    refine g_ldcS E (j := 35) (tx := "interest") rfl dX13_readBarrier_31 rfl ?_
    refine g_iconst E (v := 0) dX13_readBarrier_33 (by decide) rfl ?_
    refine g_bipush E (v := 50) dX13_readBarrier_34 (by decide) rfl ?_
    have y4 := (y2.fr  (fun j9 a9 b9 => f3 j9 (by omega)))
    refine g_callV (k := 2000) (n9 := 3) (av := [.ref (1 + 2 * 35), .int 0, .int 50]) (st := []) E (ct_X13_readPart l 0 50 hF0 hm3 y4 (by omega) hokx3 rfl (wo_dec _ (by decide +kernel)) (by omega) (by omega)) gciX13 dX13_readBarrier_36 hm3_a q2057 q2059 qs60 q135 q2060 (by decide +kernel) rfl rfl ⟨by decide, by decide⟩ ⟨by decide, by decide⟩ (Nat.le_of_ble_eq_true rfl) rfl (gPi.k (fun g5 h5 => ?_))
    obtain ⟨hm5, f5⟩ := h5
    obtain ⟨y5, hy5⟩ : ∃ y, y = zBd x3 (zAf T n (gByt "interest") 0 50) := ⟨_, rfl⟩
    rw [← hy5] at hm5
    refine g_as (y := nI (zVl 0 y5)) (by rw [hy5]) ?_
    obtain ⟨x5, hx5⟩ : ∃ y, y = zSt y5 := ⟨_, rfl⟩
    rw [← hx5] at hm5
    have hm5_o := hm5
    obtain ⟨hm5_F, hm5_a, hm5_r, hm5_s⟩ := hm5_o
    refine g_istore_n E dX13_readBarrier_39 rfl (by decide) rfl (lo1 := [some (.ref 2000), some (.int (nI (zVl 0 y3))), some (.int (nI (zVl 0 y5)))]) rfl rfl ?_
    cases hc_ : x5 with
    | inl e =>
      rw [hc_] at hm5
      have hF_ := fold_B_l (Nm := Nm) hB_ hy3 hx3 hy5 hx5 hc_
      have hm5_o := hm5
      obtain ⟨hm5_F, hm5_a, hm5_r, hm5_9, hm5_12, hm5_13, hm5_k⟩ := hm5_o
      obtain ⟨hm5_w, hm5_wh⟩ := hm5_k rfl
      refine g_aload_n E dX13_readBarrier_40 rfl rfl rfl ?_
      refine g_getf E gciX13 dX13_readBarrier_41 hm5_a 9 rfl (by decide) q1749 (.inl rfl) (.int 5) (hm5_9) rfl ?_
      refine g_iconst E (v := 5) dX13_readBarrier_44 (by decide) rfl ?_
      refine g_icmp_ne E dX13_readBarrier_45 (tgt := 49) (by decide) rfl (fun h9 => absurd h9 (by decide)) (fun _ => ?_)
      have y6 := (((hQ.fr  (fun j9 a9 b9 => f1 j9 (by omega))).fr  (fun j9 a9 b9 => f3 j9 (by omega))).fr  (fun j9 a9 b9 => f5 j9 (by omega)))
      exact g_vret E Rt dX13_readBarrier_48 rfl (by decide) (by decide) (⟨rfl, by rw [hF_]; exact ⟨⟨hm5, y6⟩, fun j9 h9 => ((f5 j9 (by omega)).trans (f3 j9 (by omega))).trans (f1 j9 (by omega))⟩⟩)
    | inr t9 =>
      rw [hc_] at hm5
      obtain ⟨a0_, a1_, r0_, hF_, r1_⟩ := fold_B_r (Nm := Nm) hB_ hy3 hx3 hy5 hx5 hc_
      have hm5_o := hm5
      obtain ⟨hm5_F, hm5_a, hm5_r, hm5_9, hm5_12, hm5_8, hm5_10, hm5_11, hm5_14, hm5_k⟩ := hm5_o
      obtain ⟨hm5_w, hm5_wh⟩ := hm5_k rfl
      have hlen9 := hnk.2.2.2.2
      have hwn := hw.1
      have v0_ : zVl 0 y3 = a0_.1 := by rw [r0_]; rfl
      have v1_ : zVl 0 y5 = a1_.1 := by rw [r1_]; rfl
      refine g_aload_n E dX13_readBarrier_40 rfl rfl rfl ?_
      refine g_getf E gciX13 dX13_readBarrier_41 hm5_a 9 rfl (by decide) q1749 (.inl rfl) (.int (zSo t9.2.1)) (hm5_9) rfl ?_
      refine g_iconst E (v := 5) dX13_readBarrier_44 (by decide) rfl ?_
      refine g_icmp_ne E dX13_readBarrier_45 (tgt := 49) (by decide) rfl (fun c45 => ?_) (fun c45 => ?_)
      · refine g_aload_n E dX13_readBarrier_49 rfl rfl rfl ?_
        refine g_getf E gciX13 dX13_readBarrier_50 hm5_a 4 rfl (by decide) q1744 (.inl rfl) (.ref mb) ((hm5_r 4 (.inl (by decide))).trans hF0_4) rfl ?_
        refine g_iload_n E dX13_readBarrier_53 rfl rfl rfl ?_
        have x7 := (f5 (mb) (by omega)).trans ((f3 (mb) (by omega)).trans ((f1 (mb) (by omega)).trans (hQ_a)))
        refine g_putfN E gciX27 (v := .int (nI (zVl 0 y3))) dX13_readBarrier_54 x7 0 rfl (by decide) q1857 (.inl rfl) rfl (fun _ => rfl) (fun _ => rfl) rfl (g_upk (fun g8 h8 f8 => ?_))
        refine g_aload_n E dX13_readBarrier_57 rfl rfl rfl ?_
        have x9 := (f8 (2000) (by omega)).trans (hm5_a)
        refine g_getf E gciX13 dX13_readBarrier_58 x9 4 rfl (by decide) q1744 (.inl rfl) (.ref mb) ((hm5_r 4 (.inl (by decide))).trans hF0_4) rfl ?_
        refine g_iload_n E dX13_readBarrier_61 rfl rfl rfl ?_
        refine g_putfN E gciX27 (v := .int (nI (zVl 0 y5))) dX13_readBarrier_62 h8 1 rfl (by decide) q1858 (.inl rfl) rfl (fun _ => rfl) (fun _ => rfl) rfl (g_upk (fun g10 h10 f10 => ?_))
        have y11 := ((hm5.fr  (fun j9 a9 b9 => f8 j9 (by omega))).fr  (fun j9 a9 b9 => f10 j9 (by omega)))
        exact g_vret E Rt dX13_readBarrier_65 rfl (by decide) (by decide) (⟨rfl, by rw [hF_]; exact ⟨⟨y11, _, zNk_o hnk (s4 rfl rfl rfl rfl), pMt_B hQ ⟨_, h10, (by show Value.int (nI (zVl _ _)) = _; rw [v0_]; rfl), (by show Value.int (nI (zVl _ _)) = _; rw [v1_]; rfl), hQ_2, hQ_3, hQ_4, hQ_5, hQ_6, hQ_7, hQ_8, hQ_9, hQ_10, hQ_11, hQ_12, hQ_13, hQ_14, hQ_15, hQ_16, hQ_17, hQ_18, hQ_19, hQ_20, hQ_21, hQ_22, hQ_23, hQ_24, hQ_25, hQ_26, hQ_27, hQ_28, hQ_29, hQ_30, hQ_31, hQ_32, hQ_33, hQ_34⟩  (fun j9 a9 b9 c0_ => ((((f10 j9 (by omega)).trans (f8 j9 (by omega))).trans (f5 j9 (by omega))).trans (f3 j9 (by omega))).trans (f1 j9 (by omega)))⟩, fun j9 h9 => ((((f10 j9 (by omega)).trans (f8 j9 (by omega))).trans (f5 j9 (by omega))).trans (f3 j9 (by omega))).trans (f1 j9 (by omega))⟩⟩)
      · exact absurd (by first | exact c45 | exact Classical.not_not.mp c45) (zSo_5 _)
  · have ht : B 0 9 = 1 := Classical.byContradiction (fun h9 => c8 (if_neg h9))
    refine g_aload_n E dX13_readBarrier_11 rfl rfl rfl ?_
    refine g_iconst E (v := 3) dX13_readBarrier_12 (by decide) rfl ?_
    refine g_callV (k := 2000) (n9 := 1) (av := [.int 3]) (st := []) E (ct_X13_flaw l 3 hM) gciX13 dX13_readBarrier_13 hM_a q2052 q2054 qs59 q135 q2055 (by decide +kernel) rfl rfl ⟨by decide, by decide⟩ ⟨by decide, by decide⟩ (Nat.le_of_ble_eq_true rfl) rfl (gPn.k (fun g12 h12 => ?_))
    obtain ⟨hm12, f12⟩ := h12
    obtain ⟨x12, hx12⟩ : ∃ y, y = xFl 3 x := ⟨_, rfl⟩
    rw [← hx12] at hm12
    have hm12_o := hm12
    obtain ⟨hm12_F, hm12_a, hm12_r, hm12_s⟩ := hm12_o
    have hokx12 : xOk n x12 := by rw [hx12]; exact xFl_ok
    refine g_aload_n E dX13_readBarrier_16 rfl rfl rfl ?_
    have y13 := (hTp.fr  (fun j9 a9 b9 => f12 j9 (by omega)))
    refine g_callV (k := 2000) (n9 := 0) (av := []) (st := []) E (ct_X13_goesOn l hF0 hm12 y13 (by omega) hokx12 (by rw [hx12]; exact xFl_nb)) gciX13 dX13_readBarrier_17 hm12_a q1989 q1991 qs53 q135 q1992 (by decide +kernel) rfl rfl ⟨by decide, by decide⟩ ⟨by decide, by decide⟩ (Nat.le_of_ble_eq_true rfl) rfl (gPn.k (fun g14 h14 => ?_))
    obtain ⟨hm14, f14⟩ := h14
    obtain ⟨x14, hx14⟩ : ∃ y, y = xGo T n x12 := ⟨_, rfl⟩
    rw [← hx14] at hm14
    have hm14_o := hm14
    obtain ⟨hm14_F, hm14_a, hm14_r, hm14_s⟩ := hm14_o
    have hB_ : x14 = zBd x (zF1 T n B) := by rw [hx14, hx12]; exact zF1_y ht
    have hokx14 : xOk n x14 := by rw [hx14]; exact xGo_ok hokx12
    refine g_aload_n E dX13_readBarrier_20 rfl rfl rfl ?_
    refine g_ldcS E (j := 34) (tx := "fee") rfl dX13_readBarrier_21 rfl ?_
    refine g_iconst E (v := 0) dX13_readBarrier_23 (by decide) rfl ?_
    refine g_bipush E (v := 9) dX13_readBarrier_24 (by decide) rfl ?_
    have y15 := (y13.fr  (fun j9 a9 b9 => f14 j9 (by omega)))
    refine g_callV (k := 2000) (n9 := 3) (av := [.ref (1 + 2 * 34), .int 0, .int 9]) (st := []) E (ct_X13_readPart l 0 9 hF0 hm14 y15 (by omega) hokx14 rfl (wo_dec _ (by decide +kernel)) (by omega) (by omega)) gciX13 dX13_readBarrier_26 hm14_a q2057 q2059 qs60 q135 q2060 (by decide +kernel) rfl rfl ⟨by decide, by decide⟩ ⟨by decide, by decide⟩ (Nat.le_of_ble_eq_true rfl) rfl (gPi.k (fun g16 h16 => ?_))
    obtain ⟨hm16, f16⟩ := h16
    obtain ⟨y16, hy16⟩ : ∃ y, y = zBd x14 (zAf T n (gByt "fee") 0 9) := ⟨_, rfl⟩
    rw [← hy16] at hm16
    refine g_as (y := nI (zVl 0 y16)) (by rw [hy16]) ?_
    obtain ⟨x16, hx16⟩ : ∃ y, y = zSt y16 := ⟨_, rfl⟩
    rw [← hx16] at hm16
    have hm16_o := hm16
    obtain ⟨hm16_F, hm16_a, hm16_r, hm16_s⟩ := hm16_o
    refine g_istore_n E dX13_readBarrier_29 rfl (by decide) rfl (lo1 := [some (.ref 2000), some (.int (nI (zVl 0 y16))), none]) rfl rfl ?_
    have hokx16 : xOk n x16 := by rw [hx16, hy16]; exact zAf_x2 hokx14
    refine g_aload_n E dX13_readBarrier_30 rfl rfl rfl ?_
    refine g_ldcS E (j := 35) (tx := "interest") rfl dX13_readBarrier_31 rfl ?_
    refine g_iconst E (v := 0) dX13_readBarrier_33 (by decide) rfl ?_
    refine g_bipush E (v := 50) dX13_readBarrier_34 (by decide) rfl ?_
    have y17 := (y15.fr  (fun j9 a9 b9 => f16 j9 (by omega)))
    refine g_callV (k := 2000) (n9 := 3) (av := [.ref (1 + 2 * 35), .int 0, .int 50]) (st := []) E (ct_X13_readPart l 0 50 hF0 hm16 y17 (by omega) hokx16 rfl (wo_dec _ (by decide +kernel)) (by omega) (by omega)) gciX13 dX13_readBarrier_36 hm16_a q2057 q2059 qs60 q135 q2060 (by decide +kernel) rfl rfl ⟨by decide, by decide⟩ ⟨by decide, by decide⟩ (Nat.le_of_ble_eq_true rfl) rfl (gPi.k (fun g18 h18 => ?_))
    obtain ⟨hm18, f18⟩ := h18
    obtain ⟨y18, hy18⟩ : ∃ y, y = zBd x16 (zAf T n (gByt "interest") 0 50) := ⟨_, rfl⟩
    rw [← hy18] at hm18
    refine g_as (y := nI (zVl 0 y18)) (by rw [hy18]) ?_
    obtain ⟨x18, hx18⟩ : ∃ y, y = zSt y18 := ⟨_, rfl⟩
    rw [← hx18] at hm18
    have hm18_o := hm18
    obtain ⟨hm18_F, hm18_a, hm18_r, hm18_s⟩ := hm18_o
    refine g_istore_n E dX13_readBarrier_39 rfl (by decide) rfl (lo1 := [some (.ref 2000), some (.int (nI (zVl 0 y16))), some (.int (nI (zVl 0 y18)))]) rfl rfl ?_
    cases hc_ : x18 with
    | inl e =>
      rw [hc_] at hm18
      have hF_ := fold_B_l (Nm := Nm) hB_ hy16 hx16 hy18 hx18 hc_
      have hm18_o := hm18
      obtain ⟨hm18_F, hm18_a, hm18_r, hm18_9, hm18_12, hm18_13, hm18_k⟩ := hm18_o
      obtain ⟨hm18_w, hm18_wh⟩ := hm18_k rfl
      refine g_aload_n E dX13_readBarrier_40 rfl rfl rfl ?_
      refine g_getf E gciX13 dX13_readBarrier_41 hm18_a 9 rfl (by decide) q1749 (.inl rfl) (.int 5) (hm18_9) rfl ?_
      refine g_iconst E (v := 5) dX13_readBarrier_44 (by decide) rfl ?_
      refine g_icmp_ne E dX13_readBarrier_45 (tgt := 49) (by decide) rfl (fun h9 => absurd h9 (by decide)) (fun _ => ?_)
      have y19 := ((((hQ.fr  (fun j9 a9 b9 => f12 j9 (by omega))).fr  (fun j9 a9 b9 => f14 j9 (by omega))).fr  (fun j9 a9 b9 => f16 j9 (by omega))).fr  (fun j9 a9 b9 => f18 j9 (by omega)))
      exact g_vret E Rt dX13_readBarrier_48 rfl (by decide) (by decide) (⟨rfl, by rw [hF_]; exact ⟨⟨hm18, y19⟩, fun j9 h9 => (((f18 j9 (by omega)).trans (f16 j9 (by omega))).trans (f14 j9 (by omega))).trans (f12 j9 (by omega))⟩⟩)
    | inr t9 =>
      rw [hc_] at hm18
      obtain ⟨a0_, a1_, r0_, hF_, r1_⟩ := fold_B_r (Nm := Nm) hB_ hy16 hx16 hy18 hx18 hc_
      have hm18_o := hm18
      obtain ⟨hm18_F, hm18_a, hm18_r, hm18_9, hm18_12, hm18_8, hm18_10, hm18_11, hm18_14, hm18_k⟩ := hm18_o
      obtain ⟨hm18_w, hm18_wh⟩ := hm18_k rfl
      have hlen9 := hnk.2.2.2.2
      have hwn := hw.1
      have v0_ : zVl 0 y16 = a0_.1 := by rw [r0_]; rfl
      have v1_ : zVl 0 y18 = a1_.1 := by rw [r1_]; rfl
      refine g_aload_n E dX13_readBarrier_40 rfl rfl rfl ?_
      refine g_getf E gciX13 dX13_readBarrier_41 hm18_a 9 rfl (by decide) q1749 (.inl rfl) (.int (zSo t9.2.1)) (hm18_9) rfl ?_
      refine g_iconst E (v := 5) dX13_readBarrier_44 (by decide) rfl ?_
      refine g_icmp_ne E dX13_readBarrier_45 (tgt := 49) (by decide) rfl (fun c45 => ?_) (fun c45 => ?_)
      · refine g_aload_n E dX13_readBarrier_49 rfl rfl rfl ?_
        refine g_getf E gciX13 dX13_readBarrier_50 hm18_a 4 rfl (by decide) q1744 (.inl rfl) (.ref mb) ((hm18_r 4 (.inl (by decide))).trans hF0_4) rfl ?_
        refine g_iload_n E dX13_readBarrier_53 rfl rfl rfl ?_
        have x20 := (f18 (mb) (by omega)).trans ((f16 (mb) (by omega)).trans ((f14 (mb) (by omega)).trans ((f12 (mb) (by omega)).trans (hQ_a))))
        refine g_putfN E gciX27 (v := .int (nI (zVl 0 y16))) dX13_readBarrier_54 x20 0 rfl (by decide) q1857 (.inl rfl) rfl (fun _ => rfl) (fun _ => rfl) rfl (g_upk (fun g21 h21 f21 => ?_))
        refine g_aload_n E dX13_readBarrier_57 rfl rfl rfl ?_
        have x22 := (f21 (2000) (by omega)).trans (hm18_a)
        refine g_getf E gciX13 dX13_readBarrier_58 x22 4 rfl (by decide) q1744 (.inl rfl) (.ref mb) ((hm18_r 4 (.inl (by decide))).trans hF0_4) rfl ?_
        refine g_iload_n E dX13_readBarrier_61 rfl rfl rfl ?_
        refine g_putfN E gciX27 (v := .int (nI (zVl 0 y18))) dX13_readBarrier_62 h21 1 rfl (by decide) q1858 (.inl rfl) rfl (fun _ => rfl) (fun _ => rfl) rfl (g_upk (fun g23 h23 f23 => ?_))
        have y24 := ((hm18.fr  (fun j9 a9 b9 => f21 j9 (by omega))).fr  (fun j9 a9 b9 => f23 j9 (by omega)))
        exact g_vret E Rt dX13_readBarrier_65 rfl (by decide) (by decide) (⟨rfl, by rw [hF_]; exact ⟨⟨y24, _, zNk_o hnk (s4 rfl rfl rfl rfl), pMt_B hQ ⟨_, h23, (by show Value.int (nI (zVl _ _)) = _; rw [v0_]; rfl), (by show Value.int (nI (zVl _ _)) = _; rw [v1_]; rfl), hQ_2, hQ_3, hQ_4, hQ_5, hQ_6, hQ_7, hQ_8, hQ_9, hQ_10, hQ_11, hQ_12, hQ_13, hQ_14, hQ_15, hQ_16, hQ_17, hQ_18, hQ_19, hQ_20, hQ_21, hQ_22, hQ_23, hQ_24, hQ_25, hQ_26, hQ_27, hQ_28, hQ_29, hQ_30, hQ_31, hQ_32, hQ_33, hQ_34⟩  (fun j9 a9 b9 c0_ => (((((f23 j9 (by omega)).trans (f21 j9 (by omega))).trans (f18 j9 (by omega))).trans (f16 j9 (by omega))).trans (f14 j9 (by omega))).trans (f12 j9 (by omega)))⟩, fun j9 h9 => (((((f23 j9 (by omega)).trans (f21 j9 (by omega))).trans (f18 j9 (by omega))).trans (f16 j9 (by omega))).trans (f14 j9 (by omega))).trans (f12 j9 (by omega))⟩⟩)
      · exact absurd (by first | exact c45 | exact Classical.not_not.mp c45) (zSo_5 _)
