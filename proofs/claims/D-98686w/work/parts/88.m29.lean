/-! WALKS, twenty-ninth: prices, crumbs, crossings, hiding, goods -/
set_option maxRecDepth 100000
theorem raI {f : Nat → Int32} {m : Nat} {x : Int32} {v : Nat → Nat} (h : ∀ i, i < m → f i = nI (v i)) : ∀ i, i < m + 1 → upd f m x i = if i = m then x else nI (v i) := by
  intro i hi
  unfold upd
  split
  · rfl
  · exact h i (by omega)
section
variable {T : Nat → Int32} {n : Nat} {B : gBar} {Nm : zNm} {t : zTk}
theorem zKs_r {α : Type} {s k : Nat} {F : Nat → zEr α} (h : zKn B Nm t = .inr (s, k)) : zBd (zKs s B Nm t) F = F k := by
  unfold zKs
  rw [zBd_r h]
  show zBd (if s = s then _ else _) F = _
  rw [if_pos rfl]
  rfl
theorem zKs_n {α : Type} {s s1 k : Nat} {F : Nat → zEr α} (h : zKn B Nm t = .inr (s1, k)) (hn : ¬ s1 = s) : zBd (zKs s B Nm t) F = .inl (2, t.2.2.1) := by
  unfold zKs
  rw [zBd_r h]
  show zBd (if s1 = s then _ else _) F = _
  rw [if_neg hn]
  rfl
theorem zKs_e {α : Type} {s : Nat} {e : Nat × Nat} {F : Nat → zEr α} (h : zKn B Nm t = .inl e) : zBd (zKs s B Nm t) F = .inl e := by
  unfold zKs
  rw [zBd_l h]
  rfl
/-- a kind that is kept -/
def zKp (T : Nat → Int32) (n : Nat) (t : zTk) : zEr (Nat × zTk) := if t.2.1 = 2 ∧ t.2.2.2.2 = gByt "plain" then .inr (1, zTn T n t.1) else if t.2.1 = 2 ∧ t.2.2.2.2 = gByt "wine" then .inr (2, zTn T n t.1) else if t.2.1 = 2 ∧ t.2.2.2.2 = gByt "old" then .inr (3, zTn T n t.1) else zBd (zMu T n (gByt "oath") t) fun u => .inr (4, u)
theorem zKp_mv {a : Nat × zTk} (h : zOk n t) (he : zKp T n t = .inr a) : zOk n a.2 ∧ 1 ≤ a.1 ∧ a.1 ≤ 4 := by
  have hn := zTn_ok (T := T) h.1
  unfold zKp at he
  split at he
  · cases he; exact ⟨hn, Nat.le_of_ble_eq_true rfl, Nat.le_of_ble_eq_true rfl⟩
  · split at he
    · cases he; exact ⟨hn, Nat.le_of_ble_eq_true rfl, Nat.le_of_ble_eq_true rfl⟩
    · split at he
      · cases he; exact ⟨hn, Nat.le_of_ble_eq_true rfl, Nat.le_of_ble_eq_true rfl⟩
      · obtain ⟨u, e1, e2⟩ := zBd_inr he
        have e2 := Sum.inr.inj e2
        subst e2
        exact ⟨(zMu_mv h e1).1, Nat.le_of_ble_eq_true rfl, Nat.le_of_ble_eq_true rfl⟩
/-- a good's kind, whose it is, by what it is kept -/
def zGf (T : Nat → Int32) (n : Nat) (B : gBar) (Nm : zNm) (t : zTk) : zEr (Nat × Nat × Nat × zTk) := zBd (zKd T n t) fun kd => zBd (zOb T n B Nm kd.1 kd.2) fun o => .inr (kd.1, o)
theorem zGf_f (hc : t.2.1 = 2 ∧ t.2.2.2.2 = gByt "fresh") : zGf T n B Nm t = zBd (zKx T n 1 B Nm (zTn T n t.1)) fun o => .inr (0, o.1, 0, o.2) := by
  unfold zGf zKd
  rw [if_pos hc]
  show zBd (zOb T n B Nm 0 (zTn T n t.1)) _ = _
  unfold zOb
  cases zKx T n 1 B Nm (zTn T n t.1) with
  | inl e => rfl
  | inr o => rfl
theorem zKd_k (hc : ¬ (t.2.1 = 2 ∧ t.2.2.2.2 = gByt "fresh")) : zKd T n t = zKp T n t := by
  unfold zKd zKp
  rw [if_neg hc]
theorem zGf_k {kd : Nat} {u : zTk} (hc : ¬ (t.2.1 = 2 ∧ t.2.2.2.2 = gByt "fresh")) (hk : zKp T n t = .inr (kd, u)) (h0 : ¬ kd = 0) : zGf T n B Nm t = zBd (zKx T n 1 B Nm u) fun o => zBd (zMu T n (gByt "by") o.2) fun u => zBd (zKx T n 0 B Nm u) fun m => .inr (kd, o.1, m.1, m.2) := by
  unfold zGf
  rw [zKd_k hc, zBd_r hk]
  show zBd (zOb T n B Nm kd u) _ = _
  unfold zOb
  cases zKx T n 1 B Nm u with
  | inl e => rfl
  | inr o =>
    show zBd (if kd = 0 then _ else zBd (zMu T n (gByt "by") o.2) _) _ = (zBd (zMu T n (gByt "by") o.2) fun u => zBd (zKx T n 0 B Nm u) fun m => (.inr (kd, o.1, m.1, m.2) : zEr (Nat × Nat × Nat × zTk)))
    rw [if_neg h0]
    cases zMu T n (gByt "by") o.2 with
    | inl e => rfl
    | inr v =>
      show zBd (zBd (zKx T n 0 B Nm v) _) _ = (zBd (zKx T n 0 B Nm v) fun m => (.inr (kd, o.1, m.1, m.2) : zEr (Nat × Nat × Nat × zTk)))
      cases zKx T n 0 B Nm v with
      | inl e => rfl
      | inr m => rfl
theorem zGf_e {e : Nat × Nat} (hc : ¬ (t.2.1 = 2 ∧ t.2.2.2.2 = gByt "fresh")) (hk : zKp T n t = .inl e) : zGf T n B Nm t = .inl e := by
  unfold zGf
  rw [zKd_k hc, zBd_l hk]
theorem zGf_r {a : Nat × Nat × Nat × zTk} (h : zGf T n B Nm t = .inr a) : ∃ kd o, zKd T n t = .inr kd ∧ zOb T n B Nm kd.1 kd.2 = .inr o ∧ a = (kd.1, o) := by
  unfold zGf at h
  obtain ⟨kd, e1, h⟩ := zBd_inr h
  obtain ⟨o, e2, h⟩ := zBd_inr h
  exact ⟨kd, o, e1, e2, (Sum.inr.inj h).symm⟩
theorem zGf_l {α : Type} {e : Nat × Nat} {F : Nat × zTk → Nat × Nat × zTk → zEr α} (h : zGf T n B Nm t = .inl e) : (zBd (zKd T n t) fun kd => zBd (zOb T n B Nm kd.1 kd.2) fun o => F kd o) = .inl e := by
  unfold zGf at h
  cases h1 : zKd T n t with
  | inl e1 => rw [h1] at h; exact congrArg Sum.inl (Sum.inl.inj h)
  | inr kd =>
    rw [h1] at h
    have h : (zBd (zOb T n B Nm kd.1 kd.2) fun o => (.inr (kd.1, o) : zEr (Nat × Nat × Nat × zTk))) = .inl e := h
    show (zBd (zOb T n B Nm kd.1 kd.2) fun o => F kd o) = .inl e
    cases h2 : zOb T n B Nm kd.1 kd.2 with
    | inl e1 => rw [h2] at h; exact congrArg Sum.inl (Sum.inl.inj h)
    | inr o => rw [h2] at h; cases h
end
/-- on to the token t, with an object at k9 -/
def pSk (g1 g : gWM) (n bb : Nat) (t : zTk) (M N : Nat) (T : Nat → Int32) (k9 : Nat) : Prop := ∃ M1 N1, N ≤ M1 ∧ M1 ≤ N1 ∧ pTk g1 n bb t M1 N1 T ∧ ∀ j, (j ≠ 1002 ∧ j ≠ 1004 ∧ j ≠ k9 ∧ j < M) → g1 j = g j
def pOb (g : gWM) (k ci sw : Nat) : Prop := ∃ F, g k = some (.inr (ci, F)) ∧ F 0 = .int 0 ∧ F 1 = .int 0 ∧ F 2 = .int 0 ∧ F 3 = .int 0 ∧ F 4 = .int 0 ∧ F 5 = .ref sw
def pOc (g : gWM) (bb k sw : Nat) (a : Nat × Nat × Nat × zTk) : Prop := ∃ F, g k = some (.inr (15 + a.1, F)) ∧ F 0 = .int (nI a.2.1) ∧ F 1 = .int 0 ∧ F 2 = .int 0 ∧ F 3 = .int 0 ∧ F 4 = .int 0 ∧ F 5 = .ref sw ∧ (a.1 ≠ 0 → F 7 = .ref (bb + 10 + a.2.2.1))
set_option maxHeartbeats 2000000 in
theorem ct_X2_price (l : Launch) {g : gWM} {n bb M N : Nat} {t : zTk} {T : Nat → Int32} {B : gBar} {Nm : zNm} (hT : pTk g n bb t M N T) (hn : n ≤ 1100) (hok : zOk n t) (hbb : 10000 ≤ bb) (hM : bb + 100 ≤ M) (hMN : M ≤ N) (hw : wfB B) (hQ : pBq g bb B Nm M) (hnl : ∀ s k, s < 4 → k < B 0 s → (Nm s k).length < 1000) (hx : zXs B) (hS9 : pSl g bb B) : gXt l yX2_price cX2_price 2 none 8 12 78 186 [.ref 1002] g (gPe (zLP T n (t, B, Nm)) (fun _ => none) (fun P g1 => pLl g1 g n bb P M T)) (fun g1 => ∃ e, zLP T n (t, B, Nm) = .inl e ∧ pXx g1 g bb e) := by
  refine gXt.of RX2 (by decide) rfl (lo := [some (.ref 1002), none]) 1 rfl (Nat.le_of_ble_eq_true rfl) (fun z E Rx => ?_)
  have hT_o := hT
  obtain ⟨⟨hT_F, hT_a, hT_0, hT_1, hT_2, hT_3, hT_4, hT_5, hT_6, hT_7, hT_8, hT_9⟩, hT_s, ⟨hT_G, hT_b⟩, ⟨hT_l, hT_c⟩, hT_t, hT_z⟩ := hT_o
  have hT_t_o := hT_t
  obtain ⟨hT_t_f, hT_t_a, hT_t_b⟩ := hT_t_o
  have hw_n := hw.1
  have hQ_r := hQ.1
  have hQ_n := hQ.2.2
  have hQ_r_o := hQ_r
  obtain ⟨⟨hQ_r_F, hQ_r_a, hQ_r_0, hQ_r_1, hQ_r_2, hQ_r_3, hQ_r_4, hQ_r_5, hQ_r_6, hQ_r_7, hQ_r_8, hQ_r_9, hQ_r_10, hQ_r_11, hQ_r_12, hQ_r_13, hQ_r_14, hQ_r_15⟩, ⟨hQ_r_f1, hQ_r_a1, hQ_r_b1⟩, ⟨hQ_r_f2, hQ_r_a2, hQ_r_b2⟩, ⟨hQ_r_f3, hQ_r_a3, hQ_r_b3⟩, ⟨hQ_r_f4, hQ_r_a4, hQ_r_b4⟩, ⟨hQ_r_f5, hQ_r_a5, hQ_r_b5⟩, ⟨hQ_r_f6, hQ_r_a6, hQ_r_b6⟩, ⟨hQ_r_f7, hQ_r_a7, hQ_r_b7⟩, hQ_r_c1, hQ_r_c2, hQ_r_c3, hQ_r_c4, hQ_r_c5⟩ := hQ_r_o
  obtain ⟨hQ_G, hQ_ga, hQ_gb⟩ := hQ.2.1
  obtain rfl := inj_obj hQ_r_a hQ_ga
  have hok_o := hok
  obtain ⟨hok_1, hok_2, hok_3, hok_4, hok_5⟩ := hok_o
  have hx9 : B 0 9 ≤ 1 := hx.2.2
  refine g_aload_n E dX2_price_0 rfl rfl rfl ?_
  refine g_iconst E (v := 1) dX2_price_1 (by decide) rfl ?_
  refine g_callVX (k := 1002) (n9 := 1) (av := [.int 1]) (st := []) E Rx (ct_X2_begins l true hT (by omega) hok (by omega) (by omega) (by omega) hw (pBq.mono hQ (by omega)) hnl hx.2.2) gciX2 dX2_price_2 hT_a q820 q822 qs14 q121 q823 (by decide +kernel) rfl rfl ⟨by decide, by decide⟩ ⟨by decide, by decide⟩ (Nat.le_of_ble_eq_true rfl) rfl (fun g9 ⟨e9, h9e, h9p⟩ => ⟨e9, by unfold zLP; rw [zBd_l h9e] <;> rfl, h9p.tr (fun j9 h9 => rfl)⟩) (gPe.kn (fun a1 g1 he1 h1 => ?_))
  obtain ⟨M1, N1, hM1, hN1, hT1, f1⟩ := h1
  have hT1_o := hT1
  obtain ⟨⟨hT1_F, hT1_a, hT1_0, hT1_1, hT1_2, hT1_3, hT1_4, hT1_5, hT1_6, hT1_7, hT1_8, hT1_9⟩, hT1_s, ⟨hT1_G, hT1_b⟩, ⟨hT1_l, hT1_c⟩, hT1_t, hT1_z⟩ := hT1_o
  have hT1_t_o := hT1_t
  obtain ⟨hT1_t_f, hT1_t_a, hT1_t_b⟩ := hT1_t_o
  have hok1 : zOk n a1 := (zBg_ok hok he1).1
  have hok1_o := hok1
  obtain ⟨hok1_1, hok1_2, hok1_3, hok1_4, hok1_5⟩ := hok1_o
  refine g_aload_n E dX2_price_5 rfl rfl rfl ?_
  have y2 := (hQ.fr hw (by omega) (fun j9 a9 b9 => f1 j9 (by omega)))
  refine g_callVX (k := 1002) (n9 := 0) (av := []) (st := []) E Rx (ct_X2_meansHere l hT1 (by omega) hok1 (by omega) (by omega) (by omega) hw (pBq.mono y2 (by omega)) hnl) gciX2 dX2_price_6 hT1_a q1078 q1080 qs25 q121 q1081 (by decide +kernel) rfl rfl ⟨by decide, by decide⟩ ⟨by decide, by decide⟩ (Nat.le_of_ble_eq_true rfl) rfl (fun g9 ⟨e9, h9e, h9p⟩ => ⟨e9, by unfold zLP; rw [zBd_r he1, zBd_l h9e] <;> rfl, h9p.tr (fun j9 h9 => f1 j9 (by omega))⟩) (gPe.kr (fun a3 g3 he3 h3 => ?_))
  obtain ⟨hT3, f3⟩ := h3
  have hT3_o := hT3
  obtain ⟨⟨hT3_F, hT3_a, hT3_0, hT3_1, hT3_2, hT3_3, hT3_4, hT3_5, hT3_6, hT3_7, hT3_8, hT3_9⟩, hT3_s, ⟨hT3_G, hT3_b⟩, ⟨hT3_l, hT3_c⟩, hT3_t, hT3_z⟩ := hT3_o
  have hT3_t_o := hT3_t
  obtain ⟨hT3_t_f, hT3_t_a, hT3_t_b⟩ := hT3_t_o
  have hks3 := zKs_lt he3
  have y4 := (y2.fr hw (by omega) (fun j9 a9 b9 => f3 j9 (by omega)))
  obtain ⟨m5_F, m5_a, m5_1, m5_2, m5_3, m5_4, m5_5, m5_6, m5_7⟩ := pBr.means y4.1 a3 (by omega)
  refine g_astore_n E dX2_price_9 rfl (by decide) rfl (lo1 := [some (.ref 1002), some (.ref (bb + 10 + a3))]) rfl rfl ?_
  refine g_aload_n E dX2_price_10 rfl rfl rfl ?_
  have hks_ := zKs_lt he3
  have hmk := hw.2.1 a3 hks_
  refine g_getf E gciX16 dX2_price_11 m5_a 7 rfl (by decide) q861 (.inl rfl) (.int (nI (B 6 a3))) (m5_7) rfl ?_
  refine g_if_eq E dX2_price_14 (tgt := 23) (by decide) rfl (fun c14 => ?_) (fun c14 => ?_)
  · have c14 := (nI_eq (a := B 6 a3) (b := 0) (by omega) (by omega)).mp c14
    refine g_aload_n E dX2_price_23 rfl rfl rfl ?_
    refine g_callV (k := 1002) (n9 := 0) (av := []) (st := []) E (ct_X2_next l hT3.q (by omega) hok1.1 (by omega) (by omega)) gciX2 dX2_price_24 hT3_a q618 q620 qs4 q121 q621 (by decide +kernel) rfl rfl ⟨by decide, by decide⟩ ⟨by decide, by decide⟩ (Nat.le_of_ble_eq_true rfl) rfl (gPn.k (fun g6 h6 => ?_))
    obtain ⟨M6, N6, hM6, hN6, hT6, f6⟩ := h6
    have hT6_o := hT6
    obtain ⟨⟨hT6_F, hT6_a, hT6_0, hT6_1, hT6_2, hT6_3, hT6_4, hT6_5, hT6_6, hT6_7, hT6_8, hT6_9⟩, hT6_s, ⟨hT6_G, hT6_b⟩, ⟨hT6_l, hT6_c⟩, hT6_t, hT6_z⟩ := hT6_o
    have hT6_t_o := hT6_t
    obtain ⟨hT6_t_f, hT6_t_a, hT6_t_b⟩ := hT6_t_o
    have hok6 : zOk n (zTn T n a1.1) := zTn_ok hok1.1
    have hok6_o := hok6
    obtain ⟨hok6_1, hok6_2, hok6_3, hok6_4, hok6_5⟩ := hok6_o
    refine g_aload_n E dX2_price_27 rfl rfl rfl ?_
    refine g_aload_n E dX2_price_28 rfl rfl rfl ?_
    refine g_ldcwS E (j := 31) (tx := "here") rfl dX2_price_29 rfl ?_
    refine g_iconst E (v := 0) dX2_price_32 (by decide) rfl ?_
    refine g_bipush E (v := 99) dX2_price_33 (by decide) rfl ?_
    refine g_callVX (k := 1002) (n9 := 3) (av := [.ref (1 + 2 * 31), .int 0, .int 99]) (st := [.ref (bb + 10 + a3)]) E Rx (ct_X2_after l 0 99 hT6 (by omega) hok6 (by omega) (by omega) (by omega) rfl (by omega) (by omega)) gciX2 dX2_price_35 hT6_a q799 q801 qs9 q121 q802 (by decide +kernel) rfl rfl ⟨by decide, by decide⟩ ⟨by decide, by decide⟩ (Nat.le_of_ble_eq_true rfl) rfl (fun g9 ⟨e9, h9e, h9p⟩ => ⟨e9, by unfold zLP; rw [zBd_r he1, zBd_r he3, if_neg (show ¬ B 6 a3 = 1 by omega), zBd_l h9e] <;> rfl, h9p.tr (fun j9 h9 => ((f6 j9 (by omega)).trans (f3 j9 (by omega))).trans (f1 j9 (by omega)))⟩) (gPe.ki (fun a7 g7 he7 h7 => ?_))
    have hin7 := zAf_in he7
    obtain ⟨M7, N7, hM7, hN7, hT7, f7⟩ := h7
    have hT7_o := hT7
    obtain ⟨⟨hT7_F, hT7_a, hT7_0, hT7_1, hT7_2, hT7_3, hT7_4, hT7_5, hT7_6, hT7_7, hT7_8, hT7_9⟩, hT7_s, ⟨hT7_G, hT7_b⟩, ⟨hT7_l, hT7_c⟩, hT7_t, hT7_z⟩ := hT7_o
    have hT7_t_o := hT7_t
    obtain ⟨hT7_t_f, hT7_t_a, hT7_t_b⟩ := hT7_t_o
    have hok7 : zOk n a7.2 := zAf_ok hok6 he7
    have hok7_o := hok7
    obtain ⟨hok7_1, hok7_2, hok7_3, hok7_4, hok7_5⟩ := hok7_o
    have x8 := (f7 (bb + 10 + a3) (by omega)).trans ((f6 (bb + 10 + a3) (by omega)).trans (m5_a))
    refine g_putf E gciX16 (v := .int (nI (a7.1))) dX2_price_38 x8 5 rfl (by decide) q858 (.inl rfl) rfl (fun _ => rfl) (fun _ => rfl) rfl (g_upk (fun g9 h9 f9 => ?_))
    refine g_aload_n E dX2_price_41 rfl rfl rfl ?_
    refine g_aload_n E dX2_price_42 rfl rfl rfl ?_
    refine g_ldcwS E (j := 32) (tx := "there") rfl dX2_price_43 rfl ?_
    refine g_iconst E (v := 0) dX2_price_46 (by decide) rfl ?_
    refine g_bipush E (v := 99) dX2_price_47 (by decide) rfl ?_
    have x10 := (f9 (1002) (by omega)).trans (hT7_a)
    have x12 := (f9 (1003) (by omega)).trans (hT7_b)
    have x13 := (f9 (1004) (by omega)).trans (hT7_c)
    have y14 := (hT7_t.fr  (fun j9 a9 b9 => f9 j9 (by omega)))
    have hT11 : pTk g9 n bb a7.2 M7 N7 T := ⟨⟨_, x10, hT7_0, hT7_1, hT7_2, hT7_3, hT7_4, hT7_5, hT7_6, hT7_7, hT7_8, hT7_9⟩, (fun h8 => ⟨(hT7_s h8).1.fr (fun j9 a9 b9 => f9 j9 (by omega)), (hT7_s h8).2⟩), ⟨_, x12⟩, ⟨_, x13⟩, y14, fun j9 a9 => (f9 j9 (by omega)).trans (hT7_z j9 (by omega))⟩
    refine g_callVX (k := 1002) (n9 := 3) (av := [.ref (1 + 2 * 32), .int 0, .int 99]) (st := [.ref (bb + 10 + a3)]) E Rx (ct_X2_after l 0 99 hT11 (by omega) hok7 (by omega) (by omega) (by omega) rfl (by omega) (by omega)) gciX2 dX2_price_49 x10 q799 q801 qs9 q121 q802 (by decide +kernel) rfl rfl ⟨by decide, by decide⟩ ⟨by decide, by decide⟩ (Nat.le_of_ble_eq_true rfl) rfl (fun g9 ⟨e9, h9e, h9p⟩ => ⟨e9, by unfold zLP; rw [zBd_r he1, zBd_r he3, if_neg (show ¬ B 6 a3 = 1 by omega), zBd_r he7, zBd_l h9e] <;> rfl, h9p.tr (fun j9 h9 => ((((f9 j9 (by omega)).trans (f7 j9 (by omega))).trans (f6 j9 (by omega))).trans (f3 j9 (by omega))).trans (f1 j9 (by omega)))⟩) (gPe.ki (fun a15 g15 he15 h15 => ?_))
    have hin15 := zAf_in he15
    obtain ⟨M15, N15, hM15, hN15, hT15, f15⟩ := h15
    have hT15_o := hT15
    obtain ⟨⟨hT15_F, hT15_a, hT15_0, hT15_1, hT15_2, hT15_3, hT15_4, hT15_5, hT15_6, hT15_7, hT15_8, hT15_9⟩, hT15_s, ⟨hT15_G, hT15_b⟩, ⟨hT15_l, hT15_c⟩, hT15_t, hT15_z⟩ := hT15_o
    have hT15_t_o := hT15_t
    obtain ⟨hT15_t_f, hT15_t_a, hT15_t_b⟩ := hT15_t_o
    have hok15 : zOk n a15.2 := zAf_ok hok7 he15
    have hok15_o := hok15
    obtain ⟨hok15_1, hok15_2, hok15_3, hok15_4, hok15_5⟩ := hok15_o
    have x16 := (f15 (bb + 10 + a3) (by omega)).trans (h9)
    refine g_putf E gciX16 (v := .int (nI (a15.1))) dX2_price_52 x16 6 rfl (by decide) q860 (.inl rfl) rfl (fun _ => rfl) (fun _ => rfl) rfl (g_upk (fun g17 h17 f17 => ?_))
    refine g_aload_n E dX2_price_55 rfl rfl rfl ?_
    refine g_iconst E (v := 1) dX2_price_56 (by decide) rfl ?_
    refine g_putf E gciX16 (v := .int 1) dX2_price_57 h17 7 rfl (by decide) q861 (.inl rfl) rfl (fun _ => show narrow .boolean (.int 1) = .int 1 by decide) (fun _ => show fits .boolean (.int 1) = true by decide) rfl (g_upk (fun g18 h18 f18 => ?_))
    refine g_aload_n E dX2_price_60 rfl rfl rfl ?_
    have x19 := (f18 (1002) (by omega)).trans ((f17 (1002) (by omega)).trans (hT15_a))
    refine g_getf E gciX2 dX2_price_61 x19 9 rfl (by decide) q255 (.inl rfl) (.ref bb) (hT15_9) rfl ?_
    refine g_dup E dX2_price_64 rfl rfl ?_
    have x20 := (f18 (bb) (by omega)).trans ((f17 (bb) (by omega)).trans ((f15 (bb) (by omega)).trans ((f9 (bb) (by omega)).trans ((f7 (bb) (by omega)).trans ((f6 (bb) (by omega)).trans ((f3 (bb) (by omega)).trans ((f1 (bb) (by omega)).trans (hQ_r_a))))))))
    refine g_getf E gciX14 dX2_price_65 x20 14 rfl (by decide) q577 (.inl rfl) (.int (nI (B 0 5))) (hQ_r_14) rfl ?_
    refine g_iconst E (v := 1) dX2_price_68 (by decide) rfl ?_
    refine g_iadd E dX2_price_69 rfl ?_
    refine g_as (y := nI (B 0 5 + 1)) ((nI_succ _).symm) ?_
    refine g_putf E gciX14 (v := .int (nI (B 0 5 + 1))) dX2_price_70 x20 14 rfl (by decide) q577 (.inl rfl) rfl (fun _ => rfl) (fun _ => rfl) rfl (g_upk (fun g21 h21 f21 => ?_))
    have x22 := (f21 (1002) (by omega)).trans (x19)
    have x24 := (f21 (1003) (by omega)).trans ((f18 (1003) (by omega)).trans ((f17 (1003) (by omega)).trans (hT15_b)))
    have x25 := (f21 (1004) (by omega)).trans ((f18 (1004) (by omega)).trans ((f17 (1004) (by omega)).trans (hT15_c)))
    have y26 := (((hT15_t.fr  (fun j9 a9 b9 => f17 j9 (by omega))).fr  (fun j9 a9 b9 => f18 j9 (by omega))).fr  (fun j9 a9 b9 => f21 j9 (by omega)))
    have hT23 : pTk g21 n bb a15.2 M15 N15 T := ⟨⟨_, x22, hT15_0, hT15_1, hT15_2, hT15_3, hT15_4, hT15_5, hT15_6, hT15_7, hT15_8, hT15_9⟩, (fun h8 => ⟨(hT15_s h8).1.fr (fun j9 a9 b9 => ((f21 j9 (by omega)).trans (f18 j9 (by omega))).trans (f17 j9 (by omega))), (hT15_s h8).2⟩), ⟨_, x24⟩, ⟨_, x25⟩, y26, fun j9 a9 => (f21 j9 (by omega)).trans ((f18 j9 (by omega)).trans ((f17 j9 (by omega)).trans (hT15_z j9 (by omega))))⟩
    have x27 := (f21 (bb + 10 + a3) (by omega)).trans (h18)
    exact (gRx_leave Rx E).elim (fun z9 h9z => h9z.2.2 _ _ _ _ _ _ (g_vret h9z.2.1 h9z.1 dX2_price_73 rfl (by decide) (by decide) (⟨(a15.2, bs (bs (bs (bs B 4 a3 a7.1) 5 a3 a15.1) 6 a3 1) 0 5 (B 0 5 + 1), Nm), by unfold zLP; rw [zBd_r he1, zBd_r he3, if_neg (show ¬ B 6 a3 = 1 by omega), zBd_r he7, zBd_r he15] <;> rfl, rfl, M15, N15, by omega, by omega, hT23, pBq_P hw hx hQ hM (by omega) hks_ hin7.2 hin15.2 (⟨_, h21, hQ_r_0, hQ_r_1, hQ_r_2, hQ_r_3, hQ_r_4, hQ_r_5, hQ_r_6, hQ_r_7, hQ_r_8, hQ_r_9, hQ_r_10, hQ_r_11, hQ_r_12, hQ_r_13, rfl, hQ_r_15, hQ_gb⟩) ⟨_, _, x27, ((f3 _ (by omega)).trans (f1 _ (by omega))).symm.trans m5_a, fun i8 h8 => by unfold va_up; rw [if_neg (by omega), if_neg (by omega), if_neg (by omega)], rfl, rfl, rfl⟩ (fun j9 a9 b9 c0_ c1_ => ((((((((f21 j9 (by omega)).trans (f18 j9 (by omega))).trans (f17 j9 (by omega))).trans (f15 j9 (by omega))).trans (f9 j9 (by omega))).trans (f7 j9 (by omega))).trans (f6 j9 (by omega))).trans (f3 j9 (by omega))).trans (f1 j9 (by omega))), pSl_P hw hS9 hks_ hin7.2 hin15.2 (fun j9 a9 b9 c0_ c1_ => ((((((((f21 j9 (by omega)).trans (f18 j9 (by omega))).trans (f17 j9 (by omega))).trans (f15 j9 (by omega))).trans (f9 j9 (by omega))).trans (f7 j9 (by omega))).trans (f6 j9 (by omega))).trans (f3 j9 (by omega))).trans (f1 j9 (by omega))), fun j9 h9 => ((((((((f21 j9 (by omega)).trans (f18 j9 (by omega))).trans (f17 j9 (by omega))).trans (f15 j9 (by omega))).trans (f9 j9 (by omega))).trans (f7 j9 (by omega))).trans (f6 j9 (by omega))).trans (f3 j9 (by omega))).trans (f1 j9 (by omega))⟩)))
  · have c14 := mt (nI_eq (a := B 6 a3) (b := 0) (by omega) (by omega)).mpr c14
    refine g_aload_n E dX2_price_17 rfl rfl rfl ?_
    refine g_iconst E (v := 3) dX2_price_18 (by decide) rfl ?_
    refine g_callV (k := 1002) (n9 := 1) (av := [.int 3]) (st := []) E (ct_X2_fail l 3 (⟨_, hT3_a, hT3_0, hT3_6⟩) (⟨_, hT3_b⟩)) gciX2 dX2_price_19 hT3_a q716 q718 qs7 q121 q719 (by decide +kernel) rfl rfl ⟨by decide, by decide⟩ ⟨by decide, by decide⟩ (Nat.le_of_ble_eq_true rfl) rfl (gPr.k (fun g28 h28 => ?_))
    obtain ⟨⟨F28, h28, h28a, h28b⟩, f28⟩ := h28
    have x29 := (f28 (1002) (by omega)).trans (hT3_a)
    have x30 := (f28 (1004) (by omega)).trans (hT3_c)
    exact g_athrow E Rx dX2_price_22 h28 (by decide) (by decide) (⟨(3, a1.2.2.1), by unfold zLP; rw [zBd_r he1, zBd_r he3, if_pos (show B 6 a3 = 1 by omega)] <;> rfl, ⟨⟨_, h28, h28a, h28b⟩, ⟨_, x29, hT3_0, hT3_1, hT3_2⟩, ⟨_, x30⟩, ⟨N1, by omega, fun j9 a9 => (f28 j9 (by omega)).trans (hT3_z j9 (by omega))⟩, fun j9 h9 => ((f28 j9 (by omega)).trans (f3 j9 (by omega))).trans (f1 j9 (by omega))⟩⟩)
set_option maxHeartbeats 2000000 in
theorem ct_X2_crumb (l : Launch) {g : gWM} {n bb M N : Nat} {t : zTk} {T : Nat → Int32} {B : gBar} {Nm : zNm} (hT : pTk g n bb t M N T) (hn : n ≤ 1100) (hok : zOk n t) (hbb : 10000 ≤ bb) (hM : bb + 100 ≤ M) (hMN : M ≤ N) (hw : wfB B) (hQ : pBq g bb B Nm M) (hnl : ∀ s k, s < 4 → k < B 0 s → (Nm s k).length < 1000) (hx : zXs B) (hS9 : pSl g bb B) : gXt l yX2_crumb cX2_crumb 2 none 8 8 52 186 [.ref 1002] g (gPe (zLK T n (t, B, Nm)) (fun _ => none) (fun P g1 => pLl g1 g n bb P M T)) (fun g1 => ∃ e, zLK T n (t, B, Nm) = .inl e ∧ pXx g1 g bb e) := by
  refine gXt.of RX2 (by decide) rfl (lo := [some (.ref 1002), none]) 1 rfl (Nat.le_of_ble_eq_true rfl) (fun z E Rx => ?_)
  have hT_o := hT
  obtain ⟨⟨hT_F, hT_a, hT_0, hT_1, hT_2, hT_3, hT_4, hT_5, hT_6, hT_7, hT_8, hT_9⟩, hT_s, ⟨hT_G, hT_b⟩, ⟨hT_l, hT_c⟩, hT_t, hT_z⟩ := hT_o
  have hT_t_o := hT_t
  obtain ⟨hT_t_f, hT_t_a, hT_t_b⟩ := hT_t_o
  have hw_n := hw.1
  have hQ_r := hQ.1
  have hQ_n := hQ.2.2
  have hQ_r_o := hQ_r
  obtain ⟨⟨hQ_r_F, hQ_r_a, hQ_r_0, hQ_r_1, hQ_r_2, hQ_r_3, hQ_r_4, hQ_r_5, hQ_r_6, hQ_r_7, hQ_r_8, hQ_r_9, hQ_r_10, hQ_r_11, hQ_r_12, hQ_r_13, hQ_r_14, hQ_r_15⟩, ⟨hQ_r_f1, hQ_r_a1, hQ_r_b1⟩, ⟨hQ_r_f2, hQ_r_a2, hQ_r_b2⟩, ⟨hQ_r_f3, hQ_r_a3, hQ_r_b3⟩, ⟨hQ_r_f4, hQ_r_a4, hQ_r_b4⟩, ⟨hQ_r_f5, hQ_r_a5, hQ_r_b5⟩, ⟨hQ_r_f6, hQ_r_a6, hQ_r_b6⟩, ⟨hQ_r_f7, hQ_r_a7, hQ_r_b7⟩, hQ_r_c1, hQ_r_c2, hQ_r_c3, hQ_r_c4, hQ_r_c5⟩ := hQ_r_o
  obtain ⟨hQ_G, hQ_ga, hQ_gb⟩ := hQ.2.1
  obtain rfl := inj_obj hQ_r_a hQ_ga
  have hok_o := hok
  obtain ⟨hok_1, hok_2, hok_3, hok_4, hok_5⟩ := hok_o
  have hx9 : B 0 9 ≤ 1 := hx.2.2
  refine g_aload_n E dX2_crumb_0 rfl rfl rfl ?_
  refine g_aload_n E dX2_crumb_1 rfl rfl rfl ?_
  refine g_getf E gciX2 dX2_crumb_2 hT_a 9 rfl (by decide) q255 (.inl rfl) (.ref bb) (hT_9) rfl ?_
  refine g_getf E gciX14 dX2_crumb_5 hQ_r_a 15 rfl (by decide) q580 (.inl rfl) (.int (nI (B 0 6))) (hQ_r_15) rfl ?_
  refine g_iconst E (v := 5) dX2_crumb_8 (by decide) rfl ?_
  refine g_icmp_ge E dX2_crumb_9 (tgt := 16) (by decide) rfl (fun c9 => ?_) (fun c9 => ?_)
  · have c9 := (nI_leI (a := 5) (b := B 0 6) (by omega) (by omega)).mp c9
    refine g_iconst E (v := 0) dX2_crumb_16 (by decide) rfl ?_
    have hcan : decide (B 0 6 < 5) = false := decide_eq_false (by omega)
    refine g_callVX (k := 1002) (n9 := 1) (av := [.int 0]) (st := []) E Rx (ct_X2_begins l false hT (by omega) hok (by omega) (by omega) (by omega) hw (pBq.mono hQ (by omega)) hnl hx.2.2) gciX2 dX2_crumb_17 hT_a q820 q822 qs14 q121 q823 (by decide +kernel) rfl rfl ⟨by decide, by decide⟩ ⟨by decide, by decide⟩ (Nat.le_of_ble_eq_true rfl) rfl (fun g9 ⟨e9, h9e, h9p⟩ => ⟨e9, by unfold zLK; rw [show decide (B 0 6 < 5) = false from hcan, zBd_l h9e] <;> rfl, h9p.tr (fun j9 h9 => rfl)⟩) (gPe.kn (fun a1 g1 he1 h1 => ?_))
    exact absurd (zBg_ok hok he1).2.1 Bool.false_ne_true
  · have c9 := mt (nI_leI (a := 5) (b := B 0 6) (by omega) (by omega)).mpr c9
    refine g_iconst E (v := 1) dX2_crumb_12 (by decide) rfl ?_
    refine g_goto E dX2_crumb_13 (tgt := 17) (by decide) ?_
    have hcan : decide (B 0 6 < 5) = true := decide_eq_true (by omega)
    have hc4 : B 0 6 < 5 := by omega
    refine g_callVX (k := 1002) (n9 := 1) (av := [.int 1]) (st := []) E Rx (ct_X2_begins l true hT (by omega) hok (by omega) (by omega) (by omega) hw (pBq.mono hQ (by omega)) hnl hx.2.2) gciX2 dX2_crumb_17 hT_a q820 q822 qs14 q121 q823 (by decide +kernel) rfl rfl ⟨by decide, by decide⟩ ⟨by decide, by decide⟩ (Nat.le_of_ble_eq_true rfl) rfl (fun g9 ⟨e9, h9e, h9p⟩ => ⟨e9, by unfold zLK; rw [show decide (B 0 6 < 5) = true from hcan, zBd_l h9e] <;> rfl, h9p.tr (fun j9 h9 => rfl)⟩) (gPe.kn (fun a2 g2 he2 h2 => ?_))
    obtain ⟨M2, N2, hM2, hN2, hT2, f2⟩ := h2
    have hT2_o := hT2
    obtain ⟨⟨hT2_F, hT2_a, hT2_0, hT2_1, hT2_2, hT2_3, hT2_4, hT2_5, hT2_6, hT2_7, hT2_8, hT2_9⟩, hT2_s, ⟨hT2_G, hT2_b⟩, ⟨hT2_l, hT2_c⟩, hT2_t, hT2_z⟩ := hT2_o
    have hT2_t_o := hT2_t
    obtain ⟨hT2_t_f, hT2_t_a, hT2_t_b⟩ := hT2_t_o
    have hok2 : zOk n a2 := (zBg_ok hok he2).1
    have hok2_o := hok2
    obtain ⟨hok2_1, hok2_2, hok2_3, hok2_4, hok2_5⟩ := hok2_o
    refine g_aload_n E dX2_crumb_20 rfl rfl rfl ?_
    have y3 := (hQ.fr hw (by omega) (fun j9 a9 b9 => f2 j9 (by omega)))
    refine g_callVX (k := 1002) (n9 := 0) (av := []) (st := []) E Rx (ct_X2_means l hT2 (by omega) hok2 (by omega) (by omega) (by omega) hw (pBq.mono y3 (by omega)) hnl) gciX2 dX2_crumb_21 hT2_a q1074 q1076 qs24 q121 q1077 (by decide +kernel) rfl rfl ⟨by decide, by decide⟩ ⟨by decide, by decide⟩ (Nat.le_of_ble_eq_true rfl) rfl (fun g9 ⟨e9, h9e, h9p⟩ => ⟨e9, by unfold zLK; rw [show decide (B 0 6 < 5) = true from hcan, zBd_r he2, zBd_l h9e] <;> rfl, h9p.tr (fun j9 h9 => f2 j9 (by omega))⟩) (gPe.kr (fun a4 g4 he4 h4 => ?_))
    obtain ⟨M4, N4, hM4, hN4, hT4, f4⟩ := h4
    have hT4_o := hT4
    obtain ⟨⟨hT4_F, hT4_a, hT4_0, hT4_1, hT4_2, hT4_3, hT4_4, hT4_5, hT4_6, hT4_7, hT4_8, hT4_9⟩, hT4_s, ⟨hT4_G, hT4_b⟩, ⟨hT4_l, hT4_c⟩, hT4_t, hT4_z⟩ := hT4_o
    have hT4_t_o := hT4_t
    obtain ⟨hT4_t_f, hT4_t_a, hT4_t_b⟩ := hT4_t_o
    have hok4 : zOk n a4.2 := (zKx_ok hok2 he4).1
    have hok4_o := hok4
    obtain ⟨hok4_1, hok4_2, hok4_3, hok4_4, hok4_5⟩ := hok4_o
    have hkx4 := (zKx_ok hok2 he4).2
    have y5 := (y3.fr hw (by omega) (fun j9 a9 b9 => f4 j9 (by omega)))
    obtain ⟨m6_F, m6_a, m6_1, m6_2, m6_3, m6_4, m6_5, m6_6, m6_7⟩ := pBr.means y5.1 a4.1 (by omega)
    refine g_getf E gciX16 dX2_crumb_24 m6_a 1 rfl (by decide) q869 (.inr q866) (.int (nI a4.1)) (m6_1) rfl ?_
    refine g_istore_n E dX2_crumb_27 rfl (by decide) rfl (lo1 := [some (.ref 1002), some (.int (nI a4.1))]) rfl rfl ?_
    refine g_aload_n E dX2_crumb_28 rfl rfl rfl ?_
    refine g_getf E gciX2 dX2_crumb_29 hT4_a 9 rfl (by decide) q255 (.inl rfl) (.ref bb) (hT4_9) rfl ?_
    have x7 := (f4 (bb) (by omega)).trans ((f2 (bb) (by omega)).trans (hQ_r_a))
    refine g_getf E gciX14 dX2_crumb_32 x7 6 rfl (by decide) q552 (.inl rfl) (.ref (bb + 7)) (hQ_r_6) rfl ?_
    refine g_aload_n E dX2_crumb_35 rfl rfl rfl ?_
    refine g_getf E gciX2 dX2_crumb_36 hT4_a 9 rfl (by decide) q255 (.inl rfl) (.ref bb) (hT4_9) rfl ?_
    refine g_getf E gciX14 dX2_crumb_39 x7 15 rfl (by decide) q580 (.inl rfl) (.int (nI (B 0 6))) (hQ_r_15) rfl ?_
    refine g_aload_n E dX2_crumb_42 rfl rfl rfl ?_
    refine g_ldcwS E (j := 29) (tx := "day") rfl dX2_crumb_43 rfl ?_
    refine g_iconst E (v := 0) dX2_crumb_46 (by decide) rfl ?_
    refine g_bipush E (v := 60) dX2_crumb_47 (by decide) rfl ?_
    refine g_callVX (k := 1002) (n9 := 3) (av := [.ref (1 + 2 * 29), .int 0, .int 60]) (st := [.int (nI (B 0 6)), .ref (bb + 7)]) E Rx (ct_X2_after l 0 60 hT4 (by omega) hok4 (by omega) (by omega) (by omega) rfl (by omega) (by omega)) gciX2 dX2_crumb_49 hT4_a q799 q801 qs9 q121 q802 (by decide +kernel) rfl rfl ⟨by decide, by decide⟩ ⟨by decide, by decide⟩ (Nat.le_of_ble_eq_true rfl) rfl (fun g9 ⟨e9, h9e, h9p⟩ => ⟨e9, by unfold zLK; rw [show decide (B 0 6 < 5) = true from hcan, zBd_r he2, zBd_r he4, zBd_l h9e] <;> rfl, h9p.tr (fun j9 h9 => (f4 j9 (by omega)).trans (f2 j9 (by omega)))⟩) (gPe.ki (fun a8 g8 he8 h8 => ?_))
    have hin8 := zAf_in he8
    obtain ⟨M8, N8, hM8, hN8, hT8, f8⟩ := h8
    have hT8_o := hT8
    obtain ⟨⟨hT8_F, hT8_a, hT8_0, hT8_1, hT8_2, hT8_3, hT8_4, hT8_5, hT8_6, hT8_7, hT8_8, hT8_9⟩, hT8_s, ⟨hT8_G, hT8_b⟩, ⟨hT8_l, hT8_c⟩, hT8_t, hT8_z⟩ := hT8_o
    have hT8_t_o := hT8_t
    obtain ⟨hT8_t_f, hT8_t_a, hT8_t_b⟩ := hT8_t_o
    have hok8 : zOk n a8.2 := zAf_ok hok4 he8
    have hok8_o := hok8
    obtain ⟨hok8_1, hok8_2, hok8_3, hok8_4, hok8_5⟩ := hok8_o
    have x9 := (f8 (bb + 7) (by omega)).trans ((f4 (bb + 7) (by omega)).trans ((f2 (bb + 7) (by omega)).trans (hQ_r_a7)))
    refine g_iast E dX2_crumb_52 (j := B 0 6) x9 (rfl) (by omega) (by decide) rfl (g_upk (fun g10 h10 f10 => ?_))
    refine g_aload_n E dX2_crumb_53 rfl rfl rfl ?_
    have x11 := (f10 (1002) (by omega)).trans (hT8_a)
    refine g_getf E gciX2 dX2_crumb_54 x11 9 rfl (by decide) q255 (.inl rfl) (.ref bb) (hT8_9) rfl ?_
    have x12 := (f10 (bb) (by omega)).trans ((f8 (bb) (by omega)).trans (x7))
    refine g_getf E gciX14 dX2_crumb_57 x12 5 rfl (by decide) q549 (.inl rfl) (.ref (bb + 6)) (hQ_r_5) rfl ?_
    refine g_aload_n E dX2_crumb_60 rfl rfl rfl ?_
    refine g_getf E gciX2 dX2_crumb_61 x11 9 rfl (by decide) q255 (.inl rfl) (.ref bb) (hT8_9) rfl ?_
    refine g_getf E gciX14 dX2_crumb_64 x12 15 rfl (by decide) q580 (.inl rfl) (.int (nI (B 0 6))) (hQ_r_15) rfl ?_
    refine g_iload_n E dX2_crumb_67 rfl rfl rfl ?_
    have x13 := (f10 (bb + 6) (by omega)).trans ((f8 (bb + 6) (by omega)).trans ((f4 (bb + 6) (by omega)).trans ((f2 (bb + 6) (by omega)).trans (hQ_r_a6))))
    refine g_iast E dX2_crumb_68 (j := B 0 6) x13 (rfl) (by omega) (by decide) rfl (g_upk (fun g14 h14 f14 => ?_))
    refine g_aload_n E dX2_crumb_69 rfl rfl rfl ?_
    have x15 := (f14 (1002) (by omega)).trans (x11)
    refine g_getf E gciX2 dX2_crumb_70 x15 9 rfl (by decide) q255 (.inl rfl) (.ref bb) (hT8_9) rfl ?_
    refine g_dup E dX2_crumb_73 rfl rfl ?_
    have x16 := (f14 (bb) (by omega)).trans (x12)
    refine g_getf E gciX14 dX2_crumb_74 x16 15 rfl (by decide) q580 (.inl rfl) (.int (nI (B 0 6))) (hQ_r_15) rfl ?_
    refine g_iconst E (v := 1) dX2_crumb_77 (by decide) rfl ?_
    refine g_iadd E dX2_crumb_78 rfl ?_
    refine g_as (y := nI (B 0 6 + 1)) ((nI_succ _).symm) ?_
    refine g_putf E gciX14 (v := .int (nI (B 0 6 + 1))) dX2_crumb_79 x16 15 rfl (by decide) q580 (.inl rfl) rfl (fun _ => rfl) (fun _ => rfl) rfl (g_upk (fun g17 h17 f17 => ?_))
    have x18 := (f17 (1002) (by omega)).trans (x15)
    have x20 := (f17 (1003) (by omega)).trans ((f14 (1003) (by omega)).trans ((f10 (1003) (by omega)).trans (hT8_b)))
    have x21 := (f17 (1004) (by omega)).trans ((f14 (1004) (by omega)).trans ((f10 (1004) (by omega)).trans (hT8_c)))
    have y22 := (((hT8_t.fr  (fun j9 a9 b9 => f10 j9 (by omega))).fr  (fun j9 a9 b9 => f14 j9 (by omega))).fr  (fun j9 a9 b9 => f17 j9 (by omega)))
    have hT19 : pTk g17 n bb a8.2 M8 N8 T := ⟨⟨_, x18, hT8_0, hT8_1, hT8_2, hT8_3, hT8_4, hT8_5, hT8_6, hT8_7, hT8_8, hT8_9⟩, (fun h8 => ⟨(hT8_s h8).1.fr (fun j9 a9 b9 => ((f17 j9 (by omega)).trans (f14 j9 (by omega))).trans (f10 j9 (by omega))), (hT8_s h8).2⟩), ⟨_, x20⟩, ⟨_, x21⟩, y22, fun j9 a9 => (f17 j9 (by omega)).trans ((f14 j9 (by omega)).trans ((f10 j9 (by omega)).trans (hT8_z j9 (by omega))))⟩
    have x23 := (f17 (bb + 6) (by omega)).trans (h14)
    have x24 := (f17 (bb + 7) (by omega)).trans ((f14 (bb + 7) (by omega)).trans (h10))
    exact (gRx_leave Rx E).elim (fun z9 h9z => h9z.2.2 _ _ _ _ _ _ (g_vret h9z.2.1 h9z.1 dX2_crumb_82 rfl (by decide) (by decide) (⟨(a8.2, bs (bs (bs B 24 (B 0 6) a8.1) 23 (B 0 6) a4.1) 0 6 (B 0 6 + 1), Nm), by unfold zLK; rw [show decide (B 0 6 < 5) = true from hcan, zBd_r he2, zBd_r he4, zBd_r he8] <;> rfl, rfl, M8, N8, by omega, by omega, hT19, pBq_K hw hx hQ hM (by omega) hc4 (zKx_mv hok2 he4).2.2 hin8.2 (⟨_, h17, hQ_r_0, hQ_r_1, hQ_r_2, hQ_r_3, hQ_r_4, hQ_r_5, hQ_r_6, hQ_r_7, hQ_r_8, hQ_r_9, hQ_r_10, hQ_r_11, hQ_r_12, hQ_r_13, hQ_r_14, rfl, hQ_gb⟩) ⟨_, x23, raI hQ_r_b6⟩ ⟨_, x24, raI hQ_r_b7⟩ (fun j9 a9 b9 c0_ c1_ c2_ => (((((f17 j9 (by omega)).trans (f14 j9 (by omega))).trans (f10 j9 (by omega))).trans (f8 j9 (by omega))).trans (f4 j9 (by omega))).trans (f2 j9 (by omega))), pSl_K hw hS9 hc4 (zKx_mv hok2 he4).2.2 hin8.2 (fun j9 a9 b9 c0_ c1_ c2_ => (((((f17 j9 (by omega)).trans (f14 j9 (by omega))).trans (f10 j9 (by omega))).trans (f8 j9 (by omega))).trans (f4 j9 (by omega))).trans (f2 j9 (by omega))), fun j9 h9 => (((((f17 j9 (by omega)).trans (f14 j9 (by omega))).trans (f10 j9 (by omega))).trans (f8 j9 (by omega))).trans (f4 j9 (by omega))).trans (f2 j9 (by omega))⟩)))
set_option maxHeartbeats 2000000 in
theorem ct_X2_crosses (l : Launch) {g : gWM} {n bb M N : Nat} {t : zTk} {T : Nat → Int32} {B : gBar} {Nm : zNm} (hT : pTk g n bb t M N T) (hn : n ≤ 1100) (hok : zOk n t) (hbb : 10000 ≤ bb) (hM : bb + 100 ≤ M) (hMN : M ≤ N) (hw : wfB B) (hQ : pBq g bb B Nm M) (hnl : ∀ s k, s < 4 → k < B 0 s → (Nm s k).length < 1000) (hx : zXs B) (hS9 : pSl g bb B) : gXt l yX2_crosses cX2_crosses 2 none 8 15 95 186 [.ref 1002] g (gPe (zLC T n (t, B, Nm)) (fun _ => none) (fun P g1 => pLl g1 g n bb P M T)) (fun g1 => ∃ e, zLC T n (t, B, Nm) = .inl e ∧ pXx g1 g bb e) := by
  refine gXt.of RX2 (by decide) rfl (lo := [some (.ref 1002), none]) 1 rfl (Nat.le_of_ble_eq_true rfl) (fun z E Rx => ?_)
  have hT_o := hT
  obtain ⟨⟨hT_F, hT_a, hT_0, hT_1, hT_2, hT_3, hT_4, hT_5, hT_6, hT_7, hT_8, hT_9⟩, hT_s, ⟨hT_G, hT_b⟩, ⟨hT_l, hT_c⟩, hT_t, hT_z⟩ := hT_o
  have hT_t_o := hT_t
  obtain ⟨hT_t_f, hT_t_a, hT_t_b⟩ := hT_t_o
  have hw_n := hw.1
  have hQ_r := hQ.1
  have hQ_n := hQ.2.2
  have hQ_r_o := hQ_r
  obtain ⟨⟨hQ_r_F, hQ_r_a, hQ_r_0, hQ_r_1, hQ_r_2, hQ_r_3, hQ_r_4, hQ_r_5, hQ_r_6, hQ_r_7, hQ_r_8, hQ_r_9, hQ_r_10, hQ_r_11, hQ_r_12, hQ_r_13, hQ_r_14, hQ_r_15⟩, ⟨hQ_r_f1, hQ_r_a1, hQ_r_b1⟩, ⟨hQ_r_f2, hQ_r_a2, hQ_r_b2⟩, ⟨hQ_r_f3, hQ_r_a3, hQ_r_b3⟩, ⟨hQ_r_f4, hQ_r_a4, hQ_r_b4⟩, ⟨hQ_r_f5, hQ_r_a5, hQ_r_b5⟩, ⟨hQ_r_f6, hQ_r_a6, hQ_r_b6⟩, ⟨hQ_r_f7, hQ_r_a7, hQ_r_b7⟩, hQ_r_c1, hQ_r_c2, hQ_r_c3, hQ_r_c4, hQ_r_c5⟩ := hQ_r_o
  obtain ⟨hQ_G, hQ_ga, hQ_gb⟩ := hQ.2.1
  obtain rfl := inj_obj hQ_r_a hQ_ga
  have hok_o := hok
  obtain ⟨hok_1, hok_2, hok_3, hok_4, hok_5⟩ := hok_o
  have hx9 : B 0 9 ≤ 1 := hx.2.2
  refine g_aload_n E dX2_crosses_0 rfl rfl rfl ?_
  refine g_aload_n E dX2_crosses_1 rfl rfl rfl ?_
  refine g_getf E gciX2 dX2_crosses_2 hT_a 9 rfl (by decide) q255 (.inl rfl) (.ref bb) (hT_9) rfl ?_
  refine g_getf E gciX14 dX2_crosses_5 hQ_r_a 13 rfl (by decide) q575 (.inl rfl) (.int (nI (B 0 4))) (hQ_r_13) rfl ?_
  refine g_bipush E (v := 6) dX2_crosses_8 (by decide) rfl ?_
  refine g_icmp_ge E dX2_crosses_10 (tgt := 17) (by decide) rfl (fun c10 => ?_) (fun c10 => ?_)
  · have c10 := (nI_leI (a := 6) (b := B 0 4) (by omega) (by omega)).mp c10
    refine g_iconst E (v := 0) dX2_crosses_17 (by decide) rfl ?_
    have hcan : decide (B 0 4 < 6) = false := decide_eq_false (by omega)
    refine g_callVX (k := 1002) (n9 := 1) (av := [.int 0]) (st := []) E Rx (ct_X2_begins l false hT (by omega) hok (by omega) (by omega) (by omega) hw (pBq.mono hQ (by omega)) hnl hx.2.2) gciX2 dX2_crosses_18 hT_a q820 q822 qs14 q121 q823 (by decide +kernel) rfl rfl ⟨by decide, by decide⟩ ⟨by decide, by decide⟩ (Nat.le_of_ble_eq_true rfl) rfl (fun g9 ⟨e9, h9e, h9p⟩ => ⟨e9, by unfold zLC; rw [show decide (B 0 4 < 6) = false from hcan, zBd_l h9e] <;> rfl, h9p.tr (fun j9 h9 => rfl)⟩) (gPe.kn (fun a1 g1 he1 h1 => ?_))
    exact absurd (zBg_ok hok he1).2.1 Bool.false_ne_true
  · have c10 := mt (nI_leI (a := 6) (b := B 0 4) (by omega) (by omega)).mpr c10
    refine g_iconst E (v := 1) dX2_crosses_13 (by decide) rfl ?_
    refine g_goto E dX2_crosses_14 (tgt := 18) (by decide) ?_
    have hcan : decide (B 0 4 < 6) = true := decide_eq_true (by omega)
    have hc4 : B 0 4 < 6 := by omega
    refine g_callVX (k := 1002) (n9 := 1) (av := [.int 1]) (st := []) E Rx (ct_X2_begins l true hT (by omega) hok (by omega) (by omega) (by omega) hw (pBq.mono hQ (by omega)) hnl hx.2.2) gciX2 dX2_crosses_18 hT_a q820 q822 qs14 q121 q823 (by decide +kernel) rfl rfl ⟨by decide, by decide⟩ ⟨by decide, by decide⟩ (Nat.le_of_ble_eq_true rfl) rfl (fun g9 ⟨e9, h9e, h9p⟩ => ⟨e9, by unfold zLC; rw [show decide (B 0 4 < 6) = true from hcan, zBd_l h9e] <;> rfl, h9p.tr (fun j9 h9 => rfl)⟩) (gPe.kn (fun a2 g2 he2 h2 => ?_))
    obtain ⟨M2, N2, hM2, hN2, hT2, f2⟩ := h2
    have hT2_o := hT2
    obtain ⟨⟨hT2_F, hT2_a, hT2_0, hT2_1, hT2_2, hT2_3, hT2_4, hT2_5, hT2_6, hT2_7, hT2_8, hT2_9⟩, hT2_s, ⟨hT2_G, hT2_b⟩, ⟨hT2_l, hT2_c⟩, hT2_t, hT2_z⟩ := hT2_o
    have hT2_t_o := hT2_t
    obtain ⟨hT2_t_f, hT2_t_a, hT2_t_b⟩ := hT2_t_o
    have hok2 : zOk n a2 := (zBg_ok hok he2).1
    have hok2_o := hok2
    obtain ⟨hok2_1, hok2_2, hok2_3, hok2_4, hok2_5⟩ := hok2_o
    have y3 := (hQ.fr hw (by omega) (fun j9 a9 b9 => f2 j9 (by omega)))
    have hnn := (f2 (bb + 50 + B 0 4) (by omega)).trans ((hS9 (B 0 4) (by omega)).2.2.2.2 (Nat.le_refl _))
    refine g_new E gciX26 dX2_crosses_21 q1102 q1103 q153 (bb + 50 + B 0 4) ((f2 (bb + 50 + B 0 4) (by omega)).trans ((hS9 (B 0 4) (by omega)).2.2.2.2 (Nat.le_refl _))) (by omega) (by decide) (by decide) rfl (g_upk (fun g4 h4 f4 => ?_))
    refine g_dup E dX2_crosses_24 rfl rfl ?_
    refine g_callIN (k := bb + 50 + B 0 4) (n9 := 0) (av := []) (st := [.ref (bb + 50 + B 0 4)]) E (ct_X26_init l h4) gciX26 dX2_crosses_25 h4 q1104 q1105 q153 q1106 (by decide +kernel) rfl rfl rfl ⟨by decide, by decide⟩ ⟨by decide, by decide⟩ (Nat.le_of_ble_eq_true rfl) rfl (gPv.k ?_)
    refine g_astore_n E dX2_crosses_28 rfl (by decide) rfl (lo1 := [some (.ref 1002), some (.ref (bb + 50 + B 0 4))]) rfl rfl ?_
    refine g_aload_n E dX2_crosses_29 rfl rfl rfl ?_
    refine g_aload_n E dX2_crosses_30 rfl rfl rfl ?_
    have x5 := (f4 (1002) (by omega)).trans (hT2_a)
    have x7 := (f4 (1003) (by omega)).trans (hT2_b)
    have x8 := (f4 (1004) (by omega)).trans (hT2_c)
    have y9 := (hT2_t.fr  (fun j9 a9 b9 => f4 j9 (by omega)))
    have hT6 : pTk g4 n bb a2 M2 N2 T := ⟨⟨_, x5, hT2_0, hT2_1, hT2_2, hT2_3, hT2_4, hT2_5, hT2_6, hT2_7, hT2_8, hT2_9⟩, (fun h8 => ⟨(hT2_s h8).1.fr (fun j9 a9 b9 => f4 j9 (by omega)), (hT2_s h8).2⟩), ⟨_, x7⟩, ⟨_, x8⟩, y9, fun j9 a9 => (f4 j9 (by omega)).trans (hT2_z j9 (by omega))⟩
    have y10 : pBq g4 bb B Nm M := pBq.frn hw hM y3 hnn (by omega) (fun j9 a9 b9 c9 => f4 j9 (by omega))
    refine g_callVX (k := 1002) (n9 := 0) (av := []) (st := [.ref (bb + 50 + B 0 4)]) E Rx (ct_X2_traveller l hT6 (by omega) hok2 (by omega) (by omega) (by omega) hw (pBq.mono y10 (by omega)) hnl) gciX2 dX2_crosses_31 x5 q993 q995 qs21 q121 q996 (by decide +kernel) rfl rfl ⟨by decide, by decide⟩ ⟨by decide, by decide⟩ (Nat.le_of_ble_eq_true rfl) rfl (fun g9 ⟨e9, h9e, h9p⟩ => ⟨e9, by unfold zLC; rw [show decide (B 0 4 < 6) = true from hcan, zBd_r he2, zBd_l h9e] <;> rfl, h9p.tr (fun j9 h9 => (f4 j9 (by omega)).trans (f2 j9 (by omega)))⟩) (gPe.ki (fun a11 g11 he11 h11 => ?_))
    obtain ⟨M11, N11, hM11, hN11, hT11, f11⟩ := h11
    have hT11_o := hT11
    obtain ⟨⟨hT11_F, hT11_a, hT11_0, hT11_1, hT11_2, hT11_3, hT11_4, hT11_5, hT11_6, hT11_7, hT11_8, hT11_9⟩, hT11_s, ⟨hT11_G, hT11_b⟩, ⟨hT11_l, hT11_c⟩, hT11_t, hT11_z⟩ := hT11_o
    have hT11_t_o := hT11_t
    obtain ⟨hT11_t_f, hT11_t_a, hT11_t_b⟩ := hT11_t_o
    have hok11 : zOk n a11.2 := (zKx_ok hok2 he11).1
    have hok11_o := hok11
    obtain ⟨hok11_1, hok11_2, hok11_3, hok11_4, hok11_5⟩ := hok11_o
    have hkx11 := (zKx_ok hok2 he11).2
    have x12 := (f11 (bb + 50 + B 0 4) (by omega)).trans (h4)
    refine g_putf E gciX26 (v := .int (nI (a11.1))) dX2_crosses_34 x12 0 rfl (by decide) q1109 (.inl rfl) rfl (fun _ => rfl) (fun _ => rfl) rfl (g_upk (fun g13 h13 f13 => ?_))
    refine g_aload_n E dX2_crosses_37 rfl rfl rfl ?_
    refine g_aload_n E dX2_crosses_38 rfl rfl rfl ?_
    have x14 := (f13 (1002) (by omega)).trans (hT11_a)
    have x16 := (f13 (1003) (by omega)).trans (hT11_b)
    have x17 := (f13 (1004) (by omega)).trans (hT11_c)
    have y18 := (hT11_t.fr  (fun j9 a9 b9 => f13 j9 (by omega)))
    have hT15 : pTk g13 n bb a11.2 M11 N11 T := ⟨⟨_, x14, hT11_0, hT11_1, hT11_2, hT11_3, hT11_4, hT11_5, hT11_6, hT11_7, hT11_8, hT11_9⟩, (fun h8 => ⟨(hT11_s h8).1.fr (fun j9 a9 b9 => f13 j9 (by omega)), (hT11_s h8).2⟩), ⟨_, x16⟩, ⟨_, x17⟩, y18, fun j9 a9 => (f13 j9 (by omega)).trans (hT11_z j9 (by omega))⟩
    have y19 : pBq g13 bb B Nm M := pBq.frn hw hM y3 hnn (by omega) (fun j9 a9 b9 c9 => ((f13 j9 (by omega)).trans (f11 j9 (by omega))).trans (f4 j9 (by omega)))
    refine g_callVX (k := 1002) (n9 := 0) (av := []) (st := [.ref (bb + 50 + B 0 4)]) E Rx (ct_X2_gate l hT15 (by omega) hok11 (by omega) (by omega) (by omega) hw (pBq.mono y19 (by omega)) hnl) gciX2 dX2_crosses_39 x14 q1125 q1127 qs28 q121 q1128 (by decide +kernel) rfl rfl ⟨by decide, by decide⟩ ⟨by decide, by decide⟩ (Nat.le_of_ble_eq_true rfl) rfl (fun g9 ⟨e9, h9e, h9p⟩ => ⟨e9, by unfold zLC; rw [show decide (B 0 4 < 6) = true from hcan, zBd_r he2, zBd_r he11, zBd_l h9e] <;> rfl, h9p.tr (fun j9 h9 => (((f13 j9 (by omega)).trans (f11 j9 (by omega))).trans (f4 j9 (by omega))).trans (f2 j9 (by omega)))⟩) (gPe.ki (fun a20 g20 he20 h20 => ?_))
    obtain ⟨M20, N20, hM20, hN20, hT20, f20⟩ := h20
    have hT20_o := hT20
    obtain ⟨⟨hT20_F, hT20_a, hT20_0, hT20_1, hT20_2, hT20_3, hT20_4, hT20_5, hT20_6, hT20_7, hT20_8, hT20_9⟩, hT20_s, ⟨hT20_G, hT20_b⟩, ⟨hT20_l, hT20_c⟩, hT20_t, hT20_z⟩ := hT20_o
    have hT20_t_o := hT20_t
    obtain ⟨hT20_t_f, hT20_t_a, hT20_t_b⟩ := hT20_t_o
    have hok20 : zOk n a20.2 := (zKx_ok hok11 he20).1
    have hok20_o := hok20
    obtain ⟨hok20_1, hok20_2, hok20_3, hok20_4, hok20_5⟩ := hok20_o
    have hkx20 := (zKx_ok hok11 he20).2
    have x21 := (f20 (bb + 50 + B 0 4) (by omega)).trans (h13)
    refine g_putf E gciX26 (v := .int (nI (a20.1))) dX2_crosses_42 x21 1 rfl (by decide) q1111 (.inl rfl) rfl (fun _ => rfl) (fun _ => rfl) rfl (g_upk (fun g22 h22 f22 => ?_))
    refine g_aload_n E dX2_crosses_45 rfl rfl rfl ?_
    refine g_aload_n E dX2_crosses_46 rfl rfl rfl ?_
    refine g_ldcwS E (j := 29) (tx := "day") rfl dX2_crosses_47 rfl ?_
    refine g_aload_n E dX2_crosses_50 rfl rfl rfl ?_
    have x23 := (f22 (1002) (by omega)).trans (hT20_a)
    refine g_getf E gciX2 dX2_crosses_51 x23 9 rfl (by decide) q255 (.inl rfl) (.ref bb) (hT20_9) rfl ?_
    have x24 := (f22 (bb) (by omega)).trans ((f20 (bb) (by omega)).trans ((f13 (bb) (by omega)).trans ((f11 (bb) (by omega)).trans ((f4 (bb) (by omega)).trans ((f2 (bb) (by omega)).trans (hQ_r_a))))))
    refine g_getf E gciX14 dX2_crosses_54 x24 13 rfl (by decide) q575 (.inl rfl) (.int (nI (B 0 4))) (hQ_r_13) rfl ?_
    refine g_if_ne E dX2_crosses_57 (tgt := 64) (by decide) rfl (fun c57 => ?_) (fun c57 => ?_)
    · have c57 := mt (nI_eq (a := B 0 4) (b := 0) (by omega) (by omega)).mpr c57
      have hcr := hw.2.2.2.2.2.1 (B 0 4 - 1) (by omega)
      refine g_aload_n E dX2_crosses_64 rfl rfl rfl ?_
      refine g_getf E gciX2 dX2_crosses_65 x23 9 rfl (by decide) q255 (.inl rfl) (.ref bb) (hT20_9) rfl ?_
      refine g_getf E gciX14 dX2_crosses_68 x24 4 rfl (by decide) q546 (.inl rfl) (.ref (bb + 5)) (hQ_r_4) rfl ?_
      refine g_aload_n E dX2_crosses_71 rfl rfl rfl ?_
      refine g_getf E gciX2 dX2_crosses_72 x23 9 rfl (by decide) q255 (.inl rfl) (.ref bb) (hT20_9) rfl ?_
      refine g_getf E gciX14 dX2_crosses_75 x24 13 rfl (by decide) q575 (.inl rfl) (.int (nI (B 0 4))) (hQ_r_13) rfl ?_
      refine g_iconst E (v := 1) dX2_crosses_78 (by decide) rfl ?_
      refine g_isub E dX2_crosses_79 rfl ?_
      refine g_as (y := nI (B 0 4 - 1)) (pk_sub (b := 1) (by omega)) ?_
      have y25 : pBq g22 bb B Nm M := pBq.frn hw hM y3 hnn (by omega) (fun j9 a9 b9 c9 => ((((f22 j9 (by omega)).trans (f20 j9 (by omega))).trans (f13 j9 (by omega))).trans (f11 j9 (by omega))).trans (f4 j9 (by omega)))
      have x26 := (f22 (bb + 5) (by omega)).trans ((f20 (bb + 5) (by omega)).trans ((f13 (bb + 5) (by omega)).trans ((f11 (bb + 5) (by omega)).trans ((f4 (bb + 5) (by omega)).trans ((f2 (bb + 5) (by omega)).trans (hQ_r_a5))))))
      refine g_aald E dX2_crosses_80 (j := B 0 4 - 1) x26 (fun _ => rfl) (rfl) (by omega) (by decide) (b := bb + 50 + (B 0 4 - 1)) (hQ_r_b5 (B 0 4 - 1) (by omega)) rfl ?_
      have e27_h := pBr.cross y25.1 (B 0 4 - 1) (by omega)
      obtain ⟨e27_F, e27_a, e27_0, e27_1, e27_2, e27_3⟩ := e27_h
      refine g_getf E gciX26 dX2_crosses_81 e27_a 2 rfl (by decide) q1113 (.inl rfl) (.int (nI (B 21 (B 0 4 - 1)))) (e27_2) rfl ?_
      refine g_bipush E (v := 60) dX2_crosses_84 (by decide) rfl ?_
      have x29 := (f22 (1003) (by omega)).trans (hT20_b)
      have x30 := (f22 (1004) (by omega)).trans (hT20_c)
      have y31 := (hT20_t.fr  (fun j9 a9 b9 => f22 j9 (by omega)))
      have hT28 : pTk g22 n bb a20.2 M20 N20 T := ⟨⟨_, x23, hT20_0, hT20_1, hT20_2, hT20_3, hT20_4, hT20_5, hT20_6, hT20_7, hT20_8, hT20_9⟩, (fun h8 => ⟨(hT20_s h8).1.fr (fun j9 a9 b9 => f22 j9 (by omega)), (hT20_s h8).2⟩), ⟨_, x29⟩, ⟨_, x30⟩, y31, fun j9 a9 => (f22 j9 (by omega)).trans (hT20_z j9 (by omega))⟩
      refine g_callVX (k := 1002) (n9 := 3) (av := [.ref (1 + 2 * 29), .int (nI (B 21 (B 0 4 - 1))), .int 60]) (st := [.ref (bb + 50 + B 0 4)]) E Rx (ct_X2_after l (B 21 (B 0 4 - 1)) 60 hT28 (by omega) hok20 (by omega) (by omega) (by omega) rfl (by omega) (by omega)) gciX2 dX2_crosses_86 x23 q799 q801 qs9 q121 q802 (by decide +kernel) rfl rfl ⟨by decide, by decide⟩ ⟨by decide, by decide⟩ (Nat.le_of_ble_eq_true rfl) rfl (fun g9 ⟨e9, h9e, h9p⟩ => ⟨e9, by unfold zLC; rw [show decide (B 0 4 < 6) = true from hcan, zBd_r he2, zBd_r he11, zBd_r he20, if_neg c57, zBd_l h9e] <;> rfl, h9p.tr (fun j9 h9 => (((((f22 j9 (by omega)).trans (f20 j9 (by omega))).trans (f13 j9 (by omega))).trans (f11 j9 (by omega))).trans (f4 j9 (by omega))).trans (f2 j9 (by omega)))⟩) (gPe.ki (fun a32 g32 he32 h32 => ?_))
      have hin32 := zAf_in he32
      obtain ⟨M32, N32, hM32, hN32, hT32, f32⟩ := h32
      have hT32_o := hT32
      obtain ⟨⟨hT32_F, hT32_a, hT32_0, hT32_1, hT32_2, hT32_3, hT32_4, hT32_5, hT32_6, hT32_7, hT32_8, hT32_9⟩, hT32_s, ⟨hT32_G, hT32_b⟩, ⟨hT32_l, hT32_c⟩, hT32_t, hT32_z⟩ := hT32_o
      have hT32_t_o := hT32_t
      obtain ⟨hT32_t_f, hT32_t_a, hT32_t_b⟩ := hT32_t_o
      have hok32 : zOk n a32.2 := zAf_ok hok20 he32
      have hok32_o := hok32
      obtain ⟨hok32_1, hok32_2, hok32_3, hok32_4, hok32_5⟩ := hok32_o
      have x33 := (f32 (bb + 50 + B 0 4) (by omega)).trans (h22)
      refine g_putf E gciX26 (v := .int (nI (a32.1))) dX2_crosses_89 x33 2 rfl (by decide) q1113 (.inl rfl) rfl (fun _ => rfl) (fun _ => rfl) rfl (g_upk (fun g34 h34 f34 => ?_))
      refine g_aload_n E dX2_crosses_92 rfl rfl rfl ?_
      refine g_aload_n E dX2_crosses_93 rfl rfl rfl ?_
      refine g_ldcwS E (j := 30) (tx := "hour") rfl dX2_crosses_94 rfl ?_
      refine g_iconst E (v := 0) dX2_crosses_97 (by decide) rfl ?_
      refine g_bipush E (v := 23) dX2_crosses_98 (by decide) rfl ?_
      have x35 := (f34 (1002) (by omega)).trans (hT32_a)
      have x37 := (f34 (1003) (by omega)).trans (hT32_b)
      have x38 := (f34 (1004) (by omega)).trans (hT32_c)
      have y39 := (hT32_t.fr  (fun j9 a9 b9 => f34 j9 (by omega)))
      have hT36 : pTk g34 n bb a32.2 M32 N32 T := ⟨⟨_, x35, hT32_0, hT32_1, hT32_2, hT32_3, hT32_4, hT32_5, hT32_6, hT32_7, hT32_8, hT32_9⟩, (fun h8 => ⟨(hT32_s h8).1.fr (fun j9 a9 b9 => f34 j9 (by omega)), (hT32_s h8).2⟩), ⟨_, x37⟩, ⟨_, x38⟩, y39, fun j9 a9 => (f34 j9 (by omega)).trans (hT32_z j9 (by omega))⟩
      refine g_callVX (k := 1002) (n9 := 3) (av := [.ref (1 + 2 * 30), .int 0, .int 23]) (st := [.ref (bb + 50 + B 0 4)]) E Rx (ct_X2_after l 0 23 hT36 (by omega) hok32 (by omega) (by omega) (by omega) rfl (by omega) (by omega)) gciX2 dX2_crosses_100 x35 q799 q801 qs9 q121 q802 (by decide +kernel) rfl rfl ⟨by decide, by decide⟩ ⟨by decide, by decide⟩ (Nat.le_of_ble_eq_true rfl) rfl (fun g9 ⟨e9, h9e, h9p⟩ => ⟨e9, by unfold zLC; rw [show decide (B 0 4 < 6) = true from hcan, zBd_r he2, zBd_r he11, zBd_r he20, if_neg c57, zBd_r he32, zBd_l h9e] <;> rfl, h9p.tr (fun j9 h9 => (((((((f34 j9 (by omega)).trans (f32 j9 (by omega))).trans (f22 j9 (by omega))).trans (f20 j9 (by omega))).trans (f13 j9 (by omega))).trans (f11 j9 (by omega))).trans (f4 j9 (by omega))).trans (f2 j9 (by omega)))⟩) (gPe.ki (fun a40 g40 he40 h40 => ?_))
      have hin40 := zAf_in he40
      obtain ⟨M40, N40, hM40, hN40, hT40, f40⟩ := h40
      have hT40_o := hT40
      obtain ⟨⟨hT40_F, hT40_a, hT40_0, hT40_1, hT40_2, hT40_3, hT40_4, hT40_5, hT40_6, hT40_7, hT40_8, hT40_9⟩, hT40_s, ⟨hT40_G, hT40_b⟩, ⟨hT40_l, hT40_c⟩, hT40_t, hT40_z⟩ := hT40_o
      have hT40_t_o := hT40_t
      obtain ⟨hT40_t_f, hT40_t_a, hT40_t_b⟩ := hT40_t_o
      have hok40 : zOk n a40.2 := zAf_ok hok32 he40
      have hok40_o := hok40
      obtain ⟨hok40_1, hok40_2, hok40_3, hok40_4, hok40_5⟩ := hok40_o
      have x41 := (f40 (bb + 50 + B 0 4) (by omega)).trans (h34)
      refine g_putf E gciX26 (v := .int (nI (a40.1))) dX2_crosses_103 x41 3 rfl (by decide) q1115 (.inl rfl) rfl (fun _ => rfl) (fun _ => rfl) rfl (g_upk (fun g42 h42 f42 => ?_))
      refine g_aload_n E dX2_crosses_106 rfl rfl rfl ?_
      have x43 := (f42 (1002) (by omega)).trans (hT40_a)
      refine g_getf E gciX2 dX2_crosses_107 x43 9 rfl (by decide) q255 (.inl rfl) (.ref bb) (hT40_9) rfl ?_
      have x44 := (f42 (bb) (by omega)).trans ((f40 (bb) (by omega)).trans ((f34 (bb) (by omega)).trans ((f32 (bb) (by omega)).trans (x24))))
      refine g_getf E gciX14 dX2_crosses_110 x44 4 rfl (by decide) q546 (.inl rfl) (.ref (bb + 5)) (hQ_r_4) rfl ?_
      refine g_aload_n E dX2_crosses_113 rfl rfl rfl ?_
      refine g_getf E gciX2 dX2_crosses_114 x43 9 rfl (by decide) q255 (.inl rfl) (.ref bb) (hT40_9) rfl ?_
      refine g_getf E gciX14 dX2_crosses_117 x44 13 rfl (by decide) q575 (.inl rfl) (.int (nI (B 0 4))) (hQ_r_13) rfl ?_
      refine g_aload_n E dX2_crosses_120 rfl rfl rfl ?_
      have x45 := (f42 (bb + 5) (by omega)).trans ((f40 (bb + 5) (by omega)).trans ((f34 (bb + 5) (by omega)).trans ((f32 (bb + 5) (by omega)).trans (x26))))
      refine g_aast E gciX26 (j := B 0 4) dX2_crosses_121 x45 (fun _ => rfl) h42 (.inl rfl) (rfl) (by omega) (by decide) rfl (g_upk (fun g46 h46 f46 => ?_))
      refine g_aload_n E dX2_crosses_122 rfl rfl rfl ?_
      have x47 := (f46 (1002) (by omega)).trans (x43)
      refine g_getf E gciX2 dX2_crosses_123 x47 9 rfl (by decide) q255 (.inl rfl) (.ref bb) (hT40_9) rfl ?_
      refine g_dup E dX2_crosses_126 rfl rfl ?_
      have x48 := (f46 (bb) (by omega)).trans (x44)
      refine g_getf E gciX14 dX2_crosses_127 x48 13 rfl (by decide) q575 (.inl rfl) (.int (nI (B 0 4))) (hQ_r_13) rfl ?_
      refine g_iconst E (v := 1) dX2_crosses_130 (by decide) rfl ?_
      refine g_iadd E dX2_crosses_131 rfl ?_
      refine g_as (y := nI (B 0 4 + 1)) ((nI_succ _).symm) ?_
      refine g_putf E gciX14 (v := .int (nI (B 0 4 + 1))) dX2_crosses_132 x48 13 rfl (by decide) q575 (.inl rfl) rfl (fun _ => rfl) (fun _ => rfl) rfl (g_upk (fun g49 h49 f49 => ?_))
      have x50 := (f49 (1002) (by omega)).trans (x47)
      have x52 := (f49 (1003) (by omega)).trans ((f46 (1003) (by omega)).trans ((f42 (1003) (by omega)).trans (hT40_b)))
      have x53 := (f49 (1004) (by omega)).trans ((f46 (1004) (by omega)).trans ((f42 (1004) (by omega)).trans (hT40_c)))
      have y54 := (((hT40_t.fr  (fun j9 a9 b9 => f42 j9 (by omega))).fr  (fun j9 a9 b9 => f46 j9 (by omega))).fr  (fun j9 a9 b9 => f49 j9 (by omega)))
      have hT51 : pTk g49 n bb a40.2 M40 N40 T := ⟨⟨_, x50, hT40_0, hT40_1, hT40_2, hT40_3, hT40_4, hT40_5, hT40_6, hT40_7, hT40_8, hT40_9⟩, (fun h8 => ⟨(hT40_s h8).1.fr (fun j9 a9 b9 => ((f49 j9 (by omega)).trans (f46 j9 (by omega))).trans (f42 j9 (by omega))), (hT40_s h8).2⟩), ⟨_, x52⟩, ⟨_, x53⟩, y54, fun j9 a9 => (f49 j9 (by omega)).trans ((f46 j9 (by omega)).trans ((f42 j9 (by omega)).trans (hT40_z j9 (by omega))))⟩
      have x55 := (f49 (bb + 5) (by omega)).trans (h46)
      have x56 := (f49 (bb + 50 + B 0 4) (by omega)).trans ((f46 (bb + 50 + B 0 4) (by omega)).trans (h42))
      exact (gRx_leave Rx E).elim (fun z9 h9z => h9z.2.2 _ _ _ _ _ _ (g_vret h9z.2.1 h9z.1 dX2_crosses_135 rfl (by decide) (by decide) (⟨(a40.2, bs (bs (bs (bs (bs B 19 (B 0 4) a11.1) 20 (B 0 4) a20.1) 21 (B 0 4) a32.1) 22 (B 0 4) a40.1) 0 4 (B 0 4 + 1), Nm), by unfold zLC; rw [show decide (B 0 4 < 6) = true from hcan, zBd_r he2, zBd_r he11, zBd_r he20, if_neg c57, zBd_r he32, zBd_r he40] <;> rfl, rfl, M40, N40, by omega, by omega, hT51, pBq_C hw hx hQ hM (by omega) hc4 hkx11 hkx20 hin32.2 hin40.2 (⟨_, h49, hQ_r_0, hQ_r_1, hQ_r_2, hQ_r_3, hQ_r_4, hQ_r_5, hQ_r_6, hQ_r_7, hQ_r_8, hQ_r_9, hQ_r_10, hQ_r_11, hQ_r_12, rfl, hQ_r_14, hQ_r_15, hQ_gb⟩) ⟨_, x55, raS hQ_r_b5⟩ ⟨_, x56, rfl, rfl, rfl, rfl⟩ (fun j9 a9 b9 c0_ c1_ c2_ => (((((((((((f49 j9 (by omega)).trans (f46 j9 (by omega))).trans (f42 j9 (by omega))).trans (f40 j9 (by omega))).trans (f34 j9 (by omega))).trans (f32 j9 (by omega))).trans (f22 j9 (by omega))).trans (f20 j9 (by omega))).trans (f13 j9 (by omega))).trans (f11 j9 (by omega))).trans (f4 j9 (by omega))).trans (f2 j9 (by omega))), pSl_C hw hS9 hc4 hkx11 hkx20 hin32.2 hin40.2 (fun j9 a9 b9 c0_ c1_ c2_ => (((((((((((f49 j9 (by omega)).trans (f46 j9 (by omega))).trans (f42 j9 (by omega))).trans (f40 j9 (by omega))).trans (f34 j9 (by omega))).trans (f32 j9 (by omega))).trans (f22 j9 (by omega))).trans (f20 j9 (by omega))).trans (f13 j9 (by omega))).trans (f11 j9 (by omega))).trans (f4 j9 (by omega))).trans (f2 j9 (by omega))), fun j9 h9 => (((((((((((f49 j9 (by omega)).trans (f46 j9 (by omega))).trans (f42 j9 (by omega))).trans (f40 j9 (by omega))).trans (f34 j9 (by omega))).trans (f32 j9 (by omega))).trans (f22 j9 (by omega))).trans (f20 j9 (by omega))).trans (f13 j9 (by omega))).trans (f11 j9 (by omega))).trans (f4 j9 (by omega))).trans (f2 j9 (by omega))⟩)))
    · have c57 := (nI_eq (a := B 0 4) (b := 0) (by omega) (by omega)).mp c57
      refine g_iconst E (v := 0) dX2_crosses_60 (by decide) rfl ?_
      refine g_goto E dX2_crosses_61 (tgt := 84) (by decide) ?_
      refine g_bipush E (v := 60) dX2_crosses_84 (by decide) rfl ?_
      have x58 := (f22 (1003) (by omega)).trans (hT20_b)
      have x59 := (f22 (1004) (by omega)).trans (hT20_c)
      have y60 := (hT20_t.fr  (fun j9 a9 b9 => f22 j9 (by omega)))
      have hT57 : pTk g22 n bb a20.2 M20 N20 T := ⟨⟨_, x23, hT20_0, hT20_1, hT20_2, hT20_3, hT20_4, hT20_5, hT20_6, hT20_7, hT20_8, hT20_9⟩, (fun h8 => ⟨(hT20_s h8).1.fr (fun j9 a9 b9 => f22 j9 (by omega)), (hT20_s h8).2⟩), ⟨_, x58⟩, ⟨_, x59⟩, y60, fun j9 a9 => (f22 j9 (by omega)).trans (hT20_z j9 (by omega))⟩
      refine g_callVX (k := 1002) (n9 := 3) (av := [.ref (1 + 2 * 29), .int 0, .int 60]) (st := [.ref (bb + 50 + B 0 4)]) E Rx (ct_X2_after l 0 60 hT57 (by omega) hok20 (by omega) (by omega) (by omega) rfl (by omega) (by omega)) gciX2 dX2_crosses_86 x23 q799 q801 qs9 q121 q802 (by decide +kernel) rfl rfl ⟨by decide, by decide⟩ ⟨by decide, by decide⟩ (Nat.le_of_ble_eq_true rfl) rfl (fun g9 ⟨e9, h9e, h9p⟩ => ⟨e9, by unfold zLC; rw [show decide (B 0 4 < 6) = true from hcan, zBd_r he2, zBd_r he11, zBd_r he20, if_pos c57, zBd_l h9e] <;> rfl, h9p.tr (fun j9 h9 => (((((f22 j9 (by omega)).trans (f20 j9 (by omega))).trans (f13 j9 (by omega))).trans (f11 j9 (by omega))).trans (f4 j9 (by omega))).trans (f2 j9 (by omega)))⟩) (gPe.ki (fun a61 g61 he61 h61 => ?_))
      have hin61 := zAf_in he61
      obtain ⟨M61, N61, hM61, hN61, hT61, f61⟩ := h61
      have hT61_o := hT61
      obtain ⟨⟨hT61_F, hT61_a, hT61_0, hT61_1, hT61_2, hT61_3, hT61_4, hT61_5, hT61_6, hT61_7, hT61_8, hT61_9⟩, hT61_s, ⟨hT61_G, hT61_b⟩, ⟨hT61_l, hT61_c⟩, hT61_t, hT61_z⟩ := hT61_o
      have hT61_t_o := hT61_t
      obtain ⟨hT61_t_f, hT61_t_a, hT61_t_b⟩ := hT61_t_o
      have hok61 : zOk n a61.2 := zAf_ok hok20 he61
      have hok61_o := hok61
      obtain ⟨hok61_1, hok61_2, hok61_3, hok61_4, hok61_5⟩ := hok61_o
      have x62 := (f61 (bb + 50 + B 0 4) (by omega)).trans (h22)
      refine g_putf E gciX26 (v := .int (nI (a61.1))) dX2_crosses_89 x62 2 rfl (by decide) q1113 (.inl rfl) rfl (fun _ => rfl) (fun _ => rfl) rfl (g_upk (fun g63 h63 f63 => ?_))
      refine g_aload_n E dX2_crosses_92 rfl rfl rfl ?_
      refine g_aload_n E dX2_crosses_93 rfl rfl rfl ?_
      refine g_ldcwS E (j := 30) (tx := "hour") rfl dX2_crosses_94 rfl ?_
      refine g_iconst E (v := 0) dX2_crosses_97 (by decide) rfl ?_
      refine g_bipush E (v := 23) dX2_crosses_98 (by decide) rfl ?_
      have x64 := (f63 (1002) (by omega)).trans (hT61_a)
      have x66 := (f63 (1003) (by omega)).trans (hT61_b)
      have x67 := (f63 (1004) (by omega)).trans (hT61_c)
      have y68 := (hT61_t.fr  (fun j9 a9 b9 => f63 j9 (by omega)))
      have hT65 : pTk g63 n bb a61.2 M61 N61 T := ⟨⟨_, x64, hT61_0, hT61_1, hT61_2, hT61_3, hT61_4, hT61_5, hT61_6, hT61_7, hT61_8, hT61_9⟩, (fun h8 => ⟨(hT61_s h8).1.fr (fun j9 a9 b9 => f63 j9 (by omega)), (hT61_s h8).2⟩), ⟨_, x66⟩, ⟨_, x67⟩, y68, fun j9 a9 => (f63 j9 (by omega)).trans (hT61_z j9 (by omega))⟩
      refine g_callVX (k := 1002) (n9 := 3) (av := [.ref (1 + 2 * 30), .int 0, .int 23]) (st := [.ref (bb + 50 + B 0 4)]) E Rx (ct_X2_after l 0 23 hT65 (by omega) hok61 (by omega) (by omega) (by omega) rfl (by omega) (by omega)) gciX2 dX2_crosses_100 x64 q799 q801 qs9 q121 q802 (by decide +kernel) rfl rfl ⟨by decide, by decide⟩ ⟨by decide, by decide⟩ (Nat.le_of_ble_eq_true rfl) rfl (fun g9 ⟨e9, h9e, h9p⟩ => ⟨e9, by unfold zLC; rw [show decide (B 0 4 < 6) = true from hcan, zBd_r he2, zBd_r he11, zBd_r he20, if_pos c57, zBd_r he61, zBd_l h9e] <;> rfl, h9p.tr (fun j9 h9 => (((((((f63 j9 (by omega)).trans (f61 j9 (by omega))).trans (f22 j9 (by omega))).trans (f20 j9 (by omega))).trans (f13 j9 (by omega))).trans (f11 j9 (by omega))).trans (f4 j9 (by omega))).trans (f2 j9 (by omega)))⟩) (gPe.ki (fun a69 g69 he69 h69 => ?_))
      have hin69 := zAf_in he69
      obtain ⟨M69, N69, hM69, hN69, hT69, f69⟩ := h69
      have hT69_o := hT69
      obtain ⟨⟨hT69_F, hT69_a, hT69_0, hT69_1, hT69_2, hT69_3, hT69_4, hT69_5, hT69_6, hT69_7, hT69_8, hT69_9⟩, hT69_s, ⟨hT69_G, hT69_b⟩, ⟨hT69_l, hT69_c⟩, hT69_t, hT69_z⟩ := hT69_o
      have hT69_t_o := hT69_t
      obtain ⟨hT69_t_f, hT69_t_a, hT69_t_b⟩ := hT69_t_o
      have hok69 : zOk n a69.2 := zAf_ok hok61 he69
      have hok69_o := hok69
      obtain ⟨hok69_1, hok69_2, hok69_3, hok69_4, hok69_5⟩ := hok69_o
      have x70 := (f69 (bb + 50 + B 0 4) (by omega)).trans (h63)
      refine g_putf E gciX26 (v := .int (nI (a69.1))) dX2_crosses_103 x70 3 rfl (by decide) q1115 (.inl rfl) rfl (fun _ => rfl) (fun _ => rfl) rfl (g_upk (fun g71 h71 f71 => ?_))
      refine g_aload_n E dX2_crosses_106 rfl rfl rfl ?_
      have x72 := (f71 (1002) (by omega)).trans (hT69_a)
      refine g_getf E gciX2 dX2_crosses_107 x72 9 rfl (by decide) q255 (.inl rfl) (.ref bb) (hT69_9) rfl ?_
      have x73 := (f71 (bb) (by omega)).trans ((f69 (bb) (by omega)).trans ((f63 (bb) (by omega)).trans ((f61 (bb) (by omega)).trans (x24))))
      refine g_getf E gciX14 dX2_crosses_110 x73 4 rfl (by decide) q546 (.inl rfl) (.ref (bb + 5)) (hQ_r_4) rfl ?_
      refine g_aload_n E dX2_crosses_113 rfl rfl rfl ?_
      refine g_getf E gciX2 dX2_crosses_114 x72 9 rfl (by decide) q255 (.inl rfl) (.ref bb) (hT69_9) rfl ?_
      refine g_getf E gciX14 dX2_crosses_117 x73 13 rfl (by decide) q575 (.inl rfl) (.int (nI (B 0 4))) (hQ_r_13) rfl ?_
      refine g_aload_n E dX2_crosses_120 rfl rfl rfl ?_
      have x74 := (f71 (bb + 5) (by omega)).trans ((f69 (bb + 5) (by omega)).trans ((f63 (bb + 5) (by omega)).trans ((f61 (bb + 5) (by omega)).trans ((f22 (bb + 5) (by omega)).trans ((f20 (bb + 5) (by omega)).trans ((f13 (bb + 5) (by omega)).trans ((f11 (bb + 5) (by omega)).trans ((f4 (bb + 5) (by omega)).trans ((f2 (bb + 5) (by omega)).trans (hQ_r_a5))))))))))
      refine g_aast E gciX26 (j := B 0 4) dX2_crosses_121 x74 (fun _ => rfl) h71 (.inl rfl) (rfl) (by omega) (by decide) rfl (g_upk (fun g75 h75 f75 => ?_))
      refine g_aload_n E dX2_crosses_122 rfl rfl rfl ?_
      have x76 := (f75 (1002) (by omega)).trans (x72)
      refine g_getf E gciX2 dX2_crosses_123 x76 9 rfl (by decide) q255 (.inl rfl) (.ref bb) (hT69_9) rfl ?_
      refine g_dup E dX2_crosses_126 rfl rfl ?_
      have x77 := (f75 (bb) (by omega)).trans (x73)
      refine g_getf E gciX14 dX2_crosses_127 x77 13 rfl (by decide) q575 (.inl rfl) (.int (nI (B 0 4))) (hQ_r_13) rfl ?_
      refine g_iconst E (v := 1) dX2_crosses_130 (by decide) rfl ?_
      refine g_iadd E dX2_crosses_131 rfl ?_
      refine g_as (y := nI (B 0 4 + 1)) ((nI_succ _).symm) ?_
      refine g_putf E gciX14 (v := .int (nI (B 0 4 + 1))) dX2_crosses_132 x77 13 rfl (by decide) q575 (.inl rfl) rfl (fun _ => rfl) (fun _ => rfl) rfl (g_upk (fun g78 h78 f78 => ?_))
      have x79 := (f78 (1002) (by omega)).trans (x76)
      have x81 := (f78 (1003) (by omega)).trans ((f75 (1003) (by omega)).trans ((f71 (1003) (by omega)).trans (hT69_b)))
      have x82 := (f78 (1004) (by omega)).trans ((f75 (1004) (by omega)).trans ((f71 (1004) (by omega)).trans (hT69_c)))
      have y83 := (((hT69_t.fr  (fun j9 a9 b9 => f71 j9 (by omega))).fr  (fun j9 a9 b9 => f75 j9 (by omega))).fr  (fun j9 a9 b9 => f78 j9 (by omega)))
      have hT80 : pTk g78 n bb a69.2 M69 N69 T := ⟨⟨_, x79, hT69_0, hT69_1, hT69_2, hT69_3, hT69_4, hT69_5, hT69_6, hT69_7, hT69_8, hT69_9⟩, (fun h8 => ⟨(hT69_s h8).1.fr (fun j9 a9 b9 => ((f78 j9 (by omega)).trans (f75 j9 (by omega))).trans (f71 j9 (by omega))), (hT69_s h8).2⟩), ⟨_, x81⟩, ⟨_, x82⟩, y83, fun j9 a9 => (f78 j9 (by omega)).trans ((f75 j9 (by omega)).trans ((f71 j9 (by omega)).trans (hT69_z j9 (by omega))))⟩
      have x84 := (f78 (bb + 5) (by omega)).trans (h75)
      have x85 := (f78 (bb + 50 + B 0 4) (by omega)).trans ((f75 (bb + 50 + B 0 4) (by omega)).trans (h71))
      exact (gRx_leave Rx E).elim (fun z9 h9z => h9z.2.2 _ _ _ _ _ _ (g_vret h9z.2.1 h9z.1 dX2_crosses_135 rfl (by decide) (by decide) (⟨(a69.2, bs (bs (bs (bs (bs B 19 (B 0 4) a11.1) 20 (B 0 4) a20.1) 21 (B 0 4) a61.1) 22 (B 0 4) a69.1) 0 4 (B 0 4 + 1), Nm), by unfold zLC; rw [show decide (B 0 4 < 6) = true from hcan, zBd_r he2, zBd_r he11, zBd_r he20, if_pos c57, zBd_r he61, zBd_r he69] <;> rfl, rfl, M69, N69, by omega, by omega, hT80, pBq_C hw hx hQ hM (by omega) hc4 hkx11 hkx20 hin61.2 hin69.2 (⟨_, h78, hQ_r_0, hQ_r_1, hQ_r_2, hQ_r_3, hQ_r_4, hQ_r_5, hQ_r_6, hQ_r_7, hQ_r_8, hQ_r_9, hQ_r_10, hQ_r_11, hQ_r_12, rfl, hQ_r_14, hQ_r_15, hQ_gb⟩) ⟨_, x84, raS hQ_r_b5⟩ ⟨_, x85, rfl, rfl, rfl, rfl⟩ (fun j9 a9 b9 c0_ c1_ c2_ => (((((((((((f78 j9 (by omega)).trans (f75 j9 (by omega))).trans (f71 j9 (by omega))).trans (f69 j9 (by omega))).trans (f63 j9 (by omega))).trans (f61 j9 (by omega))).trans (f22 j9 (by omega))).trans (f20 j9 (by omega))).trans (f13 j9 (by omega))).trans (f11 j9 (by omega))).trans (f4 j9 (by omega))).trans (f2 j9 (by omega))), pSl_C hw hS9 hc4 hkx11 hkx20 hin61.2 hin69.2 (fun j9 a9 b9 c0_ c1_ c2_ => (((((((((((f78 j9 (by omega)).trans (f75 j9 (by omega))).trans (f71 j9 (by omega))).trans (f69 j9 (by omega))).trans (f63 j9 (by omega))).trans (f61 j9 (by omega))).trans (f22 j9 (by omega))).trans (f20 j9 (by omega))).trans (f13 j9 (by omega))).trans (f11 j9 (by omega))).trans (f4 j9 (by omega))).trans (f2 j9 (by omega))), fun j9 h9 => (((((((((((f78 j9 (by omega)).trans (f75 j9 (by omega))).trans (f71 j9 (by omega))).trans (f69 j9 (by omega))).trans (f63 j9 (by omega))).trans (f61 j9 (by omega))).trans (f22 j9 (by omega))).trans (f20 j9 (by omega))).trans (f13 j9 (by omega))).trans (f11 j9 (by omega))).trans (f4 j9 (by omega))).trans (f2 j9 (by omega))⟩)))
set_option maxHeartbeats 2000000 in
theorem ct_X2_hides (l : Launch) {g : gWM} {n bb M N : Nat} {t : zTk} {T : Nat → Int32} {B : gBar} {Nm : zNm} (hT : pTk g n bb t M N T) (hn : n ≤ 1100) (hok : zOk n t) (hbb : 10000 ≤ bb) (hM : bb + 100 ≤ M) (hMN : M ≤ N) (hw : wfB B) (hQ : pBq g bb B Nm M) (hnl : ∀ s k, s < 4 → k < B 0 s → (Nm s k).length < 1000) (hx : zXs B) (hS9 : pSl g bb B) : gXt l yX2_hides cX2_hides 3 none 6 4 26 142 [.ref 1002] g (gPe (zLH T n (t, B, Nm)) (fun _ => none) (fun P g1 => pLl g1 g n bb P M T)) (fun g1 => ∃ e, zLH T n (t, B, Nm) = .inl e ∧ pXx g1 g bb e) := by
  refine gXt.of RX2 (by decide) rfl (lo := [some (.ref 1002), none, none]) 2 rfl (Nat.le_of_ble_eq_true rfl) (fun z E Rx => ?_)
  have hT_o := hT
  obtain ⟨⟨hT_F, hT_a, hT_0, hT_1, hT_2, hT_3, hT_4, hT_5, hT_6, hT_7, hT_8, hT_9⟩, hT_s, ⟨hT_G, hT_b⟩, ⟨hT_l, hT_c⟩, hT_t, hT_z⟩ := hT_o
  have hT_t_o := hT_t
  obtain ⟨hT_t_f, hT_t_a, hT_t_b⟩ := hT_t_o
  have hw_n := hw.1
  have hQ_r := hQ.1
  have hQ_n := hQ.2.2
  have hQ_r_o := hQ_r
  obtain ⟨⟨hQ_r_F, hQ_r_a, hQ_r_0, hQ_r_1, hQ_r_2, hQ_r_3, hQ_r_4, hQ_r_5, hQ_r_6, hQ_r_7, hQ_r_8, hQ_r_9, hQ_r_10, hQ_r_11, hQ_r_12, hQ_r_13, hQ_r_14, hQ_r_15⟩, ⟨hQ_r_f1, hQ_r_a1, hQ_r_b1⟩, ⟨hQ_r_f2, hQ_r_a2, hQ_r_b2⟩, ⟨hQ_r_f3, hQ_r_a3, hQ_r_b3⟩, ⟨hQ_r_f4, hQ_r_a4, hQ_r_b4⟩, ⟨hQ_r_f5, hQ_r_a5, hQ_r_b5⟩, ⟨hQ_r_f6, hQ_r_a6, hQ_r_b6⟩, ⟨hQ_r_f7, hQ_r_a7, hQ_r_b7⟩, hQ_r_c1, hQ_r_c2, hQ_r_c3, hQ_r_c4, hQ_r_c5⟩ := hQ_r_o
  obtain ⟨hQ_G, hQ_ga, hQ_gb⟩ := hQ.2.1
  obtain rfl := inj_obj hQ_r_a hQ_ga
  have hok_o := hok
  obtain ⟨hok_1, hok_2, hok_3, hok_4, hok_5⟩ := hok_o
  have hx9 : B 0 9 ≤ 1 := hx.2.2
  refine g_aload_n E dX2_hides_0 rfl rfl rfl ?_
  refine g_iconst E (v := 1) dX2_hides_1 (by decide) rfl ?_
  refine g_callVX (k := 1002) (n9 := 1) (av := [.int 1]) (st := []) E Rx (ct_X2_begins l true hT (by omega) hok (by omega) (by omega) (by omega) hw (pBq.mono hQ (by omega)) hnl hx.2.2) gciX2 dX2_hides_2 hT_a q820 q822 qs14 q121 q823 (by decide +kernel) rfl rfl ⟨by decide, by decide⟩ ⟨by decide, by decide⟩ (Nat.le_of_ble_eq_true rfl) rfl (fun g9 ⟨e9, h9e, h9p⟩ => ⟨e9, by unfold zLH; rw [zBd_l h9e] <;> rfl, h9p.tr (fun j9 h9 => rfl)⟩) (gPe.kn (fun a1 g1 he1 h1 => ?_))
  obtain ⟨M1, N1, hM1, hN1, hT1, f1⟩ := h1
  have hT1_o := hT1
  obtain ⟨⟨hT1_F, hT1_a, hT1_0, hT1_1, hT1_2, hT1_3, hT1_4, hT1_5, hT1_6, hT1_7, hT1_8, hT1_9⟩, hT1_s, ⟨hT1_G, hT1_b⟩, ⟨hT1_l, hT1_c⟩, hT1_t, hT1_z⟩ := hT1_o
  have hT1_t_o := hT1_t
  obtain ⟨hT1_t_f, hT1_t_a, hT1_t_b⟩ := hT1_t_o
  have hok1 : zOk n a1 := (zBg_ok hok he1).1
  have hok1_o := hok1
  obtain ⟨hok1_1, hok1_2, hok1_3, hok1_4, hok1_5⟩ := hok1_o
  refine g_aload_n E dX2_hides_5 rfl rfl rfl ?_
  have y2 := (hQ.fr hw (by omega) (fun j9 a9 b9 => f1 j9 (by omega)))
  refine g_callVX (k := 1002) (n9 := 0) (av := []) (st := []) E Rx (ct_X2_named l hT1 (by omega) hok1 (by omega) (by omega) (by omega) hw (pBq.mono y2 (by omega)) hnl) gciX2 dX2_hides_6 hT1_a q997 q999 qs22 q121 q1000 (by decide +kernel) rfl rfl ⟨by decide, by decide⟩ ⟨by decide, by decide⟩ (Nat.le_of_ble_eq_true rfl) rfl (fun g9 ⟨e9, h9e, h9p⟩ => ⟨e9, by unfold zLH; rw [zBd_r he1, zKs_e h9e] <;> rfl, h9p.tr (fun j9 h9 => f1 j9 (by omega))⟩) (gPe.kr (fun a3 g3 he3 h3 => ?_))
  obtain ⟨hT3, f3⟩ := h3
  have hT3_o := hT3
  obtain ⟨⟨hT3_F, hT3_a, hT3_0, hT3_1, hT3_2, hT3_3, hT3_4, hT3_5, hT3_6, hT3_7, hT3_8, hT3_9⟩, hT3_s, ⟨hT3_G, hT3_b⟩, ⟨hT3_l, hT3_c⟩, hT3_t, hT3_z⟩ := hT3_o
  have hT3_t_o := hT3_t
  obtain ⟨hT3_t_f, hT3_t_a, hT3_t_b⟩ := hT3_t_o
  have hlt3 := zKn_lt he3
  obtain ⟨s3, k3⟩ := a3
  obtain ⟨hs3, hk3⟩ := hlt3
  rcases (show s3 = 0 ∨ s3 = 1 ∨ s3 = 2 ∨ s3 = 3 by have : s3 < 4 := hs3; omega) with rfl | rfl | rfl | rfl
  · have hk3 : k3 < B 0 0 := hk3
    refine g_asr (b := bb + 10 + k3) rfl ?_
    have y4 := (y2.fr hw (by omega) (fun j9 a9 b9 => f3 j9 (by omega)))
    obtain ⟨m5_F, m5_a, m5_1, m5_2, m5_3, m5_4, m5_5, m5_6, m5_7⟩ := pBr.means y4.1 k3 (by omega)
    refine g_astore_n E dX2_hides_9 rfl (by decide) rfl (lo1 := [some (.ref 1002), some (.ref (bb + 10 + k3)), none]) rfl rfl ?_
    refine g_aload_n E dX2_hides_10 rfl rfl rfl ?_
    refine g_instNo (n9 := 0) E gciX16 dX2_hides_11 m5_a q1097 (by decide +kernel) rfl ?_
    refine g_if_ne E dX2_hides_14 (tgt := 23) (by decide) rfl (fun h9 => absurd h9 (by decide)) (fun _ => ?_)
    refine g_aload_n E dX2_hides_17 rfl rfl rfl ?_
    refine g_iconst E (v := 2) dX2_hides_18 (by decide) rfl ?_
    refine g_callV (k := 1002) (n9 := 1) (av := [.int 2]) (st := []) E (ct_X2_fail l 2 (⟨_, hT3_a, hT3_0, hT3_6⟩) (⟨_, hT3_b⟩)) gciX2 dX2_hides_19 hT3_a q716 q718 qs7 q121 q719 (by decide +kernel) rfl rfl ⟨by decide, by decide⟩ ⟨by decide, by decide⟩ (Nat.le_of_ble_eq_true rfl) rfl (gPr.k (fun g6 h6 => ?_))
    obtain ⟨⟨F6, h6, h6a, h6b⟩, f6⟩ := h6
    have x7 := (f6 (1002) (by omega)).trans (hT3_a)
    have x8 := (f6 (1004) (by omega)).trans (hT3_c)
    exact g_athrow E Rx dX2_hides_22 h6 (by decide) (by decide) (⟨(2, a1.2.2.1), by unfold zLH; rw [zBd_r he1, zKs_n he3 (by decide)] <;> rfl, ⟨⟨_, h6, h6a, h6b⟩, ⟨_, x7, hT3_0, hT3_1, hT3_2⟩, ⟨_, x8⟩, ⟨N1, by omega, fun j9 a9 => (f6 j9 (by omega)).trans (hT3_z j9 (by omega))⟩, fun j9 h9 => ((f6 j9 (by omega)).trans (f3 j9 (by omega))).trans (f1 j9 (by omega))⟩⟩)
  · have hk3 : k3 < B 0 1 := hk3
    refine g_asr (b := bb + 20 + k3) rfl ?_
    have y9 := (y2.fr hw (by omega) (fun j9 a9 b9 => f3 j9 (by omega)))
    have e10_h := pBr.people y9.1 k3 (by omega)
    obtain ⟨e10_F, e10_a, e10_1, e10_2, e10_3⟩ := e10_h
    refine g_astore_n E dX2_hides_9 rfl (by decide) rfl (lo1 := [some (.ref 1002), some (.ref (bb + 20 + k3)), none]) rfl rfl ?_
    refine g_aload_n E dX2_hides_10 rfl rfl rfl ?_
    refine g_instNo (n9 := 0) E gciX17 dX2_hides_11 e10_a q1097 (by decide +kernel) rfl ?_
    refine g_if_ne E dX2_hides_14 (tgt := 23) (by decide) rfl (fun h9 => absurd h9 (by decide)) (fun _ => ?_)
    refine g_aload_n E dX2_hides_17 rfl rfl rfl ?_
    refine g_iconst E (v := 2) dX2_hides_18 (by decide) rfl ?_
    refine g_callV (k := 1002) (n9 := 1) (av := [.int 2]) (st := []) E (ct_X2_fail l 2 (⟨_, hT3_a, hT3_0, hT3_6⟩) (⟨_, hT3_b⟩)) gciX2 dX2_hides_19 hT3_a q716 q718 qs7 q121 q719 (by decide +kernel) rfl rfl ⟨by decide, by decide⟩ ⟨by decide, by decide⟩ (Nat.le_of_ble_eq_true rfl) rfl (gPr.k (fun g11 h11 => ?_))
    obtain ⟨⟨F11, h11, h11a, h11b⟩, f11⟩ := h11
    have x12 := (f11 (1002) (by omega)).trans (hT3_a)
    have x13 := (f11 (1004) (by omega)).trans (hT3_c)
    exact g_athrow E Rx dX2_hides_22 h11 (by decide) (by decide) (⟨(2, a1.2.2.1), by unfold zLH; rw [zBd_r he1, zKs_n he3 (by decide)] <;> rfl, ⟨⟨_, h11, h11a, h11b⟩, ⟨_, x12, hT3_0, hT3_1, hT3_2⟩, ⟨_, x13⟩, ⟨N1, by omega, fun j9 a9 => (f11 j9 (by omega)).trans (hT3_z j9 (by omega))⟩, fun j9 h9 => ((f11 j9 (by omega)).trans (f3 j9 (by omega))).trans (f1 j9 (by omega))⟩⟩)
  · have hk3 : k3 < B 0 2 := hk3
    refine g_asr (b := bb + 30 + k3) rfl ?_
    have y14 := (y2.fr hw (by omega) (fun j9 a9 b9 => f3 j9 (by omega)))
    have e15_h := pBr.gates y14.1 k3 (by omega)
    obtain ⟨e15_F, e15_a, e15_1, e15_2, e15_3, e15_4⟩ := e15_h
    refine g_astore_n E dX2_hides_9 rfl (by decide) rfl (lo1 := [some (.ref 1002), some (.ref (bb + 30 + k3)), none]) rfl rfl ?_
    refine g_aload_n E dX2_hides_10 rfl rfl rfl ?_
    refine g_instNo (n9 := 0) E gciX18 dX2_hides_11 e15_a q1097 (by decide +kernel) rfl ?_
    refine g_if_ne E dX2_hides_14 (tgt := 23) (by decide) rfl (fun h9 => absurd h9 (by decide)) (fun _ => ?_)
    refine g_aload_n E dX2_hides_17 rfl rfl rfl ?_
    refine g_iconst E (v := 2) dX2_hides_18 (by decide) rfl ?_
    refine g_callV (k := 1002) (n9 := 1) (av := [.int 2]) (st := []) E (ct_X2_fail l 2 (⟨_, hT3_a, hT3_0, hT3_6⟩) (⟨_, hT3_b⟩)) gciX2 dX2_hides_19 hT3_a q716 q718 qs7 q121 q719 (by decide +kernel) rfl rfl ⟨by decide, by decide⟩ ⟨by decide, by decide⟩ (Nat.le_of_ble_eq_true rfl) rfl (gPr.k (fun g16 h16 => ?_))
    obtain ⟨⟨F16, h16, h16a, h16b⟩, f16⟩ := h16
    have x17 := (f16 (1002) (by omega)).trans (hT3_a)
    have x18 := (f16 (1004) (by omega)).trans (hT3_c)
    exact g_athrow E Rx dX2_hides_22 h16 (by decide) (by decide) (⟨(2, a1.2.2.1), by unfold zLH; rw [zBd_r he1, zKs_n he3 (by decide)] <;> rfl, ⟨⟨_, h16, h16a, h16b⟩, ⟨_, x17, hT3_0, hT3_1, hT3_2⟩, ⟨_, x18⟩, ⟨N1, by omega, fun j9 a9 => (f16 j9 (by omega)).trans (hT3_z j9 (by omega))⟩, fun j9 h9 => ((f16 j9 (by omega)).trans (f3 j9 (by omega))).trans (f1 j9 (by omega))⟩⟩)
  · have hk3 : k3 < B 0 3 := hk3
    refine g_asr (b := bb + 40 + k3) rfl ?_
    have y19 := (y2.fr hw (by omega) (fun j9 a9 b9 => f3 j9 (by omega)))
    have u20 := pBr.good y19.1 hw (j := k3) (by omega)
    have u20_b := wfB.goods hw (j := k3) (by omega)
    have o21 := u20
    obtain ⟨⟨o21_F, o21_a, o21_0, o21_1, o21_2, o21_3, o21_4, o21_7⟩, o21_m, o21_k⟩ := o21
    refine g_astore_n E dX2_hides_9 rfl (by decide) rfl (lo1 := [some (.ref 1002), some (.ref (bb + 40 + k3)), none]) rfl rfl ?_
    refine g_aload_n E dX2_hides_10 rfl rfl rfl ?_
    refine g_instGY E dX2_hides_11 o21_a (o21_k) q1097 rfl ?_
    refine g_if_ne E dX2_hides_14 (tgt := 23) (by decide) rfl (fun _ => ?_) (fun h9 => absurd h9 (by decide))
    refine g_aload_n E dX2_hides_23 rfl rfl rfl ?_
    refine g_castG E dX2_hides_24 o21_a (o21_k) q1097 rfl ?_
    refine g_astore_n E dX2_hides_27 rfl (by decide) rfl (lo1 := [some (.ref 1002), some (.ref (bb + 40 + k3)), some (.ref (bb + 40 + k3))]) rfl rfl ?_
    refine g_aload_n E dX2_hides_28 rfl rfl rfl ?_
    refine g_getG E dX2_hides_29 o21_a (o21_k) 4 (by decide) rfl rfl rfl rfl rfl q979 (.inl rfl) (.int (nI (B 18 k3))) (o21_4) rfl ?_
    refine g_if_eq E dX2_hides_32 (tgt := 41) (by decide) rfl (fun c32 => ?_) (fun c32 => ?_)
    · have c32 := (nI_eq (a := B 18 k3) (b := 0) (by omega) (by omega)).mp c32
      refine g_aload_n E dX2_hides_41 rfl rfl rfl ?_
      refine g_callV (k := 1002) (n9 := 0) (av := []) (st := []) E (ct_X2_next l hT3.q (by omega) hok1.1 (by omega) (by omega)) gciX2 dX2_hides_42 hT3_a q618 q620 qs4 q121 q621 (by decide +kernel) rfl rfl ⟨by decide, by decide⟩ ⟨by decide, by decide⟩ (Nat.le_of_ble_eq_true rfl) rfl (gPn.k (fun g22 h22 => ?_))
      obtain ⟨M22, N22, hM22, hN22, hT22, f22⟩ := h22
      have hT22_o := hT22
      obtain ⟨⟨hT22_F, hT22_a, hT22_0, hT22_1, hT22_2, hT22_3, hT22_4, hT22_5, hT22_6, hT22_7, hT22_8, hT22_9⟩, hT22_s, ⟨hT22_G, hT22_b⟩, ⟨hT22_l, hT22_c⟩, hT22_t, hT22_z⟩ := hT22_o
      have hT22_t_o := hT22_t
      obtain ⟨hT22_t_f, hT22_t_a, hT22_t_b⟩ := hT22_t_o
      have hok22 : zOk n (zTn T n a1.1) := zTn_ok hok1.1
      have hok22_o := hok22
      obtain ⟨hok22_1, hok22_2, hok22_3, hok22_4, hok22_5⟩ := hok22_o
      have x24 := (f22 (bb + 40 + k3) (by omega)).trans (o21_a)
      rcases (show B 12 k3 = 0 ∨ B 12 k3 = 1 ∨ B 12 k3 = 2 ∨ B 12 k3 = 3 ∨ B 12 k3 = 4 by omega) with kd23 | kd23 | kd23 | kd23 | kd23
      · have x25 := x24
        rw [kd23] at x25
        refine g_aload_n E dX2_hides_45 rfl rfl rfl ?_
        refine g_iconst E (v := 1) dX2_hides_46 (by decide) rfl ?_
        refine g_putf E gciX20 (v := .int 1) dX2_hides_47 x25 4 rfl (by decide) q979 (.inl rfl) rfl (fun _ => show narrow .boolean (.int 1) = .int 1 by decide) (fun _ => show fits .boolean (.int 1) = true by decide) rfl (g_upk (fun g26 h26 f26 => ?_))
        have x27 := (f26 (1002) (by omega)).trans (hT22_a)
        have x29 := (f26 (1003) (by omega)).trans (hT22_b)
        have x30 := (f26 (1004) (by omega)).trans (hT22_c)
        have y31 := (hT22_t.fr  (fun j9 a9 b9 => f26 j9 (by omega)))
        have hT28 : pTk g26 n bb (zTn T n a1.1) M22 N22 T := ⟨⟨_, x27, hT22_0, hT22_1, hT22_2, hT22_3, hT22_4, hT22_5, hT22_6, hT22_7, hT22_8, hT22_9⟩, (fun h8 => ⟨(hT22_s h8).1.fr (fun j9 a9 b9 => f26 j9 (by omega)), (hT22_s h8).2⟩), ⟨_, x29⟩, ⟨_, x30⟩, y31, fun j9 a9 => (f26 j9 (by omega)).trans (hT22_z j9 (by omega))⟩
        have x32 := (f26 (bb) (by omega)).trans ((f22 (bb) (by omega)).trans ((f3 (bb) (by omega)).trans ((f1 (bb) (by omega)).trans (hQ_r_a))))
        exact (gRx_leave Rx E).elim (fun z9 h9z => h9z.2.2 _ _ _ _ _ _ (g_vret h9z.2.1 h9z.1 dX2_hides_50 rfl (by decide) (by decide) (⟨(zTn T n a1.1, bs B 18 k3 1, Nm), by unfold zLH; rw [zBd_r he1, zKs_r he3, if_neg (show ¬ B 18 k3 = 1 by omega)] <;> rfl, rfl, M22, N22, by omega, by omega, hT28, pBq_H hw hx hQ hM (by omega) hk3 (⟨_, x32, hQ_r_0, hQ_r_1, hQ_r_2, hQ_r_3, hQ_r_4, hQ_r_5, hQ_r_6, hQ_r_7, hQ_r_8, hQ_r_9, hQ_r_10, hQ_r_11, hQ_r_12, hQ_r_13, hQ_r_14, hQ_r_15, hQ_gb⟩) ⟨(va_up o21_F 4 (.int 1)), _, by rw [kd23]; exact h26, ((f3 _ (by omega)).trans (f1 _ (by omega))).symm.trans o21_a, fun i8 h8 => by unfold va_up; rw [if_neg h8], rfl⟩ (fun j9 a9 b9 c0_ c1_ => (((f26 j9 (by omega)).trans (f22 j9 (by omega))).trans (f3 j9 (by omega))).trans (f1 j9 (by omega))), pSl_H hw hS9 hk3 (fun j9 a9 b9 c0_ c1_ => (((f26 j9 (by omega)).trans (f22 j9 (by omega))).trans (f3 j9 (by omega))).trans (f1 j9 (by omega))), fun j9 h9 => (((f26 j9 (by omega)).trans (f22 j9 (by omega))).trans (f3 j9 (by omega))).trans (f1 j9 (by omega))⟩)))
      · have x33 := x24
        rw [kd23] at x33
        refine g_aload_n E dX2_hides_45 rfl rfl rfl ?_
        refine g_iconst E (v := 1) dX2_hides_46 (by decide) rfl ?_
        refine g_putf E gciX22 (v := .int 1) dX2_hides_47 x33 4 rfl (by decide) q979 (.inl rfl) rfl (fun _ => show narrow .boolean (.int 1) = .int 1 by decide) (fun _ => show fits .boolean (.int 1) = true by decide) rfl (g_upk (fun g34 h34 f34 => ?_))
        have x35 := (f34 (1002) (by omega)).trans (hT22_a)
        have x37 := (f34 (1003) (by omega)).trans (hT22_b)
        have x38 := (f34 (1004) (by omega)).trans (hT22_c)
        have y39 := (hT22_t.fr  (fun j9 a9 b9 => f34 j9 (by omega)))
        have hT36 : pTk g34 n bb (zTn T n a1.1) M22 N22 T := ⟨⟨_, x35, hT22_0, hT22_1, hT22_2, hT22_3, hT22_4, hT22_5, hT22_6, hT22_7, hT22_8, hT22_9⟩, (fun h8 => ⟨(hT22_s h8).1.fr (fun j9 a9 b9 => f34 j9 (by omega)), (hT22_s h8).2⟩), ⟨_, x37⟩, ⟨_, x38⟩, y39, fun j9 a9 => (f34 j9 (by omega)).trans (hT22_z j9 (by omega))⟩
        have x40 := (f34 (bb) (by omega)).trans ((f22 (bb) (by omega)).trans ((f3 (bb) (by omega)).trans ((f1 (bb) (by omega)).trans (hQ_r_a))))
        exact (gRx_leave Rx E).elim (fun z9 h9z => h9z.2.2 _ _ _ _ _ _ (g_vret h9z.2.1 h9z.1 dX2_hides_50 rfl (by decide) (by decide) (⟨(zTn T n a1.1, bs B 18 k3 1, Nm), by unfold zLH; rw [zBd_r he1, zKs_r he3, if_neg (show ¬ B 18 k3 = 1 by omega)] <;> rfl, rfl, M22, N22, by omega, by omega, hT36, pBq_H hw hx hQ hM (by omega) hk3 (⟨_, x40, hQ_r_0, hQ_r_1, hQ_r_2, hQ_r_3, hQ_r_4, hQ_r_5, hQ_r_6, hQ_r_7, hQ_r_8, hQ_r_9, hQ_r_10, hQ_r_11, hQ_r_12, hQ_r_13, hQ_r_14, hQ_r_15, hQ_gb⟩) ⟨(va_up o21_F 4 (.int 1)), _, by rw [kd23]; exact h34, ((f3 _ (by omega)).trans (f1 _ (by omega))).symm.trans o21_a, fun i8 h8 => by unfold va_up; rw [if_neg h8], rfl⟩ (fun j9 a9 b9 c0_ c1_ => (((f34 j9 (by omega)).trans (f22 j9 (by omega))).trans (f3 j9 (by omega))).trans (f1 j9 (by omega))), pSl_H hw hS9 hk3 (fun j9 a9 b9 c0_ c1_ => (((f34 j9 (by omega)).trans (f22 j9 (by omega))).trans (f3 j9 (by omega))).trans (f1 j9 (by omega))), fun j9 h9 => (((f34 j9 (by omega)).trans (f22 j9 (by omega))).trans (f3 j9 (by omega))).trans (f1 j9 (by omega))⟩)))
      · have x41 := x24
        rw [kd23] at x41
        refine g_aload_n E dX2_hides_45 rfl rfl rfl ?_
        refine g_iconst E (v := 1) dX2_hides_46 (by decide) rfl ?_
        refine g_putf E gciX23 (v := .int 1) dX2_hides_47 x41 4 rfl (by decide) q979 (.inl rfl) rfl (fun _ => show narrow .boolean (.int 1) = .int 1 by decide) (fun _ => show fits .boolean (.int 1) = true by decide) rfl (g_upk (fun g42 h42 f42 => ?_))
        have x43 := (f42 (1002) (by omega)).trans (hT22_a)
        have x45 := (f42 (1003) (by omega)).trans (hT22_b)
        have x46 := (f42 (1004) (by omega)).trans (hT22_c)
        have y47 := (hT22_t.fr  (fun j9 a9 b9 => f42 j9 (by omega)))
        have hT44 : pTk g42 n bb (zTn T n a1.1) M22 N22 T := ⟨⟨_, x43, hT22_0, hT22_1, hT22_2, hT22_3, hT22_4, hT22_5, hT22_6, hT22_7, hT22_8, hT22_9⟩, (fun h8 => ⟨(hT22_s h8).1.fr (fun j9 a9 b9 => f42 j9 (by omega)), (hT22_s h8).2⟩), ⟨_, x45⟩, ⟨_, x46⟩, y47, fun j9 a9 => (f42 j9 (by omega)).trans (hT22_z j9 (by omega))⟩
        have x48 := (f42 (bb) (by omega)).trans ((f22 (bb) (by omega)).trans ((f3 (bb) (by omega)).trans ((f1 (bb) (by omega)).trans (hQ_r_a))))
        exact (gRx_leave Rx E).elim (fun z9 h9z => h9z.2.2 _ _ _ _ _ _ (g_vret h9z.2.1 h9z.1 dX2_hides_50 rfl (by decide) (by decide) (⟨(zTn T n a1.1, bs B 18 k3 1, Nm), by unfold zLH; rw [zBd_r he1, zKs_r he3, if_neg (show ¬ B 18 k3 = 1 by omega)] <;> rfl, rfl, M22, N22, by omega, by omega, hT44, pBq_H hw hx hQ hM (by omega) hk3 (⟨_, x48, hQ_r_0, hQ_r_1, hQ_r_2, hQ_r_3, hQ_r_4, hQ_r_5, hQ_r_6, hQ_r_7, hQ_r_8, hQ_r_9, hQ_r_10, hQ_r_11, hQ_r_12, hQ_r_13, hQ_r_14, hQ_r_15, hQ_gb⟩) ⟨(va_up o21_F 4 (.int 1)), _, by rw [kd23]; exact h42, ((f3 _ (by omega)).trans (f1 _ (by omega))).symm.trans o21_a, fun i8 h8 => by unfold va_up; rw [if_neg h8], rfl⟩ (fun j9 a9 b9 c0_ c1_ => (((f42 j9 (by omega)).trans (f22 j9 (by omega))).trans (f3 j9 (by omega))).trans (f1 j9 (by omega))), pSl_H hw hS9 hk3 (fun j9 a9 b9 c0_ c1_ => (((f42 j9 (by omega)).trans (f22 j9 (by omega))).trans (f3 j9 (by omega))).trans (f1 j9 (by omega))), fun j9 h9 => (((f42 j9 (by omega)).trans (f22 j9 (by omega))).trans (f3 j9 (by omega))).trans (f1 j9 (by omega))⟩)))
      · have x49 := x24
        rw [kd23] at x49
        refine g_aload_n E dX2_hides_45 rfl rfl rfl ?_
        refine g_iconst E (v := 1) dX2_hides_46 (by decide) rfl ?_
        refine g_putf E gciX24 (v := .int 1) dX2_hides_47 x49 4 rfl (by decide) q979 (.inl rfl) rfl (fun _ => show narrow .boolean (.int 1) = .int 1 by decide) (fun _ => show fits .boolean (.int 1) = true by decide) rfl (g_upk (fun g50 h50 f50 => ?_))
        have x51 := (f50 (1002) (by omega)).trans (hT22_a)
        have x53 := (f50 (1003) (by omega)).trans (hT22_b)
        have x54 := (f50 (1004) (by omega)).trans (hT22_c)
        have y55 := (hT22_t.fr  (fun j9 a9 b9 => f50 j9 (by omega)))
        have hT52 : pTk g50 n bb (zTn T n a1.1) M22 N22 T := ⟨⟨_, x51, hT22_0, hT22_1, hT22_2, hT22_3, hT22_4, hT22_5, hT22_6, hT22_7, hT22_8, hT22_9⟩, (fun h8 => ⟨(hT22_s h8).1.fr (fun j9 a9 b9 => f50 j9 (by omega)), (hT22_s h8).2⟩), ⟨_, x53⟩, ⟨_, x54⟩, y55, fun j9 a9 => (f50 j9 (by omega)).trans (hT22_z j9 (by omega))⟩
        have x56 := (f50 (bb) (by omega)).trans ((f22 (bb) (by omega)).trans ((f3 (bb) (by omega)).trans ((f1 (bb) (by omega)).trans (hQ_r_a))))
        exact (gRx_leave Rx E).elim (fun z9 h9z => h9z.2.2 _ _ _ _ _ _ (g_vret h9z.2.1 h9z.1 dX2_hides_50 rfl (by decide) (by decide) (⟨(zTn T n a1.1, bs B 18 k3 1, Nm), by unfold zLH; rw [zBd_r he1, zKs_r he3, if_neg (show ¬ B 18 k3 = 1 by omega)] <;> rfl, rfl, M22, N22, by omega, by omega, hT52, pBq_H hw hx hQ hM (by omega) hk3 (⟨_, x56, hQ_r_0, hQ_r_1, hQ_r_2, hQ_r_3, hQ_r_4, hQ_r_5, hQ_r_6, hQ_r_7, hQ_r_8, hQ_r_9, hQ_r_10, hQ_r_11, hQ_r_12, hQ_r_13, hQ_r_14, hQ_r_15, hQ_gb⟩) ⟨(va_up o21_F 4 (.int 1)), _, by rw [kd23]; exact h50, ((f3 _ (by omega)).trans (f1 _ (by omega))).symm.trans o21_a, fun i8 h8 => by unfold va_up; rw [if_neg h8], rfl⟩ (fun j9 a9 b9 c0_ c1_ => (((f50 j9 (by omega)).trans (f22 j9 (by omega))).trans (f3 j9 (by omega))).trans (f1 j9 (by omega))), pSl_H hw hS9 hk3 (fun j9 a9 b9 c0_ c1_ => (((f50 j9 (by omega)).trans (f22 j9 (by omega))).trans (f3 j9 (by omega))).trans (f1 j9 (by omega))), fun j9 h9 => (((f50 j9 (by omega)).trans (f22 j9 (by omega))).trans (f3 j9 (by omega))).trans (f1 j9 (by omega))⟩)))
      · have x57 := x24
        rw [kd23] at x57
        refine g_aload_n E dX2_hides_45 rfl rfl rfl ?_
        refine g_iconst E (v := 1) dX2_hides_46 (by decide) rfl ?_
        refine g_putf E gciX25 (v := .int 1) dX2_hides_47 x57 4 rfl (by decide) q979 (.inl rfl) rfl (fun _ => show narrow .boolean (.int 1) = .int 1 by decide) (fun _ => show fits .boolean (.int 1) = true by decide) rfl (g_upk (fun g58 h58 f58 => ?_))
        have x59 := (f58 (1002) (by omega)).trans (hT22_a)
        have x61 := (f58 (1003) (by omega)).trans (hT22_b)
        have x62 := (f58 (1004) (by omega)).trans (hT22_c)
        have y63 := (hT22_t.fr  (fun j9 a9 b9 => f58 j9 (by omega)))
        have hT60 : pTk g58 n bb (zTn T n a1.1) M22 N22 T := ⟨⟨_, x59, hT22_0, hT22_1, hT22_2, hT22_3, hT22_4, hT22_5, hT22_6, hT22_7, hT22_8, hT22_9⟩, (fun h8 => ⟨(hT22_s h8).1.fr (fun j9 a9 b9 => f58 j9 (by omega)), (hT22_s h8).2⟩), ⟨_, x61⟩, ⟨_, x62⟩, y63, fun j9 a9 => (f58 j9 (by omega)).trans (hT22_z j9 (by omega))⟩
        have x64 := (f58 (bb) (by omega)).trans ((f22 (bb) (by omega)).trans ((f3 (bb) (by omega)).trans ((f1 (bb) (by omega)).trans (hQ_r_a))))
        exact (gRx_leave Rx E).elim (fun z9 h9z => h9z.2.2 _ _ _ _ _ _ (g_vret h9z.2.1 h9z.1 dX2_hides_50 rfl (by decide) (by decide) (⟨(zTn T n a1.1, bs B 18 k3 1, Nm), by unfold zLH; rw [zBd_r he1, zKs_r he3, if_neg (show ¬ B 18 k3 = 1 by omega)] <;> rfl, rfl, M22, N22, by omega, by omega, hT60, pBq_H hw hx hQ hM (by omega) hk3 (⟨_, x64, hQ_r_0, hQ_r_1, hQ_r_2, hQ_r_3, hQ_r_4, hQ_r_5, hQ_r_6, hQ_r_7, hQ_r_8, hQ_r_9, hQ_r_10, hQ_r_11, hQ_r_12, hQ_r_13, hQ_r_14, hQ_r_15, hQ_gb⟩) ⟨(va_up o21_F 4 (.int 1)), _, by rw [kd23]; exact h58, ((f3 _ (by omega)).trans (f1 _ (by omega))).symm.trans o21_a, fun i8 h8 => by unfold va_up; rw [if_neg h8], rfl⟩ (fun j9 a9 b9 c0_ c1_ => (((f58 j9 (by omega)).trans (f22 j9 (by omega))).trans (f3 j9 (by omega))).trans (f1 j9 (by omega))), pSl_H hw hS9 hk3 (fun j9 a9 b9 c0_ c1_ => (((f58 j9 (by omega)).trans (f22 j9 (by omega))).trans (f3 j9 (by omega))).trans (f1 j9 (by omega))), fun j9 h9 => (((f58 j9 (by omega)).trans (f22 j9 (by omega))).trans (f3 j9 (by omega))).trans (f1 j9 (by omega))⟩)))
    · have c32 := mt (nI_eq (a := B 18 k3) (b := 0) (by omega) (by omega)).mpr c32
      refine g_aload_n E dX2_hides_35 rfl rfl rfl ?_
      refine g_iconst E (v := 3) dX2_hides_36 (by decide) rfl ?_
      refine g_callV (k := 1002) (n9 := 1) (av := [.int 3]) (st := []) E (ct_X2_fail l 3 (⟨_, hT3_a, hT3_0, hT3_6⟩) (⟨_, hT3_b⟩)) gciX2 dX2_hides_37 hT3_a q716 q718 qs7 q121 q719 (by decide +kernel) rfl rfl ⟨by decide, by decide⟩ ⟨by decide, by decide⟩ (Nat.le_of_ble_eq_true rfl) rfl (gPr.k (fun g65 h65 => ?_))
      obtain ⟨⟨F65, h65, h65a, h65b⟩, f65⟩ := h65
      have x66 := (f65 (1002) (by omega)).trans (hT3_a)
      have x67 := (f65 (1004) (by omega)).trans (hT3_c)
      exact g_athrow E Rx dX2_hides_40 h65 (by decide) (by decide) (⟨(3, a1.2.2.1), by unfold zLH; rw [zBd_r he1, zKs_r he3, if_pos (show B 18 k3 = 1 by omega)] <;> rfl, ⟨⟨_, h65, h65a, h65b⟩, ⟨_, x66, hT3_0, hT3_1, hT3_2⟩, ⟨_, x67⟩, ⟨N1, by omega, fun j9 a9 => (f65 j9 (by omega)).trans (hT3_z j9 (by omega))⟩, fun j9 h9 => ((f65 j9 (by omega)).trans (f3 j9 (by omega))).trans (f1 j9 (by omega))⟩⟩)
set_option maxHeartbeats 2000000 in
theorem ct_X2_keptOf (l : Launch) {g : gWM} {n bb M N : Nat} {t : zTk} {T : Nat → Int32} {k9 sw : Nat} (i9 : Int32) (hT : pTk g n bb t M N T) (hn : n ≤ 1100) (hok : zOk n t) (hbb : 10000 ≤ bb) (hM : bb + 100 ≤ M) (hMN : M ≤ N) (hk9 : g k9 = none) (hkb : bb ≤ k9) (hkb2 : k9 < bb + 100) : gXt l yX2_keptOf cX2_keptOf 3 (some (.object "SaltedGate$Kept")) 7 9 60 163 [.ref 1002, .ref sw, .int i9] g (gPe (zKp T n t) (fun _ => some (.ref k9)) (fun a g1 => pSk g1 g n bb a.2 M N T k9 ∧ pOb g1 k9 (15 + a.1) sw)) (fun g1 => ∃ e, zKp T n t = .inl e ∧ pXx g1 g bb e) := by
  refine gXt.of RX2 (by decide) rfl (lo := [some (.ref 1002), some (.ref sw), some (.int i9)]) 0 rfl (Nat.le_of_ble_eq_true rfl) (fun z E Rx => ?_)
  have hT_o := hT
  obtain ⟨⟨hT_F, hT_a, hT_0, hT_1, hT_2, hT_3, hT_4, hT_5, hT_6, hT_7, hT_8, hT_9⟩, hT_s, ⟨hT_G, hT_b⟩, ⟨hT_l, hT_c⟩, hT_t, hT_z⟩ := hT_o
  have hT_t_o := hT_t
  obtain ⟨hT_t_f, hT_t_a, hT_t_b⟩ := hT_t_o
  have hok_o := hok
  obtain ⟨hok_1, hok_2, hok_3, hok_4, hok_5⟩ := hok_o
  refine g_aload_n E dX2_keptOf_0 rfl rfl rfl ?_
  refine g_ldcwS E (j := 22) (tx := "plain") rfl dX2_keptOf_1 rfl ?_
  refine g_callV (k := 1002) (n9 := 1) (av := [.ref (1 + 2 * 22)]) (st := []) E (ct_X2_takes l hT (by omega) hok (by omega) (by omega) (by omega) rfl) gciX2 dX2_keptOf_4 hT_a q807 q809 qs11 q121 q810 (by decide +kernel) rfl rfl ⟨by decide, by decide⟩ ⟨by decide, by decide⟩ (Nat.le_of_ble_eq_true rfl) rfl (gTk.k (fun g1 hc1 h1 => ?_) (fun hc1 => ?_))
  · obtain ⟨M1, N1, hM1, hN1, hT1, f1⟩ := h1
    have hT1_o := hT1
    obtain ⟨⟨hT1_F, hT1_a, hT1_0, hT1_1, hT1_2, hT1_3, hT1_4, hT1_5, hT1_6, hT1_7, hT1_8, hT1_9⟩, hT1_s, ⟨hT1_G, hT1_b⟩, ⟨hT1_l, hT1_c⟩, hT1_t, hT1_z⟩ := hT1_o
    have hT1_t_o := hT1_t
    obtain ⟨hT1_t_f, hT1_t_a, hT1_t_b⟩ := hT1_t_o
    have hok1 : zOk n (zTn T n t.1) := zTn_ok hok.1
    have hok1_o := hok1
    obtain ⟨hok1_1, hok1_2, hok1_3, hok1_4, hok1_5⟩ := hok1_o
    refine g_if_eq E dX2_keptOf_7 (tgt := 20) (by decide) rfl (fun h9 => absurd h9 (by decide)) (fun _ => ?_)
    refine g_new E gciX22 dX2_keptOf_10 q1006 q1007 q149 (k9) ((f1 (k9) (by omega)).trans (hk9)) (by omega) (by decide) (by decide) rfl (g_upk (fun g2 h2 f2 => ?_))
    refine g_dup E dX2_keptOf_13 rfl rfl ?_
    refine g_aload_n E dX2_keptOf_14 rfl rfl rfl ?_
    refine g_iload_n E dX2_keptOf_15 rfl rfl rfl ?_
    refine g_callI (k := k9) (n9 := 2) (av := [.ref sw, .int i9]) (st := [.ref k9]) E (ct_X22_init l i9 h2) gciX22 dX2_keptOf_16 h2 q1008 q1009 q149 q1010 (by decide +kernel) rfl rfl rfl ⟨by decide, by decide⟩ ⟨by decide, by decide⟩ (Nat.le_of_ble_eq_true rfl) rfl (gPn.k (fun g3 h3 => ?_))
    obtain ⟨h3, f3⟩ := h3
    have x4 := (f3 (1002) (by omega)).trans ((f2 (1002) (by omega)).trans (hT1_a))
    have x6 := (f3 (1003) (by omega)).trans ((f2 (1003) (by omega)).trans (hT1_b))
    have x7 := (f3 (1004) (by omega)).trans ((f2 (1004) (by omega)).trans (hT1_c))
    have y8 := ((hT1_t.fr  (fun j9 a9 b9 => f2 j9 (by omega))).fr  (fun j9 a9 b9 => f3 j9 (by omega)))
    have hT5 : pTk g3 n bb (zTn T n t.1) M1 N1 T := ⟨⟨_, x4, hT1_0, hT1_1, hT1_2, hT1_3, hT1_4, hT1_5, hT1_6, hT1_7, hT1_8, hT1_9⟩, (fun h8 => ⟨(hT1_s h8).1.fr (fun j9 a9 b9 => (f3 j9 (by omega)).trans (f2 j9 (by omega))), (hT1_s h8).2⟩), ⟨_, x6⟩, ⟨_, x7⟩, y8, fun j9 a9 => (f3 j9 (by omega)).trans ((f2 j9 (by omega)).trans (hT1_z j9 (by omega)))⟩
    exact (gRx_leave Rx E).elim (fun z9 h9z => h9z.2.2 _ _ _ _ _ _ (g_aret h9z.2.1 h9z.1 dX2_keptOf_19 rfl (Or.inl ⟨_, rfl⟩) (by decide) (by decide) (⟨(1, zTn T n t.1), by unfold zKp; rw [if_pos hc1] <;> rfl, rfl, ⟨M1, N1, by omega, by omega, hT5, fun j9 h9 => ((f3 j9 (by omega)).trans (f2 j9 (by omega))).trans (f1 j9 (by omega))⟩, ⟨_, h3, rfl, rfl, rfl, rfl, rfl, rfl⟩⟩)))
  · refine g_if_eq E dX2_keptOf_7 (tgt := 20) (by decide) rfl (fun _ => ?_) (fun h9 => absurd h9 (by decide))
    refine g_aload_n E dX2_keptOf_20 rfl rfl rfl ?_
    refine g_ldcwS E (j := 23) (tx := "wine") rfl dX2_keptOf_21 rfl ?_
    refine g_callV (k := 1002) (n9 := 1) (av := [.ref (1 + 2 * 23)]) (st := []) E (ct_X2_takes l hT (by omega) hok (by omega) (by omega) (by omega) rfl) gciX2 dX2_keptOf_24 hT_a q807 q809 qs11 q121 q810 (by decide +kernel) rfl rfl ⟨by decide, by decide⟩ ⟨by decide, by decide⟩ (Nat.le_of_ble_eq_true rfl) rfl (gTk.k (fun g9 hc9 h9 => ?_) (fun hc9 => ?_))
    · obtain ⟨M9, N9, hM9, hN9, hT9, f9⟩ := h9
      have hT9_o := hT9
      obtain ⟨⟨hT9_F, hT9_a, hT9_0, hT9_1, hT9_2, hT9_3, hT9_4, hT9_5, hT9_6, hT9_7, hT9_8, hT9_9⟩, hT9_s, ⟨hT9_G, hT9_b⟩, ⟨hT9_l, hT9_c⟩, hT9_t, hT9_z⟩ := hT9_o
      have hT9_t_o := hT9_t
      obtain ⟨hT9_t_f, hT9_t_a, hT9_t_b⟩ := hT9_t_o
      have hok9 : zOk n (zTn T n t.1) := zTn_ok hok.1
      have hok9_o := hok9
      obtain ⟨hok9_1, hok9_2, hok9_3, hok9_4, hok9_5⟩ := hok9_o
      refine g_if_eq E dX2_keptOf_27 (tgt := 40) (by decide) rfl (fun h9 => absurd h9 (by decide)) (fun _ => ?_)
      refine g_new E gciX23 dX2_keptOf_30 q1027 q1028 q150 (k9) ((f9 (k9) (by omega)).trans (hk9)) (by omega) (by decide) (by decide) rfl (g_upk (fun g10 h10 f10 => ?_))
      refine g_dup E dX2_keptOf_33 rfl rfl ?_
      refine g_aload_n E dX2_keptOf_34 rfl rfl rfl ?_
      refine g_iload_n E dX2_keptOf_35 rfl rfl rfl ?_
      refine g_callI (k := k9) (n9 := 2) (av := [.ref sw, .int i9]) (st := [.ref k9]) E (ct_X23_init l i9 h10) gciX23 dX2_keptOf_36 h10 q1029 q1030 q150 q1031 (by decide +kernel) rfl rfl rfl ⟨by decide, by decide⟩ ⟨by decide, by decide⟩ (Nat.le_of_ble_eq_true rfl) rfl (gPn.k (fun g11 h11 => ?_))
      obtain ⟨h11, f11⟩ := h11
      have x12 := (f11 (1002) (by omega)).trans ((f10 (1002) (by omega)).trans (hT9_a))
      have x14 := (f11 (1003) (by omega)).trans ((f10 (1003) (by omega)).trans (hT9_b))
      have x15 := (f11 (1004) (by omega)).trans ((f10 (1004) (by omega)).trans (hT9_c))
      have y16 := ((hT9_t.fr  (fun j9 a9 b9 => f10 j9 (by omega))).fr  (fun j9 a9 b9 => f11 j9 (by omega)))
      have hT13 : pTk g11 n bb (zTn T n t.1) M9 N9 T := ⟨⟨_, x12, hT9_0, hT9_1, hT9_2, hT9_3, hT9_4, hT9_5, hT9_6, hT9_7, hT9_8, hT9_9⟩, (fun h8 => ⟨(hT9_s h8).1.fr (fun j9 a9 b9 => (f11 j9 (by omega)).trans (f10 j9 (by omega))), (hT9_s h8).2⟩), ⟨_, x14⟩, ⟨_, x15⟩, y16, fun j9 a9 => (f11 j9 (by omega)).trans ((f10 j9 (by omega)).trans (hT9_z j9 (by omega)))⟩
      exact (gRx_leave Rx E).elim (fun z9 h9z => h9z.2.2 _ _ _ _ _ _ (g_aret h9z.2.1 h9z.1 dX2_keptOf_39 rfl (Or.inl ⟨_, rfl⟩) (by decide) (by decide) (⟨(2, zTn T n t.1), by unfold zKp; rw [if_neg hc1, if_pos hc9] <;> rfl, rfl, ⟨M9, N9, by omega, by omega, hT13, fun j9 h9 => ((f11 j9 (by omega)).trans (f10 j9 (by omega))).trans (f9 j9 (by omega))⟩, ⟨_, h11, rfl, rfl, rfl, rfl, rfl, rfl⟩⟩)))
    · refine g_if_eq E dX2_keptOf_27 (tgt := 40) (by decide) rfl (fun _ => ?_) (fun h9 => absurd h9 (by decide))
      refine g_aload_n E dX2_keptOf_40 rfl rfl rfl ?_
      refine g_ldcwS E (j := 24) (tx := "old") rfl dX2_keptOf_41 rfl ?_
      refine g_callV (k := 1002) (n9 := 1) (av := [.ref (1 + 2 * 24)]) (st := []) E (ct_X2_takes l hT (by omega) hok (by omega) (by omega) (by omega) rfl) gciX2 dX2_keptOf_44 hT_a q807 q809 qs11 q121 q810 (by decide +kernel) rfl rfl ⟨by decide, by decide⟩ ⟨by decide, by decide⟩ (Nat.le_of_ble_eq_true rfl) rfl (gTk.k (fun g17 hc17 h17 => ?_) (fun hc17 => ?_))
      · obtain ⟨M17, N17, hM17, hN17, hT17, f17⟩ := h17
        have hT17_o := hT17
        obtain ⟨⟨hT17_F, hT17_a, hT17_0, hT17_1, hT17_2, hT17_3, hT17_4, hT17_5, hT17_6, hT17_7, hT17_8, hT17_9⟩, hT17_s, ⟨hT17_G, hT17_b⟩, ⟨hT17_l, hT17_c⟩, hT17_t, hT17_z⟩ := hT17_o
        have hT17_t_o := hT17_t
        obtain ⟨hT17_t_f, hT17_t_a, hT17_t_b⟩ := hT17_t_o
        have hok17 : zOk n (zTn T n t.1) := zTn_ok hok.1
        have hok17_o := hok17
        obtain ⟨hok17_1, hok17_2, hok17_3, hok17_4, hok17_5⟩ := hok17_o
        refine g_if_eq E dX2_keptOf_47 (tgt := 60) (by decide) rfl (fun h9 => absurd h9 (by decide)) (fun _ => ?_)
        refine g_new E gciX24 dX2_keptOf_50 q1043 q1044 q151 (k9) ((f17 (k9) (by omega)).trans (hk9)) (by omega) (by decide) (by decide) rfl (g_upk (fun g18 h18 f18 => ?_))
        refine g_dup E dX2_keptOf_53 rfl rfl ?_
        refine g_aload_n E dX2_keptOf_54 rfl rfl rfl ?_
        refine g_iload_n E dX2_keptOf_55 rfl rfl rfl ?_
        refine g_callI (k := k9) (n9 := 2) (av := [.ref sw, .int i9]) (st := [.ref k9]) E (ct_X24_init l i9 h18) gciX24 dX2_keptOf_56 h18 q1045 q1046 q151 q1047 (by decide +kernel) rfl rfl rfl ⟨by decide, by decide⟩ ⟨by decide, by decide⟩ (Nat.le_of_ble_eq_true rfl) rfl (gPn.k (fun g19 h19 => ?_))
        obtain ⟨h19, f19⟩ := h19
        have x20 := (f19 (1002) (by omega)).trans ((f18 (1002) (by omega)).trans (hT17_a))
        have x22 := (f19 (1003) (by omega)).trans ((f18 (1003) (by omega)).trans (hT17_b))
        have x23 := (f19 (1004) (by omega)).trans ((f18 (1004) (by omega)).trans (hT17_c))
        have y24 := ((hT17_t.fr  (fun j9 a9 b9 => f18 j9 (by omega))).fr  (fun j9 a9 b9 => f19 j9 (by omega)))
        have hT21 : pTk g19 n bb (zTn T n t.1) M17 N17 T := ⟨⟨_, x20, hT17_0, hT17_1, hT17_2, hT17_3, hT17_4, hT17_5, hT17_6, hT17_7, hT17_8, hT17_9⟩, (fun h8 => ⟨(hT17_s h8).1.fr (fun j9 a9 b9 => (f19 j9 (by omega)).trans (f18 j9 (by omega))), (hT17_s h8).2⟩), ⟨_, x22⟩, ⟨_, x23⟩, y24, fun j9 a9 => (f19 j9 (by omega)).trans ((f18 j9 (by omega)).trans (hT17_z j9 (by omega)))⟩
        exact (gRx_leave Rx E).elim (fun z9 h9z => h9z.2.2 _ _ _ _ _ _ (g_aret h9z.2.1 h9z.1 dX2_keptOf_59 rfl (Or.inl ⟨_, rfl⟩) (by decide) (by decide) (⟨(3, zTn T n t.1), by unfold zKp; rw [if_neg hc1, if_neg hc9, if_pos hc17] <;> rfl, rfl, ⟨M17, N17, by omega, by omega, hT21, fun j9 h9 => ((f19 j9 (by omega)).trans (f18 j9 (by omega))).trans (f17 j9 (by omega))⟩, ⟨_, h19, rfl, rfl, rfl, rfl, rfl, rfl⟩⟩)))
      · refine g_if_eq E dX2_keptOf_47 (tgt := 60) (by decide) rfl (fun _ => ?_) (fun h9 => absurd h9 (by decide))
        refine g_aload_n E dX2_keptOf_60 rfl rfl rfl ?_
        refine g_ldcwS E (j := 25) (tx := "oath") rfl dX2_keptOf_61 rfl ?_
        refine g_callVX (k := 1002) (n9 := 1) (av := [.ref (1 + 2 * 25)]) (st := []) E Rx (ct_X2_must l hT (by omega) hok (by omega) (by omega) (by omega) rfl) gciX2 dX2_keptOf_64 hT_a q803 q805 qs10 q121 q806 (by decide +kernel) rfl rfl ⟨by decide, by decide⟩ ⟨by decide, by decide⟩ (Nat.le_of_ble_eq_true rfl) rfl (fun g9 ⟨e9, h9e, h9p⟩ => ⟨e9, by unfold zKp; rw [if_neg hc1, if_neg hc9, if_neg hc17, zBd_l h9e] <;> rfl, h9p.tr (fun j9 h9 => rfl)⟩) (gPe.kn (fun a25 g25 he25 h25 => ?_))
        obtain ⟨M25, N25, hM25, hN25, hT25, f25⟩ := h25
        have hT25_o := hT25
        obtain ⟨⟨hT25_F, hT25_a, hT25_0, hT25_1, hT25_2, hT25_3, hT25_4, hT25_5, hT25_6, hT25_7, hT25_8, hT25_9⟩, hT25_s, ⟨hT25_G, hT25_b⟩, ⟨hT25_l, hT25_c⟩, hT25_t, hT25_z⟩ := hT25_o
        have hT25_t_o := hT25_t
        obtain ⟨hT25_t_f, hT25_t_a, hT25_t_b⟩ := hT25_t_o
        have hok25 : zOk n a25 := zMu_ok hok he25
        have hok25_o := hok25
        obtain ⟨hok25_1, hok25_2, hok25_3, hok25_4, hok25_5⟩ := hok25_o
        refine g_new E gciX25 dX2_keptOf_67 q1059 q1060 q152 (k9) ((f25 (k9) (by omega)).trans (hk9)) (by omega) (by decide) (by decide) rfl (g_upk (fun g26 h26 f26 => ?_))
        refine g_dup E dX2_keptOf_70 rfl rfl ?_
        refine g_aload_n E dX2_keptOf_71 rfl rfl rfl ?_
        refine g_iload_n E dX2_keptOf_72 rfl rfl rfl ?_
        refine g_callI (k := k9) (n9 := 2) (av := [.ref sw, .int i9]) (st := [.ref k9]) E (ct_X25_init l i9 h26) gciX25 dX2_keptOf_73 h26 q1061 q1062 q152 q1063 (by decide +kernel) rfl rfl rfl ⟨by decide, by decide⟩ ⟨by decide, by decide⟩ (Nat.le_of_ble_eq_true rfl) rfl (gPn.k (fun g27 h27 => ?_))
        obtain ⟨h27, f27⟩ := h27
        have x28 := (f27 (1002) (by omega)).trans ((f26 (1002) (by omega)).trans (hT25_a))
        have x30 := (f27 (1003) (by omega)).trans ((f26 (1003) (by omega)).trans (hT25_b))
        have x31 := (f27 (1004) (by omega)).trans ((f26 (1004) (by omega)).trans (hT25_c))
        have y32 := ((hT25_t.fr  (fun j9 a9 b9 => f26 j9 (by omega))).fr  (fun j9 a9 b9 => f27 j9 (by omega)))
        have hT29 : pTk g27 n bb a25 M25 N25 T := ⟨⟨_, x28, hT25_0, hT25_1, hT25_2, hT25_3, hT25_4, hT25_5, hT25_6, hT25_7, hT25_8, hT25_9⟩, (fun h8 => ⟨(hT25_s h8).1.fr (fun j9 a9 b9 => (f27 j9 (by omega)).trans (f26 j9 (by omega))), (hT25_s h8).2⟩), ⟨_, x30⟩, ⟨_, x31⟩, y32, fun j9 a9 => (f27 j9 (by omega)).trans ((f26 j9 (by omega)).trans (hT25_z j9 (by omega)))⟩
        exact (gRx_leave Rx E).elim (fun z9 h9z => h9z.2.2 _ _ _ _ _ _ (g_aret h9z.2.1 h9z.1 dX2_keptOf_76 rfl (Or.inl ⟨_, rfl⟩) (by decide) (by decide) (⟨(4, a25), by unfold zKp; rw [if_neg hc1, if_neg hc9, if_neg hc17, zBd_r he25] <;> rfl, rfl, ⟨M25, N25, by omega, by omega, hT29, fun j9 h9 => ((f27 j9 (by omega)).trans (f26 j9 (by omega))).trans (f25 j9 (by omega))⟩, ⟨_, h27, rfl, rfl, rfl, rfl, rfl, rfl⟩⟩)))
set_option maxHeartbeats 4000000 in
theorem ct_X2_goodOf (l : Launch) {g : gWM} {n bb M N : Nat} {t : zTk} {T : Nat → Int32} {B : gBar} {Nm : zNm} {k9 sw : Nat} (i9 : Int32) (hT : pTk g n bb t M N T) (hn : n ≤ 1100) (hok : zOk n t) (hbb : 10000 ≤ bb) (hM : bb + 100 ≤ M) (hMN : M ≤ N) (hw : wfB B) (hQ : pBq g bb B Nm M) (hnl : ∀ s k, s < 4 → k < B 0 s → (Nm s k).length < 1000) (hk9 : g k9 = none) (hkb : bb ≤ k9) (hkb2 : k9 < bb + 100) : gXt l yX2_goodOf cX2_goodOf 4 (some (.object "SaltedGate$Good")) 8 17 112 185 [.ref 1002, .ref sw, .int i9] g (gPe (zGf T n B Nm t) (fun _ => some (.ref k9)) (fun a g1 => pSk g1 g n bb a.2.2.2 M N T k9 ∧ pOc g1 bb k9 sw a)) (fun g1 => ∃ e, zGf T n B Nm t = .inl e ∧ pXx g1 g bb e) := by
  refine gXt.of RX2 (by decide) rfl (lo := [some (.ref 1002), some (.ref sw), some (.int i9), none]) 1 rfl (Nat.le_of_ble_eq_true rfl) (fun z E Rx => ?_)
  have hT_o := hT
  obtain ⟨⟨hT_F, hT_a, hT_0, hT_1, hT_2, hT_3, hT_4, hT_5, hT_6, hT_7, hT_8, hT_9⟩, hT_s, ⟨hT_G, hT_b⟩, ⟨hT_l, hT_c⟩, hT_t, hT_z⟩ := hT_o
  have hT_t_o := hT_t
  obtain ⟨hT_t_f, hT_t_a, hT_t_b⟩ := hT_t_o
  have hw_n := hw.1
  have hQ_r := hQ.1
  have hQ_n := hQ.2.2
  have hQ_r_o := hQ_r
  obtain ⟨⟨hQ_r_F, hQ_r_a, hQ_r_0, hQ_r_1, hQ_r_2, hQ_r_3, hQ_r_4, hQ_r_5, hQ_r_6, hQ_r_7, hQ_r_8, hQ_r_9, hQ_r_10, hQ_r_11, hQ_r_12, hQ_r_13, hQ_r_14, hQ_r_15⟩, ⟨hQ_r_f1, hQ_r_a1, hQ_r_b1⟩, ⟨hQ_r_f2, hQ_r_a2, hQ_r_b2⟩, ⟨hQ_r_f3, hQ_r_a3, hQ_r_b3⟩, ⟨hQ_r_f4, hQ_r_a4, hQ_r_b4⟩, ⟨hQ_r_f5, hQ_r_a5, hQ_r_b5⟩, ⟨hQ_r_f6, hQ_r_a6, hQ_r_b6⟩, ⟨hQ_r_f7, hQ_r_a7, hQ_r_b7⟩, hQ_r_c1, hQ_r_c2, hQ_r_c3, hQ_r_c4, hQ_r_c5⟩ := hQ_r_o
  obtain ⟨hQ_G, hQ_ga, hQ_gb⟩ := hQ.2.1
  obtain rfl := inj_obj hQ_r_a hQ_ga
  have hok_o := hok
  obtain ⟨hok_1, hok_2, hok_3, hok_4, hok_5⟩ := hok_o
  refine g_aload_n E dX2_goodOf_0 rfl rfl rfl ?_
  refine g_ldcS E (j := 12) (tx := "fresh") rfl dX2_goodOf_1 rfl ?_
  refine g_callV (k := 1002) (n9 := 1) (av := [.ref (1 + 2 * 12)]) (st := []) E (ct_X2_takes l hT (by omega) hok (by omega) (by omega) (by omega) rfl) gciX2 dX2_goodOf_3 hT_a q807 q809 qs11 q121 q810 (by decide +kernel) rfl rfl ⟨by decide, by decide⟩ ⟨by decide, by decide⟩ (Nat.le_of_ble_eq_true rfl) rfl (gTk.k (fun g1 hc1 h1 => ?_) (fun hc1 => ?_))
  · obtain ⟨M1, N1, hM1, hN1, hT1, f1⟩ := h1
    have hT1_o := hT1
    obtain ⟨⟨hT1_F, hT1_a, hT1_0, hT1_1, hT1_2, hT1_3, hT1_4, hT1_5, hT1_6, hT1_7, hT1_8, hT1_9⟩, hT1_s, ⟨hT1_G, hT1_b⟩, ⟨hT1_l, hT1_c⟩, hT1_t, hT1_z⟩ := hT1_o
    have hT1_t_o := hT1_t
    obtain ⟨hT1_t_f, hT1_t_a, hT1_t_b⟩ := hT1_t_o
    have hok1 : zOk n (zTn T n t.1) := zTn_ok hok.1
    have hok1_o := hok1
    obtain ⟨hok1_1, hok1_2, hok1_3, hok1_4, hok1_5⟩ := hok1_o
    refine g_if_eq E dX2_goodOf_6 (tgt := 29) (by decide) rfl (fun h9 => absurd h9 (by decide)) (fun _ => ?_)
    have y2 := (hQ.fr hw (by omega) (fun j9 a9 b9 => f1 j9 (by omega)))
    have hnn3 := (f1 (k9) (by omega)).trans (hk9)
    refine g_new E gciX20 dX2_goodOf_9 q953 q954 q147 (k9) ((f1 (k9) (by omega)).trans (hk9)) (by omega) (by decide) (by decide) rfl (g_upk (fun g4 h4 f4 => ?_))
    refine g_dup E dX2_goodOf_12 rfl rfl ?_
    refine g_aload_n E dX2_goodOf_13 rfl rfl rfl ?_
    refine g_iload_n E dX2_goodOf_14 rfl rfl rfl ?_
    refine g_callI (k := k9) (n9 := 2) (av := [.ref sw, .int i9]) (st := [.ref k9]) E (ct_X20_init l i9 h4) gciX20 dX2_goodOf_15 h4 q955 q956 q147 q957 (by decide +kernel) rfl rfl rfl ⟨by decide, by decide⟩ ⟨by decide, by decide⟩ (Nat.le_of_ble_eq_true rfl) rfl (gPn.k (fun g5 h5 => ?_))
    obtain ⟨h5, f5⟩ := h5
    refine g_astore_n E dX2_goodOf_18 rfl (by decide) rfl (lo1 := [some (.ref 1002), some (.ref sw), some (.int i9), some (.ref k9)]) rfl rfl ?_
    refine g_aload_n E dX2_goodOf_19 rfl rfl rfl ?_
    refine g_aload_n E dX2_goodOf_20 rfl rfl rfl ?_
    have x6 := (f5 (1002) (by omega)).trans ((f4 (1002) (by omega)).trans (hT1_a))
    have x8 := (f5 (1003) (by omega)).trans ((f4 (1003) (by omega)).trans (hT1_b))
    have x9 := (f5 (1004) (by omega)).trans ((f4 (1004) (by omega)).trans (hT1_c))
    have y10 := ((hT1_t.fr  (fun j9 a9 b9 => f4 j9 (by omega))).fr  (fun j9 a9 b9 => f5 j9 (by omega)))
    have hT7 : pTk g5 n bb (zTn T n t.1) M1 N1 T := ⟨⟨_, x6, hT1_0, hT1_1, hT1_2, hT1_3, hT1_4, hT1_5, hT1_6, hT1_7, hT1_8, hT1_9⟩, (fun h8 => ⟨(hT1_s h8).1.fr (fun j9 a9 b9 => (f5 j9 (by omega)).trans (f4 j9 (by omega))), (hT1_s h8).2⟩), ⟨_, x8⟩, ⟨_, x9⟩, y10, fun j9 a9 => (f5 j9 (by omega)).trans ((f4 j9 (by omega)).trans (hT1_z j9 (by omega)))⟩
    have y11 : pBq g5 bb B Nm M := pBq.frn hw (by omega) y2 hnn3 (by omega) (fun j9 a9 b9 c9 => (f5 j9 (by omega)).trans (f4 j9 (by omega)))
    refine g_callVX (k := 1002) (n9 := 0) (av := []) (st := [.ref k9]) E Rx (ct_X2_traveller l hT7 (by omega) hok1 (by omega) (by omega) (by omega) hw (pBq.mono y11 (by omega)) hnl) gciX2 dX2_goodOf_21 x6 q993 q995 qs21 q121 q996 (by decide +kernel) rfl rfl ⟨by decide, by decide⟩ ⟨by decide, by decide⟩ (Nat.le_of_ble_eq_true rfl) rfl (fun g9 ⟨e9, h9e, h9p⟩ => ⟨e9, by rw [zGf_f hc1, zBd_l h9e] <;> rfl, h9p.tr (fun j9 h9 => ((f5 j9 (by omega)).trans (f4 j9 (by omega))).trans (f1 j9 (by omega)))⟩) (gPe.ki (fun a12 g12 he12 h12 => ?_))
    obtain ⟨M12, N12, hM12, hN12, hT12, f12⟩ := h12
    have hT12_o := hT12
    obtain ⟨⟨hT12_F, hT12_a, hT12_0, hT12_1, hT12_2, hT12_3, hT12_4, hT12_5, hT12_6, hT12_7, hT12_8, hT12_9⟩, hT12_s, ⟨hT12_G, hT12_b⟩, ⟨hT12_l, hT12_c⟩, hT12_t, hT12_z⟩ := hT12_o
    have hT12_t_o := hT12_t
    obtain ⟨hT12_t_f, hT12_t_a, hT12_t_b⟩ := hT12_t_o
    have hok12 : zOk n a12.2 := (zKx_ok hok1 he12).1
    have hok12_o := hok12
    obtain ⟨hok12_1, hok12_2, hok12_3, hok12_4, hok12_5⟩ := hok12_o
    have hkx12 := (zKx_ok hok1 he12).2
    have x13 := (f12 (k9) (by omega)).trans (h5)
    refine g_putf E gciX20 (v := .int (nI (a12.1))) dX2_goodOf_24 x13 0 rfl (by decide) q965 (.inr q966) rfl (fun _ => rfl) (fun _ => rfl) rfl (g_upk (fun g14 h14 f14 => ?_))
    refine g_aload_n E dX2_goodOf_27 rfl rfl rfl ?_
    have x15 := (f14 (1002) (by omega)).trans (hT12_a)
    have x17 := (f14 (1003) (by omega)).trans (hT12_b)
    have x18 := (f14 (1004) (by omega)).trans (hT12_c)
    have y19 := (hT12_t.fr  (fun j9 a9 b9 => f14 j9 (by omega)))
    have hT16 : pTk g14 n bb a12.2 M12 N12 T := ⟨⟨_, x15, hT12_0, hT12_1, hT12_2, hT12_3, hT12_4, hT12_5, hT12_6, hT12_7, hT12_8, hT12_9⟩, (fun h8 => ⟨(hT12_s h8).1.fr (fun j9 a9 b9 => f14 j9 (by omega)), (hT12_s h8).2⟩), ⟨_, x17⟩, ⟨_, x18⟩, y19, fun j9 a9 => (f14 j9 (by omega)).trans (hT12_z j9 (by omega))⟩
    exact (gRx_leave Rx E).elim (fun z9 h9z => h9z.2.2 _ _ _ _ _ _ (g_aret h9z.2.1 h9z.1 dX2_goodOf_28 rfl (Or.inl ⟨_, rfl⟩) (by decide) (by decide) (⟨(0, a12.1, 0, a12.2), by rw [zGf_f hc1, zBd_r he12] <;> rfl, rfl, ⟨M12, N12, by omega, by omega, hT16, fun j9 h9 => ((((f14 j9 (by omega)).trans (f12 j9 (by omega))).trans (f5 j9 (by omega))).trans (f4 j9 (by omega))).trans (f1 j9 (by omega))⟩, ⟨_, h14, rfl, rfl, rfl, rfl, rfl, rfl, fun h9 => absurd rfl h9⟩⟩)))
  · refine g_if_eq E dX2_goodOf_6 (tgt := 29) (by decide) rfl (fun _ => ?_) (fun h9 => absurd h9 (by decide))
    have hnn20 := hk9
    refine g_aload_n E dX2_goodOf_29 rfl rfl rfl ?_
    refine g_aload_n E dX2_goodOf_30 rfl rfl rfl ?_
    refine g_iload_n E dX2_goodOf_31 rfl rfl rfl ?_
    refine g_callVX (k := 1002) (n9 := 2) (av := [.ref sw, .int i9]) (st := []) E Rx (ct_X2_keptOf l i9 hT (by omega) hok (by omega) (by omega) (by omega) hk9 (by omega) (by omega)) gciX2 dX2_goodOf_32 hT_a q1001 q1003 qs23 q121 q1004 (by decide +kernel) rfl rfl ⟨by decide, by decide⟩ ⟨by decide, by decide⟩ (Nat.le_of_ble_eq_true rfl) rfl (fun g9 ⟨e9, h9e, h9p⟩ => ⟨e9, by rw [zGf_e hc1 h9e] <;> rfl, h9p.tr (fun j9 h9 => rfl)⟩) (gPe.kr (fun a21 g21 he21 h21 => ?_))
    have hkp21 := zKp_mv hok he21
    obtain ⟨kd21, u21⟩ := a21
    obtain ⟨⟨M21, N21, hM21, hN21, hT21, f21⟩, hob21⟩ := h21
    have hT21_o := hT21
    obtain ⟨⟨hT21_F, hT21_a, hT21_0, hT21_1, hT21_2, hT21_3, hT21_4, hT21_5, hT21_6, hT21_7, hT21_8, hT21_9⟩, hT21_s, ⟨hT21_G, hT21_b⟩, ⟨hT21_l, hT21_c⟩, hT21_t, hT21_z⟩ := hT21_o
    have hT21_t_o := hT21_t
    obtain ⟨hT21_t_f, hT21_t_a, hT21_t_b⟩ := hT21_t_o
    have hok21 : zOk n u21 := hkp21.1
    have hok21_o := hok21
    obtain ⟨hok21_1, hok21_2, hok21_3, hok21_4, hok21_5⟩ := hok21_o
    obtain ⟨F21, hF21, hF21_0, hF21_1, hF21_2, hF21_3, hF21_4, hF21_5⟩ := hob21
    have hkd121 : 1 ≤ kd21 := hkp21.2.1
    have hkd421 : kd21 ≤ 4 := hkp21.2.2
    rcases (show kd21 = 1 ∨ kd21 = 2 ∨ kd21 = 3 ∨ kd21 = 4 by omega) with kd22 | kd22 | kd22 | kd22
    · have x23 := hF21
      rw [kd22] at x23
      refine g_astore_n E dX2_goodOf_35 rfl (by decide) rfl (lo1 := [some (.ref 1002), some (.ref sw), some (.int i9), some (.ref k9)]) rfl rfl ?_
      refine g_aload_n E dX2_goodOf_36 rfl rfl rfl ?_
      refine g_aload_n E dX2_goodOf_37 rfl rfl rfl ?_
      have y24 : pBq g21 bb B Nm M := pBq.frn hw (by omega) hQ hnn20 (by omega) (fun j9 a9 b9 c9 => f21 j9 (by omega))
      refine g_callVX (k := 1002) (n9 := 0) (av := []) (st := [.ref k9]) E Rx (ct_X2_traveller l hT21 (by omega) hok21 (by omega) (by omega) (by omega) hw (pBq.mono y24 (by omega)) hnl) gciX2 dX2_goodOf_38 hT21_a q993 q995 qs21 q121 q996 (by decide +kernel) rfl rfl ⟨by decide, by decide⟩ ⟨by decide, by decide⟩ (Nat.le_of_ble_eq_true rfl) rfl (fun g9 ⟨e9, h9e, h9p⟩ => ⟨e9, by rw [zGf_k hc1 he21 (by omega), zBd_l h9e] <;> rfl, h9p.tr (fun j9 h9 => f21 j9 (by omega))⟩) (gPe.ki (fun a25 g25 he25 h25 => ?_))
      obtain ⟨M25, N25, hM25, hN25, hT25, f25⟩ := h25
      have hT25_o := hT25
      obtain ⟨⟨hT25_F, hT25_a, hT25_0, hT25_1, hT25_2, hT25_3, hT25_4, hT25_5, hT25_6, hT25_7, hT25_8, hT25_9⟩, hT25_s, ⟨hT25_G, hT25_b⟩, ⟨hT25_l, hT25_c⟩, hT25_t, hT25_z⟩ := hT25_o
      have hT25_t_o := hT25_t
      obtain ⟨hT25_t_f, hT25_t_a, hT25_t_b⟩ := hT25_t_o
      have hok25 : zOk n a25.2 := (zKx_ok hok21 he25).1
      have hok25_o := hok25
      obtain ⟨hok25_1, hok25_2, hok25_3, hok25_4, hok25_5⟩ := hok25_o
      have hkx25 := (zKx_ok hok21 he25).2
      have x26 := (f25 (k9) (by omega)).trans (x23)
      refine g_putf E gciX22 (v := .int (nI (a25.1))) dX2_goodOf_41 x26 0 rfl (by decide) q967 (.inr q968) rfl (fun _ => rfl) (fun _ => rfl) rfl (g_upk (fun g27 h27 f27 => ?_))
      refine g_aload_n E dX2_goodOf_44 rfl rfl rfl ?_
      refine g_ldcS E (j := 13) (tx := "by") rfl dX2_goodOf_45 rfl ?_
      have x28 := (f27 (1002) (by omega)).trans (hT25_a)
      have x30 := (f27 (1003) (by omega)).trans (hT25_b)
      have x31 := (f27 (1004) (by omega)).trans (hT25_c)
      have y32 := (hT25_t.fr  (fun j9 a9 b9 => f27 j9 (by omega)))
      have hT29 : pTk g27 n bb a25.2 M25 N25 T := ⟨⟨_, x28, hT25_0, hT25_1, hT25_2, hT25_3, hT25_4, hT25_5, hT25_6, hT25_7, hT25_8, hT25_9⟩, (fun h8 => ⟨(hT25_s h8).1.fr (fun j9 a9 b9 => f27 j9 (by omega)), (hT25_s h8).2⟩), ⟨_, x30⟩, ⟨_, x31⟩, y32, fun j9 a9 => (f27 j9 (by omega)).trans (hT25_z j9 (by omega))⟩
      refine g_callVX (k := 1002) (n9 := 1) (av := [.ref (1 + 2 * 13)]) (st := []) E Rx (ct_X2_must l hT29 (by omega) hok25 (by omega) (by omega) (by omega) rfl) gciX2 dX2_goodOf_47 x28 q803 q805 qs10 q121 q806 (by decide +kernel) rfl rfl ⟨by decide, by decide⟩ ⟨by decide, by decide⟩ (Nat.le_of_ble_eq_true rfl) rfl (fun g9 ⟨e9, h9e, h9p⟩ => ⟨e9, by rw [zGf_k hc1 he21 (by omega), zBd_r he25, zBd_l h9e] <;> rfl, h9p.tr (fun j9 h9 => ((f27 j9 (by omega)).trans (f25 j9 (by omega))).trans (f21 j9 (by omega)))⟩) (gPe.kn (fun a33 g33 he33 h33 => ?_))
      obtain ⟨M33, N33, hM33, hN33, hT33, f33⟩ := h33
      have hT33_o := hT33
      obtain ⟨⟨hT33_F, hT33_a, hT33_0, hT33_1, hT33_2, hT33_3, hT33_4, hT33_5, hT33_6, hT33_7, hT33_8, hT33_9⟩, hT33_s, ⟨hT33_G, hT33_b⟩, ⟨hT33_l, hT33_c⟩, hT33_t, hT33_z⟩ := hT33_o
      have hT33_t_o := hT33_t
      obtain ⟨hT33_t_f, hT33_t_a, hT33_t_b⟩ := hT33_t_o
      have hok33 : zOk n a33 := zMu_ok hok25 he33
      have hok33_o := hok33
      obtain ⟨hok33_1, hok33_2, hok33_3, hok33_4, hok33_5⟩ := hok33_o
      refine g_aload_n E dX2_goodOf_50 rfl rfl rfl ?_
      refine g_aload_n E dX2_goodOf_51 rfl rfl rfl ?_
      have y34 : pBq g33 bb B Nm M := pBq.frn hw (by omega) hQ hnn20 (by omega) (fun j9 a9 b9 c9 => (((f33 j9 (by omega)).trans (f27 j9 (by omega))).trans (f25 j9 (by omega))).trans (f21 j9 (by omega)))
      refine g_callVX (k := 1002) (n9 := 0) (av := []) (st := [.ref k9]) E Rx (ct_X2_means l hT33 (by omega) hok33 (by omega) (by omega) (by omega) hw (pBq.mono y34 (by omega)) hnl) gciX2 dX2_goodOf_52 hT33_a q1074 q1076 qs24 q121 q1077 (by decide +kernel) rfl rfl ⟨by decide, by decide⟩ ⟨by decide, by decide⟩ (Nat.le_of_ble_eq_true rfl) rfl (fun g9 ⟨e9, h9e, h9p⟩ => ⟨e9, by rw [zGf_k hc1 he21 (by omega), zBd_r he25, zBd_r he33, zBd_l h9e] <;> rfl, h9p.tr (fun j9 h9 => (((f33 j9 (by omega)).trans (f27 j9 (by omega))).trans (f25 j9 (by omega))).trans (f21 j9 (by omega)))⟩) (gPe.kr (fun a35 g35 he35 h35 => ?_))
      obtain ⟨M35, N35, hM35, hN35, hT35, f35⟩ := h35
      have hT35_o := hT35
      obtain ⟨⟨hT35_F, hT35_a, hT35_0, hT35_1, hT35_2, hT35_3, hT35_4, hT35_5, hT35_6, hT35_7, hT35_8, hT35_9⟩, hT35_s, ⟨hT35_G, hT35_b⟩, ⟨hT35_l, hT35_c⟩, hT35_t, hT35_z⟩ := hT35_o
      have hT35_t_o := hT35_t
      obtain ⟨hT35_t_f, hT35_t_a, hT35_t_b⟩ := hT35_t_o
      have hok35 : zOk n a35.2 := (zKx_ok hok33 he35).1
      have hok35_o := hok35
      obtain ⟨hok35_1, hok35_2, hok35_3, hok35_4, hok35_5⟩ := hok35_o
      have hkx35 := (zKx_ok hok33 he35).2
      have y36 : pBq g35 bb B Nm M := pBq.frn hw (by omega) hQ hnn20 (by omega) (fun j9 a9 b9 c9 => ((((f35 j9 (by omega)).trans (f33 j9 (by omega))).trans (f27 j9 (by omega))).trans (f25 j9 (by omega))).trans (f21 j9 (by omega)))
      obtain ⟨m37_F, m37_a, m37_1, m37_2, m37_3, m37_4, m37_5, m37_6, m37_7⟩ := pBr.means y36.1 a35.1 (by omega)
      have x38 := (f35 (k9) (by omega)).trans ((f33 (k9) (by omega)).trans (h27))
      refine g_callU (k := k9) (n9 := 1) (av := [.ref (bb + 10 + a35.1)]) (st := []) E (ct_X21_by_X22 l x38) gciX22 dX2_goodOf_55 x38 q1082 q1084 q1087 q1083 q148 q1089 rfl (by decide +kernel) rfl rfl ⟨by decide, by decide⟩ ⟨by decide, by decide⟩ (Nat.le_of_ble_eq_true rfl) rfl (gPr.k (fun g39 h39 => ?_))
      obtain ⟨h39, f39⟩ := h39
      have x40 := (f39 (1002) (by omega)).trans (hT35_a)
      have x42 := (f39 (1003) (by omega)).trans (hT35_b)
      have x43 := (f39 (1004) (by omega)).trans (hT35_c)
      have y44 := (hT35_t.fr  (fun j9 a9 b9 => f39 j9 (by omega)))
      have hT41 : pTk g39 n bb a35.2 M35 N35 T := ⟨⟨_, x40, hT35_0, hT35_1, hT35_2, hT35_3, hT35_4, hT35_5, hT35_6, hT35_7, hT35_8, hT35_9⟩, (fun h8 => ⟨(hT35_s h8).1.fr (fun j9 a9 b9 => f39 j9 (by omega)), (hT35_s h8).2⟩), ⟨_, x42⟩, ⟨_, x43⟩, y44, fun j9 a9 => (f39 j9 (by omega)).trans (hT35_z j9 (by omega))⟩
      exact (gRx_leave Rx E).elim (fun z9 h9z => h9z.2.2 _ _ _ _ _ _ (g_aret h9z.2.1 h9z.1 dX2_goodOf_58 rfl (Or.inl ⟨_, rfl⟩) (by decide) (by decide) (⟨(1, a25.1, a35.1, a35.2), by rw [zGf_k hc1 he21 (by omega), zBd_r he25, zBd_r he33, zBd_r he35]; rw [kd22] <;> rfl, rfl, ⟨M35, N35, by omega, by omega, hT41, fun j9 h9 => (((((f39 j9 (by omega)).trans (f35 j9 (by omega))).trans (f33 j9 (by omega))).trans (f27 j9 (by omega))).trans (f25 j9 (by omega))).trans (f21 j9 (by omega))⟩, ⟨_, h39, rfl, hF21_1, hF21_2, hF21_3, hF21_4, hF21_5, fun _ => rfl⟩⟩)))
    · have x45 := hF21
      rw [kd22] at x45
      refine g_astore_n E dX2_goodOf_35 rfl (by decide) rfl (lo1 := [some (.ref 1002), some (.ref sw), some (.int i9), some (.ref k9)]) rfl rfl ?_
      refine g_aload_n E dX2_goodOf_36 rfl rfl rfl ?_
      refine g_aload_n E dX2_goodOf_37 rfl rfl rfl ?_
      have y46 : pBq g21 bb B Nm M := pBq.frn hw (by omega) hQ hnn20 (by omega) (fun j9 a9 b9 c9 => f21 j9 (by omega))
      refine g_callVX (k := 1002) (n9 := 0) (av := []) (st := [.ref k9]) E Rx (ct_X2_traveller l hT21 (by omega) hok21 (by omega) (by omega) (by omega) hw (pBq.mono y46 (by omega)) hnl) gciX2 dX2_goodOf_38 hT21_a q993 q995 qs21 q121 q996 (by decide +kernel) rfl rfl ⟨by decide, by decide⟩ ⟨by decide, by decide⟩ (Nat.le_of_ble_eq_true rfl) rfl (fun g9 ⟨e9, h9e, h9p⟩ => ⟨e9, by rw [zGf_k hc1 he21 (by omega), zBd_l h9e] <;> rfl, h9p.tr (fun j9 h9 => f21 j9 (by omega))⟩) (gPe.ki (fun a47 g47 he47 h47 => ?_))
      obtain ⟨M47, N47, hM47, hN47, hT47, f47⟩ := h47
      have hT47_o := hT47
      obtain ⟨⟨hT47_F, hT47_a, hT47_0, hT47_1, hT47_2, hT47_3, hT47_4, hT47_5, hT47_6, hT47_7, hT47_8, hT47_9⟩, hT47_s, ⟨hT47_G, hT47_b⟩, ⟨hT47_l, hT47_c⟩, hT47_t, hT47_z⟩ := hT47_o
      have hT47_t_o := hT47_t
      obtain ⟨hT47_t_f, hT47_t_a, hT47_t_b⟩ := hT47_t_o
      have hok47 : zOk n a47.2 := (zKx_ok hok21 he47).1
      have hok47_o := hok47
      obtain ⟨hok47_1, hok47_2, hok47_3, hok47_4, hok47_5⟩ := hok47_o
      have hkx47 := (zKx_ok hok21 he47).2
      have x48 := (f47 (k9) (by omega)).trans (x45)
      refine g_putf E gciX23 (v := .int (nI (a47.1))) dX2_goodOf_41 x48 0 rfl (by decide) q967 (.inr q968) rfl (fun _ => rfl) (fun _ => rfl) rfl (g_upk (fun g49 h49 f49 => ?_))
      refine g_aload_n E dX2_goodOf_44 rfl rfl rfl ?_
      refine g_ldcS E (j := 13) (tx := "by") rfl dX2_goodOf_45 rfl ?_
      have x50 := (f49 (1002) (by omega)).trans (hT47_a)
      have x52 := (f49 (1003) (by omega)).trans (hT47_b)
      have x53 := (f49 (1004) (by omega)).trans (hT47_c)
      have y54 := (hT47_t.fr  (fun j9 a9 b9 => f49 j9 (by omega)))
      have hT51 : pTk g49 n bb a47.2 M47 N47 T := ⟨⟨_, x50, hT47_0, hT47_1, hT47_2, hT47_3, hT47_4, hT47_5, hT47_6, hT47_7, hT47_8, hT47_9⟩, (fun h8 => ⟨(hT47_s h8).1.fr (fun j9 a9 b9 => f49 j9 (by omega)), (hT47_s h8).2⟩), ⟨_, x52⟩, ⟨_, x53⟩, y54, fun j9 a9 => (f49 j9 (by omega)).trans (hT47_z j9 (by omega))⟩
      refine g_callVX (k := 1002) (n9 := 1) (av := [.ref (1 + 2 * 13)]) (st := []) E Rx (ct_X2_must l hT51 (by omega) hok47 (by omega) (by omega) (by omega) rfl) gciX2 dX2_goodOf_47 x50 q803 q805 qs10 q121 q806 (by decide +kernel) rfl rfl ⟨by decide, by decide⟩ ⟨by decide, by decide⟩ (Nat.le_of_ble_eq_true rfl) rfl (fun g9 ⟨e9, h9e, h9p⟩ => ⟨e9, by rw [zGf_k hc1 he21 (by omega), zBd_r he47, zBd_l h9e] <;> rfl, h9p.tr (fun j9 h9 => ((f49 j9 (by omega)).trans (f47 j9 (by omega))).trans (f21 j9 (by omega)))⟩) (gPe.kn (fun a55 g55 he55 h55 => ?_))
      obtain ⟨M55, N55, hM55, hN55, hT55, f55⟩ := h55
      have hT55_o := hT55
      obtain ⟨⟨hT55_F, hT55_a, hT55_0, hT55_1, hT55_2, hT55_3, hT55_4, hT55_5, hT55_6, hT55_7, hT55_8, hT55_9⟩, hT55_s, ⟨hT55_G, hT55_b⟩, ⟨hT55_l, hT55_c⟩, hT55_t, hT55_z⟩ := hT55_o
      have hT55_t_o := hT55_t
      obtain ⟨hT55_t_f, hT55_t_a, hT55_t_b⟩ := hT55_t_o
      have hok55 : zOk n a55 := zMu_ok hok47 he55
      have hok55_o := hok55
      obtain ⟨hok55_1, hok55_2, hok55_3, hok55_4, hok55_5⟩ := hok55_o
      refine g_aload_n E dX2_goodOf_50 rfl rfl rfl ?_
      refine g_aload_n E dX2_goodOf_51 rfl rfl rfl ?_
      have y56 : pBq g55 bb B Nm M := pBq.frn hw (by omega) hQ hnn20 (by omega) (fun j9 a9 b9 c9 => (((f55 j9 (by omega)).trans (f49 j9 (by omega))).trans (f47 j9 (by omega))).trans (f21 j9 (by omega)))
      refine g_callVX (k := 1002) (n9 := 0) (av := []) (st := [.ref k9]) E Rx (ct_X2_means l hT55 (by omega) hok55 (by omega) (by omega) (by omega) hw (pBq.mono y56 (by omega)) hnl) gciX2 dX2_goodOf_52 hT55_a q1074 q1076 qs24 q121 q1077 (by decide +kernel) rfl rfl ⟨by decide, by decide⟩ ⟨by decide, by decide⟩ (Nat.le_of_ble_eq_true rfl) rfl (fun g9 ⟨e9, h9e, h9p⟩ => ⟨e9, by rw [zGf_k hc1 he21 (by omega), zBd_r he47, zBd_r he55, zBd_l h9e] <;> rfl, h9p.tr (fun j9 h9 => (((f55 j9 (by omega)).trans (f49 j9 (by omega))).trans (f47 j9 (by omega))).trans (f21 j9 (by omega)))⟩) (gPe.kr (fun a57 g57 he57 h57 => ?_))
      obtain ⟨M57, N57, hM57, hN57, hT57, f57⟩ := h57
      have hT57_o := hT57
      obtain ⟨⟨hT57_F, hT57_a, hT57_0, hT57_1, hT57_2, hT57_3, hT57_4, hT57_5, hT57_6, hT57_7, hT57_8, hT57_9⟩, hT57_s, ⟨hT57_G, hT57_b⟩, ⟨hT57_l, hT57_c⟩, hT57_t, hT57_z⟩ := hT57_o
      have hT57_t_o := hT57_t
      obtain ⟨hT57_t_f, hT57_t_a, hT57_t_b⟩ := hT57_t_o
      have hok57 : zOk n a57.2 := (zKx_ok hok55 he57).1
      have hok57_o := hok57
      obtain ⟨hok57_1, hok57_2, hok57_3, hok57_4, hok57_5⟩ := hok57_o
      have hkx57 := (zKx_ok hok55 he57).2
      have y58 : pBq g57 bb B Nm M := pBq.frn hw (by omega) hQ hnn20 (by omega) (fun j9 a9 b9 c9 => ((((f57 j9 (by omega)).trans (f55 j9 (by omega))).trans (f49 j9 (by omega))).trans (f47 j9 (by omega))).trans (f21 j9 (by omega)))
      obtain ⟨m59_F, m59_a, m59_1, m59_2, m59_3, m59_4, m59_5, m59_6, m59_7⟩ := pBr.means y58.1 a57.1 (by omega)
      have x60 := (f57 (k9) (by omega)).trans ((f55 (k9) (by omega)).trans (h49))
      refine g_callU (k := k9) (n9 := 1) (av := [.ref (bb + 10 + a57.1)]) (st := []) E (ct_X21_by_X23 l x60) gciX23 dX2_goodOf_55 x60 q1082 q1084 q1088 q1083 q148 q1089 rfl (by decide +kernel) rfl rfl ⟨by decide, by decide⟩ ⟨by decide, by decide⟩ (Nat.le_of_ble_eq_true rfl) rfl (gPr.k (fun g61 h61 => ?_))
      obtain ⟨h61, f61⟩ := h61
      have x62 := (f61 (1002) (by omega)).trans (hT57_a)
      have x64 := (f61 (1003) (by omega)).trans (hT57_b)
      have x65 := (f61 (1004) (by omega)).trans (hT57_c)
      have y66 := (hT57_t.fr  (fun j9 a9 b9 => f61 j9 (by omega)))
      have hT63 : pTk g61 n bb a57.2 M57 N57 T := ⟨⟨_, x62, hT57_0, hT57_1, hT57_2, hT57_3, hT57_4, hT57_5, hT57_6, hT57_7, hT57_8, hT57_9⟩, (fun h8 => ⟨(hT57_s h8).1.fr (fun j9 a9 b9 => f61 j9 (by omega)), (hT57_s h8).2⟩), ⟨_, x64⟩, ⟨_, x65⟩, y66, fun j9 a9 => (f61 j9 (by omega)).trans (hT57_z j9 (by omega))⟩
      exact (gRx_leave Rx E).elim (fun z9 h9z => h9z.2.2 _ _ _ _ _ _ (g_aret h9z.2.1 h9z.1 dX2_goodOf_58 rfl (Or.inl ⟨_, rfl⟩) (by decide) (by decide) (⟨(2, a47.1, a57.1, a57.2), by rw [zGf_k hc1 he21 (by omega), zBd_r he47, zBd_r he55, zBd_r he57]; rw [kd22] <;> rfl, rfl, ⟨M57, N57, by omega, by omega, hT63, fun j9 h9 => (((((f61 j9 (by omega)).trans (f57 j9 (by omega))).trans (f55 j9 (by omega))).trans (f49 j9 (by omega))).trans (f47 j9 (by omega))).trans (f21 j9 (by omega))⟩, ⟨_, h61, rfl, hF21_1, hF21_2, hF21_3, hF21_4, hF21_5, fun _ => rfl⟩⟩)))
    · have x67 := hF21
      rw [kd22] at x67
      refine g_astore_n E dX2_goodOf_35 rfl (by decide) rfl (lo1 := [some (.ref 1002), some (.ref sw), some (.int i9), some (.ref k9)]) rfl rfl ?_
      refine g_aload_n E dX2_goodOf_36 rfl rfl rfl ?_
      refine g_aload_n E dX2_goodOf_37 rfl rfl rfl ?_
      have y68 : pBq g21 bb B Nm M := pBq.frn hw (by omega) hQ hnn20 (by omega) (fun j9 a9 b9 c9 => f21 j9 (by omega))
      refine g_callVX (k := 1002) (n9 := 0) (av := []) (st := [.ref k9]) E Rx (ct_X2_traveller l hT21 (by omega) hok21 (by omega) (by omega) (by omega) hw (pBq.mono y68 (by omega)) hnl) gciX2 dX2_goodOf_38 hT21_a q993 q995 qs21 q121 q996 (by decide +kernel) rfl rfl ⟨by decide, by decide⟩ ⟨by decide, by decide⟩ (Nat.le_of_ble_eq_true rfl) rfl (fun g9 ⟨e9, h9e, h9p⟩ => ⟨e9, by rw [zGf_k hc1 he21 (by omega), zBd_l h9e] <;> rfl, h9p.tr (fun j9 h9 => f21 j9 (by omega))⟩) (gPe.ki (fun a69 g69 he69 h69 => ?_))
      obtain ⟨M69, N69, hM69, hN69, hT69, f69⟩ := h69
      have hT69_o := hT69
      obtain ⟨⟨hT69_F, hT69_a, hT69_0, hT69_1, hT69_2, hT69_3, hT69_4, hT69_5, hT69_6, hT69_7, hT69_8, hT69_9⟩, hT69_s, ⟨hT69_G, hT69_b⟩, ⟨hT69_l, hT69_c⟩, hT69_t, hT69_z⟩ := hT69_o
      have hT69_t_o := hT69_t
      obtain ⟨hT69_t_f, hT69_t_a, hT69_t_b⟩ := hT69_t_o
      have hok69 : zOk n a69.2 := (zKx_ok hok21 he69).1
      have hok69_o := hok69
      obtain ⟨hok69_1, hok69_2, hok69_3, hok69_4, hok69_5⟩ := hok69_o
      have hkx69 := (zKx_ok hok21 he69).2
      have x70 := (f69 (k9) (by omega)).trans (x67)
      refine g_putf E gciX24 (v := .int (nI (a69.1))) dX2_goodOf_41 x70 0 rfl (by decide) q967 (.inr q968) rfl (fun _ => rfl) (fun _ => rfl) rfl (g_upk (fun g71 h71 f71 => ?_))
      refine g_aload_n E dX2_goodOf_44 rfl rfl rfl ?_
      refine g_ldcS E (j := 13) (tx := "by") rfl dX2_goodOf_45 rfl ?_
      have x72 := (f71 (1002) (by omega)).trans (hT69_a)
      have x74 := (f71 (1003) (by omega)).trans (hT69_b)
      have x75 := (f71 (1004) (by omega)).trans (hT69_c)
      have y76 := (hT69_t.fr  (fun j9 a9 b9 => f71 j9 (by omega)))
      have hT73 : pTk g71 n bb a69.2 M69 N69 T := ⟨⟨_, x72, hT69_0, hT69_1, hT69_2, hT69_3, hT69_4, hT69_5, hT69_6, hT69_7, hT69_8, hT69_9⟩, (fun h8 => ⟨(hT69_s h8).1.fr (fun j9 a9 b9 => f71 j9 (by omega)), (hT69_s h8).2⟩), ⟨_, x74⟩, ⟨_, x75⟩, y76, fun j9 a9 => (f71 j9 (by omega)).trans (hT69_z j9 (by omega))⟩
      refine g_callVX (k := 1002) (n9 := 1) (av := [.ref (1 + 2 * 13)]) (st := []) E Rx (ct_X2_must l hT73 (by omega) hok69 (by omega) (by omega) (by omega) rfl) gciX2 dX2_goodOf_47 x72 q803 q805 qs10 q121 q806 (by decide +kernel) rfl rfl ⟨by decide, by decide⟩ ⟨by decide, by decide⟩ (Nat.le_of_ble_eq_true rfl) rfl (fun g9 ⟨e9, h9e, h9p⟩ => ⟨e9, by rw [zGf_k hc1 he21 (by omega), zBd_r he69, zBd_l h9e] <;> rfl, h9p.tr (fun j9 h9 => ((f71 j9 (by omega)).trans (f69 j9 (by omega))).trans (f21 j9 (by omega)))⟩) (gPe.kn (fun a77 g77 he77 h77 => ?_))
      obtain ⟨M77, N77, hM77, hN77, hT77, f77⟩ := h77
      have hT77_o := hT77
      obtain ⟨⟨hT77_F, hT77_a, hT77_0, hT77_1, hT77_2, hT77_3, hT77_4, hT77_5, hT77_6, hT77_7, hT77_8, hT77_9⟩, hT77_s, ⟨hT77_G, hT77_b⟩, ⟨hT77_l, hT77_c⟩, hT77_t, hT77_z⟩ := hT77_o
      have hT77_t_o := hT77_t
      obtain ⟨hT77_t_f, hT77_t_a, hT77_t_b⟩ := hT77_t_o
      have hok77 : zOk n a77 := zMu_ok hok69 he77
      have hok77_o := hok77
      obtain ⟨hok77_1, hok77_2, hok77_3, hok77_4, hok77_5⟩ := hok77_o
      refine g_aload_n E dX2_goodOf_50 rfl rfl rfl ?_
      refine g_aload_n E dX2_goodOf_51 rfl rfl rfl ?_
      have y78 : pBq g77 bb B Nm M := pBq.frn hw (by omega) hQ hnn20 (by omega) (fun j9 a9 b9 c9 => (((f77 j9 (by omega)).trans (f71 j9 (by omega))).trans (f69 j9 (by omega))).trans (f21 j9 (by omega)))
      refine g_callVX (k := 1002) (n9 := 0) (av := []) (st := [.ref k9]) E Rx (ct_X2_means l hT77 (by omega) hok77 (by omega) (by omega) (by omega) hw (pBq.mono y78 (by omega)) hnl) gciX2 dX2_goodOf_52 hT77_a q1074 q1076 qs24 q121 q1077 (by decide +kernel) rfl rfl ⟨by decide, by decide⟩ ⟨by decide, by decide⟩ (Nat.le_of_ble_eq_true rfl) rfl (fun g9 ⟨e9, h9e, h9p⟩ => ⟨e9, by rw [zGf_k hc1 he21 (by omega), zBd_r he69, zBd_r he77, zBd_l h9e] <;> rfl, h9p.tr (fun j9 h9 => (((f77 j9 (by omega)).trans (f71 j9 (by omega))).trans (f69 j9 (by omega))).trans (f21 j9 (by omega)))⟩) (gPe.kr (fun a79 g79 he79 h79 => ?_))
      obtain ⟨M79, N79, hM79, hN79, hT79, f79⟩ := h79
      have hT79_o := hT79
      obtain ⟨⟨hT79_F, hT79_a, hT79_0, hT79_1, hT79_2, hT79_3, hT79_4, hT79_5, hT79_6, hT79_7, hT79_8, hT79_9⟩, hT79_s, ⟨hT79_G, hT79_b⟩, ⟨hT79_l, hT79_c⟩, hT79_t, hT79_z⟩ := hT79_o
      have hT79_t_o := hT79_t
      obtain ⟨hT79_t_f, hT79_t_a, hT79_t_b⟩ := hT79_t_o
      have hok79 : zOk n a79.2 := (zKx_ok hok77 he79).1
      have hok79_o := hok79
      obtain ⟨hok79_1, hok79_2, hok79_3, hok79_4, hok79_5⟩ := hok79_o
      have hkx79 := (zKx_ok hok77 he79).2
      have y80 : pBq g79 bb B Nm M := pBq.frn hw (by omega) hQ hnn20 (by omega) (fun j9 a9 b9 c9 => ((((f79 j9 (by omega)).trans (f77 j9 (by omega))).trans (f71 j9 (by omega))).trans (f69 j9 (by omega))).trans (f21 j9 (by omega)))
      obtain ⟨m81_F, m81_a, m81_1, m81_2, m81_3, m81_4, m81_5, m81_6, m81_7⟩ := pBr.means y80.1 a79.1 (by omega)
      have x82 := (f79 (k9) (by omega)).trans ((f77 (k9) (by omega)).trans (h71))
      refine g_callU (k := k9) (n9 := 1) (av := [.ref (bb + 10 + a79.1)]) (st := []) E (ct_X21_by_X24 l x82) gciX24 dX2_goodOf_55 x82 q1082 q1084 q1086 q1083 q148 q1089 rfl (by decide +kernel) rfl rfl ⟨by decide, by decide⟩ ⟨by decide, by decide⟩ (Nat.le_of_ble_eq_true rfl) rfl (gPr.k (fun g83 h83 => ?_))
      obtain ⟨h83, f83⟩ := h83
      have x84 := (f83 (1002) (by omega)).trans (hT79_a)
      have x86 := (f83 (1003) (by omega)).trans (hT79_b)
      have x87 := (f83 (1004) (by omega)).trans (hT79_c)
      have y88 := (hT79_t.fr  (fun j9 a9 b9 => f83 j9 (by omega)))
      have hT85 : pTk g83 n bb a79.2 M79 N79 T := ⟨⟨_, x84, hT79_0, hT79_1, hT79_2, hT79_3, hT79_4, hT79_5, hT79_6, hT79_7, hT79_8, hT79_9⟩, (fun h8 => ⟨(hT79_s h8).1.fr (fun j9 a9 b9 => f83 j9 (by omega)), (hT79_s h8).2⟩), ⟨_, x86⟩, ⟨_, x87⟩, y88, fun j9 a9 => (f83 j9 (by omega)).trans (hT79_z j9 (by omega))⟩
      exact (gRx_leave Rx E).elim (fun z9 h9z => h9z.2.2 _ _ _ _ _ _ (g_aret h9z.2.1 h9z.1 dX2_goodOf_58 rfl (Or.inl ⟨_, rfl⟩) (by decide) (by decide) (⟨(3, a69.1, a79.1, a79.2), by rw [zGf_k hc1 he21 (by omega), zBd_r he69, zBd_r he77, zBd_r he79]; rw [kd22] <;> rfl, rfl, ⟨M79, N79, by omega, by omega, hT85, fun j9 h9 => (((((f83 j9 (by omega)).trans (f79 j9 (by omega))).trans (f77 j9 (by omega))).trans (f71 j9 (by omega))).trans (f69 j9 (by omega))).trans (f21 j9 (by omega))⟩, ⟨_, h83, rfl, hF21_1, hF21_2, hF21_3, hF21_4, hF21_5, fun _ => rfl⟩⟩)))
    · have x89 := hF21
      rw [kd22] at x89
      refine g_astore_n E dX2_goodOf_35 rfl (by decide) rfl (lo1 := [some (.ref 1002), some (.ref sw), some (.int i9), some (.ref k9)]) rfl rfl ?_
      refine g_aload_n E dX2_goodOf_36 rfl rfl rfl ?_
      refine g_aload_n E dX2_goodOf_37 rfl rfl rfl ?_
      have y90 : pBq g21 bb B Nm M := pBq.frn hw (by omega) hQ hnn20 (by omega) (fun j9 a9 b9 c9 => f21 j9 (by omega))
      refine g_callVX (k := 1002) (n9 := 0) (av := []) (st := [.ref k9]) E Rx (ct_X2_traveller l hT21 (by omega) hok21 (by omega) (by omega) (by omega) hw (pBq.mono y90 (by omega)) hnl) gciX2 dX2_goodOf_38 hT21_a q993 q995 qs21 q121 q996 (by decide +kernel) rfl rfl ⟨by decide, by decide⟩ ⟨by decide, by decide⟩ (Nat.le_of_ble_eq_true rfl) rfl (fun g9 ⟨e9, h9e, h9p⟩ => ⟨e9, by rw [zGf_k hc1 he21 (by omega), zBd_l h9e] <;> rfl, h9p.tr (fun j9 h9 => f21 j9 (by omega))⟩) (gPe.ki (fun a91 g91 he91 h91 => ?_))
      obtain ⟨M91, N91, hM91, hN91, hT91, f91⟩ := h91
      have hT91_o := hT91
      obtain ⟨⟨hT91_F, hT91_a, hT91_0, hT91_1, hT91_2, hT91_3, hT91_4, hT91_5, hT91_6, hT91_7, hT91_8, hT91_9⟩, hT91_s, ⟨hT91_G, hT91_b⟩, ⟨hT91_l, hT91_c⟩, hT91_t, hT91_z⟩ := hT91_o
      have hT91_t_o := hT91_t
      obtain ⟨hT91_t_f, hT91_t_a, hT91_t_b⟩ := hT91_t_o
      have hok91 : zOk n a91.2 := (zKx_ok hok21 he91).1
      have hok91_o := hok91
      obtain ⟨hok91_1, hok91_2, hok91_3, hok91_4, hok91_5⟩ := hok91_o
      have hkx91 := (zKx_ok hok21 he91).2
      have x92 := (f91 (k9) (by omega)).trans (x89)
      refine g_putf E gciX25 (v := .int (nI (a91.1))) dX2_goodOf_41 x92 0 rfl (by decide) q967 (.inr q968) rfl (fun _ => rfl) (fun _ => rfl) rfl (g_upk (fun g93 h93 f93 => ?_))
      refine g_aload_n E dX2_goodOf_44 rfl rfl rfl ?_
      refine g_ldcS E (j := 13) (tx := "by") rfl dX2_goodOf_45 rfl ?_
      have x94 := (f93 (1002) (by omega)).trans (hT91_a)
      have x96 := (f93 (1003) (by omega)).trans (hT91_b)
      have x97 := (f93 (1004) (by omega)).trans (hT91_c)
      have y98 := (hT91_t.fr  (fun j9 a9 b9 => f93 j9 (by omega)))
      have hT95 : pTk g93 n bb a91.2 M91 N91 T := ⟨⟨_, x94, hT91_0, hT91_1, hT91_2, hT91_3, hT91_4, hT91_5, hT91_6, hT91_7, hT91_8, hT91_9⟩, (fun h8 => ⟨(hT91_s h8).1.fr (fun j9 a9 b9 => f93 j9 (by omega)), (hT91_s h8).2⟩), ⟨_, x96⟩, ⟨_, x97⟩, y98, fun j9 a9 => (f93 j9 (by omega)).trans (hT91_z j9 (by omega))⟩
      refine g_callVX (k := 1002) (n9 := 1) (av := [.ref (1 + 2 * 13)]) (st := []) E Rx (ct_X2_must l hT95 (by omega) hok91 (by omega) (by omega) (by omega) rfl) gciX2 dX2_goodOf_47 x94 q803 q805 qs10 q121 q806 (by decide +kernel) rfl rfl ⟨by decide, by decide⟩ ⟨by decide, by decide⟩ (Nat.le_of_ble_eq_true rfl) rfl (fun g9 ⟨e9, h9e, h9p⟩ => ⟨e9, by rw [zGf_k hc1 he21 (by omega), zBd_r he91, zBd_l h9e] <;> rfl, h9p.tr (fun j9 h9 => ((f93 j9 (by omega)).trans (f91 j9 (by omega))).trans (f21 j9 (by omega)))⟩) (gPe.kn (fun a99 g99 he99 h99 => ?_))
      obtain ⟨M99, N99, hM99, hN99, hT99, f99⟩ := h99
      have hT99_o := hT99
      obtain ⟨⟨hT99_F, hT99_a, hT99_0, hT99_1, hT99_2, hT99_3, hT99_4, hT99_5, hT99_6, hT99_7, hT99_8, hT99_9⟩, hT99_s, ⟨hT99_G, hT99_b⟩, ⟨hT99_l, hT99_c⟩, hT99_t, hT99_z⟩ := hT99_o
      have hT99_t_o := hT99_t
      obtain ⟨hT99_t_f, hT99_t_a, hT99_t_b⟩ := hT99_t_o
      have hok99 : zOk n a99 := zMu_ok hok91 he99
      have hok99_o := hok99
      obtain ⟨hok99_1, hok99_2, hok99_3, hok99_4, hok99_5⟩ := hok99_o
      refine g_aload_n E dX2_goodOf_50 rfl rfl rfl ?_
      refine g_aload_n E dX2_goodOf_51 rfl rfl rfl ?_
      have y100 : pBq g99 bb B Nm M := pBq.frn hw (by omega) hQ hnn20 (by omega) (fun j9 a9 b9 c9 => (((f99 j9 (by omega)).trans (f93 j9 (by omega))).trans (f91 j9 (by omega))).trans (f21 j9 (by omega)))
      refine g_callVX (k := 1002) (n9 := 0) (av := []) (st := [.ref k9]) E Rx (ct_X2_means l hT99 (by omega) hok99 (by omega) (by omega) (by omega) hw (pBq.mono y100 (by omega)) hnl) gciX2 dX2_goodOf_52 hT99_a q1074 q1076 qs24 q121 q1077 (by decide +kernel) rfl rfl ⟨by decide, by decide⟩ ⟨by decide, by decide⟩ (Nat.le_of_ble_eq_true rfl) rfl (fun g9 ⟨e9, h9e, h9p⟩ => ⟨e9, by rw [zGf_k hc1 he21 (by omega), zBd_r he91, zBd_r he99, zBd_l h9e] <;> rfl, h9p.tr (fun j9 h9 => (((f99 j9 (by omega)).trans (f93 j9 (by omega))).trans (f91 j9 (by omega))).trans (f21 j9 (by omega)))⟩) (gPe.kr (fun a101 g101 he101 h101 => ?_))
      obtain ⟨M101, N101, hM101, hN101, hT101, f101⟩ := h101
      have hT101_o := hT101
      obtain ⟨⟨hT101_F, hT101_a, hT101_0, hT101_1, hT101_2, hT101_3, hT101_4, hT101_5, hT101_6, hT101_7, hT101_8, hT101_9⟩, hT101_s, ⟨hT101_G, hT101_b⟩, ⟨hT101_l, hT101_c⟩, hT101_t, hT101_z⟩ := hT101_o
      have hT101_t_o := hT101_t
      obtain ⟨hT101_t_f, hT101_t_a, hT101_t_b⟩ := hT101_t_o
      have hok101 : zOk n a101.2 := (zKx_ok hok99 he101).1
      have hok101_o := hok101
      obtain ⟨hok101_1, hok101_2, hok101_3, hok101_4, hok101_5⟩ := hok101_o
      have hkx101 := (zKx_ok hok99 he101).2
      have y102 : pBq g101 bb B Nm M := pBq.frn hw (by omega) hQ hnn20 (by omega) (fun j9 a9 b9 c9 => ((((f101 j9 (by omega)).trans (f99 j9 (by omega))).trans (f93 j9 (by omega))).trans (f91 j9 (by omega))).trans (f21 j9 (by omega)))
      obtain ⟨m103_F, m103_a, m103_1, m103_2, m103_3, m103_4, m103_5, m103_6, m103_7⟩ := pBr.means y102.1 a101.1 (by omega)
      have x104 := (f101 (k9) (by omega)).trans ((f99 (k9) (by omega)).trans (h93))
      refine g_callU (k := k9) (n9 := 1) (av := [.ref (bb + 10 + a101.1)]) (st := []) E (ct_X21_by_X25 l x104) gciX25 dX2_goodOf_55 x104 q1082 q1084 q1085 q1083 q148 q1089 rfl (by decide +kernel) rfl rfl ⟨by decide, by decide⟩ ⟨by decide, by decide⟩ (Nat.le_of_ble_eq_true rfl) rfl (gPr.k (fun g105 h105 => ?_))
      obtain ⟨h105, f105⟩ := h105
      have x106 := (f105 (1002) (by omega)).trans (hT101_a)
      have x108 := (f105 (1003) (by omega)).trans (hT101_b)
      have x109 := (f105 (1004) (by omega)).trans (hT101_c)
      have y110 := (hT101_t.fr  (fun j9 a9 b9 => f105 j9 (by omega)))
      have hT107 : pTk g105 n bb a101.2 M101 N101 T := ⟨⟨_, x106, hT101_0, hT101_1, hT101_2, hT101_3, hT101_4, hT101_5, hT101_6, hT101_7, hT101_8, hT101_9⟩, (fun h8 => ⟨(hT101_s h8).1.fr (fun j9 a9 b9 => f105 j9 (by omega)), (hT101_s h8).2⟩), ⟨_, x108⟩, ⟨_, x109⟩, y110, fun j9 a9 => (f105 j9 (by omega)).trans (hT101_z j9 (by omega))⟩
      exact (gRx_leave Rx E).elim (fun z9 h9z => h9z.2.2 _ _ _ _ _ _ (g_aret h9z.2.1 h9z.1 dX2_goodOf_58 rfl (Or.inl ⟨_, rfl⟩) (by decide) (by decide) (⟨(4, a91.1, a101.1, a101.2), by rw [zGf_k hc1 he21 (by omega), zBd_r he91, zBd_r he99, zBd_r he101]; rw [kd22] <;> rfl, rfl, ⟨M101, N101, by omega, by omega, hT107, fun j9 h9 => (((((f105 j9 (by omega)).trans (f101 j9 (by omega))).trans (f99 j9 (by omega))).trans (f93 j9 (by omega))).trans (f91 j9 (by omega))).trans (f21 j9 (by omega))⟩, ⟨_, h105, rfl, hF21_1, hF21_2, hF21_3, hF21_4, hF21_5, fun _ => rfl⟩⟩)))
set_option maxHeartbeats 8000000 in
theorem ct_X2_good (l : Launch) {g : gWM} {n bb M N : Nat} {t : zTk} {T : Nat → Int32} {B : gBar} {Nm : zNm} (hT : pTk g n bb t M N T) (hn : n ≤ 1100) (hok : zOk n t) (hbb : 10000 ≤ bb) (hM : bb + 100 ≤ M) (hMN : M ≤ N) (hw : wfB B) (hQ : pBq g bb B Nm M) (hnl : ∀ s k, s < 4 → k < B 0 s → (Nm s k).length < 1000) (hx : zXs B) (hS9 : pSl g bb B) : gXt l yX2_good cX2_good 2 none 9 33 216 208 [.ref 1002] g (gPe (zLO T n (t, B, Nm)) (fun _ => none) (fun P g1 => pLl g1 g n bb P M T)) (fun g1 => ∃ e, zLO T n (t, B, Nm) = .inl e ∧ pXx g1 g bb e) := by
  refine gXt.of RX2 (by decide) rfl (lo := [some (.ref 1002), none]) 1 rfl (Nat.le_of_ble_eq_true rfl) (fun z E Rx => ?_)
  have hT_o := hT
  obtain ⟨⟨hT_F, hT_a, hT_0, hT_1, hT_2, hT_3, hT_4, hT_5, hT_6, hT_7, hT_8, hT_9⟩, hT_s, ⟨hT_G, hT_b⟩, ⟨hT_l, hT_c⟩, hT_t, hT_z⟩ := hT_o
  have hT_t_o := hT_t
  obtain ⟨hT_t_f, hT_t_a, hT_t_b⟩ := hT_t_o
  have hw_n := hw.1
  have hQ_r := hQ.1
  have hQ_n := hQ.2.2
  have hQ_r_o := hQ_r
  obtain ⟨⟨hQ_r_F, hQ_r_a, hQ_r_0, hQ_r_1, hQ_r_2, hQ_r_3, hQ_r_4, hQ_r_5, hQ_r_6, hQ_r_7, hQ_r_8, hQ_r_9, hQ_r_10, hQ_r_11, hQ_r_12, hQ_r_13, hQ_r_14, hQ_r_15⟩, ⟨hQ_r_f1, hQ_r_a1, hQ_r_b1⟩, ⟨hQ_r_f2, hQ_r_a2, hQ_r_b2⟩, ⟨hQ_r_f3, hQ_r_a3, hQ_r_b3⟩, ⟨hQ_r_f4, hQ_r_a4, hQ_r_b4⟩, ⟨hQ_r_f5, hQ_r_a5, hQ_r_b5⟩, ⟨hQ_r_f6, hQ_r_a6, hQ_r_b6⟩, ⟨hQ_r_f7, hQ_r_a7, hQ_r_b7⟩, hQ_r_c1, hQ_r_c2, hQ_r_c3, hQ_r_c4, hQ_r_c5⟩ := hQ_r_o
  obtain ⟨hQ_G, hQ_ga, hQ_gb⟩ := hQ.2.1
  obtain rfl := inj_obj hQ_r_a hQ_ga
  have hok_o := hok
  obtain ⟨hok_1, hok_2, hok_3, hok_4, hok_5⟩ := hok_o
  have hx9 : B 0 9 ≤ 1 := hx.2.2
  refine g_aload_n E dX2_good_0 rfl rfl rfl ?_
  refine g_aload_n E dX2_good_1 rfl rfl rfl ?_
  refine g_getf E gciX2 dX2_good_2 hT_a 9 rfl (by decide) q255 (.inl rfl) (.ref bb) (hT_9) rfl ?_
  refine g_getf E gciX14 dX2_good_5 hQ_r_a 12 rfl (by decide) q573 (.inl rfl) (.int (nI (B 0 3))) (hQ_r_12) rfl ?_
  refine g_bipush E (v := 8) dX2_good_8 (by decide) rfl ?_
  refine g_icmp_ge E dX2_good_10 (tgt := 17) (by decide) rfl (fun c10 => ?_) (fun c10 => ?_)
  · have c10 := (nI_leI (a := 8) (b := B 0 3) (by omega) (by omega)).mp c10
    refine g_iconst E (v := 0) dX2_good_17 (by decide) rfl ?_
    have hcan : decide (B 0 3 < 8) = false := decide_eq_false (by omega)
    refine g_callVX (k := 1002) (n9 := 1) (av := [.int 0]) (st := []) E Rx (ct_X2_begins l false hT (by omega) hok (by omega) (by omega) (by omega) hw (pBq.mono hQ (by omega)) hnl hx.2.2) gciX2 dX2_good_18 hT_a q820 q822 qs14 q121 q823 (by decide +kernel) rfl rfl ⟨by decide, by decide⟩ ⟨by decide, by decide⟩ (Nat.le_of_ble_eq_true rfl) rfl (fun g9 ⟨e9, h9e, h9p⟩ => ⟨e9, by unfold zLO; rw [show decide (B 0 3 < 8) = false from hcan, zBd_l h9e] <;> rfl, h9p.tr (fun j9 h9 => rfl)⟩) (gPe.kn (fun a1 g1 he1 h1 => ?_))
    exact absurd (zBg_ok hok he1).2.1 Bool.false_ne_true
  · have c10 := mt (nI_leI (a := 8) (b := B 0 3) (by omega) (by omega)).mpr c10
    refine g_iconst E (v := 1) dX2_good_13 (by decide) rfl ?_
    refine g_goto E dX2_good_14 (tgt := 18) (by decide) ?_
    have hcan : decide (B 0 3 < 8) = true := decide_eq_true (by omega)
    have hc4 : B 0 3 < 8 := by omega
    refine g_callVX (k := 1002) (n9 := 1) (av := [.int 1]) (st := []) E Rx (ct_X2_begins l true hT (by omega) hok (by omega) (by omega) (by omega) hw (pBq.mono hQ (by omega)) hnl hx.2.2) gciX2 dX2_good_18 hT_a q820 q822 qs14 q121 q823 (by decide +kernel) rfl rfl ⟨by decide, by decide⟩ ⟨by decide, by decide⟩ (Nat.le_of_ble_eq_true rfl) rfl (fun g9 ⟨e9, h9e, h9p⟩ => ⟨e9, by unfold zLO; rw [show decide (B 0 3 < 8) = true from hcan, zBd_l h9e] <;> rfl, h9p.tr (fun j9 h9 => rfl)⟩) (gPe.kn (fun a2 g2 he2 h2 => ?_))
    obtain ⟨M2, N2, hM2, hN2, hT2, f2⟩ := h2
    have hT2_o := hT2
    obtain ⟨⟨hT2_F, hT2_a, hT2_0, hT2_1, hT2_2, hT2_3, hT2_4, hT2_5, hT2_6, hT2_7, hT2_8, hT2_9⟩, hT2_s, ⟨hT2_G, hT2_b⟩, ⟨hT2_l, hT2_c⟩, hT2_t, hT2_z⟩ := hT2_o
    have hT2_t_o := hT2_t
    obtain ⟨hT2_t_f, hT2_t_a, hT2_t_b⟩ := hT2_t_o
    have hok2 : zOk n a2 := (zBg_ok hok he2).1
    have hok2_o := hok2
    obtain ⟨hok2_1, hok2_2, hok2_3, hok2_4, hok2_5⟩ := hok2_o
    refine g_aload_n E dX2_good_21 rfl rfl rfl ?_
    refine g_aload_n E dX2_good_22 rfl rfl rfl ?_
    have y3 := (hQ.fr hw (by omega) (fun j9 a9 b9 => f2 j9 (by omega)))
    refine g_callVX (k := 1002) (n9 := 0) (av := []) (st := [.ref 1002]) E Rx (ct_X2_newName l hT2 (by omega) hok2 (by omega) (by omega) (by omega) hw (pBq.mono y3 (by omega)) hnl) gciX2 dX2_good_23 hT2_a q826 q828 qs15 q121 q829 (by decide +kernel) rfl rfl ⟨by decide, by decide⟩ ⟨by decide, by decide⟩ (Nat.le_of_ble_eq_true rfl) rfl (fun g9 ⟨e9, h9e, h9p⟩ => ⟨e9, by unfold zLO; rw [show decide (B 0 3 < 8) = true from hcan, zBd_r he2, zBd_l h9e] <;> rfl, h9p.tr (fun j9 h9 => f2 j9 (by omega))⟩) (gPe.kr (fun a4 g4 he4 h4 => ?_))
    obtain ⟨hs4, hl4, M4, N4, hM4, hN4, hT4, f4⟩ := h4
    have hT4_o := hT4
    obtain ⟨⟨hT4_F, hT4_a, hT4_0, hT4_1, hT4_2, hT4_3, hT4_4, hT4_5, hT4_6, hT4_7, hT4_8, hT4_9⟩, hT4_s, ⟨hT4_G, hT4_b⟩, ⟨hT4_l, hT4_c⟩, hT4_t, hT4_z⟩ := hT4_o
    have hT4_t_o := hT4_t
    obtain ⟨hT4_t_f, hT4_t_a, hT4_t_b⟩ := hT4_t_o
    have hok4 : zOk n a4.2 := (zNw_ok hok2 he4).1
    have hok4_o := hok4
    obtain ⟨hok4_1, hok4_2, hok4_3, hok4_4, hok4_5⟩ := hok4_o
    have hz4 : True := trivial
    refine g_aload_n E dX2_good_26 rfl rfl rfl ?_
    refine g_getf E gciX2 dX2_good_27 hT4_a 9 rfl (by decide) q255 (.inl rfl) (.ref bb) (hT4_9) rfl ?_
    have x5 := (f4 (bb) (by omega)).trans ((f2 (bb) (by omega)).trans (hQ_r_a))
    refine g_getf E gciX14 dX2_good_30 x5 12 rfl (by decide) q573 (.inl rfl) (.int (nI (B 0 3))) (hQ_r_12) rfl ?_
    have y6 := (y3.fr hw (by omega) (fun j9 a9 b9 => f4 j9 (by omega)))
    have hnn7 := (f4 (bb + 40 + B 0 3) (by omega)).trans ((f2 (bb + 40 + B 0 3) (by omega)).trans ((hS9 (B 0 3) (by omega)).2.2.2.1 (Nat.le_refl _)))
    refine g_callVX (k := 1002) (n9 := 2) (av := [.ref M2, .int (nI (B 0 3))]) (st := []) E Rx (ct_X2_goodOf l (nI (B 0 3)) hT4 (by omega) hok4 (by omega) (by omega) (by omega) hw (pBq.mono y6 (by omega)) hnl ((f4 (bb + 40 + B 0 3) (by omega)).trans ((f2 (bb + 40 + B 0 3) (by omega)).trans ((hS9 (B 0 3) (by omega)).2.2.2.1 (Nat.le_refl _)))) (by omega) (by omega)) gciX2 dX2_good_33 hT4_a q949 q951 qs20 q121 q952 (by decide +kernel) rfl rfl ⟨by decide, by decide⟩ ⟨by decide, by decide⟩ (Nat.le_of_ble_eq_true rfl) rfl (fun g9 ⟨e9, h9e, h9p⟩ => ⟨e9, by unfold zLO; rw [show decide (B 0 3 < 8) = true from hcan, zBd_r he2, zBd_r he4, zGf_l h9e] <;> rfl, h9p.tr (fun j9 h9 => (f4 j9 (by omega)).trans (f2 j9 (by omega)))⟩) (gPe.kr (fun a8 g8 he8 h8 => ?_))
    obtain ⟨kd8, o8, ekd8, eo8, rfl⟩ := zGf_r he8
    have hkd8 := zKd_mv hok4 ekd8
    have ho8 := zOb_mv hkd8.1 eo8
    obtain ⟨⟨M8, N8, hM8, hN8, hT8, f8⟩, hob8⟩ := h8
    have hT8_o := hT8
    obtain ⟨⟨hT8_F, hT8_a, hT8_0, hT8_1, hT8_2, hT8_3, hT8_4, hT8_5, hT8_6, hT8_7, hT8_8, hT8_9⟩, hT8_s, ⟨hT8_G, hT8_b⟩, ⟨hT8_l, hT8_c⟩, hT8_t, hT8_z⟩ := hT8_o
    have hT8_t_o := hT8_t
    obtain ⟨hT8_t_f, hT8_t_a, hT8_t_b⟩ := hT8_t_o
    have hok8 : zOk n o8.2.2 := ho8.1
    have hok8_o := hok8
    obtain ⟨hok8_1, hok8_2, hok8_3, hok8_4, hok8_5⟩ := hok8_o
    obtain ⟨F8, hF8, hF8_0, hF8_1, hF8_2, hF8_3, hF8_4, hF8_5, hF8_7⟩ := hob8
    have hk48 : kd8.1 ≤ 4 := hkd8.2.2
    rcases (show kd8.1 = 0 ∨ kd8.1 = 1 ∨ kd8.1 = 2 ∨ kd8.1 = 3 ∨ kd8.1 = 4 by omega) with kd9 | kd9 | kd9 | kd9 | kd9
    · have x10 := hF8
      rw [kd9] at x10
      refine g_astore_n E dX2_good_36 rfl (by decide) rfl (lo1 := [some (.ref 1002), some (.ref (bb + 40 + B 0 3))]) rfl rfl ?_
      refine g_aload_n E dX2_good_37 rfl rfl rfl ?_
      refine g_aload_n E dX2_good_38 rfl rfl rfl ?_
      refine g_ldcwS E (j := 26) (tx := "age") rfl dX2_good_39 rfl ?_
      refine g_iconst E (v := 0) dX2_good_42 (by decide) rfl ?_
      refine g_sipush E (v := 300) dX2_good_43 (by decide) rfl ?_
      refine g_callVX (k := 1002) (n9 := 3) (av := [.ref (1 + 2 * 26), .int 0, .int 300]) (st := [.ref (bb + 40 + B 0 3)]) E Rx (ct_X2_after l 0 300 hT8 (by omega) hok8 (by omega) (by omega) (by omega) rfl (by omega) (by omega)) gciX2 dX2_good_46 hT8_a q799 q801 qs9 q121 q802 (by decide +kernel) rfl rfl ⟨by decide, by decide⟩ ⟨by decide, by decide⟩ (Nat.le_of_ble_eq_true rfl) rfl (fun g9 ⟨e9, h9e, h9p⟩ => ⟨e9, by unfold zLO; rw [show decide (B 0 3 < 8) = true from hcan, zBd_r he2, zBd_r he4, zBd_r ekd8, zBd_r eo8, zBd_l h9e] <;> rfl, h9p.tr (fun j9 h9 => ((f8 j9 (by omega)).trans (f4 j9 (by omega))).trans (f2 j9 (by omega)))⟩) (gPe.ki (fun a11 g11 he11 h11 => ?_))
      have hin11 := zAf_in he11
      obtain ⟨M11, N11, hM11, hN11, hT11, f11⟩ := h11
      have hT11_o := hT11
      obtain ⟨⟨hT11_F, hT11_a, hT11_0, hT11_1, hT11_2, hT11_3, hT11_4, hT11_5, hT11_6, hT11_7, hT11_8, hT11_9⟩, hT11_s, ⟨hT11_G, hT11_b⟩, ⟨hT11_l, hT11_c⟩, hT11_t, hT11_z⟩ := hT11_o
      have hT11_t_o := hT11_t
      obtain ⟨hT11_t_f, hT11_t_a, hT11_t_b⟩ := hT11_t_o
      have hok11 : zOk n a11.2 := zAf_ok hok8 he11
      have hok11_o := hok11
      obtain ⟨hok11_1, hok11_2, hok11_3, hok11_4, hok11_5⟩ := hok11_o
      have x12 := (f11 (bb + 40 + B 0 3) (by omega)).trans (x10)
      refine g_putf E gciX20 (v := .int (nI (a11.1))) dX2_good_49 x12 1 rfl (by decide) q970 (.inl rfl) rfl (fun _ => rfl) (fun _ => rfl) rfl (g_upk (fun g13 h13 f13 => ?_))
      refine g_aload_n E dX2_good_52 rfl rfl rfl ?_
      refine g_aload_n E dX2_good_53 rfl rfl rfl ?_
      refine g_ldcwS E (j := 27) (tx := "weighs") rfl dX2_good_54 rfl ?_
      refine g_iconst E (v := 1) dX2_good_57 (by decide) rfl ?_
      refine g_bipush E (v := 9) dX2_good_58 (by decide) rfl ?_
      have x14 := (f13 (1002) (by omega)).trans (hT11_a)
      have x16 := (f13 (1003) (by omega)).trans (hT11_b)
      have x17 := (f13 (1004) (by omega)).trans (hT11_c)
      have y18 := (hT11_t.fr  (fun j9 a9 b9 => f13 j9 (by omega)))
      have hT15 : pTk g13 n bb a11.2 M11 N11 T := ⟨⟨_, x14, hT11_0, hT11_1, hT11_2, hT11_3, hT11_4, hT11_5, hT11_6, hT11_7, hT11_8, hT11_9⟩, (fun h8 => ⟨(hT11_s h8).1.fr (fun j9 a9 b9 => f13 j9 (by omega)), (hT11_s h8).2⟩), ⟨_, x16⟩, ⟨_, x17⟩, y18, fun j9 a9 => (f13 j9 (by omega)).trans (hT11_z j9 (by omega))⟩
      refine g_callVX (k := 1002) (n9 := 3) (av := [.ref (1 + 2 * 27), .int 1, .int 9]) (st := [.ref (bb + 40 + B 0 3)]) E Rx (ct_X2_after l 1 9 hT15 (by omega) hok11 (by omega) (by omega) (by omega) rfl (by omega) (by omega)) gciX2 dX2_good_60 x14 q799 q801 qs9 q121 q802 (by decide +kernel) rfl rfl ⟨by decide, by decide⟩ ⟨by decide, by decide⟩ (Nat.le_of_ble_eq_true rfl) rfl (fun g9 ⟨e9, h9e, h9p⟩ => ⟨e9, by unfold zLO; rw [show decide (B 0 3 < 8) = true from hcan, zBd_r he2, zBd_r he4, zBd_r ekd8, zBd_r eo8, zBd_r he11, zBd_l h9e] <;> rfl, h9p.tr (fun j9 h9 => ((((f13 j9 (by omega)).trans (f11 j9 (by omega))).trans (f8 j9 (by omega))).trans (f4 j9 (by omega))).trans (f2 j9 (by omega)))⟩) (gPe.ki (fun a19 g19 he19 h19 => ?_))
      have hin19 := zAf_in he19
      obtain ⟨M19, N19, hM19, hN19, hT19, f19⟩ := h19
      have hT19_o := hT19
      obtain ⟨⟨hT19_F, hT19_a, hT19_0, hT19_1, hT19_2, hT19_3, hT19_4, hT19_5, hT19_6, hT19_7, hT19_8, hT19_9⟩, hT19_s, ⟨hT19_G, hT19_b⟩, ⟨hT19_l, hT19_c⟩, hT19_t, hT19_z⟩ := hT19_o
      have hT19_t_o := hT19_t
      obtain ⟨hT19_t_f, hT19_t_a, hT19_t_b⟩ := hT19_t_o
      have hok19 : zOk n a19.2 := zAf_ok hok11 he19
      have hok19_o := hok19
      obtain ⟨hok19_1, hok19_2, hok19_3, hok19_4, hok19_5⟩ := hok19_o
      have x20 := (f19 (bb + 40 + B 0 3) (by omega)).trans (h13)
      refine g_putf E gciX20 (v := .int (nI (a19.1))) dX2_good_63 x20 2 rfl (by decide) q975 (.inl rfl) rfl (fun _ => rfl) (fun _ => rfl) rfl (g_upk (fun g21 h21 f21 => ?_))
      refine g_aload_n E dX2_good_66 rfl rfl rfl ?_
      refine g_aload_n E dX2_good_67 rfl rfl rfl ?_
      refine g_ldcwS E (j := 28) (tx := "worth") rfl dX2_good_68 rfl ?_
      refine g_iconst E (v := 0) dX2_good_71 (by decide) rfl ?_
      refine g_bipush E (v := 99) dX2_good_72 (by decide) rfl ?_
      have x22 := (f21 (1002) (by omega)).trans (hT19_a)
      have x24 := (f21 (1003) (by omega)).trans (hT19_b)
      have x25 := (f21 (1004) (by omega)).trans (hT19_c)
      have y26 := (hT19_t.fr  (fun j9 a9 b9 => f21 j9 (by omega)))
      have hT23 : pTk g21 n bb a19.2 M19 N19 T := ⟨⟨_, x22, hT19_0, hT19_1, hT19_2, hT19_3, hT19_4, hT19_5, hT19_6, hT19_7, hT19_8, hT19_9⟩, (fun h8 => ⟨(hT19_s h8).1.fr (fun j9 a9 b9 => f21 j9 (by omega)), (hT19_s h8).2⟩), ⟨_, x24⟩, ⟨_, x25⟩, y26, fun j9 a9 => (f21 j9 (by omega)).trans (hT19_z j9 (by omega))⟩
      refine g_callVX (k := 1002) (n9 := 3) (av := [.ref (1 + 2 * 28), .int 0, .int 99]) (st := [.ref (bb + 40 + B 0 3)]) E Rx (ct_X2_after l 0 99 hT23 (by omega) hok19 (by omega) (by omega) (by omega) rfl (by omega) (by omega)) gciX2 dX2_good_74 x22 q799 q801 qs9 q121 q802 (by decide +kernel) rfl rfl ⟨by decide, by decide⟩ ⟨by decide, by decide⟩ (Nat.le_of_ble_eq_true rfl) rfl (fun g9 ⟨e9, h9e, h9p⟩ => ⟨e9, by unfold zLO; rw [show decide (B 0 3 < 8) = true from hcan, zBd_r he2, zBd_r he4, zBd_r ekd8, zBd_r eo8, zBd_r he11, zBd_r he19, zBd_l h9e] <;> rfl, h9p.tr (fun j9 h9 => ((((((f21 j9 (by omega)).trans (f19 j9 (by omega))).trans (f13 j9 (by omega))).trans (f11 j9 (by omega))).trans (f8 j9 (by omega))).trans (f4 j9 (by omega))).trans (f2 j9 (by omega)))⟩) (gPe.ki (fun a27 g27 he27 h27 => ?_))
      have hin27 := zAf_in he27
      obtain ⟨M27, N27, hM27, hN27, hT27, f27⟩ := h27
      have hT27_o := hT27
      obtain ⟨⟨hT27_F, hT27_a, hT27_0, hT27_1, hT27_2, hT27_3, hT27_4, hT27_5, hT27_6, hT27_7, hT27_8, hT27_9⟩, hT27_s, ⟨hT27_G, hT27_b⟩, ⟨hT27_l, hT27_c⟩, hT27_t, hT27_z⟩ := hT27_o
      have hT27_t_o := hT27_t
      obtain ⟨hT27_t_f, hT27_t_a, hT27_t_b⟩ := hT27_t_o
      have hok27 : zOk n a27.2 := zAf_ok hok19 he27
      have hok27_o := hok27
      obtain ⟨hok27_1, hok27_2, hok27_3, hok27_4, hok27_5⟩ := hok27_o
      have x28 := (f27 (bb + 40 + B 0 3) (by omega)).trans (h21)
      refine g_putf E gciX20 (v := .int (nI (a27.1))) dX2_good_77 x28 3 rfl (by decide) q977 (.inl rfl) rfl (fun _ => rfl) (fun _ => rfl) rfl (g_upk (fun g29 h29 f29 => ?_))
      refine g_aload_n E dX2_good_80 rfl rfl rfl ?_
      have x30 := (f29 (1002) (by omega)).trans (hT27_a)
      refine g_getf E gciX2 dX2_good_81 x30 9 rfl (by decide) q255 (.inl rfl) (.ref bb) (hT27_9) rfl ?_
      have x31 := (f29 (bb) (by omega)).trans ((f27 (bb) (by omega)).trans ((f21 (bb) (by omega)).trans ((f19 (bb) (by omega)).trans ((f13 (bb) (by omega)).trans ((f11 (bb) (by omega)).trans ((f8 (bb) (by omega)).trans (x5)))))))
      refine g_getf E gciX14 dX2_good_84 x31 3 rfl (by decide) q543 (.inl rfl) (.ref (bb + 4)) (hQ_r_3) rfl ?_
      refine g_aload_n E dX2_good_87 rfl rfl rfl ?_
      refine g_getf E gciX2 dX2_good_88 x30 9 rfl (by decide) q255 (.inl rfl) (.ref bb) (hT27_9) rfl ?_
      refine g_getf E gciX14 dX2_good_91 x31 12 rfl (by decide) q573 (.inl rfl) (.int (nI (B 0 3))) (hQ_r_12) rfl ?_
      refine g_aload_n E dX2_good_94 rfl rfl rfl ?_
      have x32 := (f29 (bb + 4) (by omega)).trans ((f27 (bb + 4) (by omega)).trans ((f21 (bb + 4) (by omega)).trans ((f19 (bb + 4) (by omega)).trans ((f13 (bb + 4) (by omega)).trans ((f11 (bb + 4) (by omega)).trans ((f8 (bb + 4) (by omega)).trans ((f4 (bb + 4) (by omega)).trans ((f2 (bb + 4) (by omega)).trans (hQ_r_a4)))))))))
      refine g_aast E gciX20 (j := B 0 3) dX2_good_95 x32 (fun _ => rfl) h29 (.inr q2555) (rfl) (by omega) (by decide) rfl (g_upk (fun g33 h33 f33 => ?_))
      refine g_aload_n E dX2_good_96 rfl rfl rfl ?_
      have x34 := (f33 (1002) (by omega)).trans (x30)
      refine g_getf E gciX2 dX2_good_97 x34 9 rfl (by decide) q255 (.inl rfl) (.ref bb) (hT27_9) rfl ?_
      refine g_dup E dX2_good_100 rfl rfl ?_
      have x35 := (f33 (bb) (by omega)).trans (x31)
      refine g_getf E gciX14 dX2_good_101 x35 12 rfl (by decide) q573 (.inl rfl) (.int (nI (B 0 3))) (hQ_r_12) rfl ?_
      refine g_iconst E (v := 1) dX2_good_104 (by decide) rfl ?_
      refine g_iadd E dX2_good_105 rfl ?_
      refine g_as (y := nI (B 0 3 + 1)) ((nI_succ _).symm) ?_
      refine g_putf E gciX14 (v := .int (nI (B 0 3 + 1))) dX2_good_106 x35 12 rfl (by decide) q573 (.inl rfl) rfl (fun _ => rfl) (fun _ => rfl) rfl (g_upk (fun g36 h36 f36 => ?_))
      have x37 := (f36 (1002) (by omega)).trans (x34)
      have x39 := (f36 (1003) (by omega)).trans ((f33 (1003) (by omega)).trans ((f29 (1003) (by omega)).trans (hT27_b)))
      have x40 := (f36 (1004) (by omega)).trans ((f33 (1004) (by omega)).trans ((f29 (1004) (by omega)).trans (hT27_c)))
      have y41 := (((hT27_t.fr  (fun j9 a9 b9 => f29 j9 (by omega))).fr  (fun j9 a9 b9 => f33 j9 (by omega))).fr  (fun j9 a9 b9 => f36 j9 (by omega)))
      have hT38 : pTk g36 n bb a27.2 M27 N27 T := ⟨⟨_, x37, hT27_0, hT27_1, hT27_2, hT27_3, hT27_4, hT27_5, hT27_6, hT27_7, hT27_8, hT27_9⟩, (fun h8 => ⟨(hT27_s h8).1.fr (fun j9 a9 b9 => ((f36 j9 (by omega)).trans (f33 j9 (by omega))).trans (f29 j9 (by omega))), (hT27_s h8).2⟩), ⟨_, x39⟩, ⟨_, x40⟩, y41, fun j9 a9 => (f36 j9 (by omega)).trans ((f33 j9 (by omega)).trans ((f29 j9 (by omega)).trans (hT27_z j9 (by omega))))⟩
      have x42 := (f36 (bb + 4) (by omega)).trans (h33)
      have x43 := (f36 (bb + 40 + B 0 3) (by omega)).trans ((f33 (bb + 40 + B 0 3) (by omega)).trans (h29))
      have y44 := (((((((((hs4.fr  (fun j9 a9 b9 => f8 j9 (by omega))).fr  (fun j9 a9 b9 => f11 j9 (by omega))).fr  (fun j9 a9 b9 => f13 j9 (by omega))).fr  (fun j9 a9 b9 => f19 j9 (by omega))).fr  (fun j9 a9 b9 => f21 j9 (by omega))).fr  (fun j9 a9 b9 => f27 j9 (by omega))).fr  (fun j9 a9 b9 => f29 j9 (by omega))).fr  (fun j9 a9 b9 => f33 j9 (by omega))).fr  (fun j9 a9 b9 => f36 j9 (by omega)))
      exact (gRx_leave Rx E).elim (fun z9 h9z => h9z.2.2 _ _ _ _ _ _ (g_vret h9z.2.1 h9z.1 dX2_good_109 rfl (by decide) (by decide) (⟨(a27.2, bs (bs (bs (bs (bs (bs (bs B 12 (B 0 3) kd8.1) 14 (B 0 3) o8.1) 13 (B 0 3) o8.2.1) 15 (B 0 3) a11.1) 16 (B 0 3) a19.1) 17 (B 0 3) a27.1) 0 3 (B 0 3 + 1), ns Nm 3 (B 0 3) a4.1), by unfold zLO; rw [show decide (B 0 3 < 8) = true from hcan, zBd_r he2, zBd_r he4, zBd_r ekd8, zBd_r eo8, zBd_r he11, zBd_r he19, zBd_r he27] <;> rfl, rfl, M27, N27, by omega, by omega, hT38, pBq_O hw hx hQ hM (by omega) hc4 hkd8.2.2 ho8.2.2.1 ho8.2.2.2 hin11.2 hin19.2 hin27.2 (⟨_, h36, hQ_r_0, hQ_r_1, hQ_r_2, hQ_r_3, hQ_r_4, hQ_r_5, hQ_r_6, hQ_r_7, hQ_r_8, hQ_r_9, hQ_r_10, hQ_r_11, rfl, hQ_r_13, hQ_r_14, hQ_r_15, hQ_gb⟩) ⟨_, x42, raS hQ_r_b4⟩ ⟨(va_up (va_up (va_up F8 1 (.int (nI (a11.1)))) 2 (.int (nI (a19.1)))) 3 (.int (nI (a27.1)))), by rw [kd9]; exact x43, hF8_5, hF8_0, rfl, rfl, rfl, hF8_4, hF8_7⟩ y44 (by omega) (by omega) (fun j9 a9 b9 c0_ c1_ c2_ => ((((((((((f36 j9 (by omega)).trans (f33 j9 (by omega))).trans (f29 j9 (by omega))).trans (f27 j9 (by omega))).trans (f21 j9 (by omega))).trans (f19 j9 (by omega))).trans (f13 j9 (by omega))).trans (f11 j9 (by omega))).trans (f8 j9 (by omega))).trans (f4 j9 (by omega))).trans (f2 j9 (by omega))), pSl_O hw hS9 hc4 hkd8.2.2 ho8.2.2.1 ho8.2.2.2 hin11.2 hin19.2 hin27.2 (fun j9 a9 b9 c0_ c1_ c2_ => ((((((((((f36 j9 (by omega)).trans (f33 j9 (by omega))).trans (f29 j9 (by omega))).trans (f27 j9 (by omega))).trans (f21 j9 (by omega))).trans (f19 j9 (by omega))).trans (f13 j9 (by omega))).trans (f11 j9 (by omega))).trans (f8 j9 (by omega))).trans (f4 j9 (by omega))).trans (f2 j9 (by omega))), fun j9 h9 => ((((((((((f36 j9 (by omega)).trans (f33 j9 (by omega))).trans (f29 j9 (by omega))).trans (f27 j9 (by omega))).trans (f21 j9 (by omega))).trans (f19 j9 (by omega))).trans (f13 j9 (by omega))).trans (f11 j9 (by omega))).trans (f8 j9 (by omega))).trans (f4 j9 (by omega))).trans (f2 j9 (by omega))⟩)))
    · have x45 := hF8
      rw [kd9] at x45
      refine g_astore_n E dX2_good_36 rfl (by decide) rfl (lo1 := [some (.ref 1002), some (.ref (bb + 40 + B 0 3))]) rfl rfl ?_
      refine g_aload_n E dX2_good_37 rfl rfl rfl ?_
      refine g_aload_n E dX2_good_38 rfl rfl rfl ?_
      refine g_ldcwS E (j := 26) (tx := "age") rfl dX2_good_39 rfl ?_
      refine g_iconst E (v := 0) dX2_good_42 (by decide) rfl ?_
      refine g_sipush E (v := 300) dX2_good_43 (by decide) rfl ?_
      refine g_callVX (k := 1002) (n9 := 3) (av := [.ref (1 + 2 * 26), .int 0, .int 300]) (st := [.ref (bb + 40 + B 0 3)]) E Rx (ct_X2_after l 0 300 hT8 (by omega) hok8 (by omega) (by omega) (by omega) rfl (by omega) (by omega)) gciX2 dX2_good_46 hT8_a q799 q801 qs9 q121 q802 (by decide +kernel) rfl rfl ⟨by decide, by decide⟩ ⟨by decide, by decide⟩ (Nat.le_of_ble_eq_true rfl) rfl (fun g9 ⟨e9, h9e, h9p⟩ => ⟨e9, by unfold zLO; rw [show decide (B 0 3 < 8) = true from hcan, zBd_r he2, zBd_r he4, zBd_r ekd8, zBd_r eo8, zBd_l h9e] <;> rfl, h9p.tr (fun j9 h9 => ((f8 j9 (by omega)).trans (f4 j9 (by omega))).trans (f2 j9 (by omega)))⟩) (gPe.ki (fun a46 g46 he46 h46 => ?_))
      have hin46 := zAf_in he46
      obtain ⟨M46, N46, hM46, hN46, hT46, f46⟩ := h46
      have hT46_o := hT46
      obtain ⟨⟨hT46_F, hT46_a, hT46_0, hT46_1, hT46_2, hT46_3, hT46_4, hT46_5, hT46_6, hT46_7, hT46_8, hT46_9⟩, hT46_s, ⟨hT46_G, hT46_b⟩, ⟨hT46_l, hT46_c⟩, hT46_t, hT46_z⟩ := hT46_o
      have hT46_t_o := hT46_t
      obtain ⟨hT46_t_f, hT46_t_a, hT46_t_b⟩ := hT46_t_o
      have hok46 : zOk n a46.2 := zAf_ok hok8 he46
      have hok46_o := hok46
      obtain ⟨hok46_1, hok46_2, hok46_3, hok46_4, hok46_5⟩ := hok46_o
      have x47 := (f46 (bb + 40 + B 0 3) (by omega)).trans (x45)
      refine g_putf E gciX22 (v := .int (nI (a46.1))) dX2_good_49 x47 1 rfl (by decide) q970 (.inl rfl) rfl (fun _ => rfl) (fun _ => rfl) rfl (g_upk (fun g48 h48 f48 => ?_))
      refine g_aload_n E dX2_good_52 rfl rfl rfl ?_
      refine g_aload_n E dX2_good_53 rfl rfl rfl ?_
      refine g_ldcwS E (j := 27) (tx := "weighs") rfl dX2_good_54 rfl ?_
      refine g_iconst E (v := 1) dX2_good_57 (by decide) rfl ?_
      refine g_bipush E (v := 9) dX2_good_58 (by decide) rfl ?_
      have x49 := (f48 (1002) (by omega)).trans (hT46_a)
      have x51 := (f48 (1003) (by omega)).trans (hT46_b)
      have x52 := (f48 (1004) (by omega)).trans (hT46_c)
      have y53 := (hT46_t.fr  (fun j9 a9 b9 => f48 j9 (by omega)))
      have hT50 : pTk g48 n bb a46.2 M46 N46 T := ⟨⟨_, x49, hT46_0, hT46_1, hT46_2, hT46_3, hT46_4, hT46_5, hT46_6, hT46_7, hT46_8, hT46_9⟩, (fun h8 => ⟨(hT46_s h8).1.fr (fun j9 a9 b9 => f48 j9 (by omega)), (hT46_s h8).2⟩), ⟨_, x51⟩, ⟨_, x52⟩, y53, fun j9 a9 => (f48 j9 (by omega)).trans (hT46_z j9 (by omega))⟩
      refine g_callVX (k := 1002) (n9 := 3) (av := [.ref (1 + 2 * 27), .int 1, .int 9]) (st := [.ref (bb + 40 + B 0 3)]) E Rx (ct_X2_after l 1 9 hT50 (by omega) hok46 (by omega) (by omega) (by omega) rfl (by omega) (by omega)) gciX2 dX2_good_60 x49 q799 q801 qs9 q121 q802 (by decide +kernel) rfl rfl ⟨by decide, by decide⟩ ⟨by decide, by decide⟩ (Nat.le_of_ble_eq_true rfl) rfl (fun g9 ⟨e9, h9e, h9p⟩ => ⟨e9, by unfold zLO; rw [show decide (B 0 3 < 8) = true from hcan, zBd_r he2, zBd_r he4, zBd_r ekd8, zBd_r eo8, zBd_r he46, zBd_l h9e] <;> rfl, h9p.tr (fun j9 h9 => ((((f48 j9 (by omega)).trans (f46 j9 (by omega))).trans (f8 j9 (by omega))).trans (f4 j9 (by omega))).trans (f2 j9 (by omega)))⟩) (gPe.ki (fun a54 g54 he54 h54 => ?_))
      have hin54 := zAf_in he54
      obtain ⟨M54, N54, hM54, hN54, hT54, f54⟩ := h54
      have hT54_o := hT54
      obtain ⟨⟨hT54_F, hT54_a, hT54_0, hT54_1, hT54_2, hT54_3, hT54_4, hT54_5, hT54_6, hT54_7, hT54_8, hT54_9⟩, hT54_s, ⟨hT54_G, hT54_b⟩, ⟨hT54_l, hT54_c⟩, hT54_t, hT54_z⟩ := hT54_o
      have hT54_t_o := hT54_t
      obtain ⟨hT54_t_f, hT54_t_a, hT54_t_b⟩ := hT54_t_o
      have hok54 : zOk n a54.2 := zAf_ok hok46 he54
      have hok54_o := hok54
      obtain ⟨hok54_1, hok54_2, hok54_3, hok54_4, hok54_5⟩ := hok54_o
      have x55 := (f54 (bb + 40 + B 0 3) (by omega)).trans (h48)
      refine g_putf E gciX22 (v := .int (nI (a54.1))) dX2_good_63 x55 2 rfl (by decide) q975 (.inl rfl) rfl (fun _ => rfl) (fun _ => rfl) rfl (g_upk (fun g56 h56 f56 => ?_))
      refine g_aload_n E dX2_good_66 rfl rfl rfl ?_
      refine g_aload_n E dX2_good_67 rfl rfl rfl ?_
      refine g_ldcwS E (j := 28) (tx := "worth") rfl dX2_good_68 rfl ?_
      refine g_iconst E (v := 0) dX2_good_71 (by decide) rfl ?_
      refine g_bipush E (v := 99) dX2_good_72 (by decide) rfl ?_
      have x57 := (f56 (1002) (by omega)).trans (hT54_a)
      have x59 := (f56 (1003) (by omega)).trans (hT54_b)
      have x60 := (f56 (1004) (by omega)).trans (hT54_c)
      have y61 := (hT54_t.fr  (fun j9 a9 b9 => f56 j9 (by omega)))
      have hT58 : pTk g56 n bb a54.2 M54 N54 T := ⟨⟨_, x57, hT54_0, hT54_1, hT54_2, hT54_3, hT54_4, hT54_5, hT54_6, hT54_7, hT54_8, hT54_9⟩, (fun h8 => ⟨(hT54_s h8).1.fr (fun j9 a9 b9 => f56 j9 (by omega)), (hT54_s h8).2⟩), ⟨_, x59⟩, ⟨_, x60⟩, y61, fun j9 a9 => (f56 j9 (by omega)).trans (hT54_z j9 (by omega))⟩
      refine g_callVX (k := 1002) (n9 := 3) (av := [.ref (1 + 2 * 28), .int 0, .int 99]) (st := [.ref (bb + 40 + B 0 3)]) E Rx (ct_X2_after l 0 99 hT58 (by omega) hok54 (by omega) (by omega) (by omega) rfl (by omega) (by omega)) gciX2 dX2_good_74 x57 q799 q801 qs9 q121 q802 (by decide +kernel) rfl rfl ⟨by decide, by decide⟩ ⟨by decide, by decide⟩ (Nat.le_of_ble_eq_true rfl) rfl (fun g9 ⟨e9, h9e, h9p⟩ => ⟨e9, by unfold zLO; rw [show decide (B 0 3 < 8) = true from hcan, zBd_r he2, zBd_r he4, zBd_r ekd8, zBd_r eo8, zBd_r he46, zBd_r he54, zBd_l h9e] <;> rfl, h9p.tr (fun j9 h9 => ((((((f56 j9 (by omega)).trans (f54 j9 (by omega))).trans (f48 j9 (by omega))).trans (f46 j9 (by omega))).trans (f8 j9 (by omega))).trans (f4 j9 (by omega))).trans (f2 j9 (by omega)))⟩) (gPe.ki (fun a62 g62 he62 h62 => ?_))
      have hin62 := zAf_in he62
      obtain ⟨M62, N62, hM62, hN62, hT62, f62⟩ := h62
      have hT62_o := hT62
      obtain ⟨⟨hT62_F, hT62_a, hT62_0, hT62_1, hT62_2, hT62_3, hT62_4, hT62_5, hT62_6, hT62_7, hT62_8, hT62_9⟩, hT62_s, ⟨hT62_G, hT62_b⟩, ⟨hT62_l, hT62_c⟩, hT62_t, hT62_z⟩ := hT62_o
      have hT62_t_o := hT62_t
      obtain ⟨hT62_t_f, hT62_t_a, hT62_t_b⟩ := hT62_t_o
      have hok62 : zOk n a62.2 := zAf_ok hok54 he62
      have hok62_o := hok62
      obtain ⟨hok62_1, hok62_2, hok62_3, hok62_4, hok62_5⟩ := hok62_o
      have x63 := (f62 (bb + 40 + B 0 3) (by omega)).trans (h56)
      refine g_putf E gciX22 (v := .int (nI (a62.1))) dX2_good_77 x63 3 rfl (by decide) q977 (.inl rfl) rfl (fun _ => rfl) (fun _ => rfl) rfl (g_upk (fun g64 h64 f64 => ?_))
      refine g_aload_n E dX2_good_80 rfl rfl rfl ?_
      have x65 := (f64 (1002) (by omega)).trans (hT62_a)
      refine g_getf E gciX2 dX2_good_81 x65 9 rfl (by decide) q255 (.inl rfl) (.ref bb) (hT62_9) rfl ?_
      have x66 := (f64 (bb) (by omega)).trans ((f62 (bb) (by omega)).trans ((f56 (bb) (by omega)).trans ((f54 (bb) (by omega)).trans ((f48 (bb) (by omega)).trans ((f46 (bb) (by omega)).trans ((f8 (bb) (by omega)).trans (x5)))))))
      refine g_getf E gciX14 dX2_good_84 x66 3 rfl (by decide) q543 (.inl rfl) (.ref (bb + 4)) (hQ_r_3) rfl ?_
      refine g_aload_n E dX2_good_87 rfl rfl rfl ?_
      refine g_getf E gciX2 dX2_good_88 x65 9 rfl (by decide) q255 (.inl rfl) (.ref bb) (hT62_9) rfl ?_
      refine g_getf E gciX14 dX2_good_91 x66 12 rfl (by decide) q573 (.inl rfl) (.int (nI (B 0 3))) (hQ_r_12) rfl ?_
      refine g_aload_n E dX2_good_94 rfl rfl rfl ?_
      have x67 := (f64 (bb + 4) (by omega)).trans ((f62 (bb + 4) (by omega)).trans ((f56 (bb + 4) (by omega)).trans ((f54 (bb + 4) (by omega)).trans ((f48 (bb + 4) (by omega)).trans ((f46 (bb + 4) (by omega)).trans ((f8 (bb + 4) (by omega)).trans ((f4 (bb + 4) (by omega)).trans ((f2 (bb + 4) (by omega)).trans (hQ_r_a4)))))))))
      refine g_aast E gciX22 (j := B 0 3) dX2_good_95 x67 (fun _ => rfl) h64 (.inr q2558) (rfl) (by omega) (by decide) rfl (g_upk (fun g68 h68 f68 => ?_))
      refine g_aload_n E dX2_good_96 rfl rfl rfl ?_
      have x69 := (f68 (1002) (by omega)).trans (x65)
      refine g_getf E gciX2 dX2_good_97 x69 9 rfl (by decide) q255 (.inl rfl) (.ref bb) (hT62_9) rfl ?_
      refine g_dup E dX2_good_100 rfl rfl ?_
      have x70 := (f68 (bb) (by omega)).trans (x66)
      refine g_getf E gciX14 dX2_good_101 x70 12 rfl (by decide) q573 (.inl rfl) (.int (nI (B 0 3))) (hQ_r_12) rfl ?_
      refine g_iconst E (v := 1) dX2_good_104 (by decide) rfl ?_
      refine g_iadd E dX2_good_105 rfl ?_
      refine g_as (y := nI (B 0 3 + 1)) ((nI_succ _).symm) ?_
      refine g_putf E gciX14 (v := .int (nI (B 0 3 + 1))) dX2_good_106 x70 12 rfl (by decide) q573 (.inl rfl) rfl (fun _ => rfl) (fun _ => rfl) rfl (g_upk (fun g71 h71 f71 => ?_))
      have x72 := (f71 (1002) (by omega)).trans (x69)
      have x74 := (f71 (1003) (by omega)).trans ((f68 (1003) (by omega)).trans ((f64 (1003) (by omega)).trans (hT62_b)))
      have x75 := (f71 (1004) (by omega)).trans ((f68 (1004) (by omega)).trans ((f64 (1004) (by omega)).trans (hT62_c)))
      have y76 := (((hT62_t.fr  (fun j9 a9 b9 => f64 j9 (by omega))).fr  (fun j9 a9 b9 => f68 j9 (by omega))).fr  (fun j9 a9 b9 => f71 j9 (by omega)))
      have hT73 : pTk g71 n bb a62.2 M62 N62 T := ⟨⟨_, x72, hT62_0, hT62_1, hT62_2, hT62_3, hT62_4, hT62_5, hT62_6, hT62_7, hT62_8, hT62_9⟩, (fun h8 => ⟨(hT62_s h8).1.fr (fun j9 a9 b9 => ((f71 j9 (by omega)).trans (f68 j9 (by omega))).trans (f64 j9 (by omega))), (hT62_s h8).2⟩), ⟨_, x74⟩, ⟨_, x75⟩, y76, fun j9 a9 => (f71 j9 (by omega)).trans ((f68 j9 (by omega)).trans ((f64 j9 (by omega)).trans (hT62_z j9 (by omega))))⟩
      have x77 := (f71 (bb + 4) (by omega)).trans (h68)
      have x78 := (f71 (bb + 40 + B 0 3) (by omega)).trans ((f68 (bb + 40 + B 0 3) (by omega)).trans (h64))
      have y79 := (((((((((hs4.fr  (fun j9 a9 b9 => f8 j9 (by omega))).fr  (fun j9 a9 b9 => f46 j9 (by omega))).fr  (fun j9 a9 b9 => f48 j9 (by omega))).fr  (fun j9 a9 b9 => f54 j9 (by omega))).fr  (fun j9 a9 b9 => f56 j9 (by omega))).fr  (fun j9 a9 b9 => f62 j9 (by omega))).fr  (fun j9 a9 b9 => f64 j9 (by omega))).fr  (fun j9 a9 b9 => f68 j9 (by omega))).fr  (fun j9 a9 b9 => f71 j9 (by omega)))
      exact (gRx_leave Rx E).elim (fun z9 h9z => h9z.2.2 _ _ _ _ _ _ (g_vret h9z.2.1 h9z.1 dX2_good_109 rfl (by decide) (by decide) (⟨(a62.2, bs (bs (bs (bs (bs (bs (bs B 12 (B 0 3) kd8.1) 14 (B 0 3) o8.1) 13 (B 0 3) o8.2.1) 15 (B 0 3) a46.1) 16 (B 0 3) a54.1) 17 (B 0 3) a62.1) 0 3 (B 0 3 + 1), ns Nm 3 (B 0 3) a4.1), by unfold zLO; rw [show decide (B 0 3 < 8) = true from hcan, zBd_r he2, zBd_r he4, zBd_r ekd8, zBd_r eo8, zBd_r he46, zBd_r he54, zBd_r he62] <;> rfl, rfl, M62, N62, by omega, by omega, hT73, pBq_O hw hx hQ hM (by omega) hc4 hkd8.2.2 ho8.2.2.1 ho8.2.2.2 hin46.2 hin54.2 hin62.2 (⟨_, h71, hQ_r_0, hQ_r_1, hQ_r_2, hQ_r_3, hQ_r_4, hQ_r_5, hQ_r_6, hQ_r_7, hQ_r_8, hQ_r_9, hQ_r_10, hQ_r_11, rfl, hQ_r_13, hQ_r_14, hQ_r_15, hQ_gb⟩) ⟨_, x77, raS hQ_r_b4⟩ ⟨(va_up (va_up (va_up F8 1 (.int (nI (a46.1)))) 2 (.int (nI (a54.1)))) 3 (.int (nI (a62.1)))), by rw [kd9]; exact x78, hF8_5, hF8_0, rfl, rfl, rfl, hF8_4, hF8_7⟩ y79 (by omega) (by omega) (fun j9 a9 b9 c0_ c1_ c2_ => ((((((((((f71 j9 (by omega)).trans (f68 j9 (by omega))).trans (f64 j9 (by omega))).trans (f62 j9 (by omega))).trans (f56 j9 (by omega))).trans (f54 j9 (by omega))).trans (f48 j9 (by omega))).trans (f46 j9 (by omega))).trans (f8 j9 (by omega))).trans (f4 j9 (by omega))).trans (f2 j9 (by omega))), pSl_O hw hS9 hc4 hkd8.2.2 ho8.2.2.1 ho8.2.2.2 hin46.2 hin54.2 hin62.2 (fun j9 a9 b9 c0_ c1_ c2_ => ((((((((((f71 j9 (by omega)).trans (f68 j9 (by omega))).trans (f64 j9 (by omega))).trans (f62 j9 (by omega))).trans (f56 j9 (by omega))).trans (f54 j9 (by omega))).trans (f48 j9 (by omega))).trans (f46 j9 (by omega))).trans (f8 j9 (by omega))).trans (f4 j9 (by omega))).trans (f2 j9 (by omega))), fun j9 h9 => ((((((((((f71 j9 (by omega)).trans (f68 j9 (by omega))).trans (f64 j9 (by omega))).trans (f62 j9 (by omega))).trans (f56 j9 (by omega))).trans (f54 j9 (by omega))).trans (f48 j9 (by omega))).trans (f46 j9 (by omega))).trans (f8 j9 (by omega))).trans (f4 j9 (by omega))).trans (f2 j9 (by omega))⟩)))
    · have x80 := hF8
      rw [kd9] at x80
      refine g_astore_n E dX2_good_36 rfl (by decide) rfl (lo1 := [some (.ref 1002), some (.ref (bb + 40 + B 0 3))]) rfl rfl ?_
      refine g_aload_n E dX2_good_37 rfl rfl rfl ?_
      refine g_aload_n E dX2_good_38 rfl rfl rfl ?_
      refine g_ldcwS E (j := 26) (tx := "age") rfl dX2_good_39 rfl ?_
      refine g_iconst E (v := 0) dX2_good_42 (by decide) rfl ?_
      refine g_sipush E (v := 300) dX2_good_43 (by decide) rfl ?_
      refine g_callVX (k := 1002) (n9 := 3) (av := [.ref (1 + 2 * 26), .int 0, .int 300]) (st := [.ref (bb + 40 + B 0 3)]) E Rx (ct_X2_after l 0 300 hT8 (by omega) hok8 (by omega) (by omega) (by omega) rfl (by omega) (by omega)) gciX2 dX2_good_46 hT8_a q799 q801 qs9 q121 q802 (by decide +kernel) rfl rfl ⟨by decide, by decide⟩ ⟨by decide, by decide⟩ (Nat.le_of_ble_eq_true rfl) rfl (fun g9 ⟨e9, h9e, h9p⟩ => ⟨e9, by unfold zLO; rw [show decide (B 0 3 < 8) = true from hcan, zBd_r he2, zBd_r he4, zBd_r ekd8, zBd_r eo8, zBd_l h9e] <;> rfl, h9p.tr (fun j9 h9 => ((f8 j9 (by omega)).trans (f4 j9 (by omega))).trans (f2 j9 (by omega)))⟩) (gPe.ki (fun a81 g81 he81 h81 => ?_))
      have hin81 := zAf_in he81
      obtain ⟨M81, N81, hM81, hN81, hT81, f81⟩ := h81
      have hT81_o := hT81
      obtain ⟨⟨hT81_F, hT81_a, hT81_0, hT81_1, hT81_2, hT81_3, hT81_4, hT81_5, hT81_6, hT81_7, hT81_8, hT81_9⟩, hT81_s, ⟨hT81_G, hT81_b⟩, ⟨hT81_l, hT81_c⟩, hT81_t, hT81_z⟩ := hT81_o
      have hT81_t_o := hT81_t
      obtain ⟨hT81_t_f, hT81_t_a, hT81_t_b⟩ := hT81_t_o
      have hok81 : zOk n a81.2 := zAf_ok hok8 he81
      have hok81_o := hok81
      obtain ⟨hok81_1, hok81_2, hok81_3, hok81_4, hok81_5⟩ := hok81_o
      have x82 := (f81 (bb + 40 + B 0 3) (by omega)).trans (x80)
      refine g_putf E gciX23 (v := .int (nI (a81.1))) dX2_good_49 x82 1 rfl (by decide) q970 (.inl rfl) rfl (fun _ => rfl) (fun _ => rfl) rfl (g_upk (fun g83 h83 f83 => ?_))
      refine g_aload_n E dX2_good_52 rfl rfl rfl ?_
      refine g_aload_n E dX2_good_53 rfl rfl rfl ?_
      refine g_ldcwS E (j := 27) (tx := "weighs") rfl dX2_good_54 rfl ?_
      refine g_iconst E (v := 1) dX2_good_57 (by decide) rfl ?_
      refine g_bipush E (v := 9) dX2_good_58 (by decide) rfl ?_
      have x84 := (f83 (1002) (by omega)).trans (hT81_a)
      have x86 := (f83 (1003) (by omega)).trans (hT81_b)
      have x87 := (f83 (1004) (by omega)).trans (hT81_c)
      have y88 := (hT81_t.fr  (fun j9 a9 b9 => f83 j9 (by omega)))
      have hT85 : pTk g83 n bb a81.2 M81 N81 T := ⟨⟨_, x84, hT81_0, hT81_1, hT81_2, hT81_3, hT81_4, hT81_5, hT81_6, hT81_7, hT81_8, hT81_9⟩, (fun h8 => ⟨(hT81_s h8).1.fr (fun j9 a9 b9 => f83 j9 (by omega)), (hT81_s h8).2⟩), ⟨_, x86⟩, ⟨_, x87⟩, y88, fun j9 a9 => (f83 j9 (by omega)).trans (hT81_z j9 (by omega))⟩
      refine g_callVX (k := 1002) (n9 := 3) (av := [.ref (1 + 2 * 27), .int 1, .int 9]) (st := [.ref (bb + 40 + B 0 3)]) E Rx (ct_X2_after l 1 9 hT85 (by omega) hok81 (by omega) (by omega) (by omega) rfl (by omega) (by omega)) gciX2 dX2_good_60 x84 q799 q801 qs9 q121 q802 (by decide +kernel) rfl rfl ⟨by decide, by decide⟩ ⟨by decide, by decide⟩ (Nat.le_of_ble_eq_true rfl) rfl (fun g9 ⟨e9, h9e, h9p⟩ => ⟨e9, by unfold zLO; rw [show decide (B 0 3 < 8) = true from hcan, zBd_r he2, zBd_r he4, zBd_r ekd8, zBd_r eo8, zBd_r he81, zBd_l h9e] <;> rfl, h9p.tr (fun j9 h9 => ((((f83 j9 (by omega)).trans (f81 j9 (by omega))).trans (f8 j9 (by omega))).trans (f4 j9 (by omega))).trans (f2 j9 (by omega)))⟩) (gPe.ki (fun a89 g89 he89 h89 => ?_))
      have hin89 := zAf_in he89
      obtain ⟨M89, N89, hM89, hN89, hT89, f89⟩ := h89
      have hT89_o := hT89
      obtain ⟨⟨hT89_F, hT89_a, hT89_0, hT89_1, hT89_2, hT89_3, hT89_4, hT89_5, hT89_6, hT89_7, hT89_8, hT89_9⟩, hT89_s, ⟨hT89_G, hT89_b⟩, ⟨hT89_l, hT89_c⟩, hT89_t, hT89_z⟩ := hT89_o
      have hT89_t_o := hT89_t
      obtain ⟨hT89_t_f, hT89_t_a, hT89_t_b⟩ := hT89_t_o
      have hok89 : zOk n a89.2 := zAf_ok hok81 he89
      have hok89_o := hok89
      obtain ⟨hok89_1, hok89_2, hok89_3, hok89_4, hok89_5⟩ := hok89_o
      have x90 := (f89 (bb + 40 + B 0 3) (by omega)).trans (h83)
      refine g_putf E gciX23 (v := .int (nI (a89.1))) dX2_good_63 x90 2 rfl (by decide) q975 (.inl rfl) rfl (fun _ => rfl) (fun _ => rfl) rfl (g_upk (fun g91 h91 f91 => ?_))
      refine g_aload_n E dX2_good_66 rfl rfl rfl ?_
      refine g_aload_n E dX2_good_67 rfl rfl rfl ?_
      refine g_ldcwS E (j := 28) (tx := "worth") rfl dX2_good_68 rfl ?_
      refine g_iconst E (v := 0) dX2_good_71 (by decide) rfl ?_
      refine g_bipush E (v := 99) dX2_good_72 (by decide) rfl ?_
      have x92 := (f91 (1002) (by omega)).trans (hT89_a)
      have x94 := (f91 (1003) (by omega)).trans (hT89_b)
      have x95 := (f91 (1004) (by omega)).trans (hT89_c)
      have y96 := (hT89_t.fr  (fun j9 a9 b9 => f91 j9 (by omega)))
      have hT93 : pTk g91 n bb a89.2 M89 N89 T := ⟨⟨_, x92, hT89_0, hT89_1, hT89_2, hT89_3, hT89_4, hT89_5, hT89_6, hT89_7, hT89_8, hT89_9⟩, (fun h8 => ⟨(hT89_s h8).1.fr (fun j9 a9 b9 => f91 j9 (by omega)), (hT89_s h8).2⟩), ⟨_, x94⟩, ⟨_, x95⟩, y96, fun j9 a9 => (f91 j9 (by omega)).trans (hT89_z j9 (by omega))⟩
      refine g_callVX (k := 1002) (n9 := 3) (av := [.ref (1 + 2 * 28), .int 0, .int 99]) (st := [.ref (bb + 40 + B 0 3)]) E Rx (ct_X2_after l 0 99 hT93 (by omega) hok89 (by omega) (by omega) (by omega) rfl (by omega) (by omega)) gciX2 dX2_good_74 x92 q799 q801 qs9 q121 q802 (by decide +kernel) rfl rfl ⟨by decide, by decide⟩ ⟨by decide, by decide⟩ (Nat.le_of_ble_eq_true rfl) rfl (fun g9 ⟨e9, h9e, h9p⟩ => ⟨e9, by unfold zLO; rw [show decide (B 0 3 < 8) = true from hcan, zBd_r he2, zBd_r he4, zBd_r ekd8, zBd_r eo8, zBd_r he81, zBd_r he89, zBd_l h9e] <;> rfl, h9p.tr (fun j9 h9 => ((((((f91 j9 (by omega)).trans (f89 j9 (by omega))).trans (f83 j9 (by omega))).trans (f81 j9 (by omega))).trans (f8 j9 (by omega))).trans (f4 j9 (by omega))).trans (f2 j9 (by omega)))⟩) (gPe.ki (fun a97 g97 he97 h97 => ?_))
      have hin97 := zAf_in he97
      obtain ⟨M97, N97, hM97, hN97, hT97, f97⟩ := h97
      have hT97_o := hT97
      obtain ⟨⟨hT97_F, hT97_a, hT97_0, hT97_1, hT97_2, hT97_3, hT97_4, hT97_5, hT97_6, hT97_7, hT97_8, hT97_9⟩, hT97_s, ⟨hT97_G, hT97_b⟩, ⟨hT97_l, hT97_c⟩, hT97_t, hT97_z⟩ := hT97_o
      have hT97_t_o := hT97_t
      obtain ⟨hT97_t_f, hT97_t_a, hT97_t_b⟩ := hT97_t_o
      have hok97 : zOk n a97.2 := zAf_ok hok89 he97
      have hok97_o := hok97
      obtain ⟨hok97_1, hok97_2, hok97_3, hok97_4, hok97_5⟩ := hok97_o
      have x98 := (f97 (bb + 40 + B 0 3) (by omega)).trans (h91)
      refine g_putf E gciX23 (v := .int (nI (a97.1))) dX2_good_77 x98 3 rfl (by decide) q977 (.inl rfl) rfl (fun _ => rfl) (fun _ => rfl) rfl (g_upk (fun g99 h99 f99 => ?_))
      refine g_aload_n E dX2_good_80 rfl rfl rfl ?_
      have x100 := (f99 (1002) (by omega)).trans (hT97_a)
      refine g_getf E gciX2 dX2_good_81 x100 9 rfl (by decide) q255 (.inl rfl) (.ref bb) (hT97_9) rfl ?_
      have x101 := (f99 (bb) (by omega)).trans ((f97 (bb) (by omega)).trans ((f91 (bb) (by omega)).trans ((f89 (bb) (by omega)).trans ((f83 (bb) (by omega)).trans ((f81 (bb) (by omega)).trans ((f8 (bb) (by omega)).trans (x5)))))))
      refine g_getf E gciX14 dX2_good_84 x101 3 rfl (by decide) q543 (.inl rfl) (.ref (bb + 4)) (hQ_r_3) rfl ?_
      refine g_aload_n E dX2_good_87 rfl rfl rfl ?_
      refine g_getf E gciX2 dX2_good_88 x100 9 rfl (by decide) q255 (.inl rfl) (.ref bb) (hT97_9) rfl ?_
      refine g_getf E gciX14 dX2_good_91 x101 12 rfl (by decide) q573 (.inl rfl) (.int (nI (B 0 3))) (hQ_r_12) rfl ?_
      refine g_aload_n E dX2_good_94 rfl rfl rfl ?_
      have x102 := (f99 (bb + 4) (by omega)).trans ((f97 (bb + 4) (by omega)).trans ((f91 (bb + 4) (by omega)).trans ((f89 (bb + 4) (by omega)).trans ((f83 (bb + 4) (by omega)).trans ((f81 (bb + 4) (by omega)).trans ((f8 (bb + 4) (by omega)).trans ((f4 (bb + 4) (by omega)).trans ((f2 (bb + 4) (by omega)).trans (hQ_r_a4)))))))))
      refine g_aast E gciX23 (j := B 0 3) dX2_good_95 x102 (fun _ => rfl) h99 (.inr q2559) (rfl) (by omega) (by decide) rfl (g_upk (fun g103 h103 f103 => ?_))
      refine g_aload_n E dX2_good_96 rfl rfl rfl ?_
      have x104 := (f103 (1002) (by omega)).trans (x100)
      refine g_getf E gciX2 dX2_good_97 x104 9 rfl (by decide) q255 (.inl rfl) (.ref bb) (hT97_9) rfl ?_
      refine g_dup E dX2_good_100 rfl rfl ?_
      have x105 := (f103 (bb) (by omega)).trans (x101)
      refine g_getf E gciX14 dX2_good_101 x105 12 rfl (by decide) q573 (.inl rfl) (.int (nI (B 0 3))) (hQ_r_12) rfl ?_
      refine g_iconst E (v := 1) dX2_good_104 (by decide) rfl ?_
      refine g_iadd E dX2_good_105 rfl ?_
      refine g_as (y := nI (B 0 3 + 1)) ((nI_succ _).symm) ?_
      refine g_putf E gciX14 (v := .int (nI (B 0 3 + 1))) dX2_good_106 x105 12 rfl (by decide) q573 (.inl rfl) rfl (fun _ => rfl) (fun _ => rfl) rfl (g_upk (fun g106 h106 f106 => ?_))
      have x107 := (f106 (1002) (by omega)).trans (x104)
      have x109 := (f106 (1003) (by omega)).trans ((f103 (1003) (by omega)).trans ((f99 (1003) (by omega)).trans (hT97_b)))
      have x110 := (f106 (1004) (by omega)).trans ((f103 (1004) (by omega)).trans ((f99 (1004) (by omega)).trans (hT97_c)))
      have y111 := (((hT97_t.fr  (fun j9 a9 b9 => f99 j9 (by omega))).fr  (fun j9 a9 b9 => f103 j9 (by omega))).fr  (fun j9 a9 b9 => f106 j9 (by omega)))
      have hT108 : pTk g106 n bb a97.2 M97 N97 T := ⟨⟨_, x107, hT97_0, hT97_1, hT97_2, hT97_3, hT97_4, hT97_5, hT97_6, hT97_7, hT97_8, hT97_9⟩, (fun h8 => ⟨(hT97_s h8).1.fr (fun j9 a9 b9 => ((f106 j9 (by omega)).trans (f103 j9 (by omega))).trans (f99 j9 (by omega))), (hT97_s h8).2⟩), ⟨_, x109⟩, ⟨_, x110⟩, y111, fun j9 a9 => (f106 j9 (by omega)).trans ((f103 j9 (by omega)).trans ((f99 j9 (by omega)).trans (hT97_z j9 (by omega))))⟩
      have x112 := (f106 (bb + 4) (by omega)).trans (h103)
      have x113 := (f106 (bb + 40 + B 0 3) (by omega)).trans ((f103 (bb + 40 + B 0 3) (by omega)).trans (h99))
      have y114 := (((((((((hs4.fr  (fun j9 a9 b9 => f8 j9 (by omega))).fr  (fun j9 a9 b9 => f81 j9 (by omega))).fr  (fun j9 a9 b9 => f83 j9 (by omega))).fr  (fun j9 a9 b9 => f89 j9 (by omega))).fr  (fun j9 a9 b9 => f91 j9 (by omega))).fr  (fun j9 a9 b9 => f97 j9 (by omega))).fr  (fun j9 a9 b9 => f99 j9 (by omega))).fr  (fun j9 a9 b9 => f103 j9 (by omega))).fr  (fun j9 a9 b9 => f106 j9 (by omega)))
      exact (gRx_leave Rx E).elim (fun z9 h9z => h9z.2.2 _ _ _ _ _ _ (g_vret h9z.2.1 h9z.1 dX2_good_109 rfl (by decide) (by decide) (⟨(a97.2, bs (bs (bs (bs (bs (bs (bs B 12 (B 0 3) kd8.1) 14 (B 0 3) o8.1) 13 (B 0 3) o8.2.1) 15 (B 0 3) a81.1) 16 (B 0 3) a89.1) 17 (B 0 3) a97.1) 0 3 (B 0 3 + 1), ns Nm 3 (B 0 3) a4.1), by unfold zLO; rw [show decide (B 0 3 < 8) = true from hcan, zBd_r he2, zBd_r he4, zBd_r ekd8, zBd_r eo8, zBd_r he81, zBd_r he89, zBd_r he97] <;> rfl, rfl, M97, N97, by omega, by omega, hT108, pBq_O hw hx hQ hM (by omega) hc4 hkd8.2.2 ho8.2.2.1 ho8.2.2.2 hin81.2 hin89.2 hin97.2 (⟨_, h106, hQ_r_0, hQ_r_1, hQ_r_2, hQ_r_3, hQ_r_4, hQ_r_5, hQ_r_6, hQ_r_7, hQ_r_8, hQ_r_9, hQ_r_10, hQ_r_11, rfl, hQ_r_13, hQ_r_14, hQ_r_15, hQ_gb⟩) ⟨_, x112, raS hQ_r_b4⟩ ⟨(va_up (va_up (va_up F8 1 (.int (nI (a81.1)))) 2 (.int (nI (a89.1)))) 3 (.int (nI (a97.1)))), by rw [kd9]; exact x113, hF8_5, hF8_0, rfl, rfl, rfl, hF8_4, hF8_7⟩ y114 (by omega) (by omega) (fun j9 a9 b9 c0_ c1_ c2_ => ((((((((((f106 j9 (by omega)).trans (f103 j9 (by omega))).trans (f99 j9 (by omega))).trans (f97 j9 (by omega))).trans (f91 j9 (by omega))).trans (f89 j9 (by omega))).trans (f83 j9 (by omega))).trans (f81 j9 (by omega))).trans (f8 j9 (by omega))).trans (f4 j9 (by omega))).trans (f2 j9 (by omega))), pSl_O hw hS9 hc4 hkd8.2.2 ho8.2.2.1 ho8.2.2.2 hin81.2 hin89.2 hin97.2 (fun j9 a9 b9 c0_ c1_ c2_ => ((((((((((f106 j9 (by omega)).trans (f103 j9 (by omega))).trans (f99 j9 (by omega))).trans (f97 j9 (by omega))).trans (f91 j9 (by omega))).trans (f89 j9 (by omega))).trans (f83 j9 (by omega))).trans (f81 j9 (by omega))).trans (f8 j9 (by omega))).trans (f4 j9 (by omega))).trans (f2 j9 (by omega))), fun j9 h9 => ((((((((((f106 j9 (by omega)).trans (f103 j9 (by omega))).trans (f99 j9 (by omega))).trans (f97 j9 (by omega))).trans (f91 j9 (by omega))).trans (f89 j9 (by omega))).trans (f83 j9 (by omega))).trans (f81 j9 (by omega))).trans (f8 j9 (by omega))).trans (f4 j9 (by omega))).trans (f2 j9 (by omega))⟩)))
    · have x115 := hF8
      rw [kd9] at x115
      refine g_astore_n E dX2_good_36 rfl (by decide) rfl (lo1 := [some (.ref 1002), some (.ref (bb + 40 + B 0 3))]) rfl rfl ?_
      refine g_aload_n E dX2_good_37 rfl rfl rfl ?_
      refine g_aload_n E dX2_good_38 rfl rfl rfl ?_
      refine g_ldcwS E (j := 26) (tx := "age") rfl dX2_good_39 rfl ?_
      refine g_iconst E (v := 0) dX2_good_42 (by decide) rfl ?_
      refine g_sipush E (v := 300) dX2_good_43 (by decide) rfl ?_
      refine g_callVX (k := 1002) (n9 := 3) (av := [.ref (1 + 2 * 26), .int 0, .int 300]) (st := [.ref (bb + 40 + B 0 3)]) E Rx (ct_X2_after l 0 300 hT8 (by omega) hok8 (by omega) (by omega) (by omega) rfl (by omega) (by omega)) gciX2 dX2_good_46 hT8_a q799 q801 qs9 q121 q802 (by decide +kernel) rfl rfl ⟨by decide, by decide⟩ ⟨by decide, by decide⟩ (Nat.le_of_ble_eq_true rfl) rfl (fun g9 ⟨e9, h9e, h9p⟩ => ⟨e9, by unfold zLO; rw [show decide (B 0 3 < 8) = true from hcan, zBd_r he2, zBd_r he4, zBd_r ekd8, zBd_r eo8, zBd_l h9e] <;> rfl, h9p.tr (fun j9 h9 => ((f8 j9 (by omega)).trans (f4 j9 (by omega))).trans (f2 j9 (by omega)))⟩) (gPe.ki (fun a116 g116 he116 h116 => ?_))
      have hin116 := zAf_in he116
      obtain ⟨M116, N116, hM116, hN116, hT116, f116⟩ := h116
      have hT116_o := hT116
      obtain ⟨⟨hT116_F, hT116_a, hT116_0, hT116_1, hT116_2, hT116_3, hT116_4, hT116_5, hT116_6, hT116_7, hT116_8, hT116_9⟩, hT116_s, ⟨hT116_G, hT116_b⟩, ⟨hT116_l, hT116_c⟩, hT116_t, hT116_z⟩ := hT116_o
      have hT116_t_o := hT116_t
      obtain ⟨hT116_t_f, hT116_t_a, hT116_t_b⟩ := hT116_t_o
      have hok116 : zOk n a116.2 := zAf_ok hok8 he116
      have hok116_o := hok116
      obtain ⟨hok116_1, hok116_2, hok116_3, hok116_4, hok116_5⟩ := hok116_o
      have x117 := (f116 (bb + 40 + B 0 3) (by omega)).trans (x115)
      refine g_putf E gciX24 (v := .int (nI (a116.1))) dX2_good_49 x117 1 rfl (by decide) q970 (.inl rfl) rfl (fun _ => rfl) (fun _ => rfl) rfl (g_upk (fun g118 h118 f118 => ?_))
      refine g_aload_n E dX2_good_52 rfl rfl rfl ?_
      refine g_aload_n E dX2_good_53 rfl rfl rfl ?_
      refine g_ldcwS E (j := 27) (tx := "weighs") rfl dX2_good_54 rfl ?_
      refine g_iconst E (v := 1) dX2_good_57 (by decide) rfl ?_
      refine g_bipush E (v := 9) dX2_good_58 (by decide) rfl ?_
      have x119 := (f118 (1002) (by omega)).trans (hT116_a)
      have x121 := (f118 (1003) (by omega)).trans (hT116_b)
      have x122 := (f118 (1004) (by omega)).trans (hT116_c)
      have y123 := (hT116_t.fr  (fun j9 a9 b9 => f118 j9 (by omega)))
      have hT120 : pTk g118 n bb a116.2 M116 N116 T := ⟨⟨_, x119, hT116_0, hT116_1, hT116_2, hT116_3, hT116_4, hT116_5, hT116_6, hT116_7, hT116_8, hT116_9⟩, (fun h8 => ⟨(hT116_s h8).1.fr (fun j9 a9 b9 => f118 j9 (by omega)), (hT116_s h8).2⟩), ⟨_, x121⟩, ⟨_, x122⟩, y123, fun j9 a9 => (f118 j9 (by omega)).trans (hT116_z j9 (by omega))⟩
      refine g_callVX (k := 1002) (n9 := 3) (av := [.ref (1 + 2 * 27), .int 1, .int 9]) (st := [.ref (bb + 40 + B 0 3)]) E Rx (ct_X2_after l 1 9 hT120 (by omega) hok116 (by omega) (by omega) (by omega) rfl (by omega) (by omega)) gciX2 dX2_good_60 x119 q799 q801 qs9 q121 q802 (by decide +kernel) rfl rfl ⟨by decide, by decide⟩ ⟨by decide, by decide⟩ (Nat.le_of_ble_eq_true rfl) rfl (fun g9 ⟨e9, h9e, h9p⟩ => ⟨e9, by unfold zLO; rw [show decide (B 0 3 < 8) = true from hcan, zBd_r he2, zBd_r he4, zBd_r ekd8, zBd_r eo8, zBd_r he116, zBd_l h9e] <;> rfl, h9p.tr (fun j9 h9 => ((((f118 j9 (by omega)).trans (f116 j9 (by omega))).trans (f8 j9 (by omega))).trans (f4 j9 (by omega))).trans (f2 j9 (by omega)))⟩) (gPe.ki (fun a124 g124 he124 h124 => ?_))
      have hin124 := zAf_in he124
      obtain ⟨M124, N124, hM124, hN124, hT124, f124⟩ := h124
      have hT124_o := hT124
      obtain ⟨⟨hT124_F, hT124_a, hT124_0, hT124_1, hT124_2, hT124_3, hT124_4, hT124_5, hT124_6, hT124_7, hT124_8, hT124_9⟩, hT124_s, ⟨hT124_G, hT124_b⟩, ⟨hT124_l, hT124_c⟩, hT124_t, hT124_z⟩ := hT124_o
      have hT124_t_o := hT124_t
      obtain ⟨hT124_t_f, hT124_t_a, hT124_t_b⟩ := hT124_t_o
      have hok124 : zOk n a124.2 := zAf_ok hok116 he124
      have hok124_o := hok124
      obtain ⟨hok124_1, hok124_2, hok124_3, hok124_4, hok124_5⟩ := hok124_o
      have x125 := (f124 (bb + 40 + B 0 3) (by omega)).trans (h118)
      refine g_putf E gciX24 (v := .int (nI (a124.1))) dX2_good_63 x125 2 rfl (by decide) q975 (.inl rfl) rfl (fun _ => rfl) (fun _ => rfl) rfl (g_upk (fun g126 h126 f126 => ?_))
      refine g_aload_n E dX2_good_66 rfl rfl rfl ?_
      refine g_aload_n E dX2_good_67 rfl rfl rfl ?_
      refine g_ldcwS E (j := 28) (tx := "worth") rfl dX2_good_68 rfl ?_
      refine g_iconst E (v := 0) dX2_good_71 (by decide) rfl ?_
      refine g_bipush E (v := 99) dX2_good_72 (by decide) rfl ?_
      have x127 := (f126 (1002) (by omega)).trans (hT124_a)
      have x129 := (f126 (1003) (by omega)).trans (hT124_b)
      have x130 := (f126 (1004) (by omega)).trans (hT124_c)
      have y131 := (hT124_t.fr  (fun j9 a9 b9 => f126 j9 (by omega)))
      have hT128 : pTk g126 n bb a124.2 M124 N124 T := ⟨⟨_, x127, hT124_0, hT124_1, hT124_2, hT124_3, hT124_4, hT124_5, hT124_6, hT124_7, hT124_8, hT124_9⟩, (fun h8 => ⟨(hT124_s h8).1.fr (fun j9 a9 b9 => f126 j9 (by omega)), (hT124_s h8).2⟩), ⟨_, x129⟩, ⟨_, x130⟩, y131, fun j9 a9 => (f126 j9 (by omega)).trans (hT124_z j9 (by omega))⟩
      refine g_callVX (k := 1002) (n9 := 3) (av := [.ref (1 + 2 * 28), .int 0, .int 99]) (st := [.ref (bb + 40 + B 0 3)]) E Rx (ct_X2_after l 0 99 hT128 (by omega) hok124 (by omega) (by omega) (by omega) rfl (by omega) (by omega)) gciX2 dX2_good_74 x127 q799 q801 qs9 q121 q802 (by decide +kernel) rfl rfl ⟨by decide, by decide⟩ ⟨by decide, by decide⟩ (Nat.le_of_ble_eq_true rfl) rfl (fun g9 ⟨e9, h9e, h9p⟩ => ⟨e9, by unfold zLO; rw [show decide (B 0 3 < 8) = true from hcan, zBd_r he2, zBd_r he4, zBd_r ekd8, zBd_r eo8, zBd_r he116, zBd_r he124, zBd_l h9e] <;> rfl, h9p.tr (fun j9 h9 => ((((((f126 j9 (by omega)).trans (f124 j9 (by omega))).trans (f118 j9 (by omega))).trans (f116 j9 (by omega))).trans (f8 j9 (by omega))).trans (f4 j9 (by omega))).trans (f2 j9 (by omega)))⟩) (gPe.ki (fun a132 g132 he132 h132 => ?_))
      have hin132 := zAf_in he132
      obtain ⟨M132, N132, hM132, hN132, hT132, f132⟩ := h132
      have hT132_o := hT132
      obtain ⟨⟨hT132_F, hT132_a, hT132_0, hT132_1, hT132_2, hT132_3, hT132_4, hT132_5, hT132_6, hT132_7, hT132_8, hT132_9⟩, hT132_s, ⟨hT132_G, hT132_b⟩, ⟨hT132_l, hT132_c⟩, hT132_t, hT132_z⟩ := hT132_o
      have hT132_t_o := hT132_t
      obtain ⟨hT132_t_f, hT132_t_a, hT132_t_b⟩ := hT132_t_o
      have hok132 : zOk n a132.2 := zAf_ok hok124 he132
      have hok132_o := hok132
      obtain ⟨hok132_1, hok132_2, hok132_3, hok132_4, hok132_5⟩ := hok132_o
      have x133 := (f132 (bb + 40 + B 0 3) (by omega)).trans (h126)
      refine g_putf E gciX24 (v := .int (nI (a132.1))) dX2_good_77 x133 3 rfl (by decide) q977 (.inl rfl) rfl (fun _ => rfl) (fun _ => rfl) rfl (g_upk (fun g134 h134 f134 => ?_))
      refine g_aload_n E dX2_good_80 rfl rfl rfl ?_
      have x135 := (f134 (1002) (by omega)).trans (hT132_a)
      refine g_getf E gciX2 dX2_good_81 x135 9 rfl (by decide) q255 (.inl rfl) (.ref bb) (hT132_9) rfl ?_
      have x136 := (f134 (bb) (by omega)).trans ((f132 (bb) (by omega)).trans ((f126 (bb) (by omega)).trans ((f124 (bb) (by omega)).trans ((f118 (bb) (by omega)).trans ((f116 (bb) (by omega)).trans ((f8 (bb) (by omega)).trans (x5)))))))
      refine g_getf E gciX14 dX2_good_84 x136 3 rfl (by decide) q543 (.inl rfl) (.ref (bb + 4)) (hQ_r_3) rfl ?_
      refine g_aload_n E dX2_good_87 rfl rfl rfl ?_
      refine g_getf E gciX2 dX2_good_88 x135 9 rfl (by decide) q255 (.inl rfl) (.ref bb) (hT132_9) rfl ?_
      refine g_getf E gciX14 dX2_good_91 x136 12 rfl (by decide) q573 (.inl rfl) (.int (nI (B 0 3))) (hQ_r_12) rfl ?_
      refine g_aload_n E dX2_good_94 rfl rfl rfl ?_
      have x137 := (f134 (bb + 4) (by omega)).trans ((f132 (bb + 4) (by omega)).trans ((f126 (bb + 4) (by omega)).trans ((f124 (bb + 4) (by omega)).trans ((f118 (bb + 4) (by omega)).trans ((f116 (bb + 4) (by omega)).trans ((f8 (bb + 4) (by omega)).trans ((f4 (bb + 4) (by omega)).trans ((f2 (bb + 4) (by omega)).trans (hQ_r_a4)))))))))
      refine g_aast E gciX24 (j := B 0 3) dX2_good_95 x137 (fun _ => rfl) h134 (.inr q2557) (rfl) (by omega) (by decide) rfl (g_upk (fun g138 h138 f138 => ?_))
      refine g_aload_n E dX2_good_96 rfl rfl rfl ?_
      have x139 := (f138 (1002) (by omega)).trans (x135)
      refine g_getf E gciX2 dX2_good_97 x139 9 rfl (by decide) q255 (.inl rfl) (.ref bb) (hT132_9) rfl ?_
      refine g_dup E dX2_good_100 rfl rfl ?_
      have x140 := (f138 (bb) (by omega)).trans (x136)
      refine g_getf E gciX14 dX2_good_101 x140 12 rfl (by decide) q573 (.inl rfl) (.int (nI (B 0 3))) (hQ_r_12) rfl ?_
      refine g_iconst E (v := 1) dX2_good_104 (by decide) rfl ?_
      refine g_iadd E dX2_good_105 rfl ?_
      refine g_as (y := nI (B 0 3 + 1)) ((nI_succ _).symm) ?_
      refine g_putf E gciX14 (v := .int (nI (B 0 3 + 1))) dX2_good_106 x140 12 rfl (by decide) q573 (.inl rfl) rfl (fun _ => rfl) (fun _ => rfl) rfl (g_upk (fun g141 h141 f141 => ?_))
      have x142 := (f141 (1002) (by omega)).trans (x139)
      have x144 := (f141 (1003) (by omega)).trans ((f138 (1003) (by omega)).trans ((f134 (1003) (by omega)).trans (hT132_b)))
      have x145 := (f141 (1004) (by omega)).trans ((f138 (1004) (by omega)).trans ((f134 (1004) (by omega)).trans (hT132_c)))
      have y146 := (((hT132_t.fr  (fun j9 a9 b9 => f134 j9 (by omega))).fr  (fun j9 a9 b9 => f138 j9 (by omega))).fr  (fun j9 a9 b9 => f141 j9 (by omega)))
      have hT143 : pTk g141 n bb a132.2 M132 N132 T := ⟨⟨_, x142, hT132_0, hT132_1, hT132_2, hT132_3, hT132_4, hT132_5, hT132_6, hT132_7, hT132_8, hT132_9⟩, (fun h8 => ⟨(hT132_s h8).1.fr (fun j9 a9 b9 => ((f141 j9 (by omega)).trans (f138 j9 (by omega))).trans (f134 j9 (by omega))), (hT132_s h8).2⟩), ⟨_, x144⟩, ⟨_, x145⟩, y146, fun j9 a9 => (f141 j9 (by omega)).trans ((f138 j9 (by omega)).trans ((f134 j9 (by omega)).trans (hT132_z j9 (by omega))))⟩
      have x147 := (f141 (bb + 4) (by omega)).trans (h138)
      have x148 := (f141 (bb + 40 + B 0 3) (by omega)).trans ((f138 (bb + 40 + B 0 3) (by omega)).trans (h134))
      have y149 := (((((((((hs4.fr  (fun j9 a9 b9 => f8 j9 (by omega))).fr  (fun j9 a9 b9 => f116 j9 (by omega))).fr  (fun j9 a9 b9 => f118 j9 (by omega))).fr  (fun j9 a9 b9 => f124 j9 (by omega))).fr  (fun j9 a9 b9 => f126 j9 (by omega))).fr  (fun j9 a9 b9 => f132 j9 (by omega))).fr  (fun j9 a9 b9 => f134 j9 (by omega))).fr  (fun j9 a9 b9 => f138 j9 (by omega))).fr  (fun j9 a9 b9 => f141 j9 (by omega)))
      exact (gRx_leave Rx E).elim (fun z9 h9z => h9z.2.2 _ _ _ _ _ _ (g_vret h9z.2.1 h9z.1 dX2_good_109 rfl (by decide) (by decide) (⟨(a132.2, bs (bs (bs (bs (bs (bs (bs B 12 (B 0 3) kd8.1) 14 (B 0 3) o8.1) 13 (B 0 3) o8.2.1) 15 (B 0 3) a116.1) 16 (B 0 3) a124.1) 17 (B 0 3) a132.1) 0 3 (B 0 3 + 1), ns Nm 3 (B 0 3) a4.1), by unfold zLO; rw [show decide (B 0 3 < 8) = true from hcan, zBd_r he2, zBd_r he4, zBd_r ekd8, zBd_r eo8, zBd_r he116, zBd_r he124, zBd_r he132] <;> rfl, rfl, M132, N132, by omega, by omega, hT143, pBq_O hw hx hQ hM (by omega) hc4 hkd8.2.2 ho8.2.2.1 ho8.2.2.2 hin116.2 hin124.2 hin132.2 (⟨_, h141, hQ_r_0, hQ_r_1, hQ_r_2, hQ_r_3, hQ_r_4, hQ_r_5, hQ_r_6, hQ_r_7, hQ_r_8, hQ_r_9, hQ_r_10, hQ_r_11, rfl, hQ_r_13, hQ_r_14, hQ_r_15, hQ_gb⟩) ⟨_, x147, raS hQ_r_b4⟩ ⟨(va_up (va_up (va_up F8 1 (.int (nI (a116.1)))) 2 (.int (nI (a124.1)))) 3 (.int (nI (a132.1)))), by rw [kd9]; exact x148, hF8_5, hF8_0, rfl, rfl, rfl, hF8_4, hF8_7⟩ y149 (by omega) (by omega) (fun j9 a9 b9 c0_ c1_ c2_ => ((((((((((f141 j9 (by omega)).trans (f138 j9 (by omega))).trans (f134 j9 (by omega))).trans (f132 j9 (by omega))).trans (f126 j9 (by omega))).trans (f124 j9 (by omega))).trans (f118 j9 (by omega))).trans (f116 j9 (by omega))).trans (f8 j9 (by omega))).trans (f4 j9 (by omega))).trans (f2 j9 (by omega))), pSl_O hw hS9 hc4 hkd8.2.2 ho8.2.2.1 ho8.2.2.2 hin116.2 hin124.2 hin132.2 (fun j9 a9 b9 c0_ c1_ c2_ => ((((((((((f141 j9 (by omega)).trans (f138 j9 (by omega))).trans (f134 j9 (by omega))).trans (f132 j9 (by omega))).trans (f126 j9 (by omega))).trans (f124 j9 (by omega))).trans (f118 j9 (by omega))).trans (f116 j9 (by omega))).trans (f8 j9 (by omega))).trans (f4 j9 (by omega))).trans (f2 j9 (by omega))), fun j9 h9 => ((((((((((f141 j9 (by omega)).trans (f138 j9 (by omega))).trans (f134 j9 (by omega))).trans (f132 j9 (by omega))).trans (f126 j9 (by omega))).trans (f124 j9 (by omega))).trans (f118 j9 (by omega))).trans (f116 j9 (by omega))).trans (f8 j9 (by omega))).trans (f4 j9 (by omega))).trans (f2 j9 (by omega))⟩)))
    · have x150 := hF8
      rw [kd9] at x150
      refine g_astore_n E dX2_good_36 rfl (by decide) rfl (lo1 := [some (.ref 1002), some (.ref (bb + 40 + B 0 3))]) rfl rfl ?_
      refine g_aload_n E dX2_good_37 rfl rfl rfl ?_
      refine g_aload_n E dX2_good_38 rfl rfl rfl ?_
      refine g_ldcwS E (j := 26) (tx := "age") rfl dX2_good_39 rfl ?_
      refine g_iconst E (v := 0) dX2_good_42 (by decide) rfl ?_
      refine g_sipush E (v := 300) dX2_good_43 (by decide) rfl ?_
      refine g_callVX (k := 1002) (n9 := 3) (av := [.ref (1 + 2 * 26), .int 0, .int 300]) (st := [.ref (bb + 40 + B 0 3)]) E Rx (ct_X2_after l 0 300 hT8 (by omega) hok8 (by omega) (by omega) (by omega) rfl (by omega) (by omega)) gciX2 dX2_good_46 hT8_a q799 q801 qs9 q121 q802 (by decide +kernel) rfl rfl ⟨by decide, by decide⟩ ⟨by decide, by decide⟩ (Nat.le_of_ble_eq_true rfl) rfl (fun g9 ⟨e9, h9e, h9p⟩ => ⟨e9, by unfold zLO; rw [show decide (B 0 3 < 8) = true from hcan, zBd_r he2, zBd_r he4, zBd_r ekd8, zBd_r eo8, zBd_l h9e] <;> rfl, h9p.tr (fun j9 h9 => ((f8 j9 (by omega)).trans (f4 j9 (by omega))).trans (f2 j9 (by omega)))⟩) (gPe.ki (fun a151 g151 he151 h151 => ?_))
      have hin151 := zAf_in he151
      obtain ⟨M151, N151, hM151, hN151, hT151, f151⟩ := h151
      have hT151_o := hT151
      obtain ⟨⟨hT151_F, hT151_a, hT151_0, hT151_1, hT151_2, hT151_3, hT151_4, hT151_5, hT151_6, hT151_7, hT151_8, hT151_9⟩, hT151_s, ⟨hT151_G, hT151_b⟩, ⟨hT151_l, hT151_c⟩, hT151_t, hT151_z⟩ := hT151_o
      have hT151_t_o := hT151_t
      obtain ⟨hT151_t_f, hT151_t_a, hT151_t_b⟩ := hT151_t_o
      have hok151 : zOk n a151.2 := zAf_ok hok8 he151
      have hok151_o := hok151
      obtain ⟨hok151_1, hok151_2, hok151_3, hok151_4, hok151_5⟩ := hok151_o
      have x152 := (f151 (bb + 40 + B 0 3) (by omega)).trans (x150)
      refine g_putf E gciX25 (v := .int (nI (a151.1))) dX2_good_49 x152 1 rfl (by decide) q970 (.inl rfl) rfl (fun _ => rfl) (fun _ => rfl) rfl (g_upk (fun g153 h153 f153 => ?_))
      refine g_aload_n E dX2_good_52 rfl rfl rfl ?_
      refine g_aload_n E dX2_good_53 rfl rfl rfl ?_
      refine g_ldcwS E (j := 27) (tx := "weighs") rfl dX2_good_54 rfl ?_
      refine g_iconst E (v := 1) dX2_good_57 (by decide) rfl ?_
      refine g_bipush E (v := 9) dX2_good_58 (by decide) rfl ?_
      have x154 := (f153 (1002) (by omega)).trans (hT151_a)
      have x156 := (f153 (1003) (by omega)).trans (hT151_b)
      have x157 := (f153 (1004) (by omega)).trans (hT151_c)
      have y158 := (hT151_t.fr  (fun j9 a9 b9 => f153 j9 (by omega)))
      have hT155 : pTk g153 n bb a151.2 M151 N151 T := ⟨⟨_, x154, hT151_0, hT151_1, hT151_2, hT151_3, hT151_4, hT151_5, hT151_6, hT151_7, hT151_8, hT151_9⟩, (fun h8 => ⟨(hT151_s h8).1.fr (fun j9 a9 b9 => f153 j9 (by omega)), (hT151_s h8).2⟩), ⟨_, x156⟩, ⟨_, x157⟩, y158, fun j9 a9 => (f153 j9 (by omega)).trans (hT151_z j9 (by omega))⟩
      refine g_callVX (k := 1002) (n9 := 3) (av := [.ref (1 + 2 * 27), .int 1, .int 9]) (st := [.ref (bb + 40 + B 0 3)]) E Rx (ct_X2_after l 1 9 hT155 (by omega) hok151 (by omega) (by omega) (by omega) rfl (by omega) (by omega)) gciX2 dX2_good_60 x154 q799 q801 qs9 q121 q802 (by decide +kernel) rfl rfl ⟨by decide, by decide⟩ ⟨by decide, by decide⟩ (Nat.le_of_ble_eq_true rfl) rfl (fun g9 ⟨e9, h9e, h9p⟩ => ⟨e9, by unfold zLO; rw [show decide (B 0 3 < 8) = true from hcan, zBd_r he2, zBd_r he4, zBd_r ekd8, zBd_r eo8, zBd_r he151, zBd_l h9e] <;> rfl, h9p.tr (fun j9 h9 => ((((f153 j9 (by omega)).trans (f151 j9 (by omega))).trans (f8 j9 (by omega))).trans (f4 j9 (by omega))).trans (f2 j9 (by omega)))⟩) (gPe.ki (fun a159 g159 he159 h159 => ?_))
      have hin159 := zAf_in he159
      obtain ⟨M159, N159, hM159, hN159, hT159, f159⟩ := h159
      have hT159_o := hT159
      obtain ⟨⟨hT159_F, hT159_a, hT159_0, hT159_1, hT159_2, hT159_3, hT159_4, hT159_5, hT159_6, hT159_7, hT159_8, hT159_9⟩, hT159_s, ⟨hT159_G, hT159_b⟩, ⟨hT159_l, hT159_c⟩, hT159_t, hT159_z⟩ := hT159_o
      have hT159_t_o := hT159_t
      obtain ⟨hT159_t_f, hT159_t_a, hT159_t_b⟩ := hT159_t_o
      have hok159 : zOk n a159.2 := zAf_ok hok151 he159
      have hok159_o := hok159
      obtain ⟨hok159_1, hok159_2, hok159_3, hok159_4, hok159_5⟩ := hok159_o
      have x160 := (f159 (bb + 40 + B 0 3) (by omega)).trans (h153)
      refine g_putf E gciX25 (v := .int (nI (a159.1))) dX2_good_63 x160 2 rfl (by decide) q975 (.inl rfl) rfl (fun _ => rfl) (fun _ => rfl) rfl (g_upk (fun g161 h161 f161 => ?_))
      refine g_aload_n E dX2_good_66 rfl rfl rfl ?_
      refine g_aload_n E dX2_good_67 rfl rfl rfl ?_
      refine g_ldcwS E (j := 28) (tx := "worth") rfl dX2_good_68 rfl ?_
      refine g_iconst E (v := 0) dX2_good_71 (by decide) rfl ?_
      refine g_bipush E (v := 99) dX2_good_72 (by decide) rfl ?_
      have x162 := (f161 (1002) (by omega)).trans (hT159_a)
      have x164 := (f161 (1003) (by omega)).trans (hT159_b)
      have x165 := (f161 (1004) (by omega)).trans (hT159_c)
      have y166 := (hT159_t.fr  (fun j9 a9 b9 => f161 j9 (by omega)))
      have hT163 : pTk g161 n bb a159.2 M159 N159 T := ⟨⟨_, x162, hT159_0, hT159_1, hT159_2, hT159_3, hT159_4, hT159_5, hT159_6, hT159_7, hT159_8, hT159_9⟩, (fun h8 => ⟨(hT159_s h8).1.fr (fun j9 a9 b9 => f161 j9 (by omega)), (hT159_s h8).2⟩), ⟨_, x164⟩, ⟨_, x165⟩, y166, fun j9 a9 => (f161 j9 (by omega)).trans (hT159_z j9 (by omega))⟩
      refine g_callVX (k := 1002) (n9 := 3) (av := [.ref (1 + 2 * 28), .int 0, .int 99]) (st := [.ref (bb + 40 + B 0 3)]) E Rx (ct_X2_after l 0 99 hT163 (by omega) hok159 (by omega) (by omega) (by omega) rfl (by omega) (by omega)) gciX2 dX2_good_74 x162 q799 q801 qs9 q121 q802 (by decide +kernel) rfl rfl ⟨by decide, by decide⟩ ⟨by decide, by decide⟩ (Nat.le_of_ble_eq_true rfl) rfl (fun g9 ⟨e9, h9e, h9p⟩ => ⟨e9, by unfold zLO; rw [show decide (B 0 3 < 8) = true from hcan, zBd_r he2, zBd_r he4, zBd_r ekd8, zBd_r eo8, zBd_r he151, zBd_r he159, zBd_l h9e] <;> rfl, h9p.tr (fun j9 h9 => ((((((f161 j9 (by omega)).trans (f159 j9 (by omega))).trans (f153 j9 (by omega))).trans (f151 j9 (by omega))).trans (f8 j9 (by omega))).trans (f4 j9 (by omega))).trans (f2 j9 (by omega)))⟩) (gPe.ki (fun a167 g167 he167 h167 => ?_))
      have hin167 := zAf_in he167
      obtain ⟨M167, N167, hM167, hN167, hT167, f167⟩ := h167
      have hT167_o := hT167
      obtain ⟨⟨hT167_F, hT167_a, hT167_0, hT167_1, hT167_2, hT167_3, hT167_4, hT167_5, hT167_6, hT167_7, hT167_8, hT167_9⟩, hT167_s, ⟨hT167_G, hT167_b⟩, ⟨hT167_l, hT167_c⟩, hT167_t, hT167_z⟩ := hT167_o
      have hT167_t_o := hT167_t
      obtain ⟨hT167_t_f, hT167_t_a, hT167_t_b⟩ := hT167_t_o
      have hok167 : zOk n a167.2 := zAf_ok hok159 he167
      have hok167_o := hok167
      obtain ⟨hok167_1, hok167_2, hok167_3, hok167_4, hok167_5⟩ := hok167_o
      have x168 := (f167 (bb + 40 + B 0 3) (by omega)).trans (h161)
      refine g_putf E gciX25 (v := .int (nI (a167.1))) dX2_good_77 x168 3 rfl (by decide) q977 (.inl rfl) rfl (fun _ => rfl) (fun _ => rfl) rfl (g_upk (fun g169 h169 f169 => ?_))
      refine g_aload_n E dX2_good_80 rfl rfl rfl ?_
      have x170 := (f169 (1002) (by omega)).trans (hT167_a)
      refine g_getf E gciX2 dX2_good_81 x170 9 rfl (by decide) q255 (.inl rfl) (.ref bb) (hT167_9) rfl ?_
      have x171 := (f169 (bb) (by omega)).trans ((f167 (bb) (by omega)).trans ((f161 (bb) (by omega)).trans ((f159 (bb) (by omega)).trans ((f153 (bb) (by omega)).trans ((f151 (bb) (by omega)).trans ((f8 (bb) (by omega)).trans (x5)))))))
      refine g_getf E gciX14 dX2_good_84 x171 3 rfl (by decide) q543 (.inl rfl) (.ref (bb + 4)) (hQ_r_3) rfl ?_
      refine g_aload_n E dX2_good_87 rfl rfl rfl ?_
      refine g_getf E gciX2 dX2_good_88 x170 9 rfl (by decide) q255 (.inl rfl) (.ref bb) (hT167_9) rfl ?_
      refine g_getf E gciX14 dX2_good_91 x171 12 rfl (by decide) q573 (.inl rfl) (.int (nI (B 0 3))) (hQ_r_12) rfl ?_
      refine g_aload_n E dX2_good_94 rfl rfl rfl ?_
      have x172 := (f169 (bb + 4) (by omega)).trans ((f167 (bb + 4) (by omega)).trans ((f161 (bb + 4) (by omega)).trans ((f159 (bb + 4) (by omega)).trans ((f153 (bb + 4) (by omega)).trans ((f151 (bb + 4) (by omega)).trans ((f8 (bb + 4) (by omega)).trans ((f4 (bb + 4) (by omega)).trans ((f2 (bb + 4) (by omega)).trans (hQ_r_a4)))))))))
      refine g_aast E gciX25 (j := B 0 3) dX2_good_95 x172 (fun _ => rfl) h169 (.inr q2556) (rfl) (by omega) (by decide) rfl (g_upk (fun g173 h173 f173 => ?_))
      refine g_aload_n E dX2_good_96 rfl rfl rfl ?_
      have x174 := (f173 (1002) (by omega)).trans (x170)
      refine g_getf E gciX2 dX2_good_97 x174 9 rfl (by decide) q255 (.inl rfl) (.ref bb) (hT167_9) rfl ?_
      refine g_dup E dX2_good_100 rfl rfl ?_
      have x175 := (f173 (bb) (by omega)).trans (x171)
      refine g_getf E gciX14 dX2_good_101 x175 12 rfl (by decide) q573 (.inl rfl) (.int (nI (B 0 3))) (hQ_r_12) rfl ?_
      refine g_iconst E (v := 1) dX2_good_104 (by decide) rfl ?_
      refine g_iadd E dX2_good_105 rfl ?_
      refine g_as (y := nI (B 0 3 + 1)) ((nI_succ _).symm) ?_
      refine g_putf E gciX14 (v := .int (nI (B 0 3 + 1))) dX2_good_106 x175 12 rfl (by decide) q573 (.inl rfl) rfl (fun _ => rfl) (fun _ => rfl) rfl (g_upk (fun g176 h176 f176 => ?_))
      have x177 := (f176 (1002) (by omega)).trans (x174)
      have x179 := (f176 (1003) (by omega)).trans ((f173 (1003) (by omega)).trans ((f169 (1003) (by omega)).trans (hT167_b)))
      have x180 := (f176 (1004) (by omega)).trans ((f173 (1004) (by omega)).trans ((f169 (1004) (by omega)).trans (hT167_c)))
      have y181 := (((hT167_t.fr  (fun j9 a9 b9 => f169 j9 (by omega))).fr  (fun j9 a9 b9 => f173 j9 (by omega))).fr  (fun j9 a9 b9 => f176 j9 (by omega)))
      have hT178 : pTk g176 n bb a167.2 M167 N167 T := ⟨⟨_, x177, hT167_0, hT167_1, hT167_2, hT167_3, hT167_4, hT167_5, hT167_6, hT167_7, hT167_8, hT167_9⟩, (fun h8 => ⟨(hT167_s h8).1.fr (fun j9 a9 b9 => ((f176 j9 (by omega)).trans (f173 j9 (by omega))).trans (f169 j9 (by omega))), (hT167_s h8).2⟩), ⟨_, x179⟩, ⟨_, x180⟩, y181, fun j9 a9 => (f176 j9 (by omega)).trans ((f173 j9 (by omega)).trans ((f169 j9 (by omega)).trans (hT167_z j9 (by omega))))⟩
      have x182 := (f176 (bb + 4) (by omega)).trans (h173)
      have x183 := (f176 (bb + 40 + B 0 3) (by omega)).trans ((f173 (bb + 40 + B 0 3) (by omega)).trans (h169))
      have y184 := (((((((((hs4.fr  (fun j9 a9 b9 => f8 j9 (by omega))).fr  (fun j9 a9 b9 => f151 j9 (by omega))).fr  (fun j9 a9 b9 => f153 j9 (by omega))).fr  (fun j9 a9 b9 => f159 j9 (by omega))).fr  (fun j9 a9 b9 => f161 j9 (by omega))).fr  (fun j9 a9 b9 => f167 j9 (by omega))).fr  (fun j9 a9 b9 => f169 j9 (by omega))).fr  (fun j9 a9 b9 => f173 j9 (by omega))).fr  (fun j9 a9 b9 => f176 j9 (by omega)))
      exact (gRx_leave Rx E).elim (fun z9 h9z => h9z.2.2 _ _ _ _ _ _ (g_vret h9z.2.1 h9z.1 dX2_good_109 rfl (by decide) (by decide) (⟨(a167.2, bs (bs (bs (bs (bs (bs (bs B 12 (B 0 3) kd8.1) 14 (B 0 3) o8.1) 13 (B 0 3) o8.2.1) 15 (B 0 3) a151.1) 16 (B 0 3) a159.1) 17 (B 0 3) a167.1) 0 3 (B 0 3 + 1), ns Nm 3 (B 0 3) a4.1), by unfold zLO; rw [show decide (B 0 3 < 8) = true from hcan, zBd_r he2, zBd_r he4, zBd_r ekd8, zBd_r eo8, zBd_r he151, zBd_r he159, zBd_r he167] <;> rfl, rfl, M167, N167, by omega, by omega, hT178, pBq_O hw hx hQ hM (by omega) hc4 hkd8.2.2 ho8.2.2.1 ho8.2.2.2 hin151.2 hin159.2 hin167.2 (⟨_, h176, hQ_r_0, hQ_r_1, hQ_r_2, hQ_r_3, hQ_r_4, hQ_r_5, hQ_r_6, hQ_r_7, hQ_r_8, hQ_r_9, hQ_r_10, hQ_r_11, rfl, hQ_r_13, hQ_r_14, hQ_r_15, hQ_gb⟩) ⟨_, x182, raS hQ_r_b4⟩ ⟨(va_up (va_up (va_up F8 1 (.int (nI (a151.1)))) 2 (.int (nI (a159.1)))) 3 (.int (nI (a167.1)))), by rw [kd9]; exact x183, hF8_5, hF8_0, rfl, rfl, rfl, hF8_4, hF8_7⟩ y184 (by omega) (by omega) (fun j9 a9 b9 c0_ c1_ c2_ => ((((((((((f176 j9 (by omega)).trans (f173 j9 (by omega))).trans (f169 j9 (by omega))).trans (f167 j9 (by omega))).trans (f161 j9 (by omega))).trans (f159 j9 (by omega))).trans (f153 j9 (by omega))).trans (f151 j9 (by omega))).trans (f8 j9 (by omega))).trans (f4 j9 (by omega))).trans (f2 j9 (by omega))), pSl_O hw hS9 hc4 hkd8.2.2 ho8.2.2.1 ho8.2.2.2 hin151.2 hin159.2 hin167.2 (fun j9 a9 b9 c0_ c1_ c2_ => ((((((((((f176 j9 (by omega)).trans (f173 j9 (by omega))).trans (f169 j9 (by omega))).trans (f167 j9 (by omega))).trans (f161 j9 (by omega))).trans (f159 j9 (by omega))).trans (f153 j9 (by omega))).trans (f151 j9 (by omega))).trans (f8 j9 (by omega))).trans (f4 j9 (by omega))).trans (f2 j9 (by omega))), fun j9 h9 => ((((((((((f176 j9 (by omega)).trans (f173 j9 (by omega))).trans (f169 j9 (by omega))).trans (f167 j9 (by omega))).trans (f161 j9 (by omega))).trans (f159 j9 (by omega))).trans (f153 j9 (by omega))).trans (f151 j9 (by omega))).trans (f8 j9 (by omega))).trans (f4 j9 (by omega))).trans (f2 j9 (by omega))⟩)))
