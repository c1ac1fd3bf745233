/-! THE PLAIN SIDE, eighteenth: what holds while a barrier is told -/
set_option maxRecDepth 100000
section
variable {T : Nat → Int32} {n : Nat}
theorem zTn_ge {en : Nat} (h : en ≤ n) : en ≤ (zTn T n en).1 := by
  have h1 := zEn_le (P := zSpc T n) h
  have h2 := zEn_le (P := zLtr T n) h1.2
  have h3 := zEn_le (P := zDgt T n) h1.2
  unfold zTn zTq
  split
  · exact h1.1
  · split
    · split <;> exact Nat.le_trans h1.1 h2.1
    · split
      · split <;> exact Nat.le_trans h1.1 h3.1
      · split <;> exact Nat.le_succ_of_le h1.1
theorem zTn_gt {en : Nat} (h : en ≤ n) (h2 : (zTn T n en).2.1 = 2) : en < (zTn T n en).1 := by
  have h1 := zEn_le (P := zSpc T n) h
  unfold zTn zTq at h2 ⊢
  split at h2
  · cases h2
  · rename_i h4
    rw [if_neg h4]
    split at h2
    · rename_i h5
      rw [if_pos h5]
      split at h2
      · cases h2
      · rename_i h6
        rw [if_neg h6]
        have h7 := zEn_t (P := zLtr T n) (zSee_lt h4) h5
        have h8 := zEn_le (P := zLtr T n) (n := n) (k := zEn (zSpc T n) n en + 1) (zSee_lt h4)
        show en < zEn (zLtr T n) n (zEn (zSpc T n) n en)
        omega
    · split at h2
      · split at h2 <;> cases h2
      · split at h2 <;> cases h2
theorem zMu_mv {w : List Int32} {t a : zTk} (h : zOk n t) (he : zMu T n w t = .inr a) : zOk n a ∧ t.1 ≤ a.1 := by
  refine ⟨zMu_ok h he, ?_⟩
  unfold zMu at he
  split at he
  · cases he; exact zTn_ge h.1
  · cases he
theorem zNu_mv {lo hi : Nat} {t : zTk} {a : Nat × zTk} (h : zOk n t) (he : zNu T n lo hi t = .inr a) : zOk n a.2 ∧ t.1 ≤ a.2.1 := by
  refine ⟨zNu_ok h he, ?_⟩
  unfold zNu at he
  split at he
  · split at he
    · cases he; exact zTn_ge h.1
    · cases he
  · cases he
theorem zAf_mv {w : List Int32} {lo hi : Nat} {t : zTk} {a : Nat × zTk} (h : zOk n t) (he : zAf T n w lo hi t = .inr a) : zOk n a.2 ∧ t.1 ≤ a.2.1 ∧ lo ≤ a.1 ∧ a.1 ≤ hi := by
  have h0 := zAf_in he
  unfold zAf at he
  obtain ⟨u, e1, e2⟩ := zBd_inr he
  have h1 := zMu_mv h e1
  have h2 := zNu_mv h1.1 e2
  exact ⟨h2.1, Nat.le_trans h1.2 h2.2, h0.1, h0.2⟩
variable {B : gBar} {Nm : zNm} {t : zTk}
theorem zKx_mv {s : Nat} {a : Nat × zTk} (h : zOk n t) (he : zKx T n s B Nm t = .inr a) : zOk n a.2 ∧ t.1 ≤ a.2.1 ∧ a.1 < B 0 s := by
  have h0 := zKx_ok h he
  unfold zKx at he
  obtain ⟨k, e1, e2⟩ := zBd_inr he
  have e2 := Sum.inr.inj e2
  subst e2
  exact ⟨h0.1, zTn_ge h.1, h0.2⟩
theorem zNw_mv {a : List Int32 × zTk} (h : zOk n t) (he : zNw T n B Nm t = .inr a) : zOk n a.2 ∧ t.1 ≤ a.2.1 ∧ zWo a.1 := by
  have h0 := zNw_ok h he
  refine ⟨h0.1, ?_, h0.2⟩
  unfold zNw at he
  obtain ⟨u, e1, e2⟩ := zBd_inr he
  revert e2
  cases zFind B Nm t.2.2.2.2 with
  | none => intro e2; have e2 := Sum.inr.inj e2; subst e2; exact zTn_ge h.1
  | some q => intro e2; cases e2
theorem zBg_mv {can : Bool} {a : zTk} (h : zOk n t) (he : zBg T n B can t = .inr a) : zOk n a ∧ t.1 ≤ a.1 ∧ can = true := by
  have h0 := zBg_ok h he
  refine ⟨h0.1, ?_, h0.2.1⟩
  unfold zBg at he
  split at he
  · split at he
    · cases he; exact zTn_ge h.1
    · cases he
  · cases he
theorem zKd_mv {a : Nat × zTk} (h : zOk n t) (he : zKd T n t = .inr a) : zOk n a.2 ∧ t.1 ≤ a.2.1 ∧ a.1 ≤ 4 := by
  have hn := zTn_ok (T := T) h.1
  have hg := zTn_ge (T := T) h.1
  unfold zKd at he
  split at he
  · cases he; exact ⟨hn, hg, Nat.le_of_ble_eq_true rfl⟩
  · split at he
    · cases he; exact ⟨hn, hg, Nat.le_of_ble_eq_true rfl⟩
    · split at he
      · cases he; exact ⟨hn, hg, Nat.le_of_ble_eq_true rfl⟩
      · split at he
        · cases he; exact ⟨hn, hg, Nat.le_of_ble_eq_true rfl⟩
        · obtain ⟨u, e1, e2⟩ := zBd_inr he
          have e2 := Sum.inr.inj e2
          subst e2
          have h1 := zMu_mv h e1
          exact ⟨h1.1, h1.2, Nat.le_of_ble_eq_true rfl⟩
theorem zOb_mv {kd : Nat} {a : Nat × Nat × zTk} (h : zOk n t) (he : zOb T n B Nm kd t = .inr a) : zOk n a.2.2 ∧ t.1 ≤ a.2.2.1 ∧ a.1 < B 0 1 ∧ (kd ≠ 0 → a.2.1 < B 0 0) := by
  unfold zOb at he
  obtain ⟨o, e1, he⟩ := zBd_inr he
  have h1 := zKx_mv h e1
  have he : (if kd = 0 then (.inr (o.1, 0, o.2) : zEr (Nat × Nat × zTk)) else zBd (zMu T n (gByt "by") o.2) fun u => zBd (zKx T n 0 B Nm u) fun m => .inr (o.1, m.1, m.2)) = .inr a := he
  split at he
  · rename_i h0
    cases he
    exact ⟨h1.1, h1.2.1, h1.2.2, fun h9 => absurd h0 h9⟩
  · obtain ⟨u, e2, he⟩ := zBd_inr he
    obtain ⟨m, e3, he⟩ := zBd_inr he
    have he := Sum.inr.inj he
    subst he
    have h2 := zMu_mv h1.1 e2
    have h3 := zKx_mv h2.1 e3
    exact ⟨h3.1, by show t.1 ≤ m.2.1; omega, h1.2.2, fun _ => h3.2.2⟩
theorem zNl_n {B1 : gBar} {s9 : Nat} {w : List Int32} (hl : zNl B Nm) (hc : ∀ s, s < 4 → B1 0 s = if s = s9 then B 0 s + 1 else B 0 s) (hw : w.length ≤ 9) : zNl B1 (ns Nm s9 (B 0 s9) w) := by
  intro s k hs hk
  rw [hc s hs] at hk
  unfold ns
  split
  · omega
  · rename_i h9
    refine hl s k hs ?_
    split at hk
    · rename_i h8
      subst h8
      have : ¬ k = B 0 s := fun h7 => h9 ⟨rfl, h7⟩
      omega
    · exact hk
theorem zNl_o {B1 : gBar} (hl : zNl B Nm) (hc : ∀ s, s < 4 → B1 0 s = B 0 s) : zNl B1 Nm := by
  intro s k hs hk
  rw [hc s hs] at hk
  exact hl s k hs hk
theorem s4 {p : Nat → Prop} (h0 : p 0) (h1 : p 1) (h2 : p 2) (h3 : p 3) : ∀ s, s < 4 → p s := by
  intro s hs
  rcases (show s = 0 ∨ s = 1 ∨ s = 2 ∨ s = 3 by omega) with rfl | rfl | rfl | rfl
  · exact h0
  · exact h1
  · exact h2
  · exact h3
variable {P P1 : zPs}
theorem zLB_ok (hP : zPk n P) (he : zLB T n P = .inr P1) : zPk n P1 ∧ P.1.1 ≤ P1.1.1 := by
  obtain ⟨ho, hw, hx, hl⟩ := hP
  unfold zLB at he
  split at he
  · cases he
  · obtain ⟨a, e1, he⟩ := zBd_inr he
    obtain ⟨b, e2, he⟩ := zBd_inr he
    have he := Sum.inr.inj he
    subst he
    have k0 := zTn_ok (T := T) ho.1
    have k9 := zTn_ge (T := T) ho.1
    have k1 := zAf_mv k0 e1
    have k2 := zAf_mv k1.1 e2
    exact ⟨⟨k2.1, wfB_B hw hx k1.2.2.2 k2.2.2.2, zXs_B hw hx k1.2.2.2 k2.2.2.2, zNl_o hl (s4 rfl rfl rfl rfl)⟩, by show P.1.1 ≤ b.2.1; omega⟩
theorem zLM_ok (hP : zPk n P) (he : zLM T n P = .inr P1) : zPk n P1 ∧ P.1.1 ≤ P1.1.1 := by
  obtain ⟨ho, hw, hx, hl⟩ := hP
  unfold zLM at he
  obtain ⟨t, e1, he⟩ := zBd_inr he
  obtain ⟨w, e2, he⟩ := zBd_inr he
  obtain ⟨a, e3, he⟩ := zBd_inr he
  obtain ⟨b, e4, he⟩ := zBd_inr he
  obtain ⟨c, e5, he⟩ := zBd_inr he
  have he := Sum.inr.inj he
  subst he
  have k1 := zBg_mv ho e1
  have k2 := zNw_mv k1.1 e2
  have k3 := zAf_mv k2.1 e3
  have k4 := zAf_mv k3.1 e4
  have k5 := zAf_mv k4.1 e5
  have h4 := of_decide_eq_true k1.2.2
  exact ⟨⟨k5.1, wfB_M hw hx h4 k3.2.2.2 k4.2.2.2 k5.2.2.2, zXs_M hw hx h4 k3.2.2.2 k4.2.2.2 k5.2.2.2, zNl_n hl (s4 rfl rfl rfl rfl) k2.2.2.2.1⟩, by show P.1.1 ≤ c.2.1; omega⟩
theorem zLT_ok (hP : zPk n P) (he : zLT T n P = .inr P1) : zPk n P1 ∧ P.1.1 ≤ P1.1.1 := by
  obtain ⟨ho, hw, hx, hl⟩ := hP
  unfold zLT at he
  obtain ⟨t, e1, he⟩ := zBd_inr he
  obtain ⟨w, e2, he⟩ := zBd_inr he
  obtain ⟨a, e3, he⟩ := zBd_inr he
  obtain ⟨b, e4, he⟩ := zBd_inr he
  have he := Sum.inr.inj he
  subst he
  have k1 := zBg_mv ho e1
  have k2 := zNw_mv k1.1 e2
  have k3 := zAf_mv k2.1 e3
  have k4 := zAf_mv k3.1 e4
  have h4 := of_decide_eq_true k1.2.2
  exact ⟨⟨k4.1, wfB_T hw hx h4 k3.2.2.2 k4.2.2.2, zXs_T hw hx h4 k3.2.2.2 k4.2.2.2, zNl_n hl (s4 rfl rfl rfl rfl) k2.2.2.2.1⟩, by show P.1.1 ≤ b.2.1; omega⟩
theorem zLG_ok (hP : zPk n P) (he : zLG T n P = .inr P1) : zPk n P1 ∧ P.1.1 ≤ P1.1.1 := by
  obtain ⟨ho, hw, hx, hl⟩ := hP
  unfold zLG at he
  obtain ⟨t, e1, he⟩ := zBd_inr he
  obtain ⟨w, e2, he⟩ := zBd_inr he
  obtain ⟨a, e3, he⟩ := zBd_inr he
  obtain ⟨b, e4, he⟩ := zBd_inr he
  obtain ⟨c, e5, he⟩ := zBd_inr he
  have he := Sum.inr.inj he
  subst he
  have k1 := zBg_mv ho e1
  have k2 := zNw_mv k1.1 e2
  have k3 := zAf_mv k2.1 e3
  have k4 := zAf_mv k3.1 e4
  have k5 := zAf_mv k4.1 e5
  have h4 := of_decide_eq_true k1.2.2
  exact ⟨⟨k5.1, wfB_G hw hx h4 k3.2.2.1 k3.2.2.2 k4.2.2.2 k5.2.2.2, zXs_G hw hx h4 k3.2.2.1 k3.2.2.2 k4.2.2.2 k5.2.2.2, zNl_n hl (s4 rfl rfl rfl rfl) k2.2.2.2.1⟩, by show P.1.1 ≤ c.2.1; omega⟩
theorem zLO_ok (hP : zPk n P) (he : zLO T n P = .inr P1) : zPk n P1 ∧ P.1.1 ≤ P1.1.1 := by
  obtain ⟨ho, hw, hx, hl⟩ := hP
  unfold zLO at he
  obtain ⟨t, e1, he⟩ := zBd_inr he
  obtain ⟨w, e2, he⟩ := zBd_inr he
  obtain ⟨kd, e3, he⟩ := zBd_inr he
  obtain ⟨o, e4, he⟩ := zBd_inr he
  obtain ⟨a, e5, he⟩ := zBd_inr he
  obtain ⟨b, e6, he⟩ := zBd_inr he
  obtain ⟨c, e7, he⟩ := zBd_inr he
  have he := Sum.inr.inj he
  subst he
  have k1 := zBg_mv ho e1
  have k2 := zNw_mv k1.1 e2
  have k3 := zKd_mv k2.1 e3
  have k4 := zOb_mv k3.1 e4
  have k5 := zAf_mv k4.1 e5
  have k6 := zAf_mv k5.1 e6
  have k7 := zAf_mv k6.1 e7
  have h4 := of_decide_eq_true k1.2.2
  exact ⟨⟨k7.1, wfB_O hw hx h4 k3.2.2 k4.2.2.1 k4.2.2.2 k5.2.2.2 k6.2.2.2 k7.2.2.2, zXs_O hw hx h4 k3.2.2 k4.2.2.1 k4.2.2.2 k5.2.2.2 k6.2.2.2 k7.2.2.2, zNl_n hl (s4 rfl rfl rfl rfl) k2.2.2.2.1⟩, by show P.1.1 ≤ c.2.1; omega⟩
theorem zLH_ok (hP : zPk n P) (he : zLH T n P = .inr P1) : zPk n P1 ∧ P.1.1 ≤ P1.1.1 := by
  obtain ⟨ho, hw, hx, hl⟩ := hP
  unfold zLH at he
  obtain ⟨t, e1, he⟩ := zBd_inr he
  obtain ⟨j, e2, he⟩ := zBd_inr he
  have he : (if P.2.1 18 j = 1 then (.inl (3, t.2.2.1) : zEr zPs) else .inr (zTn T n t.1, bs P.2.1 18 j 1, P.2.2)) = .inr P1 := he
  split at he
  · cases he
  · have he := Sum.inr.inj he
    subst he
    have k1 := zBg_mv ho e1
    have k2 := zKs_lt e2
    have k3 := zTn_ge (T := T) k1.1.1
    exact ⟨⟨zTn_ok k1.1.1, wfB_H hw hx k2, zXs_H hw hx k2, zNl_o hl (s4 rfl rfl rfl rfl)⟩, by show P.1.1 ≤ (zTn T n t.1).1; omega⟩
theorem zLC_ok (hP : zPk n P) (he : zLC T n P = .inr P1) : zPk n P1 ∧ P.1.1 ≤ P1.1.1 := by
  obtain ⟨ho, hw, hx, hl⟩ := hP
  unfold zLC at he
  obtain ⟨t, e1, he⟩ := zBd_inr he
  obtain ⟨o, e2, he⟩ := zBd_inr he
  obtain ⟨k, e3, he⟩ := zBd_inr he
  obtain ⟨a, e4, he⟩ := zBd_inr he
  obtain ⟨b, e5, he⟩ := zBd_inr he
  have he := Sum.inr.inj he
  subst he
  have k1 := zBg_mv ho e1
  have k2 := zKx_mv k1.1 e2
  have k3 := zKx_mv k2.1 e3
  have k4 := zAf_mv k3.1 e4
  have k5 := zAf_mv k4.1 e5
  have h4 := of_decide_eq_true k1.2.2
  exact ⟨⟨k5.1, wfB_C hw hx h4 k2.2.2 k3.2.2 k4.2.2.2 k5.2.2.2, zXs_C hw hx h4 k2.2.2 k3.2.2 k4.2.2.2 k5.2.2.2, zNl_o hl (s4 rfl rfl rfl rfl)⟩, by show P.1.1 ≤ b.2.1; omega⟩
theorem zLP_ok (hP : zPk n P) (he : zLP T n P = .inr P1) : zPk n P1 ∧ P.1.1 ≤ P1.1.1 := by
  obtain ⟨ho, hw, hx, hl⟩ := hP
  unfold zLP at he
  obtain ⟨t, e1, he⟩ := zBd_inr he
  obtain ⟨i, e2, he⟩ := zBd_inr he
  have he : (if P.2.1 6 i = 1 then (.inl (3, t.2.2.1) : zEr zPs) else zBd (zAf T n (gByt "here") 0 99 (zTn T n t.1)) fun a => zBd (zAf T n (gByt "there") 0 99 a.2) fun b => .inr (b.2, bs (bs (bs (bs P.2.1 4 i a.1) 5 i b.1) 6 i 1) 0 5 (P.2.1 0 5 + 1), P.2.2)) = .inr P1 := he
  split at he
  · cases he
  · obtain ⟨a, e3, he⟩ := zBd_inr he
    obtain ⟨b, e4, he⟩ := zBd_inr he
    have he := Sum.inr.inj he
    subst he
    have k1 := zBg_mv ho e1
    have k2 := zKs_lt e2
    have k3 := zTn_ge (T := T) k1.1.1
    have k4 := zAf_mv (zTn_ok k1.1.1) e3
    have k5 := zAf_mv k4.1 e4
    exact ⟨⟨k5.1, wfB_P hw hx k2 k4.2.2.2 k5.2.2.2, zXs_P hw hx k2 k4.2.2.2 k5.2.2.2, zNl_o hl (s4 rfl rfl rfl rfl)⟩, by show P.1.1 ≤ b.2.1; omega⟩
theorem zLK_ok (hP : zPk n P) (he : zLK T n P = .inr P1) : zPk n P1 ∧ P.1.1 ≤ P1.1.1 := by
  obtain ⟨ho, hw, hx, hl⟩ := hP
  unfold zLK at he
  obtain ⟨t, e1, he⟩ := zBd_inr he
  obtain ⟨i, e2, he⟩ := zBd_inr he
  obtain ⟨a, e3, he⟩ := zBd_inr he
  have he := Sum.inr.inj he
  subst he
  have k1 := zBg_mv ho e1
  have k2 := zKx_mv k1.1 e2
  have k3 := zAf_mv k2.1 e3
  have h4 := of_decide_eq_true k1.2.2
  exact ⟨⟨k3.1, wfB_K hw hx h4 k2.2.2 k3.2.2.2, zXs_K hw hx h4 k2.2.2 k3.2.2.2, zNl_o hl (s4 rfl rfl rfl rfl)⟩, by show P.1.1 ≤ a.2.1; omega⟩
theorem zLn_ok (hP : zPk n P) (he : zLn T n P = .inr P1) : zPk n P1 ∧ P.1.1 ≤ P1.1.1 := by
  unfold zLn at he
  split at he
  · split at he
    · exact zLB_ok hP he
    · split at he
      · exact zLM_ok hP he
      · split at he
        · exact zLT_ok hP he
        · split at he
          · exact zLG_ok hP he
          · split at he
            · exact zLO_ok hP he
            · split at he
              · exact zLH_ok hP he
              · split at he
                · exact zLC_ok hP he
                · split at he
                  · exact zLP_ok hP he
                  · split at he
                    · exact zLK_ok hP he
                    · cases he
  · cases he
theorem zLn_w (he : zLn T n P = .inr P1) : P.1.2.1 = 2 := by
  unfold zLn at he
  split at he
  · rename_i h; exact h
  · cases he
/-- one line more: the fuel is enough -/
theorem zPk_0 : zPk n (zTn T n 0, zB0, fun _ _ => []) := by
  refine ⟨zTn_ok (Nat.zero_le _), ?_, ?_, ?_⟩
  · show wfB zB0
    unfold wfB
    refine ⟨by decide, ?_, ?_, ?_, ?_, ?_, ?_⟩ <;> intro k hk <;> exact absurd hk (Nat.not_lt_zero _)
  · exact ⟨fun k _ => ⟨rfl, rfl, rfl⟩, fun j _ => rfl, Nat.zero_le _⟩
  · intro s k hs hk
    exact absurd hk (Nat.not_lt_zero _)
end
