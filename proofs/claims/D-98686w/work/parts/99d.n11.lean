/-! THE MODEL, walks, eleventh: names -/
set_option maxRecDepth 100000
def gPw (P : Int64 → gWM → Prop) : Option Value → gWM → Prop := fun v g1 => ∃ w, v = some (.long w) ∧ P w g1
theorem gPw.k {z : gZ} {kc ks q : Nat} {lo : List (Option Value)} {st : List Value} {P : Int64 → gWM → Prop} (k : ∀ w g1, P w g1 → gV z g1 kc ks q lo (.long w :: st)) : ∀ v g1, gPw P v g1 → gV z g1 kc ks q lo (v.toList ++ st) := by
  rintro v g1 ⟨w, rfl, h⟩
  exact k w g1 h
theorem nI_m1 {a : Nat} (h : a < 2 ^ 30) : ¬ nI a = -1 := fun h9 => nI_pos (n := a) (by omega) (by rw [h9]; decide)
theorem wo_dec (v : List Int32) (h : (decide (1 ≤ v.length) && (decide (v.length ≤ 9) && v.all (fun x => zIn x 97 122))) = true) : zWo v := by
  simp only [Bool.and_eq_true, decide_eq_true_eq] at h
  refine ⟨h.1, h.2.1, fun i hi => ?_⟩
  rw [List.getD_eq_getElem?_getD, List.getElem?_eq_getElem hi]
  exact List.all_eq_true.mp h.2.2 _ (List.getElem_mem hi)
section
variable {s : Nat} {t : zTk} {B : gBar} {Nm : zNm}
theorem zK_r {k : Nat} (he : zKs s B Nm t = .inr k) : zVk s B Nm (.inr t) = k ∧ zSk9 s B Nm (.inr t) = .inr t := by
  refine ⟨?_, ?_⟩
  · show (match zKs s B Nm t with
      | .inl _ => 0
      | .inr k => k) = k
    rw [he]
  · show zBd (zKs s B Nm t) _ = _
    rw [he]
    rfl
theorem zK_l {e : Nat × Nat} (he : zKs s B Nm t = .inl e) : zVk s B Nm (.inr t) = 0 ∧ zSk9 s B Nm (.inr t) = .inl e := by
  refine ⟨?_, ?_⟩
  · show (match zKs s B Nm t with
      | .inl _ => 0
      | .inr k => k) = 0
    rw [he]
  · show zBd (zKs s B Nm t) _ = _
    rw [he]
    rfl
end
set_option maxHeartbeats 400000 in
theorem ct_X27_find (l : Launch) {g : gWM} {mb : Nat} {B : gBar} {Nm : zNm} {nl : List (Nat × Nat)} (wd : Int64) (hQ : pMt g mb B Nm nl) (hnl9 : nl.length ≤ 19) : gCt l yX27_find cX27_find 4 (some .int) 0 0 0 0 [.ref mb, .long wd] g (gPu (.int (zFx nl Nm wd nl.length 0)) g) := by
  refine gCt.of RX27 (by decide) rfl (lo := [some (.ref mb), some (.long wd), none, none]) 1 rfl (Nat.le_of_ble_eq_true rfl) (fun z E Rt => ?_)
  have hQ_o := hQ
  obtain ⟨⟨hQ_F, hQ_a, hQ_0, hQ_1, hQ_2, hQ_3, hQ_4, hQ_5, hQ_6, hQ_7, hQ_8, hQ_9, hQ_10, hQ_11, hQ_12, hQ_13, hQ_14, hQ_15, hQ_16, hQ_17, hQ_18, hQ_19, hQ_20, hQ_21, hQ_22, hQ_23, hQ_24, hQ_25, hQ_26, hQ_27, hQ_28, hQ_29, hQ_30, hQ_31, hQ_32, hQ_33, hQ_34⟩, ⟨⟨hQ_f1, hQ_a1, hQ_b1⟩, ⟨hQ_f2, hQ_a2, hQ_b2⟩, ⟨hQ_f3, hQ_a3, hQ_b3⟩, ⟨hQ_f4, hQ_a4, hQ_b4⟩, ⟨hQ_f5, hQ_a5, hQ_b5⟩, ⟨hQ_f6, hQ_a6, hQ_b6⟩, ⟨hQ_f7, hQ_a7, hQ_b7⟩, ⟨hQ_f8, hQ_a8, hQ_b8⟩, ⟨hQ_f9, hQ_a9, hQ_b9⟩, ⟨hQ_f10, hQ_a10, hQ_b10⟩, ⟨hQ_f11, hQ_a11, hQ_b11⟩, ⟨hQ_f12, hQ_a12, hQ_b12⟩, ⟨hQ_f13, hQ_a13, hQ_b13⟩, ⟨hQ_f14, hQ_a14, hQ_b14⟩, ⟨hQ_f15, hQ_a15, hQ_b15⟩, ⟨hQ_f16, hQ_a16, hQ_b16⟩, ⟨hQ_f17, hQ_a17, hQ_b17⟩, ⟨hQ_f18, hQ_a18, hQ_b18⟩, ⟨hQ_f19, hQ_a19, hQ_b19⟩, ⟨hQ_f20, hQ_a20, hQ_b20⟩, ⟨hQ_f21, hQ_a21, hQ_b21⟩⟩, ⟨hQ_f22, hQ_a22, hQ_b22⟩, ⟨hQ_f23, hQ_a23, hQ_b23⟩, hQ_f24, hQ_a24, hQ_b24⟩ := hQ_o
  refine g_iconst E (v := 0) dX27_find_0 (by decide) rfl ?_
  refine g_istore_n E dX27_find_1 rfl (by decide) rfl (lo1 := [some (.ref mb), some (.long wd), none, some (.int 0)]) rfl rfl ?_
  have lp2 : ∀ (r9 : Nat) (k : Nat), (k ≤ nl.length) → (zFx nl Nm wd nl.length 0 = zFx nl Nm wd (nl.length - k) k) → (nl.length - k < r9) → gV z g 0 0 2 [some (.ref mb), some (.long wd), none, some (.int (nI k))] [] := by
    intro r9
    induction r9 with
    | zero => intro k hk hz hm; exact absurd hm (Nat.not_lt_zero _)
    | succ r9 ih2 =>
      intro k hk hz hm
      refine g_iload_n E dX27_find_2 rfl rfl rfl ?_
      refine g_aload_n E dX27_find_3 rfl rfl rfl ?_
      refine g_getf E gciX27 dX27_find_4 hQ_a 10 rfl (by decide) q1867 (.inl rfl) (.int (nI nl.length)) (hQ_10) rfl ?_
      refine g_icmp_ge E dX27_find_7 (tgt := 29) (by decide) rfl (fun c7 => ?_) (fun c7 => ?_)
      · have c7 := (nI_leI (a := nl.length) (b := k) (by omega) (by omega)).mp c7
        refine g_iconst E (v := (-1)) dX27_find_29 (by decide) rfl ?_
        exact g_iret E Rt dX27_find_30 rfl (by decide) (by decide) (⟨congrArg (fun x => some (Value.int x)) ((hz.trans (by rw [show nl.length - k = 0 by omega]; rfl)).symm), rfl⟩)
      · have c7 := mt (nI_leI (a := nl.length) (b := k) (by omega) (by omega)).mpr c7
        refine g_aload_n E dX27_find_10 rfl rfl rfl ?_
        refine g_getf E gciX27 dX27_find_11 hQ_a 32 rfl (by decide) q1911 (.inl rfl) (.ref (mb + 22)) (hQ_32) rfl ?_
        refine g_iload_n E dX27_find_14 rfl rfl rfl ?_
        refine g_lald E dX27_find_15 (j := k) hQ_a22 (rfl) (by omega) (by decide) (v := pk (Nm (nl.getD k (0, 0)).1 (nl.getD k (0, 0)).2)) (hQ_b22 k (by omega)) rfl ?_
        refine g_lload_n E dX27_find_16 rfl rfl rfl ?_
        refine g_lcmp E dX27_find_17 rfl ?_
        refine g_if_ne E dX27_find_18 (tgt := 23) (by decide) rfl (fun c18 => ?_) (fun c18 => ?_)
        · refine g_iinc E dX27_find_23 rfl (v := nI (k + 1)) (nI_c _) (by decide) rfl (lo1 := [some (.ref mb), some (.long wd), none, some (.int (nI (k + 1)))]) rfl rfl ?_
          refine g_goto E dX27_find_26 (tgt := 2) (by decide) ?_
          exact ih2 (k + 1) (by omega) (hz.trans (zFx_f (by omega) (fun h9 => c18 (lg_cmp_0.mpr h9)))) (by omega)
        · refine g_iload_n E dX27_find_21 rfl rfl rfl ?_
          exact g_iret E Rt dX27_find_22 rfl (by decide) (by decide) (⟨congrArg (fun x => some (Value.int x)) ((hz.trans (zFx_t (by omega) (lg_cmp_0.mp c18))).symm), rfl⟩)
  exact lp2 (nl.length + 1) 0 (Nat.zero_le _) rfl (by omega)
set_option maxHeartbeats 400000 in
theorem ct_X27_isPriced_T (l : Launch) {g : gWM} {mb : Nat} {B : gBar} {Nm : zNm} {nl : List (Nat × Nat)} (k : Nat) (hw : wfB B) (hQ : pMt g mb B Nm nl) (hk : k < B 0 0) : gCt l yX27_isPriced cX27_isPriced 2 (some .boolean) 0 0 0 0 [.ref mb, .int (nI k)] g (gPu (.int (zb (decide (B 6 k ≠ 0)))) g) := by
  refine gCt.of RX27 (by decide) rfl (lo := [some (.ref mb), some (.int (nI k))]) 0 rfl (Nat.le_of_ble_eq_true rfl) (fun z E Rt => ?_)
  have hw_n := hw.1
  have hQ_o := hQ
  obtain ⟨⟨hQ_F, hQ_a, hQ_0, hQ_1, hQ_2, hQ_3, hQ_4, hQ_5, hQ_6, hQ_7, hQ_8, hQ_9, hQ_10, hQ_11, hQ_12, hQ_13, hQ_14, hQ_15, hQ_16, hQ_17, hQ_18, hQ_19, hQ_20, hQ_21, hQ_22, hQ_23, hQ_24, hQ_25, hQ_26, hQ_27, hQ_28, hQ_29, hQ_30, hQ_31, hQ_32, hQ_33, hQ_34⟩, ⟨⟨hQ_f1, hQ_a1, hQ_b1⟩, ⟨hQ_f2, hQ_a2, hQ_b2⟩, ⟨hQ_f3, hQ_a3, hQ_b3⟩, ⟨hQ_f4, hQ_a4, hQ_b4⟩, ⟨hQ_f5, hQ_a5, hQ_b5⟩, ⟨hQ_f6, hQ_a6, hQ_b6⟩, ⟨hQ_f7, hQ_a7, hQ_b7⟩, ⟨hQ_f8, hQ_a8, hQ_b8⟩, ⟨hQ_f9, hQ_a9, hQ_b9⟩, ⟨hQ_f10, hQ_a10, hQ_b10⟩, ⟨hQ_f11, hQ_a11, hQ_b11⟩, ⟨hQ_f12, hQ_a12, hQ_b12⟩, ⟨hQ_f13, hQ_a13, hQ_b13⟩, ⟨hQ_f14, hQ_a14, hQ_b14⟩, ⟨hQ_f15, hQ_a15, hQ_b15⟩, ⟨hQ_f16, hQ_a16, hQ_b16⟩, ⟨hQ_f17, hQ_a17, hQ_b17⟩, ⟨hQ_f18, hQ_a18, hQ_b18⟩, ⟨hQ_f19, hQ_a19, hQ_b19⟩, ⟨hQ_f20, hQ_a20, hQ_b20⟩, ⟨hQ_f21, hQ_a21, hQ_b21⟩⟩, ⟨hQ_f22, hQ_a22, hQ_b22⟩, ⟨hQ_f23, hQ_a23, hQ_b23⟩, hQ_f24, hQ_a24, hQ_b24⟩ := hQ_o
  have hmk := hw.2.1 k hk
  refine g_aload_n E dX27_isPriced_0 rfl rfl rfl ?_
  refine g_getf E gciX27 dX27_isPriced_1 hQ_a 13 rfl (by decide) q1873 (.inl rfl) (.ref (mb + 3)) (hQ_13) rfl ?_
  refine g_iload_n E dX27_isPriced_4 rfl rfl rfl ?_
  refine g_iald E dX27_isPriced_5 (j := k) hQ_a3 (rfl) (by omega) (by decide) (v := if B 6 k = 0 then -1 else nI (B 4 k)) (hQ_b3 k (by omega)) rfl ?_
  refine g_iconst E (v := (-1)) dX27_isPriced_6 (by decide) rfl ?_
  refine g_icmp_eq E dX27_isPriced_7 (tgt := 14) (by decide) rfl (fun c7 => ?_) (fun c7 => ?_)
  · refine g_iconst E (v := 0) dX27_isPriced_14 (by decide) rfl ?_
    exact g_zret E Rt dX27_isPriced_15 rfl (by decide) (by decide) (by decide) (⟨congrArg (fun x => some (Value.int x)) (zbF (fun h9 => nI_m1 (a := B 4 k) (by omega) ((if_neg (show ¬ B 6 k = 0 from h9)).symm.trans c7))), rfl⟩)
  · refine g_iconst E (v := 1) dX27_isPriced_10 (by decide) rfl ?_
    refine g_goto E dX27_isPriced_11 (tgt := 15) (by decide) ?_
    exact g_zret E Rt dX27_isPriced_15 rfl (by decide) (by decide) (by decide) (⟨congrArg (fun x => some (Value.int x)) (zbT (fun h9 => c7 (if_pos h9))), rfl⟩)
set_option maxHeartbeats 400000 in
theorem ct_X13_isName_R (l : Launch) {g : gWM} {n : Nat} {F0 : Nat → Value} {kw : Bool} {t : zTk} (hM : pMr g F0 kw (.inr t)) (hok : zOk n t) : gCt l yX13_isName cX13_isName 1 (some .boolean) 6 0 0 129 [.ref 2000] g (gPu (.int (zb (decide (t.2.1 = 2 ∧ t.2.2.2.2 ∉ zRsv)))) g) := by
  refine gCt.of RX13 (by decide) rfl (lo := [some (.ref 2000)]) 0 rfl (Nat.le_of_ble_eq_true rfl) (fun z E Rt => ?_)
  have hM_o := hM
  obtain ⟨hM_F, hM_a, hM_r, hM_9, hM_12, hM_8, hM_10, hM_11, hM_14, hM_k⟩ := hM_o
  refine g_aload_n E dX13_isName_0 rfl rfl rfl ?_
  refine g_getf E gciX13 dX13_isName_1 hM_a 9 rfl (by decide) q1749 (.inl rfl) (.int (zSo t.2.1)) (hM_9) rfl ?_
  refine g_iconst E (v := 2) dX13_isName_4 (by decide) rfl ?_
  refine g_icmp_ne E dX13_isName_5 (tgt := 53) (by decide) rfl (fun c5 => ?_) (fun c5 => ?_)
  · refine g_iconst E (v := 0) dX13_isName_53 (by decide) rfl ?_
    exact g_zret E Rt dX13_isName_54 rfl (by decide) (by decide) (by decide) (⟨congrArg (fun x => some (Value.int x)) (show 0 = zb (decide _) from zbF (fun h9 => c5 (zSo_2.mpr h9.1))), rfl⟩)
  · have h2 := zSo_2.mp (by first | exact c5 | exact Classical.not_not.mp c5)
    refine g_aload_n E dX13_isName_8 rfl rfl rfl ?_
    refine g_ldcS E (j := 33) (tx := "barrier") rfl dX13_isName_9 rfl ?_
    refine g_callV (k := 2000) (n9 := 1) (av := [.ref (1 + 2 * 33)]) (st := []) E (ct_X13_isWord l hM hok rfl (wo_dec _ (by decide +kernel))) gciX13 dX13_isName_11 hM_a q2013 q2015 qs57 q135 q2016 (by decide +kernel) rfl rfl ⟨by decide, by decide⟩ ⟨by decide, by decide⟩ (Nat.le_of_ble_eq_true rfl) rfl (gPu.k ?_)
    refine g_if_ne E dX13_isName_14 (tgt := 53) (by decide) rfl (fun c14 => ?_) (fun c14 => ?_)
    · have c14 := zb_n0.mp c14
      refine g_iconst E (v := 0) dX13_isName_53 (by decide) rfl ?_
      exact g_zret E Rt dX13_isName_54 rfl (by decide) (by decide) (by decide) (⟨congrArg (fun x => some (Value.int x)) (show 0 = zb (decide _) from zbF (fun h9 => h9.2 (by rw [(of_decide_eq_true c14).2]; decide +kernel))), rfl⟩)
    · have c14 := zb_0.mp c14
      refine g_aload_n E dX13_isName_17 rfl rfl rfl ?_
      refine g_ldcS E (j := 36) (tx := "means") rfl dX13_isName_18 rfl ?_
      refine g_callV (k := 2000) (n9 := 1) (av := [.ref (1 + 2 * 36)]) (st := []) E (ct_X13_isWord l hM hok rfl (wo_dec _ (by decide +kernel))) gciX13 dX13_isName_20 hM_a q2013 q2015 qs57 q135 q2016 (by decide +kernel) rfl rfl ⟨by decide, by decide⟩ ⟨by decide, by decide⟩ (Nat.le_of_ble_eq_true rfl) rfl (gPu.k ?_)
      refine g_if_ne E dX13_isName_23 (tgt := 53) (by decide) rfl (fun c23 => ?_) (fun c23 => ?_)
      · have c23 := zb_n0.mp c23
        refine g_iconst E (v := 0) dX13_isName_53 (by decide) rfl ?_
        exact g_zret E Rt dX13_isName_54 rfl (by decide) (by decide) (by decide) (⟨congrArg (fun x => some (Value.int x)) (show 0 = zb (decide _) from zbF (fun h9 => h9.2 (by rw [(of_decide_eq_true c23).2]; decide +kernel))), rfl⟩)
      · have c23 := zb_0.mp c23
        refine g_aload_n E dX13_isName_26 rfl rfl rfl ?_
        refine g_ldcS E (j := 37) (tx := "traveller") rfl dX13_isName_27 rfl ?_
        refine g_callV (k := 2000) (n9 := 1) (av := [.ref (1 + 2 * 37)]) (st := []) E (ct_X13_isWord l hM hok rfl (wo_dec _ (by decide +kernel))) gciX13 dX13_isName_29 hM_a q2013 q2015 qs57 q135 q2016 (by decide +kernel) rfl rfl ⟨by decide, by decide⟩ ⟨by decide, by decide⟩ (Nat.le_of_ble_eq_true rfl) rfl (gPu.k ?_)
        refine g_if_ne E dX13_isName_32 (tgt := 53) (by decide) rfl (fun c32 => ?_) (fun c32 => ?_)
        · have c32 := zb_n0.mp c32
          refine g_iconst E (v := 0) dX13_isName_53 (by decide) rfl ?_
          exact g_zret E Rt dX13_isName_54 rfl (by decide) (by decide) (by decide) (⟨congrArg (fun x => some (Value.int x)) (show 0 = zb (decide _) from zbF (fun h9 => h9.2 (by rw [(of_decide_eq_true c32).2]; decide +kernel))), rfl⟩)
        · have c32 := zb_0.mp c32
          refine g_aload_n E dX13_isName_35 rfl rfl rfl ?_
          refine g_ldcS E (j := 38) (tx := "gate") rfl dX13_isName_36 rfl ?_
          refine g_callV (k := 2000) (n9 := 1) (av := [.ref (1 + 2 * 38)]) (st := []) E (ct_X13_isWord l hM hok rfl (wo_dec _ (by decide +kernel))) gciX13 dX13_isName_38 hM_a q2013 q2015 qs57 q135 q2016 (by decide +kernel) rfl rfl ⟨by decide, by decide⟩ ⟨by decide, by decide⟩ (Nat.le_of_ble_eq_true rfl) rfl (gPu.k ?_)
          refine g_if_ne E dX13_isName_41 (tgt := 53) (by decide) rfl (fun c41 => ?_) (fun c41 => ?_)
          · have c41 := zb_n0.mp c41
            refine g_iconst E (v := 0) dX13_isName_53 (by decide) rfl ?_
            exact g_zret E Rt dX13_isName_54 rfl (by decide) (by decide) (by decide) (⟨congrArg (fun x => some (Value.int x)) (show 0 = zb (decide _) from zbF (fun h9 => h9.2 (by rw [(of_decide_eq_true c41).2]; decide +kernel))), rfl⟩)
          · have c41 := zb_0.mp c41
            refine g_aload_n E dX13_isName_44 rfl rfl rfl ?_
            refine g_ldcS E (j := 39) (tx := "good") rfl dX13_isName_45 rfl ?_
            refine g_callV (k := 2000) (n9 := 1) (av := [.ref (1 + 2 * 39)]) (st := []) E (ct_X13_isWord l hM hok rfl (wo_dec _ (by decide +kernel))) gciX13 dX13_isName_47 hM_a q2013 q2015 qs57 q135 q2016 (by decide +kernel) rfl rfl ⟨by decide, by decide⟩ ⟨by decide, by decide⟩ (Nat.le_of_ble_eq_true rfl) rfl (gPu.k ?_)
            refine g_if_eq E dX13_isName_50 (tgt := 55) (by decide) rfl (fun c50 => ?_) (fun c50 => ?_)
            · have c50 := zb_0.mp c50
              refine g_aload_n E dX13_isName_55 rfl rfl rfl ?_
              refine g_ldcS E (j := 40) (tx := "hides") rfl dX13_isName_56 rfl ?_
              refine g_callV (k := 2000) (n9 := 1) (av := [.ref (1 + 2 * 40)]) (st := []) E (ct_X13_isWord l hM hok rfl (wo_dec _ (by decide +kernel))) gciX13 dX13_isName_58 hM_a q2013 q2015 qs57 q135 q2016 (by decide +kernel) rfl rfl ⟨by decide, by decide⟩ ⟨by decide, by decide⟩ (Nat.le_of_ble_eq_true rfl) rfl (gPu.k ?_)
              refine g_if_ne E dX13_isName_61 (tgt := 113) (by decide) rfl (fun c61 => ?_) (fun c61 => ?_)
              · have c61 := zb_n0.mp c61
                refine g_iconst E (v := 0) dX13_isName_113 (by decide) rfl ?_
                exact g_zret E Rt dX13_isName_114 rfl (by decide) (by decide) (by decide) (⟨congrArg (fun x => some (Value.int x)) (show 0 = zb (decide _) from zbF (fun h9 => h9.2 (by rw [(of_decide_eq_true c61).2]; decide +kernel))), rfl⟩)
              · have c61 := zb_0.mp c61
                refine g_aload_n E dX13_isName_64 rfl rfl rfl ?_
                refine g_ldcS E (j := 41) (tx := "crosses") rfl dX13_isName_65 rfl ?_
                refine g_callV (k := 2000) (n9 := 1) (av := [.ref (1 + 2 * 41)]) (st := []) E (ct_X13_isWord l hM hok rfl (wo_dec _ (by decide +kernel))) gciX13 dX13_isName_67 hM_a q2013 q2015 qs57 q135 q2016 (by decide +kernel) rfl rfl ⟨by decide, by decide⟩ ⟨by decide, by decide⟩ (Nat.le_of_ble_eq_true rfl) rfl (gPu.k ?_)
                refine g_if_ne E dX13_isName_70 (tgt := 113) (by decide) rfl (fun c70 => ?_) (fun c70 => ?_)
                · have c70 := zb_n0.mp c70
                  refine g_iconst E (v := 0) dX13_isName_113 (by decide) rfl ?_
                  exact g_zret E Rt dX13_isName_114 rfl (by decide) (by decide) (by decide) (⟨congrArg (fun x => some (Value.int x)) (show 0 = zb (decide _) from zbF (fun h9 => h9.2 (by rw [(of_decide_eq_true c70).2]; decide +kernel))), rfl⟩)
                · have c70 := zb_0.mp c70
                  refine g_aload_n E dX13_isName_73 rfl rfl rfl ?_
                  refine g_ldcS E (j := 42) (tx := "price") rfl dX13_isName_74 rfl ?_
                  refine g_callV (k := 2000) (n9 := 1) (av := [.ref (1 + 2 * 42)]) (st := []) E (ct_X13_isWord l hM hok rfl (wo_dec _ (by decide +kernel))) gciX13 dX13_isName_76 hM_a q2013 q2015 qs57 q135 q2016 (by decide +kernel) rfl rfl ⟨by decide, by decide⟩ ⟨by decide, by decide⟩ (Nat.le_of_ble_eq_true rfl) rfl (gPu.k ?_)
                  refine g_if_ne E dX13_isName_79 (tgt := 113) (by decide) rfl (fun c79 => ?_) (fun c79 => ?_)
                  · have c79 := zb_n0.mp c79
                    refine g_iconst E (v := 0) dX13_isName_113 (by decide) rfl ?_
                    exact g_zret E Rt dX13_isName_114 rfl (by decide) (by decide) (by decide) (⟨congrArg (fun x => some (Value.int x)) (show 0 = zb (decide _) from zbF (fun h9 => h9.2 (by rw [(of_decide_eq_true c79).2]; decide +kernel))), rfl⟩)
                  · have c79 := zb_0.mp c79
                    refine g_aload_n E dX13_isName_82 rfl rfl rfl ?_
                    refine g_ldcS E (j := 43) (tx := "crumb") rfl dX13_isName_83 rfl ?_
                    refine g_callV (k := 2000) (n9 := 1) (av := [.ref (1 + 2 * 43)]) (st := []) E (ct_X13_isWord l hM hok rfl (wo_dec _ (by decide +kernel))) gciX13 dX13_isName_85 hM_a q2013 q2015 qs57 q135 q2016 (by decide +kernel) rfl rfl ⟨by decide, by decide⟩ ⟨by decide, by decide⟩ (Nat.le_of_ble_eq_true rfl) rfl (gPu.k ?_)
                    refine g_if_ne E dX13_isName_88 (tgt := 113) (by decide) rfl (fun c88 => ?_) (fun c88 => ?_)
                    · have c88 := zb_n0.mp c88
                      refine g_iconst E (v := 0) dX13_isName_113 (by decide) rfl ?_
                      exact g_zret E Rt dX13_isName_114 rfl (by decide) (by decide) (by decide) (⟨congrArg (fun x => some (Value.int x)) (show 0 = zb (decide _) from zbF (fun h9 => h9.2 (by rw [(of_decide_eq_true c88).2]; decide +kernel))), rfl⟩)
                    · have c88 := zb_0.mp c88
                      refine g_aload_n E dX13_isName_91 rfl rfl rfl ?_
                      refine g_ldcS E (j := 44) (tx := "fresh") rfl dX13_isName_92 rfl ?_
                      refine g_callV (k := 2000) (n9 := 1) (av := [.ref (1 + 2 * 44)]) (st := []) E (ct_X13_isWord l hM hok rfl (wo_dec _ (by decide +kernel))) gciX13 dX13_isName_94 hM_a q2013 q2015 qs57 q135 q2016 (by decide +kernel) rfl rfl ⟨by decide, by decide⟩ ⟨by decide, by decide⟩ (Nat.le_of_ble_eq_true rfl) rfl (gPu.k ?_)
                      refine g_if_ne E dX13_isName_97 (tgt := 113) (by decide) rfl (fun c97 => ?_) (fun c97 => ?_)
                      · have c97 := zb_n0.mp c97
                        refine g_iconst E (v := 0) dX13_isName_113 (by decide) rfl ?_
                        exact g_zret E Rt dX13_isName_114 rfl (by decide) (by decide) (by decide) (⟨congrArg (fun x => some (Value.int x)) (show 0 = zb (decide _) from zbF (fun h9 => h9.2 (by rw [(of_decide_eq_true c97).2]; decide +kernel))), rfl⟩)
                      · have c97 := zb_0.mp c97
                        refine g_aload_n E dX13_isName_100 rfl rfl rfl ?_
                        refine g_ldcS E (j := 45) (tx := "by") rfl dX13_isName_101 rfl ?_
                        refine g_callV (k := 2000) (n9 := 1) (av := [.ref (1 + 2 * 45)]) (st := []) E (ct_X13_isWord l hM hok rfl (wo_dec _ (by decide +kernel))) gciX13 dX13_isName_103 hM_a q2013 q2015 qs57 q135 q2016 (by decide +kernel) rfl rfl ⟨by decide, by decide⟩ ⟨by decide, by decide⟩ (Nat.le_of_ble_eq_true rfl) rfl (gPu.k ?_)
                        refine g_if_ne E dX13_isName_106 (tgt := 113) (by decide) rfl (fun c106 => ?_) (fun c106 => ?_)
                        · have c106 := zb_n0.mp c106
                          refine g_iconst E (v := 0) dX13_isName_113 (by decide) rfl ?_
                          exact g_zret E Rt dX13_isName_114 rfl (by decide) (by decide) (by decide) (⟨congrArg (fun x => some (Value.int x)) (show 0 = zb (decide _) from zbF (fun h9 => h9.2 (by rw [(of_decide_eq_true c106).2]; decide +kernel))), rfl⟩)
                        · have c106 := zb_0.mp c106
                          refine g_iconst E (v := 1) dX13_isName_109 (by decide) rfl ?_
                          refine g_goto E dX13_isName_110 (tgt := 114) (by decide) ?_
                          exact g_zret E Rt dX13_isName_114 rfl (by decide) (by decide) (by decide) (⟨congrArg (fun x => some (Value.int x)) (show 1 = zb (decide _) from zbT ⟨h2, fun hm => by rcases rsv_out hm with h9 | h9 | h9 | h9 | h9 | h9 | h9 | h9 | h9 | h9 | h9 <;> first | exact of_decide_eq_false c14 ⟨h2, h9⟩ | exact of_decide_eq_false c23 ⟨h2, h9⟩ | exact of_decide_eq_false c32 ⟨h2, h9⟩ | exact of_decide_eq_false c41 ⟨h2, h9⟩ | exact of_decide_eq_false c50 ⟨h2, h9⟩ | exact of_decide_eq_false c61 ⟨h2, h9⟩ | exact of_decide_eq_false c70 ⟨h2, h9⟩ | exact of_decide_eq_false c79 ⟨h2, h9⟩ | exact of_decide_eq_false c88 ⟨h2, h9⟩ | exact of_decide_eq_false c97 ⟨h2, h9⟩ | exact of_decide_eq_false c106 ⟨h2, h9⟩⟩), rfl⟩)
            · have c50 := zb_n0.mp c50
              refine g_iconst E (v := 0) dX13_isName_53 (by decide) rfl ?_
              exact g_zret E Rt dX13_isName_54 rfl (by decide) (by decide) (by decide) (⟨congrArg (fun x => some (Value.int x)) (show 0 = zb (decide _) from zbF (fun h9 => h9.2 (by rw [(of_decide_eq_true c50).2]; decide +kernel))), rfl⟩)
set_option maxHeartbeats 400000 in
theorem ct_X13_isName_L (l : Launch) {g : gWM} {n : Nat} {F0 : Nat → Value} {kw : Bool} {e : Nat × Nat} (hM : pMr g F0 kw (.inl e)) : gCt l yX13_isName cX13_isName 1 (some .boolean) 6 0 0 129 [.ref 2000] g (gPu (.int 0) g) := by
  refine gCt.of RX13 (by decide) rfl (lo := [some (.ref 2000)]) 0 rfl (Nat.le_of_ble_eq_true rfl) (fun z E Rt => ?_)
  have hM_o := hM
  obtain ⟨hM_F, hM_a, hM_r, hM_9, hM_12, hM_13, hM_k⟩ := hM_o
  refine g_aload_n E dX13_isName_0 rfl rfl rfl ?_
  refine g_getf E gciX13 dX13_isName_1 hM_a 9 rfl (by decide) q1749 (.inl rfl) (.int 5) (hM_9) rfl ?_
  refine g_iconst E (v := 2) dX13_isName_4 (by decide) rfl ?_
  refine g_icmp_ne E dX13_isName_5 (tgt := 53) (by decide) rfl (fun _ => ?_) (fun h9 => absurd h9 (by decide))
  refine g_iconst E (v := 0) dX13_isName_53 (by decide) rfl ?_
  exact g_zret E Rt dX13_isName_54 rfl (by decide) (by decide) (by decide) (⟨rfl, rfl⟩)
theorem ct_X13_isName (l : Launch) {g : gWM} {n : Nat} {F0 : Nat → Value} {kw : Bool} {x : zEr zTk} (hM : pMr g F0 kw x) (hok : xOk n x) : gCt l yX13_isName cX13_isName 1 (some .boolean) 6 0 0 129 [.ref 2000] g (gPu (.int (zb (xNm x))) g) := by
  cases x with
  | inl e => exact ct_X13_isName_L l (n := n) hM
  | inr t => exact ct_X13_isName_R l hM hok
set_option maxHeartbeats 400000 in
theorem ct_X13_begins (l : Launch) {g : gWM} {n mb : Nat} {T : Nat → Int32} {F0 : Nat → Value} {kw : Bool} {x : zEr zTk} {B : gBar} {Nm : zNm} {nl : List (Nat × Nat)} (m9 c9 : Nat) (hF0 : pF0 F0 mb n) (hM : pMr g F0 kw (x)) (hTp : pTp g 2001 T n) (hn : n ≤ 1100) (hok : xOk n x) (hw : wfB B) (hQ : pMt g mb B Nm nl) (hmb : 10000 ≤ mb) (hx9 : B 0 9 ≤ 1) (hnb : xNb x) (hmc : m9 ≤ c9) (hc9 : c9 ≤ 100) : gCt l yX13_begins cX13_begins 3 none 2 0 0 43 [.ref 2000, .int (nI m9), .int (nI c9)] g (gPn (fun g1 => pMr g1 F0 kw (zBd x (zBg T n B (decide (m9 < c9)))) ∧ ∀ j, j ≠ 2000 → g1 j = g j)) := by
  refine gCt.of RX13 (by decide) rfl (lo := [some (.ref 2000), some (.int (nI m9)), some (.int (nI c9))]) 0 rfl (Nat.le_of_ble_eq_true rfl) (fun z E Rt => ?_)
  have hF0_o := hF0
  obtain ⟨hF0_4, hF0_5, hF0_7⟩ := hF0_o
  have hM_o := hM
  obtain ⟨hM_F, hM_a, hM_r, hM_s⟩ := hM_o
  have hTp_o := hTp
  obtain ⟨hTp_f, hTp_a, hTp_b⟩ := hTp_o
  have hw_n := hw.1
  have hQ_o := hQ
  obtain ⟨⟨hQ_F, hQ_a, hQ_0, hQ_1, hQ_2, hQ_3, hQ_4, hQ_5, hQ_6, hQ_7, hQ_8, hQ_9, hQ_10, hQ_11, hQ_12, hQ_13, hQ_14, hQ_15, hQ_16, hQ_17, hQ_18, hQ_19, hQ_20, hQ_21, hQ_22, hQ_23, hQ_24, hQ_25, hQ_26, hQ_27, hQ_28, hQ_29, hQ_30, hQ_31, hQ_32, hQ_33, hQ_34⟩, ⟨⟨hQ_f1, hQ_a1, hQ_b1⟩, ⟨hQ_f2, hQ_a2, hQ_b2⟩, ⟨hQ_f3, hQ_a3, hQ_b3⟩, ⟨hQ_f4, hQ_a4, hQ_b4⟩, ⟨hQ_f5, hQ_a5, hQ_b5⟩, ⟨hQ_f6, hQ_a6, hQ_b6⟩, ⟨hQ_f7, hQ_a7, hQ_b7⟩, ⟨hQ_f8, hQ_a8, hQ_b8⟩, ⟨hQ_f9, hQ_a9, hQ_b9⟩, ⟨hQ_f10, hQ_a10, hQ_b10⟩, ⟨hQ_f11, hQ_a11, hQ_b11⟩, ⟨hQ_f12, hQ_a12, hQ_b12⟩, ⟨hQ_f13, hQ_a13, hQ_b13⟩, ⟨hQ_f14, hQ_a14, hQ_b14⟩, ⟨hQ_f15, hQ_a15, hQ_b15⟩, ⟨hQ_f16, hQ_a16, hQ_b16⟩, ⟨hQ_f17, hQ_a17, hQ_b17⟩, ⟨hQ_f18, hQ_a18, hQ_b18⟩, ⟨hQ_f19, hQ_a19, hQ_b19⟩, ⟨hQ_f20, hQ_a20, hQ_b20⟩, ⟨hQ_f21, hQ_a21, hQ_b21⟩⟩, ⟨hQ_f22, hQ_a22, hQ_b22⟩, ⟨hQ_f23, hQ_a23, hQ_b23⟩, hQ_f24, hQ_a24, hQ_b24⟩ := hQ_o
  refine g_iload_n E dX13_begins_0 rfl rfl rfl ?_
  refine g_iload_n E dX13_begins_1 rfl rfl rfl ?_
  refine g_icmp_ne E dX13_begins_2 (tgt := 10) (by decide) rfl (fun c2 => ?_) (fun c2 => ?_)
  · have c2 := mt (nI_eq (a := m9) (b := c9) (by omega) (by omega)).mpr c2
    refine g_aload_n E dX13_begins_10 rfl rfl rfl ?_
    refine g_getf E gciX13 dX13_begins_11 hM_a 4 rfl (by decide) q1744 (.inl rfl) (.ref mb) ((hM_r 4 (.inl (by decide))).trans hF0_4) rfl ?_
    refine g_getfN E gciX27 dX13_begins_14 hQ_a 0 rfl (by decide) q1857 (.inl rfl) (.int (if B 0 9 = 1 then nI (B 0 7) else -1)) (hQ_0) rfl ?_
    refine g_iconst E (v := (-1)) dX13_begins_17 (by decide) rfl ?_
    refine g_icmp_ne E dX13_begins_18 (tgt := 27) (by decide) rfl (fun c18 => ?_) (fun c18 => ?_)
    · have ht : B 0 9 = 1 := Classical.byContradiction (fun h9 => c18 (if_neg h9))
      refine g_aload_n E dX13_begins_27 rfl rfl rfl ?_
      refine g_callV (k := 2000) (n9 := 0) (av := []) (st := []) E (ct_X13_goesOn l hF0 hM hTp (by omega) hok hnb) gciX13 dX13_begins_28 hM_a q1989 q1991 qs53 q135 q1992 (by decide +kernel) rfl rfl ⟨by decide, by decide⟩ ⟨by decide, by decide⟩ (Nat.le_of_ble_eq_true rfl) rfl (gPn.k (fun g1 h1 => ?_))
      obtain ⟨hm1, f1⟩ := h1
      obtain ⟨x1, hx1⟩ : ∃ y, y = xGo T n x := ⟨_, rfl⟩
      rw [← hx1] at hm1
      have hm1_o := hm1
      obtain ⟨hm1_F, hm1_a, hm1_r, hm1_s⟩ := hm1_o
      have e2 := bg_x (T := T) (n := n) (x := x) (can := decide (m9 < c9)) hx9
      rw [if_pos ht, if_pos (decide_eq_true (show m9 < c9 by omega)), ← hx1] at e2
      exact g_vret E Rt dX13_begins_31 rfl (by decide) (by decide) (⟨rfl, by rw [← e2]; exact hm1, fun j9 h9 => f1 j9 (by omega)⟩)
    · have ht : ¬ B 0 9 = 1 := fun h9 => nI_m1 (a := B 0 7) (by omega) ((if_pos h9).symm.trans c18)
      refine g_aload_n E dX13_begins_21 rfl rfl rfl ?_
      refine g_bipush E (v := 6) dX13_begins_22 (by decide) rfl ?_
      refine g_callV (k := 2000) (n9 := 1) (av := [.int 6]) (st := []) E (ct_X13_flaw l 6 hM) gciX13 dX13_begins_24 hM_a q2052 q2054 qs59 q135 q2055 (by decide +kernel) rfl rfl ⟨by decide, by decide⟩ ⟨by decide, by decide⟩ (Nat.le_of_ble_eq_true rfl) rfl (gPn.k (fun g3 h3 => ?_))
      obtain ⟨hm3, f3⟩ := h3
      obtain ⟨x3, hx3⟩ : ∃ y, y = xFl 6 x := ⟨_, rfl⟩
      rw [← hx3] at hm3
      have hm3_o := hm3
      obtain ⟨hm3_F, hm3_a, hm3_r, hm3_s⟩ := hm3_o
      refine g_aload_n E dX13_begins_27 rfl rfl rfl ?_
      have y4 := (hTp.fr  (fun j9 a9 b9 => f3 j9 (by omega)))
      refine g_callV (k := 2000) (n9 := 0) (av := []) (st := []) E (ct_X13_goesOn l hF0 hm3 y4 (by omega) (by rw [hx3]; exact xFl_ok) (by rw [hx3]; exact xFl_nb)) gciX13 dX13_begins_28 hm3_a q1989 q1991 qs53 q135 q1992 (by decide +kernel) rfl rfl ⟨by decide, by decide⟩ ⟨by decide, by decide⟩ (Nat.le_of_ble_eq_true rfl) rfl (gPn.k (fun g5 h5 => ?_))
      obtain ⟨hm5, f5⟩ := h5
      obtain ⟨x5, hx5⟩ : ∃ y, y = xGo T n x3 := ⟨_, rfl⟩
      rw [← hx5] at hm5
      have hm5_o := hm5
      obtain ⟨hm5_F, hm5_a, hm5_r, hm5_s⟩ := hm5_o
      have e6 := bg_x (T := T) (n := n) (x := x) (can := decide (m9 < c9)) hx9
      rw [if_neg ht, if_pos (decide_eq_true (show m9 < c9 by omega)), ← hx3, ← hx5] at e6
      exact g_vret E Rt dX13_begins_31 rfl (by decide) (by decide) (⟨rfl, by rw [← e6]; exact hm5, fun j9 h9 => (f5 j9 (by omega)).trans (f3 j9 (by omega))⟩)
  · have c2 := (nI_eq (a := m9) (b := c9) (by omega) (by omega)).mp c2
    refine g_aload_n E dX13_begins_5 rfl rfl rfl ?_
    refine g_iconst E (v := 5) dX13_begins_6 (by decide) rfl ?_
    refine g_callV (k := 2000) (n9 := 1) (av := [.int 5]) (st := []) E (ct_X13_flaw l 5 hM) gciX13 dX13_begins_7 hM_a q2052 q2054 qs59 q135 q2055 (by decide +kernel) rfl rfl ⟨by decide, by decide⟩ ⟨by decide, by decide⟩ (Nat.le_of_ble_eq_true rfl) rfl (gPn.k (fun g7 h7 => ?_))
    obtain ⟨hm7, f7⟩ := h7
    obtain ⟨x7, hx7⟩ : ∃ y, y = xFl 5 x := ⟨_, rfl⟩
    rw [← hx7] at hm7
    have hm7_o := hm7
    obtain ⟨hm7_F, hm7_a, hm7_r, hm7_s⟩ := hm7_o
    refine g_aload_n E dX13_begins_10 rfl rfl rfl ?_
    refine g_getf E gciX13 dX13_begins_11 hm7_a 4 rfl (by decide) q1744 (.inl rfl) (.ref mb) ((hm7_r 4 (.inl (by decide))).trans hF0_4) rfl ?_
    have x8 := (f7 (mb) (by omega)).trans (hQ_a)
    refine g_getfN E gciX27 dX13_begins_14 x8 0 rfl (by decide) q1857 (.inl rfl) (.int (if B 0 9 = 1 then nI (B 0 7) else -1)) (hQ_0) rfl ?_
    refine g_iconst E (v := (-1)) dX13_begins_17 (by decide) rfl ?_
    refine g_icmp_ne E dX13_begins_18 (tgt := 27) (by decide) rfl (fun c18 => ?_) (fun c18 => ?_)
    · have ht : B 0 9 = 1 := Classical.byContradiction (fun h9 => c18 (if_neg h9))
      refine g_aload_n E dX13_begins_27 rfl rfl rfl ?_
      have y9 := (hTp.fr  (fun j9 a9 b9 => f7 j9 (by omega)))
      refine g_callV (k := 2000) (n9 := 0) (av := []) (st := []) E (ct_X13_goesOn l hF0 hm7 y9 (by omega) (by rw [hx7]; exact xFl_ok) (by rw [hx7]; exact xFl_nb)) gciX13 dX13_begins_28 hm7_a q1989 q1991 qs53 q135 q1992 (by decide +kernel) rfl rfl ⟨by decide, by decide⟩ ⟨by decide, by decide⟩ (Nat.le_of_ble_eq_true rfl) rfl (gPn.k (fun g10 h10 => ?_))
      obtain ⟨hm10, f10⟩ := h10
      obtain ⟨x10, hx10⟩ : ∃ y, y = xGo T n x7 := ⟨_, rfl⟩
      rw [← hx10] at hm10
      have hm10_o := hm10
      obtain ⟨hm10_F, hm10_a, hm10_r, hm10_s⟩ := hm10_o
      have e11 := bg_x (T := T) (n := n) (x := x) (can := decide (m9 < c9)) hx9
      rw [if_pos ht, if_neg (by rw [decide_eq_false (show ¬ m9 < c9 by omega)]; exact Bool.false_ne_true), ← hx7, ← hx10] at e11
      exact g_vret E Rt dX13_begins_31 rfl (by decide) (by decide) (⟨rfl, by rw [← e11]; exact hm10, fun j9 h9 => (f10 j9 (by omega)).trans (f7 j9 (by omega))⟩)
    · have ht : ¬ B 0 9 = 1 := fun h9 => nI_m1 (a := B 0 7) (by omega) ((if_pos h9).symm.trans c18)
      refine g_aload_n E dX13_begins_21 rfl rfl rfl ?_
      refine g_bipush E (v := 6) dX13_begins_22 (by decide) rfl ?_
      refine g_callV (k := 2000) (n9 := 1) (av := [.int 6]) (st := []) E (ct_X13_flaw l 6 hm7) gciX13 dX13_begins_24 hm7_a q2052 q2054 qs59 q135 q2055 (by decide +kernel) rfl rfl ⟨by decide, by decide⟩ ⟨by decide, by decide⟩ (Nat.le_of_ble_eq_true rfl) rfl (gPn.k (fun g12 h12 => ?_))
      obtain ⟨hm12, f12⟩ := h12
      obtain ⟨x12, hx12⟩ : ∃ y, y = xFl 6 x7 := ⟨_, rfl⟩
      rw [← hx12] at hm12
      have hm12_o := hm12
      obtain ⟨hm12_F, hm12_a, hm12_r, hm12_s⟩ := hm12_o
      refine g_aload_n E dX13_begins_27 rfl rfl rfl ?_
      have y13 := ((hTp.fr  (fun j9 a9 b9 => f7 j9 (by omega))).fr  (fun j9 a9 b9 => f12 j9 (by omega)))
      refine g_callV (k := 2000) (n9 := 0) (av := []) (st := []) E (ct_X13_goesOn l hF0 hm12 y13 (by omega) (by rw [hx12]; exact xFl_ok) (by rw [hx12]; exact xFl_nb)) gciX13 dX13_begins_28 hm12_a q1989 q1991 qs53 q135 q1992 (by decide +kernel) rfl rfl ⟨by decide, by decide⟩ ⟨by decide, by decide⟩ (Nat.le_of_ble_eq_true rfl) rfl (gPn.k (fun g14 h14 => ?_))
      obtain ⟨hm14, f14⟩ := h14
      obtain ⟨x14, hx14⟩ : ∃ y, y = xGo T n x12 := ⟨_, rfl⟩
      rw [← hx14] at hm14
      have hm14_o := hm14
      obtain ⟨hm14_F, hm14_a, hm14_r, hm14_s⟩ := hm14_o
      have e15 := bg_x (T := T) (n := n) (x := x) (can := decide (m9 < c9)) hx9
      rw [if_neg ht, if_neg (by rw [decide_eq_false (show ¬ m9 < c9 by omega)]; exact Bool.false_ne_true), ← hx7, ← hx12, ← hx14] at e15
      exact g_vret E Rt dX13_begins_31 rfl (by decide) (by decide) (⟨rfl, by rw [← e15]; exact hm14, fun j9 h9 => ((f14 j9 (by omega)).trans (f12 j9 (by omega))).trans (f7 j9 (by omega))⟩)
