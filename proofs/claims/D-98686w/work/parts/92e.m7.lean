/-! WALKS, seventh: nearest, the best good, search -/
set_option maxRecDepth 100000
set_option maxHeartbeats 1000000 in
theorem ct_X1_nearest (l : Launch) {g : gWM} {bb : Nat} {B : gBar} {R : Nat → Int32} {d : Int32} {tp mm um : Nat} {tr fa wh : Int32} (p : Int32) (q : Int32) (dy : Int32) (hw : wfB B) (hSo : pSo g (.ref bb) tp tr fa wh mm um) (hLd : pLd g 1010 (.ref bb) B R d) (hBr : pBr g bb B) (hL1 : pLw g 1005 1) (hL2 : pLw g 1006 2) (hb9 : 10000 ≤ bb) : gCt l yX1_nearest cX1_nearest 8 (some .int) 5 0 0 115 [.ref 1000, .int p, .int q, .int dy] g (gPi (sNea B R d p q dy).1 (fun g1 => pSo g1 (.ref bb) tp (sNea B R d p q dy).2 fa (-1) mm um ∧ ∀ j, j ≠ 1000 → g1 j = g j)) := by
  refine gCt.of RX1 (by decide) rfl (lo := [some (.ref 1000), some (.int p), some (.int q), some (.int dy), none, none, none, none]) 4 rfl (Nat.le_of_ble_eq_true rfl) (fun z E Rt => ?_)
  have hw_n := hw.1
  have hSo_o := hSo
  obtain ⟨hSo_F, hSo_a, hSo_0, hSo_1, hSo_2, hSo_3, hSo_4, hSo_5, hSo_6, hSo_7, hSo_8, hSo_9, hSo_10, hSo_11, hSo_12, hSo_13, hSo_14, hSo_15, hSo_16, hSo_17, hSo_18, hSo_19⟩ := hSo_o
  have hLd_o := hLd
  obtain ⟨⟨hLd_F, hLd_a, hLd_0, hLd_1, hLd_2, hLd_3, hLd_4, hLd_5⟩, ⟨hLd_s, hLd_sa, hLd_sb⟩, ⟨hLd_e, hLd_ea, hLd_eb⟩, hLd_p, hLd_pa, hLd_pb⟩ := hLd_o
  have hBr_o := hBr
  obtain ⟨⟨hBr_F, hBr_a, hBr_0, hBr_1, hBr_2, hBr_3, hBr_4, hBr_5, hBr_6, hBr_7, hBr_8, hBr_9, hBr_10, hBr_11, hBr_12, hBr_13, hBr_14, hBr_15⟩, ⟨hBr_f1, hBr_a1, hBr_b1⟩, ⟨hBr_f2, hBr_a2, hBr_b2⟩, ⟨hBr_f3, hBr_a3, hBr_b3⟩, ⟨hBr_f4, hBr_a4, hBr_b4⟩, ⟨hBr_f5, hBr_a5, hBr_b5⟩, ⟨hBr_f6, hBr_a6, hBr_b6⟩, ⟨hBr_f7, hBr_a7, hBr_b7⟩, hBr_c1, hBr_c2, hBr_c3, hBr_c4, hBr_c5⟩ := hBr_o
  refine g_aload_n E dX1_nearest_0 rfl rfl rfl ?_
  refine g_callV (k := 1000) (n9 := 0) (av := []) (st := []) E (ct_X1_anew l hSo) gciX1 dX1_nearest_1 hSo_a q496 q498 qs2 q120 q499 (by decide +kernel) rfl rfl ⟨by decide, by decide⟩ ⟨by decide, by decide⟩ (Nat.le_of_ble_eq_true rfl) rfl (gPn.k (fun g1 h1 => ?_))
  obtain ⟨hs1, f1⟩ := h1
  have hs1_o := hs1
  obtain ⟨hs1_F, hs1_a, hs1_0, hs1_1, hs1_2, hs1_3, hs1_4, hs1_5, hs1_6, hs1_7, hs1_8, hs1_9, hs1_10, hs1_11, hs1_12, hs1_13, hs1_14, hs1_15, hs1_16, hs1_17, hs1_18, hs1_19⟩ := hs1_o
  refine g_aload_n E dX1_nearest_4 rfl rfl rfl ?_
  refine g_iload_n E dX1_nearest_5 rfl rfl rfl ?_
  refine g_iload_n E dX1_nearest_6 rfl rfl rfl ?_
  refine g_iload_n E dX1_nearest_7 rfl rfl rfl ?_
  have y2 := (hBr.fr hw (fun j9 a9 b9 => f1 j9 (by omega)))
  refine g_callV (k := 1000) (n9 := 3) (av := [.int p, .int q, .int dy]) (st := []) E (ct_X1_crossWhy l p q dy hw hs1 y2) gciX1 dX1_nearest_8 hs1_a q1396 q1398 qs38 q120 q1399 (by decide +kernel) rfl rfl ⟨by decide, by decide⟩ ⟨by decide, by decide⟩ (Nat.le_of_ble_eq_true rfl) rfl (gPu.k ?_)
  refine g_istore E dX1_nearest_11 (by decide) rfl (lo1 := [some (.ref 1000), some (.int p), some (.int q), some (.int dy), some (.int (qWy ((qI (B 0 1) p).isSome && (qI (B 0 2) q).isSome) dy)), none, none, none]) rfl rfl ?_
  refine g_iload E dX1_nearest_13 rfl rfl ?_
  refine g_if_eq E dX1_nearest_15 (tgt := 25) (by decide) rfl (fun c15 => ?_) (fun c15 => ?_)
  · have q3 := (qWy_0.mp c15).1
    have q3_z := (qWy_0.mp c15).2
    have q4 := (Bool.and_eq_true_iff).mp q3
    obtain ⟨t, q5⟩ := isSome_of q4.1
    obtain ⟨rfl, q5_l⟩ := qI_some (by omega) q5
    obtain ⟨k9, q6⟩ := isSome_of q4.2
    obtain ⟨rfl, q6_l⟩ := qI_some (by omega) q6
    refine g_aload_n E dX1_nearest_25 rfl rfl rfl ?_
    refine g_getf E gciX1 dX1_nearest_26 hs1_a 9 rfl (by decide) q431 (.inl rfl) (.ref 1010) (hs1_9) rfl ?_
    refine g_iload_n E dX1_nearest_29 rfl rfl rfl ?_
    have x7 := (f1 (1010) (by omega)).trans (hLd_a)
    have y8 := (hLd.fr  (fun j9 a9 b9 => f1 j9 (by omega)))
    refine g_callV (k := 1010) (n9 := 1) (av := [.int (nI t)]) (st := []) E (ct_X4_has l t hw y8 y2 (by omega)) gciX4 dX1_nearest_30 x7 q1329 q1160 q1161 q126 q1162 (by decide +kernel) rfl rfl ⟨by decide, by decide⟩ ⟨by decide, by decide⟩ (Nat.le_of_ble_eq_true rfl) rfl (gPu.k ?_)
    refine g_aload_n E dX1_nearest_33 rfl rfl rfl ?_
    refine g_getf E gciX1 dX1_nearest_34 hs1_a 9 rfl (by decide) q431 (.inl rfl) (.ref 1010) (hs1_9) rfl ?_
    refine g_getf E gciX4 dX1_nearest_37 x7 4 rfl (by decide) q295 (.inl rfl) (.int (R 16)) (hLd_4) rfl ?_
    refine g_iand E dX1_nearest_40 rfl ?_
    refine g_aload_n E dX1_nearest_41 rfl rfl rfl ?_
    refine g_getf E gciX1 dX1_nearest_42 hs1_a 9 rfl (by decide) q431 (.inl rfl) (.ref 1010) (hs1_9) rfl ?_
    refine g_iload_n E dX1_nearest_45 rfl rfl rfl ?_
    refine g_iload_n E dX1_nearest_46 rfl rfl rfl ?_
    refine g_aload_n E dX1_nearest_47 rfl rfl rfl ?_
    refine g_iload_n E dX1_nearest_48 rfl rfl rfl ?_
    refine g_callV (k := 1000) (n9 := 1) (av := [.int dy]) (st := [.int (nI k9), .int (nI t), .ref 1010, .int ((zHas B R t) &&& (R 16))]) E (ct_X1_on l dy hw hs1 y8 y2) gciX1 dX1_nearest_49 hs1_a q1346 q1348 qs37 q120 q1349 (by decide +kernel) rfl rfl ⟨by decide, by decide⟩ ⟨by decide, by decide⟩ (Nat.le_of_ble_eq_true rfl) rfl (gPu.k ?_)
    refine g_callV (k := 1010) (n9 := 3) (av := [.int (nI t), .int (nI k9), .int (d + dy)]) (st := [.int ((zHas B R t) &&& (R 16))]) E (ct_X4_found l t k9 (d + dy) hw y8 y2 (by omega) (by omega)) gciX4 dX1_nearest_52 x7 q1404 q1234 q1235 q126 q1236 (by decide +kernel) rfl rfl ⟨by decide, by decide⟩ ⟨by decide, by decide⟩ (Nat.le_of_ble_eq_true rfl) rfl (gPu.k ?_)
    refine g_iconst E (v := (-1)) dX1_nearest_55 (by decide) rfl ?_
    refine g_ixor E dX1_nearest_56 rfl ?_
    refine g_iand E dX1_nearest_57 rfl ?_
    refine g_istore E dX1_nearest_58 (by decide) rfl (lo1 := [some (.ref 1000), some (.int (nI t)), some (.int (nI k9)), some (.int dy), some (.int (qWy ((qI (B 0 1) (nI t)).isSome && (qI (B 0 2) (nI k9)).isSome) dy)), some (.int (((zHas B R t) &&& (R 16)) &&& ((zFou B R t k9 (d + dy) 0) ^^^ (-1)))), none, none]) rfl rfl ?_
    refine g_bipush E (v := (-2)) dX1_nearest_60 (by decide) rfl ?_
    refine g_istore E dX1_nearest_62 (by decide) rfl (lo1 := [some (.ref 1000), some (.int (nI t)), some (.int (nI k9)), some (.int dy), some (.int (qWy ((qI (B 0 1) (nI t)).isSome && (qI (B 0 2) (nI k9)).isSome) dy)), some (.int (((zHas B R t) &&& (R 16)) &&& ((zFou B R t k9 (d + dy) 0) ^^^ (-1)))), some (.int (-2)), none]) rfl rfl ?_
    refine g_iconst E (v := 0) dX1_nearest_64 (by decide) rfl ?_
    refine g_istore E dX1_nearest_65 (by decide) rfl (lo1 := [some (.ref 1000), some (.int (nI t)), some (.int (nI k9)), some (.int dy), some (.int (qWy ((qI (B 0 1) (nI t)).isSome && (qI (B 0 2) (nI k9)).isSome) dy)), some (.int (((zHas B R t) &&& (R 16)) &&& ((zFou B R t k9 (d + dy) 0) ^^^ (-1)))), some (.int (-2)), some (.int 0)]) rfl rfl ?_
    have lp67 : ∀ (r9 : Nat) (k : Nat), (k ≤ B 0 3) → (B 0 3 - k < r9) → gV z g1 0 0 67 [some (.ref 1000), some (.int (nI t)), some (.int (nI k9)), some (.int dy), some (.int (qWy ((qI (B 0 1) (nI t)).isSome && (qI (B 0 2) (nI k9)).isSome) dy)), some (.int (((zHas B R t) &&& (R 16)) &&& ((zFou B R t k9 (d + dy) 0) ^^^ (-1)))), some (.int (oI (zNe B R t k9 (d + dy) k))), some (.int (nI k))] [] := by
      intro r9
      induction r9 with
      | zero => intro k hk hm; exact absurd hm (Nat.not_lt_zero _)
      | succ r9 ih67 =>
        intro k hk hm
        refine g_iload E dX1_nearest_67 rfl rfl ?_
        refine g_aload_n E dX1_nearest_69 rfl rfl rfl ?_
        refine g_getf E gciX1 dX1_nearest_70 hs1_a 3 rfl (by decide) q425 (.inl rfl) (.ref bb) (hs1_3) rfl ?_
        have x9 := (f1 (bb) (by omega)).trans (hBr_a)
        refine g_getf E gciX14 dX1_nearest_73 x9 12 rfl (by decide) q572 (.inl rfl) (.int (nI (B 0 3))) (hBr_12) rfl ?_
        refine g_icmp_ge E dX1_nearest_76 (tgt := 137) (by decide) rfl (fun c76 => ?_) (fun c76 => ?_)
        · have c76 := (nI_leI (a := B 0 3) (b := k) (by omega) (by omega)).mp c76
          obtain rfl : k = B 0 3 := by omega
          refine g_iload E dX1_nearest_137 rfl rfl ?_
          have hs10 : sNea B R d (nI t) (nI k9) dy = (oI (zNe B R t k9 (d + dy) (B 0 3)), 0) := by first | (simp [sNea, sX, c15, q5, q6, q3_z, c76]; done) | (simp [sNea, sX, c15, q5, q6, q3_z, c76, qWy]; done)
          exact g_iret E Rt dX1_nearest_139 rfl (by decide) (by decide) (by rw [hs10]; exact ⟨rfl, ⟨_, hs1_a, hs1_0, hs1_1, hs1_2, hs1_3, hs1_4, hs1_5, hs1_6, hs1_7, hs1_8, hs1_9, hs1_10, hs1_11, hs1_12, hs1_13, hs1_14, hs1_15, hs1_16, hs1_17, hs1_18, hs1_19⟩, fun j9 h9 => f1 j9 (by omega)⟩)
        · have c76 := mt (nI_leI (a := B 0 3) (b := k) (by omega) (by omega)).mpr c76
          refine g_iload E dX1_nearest_79 rfl rfl ?_
          refine g_iload E dX1_nearest_81 rfl rfl ?_
          refine g_callS (n9 := 2) (av := [.int (((zHas B R t) &&& (R 16)) &&& ((zFou B R t k9 (d + dy) 0) ^^^ (-1))), .int (nI k)]) (st := []) E (ct_X1_has l (((zHas B R t) &&& (R 16)) &&& ((zFou B R t k9 (d + dy) 0) ^^^ (-1))) k) dX1_nearest_83 q1316 q1164 q120 q1165 (by decide +kernel) rfl rfl ⟨by decide, by decide⟩ ⟨by decide, by decide⟩ (Nat.le_of_ble_eq_true rfl) rfl (gPu.k ?_)
          refine g_as (y := zb (zSf B R t k9 (d + dy) k)) (by rw [zBit_and (by omega), zBit_and (by omega), zBit_has (by omega) (by omega), zBit_not (by omega), zBit_fou (by omega) (by omega)]; rfl) ?_
          refine g_if_eq E dX1_nearest_86 (tgt := 131) (by decide) rfl (fun c86 => ?_) (fun c86 => ?_)
          · have c86 := zb_0.mp c86
            have h9 : zNe B R t k9 (d + dy) (k + 1) = zNe B R t k9 (d + dy) k := by simp [zNe, c86]
            refine g_lo (lo1 := [some (.ref 1000), some (.int (nI t)), some (.int (nI k9)), some (.int dy), some (.int (qWy ((qI (B 0 1) (nI t)).isSome && (qI (B 0 2) (nI k9)).isSome) dy)), some (.int (((zHas B R t) &&& (R 16)) &&& ((zFou B R t k9 (d + dy) 0) ^^^ (-1)))), some (.int (oI (zNe B R t k9 (d + dy) (k + 1)))), some (.int (nI k))]) (by rw [h9]) ?_
            refine g_iinc E dX1_nearest_131 rfl (v := nI (k + 1)) (nI_c _) (by decide) rfl (lo1 := [some (.ref 1000), some (.int (nI t)), some (.int (nI k9)), some (.int dy), some (.int (qWy ((qI (B 0 1) (nI t)).isSome && (qI (B 0 2) (nI k9)).isSome) dy)), some (.int (((zHas B R t) &&& (R 16)) &&& ((zFou B R t k9 (d + dy) 0) ^^^ (-1)))), some (.int (oI (zNe B R t k9 (d + dy) (k + 1)))), some (.int (nI (k + 1)))]) rfl rfl ?_
            refine g_goto E dX1_nearest_134 (tgt := 67) (by decide) ?_
            exact ih67 (k + 1) (by omega) (by omega)
          · have c86 := zb_n0.mp c86
            refine g_iload E dX1_nearest_89 rfl rfl ?_
            refine g_bipush E (v := (-2)) dX1_nearest_91 (by decide) rfl ?_
            refine g_icmp_eq E dX1_nearest_93 (tgt := 127) (by decide) rfl (fun c93 => ?_) (fun c93 => ?_)
            · have c93 := oI_none (n := k) (by omega) (fun i9 h9 => zNe_lt h9) c93
              refine g_iload E dX1_nearest_127 rfl rfl ?_
              refine g_istore E dX1_nearest_129 (by decide) rfl (lo1 := [some (.ref 1000), some (.int (nI t)), some (.int (nI k9)), some (.int dy), some (.int (qWy ((qI (B 0 1) (nI t)).isSome && (qI (B 0 2) (nI k9)).isSome) dy)), some (.int (((zHas B R t) &&& (R 16)) &&& ((zFou B R t k9 (d + dy) 0) ^^^ (-1)))), some (.int (nI k)), some (.int (nI k))]) rfl rfl ?_
              have h9 : zNe B R t k9 (d + dy) (k + 1) = some k := by simp [zNe, c86, c93]
              refine g_lo (lo1 := [some (.ref 1000), some (.int (nI t)), some (.int (nI k9)), some (.int dy), some (.int (qWy ((qI (B 0 1) (nI t)).isSome && (qI (B 0 2) (nI k9)).isSome) dy)), some (.int (((zHas B R t) &&& (R 16)) &&& ((zFou B R t k9 (d + dy) 0) ^^^ (-1)))), some (.int (oI (zNe B R t k9 (d + dy) (k + 1)))), some (.int (nI k))]) (by rw [h9]; rfl) ?_
              refine g_iinc E dX1_nearest_131 rfl (v := nI (k + 1)) (nI_c _) (by decide) rfl (lo1 := [some (.ref 1000), some (.int (nI t)), some (.int (nI k9)), some (.int dy), some (.int (qWy ((qI (B 0 1) (nI t)).isSome && (qI (B 0 2) (nI k9)).isSome) dy)), some (.int (((zHas B R t) &&& (R 16)) &&& ((zFou B R t k9 (d + dy) 0) ^^^ (-1)))), some (.int (oI (zNe B R t k9 (d + dy) (k + 1)))), some (.int (nI (k + 1)))]) rfl rfl ?_
              refine g_goto E dX1_nearest_134 (tgt := 67) (by decide) ?_
              exact ih67 (k + 1) (by omega) (by omega)
            · obtain ⟨i, hi⟩ := oI_some c93
              have hil := zNe_lt hi
              refine g_lo (lo1 := [some (.ref 1000), some (.int (nI t)), some (.int (nI k9)), some (.int dy), some (.int (qWy ((qI (B 0 1) (nI t)).isSome && (qI (B 0 2) (nI k9)).isSome) dy)), some (.int (((zHas B R t) &&& (R 16)) &&& ((zFou B R t k9 (d + dy) 0) ^^^ (-1)))), some (.int (nI i)), some (.int (nI k))]) (by rw [hi]; rfl) ?_
              refine g_aload_n E dX1_nearest_96 rfl rfl rfl ?_
              refine g_getf E gciX1 dX1_nearest_97 hs1_a 9 rfl (by decide) q431 (.inl rfl) (.ref 1010) (hs1_9) rfl ?_
              refine g_iload E dX1_nearest_100 rfl rfl ?_
              refine g_aload_n E dX1_nearest_102 rfl rfl rfl ?_
              refine g_iload_n E dX1_nearest_103 rfl rfl rfl ?_
              refine g_callV (k := 1000) (n9 := 1) (av := [.int dy]) (st := [.int (nI k), .ref 1010]) E (ct_X1_on l dy hw hs1 y8 y2) gciX1 dX1_nearest_104 hs1_a q1346 q1348 qs37 q120 q1349 (by decide +kernel) rfl rfl ⟨by decide, by decide⟩ ⟨by decide, by decide⟩ (Nat.le_of_ble_eq_true rfl) rfl (gPu.k ?_)
              refine g_callV (k := 1010) (n9 := 2) (av := [.int (nI k), .int (d + dy)]) (st := []) E (ct_X4_smell l k (d + dy) hw y8 y2 (by omega)) gciX4 dX1_nearest_107 x7 q1386 q1168 q1169 q126 q1170 (by decide +kernel) rfl rfl ⟨by decide, by decide⟩ ⟨by decide, by decide⟩ (Nat.le_of_ble_eq_true rfl) rfl (gPu.k ?_)
              refine g_aload_n E dX1_nearest_110 rfl rfl rfl ?_
              refine g_getf E gciX1 dX1_nearest_111 hs1_a 9 rfl (by decide) q431 (.inl rfl) (.ref 1010) (hs1_9) rfl ?_
              refine g_iload E dX1_nearest_114 rfl rfl ?_
              refine g_aload_n E dX1_nearest_116 rfl rfl rfl ?_
              refine g_iload_n E dX1_nearest_117 rfl rfl rfl ?_
              refine g_callV (k := 1000) (n9 := 1) (av := [.int dy]) (st := [.int (nI i), .ref 1010, .int (zSme B R k (d + dy) 0)]) E (ct_X1_on l dy hw hs1 y8 y2) gciX1 dX1_nearest_118 hs1_a q1346 q1348 qs37 q120 q1349 (by decide +kernel) rfl rfl ⟨by decide, by decide⟩ ⟨by decide, by decide⟩ (Nat.le_of_ble_eq_true rfl) rfl (gPu.k ?_)
              refine g_callV (k := 1010) (n9 := 2) (av := [.int (nI i), .int (d + dy)]) (st := [.int (zSme B R k (d + dy) 0)]) E (ct_X4_smell l i (d + dy) hw y8 y2 (by omega)) gciX4 dX1_nearest_121 x7 q1386 q1168 q1169 q126 q1170 (by decide +kernel) rfl rfl ⟨by decide, by decide⟩ ⟨by decide, by decide⟩ (Nat.le_of_ble_eq_true rfl) rfl (gPu.k ?_)
              refine g_icmp_le E dX1_nearest_124 (tgt := 131) (by decide) rfl (fun c124 => ?_) (fun c124 => ?_)
              · have h9 : zNe B R t k9 (d + dy) (k + 1) = some i := by simp [zNe, c86, hi, c124]
                refine g_lo (lo1 := [some (.ref 1000), some (.int (nI t)), some (.int (nI k9)), some (.int dy), some (.int (qWy ((qI (B 0 1) (nI t)).isSome && (qI (B 0 2) (nI k9)).isSome) dy)), some (.int (((zHas B R t) &&& (R 16)) &&& ((zFou B R t k9 (d + dy) 0) ^^^ (-1)))), some (.int (oI (zNe B R t k9 (d + dy) (k + 1)))), some (.int (nI k))]) (by rw [h9]; rfl) ?_
                refine g_iinc E dX1_nearest_131 rfl (v := nI (k + 1)) (nI_c _) (by decide) rfl (lo1 := [some (.ref 1000), some (.int (nI t)), some (.int (nI k9)), some (.int dy), some (.int (qWy ((qI (B 0 1) (nI t)).isSome && (qI (B 0 2) (nI k9)).isSome) dy)), some (.int (((zHas B R t) &&& (R 16)) &&& ((zFou B R t k9 (d + dy) 0) ^^^ (-1)))), some (.int (oI (zNe B R t k9 (d + dy) (k + 1)))), some (.int (nI (k + 1)))]) rfl rfl ?_
                refine g_goto E dX1_nearest_134 (tgt := 67) (by decide) ?_
                exact ih67 (k + 1) (by omega) (by omega)
              · refine g_iload E dX1_nearest_127 rfl rfl ?_
                refine g_istore E dX1_nearest_129 (by decide) rfl (lo1 := [some (.ref 1000), some (.int (nI t)), some (.int (nI k9)), some (.int dy), some (.int (qWy ((qI (B 0 1) (nI t)).isSome && (qI (B 0 2) (nI k9)).isSome) dy)), some (.int (((zHas B R t) &&& (R 16)) &&& ((zFou B R t k9 (d + dy) 0) ^^^ (-1)))), some (.int (nI k)), some (.int (nI k))]) rfl rfl ?_
                have h9 : zNe B R t k9 (d + dy) (k + 1) = some k := by simp [zNe, c86, hi, c124]
                refine g_lo (lo1 := [some (.ref 1000), some (.int (nI t)), some (.int (nI k9)), some (.int dy), some (.int (qWy ((qI (B 0 1) (nI t)).isSome && (qI (B 0 2) (nI k9)).isSome) dy)), some (.int (((zHas B R t) &&& (R 16)) &&& ((zFou B R t k9 (d + dy) 0) ^^^ (-1)))), some (.int (oI (zNe B R t k9 (d + dy) (k + 1)))), some (.int (nI k))]) (by rw [h9]; rfl) ?_
                refine g_iinc E dX1_nearest_131 rfl (v := nI (k + 1)) (nI_c _) (by decide) rfl (lo1 := [some (.ref 1000), some (.int (nI t)), some (.int (nI k9)), some (.int dy), some (.int (qWy ((qI (B 0 1) (nI t)).isSome && (qI (B 0 2) (nI k9)).isSome) dy)), some (.int (((zHas B R t) &&& (R 16)) &&& ((zFou B R t k9 (d + dy) 0) ^^^ (-1)))), some (.int (oI (zNe B R t k9 (d + dy) (k + 1)))), some (.int (nI (k + 1)))]) rfl rfl ?_
                refine g_goto E dX1_nearest_134 (tgt := 67) (by decide) ?_
                exact ih67 (k + 1) (by omega) (by omega)
    exact lp67 ((B 0 3) + 1) 0 (Nat.zero_le _) (Nat.lt_succ_of_le (Nat.sub_le _ _))
  · refine g_aload_n E dX1_nearest_18 rfl rfl rfl ?_
    refine g_iload E dX1_nearest_19 rfl rfl ?_
    refine g_callV (k := 1000) (n9 := 1) (av := [.int (qWy ((qI (B 0 1) p).isSome && (qI (B 0 2) q).isSome) dy)]) (st := []) E (ct_X1_no l (qWy ((qI (B 0 1) p).isSome && (qI (B 0 2) q).isSome) dy) hs1) gciX1 dX1_nearest_21 hs1_a q503 q505 qs3 q120 q506 (by decide +kernel) rfl rfl ⟨by decide, by decide⟩ ⟨by decide, by decide⟩ (Nat.le_of_ble_eq_true rfl) rfl (gPi.k (fun g11 h11 => ?_))
    obtain ⟨hs11, f11⟩ := h11
    have hs11_o := hs11
    obtain ⟨hs11_F, hs11_a, hs11_0, hs11_1, hs11_2, hs11_3, hs11_4, hs11_5, hs11_6, hs11_7, hs11_8, hs11_9, hs11_10, hs11_11, hs11_12, hs11_13, hs11_14, hs11_15, hs11_16, hs11_17, hs11_18, hs11_19⟩ := hs11_o
    have hs12 : sNea B R d p q dy = ((-1), qWy ((qI (B 0 1) p).isSome && (qI (B 0 2) q).isSome) dy) := by first | (simp [sNea, sX, c15]; done) | (simp [sNea, sX, c15, qWy]; done)
    exact g_iret E Rt dX1_nearest_24 rfl (by decide) (by decide) (by rw [hs12]; exact ⟨rfl, ⟨_, hs11_a, hs11_0, hs11_1, hs11_2, hs11_3, hs11_4, hs11_5, hs11_6, hs11_7, hs11_8, hs11_9, hs11_10, hs11_11, hs11_12, hs11_13, hs11_14, hs11_15, hs11_16, hs11_17, hs11_18, hs11_19⟩, fun j9 h9 => (f11 j9 (by omega)).trans (f1 j9 (by omega))⟩)
set_option maxHeartbeats 1000000 in
theorem ct_X1_nearest_N (l : Launch) {g : gWM} {tp mm um : Nat} {tr fa wh : Int32} (p : Int32) (q : Int32) (dy : Int32) (hSo : pSo g .null tp tr fa wh mm um) : gCt l yX1_nearest cX1_nearest 8 (some .int) 3 0 0 67 [.ref 1000, .int p, .int q, .int dy] g (gPi (sNea zB0 (fun _ => 0) 0 p q dy).1 (fun g1 => pSo g1 .null tp (sNea zB0 (fun _ => 0) 0 p q dy).2 fa (-1) mm um ∧ ∀ j, j ≠ 1000 → g1 j = g j)) := by
  refine gCt.of RX1 (by decide) rfl (lo := [some (.ref 1000), some (.int p), some (.int q), some (.int dy), none, none, none, none]) 4 rfl (Nat.le_of_ble_eq_true rfl) (fun z E Rt => ?_)
  have hSo_o := hSo
  obtain ⟨hSo_F, hSo_a, hSo_0, hSo_1, hSo_2, hSo_3, hSo_4, hSo_5, hSo_6, hSo_7, hSo_8, hSo_9, hSo_10, hSo_11, hSo_12, hSo_13, hSo_14, hSo_15, hSo_16, hSo_17, hSo_18, hSo_19⟩ := hSo_o
  refine g_aload_n E dX1_nearest_0 rfl rfl rfl ?_
  refine g_callV (k := 1000) (n9 := 0) (av := []) (st := []) E (ct_X1_anew l hSo) gciX1 dX1_nearest_1 hSo_a q496 q498 qs2 q120 q499 (by decide +kernel) rfl rfl ⟨by decide, by decide⟩ ⟨by decide, by decide⟩ (Nat.le_of_ble_eq_true rfl) rfl (gPn.k (fun g1 h1 => ?_))
  obtain ⟨hs1, f1⟩ := h1
  have hs1_o := hs1
  obtain ⟨hs1_F, hs1_a, hs1_0, hs1_1, hs1_2, hs1_3, hs1_4, hs1_5, hs1_6, hs1_7, hs1_8, hs1_9, hs1_10, hs1_11, hs1_12, hs1_13, hs1_14, hs1_15, hs1_16, hs1_17, hs1_18, hs1_19⟩ := hs1_o
  refine g_aload_n E dX1_nearest_4 rfl rfl rfl ?_
  refine g_iload_n E dX1_nearest_5 rfl rfl rfl ?_
  refine g_iload_n E dX1_nearest_6 rfl rfl rfl ?_
  refine g_iload_n E dX1_nearest_7 rfl rfl rfl ?_
  refine g_callV (k := 1000) (n9 := 3) (av := [.int p, .int q, .int dy]) (st := []) E (ct_X1_crossWhy_N l p q dy hs1) gciX1 dX1_nearest_8 hs1_a q1396 q1398 qs38 q120 q1399 (by decide +kernel) rfl rfl ⟨by decide, by decide⟩ ⟨by decide, by decide⟩ (Nat.le_of_ble_eq_true rfl) rfl (gPu.k ?_)
  refine g_istore E dX1_nearest_11 (by decide) rfl (lo1 := [some (.ref 1000), some (.int p), some (.int q), some (.int dy), some (.int 1), none, none, none]) rfl rfl ?_
  refine g_iload E dX1_nearest_13 rfl rfl ?_
  refine g_if_eq E dX1_nearest_15 (tgt := 25) (by decide) rfl (fun h9 => absurd h9 (by decide)) (fun _ => ?_)
  refine g_aload_n E dX1_nearest_18 rfl rfl rfl ?_
  refine g_iload E dX1_nearest_19 rfl rfl ?_
  refine g_callV (k := 1000) (n9 := 1) (av := [.int 1]) (st := []) E (ct_X1_no l 1 hs1) gciX1 dX1_nearest_21 hs1_a q503 q505 qs3 q120 q506 (by decide +kernel) rfl rfl ⟨by decide, by decide⟩ ⟨by decide, by decide⟩ (Nat.le_of_ble_eq_true rfl) rfl (gPi.k (fun g2 h2 => ?_))
  obtain ⟨hs2, f2⟩ := h2
  have hs2_o := hs2
  obtain ⟨hs2_F, hs2_a, hs2_0, hs2_1, hs2_2, hs2_3, hs2_4, hs2_5, hs2_6, hs2_7, hs2_8, hs2_9, hs2_10, hs2_11, hs2_12, hs2_13, hs2_14, hs2_15, hs2_16, hs2_17, hs2_18, hs2_19⟩ := hs2_o
  have hs3 : sNea zB0 (fun _ => 0) 0 p q dy = ((-1), 1) := by first | (simp [sNea, sX, qI_z, qWy]; done) | (simp [sNea, sX, qI_z, qWy, qWy]; done)
  exact g_iret E Rt dX1_nearest_24 rfl (by decide) (by decide) (by rw [hs3]; exact ⟨rfl, ⟨_, hs2_a, hs2_0, hs2_1, hs2_2, hs2_3, hs2_4, hs2_5, hs2_6, hs2_7, hs2_8, hs2_9, hs2_10, hs2_11, hs2_12, hs2_13, hs2_14, hs2_15, hs2_16, hs2_17, hs2_18, hs2_19⟩, fun j9 h9 => (f2 j9 (by omega)).trans (f1 j9 (by omega))⟩)
set_option maxHeartbeats 1000000 in
theorem ct_X1_bestGood (l : Launch) {g : gWM} {bb : Nat} {B : gBar} {R : Nat → Int32} {d : Int32} {tp mm um : Nat} {tr fa wh : Int32}  (hw : wfB B) (hSo : pSo g (.ref bb) tp tr fa wh mm um) (hLd : pLd g 1010 (.ref bb) B R d) (hBr : pBr g bb B) (hL1 : pLw g 1005 1) (hL2 : pLw g 1006 2) (hb9 : 10000 ≤ bb) : gCt l yX1_bestGood cX1_bestGood 6 (some .int) 4 0 0 86 [.ref 1000] g (gPi (sBgo true B R d).1 (fun g1 => pSo g1 (.ref bb) tp (sBgo true B R d).2 fa (-1) mm um ∧ ∀ j, j ≠ 1000 → g1 j = g j)) := by
  refine gCt.of RX1 (by decide) rfl (lo := [some (.ref 1000), none, none, none, none, none]) 5 rfl (Nat.le_of_ble_eq_true rfl) (fun z E Rt => ?_)
  have hw_n := hw.1
  have hSo_o := hSo
  obtain ⟨hSo_F, hSo_a, hSo_0, hSo_1, hSo_2, hSo_3, hSo_4, hSo_5, hSo_6, hSo_7, hSo_8, hSo_9, hSo_10, hSo_11, hSo_12, hSo_13, hSo_14, hSo_15, hSo_16, hSo_17, hSo_18, hSo_19⟩ := hSo_o
  have hLd_o := hLd
  obtain ⟨⟨hLd_F, hLd_a, hLd_0, hLd_1, hLd_2, hLd_3, hLd_4, hLd_5⟩, ⟨hLd_s, hLd_sa, hLd_sb⟩, ⟨hLd_e, hLd_ea, hLd_eb⟩, hLd_p, hLd_pa, hLd_pb⟩ := hLd_o
  have hBr_o := hBr
  obtain ⟨⟨hBr_F, hBr_a, hBr_0, hBr_1, hBr_2, hBr_3, hBr_4, hBr_5, hBr_6, hBr_7, hBr_8, hBr_9, hBr_10, hBr_11, hBr_12, hBr_13, hBr_14, hBr_15⟩, ⟨hBr_f1, hBr_a1, hBr_b1⟩, ⟨hBr_f2, hBr_a2, hBr_b2⟩, ⟨hBr_f3, hBr_a3, hBr_b3⟩, ⟨hBr_f4, hBr_a4, hBr_b4⟩, ⟨hBr_f5, hBr_a5, hBr_b5⟩, ⟨hBr_f6, hBr_a6, hBr_b6⟩, ⟨hBr_f7, hBr_a7, hBr_b7⟩, hBr_c1, hBr_c2, hBr_c3, hBr_c4, hBr_c5⟩ := hBr_o
  refine g_aload_n E dX1_bestGood_0 rfl rfl rfl ?_
  refine g_callV (k := 1000) (n9 := 0) (av := []) (st := []) E (ct_X1_anew l hSo) gciX1 dX1_bestGood_1 hSo_a q496 q498 qs2 q120 q499 (by decide +kernel) rfl rfl ⟨by decide, by decide⟩ ⟨by decide, by decide⟩ (Nat.le_of_ble_eq_true rfl) rfl (gPn.k (fun g1 h1 => ?_))
  obtain ⟨hs1, f1⟩ := h1
  have hs1_o := hs1
  obtain ⟨hs1_F, hs1_a, hs1_0, hs1_1, hs1_2, hs1_3, hs1_4, hs1_5, hs1_6, hs1_7, hs1_8, hs1_9, hs1_10, hs1_11, hs1_12, hs1_13, hs1_14, hs1_15, hs1_16, hs1_17, hs1_18, hs1_19⟩ := hs1_o
  refine g_aload_n E dX1_bestGood_4 rfl rfl rfl ?_
  refine g_getf E gciX1 dX1_bestGood_5 hs1_a 3 rfl (by decide) q425 (.inl rfl) (.ref bb) (hs1_3) rfl ?_
  refine g_ifnonnullY E dX1_bestGood_8 (tgt := 17) (by decide) ?_
  refine g_bipush E (v := (-2)) dX1_bestGood_17 (by decide) rfl ?_
  refine g_istore_n E dX1_bestGood_19 rfl (by decide) rfl (lo1 := [some (.ref 1000), some (.int (-2)), none, none, none, none]) rfl rfl ?_
  refine g_iconst E (v := 0) dX1_bestGood_20 (by decide) rfl ?_
  refine g_istore_n E dX1_bestGood_21 rfl (by decide) rfl (lo1 := [some (.ref 1000), some (.int (-2)), some (.int 0), none, none, none]) rfl rfl ?_
  refine g_iconst E (v := 0) dX1_bestGood_22 (by decide) rfl ?_
  refine g_istore_n E dX1_bestGood_23 rfl (by decide) rfl (lo1 := [some (.ref 1000), some (.int (-2)), some (.int 0), some (.int 0), none, none]) rfl rfl ?_
  have lp24 : ∀ (r9 : Nat) (k : Nat), (k ≤ B 0 3) → (B 0 3 - k < r9) → gV z g1 0 0 24 [some (.ref 1000), some (.int ((zBo B R d k).1)), some (.int ((zBo B R d k).2)), some (.int (nI k)), none, none] [] := by
    intro r9
    induction r9 with
    | zero => intro k hk hm; exact absurd hm (Nat.not_lt_zero _)
    | succ r9 ih24 =>
      intro k hk hm
      refine g_iload_n E dX1_bestGood_24 rfl rfl rfl ?_
      refine g_aload_n E dX1_bestGood_25 rfl rfl rfl ?_
      refine g_getf E gciX1 dX1_bestGood_26 hs1_a 3 rfl (by decide) q425 (.inl rfl) (.ref bb) (hs1_3) rfl ?_
      have x2 := (f1 (bb) (by omega)).trans (hBr_a)
      refine g_getf E gciX14 dX1_bestGood_29 x2 12 rfl (by decide) q572 (.inl rfl) (.int (nI (B 0 3))) (hBr_12) rfl ?_
      refine g_icmp_ge E dX1_bestGood_32 (tgt := 119) (by decide) rfl (fun c32 => ?_) (fun c32 => ?_)
      · have c32 := (nI_leI (a := B 0 3) (b := k) (by omega) (by omega)).mp c32
        obtain rfl : k = B 0 3 := by omega
        refine g_iload_n E dX1_bestGood_119 rfl rfl rfl ?_
        have hs3 : sBgo true B R d = ((zBo B R d (B 0 3)).1, 0) := by first | (simp [sBgo, c32]; done) | (simp [sBgo, c32, qWy]; done)
        exact g_iret E Rt dX1_bestGood_120 rfl (by decide) (by decide) (by rw [hs3]; exact ⟨rfl, ⟨_, hs1_a, hs1_0, hs1_1, hs1_2, hs1_3, hs1_4, hs1_5, hs1_6, hs1_7, hs1_8, hs1_9, hs1_10, hs1_11, hs1_12, hs1_13, hs1_14, hs1_15, hs1_16, hs1_17, hs1_18, hs1_19⟩, fun j9 h9 => f1 j9 (by omega)⟩)
      · have c32 := mt (nI_leI (a := B 0 3) (b := k) (by omega) (by omega)).mpr c32
        refine g_iconst E (v := 0) dX1_bestGood_35 (by decide) rfl ?_
        refine g_istore E dX1_bestGood_36 (by decide) rfl (lo1 := [some (.ref 1000), some (.int ((zBo B R d k).1)), some (.int ((zBo B R d k).2)), some (.int (nI k)), some (.int 0), none]) rfl rfl ?_
        have lp38 : ∀ (r9 : Nat) (n : Nat), (n ≤ 61) → (n = 0 ∨ R k = 0) → (61 - n < r9) → gV z g1 0 0 38 [some (.ref 1000), some (.int ((zBi B d (zBo B R d k) k n).1)), some (.int ((zBi B d (zBo B R d k) k n).2)), some (.int (nI k)), some (.int (nI n)), none] [] := by
          intro r9
          induction r9 with
          | zero => intro n hn hz hm; exact absurd hm (Nat.not_lt_zero _)
          | succ r9 ih38 =>
            intro n hn hz hm
            refine g_iload E dX1_bestGood_38 rfl rfl ?_
            refine g_bipush E (v := 60) dX1_bestGood_40 (by decide) rfl ?_
            refine g_icmp_gt E dX1_bestGood_42 (tgt := 113) (by decide) rfl (fun c42 => ?_) (fun c42 => ?_)
            · have c42 := (nI_ltI (a := 60) (b := n) (by omega) (by omega)).mp c42
              refine g_lo (lo1 := [some (.ref 1000), some (.int ((zBo B R d (k + 1)).1)), some (.int ((zBo B R d (k + 1)).2)), some (.int (nI k)), some (.int (nI n)), none]) (by rw [zBo_y (by rcases hz with h9 | h9; exact absurd h9 (by omega); exact h9), show n = 61 by omega]) ?_
              refine g_iinc E dX1_bestGood_113 rfl (v := nI (k + 1)) (nI_c _) (by decide) rfl (lo1 := [some (.ref 1000), some (.int ((zBo B R d (k + 1)).1)), some (.int ((zBo B R d (k + 1)).2)), some (.int (nI (k + 1))), some (.int (nI n)), none]) rfl rfl ?_
              refine g_goto E dX1_bestGood_116 (tgt := 24) (by decide) ?_
              exact g_les (lo1 := [some (.ref 1000), some (.int ((zBo B R d (k + 1)).1)), some (.int ((zBo B R d (k + 1)).2)), some (.int (nI (k + 1))), none, none]) (⟨rfl, rfl, rfl, rfl, trivial⟩) (ih24 (k + 1) (by omega) (by omega))
            · have c42 := mt (nI_ltI (a := 60) (b := n) (by omega) (by omega)).mpr c42
              refine g_aload_n E dX1_bestGood_45 rfl rfl rfl ?_
              refine g_getf E gciX1 dX1_bestGood_46 hs1_a 9 rfl (by decide) q431 (.inl rfl) (.ref 1010) (hs1_9) rfl ?_
              have x4 := (f1 (1010) (by omega)).trans (hLd_a)
              refine g_getf E gciX4 dX1_bestGood_49 x4 0 rfl (by decide) q286 (.inl rfl) (.ref 1011) (hLd_0) rfl ?_
              refine g_iload_n E dX1_bestGood_52 rfl rfl rfl ?_
              have x5 := (f1 (1011) (by omega)).trans (hLd_sa)
              refine g_iald E dX1_bestGood_53 (j := k) x5 (rfl) (by omega) (by decide) (v := R k) (hLd_sb k (by omega)) rfl ?_
              refine g_if_ne E dX1_bestGood_54 (tgt := 113) (by decide) rfl (fun c54 => ?_) (fun c54 => ?_)
              · refine g_lo (lo1 := [some (.ref 1000), some (.int ((zBo B R d (k + 1)).1)), some (.int ((zBo B R d (k + 1)).2)), some (.int (nI k)), some (.int (nI n)), none]) (by rw [zBo_n c54, show n = 0 by rcases hz with h9 | h9; exact h9; exact absurd h9 c54]; rfl) ?_
                refine g_iinc E dX1_bestGood_113 rfl (v := nI (k + 1)) (nI_c _) (by decide) rfl (lo1 := [some (.ref 1000), some (.int ((zBo B R d (k + 1)).1)), some (.int ((zBo B R d (k + 1)).2)), some (.int (nI (k + 1))), some (.int (nI n)), none]) rfl rfl ?_
                refine g_goto E dX1_bestGood_116 (tgt := 24) (by decide) ?_
                exact g_les (lo1 := [some (.ref 1000), some (.int ((zBo B R d (k + 1)).1)), some (.int ((zBo B R d (k + 1)).2)), some (.int (nI (k + 1))), none, none]) (⟨rfl, rfl, rfl, rfl, trivial⟩) (ih24 (k + 1) (by omega) (by omega))
              · refine g_aload_n E dX1_bestGood_57 rfl rfl rfl ?_
                refine g_getf E gciX1 dX1_bestGood_58 hs1_a 3 rfl (by decide) q425 (.inl rfl) (.ref bb) (hs1_3) rfl ?_
                refine g_getf E gciX14 dX1_bestGood_61 x2 3 rfl (by decide) q542 (.inl rfl) (.ref (bb + 4)) (hBr_3) rfl ?_
                refine g_iload_n E dX1_bestGood_64 rfl rfl rfl ?_
                have x6 := (f1 (bb + 4) (by omega)).trans (hBr_a4)
                refine g_aald E dX1_bestGood_65 (j := k) x6 (fun _ => rfl) (rfl) (by omega) (by decide) (b := bb + 40 + k) (hBr_b4 k (by omega)) rfl ?_
                have y7 := (hBr.fr hw (fun j9 a9 b9 => f1 j9 (by omega)))
                have u8 := pBr.good y7 hw (j := k) (by omega)
                have u8_b := wfB.goods hw (j := k) (by omega)
                have o9 := u8
                obtain ⟨⟨o9_F, o9_a, o9_0, o9_1, o9_2, o9_3, o9_4, o9_7⟩, o9_m, o9_k⟩ := o9
                refine g_aload_n E dX1_bestGood_66 rfl rfl rfl ?_
                refine g_iload E dX1_bestGood_67 rfl rfl ?_
                have y10 := (hLd.fr  (fun j9 a9 b9 => f1 j9 (by omega)))
                refine g_callV (k := 1000) (n9 := 1) (av := [.int (nI n)]) (st := [.ref (bb + 40 + k)]) E (ct_X1_on l (nI n) hw hs1 y10 y7) gciX1 dX1_bestGood_69 hs1_a q1346 q1348 qs37 q120 q1349 (by decide +kernel) rfl rfl ⟨by decide, by decide⟩ ⟨by decide, by decide⟩ (Nat.le_of_ble_eq_true rfl) rfl (gPu.k ?_)
                refine g_aload_n E dX1_bestGood_72 rfl rfl rfl ?_
                refine g_getf E gciX1 dX1_bestGood_73 hs1_a 11 rfl (by decide) q433 (.inl rfl) (.ref 1005) (hs1_11) rfl ?_
                have y11 := (hL1.fr  (fun j9 a9 b9 => f1 j9 (by omega)))
                refine v_gain_Good E dX1_bestGood_76 q1542 u8 y11 ⟨by decide, by decide⟩ ⟨by decide, by decide⟩ (Nat.le_of_ble_eq_true rfl) rfl ?_
                refine g_istore E dX1_bestGood_79 (by decide) rfl (lo1 := [some (.ref 1000), some (.int ((zBi B d (zBo B R d k) k n).1)), some (.int ((zBi B d (zBo B R d k) k n).2)), some (.int (nI k)), some (.int (nI n)), some (.int (zGai B k (d + (nI n))))]) rfl rfl ?_
                refine g_iload_n E dX1_bestGood_81 rfl rfl rfl ?_
                refine g_bipush E (v := (-2)) dX1_bestGood_82 (by decide) rfl ?_
                refine g_icmp_eq E dX1_bestGood_84 (tgt := 96) (by decide) rfl (fun c84 => ?_) (fun c84 => ?_)
                · refine g_bipush E (v := 100) dX1_bestGood_96 (by decide) rfl ?_
                  refine g_iload_n E dX1_bestGood_98 rfl rfl rfl ?_
                  refine g_imul E dX1_bestGood_99 rfl ?_
                  refine g_iload E dX1_bestGood_100 rfl rfl ?_
                  refine g_iadd E dX1_bestGood_102 rfl ?_
                  refine g_istore_n E dX1_bestGood_103 rfl (by decide) rfl (lo1 := [some (.ref 1000), some (.int ((100 * (nI k)) + (nI n))), some (.int ((zBi B d (zBo B R d k) k n).2)), some (.int (nI k)), some (.int (nI n)), some (.int (zGai B k (d + (nI n))))]) rfl rfl ?_
                  refine g_iload E dX1_bestGood_104 rfl rfl ?_
                  refine g_istore_n E dX1_bestGood_106 rfl (by decide) rfl (lo1 := [some (.ref 1000), some (.int ((100 * (nI k)) + (nI n))), some (.int (zGai B k (d + (nI n)))), some (.int (nI k)), some (.int (nI n)), some (.int (zGai B k (d + (nI n))))]) rfl rfl ?_
                  refine g_lo (lo1 := [some (.ref 1000), some (.int ((zBi B d (zBo B R d k) k (n + 1)).1)), some (.int ((zBi B d (zBo B R d k) k (n + 1)).2)), some (.int (nI k)), some (.int (nI n)), some (.int (zGai B k (d + (nI n))))]) (by simp [zBi, zBs, c84]) ?_
                  refine g_iinc E dX1_bestGood_107 rfl (v := nI (n + 1)) (nI_c _) (by decide) rfl (lo1 := [some (.ref 1000), some (.int ((zBi B d (zBo B R d k) k (n + 1)).1)), some (.int ((zBi B d (zBo B R d k) k (n + 1)).2)), some (.int (nI k)), some (.int (nI (n + 1))), some (.int (zGai B k (d + (nI n))))]) rfl rfl ?_
                  refine g_goto E dX1_bestGood_110 (tgt := 38) (by decide) ?_
                  exact g_les (lo1 := [some (.ref 1000), some (.int ((zBi B d (zBo B R d k) k (n + 1)).1)), some (.int ((zBi B d (zBo B R d k) k (n + 1)).2)), some (.int (nI k)), some (.int (nI (n + 1))), none]) (⟨rfl, rfl, rfl, rfl, rfl, trivial⟩) (ih38 (n + 1) (by omega) (.inr (by simpa using c54)) (by omega))
                · refine g_iload E dX1_bestGood_87 rfl rfl ?_
                  refine g_iload_n E dX1_bestGood_89 rfl rfl rfl ?_
                  refine g_icmp_gt E dX1_bestGood_90 (tgt := 96) (by decide) rfl (fun c90 => ?_) (fun c90 => ?_)
                  · refine g_bipush E (v := 100) dX1_bestGood_96 (by decide) rfl ?_
                    refine g_iload_n E dX1_bestGood_98 rfl rfl rfl ?_
                    refine g_imul E dX1_bestGood_99 rfl ?_
                    refine g_iload E dX1_bestGood_100 rfl rfl ?_
                    refine g_iadd E dX1_bestGood_102 rfl ?_
                    refine g_istore_n E dX1_bestGood_103 rfl (by decide) rfl (lo1 := [some (.ref 1000), some (.int ((100 * (nI k)) + (nI n))), some (.int ((zBi B d (zBo B R d k) k n).2)), some (.int (nI k)), some (.int (nI n)), some (.int (zGai B k (d + (nI n))))]) rfl rfl ?_
                    refine g_iload E dX1_bestGood_104 rfl rfl ?_
                    refine g_istore_n E dX1_bestGood_106 rfl (by decide) rfl (lo1 := [some (.ref 1000), some (.int ((100 * (nI k)) + (nI n))), some (.int (zGai B k (d + (nI n)))), some (.int (nI k)), some (.int (nI n)), some (.int (zGai B k (d + (nI n))))]) rfl rfl ?_
                    refine g_lo (lo1 := [some (.ref 1000), some (.int ((zBi B d (zBo B R d k) k (n + 1)).1)), some (.int ((zBi B d (zBo B R d k) k (n + 1)).2)), some (.int (nI k)), some (.int (nI n)), some (.int (zGai B k (d + (nI n))))]) (by simp [zBi, zBs, c84, c90]) ?_
                    refine g_iinc E dX1_bestGood_107 rfl (v := nI (n + 1)) (nI_c _) (by decide) rfl (lo1 := [some (.ref 1000), some (.int ((zBi B d (zBo B R d k) k (n + 1)).1)), some (.int ((zBi B d (zBo B R d k) k (n + 1)).2)), some (.int (nI k)), some (.int (nI (n + 1))), some (.int (zGai B k (d + (nI n))))]) rfl rfl ?_
                    refine g_goto E dX1_bestGood_110 (tgt := 38) (by decide) ?_
                    exact g_les (lo1 := [some (.ref 1000), some (.int ((zBi B d (zBo B R d k) k (n + 1)).1)), some (.int ((zBi B d (zBo B R d k) k (n + 1)).2)), some (.int (nI k)), some (.int (nI (n + 1))), none]) (⟨rfl, rfl, rfl, rfl, rfl, trivial⟩) (ih38 (n + 1) (by omega) (.inr (by simpa using c54)) (by omega))
                  · refine g_goto E dX1_bestGood_93 (tgt := 107) (by decide) ?_
                    refine g_lo (lo1 := [some (.ref 1000), some (.int ((zBi B d (zBo B R d k) k (n + 1)).1)), some (.int ((zBi B d (zBo B R d k) k (n + 1)).2)), some (.int (nI k)), some (.int (nI n)), some (.int (zGai B k (d + (nI n))))]) (by simp [zBi, zBs, c84, c90]) ?_
                    refine g_iinc E dX1_bestGood_107 rfl (v := nI (n + 1)) (nI_c _) (by decide) rfl (lo1 := [some (.ref 1000), some (.int ((zBi B d (zBo B R d k) k (n + 1)).1)), some (.int ((zBi B d (zBo B R d k) k (n + 1)).2)), some (.int (nI k)), some (.int (nI (n + 1))), some (.int (zGai B k (d + (nI n))))]) rfl rfl ?_
                    refine g_goto E dX1_bestGood_110 (tgt := 38) (by decide) ?_
                    exact g_les (lo1 := [some (.ref 1000), some (.int ((zBi B d (zBo B R d k) k (n + 1)).1)), some (.int ((zBi B d (zBo B R d k) k (n + 1)).2)), some (.int (nI k)), some (.int (nI (n + 1))), none]) (⟨rfl, rfl, rfl, rfl, rfl, trivial⟩) (ih38 (n + 1) (by omega) (.inr (by simpa using c54)) (by omega))
        exact lp38 62 0 (Nat.zero_le _) (.inl rfl) (by omega)
  exact lp24 ((B 0 3) + 1) 0 (Nat.zero_le _) (Nat.lt_succ_of_le (Nat.sub_le _ _))
set_option maxHeartbeats 1000000 in
theorem ct_X1_bestGood_N (l : Launch) {g : gWM} {tp mm um : Nat} {tr fa wh : Int32}  (hSo : pSo g .null tp tr fa wh mm um) : gCt l yX1_bestGood cX1_bestGood 6 (some .int) 1 0 0 21 [.ref 1000] g (gPi (sBgo false zB0 (fun _ => 0) 0).1 (fun g1 => pSo g1 .null tp (sBgo false zB0 (fun _ => 0) 0).2 fa (-1) mm um ∧ ∀ j, j ≠ 1000 → g1 j = g j)) := by
  refine gCt.of RX1 (by decide) rfl (lo := [some (.ref 1000), none, none, none, none, none]) 5 rfl (Nat.le_of_ble_eq_true rfl) (fun z E Rt => ?_)
  have hSo_o := hSo
  obtain ⟨hSo_F, hSo_a, hSo_0, hSo_1, hSo_2, hSo_3, hSo_4, hSo_5, hSo_6, hSo_7, hSo_8, hSo_9, hSo_10, hSo_11, hSo_12, hSo_13, hSo_14, hSo_15, hSo_16, hSo_17, hSo_18, hSo_19⟩ := hSo_o
  refine g_aload_n E dX1_bestGood_0 rfl rfl rfl ?_
  refine g_callV (k := 1000) (n9 := 0) (av := []) (st := []) E (ct_X1_anew l hSo) gciX1 dX1_bestGood_1 hSo_a q496 q498 qs2 q120 q499 (by decide +kernel) rfl rfl ⟨by decide, by decide⟩ ⟨by decide, by decide⟩ (Nat.le_of_ble_eq_true rfl) rfl (gPn.k (fun g1 h1 => ?_))
  obtain ⟨hs1, f1⟩ := h1
  have hs1_o := hs1
  obtain ⟨hs1_F, hs1_a, hs1_0, hs1_1, hs1_2, hs1_3, hs1_4, hs1_5, hs1_6, hs1_7, hs1_8, hs1_9, hs1_10, hs1_11, hs1_12, hs1_13, hs1_14, hs1_15, hs1_16, hs1_17, hs1_18, hs1_19⟩ := hs1_o
  refine g_aload_n E dX1_bestGood_4 rfl rfl rfl ?_
  refine g_getf E gciX1 dX1_bestGood_5 hs1_a 3 rfl (by decide) q425 (.inl rfl) (.null) (hs1_3) rfl ?_
  refine g_ifnonnullN E dX1_bestGood_8 rfl ?_
  refine g_aload_n E dX1_bestGood_11 rfl rfl rfl ?_
  refine g_iconst E (v := 1) dX1_bestGood_12 (by decide) rfl ?_
  refine g_callV (k := 1000) (n9 := 1) (av := [.int 1]) (st := []) E (ct_X1_no l 1 hs1) gciX1 dX1_bestGood_13 hs1_a q503 q505 qs3 q120 q506 (by decide +kernel) rfl rfl ⟨by decide, by decide⟩ ⟨by decide, by decide⟩ (Nat.le_of_ble_eq_true rfl) rfl (gPi.k (fun g2 h2 => ?_))
  obtain ⟨hs2, f2⟩ := h2
  have hs2_o := hs2
  obtain ⟨hs2_F, hs2_a, hs2_0, hs2_1, hs2_2, hs2_3, hs2_4, hs2_5, hs2_6, hs2_7, hs2_8, hs2_9, hs2_10, hs2_11, hs2_12, hs2_13, hs2_14, hs2_15, hs2_16, hs2_17, hs2_18, hs2_19⟩ := hs2_o
  have hs3 : sBgo false zB0 (fun _ => 0) 0 = ((-1), 1) := by first | (simp [sBgo, qI_z, qWy]; done) | (simp [sBgo, qI_z, qWy, qWy]; done)
  exact g_iret E Rt dX1_bestGood_16 rfl (by decide) (by decide) (by rw [hs3]; exact ⟨rfl, ⟨_, hs2_a, hs2_0, hs2_1, hs2_2, hs2_3, hs2_4, hs2_5, hs2_6, hs2_7, hs2_8, hs2_9, hs2_10, hs2_11, hs2_12, hs2_13, hs2_14, hs2_15, hs2_16, hs2_17, hs2_18, hs2_19⟩, fun j9 h9 => (f2 j9 (by omega)).trans (f1 j9 (by omega))⟩)
set_option maxHeartbeats 400000 in
theorem ct_X1_hiddenWorth (l : Launch) {g : gWM} {bb : Nat} {B : gBar} {R : Nat → Int32} {d : Int32} {tp mm um : Nat} {tr fa wh : Int32} (s : Int32) (hw : wfB B) (hSo : pSo g (.ref bb) tp tr fa wh mm um) (hLd : pLd g 1010 (.ref bb) B R d) (hBr : pBr g bb B) : gCt l yX1_hiddenWorth cX1_hiddenWorth 4 (some .int) 4 0 0 84 [.ref 1000, .int s] g (gPu (.int (zHw B R d s)) g) := by
  refine gCt.of RX1 (by decide) rfl (lo := [some (.ref 1000), some (.int s), none, none]) 2 rfl (Nat.le_of_ble_eq_true rfl) (fun z E Rt => ?_)
  have hw_n := hw.1
  have hSo_o := hSo
  obtain ⟨hSo_F, hSo_a, hSo_0, hSo_1, hSo_2, hSo_3, hSo_4, hSo_5, hSo_6, hSo_7, hSo_8, hSo_9, hSo_10, hSo_11, hSo_12, hSo_13, hSo_14, hSo_15, hSo_16, hSo_17, hSo_18, hSo_19⟩ := hSo_o
  have hLd_o := hLd
  obtain ⟨⟨hLd_F, hLd_a, hLd_0, hLd_1, hLd_2, hLd_3, hLd_4, hLd_5⟩, ⟨hLd_s, hLd_sa, hLd_sb⟩, ⟨hLd_e, hLd_ea, hLd_eb⟩, hLd_p, hLd_pa, hLd_pb⟩ := hLd_o
  have hBr_o := hBr
  obtain ⟨⟨hBr_F, hBr_a, hBr_0, hBr_1, hBr_2, hBr_3, hBr_4, hBr_5, hBr_6, hBr_7, hBr_8, hBr_9, hBr_10, hBr_11, hBr_12, hBr_13, hBr_14, hBr_15⟩, ⟨hBr_f1, hBr_a1, hBr_b1⟩, ⟨hBr_f2, hBr_a2, hBr_b2⟩, ⟨hBr_f3, hBr_a3, hBr_b3⟩, ⟨hBr_f4, hBr_a4, hBr_b4⟩, ⟨hBr_f5, hBr_a5, hBr_b5⟩, ⟨hBr_f6, hBr_a6, hBr_b6⟩, ⟨hBr_f7, hBr_a7, hBr_b7⟩, hBr_c1, hBr_c2, hBr_c3, hBr_c4, hBr_c5⟩ := hBr_o
  refine g_iconst E (v := 0) dX1_hiddenWorth_0 (by decide) rfl ?_
  refine g_istore_n E dX1_hiddenWorth_1 rfl (by decide) rfl (lo1 := [some (.ref 1000), some (.int s), some (.int 0), none]) rfl rfl ?_
  refine g_iconst E (v := 0) dX1_hiddenWorth_2 (by decide) rfl ?_
  refine g_istore_n E dX1_hiddenWorth_3 rfl (by decide) rfl (lo1 := [some (.ref 1000), some (.int s), some (.int 0), some (.int 0)]) rfl rfl ?_
  have lp4 : ∀ (r9 : Nat) (k : Nat), (k ≤ B 0 3) → (B 0 3 - k < r9) → gV z g 0 0 4 [some (.ref 1000), some (.int s), some (.int (sumTo (zHv B R d s) k)), some (.int (nI k))] [] := by
    intro r9
    induction r9 with
    | zero => intro k hk hm; exact absurd hm (Nat.not_lt_zero _)
    | succ r9 ih4 =>
      intro k hk hm
      refine g_iload_n E dX1_hiddenWorth_4 rfl rfl rfl ?_
      refine g_aload_n E dX1_hiddenWorth_5 rfl rfl rfl ?_
      refine g_getf E gciX1 dX1_hiddenWorth_6 hSo_a 3 rfl (by decide) q425 (.inl rfl) (.ref bb) (hSo_3) rfl ?_
      refine g_getf E gciX14 dX1_hiddenWorth_9 hBr_a 12 rfl (by decide) q572 (.inl rfl) (.int (nI (B 0 3))) (hBr_12) rfl ?_
      refine g_icmp_ge E dX1_hiddenWorth_12 (tgt := 92) (by decide) rfl (fun c12 => ?_) (fun c12 => ?_)
      · have c12 := (nI_leI (a := B 0 3) (b := k) (by omega) (by omega)).mp c12
        obtain rfl : k = B 0 3 := by omega
        refine g_iload_n E dX1_hiddenWorth_92 rfl rfl rfl ?_
        exact g_iret E Rt dX1_hiddenWorth_93 rfl (by decide) (by decide) (⟨rfl, rfl⟩)
      · have c12 := mt (nI_leI (a := B 0 3) (b := k) (by omega) (by omega)).mpr c12
        refine g_iload_n E dX1_hiddenWorth_15 rfl rfl rfl ?_
        refine g_aload_n E dX1_hiddenWorth_16 rfl rfl rfl ?_
        refine g_getf E gciX1 dX1_hiddenWorth_17 hSo_a 9 rfl (by decide) q431 (.inl rfl) (.ref 1010) (hSo_9) rfl ?_
        refine g_getf E gciX4 dX1_hiddenWorth_20 hLd_a 0 rfl (by decide) q286 (.inl rfl) (.ref 1011) (hLd_0) rfl ?_
        refine g_iload_n E dX1_hiddenWorth_23 rfl rfl rfl ?_
        refine g_iald E dX1_hiddenWorth_24 (j := k) hLd_sa (rfl) (by omega) (by decide) (v := R k) (hLd_sb k (by omega)) rfl ?_
        refine g_if_ne E dX1_hiddenWorth_25 (tgt := 83) (by decide) rfl (fun c25 => ?_) (fun c25 => ?_)
        · refine g_iconst E (v := 0) dX1_hiddenWorth_83 (by decide) rfl ?_
          refine g_iadd E dX1_hiddenWorth_84 rfl ?_
          refine g_as (y := sumTo (zHv B R d s) (k + 1)) (sumTo_s (by simp [zHv, c25])) ?_
          refine g_istore_n E dX1_hiddenWorth_85 rfl (by decide) rfl (lo1 := [some (.ref 1000), some (.int s), some (.int (sumTo (zHv B R d s) (k + 1))), some (.int (nI k))]) rfl rfl ?_
          refine g_iinc E dX1_hiddenWorth_86 rfl (v := nI (k + 1)) (nI_c _) (by decide) rfl (lo1 := [some (.ref 1000), some (.int s), some (.int (sumTo (zHv B R d s) (k + 1))), some (.int (nI (k + 1)))]) rfl rfl ?_
          refine g_goto E dX1_hiddenWorth_89 (tgt := 4) (by decide) ?_
          exact ih4 (k + 1) (by omega) (by omega)
        · refine g_aload_n E dX1_hiddenWorth_28 rfl rfl rfl ?_
          refine g_getf E gciX1 dX1_hiddenWorth_29 hSo_a 9 rfl (by decide) q431 (.inl rfl) (.ref 1010) (hSo_9) rfl ?_
          refine g_getf E gciX4 dX1_hiddenWorth_32 hLd_a 4 rfl (by decide) q295 (.inl rfl) (.int (R 16)) (hLd_4) rfl ?_
          refine g_iload_n E dX1_hiddenWorth_35 rfl rfl rfl ?_
          refine g_callS (n9 := 2) (av := [.int (R 16), .int (nI k)]) (st := [.int (sumTo (zHv B R d s) k)]) E (ct_X1_has l (R 16) k) dX1_hiddenWorth_36 q1316 q1164 q120 q1165 (by decide +kernel) rfl rfl ⟨by decide, by decide⟩ ⟨by decide, by decide⟩ (Nat.le_of_ble_eq_true rfl) rfl (gPu.k ?_)
          refine g_if_eq E dX1_hiddenWorth_39 (tgt := 83) (by decide) rfl (fun c39 => ?_) (fun c39 => ?_)
          · have c39 := zb_0.mp c39
            refine g_iconst E (v := 0) dX1_hiddenWorth_83 (by decide) rfl ?_
            refine g_iadd E dX1_hiddenWorth_84 rfl ?_
            refine g_as (y := sumTo (zHv B R d s) (k + 1)) (sumTo_s (by simp [zHv, c25, c39])) ?_
            refine g_istore_n E dX1_hiddenWorth_85 rfl (by decide) rfl (lo1 := [some (.ref 1000), some (.int s), some (.int (sumTo (zHv B R d s) (k + 1))), some (.int (nI k))]) rfl rfl ?_
            refine g_iinc E dX1_hiddenWorth_86 rfl (v := nI (k + 1)) (nI_c _) (by decide) rfl (lo1 := [some (.ref 1000), some (.int s), some (.int (sumTo (zHv B R d s) (k + 1))), some (.int (nI (k + 1)))]) rfl rfl ?_
            refine g_goto E dX1_hiddenWorth_89 (tgt := 4) (by decide) ?_
            exact ih4 (k + 1) (by omega) (by omega)
          · have c39 := zb_n0.mp c39
            refine g_iload_n E dX1_hiddenWorth_42 rfl rfl rfl ?_
            refine g_aload_n E dX1_hiddenWorth_43 rfl rfl rfl ?_
            refine g_getf E gciX1 dX1_hiddenWorth_44 hSo_a 3 rfl (by decide) q425 (.inl rfl) (.ref bb) (hSo_3) rfl ?_
            refine g_getf E gciX14 dX1_hiddenWorth_47 hBr_a 3 rfl (by decide) q542 (.inl rfl) (.ref (bb + 4)) (hBr_3) rfl ?_
            refine g_iload_n E dX1_hiddenWorth_50 rfl rfl rfl ?_
            refine g_aald E dX1_hiddenWorth_51 (j := k) hBr_a4 (fun _ => rfl) (rfl) (by omega) (by decide) (b := bb + 40 + k) (hBr_b4 k (by omega)) rfl ?_
            have u1 := pBr.good hBr hw (j := k) (by omega)
            have u1_b := wfB.goods hw (j := k) (by omega)
            have o2 := u1
            obtain ⟨⟨o2_F, o2_a, o2_0, o2_1, o2_2, o2_3, o2_4, o2_7⟩, o2_m, o2_k⟩ := o2
            refine g_getG E dX1_hiddenWorth_52 o2_a (o2_k) 0 (by decide) rfl rfl rfl rfl rfl q964 (.inl rfl) (.int (nI (B 14 k))) (o2_0) rfl ?_
            refine g_callS (n9 := 2) (av := [.int s, .int (nI (B 14 k))]) (st := [.int (sumTo (zHv B R d s) k)]) E (ct_X1_has l s (B 14 k)) dX1_hiddenWorth_55 q1316 q1164 q120 q1165 (by decide +kernel) rfl rfl ⟨by decide, by decide⟩ ⟨by decide, by decide⟩ (Nat.le_of_ble_eq_true rfl) rfl (gPu.k ?_)
            refine g_if_eq E dX1_hiddenWorth_58 (tgt := 83) (by decide) rfl (fun c58 => ?_) (fun c58 => ?_)
            · have c58 := zb_0.mp c58
              refine g_iconst E (v := 0) dX1_hiddenWorth_83 (by decide) rfl ?_
              refine g_iadd E dX1_hiddenWorth_84 rfl ?_
              refine g_as (y := sumTo (zHv B R d s) (k + 1)) (sumTo_s (by simp [zHv, c25, c39, c58])) ?_
              refine g_istore_n E dX1_hiddenWorth_85 rfl (by decide) rfl (lo1 := [some (.ref 1000), some (.int s), some (.int (sumTo (zHv B R d s) (k + 1))), some (.int (nI k))]) rfl rfl ?_
              refine g_iinc E dX1_hiddenWorth_86 rfl (v := nI (k + 1)) (nI_c _) (by decide) rfl (lo1 := [some (.ref 1000), some (.int s), some (.int (sumTo (zHv B R d s) (k + 1))), some (.int (nI (k + 1)))]) rfl rfl ?_
              refine g_goto E dX1_hiddenWorth_89 (tgt := 4) (by decide) ?_
              exact ih4 (k + 1) (by omega) (by omega)
            · have c58 := zb_n0.mp c58
              refine g_aload_n E dX1_hiddenWorth_61 rfl rfl rfl ?_
              refine g_getf E gciX1 dX1_hiddenWorth_62 hSo_a 3 rfl (by decide) q425 (.inl rfl) (.ref bb) (hSo_3) rfl ?_
              refine g_getf E gciX14 dX1_hiddenWorth_65 hBr_a 3 rfl (by decide) q542 (.inl rfl) (.ref (bb + 4)) (hBr_3) rfl ?_
              refine g_iload_n E dX1_hiddenWorth_68 rfl rfl rfl ?_
              refine g_aald E dX1_hiddenWorth_69 (j := k) hBr_a4 (fun _ => rfl) (rfl) (by omega) (by decide) (b := bb + 40 + k) (hBr_b4 k (by omega)) rfl ?_
              have u3 := pBr.good hBr hw (j := k) (by omega)
              have u3_b := wfB.goods hw (j := k) (by omega)
              have o4 := u3
              obtain ⟨⟨o4_F, o4_a, o4_0, o4_1, o4_2, o4_3, o4_4, o4_7⟩, o4_m, o4_k⟩ := o4
              refine g_aload_n E dX1_hiddenWorth_70 rfl rfl rfl ?_
              refine g_getf E gciX1 dX1_hiddenWorth_71 hSo_a 9 rfl (by decide) q431 (.inl rfl) (.ref 1010) (hSo_9) rfl ?_
              refine g_getf E gciX4 dX1_hiddenWorth_74 hLd_a 5 rfl (by decide) q297 (.inl rfl) (.int d) (hLd_5) rfl ?_
              refine v_worthOn_Good E dX1_hiddenWorth_77 q1355 u3 ⟨by decide, by decide⟩ ⟨by decide, by decide⟩ (Nat.le_of_ble_eq_true rfl) rfl ?_
              refine g_goto E dX1_hiddenWorth_80 (tgt := 84) (by decide) ?_
              refine g_iadd E dX1_hiddenWorth_84 rfl ?_
              refine g_as (y := sumTo (zHv B R d s) (k + 1)) (sumTo_s (by simp [zHv, c25, c39, c58])) ?_
              refine g_istore_n E dX1_hiddenWorth_85 rfl (by decide) rfl (lo1 := [some (.ref 1000), some (.int s), some (.int (sumTo (zHv B R d s) (k + 1))), some (.int (nI k))]) rfl rfl ?_
              refine g_iinc E dX1_hiddenWorth_86 rfl (v := nI (k + 1)) (nI_c _) (by decide) rfl (lo1 := [some (.ref 1000), some (.int s), some (.int (sumTo (zHv B R d s) (k + 1))), some (.int (nI (k + 1)))]) rfl rfl ?_
              refine g_goto E dX1_hiddenWorth_89 (tgt := 4) (by decide) ?_
              exact ih4 (k + 1) (by omega) (by omega)
  exact lp4 ((B 0 3) + 1) 0 (Nat.zero_le _) (Nat.lt_succ_of_le (Nat.sub_le _ _))
set_option maxHeartbeats 1000000 in
theorem ct_X1_search (l : Launch) {g : gWM} {bb : Nat} {B : gBar} {R : Nat → Int32} {d : Int32} {tp mm um : Nat} {tr fa wh : Int32} (p : Int32) (hw : wfB B) (hSo : pSo g (.ref bb) tp tr fa wh mm um) (hLd : pLd g 1010 (.ref bb) B R d) (hBr : pBr g bb B) (hL1 : pLw g 1005 1) (hL2 : pLw g 1006 2) (hb9 : 10000 ≤ bb) : gCt l yX1_search cX1_search 5 (some .int) 5 0 0 107 [.ref 1000, .int p] g (gPi (sSea true B R d p).1 (fun g1 => pSo g1 (.ref bb) tp (sSea true B R d p).2 fa (-1) mm um ∧ ∀ j, j ≠ 1000 → g1 j = g j)) := by
  refine gCt.of RX1 (by decide) rfl (lo := [some (.ref 1000), some (.int p), none, none, none]) 3 rfl (Nat.le_of_ble_eq_true rfl) (fun z E Rt => ?_)
  have hw_n := hw.1
  have hSo_o := hSo
  obtain ⟨hSo_F, hSo_a, hSo_0, hSo_1, hSo_2, hSo_3, hSo_4, hSo_5, hSo_6, hSo_7, hSo_8, hSo_9, hSo_10, hSo_11, hSo_12, hSo_13, hSo_14, hSo_15, hSo_16, hSo_17, hSo_18, hSo_19⟩ := hSo_o
  have hLd_o := hLd
  obtain ⟨⟨hLd_F, hLd_a, hLd_0, hLd_1, hLd_2, hLd_3, hLd_4, hLd_5⟩, ⟨hLd_s, hLd_sa, hLd_sb⟩, ⟨hLd_e, hLd_ea, hLd_eb⟩, hLd_p, hLd_pa, hLd_pb⟩ := hLd_o
  have hBr_o := hBr
  obtain ⟨⟨hBr_F, hBr_a, hBr_0, hBr_1, hBr_2, hBr_3, hBr_4, hBr_5, hBr_6, hBr_7, hBr_8, hBr_9, hBr_10, hBr_11, hBr_12, hBr_13, hBr_14, hBr_15⟩, ⟨hBr_f1, hBr_a1, hBr_b1⟩, ⟨hBr_f2, hBr_a2, hBr_b2⟩, ⟨hBr_f3, hBr_a3, hBr_b3⟩, ⟨hBr_f4, hBr_a4, hBr_b4⟩, ⟨hBr_f5, hBr_a5, hBr_b5⟩, ⟨hBr_f6, hBr_a6, hBr_b6⟩, ⟨hBr_f7, hBr_a7, hBr_b7⟩, hBr_c1, hBr_c2, hBr_c3, hBr_c4, hBr_c5⟩ := hBr_o
  have hp2 := pow4 (n := B 0 1) (by omega)
  refine g_aload_n E dX1_search_0 rfl rfl rfl ?_
  refine g_callV (k := 1000) (n9 := 0) (av := []) (st := []) E (ct_X1_anew l hSo) gciX1 dX1_search_1 hSo_a q496 q498 qs2 q120 q499 (by decide +kernel) rfl rfl ⟨by decide, by decide⟩ ⟨by decide, by decide⟩ (Nat.le_of_ble_eq_true rfl) rfl (gPn.k (fun g1 h1 => ?_))
  obtain ⟨hs1, f1⟩ := h1
  have hs1_o := hs1
  obtain ⟨hs1_F, hs1_a, hs1_0, hs1_1, hs1_2, hs1_3, hs1_4, hs1_5, hs1_6, hs1_7, hs1_8, hs1_9, hs1_10, hs1_11, hs1_12, hs1_13, hs1_14, hs1_15, hs1_16, hs1_17, hs1_18, hs1_19⟩ := hs1_o
  refine g_aload_n E dX1_search_4 rfl rfl rfl ?_
  refine g_getf E gciX1 dX1_search_5 hs1_a 3 rfl (by decide) q425 (.inl rfl) (.ref bb) (hs1_3) rfl ?_
  refine g_ifnonnullY E dX1_search_8 (tgt := 17) (by decide) ?_
  refine g_iload_n E dX1_search_17 rfl rfl rfl ?_
  refine g_iconst E (v := 0) dX1_search_18 (by decide) rfl ?_
  refine g_iconst E (v := 4) dX1_search_19 (by decide) rfl ?_
  refine g_callS (n9 := 3) (av := [.int p, .int 0, .int 4]) (st := []) E (ct_X1_in l p 0 4) dX1_search_20 q500 q501 q120 q502 (by decide +kernel) rfl rfl ⟨by decide, by decide⟩ ⟨by decide, by decide⟩ (Nat.le_of_ble_eq_true rfl) rfl (gPu.k ?_)
  refine g_if_ne E dX1_search_23 (tgt := 32) (by decide) rfl (fun c23 => ?_) (fun c23 => ?_)
  · have c23 := zb_n0.mp c23
    refine g_iload_n E dX1_search_32 rfl rfl rfl ?_
    refine g_aload_n E dX1_search_33 rfl rfl rfl ?_
    refine g_getf E gciX1 dX1_search_34 hs1_a 3 rfl (by decide) q425 (.inl rfl) (.ref bb) (hs1_3) rfl ?_
    have x2 := (f1 (bb) (by omega)).trans (hBr_a)
    refine g_getf E gciX14 dX1_search_37 x2 10 rfl (by decide) q562 (.inl rfl) (.int (nI (B 0 1))) (hBr_10) rfl ?_
    refine g_mmin E dX1_search_40 q1563 q1564 q154 q1565 ⟨by decide, by decide⟩ (by decide) (by decide) (Nat.le_of_ble_eq_true rfl) rfl ?_
    refine g_as (y := zMin p (nI (B 0 1))) (rfl) ?_
    refine g_istore_n E dX1_search_43 rfl (by decide) rfl (lo1 := [some (.ref 1000), some (.int p), some (.int (zMin p (nI (B 0 1)))), none, none]) rfl rfl ?_
    refine g_iconst E (v := (-1)) dX1_search_44 (by decide) rfl ?_
    refine g_istore_n E dX1_search_45 rfl (by decide) rfl (lo1 := [some (.ref 1000), some (.int p), some (.int (zMin p (nI (B 0 1)))), some (.int (-1)), none]) rfl rfl ?_
    refine g_iconst E (v := 0) dX1_search_46 (by decide) rfl ?_
    refine g_istore E dX1_search_47 (by decide) rfl (lo1 := [some (.ref 1000), some (.int p), some (.int (zMin p (nI (B 0 1)))), some (.int (-1)), some (.int 0)]) rfl rfl ?_
    have lp49 : ∀ (r9 : Nat) (k : Nat), (k ≤ 2 ^ B 0 1) → (2 ^ B 0 1 - k < r9) → gV z g1 0 0 49 [some (.ref 1000), some (.int p), some (.int (zMin p (nI (B 0 1)))), some (.int (zSe B R d (zMin p (nI (B 0 1))) k)), some (.int (nI k))] [] := by
      intro r9
      induction r9 with
      | zero => intro k hk hm; exact absurd hm (Nat.not_lt_zero _)
      | succ r9 ih49 =>
        intro k hk hm
        refine g_iload E dX1_search_49 rfl rfl ?_
        refine g_iconst E (v := 1) dX1_search_51 (by decide) rfl ?_
        refine g_aload_n E dX1_search_52 rfl rfl rfl ?_
        refine g_getf E gciX1 dX1_search_53 hs1_a 3 rfl (by decide) q425 (.inl rfl) (.ref bb) (hs1_3) rfl ?_
        refine g_getf E gciX14 dX1_search_56 x2 10 rfl (by decide) q562 (.inl rfl) (.int (nI (B 0 1))) (hBr_10) rfl ?_
        refine g_ishl E dX1_search_59 rfl ?_
        refine g_as (y := nI (2 ^ B 0 1)) (shl1 (by omega)) ?_
        refine g_icmp_ge E dX1_search_60 (tgt := 100) (by decide) rfl (fun c60 => ?_) (fun c60 => ?_)
        · have c60 := (nI_leI (a := 2 ^ B 0 1) (b := k) (by omega) (by omega)).mp c60
          obtain rfl : k = 2 ^ B 0 1 := by omega
          refine g_iload_n E dX1_search_100 rfl rfl rfl ?_
          have hs3 : sSea true B R d p = (zSe B R d (zMin p (nI (B 0 1))) (2 ^ B 0 1), 0) := by first | (simp [sSea, c23, c60]; done) | (simp [sSea, c23, c60, qWy]; done)
          exact g_iret E Rt dX1_search_101 rfl (by decide) (by decide) (by rw [hs3]; exact ⟨rfl, ⟨_, hs1_a, hs1_0, hs1_1, hs1_2, hs1_3, hs1_4, hs1_5, hs1_6, hs1_7, hs1_8, hs1_9, hs1_10, hs1_11, hs1_12, hs1_13, hs1_14, hs1_15, hs1_16, hs1_17, hs1_18, hs1_19⟩, fun j9 h9 => f1 j9 (by omega)⟩)
        · have c60 := mt (nI_leI (a := 2 ^ B 0 1) (b := k) (by omega) (by omega)).mpr c60
          refine g_iload E dX1_search_63 rfl rfl ?_
          refine g_callS (n9 := 1) (av := [.int (nI k)]) (st := []) E (ct_X1_ones l k (by omega)) dX1_search_65 q1566 q1471 q120 q1472 (by decide +kernel) rfl rfl ⟨by decide, by decide⟩ ⟨by decide, by decide⟩ (Nat.le_of_ble_eq_true rfl) rfl (gPu.k ?_)
          refine g_iload_n E dX1_search_68 rfl rfl rfl ?_
          refine g_icmp_ne E dX1_search_69 (tgt := 94) (by decide) rfl (fun c69 => ?_) (fun c69 => ?_)
          · refine g_lo (lo1 := [some (.ref 1000), some (.int p), some (.int (zMin p (nI (B 0 1)))), some (.int (zSe B R d (zMin p (nI (B 0 1))) (k + 1))), some (.int (nI k))]) (by simp [zSe, c69]) ?_
            refine g_iinc E dX1_search_94 rfl (v := nI (k + 1)) (nI_c _) (by decide) rfl (lo1 := [some (.ref 1000), some (.int p), some (.int (zMin p (nI (B 0 1)))), some (.int (zSe B R d (zMin p (nI (B 0 1))) (k + 1))), some (.int (nI (k + 1)))]) rfl rfl ?_
            refine g_goto E dX1_search_97 (tgt := 49) (by decide) ?_
            exact ih49 (k + 1) (by omega) (by omega)
          · refine g_iload_n E dX1_search_72 rfl rfl rfl ?_
            refine g_iconst E (v := (-1)) dX1_search_73 (by decide) rfl ?_
            refine g_icmp_eq E dX1_search_74 (tgt := 91) (by decide) rfl (fun c74 => ?_) (fun c74 => ?_)
            · refine g_iload E dX1_search_91 rfl rfl ?_
              refine g_istore_n E dX1_search_93 rfl (by decide) rfl (lo1 := [some (.ref 1000), some (.int p), some (.int (zMin p (nI (B 0 1)))), some (.int (nI k)), some (.int (nI k))]) rfl rfl ?_
              refine g_lo (lo1 := [some (.ref 1000), some (.int p), some (.int (zMin p (nI (B 0 1)))), some (.int (zSe B R d (zMin p (nI (B 0 1))) (k + 1))), some (.int (nI k))]) (by simp [zSe, c69, c74]) ?_
              refine g_iinc E dX1_search_94 rfl (v := nI (k + 1)) (nI_c _) (by decide) rfl (lo1 := [some (.ref 1000), some (.int p), some (.int (zMin p (nI (B 0 1)))), some (.int (zSe B R d (zMin p (nI (B 0 1))) (k + 1))), some (.int (nI (k + 1)))]) rfl rfl ?_
              refine g_goto E dX1_search_97 (tgt := 49) (by decide) ?_
              exact ih49 (k + 1) (by omega) (by omega)
            · refine g_aload_n E dX1_search_77 rfl rfl rfl ?_
              refine g_iload E dX1_search_78 rfl rfl ?_
              have y4 := (hLd.fr  (fun j9 a9 b9 => f1 j9 (by omega)))
              have y5 := (hBr.fr hw (fun j9 a9 b9 => f1 j9 (by omega)))
              refine g_callV (k := 1000) (n9 := 1) (av := [.int (nI k)]) (st := []) E (ct_X1_hiddenWorth l (nI k) hw hs1 y4 y5) gciX1 dX1_search_80 hs1_a q1567 q1569 qs45 q120 q1570 (by decide +kernel) rfl rfl ⟨by decide, by decide⟩ ⟨by decide, by decide⟩ (Nat.le_of_ble_eq_true rfl) rfl (gPu.k ?_)
              refine g_aload_n E dX1_search_83 rfl rfl rfl ?_
              refine g_iload_n E dX1_search_84 rfl rfl rfl ?_
              refine g_callV (k := 1000) (n9 := 1) (av := [.int (zSe B R d (zMin p (nI (B 0 1))) k)]) (st := [.int (zHw B R d (nI k))]) E (ct_X1_hiddenWorth l (zSe B R d (zMin p (nI (B 0 1))) k) hw hs1 y4 y5) gciX1 dX1_search_85 hs1_a q1567 q1569 qs45 q120 q1570 (by decide +kernel) rfl rfl ⟨by decide, by decide⟩ ⟨by decide, by decide⟩ (Nat.le_of_ble_eq_true rfl) rfl (gPu.k ?_)
              refine g_icmp_le E dX1_search_88 (tgt := 94) (by decide) rfl (fun c88 => ?_) (fun c88 => ?_)
              · refine g_lo (lo1 := [some (.ref 1000), some (.int p), some (.int (zMin p (nI (B 0 1)))), some (.int (zSe B R d (zMin p (nI (B 0 1))) (k + 1))), some (.int (nI k))]) (by simp [zSe, c69, c74, c88]) ?_
                refine g_iinc E dX1_search_94 rfl (v := nI (k + 1)) (nI_c _) (by decide) rfl (lo1 := [some (.ref 1000), some (.int p), some (.int (zMin p (nI (B 0 1)))), some (.int (zSe B R d (zMin p (nI (B 0 1))) (k + 1))), some (.int (nI (k + 1)))]) rfl rfl ?_
                refine g_goto E dX1_search_97 (tgt := 49) (by decide) ?_
                exact ih49 (k + 1) (by omega) (by omega)
              · refine g_iload E dX1_search_91 rfl rfl ?_
                refine g_istore_n E dX1_search_93 rfl (by decide) rfl (lo1 := [some (.ref 1000), some (.int p), some (.int (zMin p (nI (B 0 1)))), some (.int (nI k)), some (.int (nI k))]) rfl rfl ?_
                refine g_lo (lo1 := [some (.ref 1000), some (.int p), some (.int (zMin p (nI (B 0 1)))), some (.int (zSe B R d (zMin p (nI (B 0 1))) (k + 1))), some (.int (nI k))]) (by simp [zSe, c69, c74, c88]) ?_
                refine g_iinc E dX1_search_94 rfl (v := nI (k + 1)) (nI_c _) (by decide) rfl (lo1 := [some (.ref 1000), some (.int p), some (.int (zMin p (nI (B 0 1)))), some (.int (zSe B R d (zMin p (nI (B 0 1))) (k + 1))), some (.int (nI (k + 1)))]) rfl rfl ?_
                refine g_goto E dX1_search_97 (tgt := 49) (by decide) ?_
                exact ih49 (k + 1) (by omega) (by omega)
    exact lp49 ((2 ^ B 0 1) + 1) 0 (Nat.zero_le _) (Nat.lt_succ_of_le (Nat.sub_le _ _))
  · have c23 := zb_0.mp c23
    refine g_aload_n E dX1_search_26 rfl rfl rfl ?_
    refine g_iconst E (v := 2) dX1_search_27 (by decide) rfl ?_
    refine g_callV (k := 1000) (n9 := 1) (av := [.int 2]) (st := []) E (ct_X1_no l 2 hs1) gciX1 dX1_search_28 hs1_a q503 q505 qs3 q120 q506 (by decide +kernel) rfl rfl ⟨by decide, by decide⟩ ⟨by decide, by decide⟩ (Nat.le_of_ble_eq_true rfl) rfl (gPi.k (fun g6 h6 => ?_))
    obtain ⟨hs6, f6⟩ := h6
    have hs6_o := hs6
    obtain ⟨hs6_F, hs6_a, hs6_0, hs6_1, hs6_2, hs6_3, hs6_4, hs6_5, hs6_6, hs6_7, hs6_8, hs6_9, hs6_10, hs6_11, hs6_12, hs6_13, hs6_14, hs6_15, hs6_16, hs6_17, hs6_18, hs6_19⟩ := hs6_o
    have hs7 : sSea true B R d p = ((-1), 2) := by first | (simp [sSea, c23]; done) | (simp [sSea, c23, qWy]; done)
    exact g_iret E Rt dX1_search_31 rfl (by decide) (by decide) (by rw [hs7]; exact ⟨rfl, ⟨_, hs6_a, hs6_0, hs6_1, hs6_2, hs6_3, hs6_4, hs6_5, hs6_6, hs6_7, hs6_8, hs6_9, hs6_10, hs6_11, hs6_12, hs6_13, hs6_14, hs6_15, hs6_16, hs6_17, hs6_18, hs6_19⟩, fun j9 h9 => (f6 j9 (by omega)).trans (f1 j9 (by omega))⟩)
set_option maxHeartbeats 1000000 in
theorem ct_X1_search_N (l : Launch) {g : gWM} {tp mm um : Nat} {tr fa wh : Int32} (p : Int32) (hSo : pSo g .null tp tr fa wh mm um) : gCt l yX1_search cX1_search 5 (some .int) 1 0 0 21 [.ref 1000, .int p] g (gPi (sSea false zB0 (fun _ => 0) 0 p).1 (fun g1 => pSo g1 .null tp (sSea false zB0 (fun _ => 0) 0 p).2 fa (-1) mm um ∧ ∀ j, j ≠ 1000 → g1 j = g j)) := by
  refine gCt.of RX1 (by decide) rfl (lo := [some (.ref 1000), some (.int p), none, none, none]) 3 rfl (Nat.le_of_ble_eq_true rfl) (fun z E Rt => ?_)
  have hSo_o := hSo
  obtain ⟨hSo_F, hSo_a, hSo_0, hSo_1, hSo_2, hSo_3, hSo_4, hSo_5, hSo_6, hSo_7, hSo_8, hSo_9, hSo_10, hSo_11, hSo_12, hSo_13, hSo_14, hSo_15, hSo_16, hSo_17, hSo_18, hSo_19⟩ := hSo_o
  refine g_aload_n E dX1_search_0 rfl rfl rfl ?_
  refine g_callV (k := 1000) (n9 := 0) (av := []) (st := []) E (ct_X1_anew l hSo) gciX1 dX1_search_1 hSo_a q496 q498 qs2 q120 q499 (by decide +kernel) rfl rfl ⟨by decide, by decide⟩ ⟨by decide, by decide⟩ (Nat.le_of_ble_eq_true rfl) rfl (gPn.k (fun g1 h1 => ?_))
  obtain ⟨hs1, f1⟩ := h1
  have hs1_o := hs1
  obtain ⟨hs1_F, hs1_a, hs1_0, hs1_1, hs1_2, hs1_3, hs1_4, hs1_5, hs1_6, hs1_7, hs1_8, hs1_9, hs1_10, hs1_11, hs1_12, hs1_13, hs1_14, hs1_15, hs1_16, hs1_17, hs1_18, hs1_19⟩ := hs1_o
  refine g_aload_n E dX1_search_4 rfl rfl rfl ?_
  refine g_getf E gciX1 dX1_search_5 hs1_a 3 rfl (by decide) q425 (.inl rfl) (.null) (hs1_3) rfl ?_
  refine g_ifnonnullN E dX1_search_8 rfl ?_
  refine g_aload_n E dX1_search_11 rfl rfl rfl ?_
  refine g_iconst E (v := 1) dX1_search_12 (by decide) rfl ?_
  refine g_callV (k := 1000) (n9 := 1) (av := [.int 1]) (st := []) E (ct_X1_no l 1 hs1) gciX1 dX1_search_13 hs1_a q503 q505 qs3 q120 q506 (by decide +kernel) rfl rfl ⟨by decide, by decide⟩ ⟨by decide, by decide⟩ (Nat.le_of_ble_eq_true rfl) rfl (gPi.k (fun g2 h2 => ?_))
  obtain ⟨hs2, f2⟩ := h2
  have hs2_o := hs2
  obtain ⟨hs2_F, hs2_a, hs2_0, hs2_1, hs2_2, hs2_3, hs2_4, hs2_5, hs2_6, hs2_7, hs2_8, hs2_9, hs2_10, hs2_11, hs2_12, hs2_13, hs2_14, hs2_15, hs2_16, hs2_17, hs2_18, hs2_19⟩ := hs2_o
  have hs3 : sSea false zB0 (fun _ => 0) 0 p = ((-1), 1) := by first | (simp [sSea, qI_z, qWy]; done) | (simp [sSea, qI_z, qWy, qWy]; done)
  exact g_iret E Rt dX1_search_16 rfl (by decide) (by decide) (by rw [hs3]; exact ⟨rfl, ⟨_, hs2_a, hs2_0, hs2_1, hs2_2, hs2_3, hs2_4, hs2_5, hs2_6, hs2_7, hs2_8, hs2_9, hs2_10, hs2_11, hs2_12, hs2_13, hs2_14, hs2_15, hs2_16, hs2_17, hs2_18, hs2_19⟩, fun j9 h9 => (f2 j9 (by omega)).trans (f1 j9 (by omega))⟩)
