/-! WALKS, first: goods and laws -/
set_option maxRecDepth 100000
set_option maxHeartbeats 400000 in
theorem ct_X19_age (l : Launch) {g : gWM} {bb k j : Nat} {B : gBar} (d : Int32) (hG : pGo g bb k B j) : gCt l yX19_age cX19_age 2 (some .int) 0 0 0 0 [.ref k, .int d] g (gPu (.int (zAge B j d)) g) := by
  refine gCt.of RX19 (by decide) rfl (lo := [some (.ref k), some (.int d)]) 0 rfl (Nat.le_of_ble_eq_true rfl) (fun z E Rt => ?_)
  have o1 := hG
  obtain ⟨⟨o1_F, o1_a, o1_0, o1_1, o1_2, o1_3, o1_4, o1_7⟩, o1_m, o1_k⟩ := o1
  refine g_aload_n E dX19_age_0 rfl rfl rfl ?_
  refine g_getG E dX19_age_1 o1_a (o1_k) 1 (by decide) rfl rfl rfl rfl rfl q969 (.inl rfl) (.int (nI (B 15 j))) (o1_1) rfl ?_
  refine g_iload_n E dX19_age_4 rfl rfl rfl ?_
  refine g_iadd E dX19_age_5 rfl ?_
  exact g_iret E Rt dX19_age_6 rfl (by decide) (by decide) (⟨congrArg (fun x => some (Value.int x)) (by simp [zAge]), rfl⟩)
set_option maxHeartbeats 1000000 in
theorem v_age_Good {z : gZ} {l : Launch} {cc : ByteArray} {nL : Nat} {own : String} {ret : Option FieldType} {fr mc ms lc : Nat} {g : gWM} {kc ks pc q : Nat} {lo : List (Option Value)} {st : List Value} (E : gEv z l cc nL own ret fr mc ms lc) {idx k bb j : Nat} {B : gBar} {dd : Int32} (d : decode cc pc = .ok (.invokevirtual idx, 3)) (ql : Cond.methodLink own idx ⟨"SaltedGate$Good", "age", "(I)I"⟩ ∈ lw_all) (hG : pGo g bb k B j)   (hR : 1 ≤ fr ∧ 21 ≤ lc) (hf : kc ≤ mc ∧ ks ≤ ms) (hroom : gcat st ≤ 8) (hq : pc + 3 = q) (kk : gV z g kc ks q lo (.int (zAge B j dd) :: st)) : gV z g kc ks pc lo (.int dd :: .ref k :: st) := by
  have hGo := hG
  obtain ⟨⟨F, hF, -⟩, -, hk4⟩ := hGo
  have h1 := hR.1; have h2 := hR.2
  match hkd : B 12 j, hk4 with
  | 0, _ =>
    rw [hkd] at hF
    refine g_callU (k := k) (n9 := 1) (av := [.int dd]) (st := st) E (ct_X19_age l dd hG) gciX20 d hF ql q1186 q1187 q1185 q146 q1192 rfl (by decide +kernel) rfl rfl ⟨by omega, by omega⟩ hf hroom hq (gPu.k ?_)
    exact kk
  | 1, _ =>
    rw [hkd] at hF
    refine g_callU (k := k) (n9 := 1) (av := [.int dd]) (st := st) E (ct_X19_age l dd hG) gciX22 d hF ql q1186 q1190 q1185 q146 q1192 rfl (by decide +kernel) rfl rfl ⟨by omega, by omega⟩ hf hroom hq (gPu.k ?_)
    exact kk
  | 2, _ =>
    rw [hkd] at hF
    refine g_callU (k := k) (n9 := 1) (av := [.int dd]) (st := st) E (ct_X19_age l dd hG) gciX23 d hF ql q1186 q1191 q1185 q146 q1192 rfl (by decide +kernel) rfl rfl ⟨by omega, by omega⟩ hf hroom hq (gPu.k ?_)
    exact kk
  | 3, _ =>
    rw [hkd] at hF
    refine g_callU (k := k) (n9 := 1) (av := [.int dd]) (st := st) E (ct_X19_age l dd hG) gciX24 d hF ql q1186 q1189 q1185 q146 q1192 rfl (by decide +kernel) rfl rfl ⟨by omega, by omega⟩ hf hroom hq (gPu.k ?_)
    exact kk
  | 4, _ =>
    rw [hkd] at hF
    refine g_callU (k := k) (n9 := 1) (av := [.int dd]) (st := st) E (ct_X19_age l dd hG) gciX25 d hF ql q1186 q1188 q1185 q146 q1192 rfl (by decide +kernel) rfl rfl ⟨by omega, by omega⟩ hf hroom hq (gPu.k ?_)
    exact kk
  | n + 5, h => exact absurd h (by omega)
set_option maxHeartbeats 1000000 in
theorem v_age_Kept {z : gZ} {l : Launch} {cc : ByteArray} {nL : Nat} {own : String} {ret : Option FieldType} {fr mc ms lc : Nat} {g : gWM} {kc ks pc q : Nat} {lo : List (Option Value)} {st : List Value} (E : gEv z l cc nL own ret fr mc ms lc) {idx k bb j : Nat} {B : gBar} {dd : Int32} (d : decode cc pc = .ok (.invokevirtual idx, 3)) (ql : Cond.methodLink own idx ⟨"SaltedGate$Kept", "age", "(I)I"⟩ ∈ lw_all) (hG : pGo g bb k B j) (hk0 : B 12 j ≠ 0)  (hR : 1 ≤ fr ∧ 21 ≤ lc) (hf : kc ≤ mc ∧ ks ≤ ms) (hroom : gcat st ≤ 8) (hq : pc + 3 = q) (kk : gV z g kc ks q lo (.int (zAge B j dd) :: st)) : gV z g kc ks pc lo (.int dd :: .ref k :: st) := by
  have hGo := hG
  obtain ⟨⟨F, hF, -⟩, -, hk4⟩ := hGo
  have h1 := hR.1; have h2 := hR.2
  match hkd : B 12 j, hk4 with
  | 0, _ => exact absurd hkd hk0
  | 1, _ =>
    rw [hkd] at hF
    refine g_callU (k := k) (n9 := 1) (av := [.int dd]) (st := st) E (ct_X19_age l dd hG) gciX22 d hF ql q1223 q1226 q1185 q146 q1192 rfl (by decide +kernel) rfl rfl ⟨by omega, by omega⟩ hf hroom hq (gPu.k ?_)
    exact kk
  | 2, _ =>
    rw [hkd] at hF
    refine g_callU (k := k) (n9 := 1) (av := [.int dd]) (st := st) E (ct_X19_age l dd hG) gciX23 d hF ql q1223 q1227 q1185 q146 q1192 rfl (by decide +kernel) rfl rfl ⟨by omega, by omega⟩ hf hroom hq (gPu.k ?_)
    exact kk
  | 3, _ =>
    rw [hkd] at hF
    refine g_callU (k := k) (n9 := 1) (av := [.int dd]) (st := st) E (ct_X19_age l dd hG) gciX24 d hF ql q1223 q1225 q1185 q146 q1192 rfl (by decide +kernel) rfl rfl ⟨by omega, by omega⟩ hf hroom hq (gPu.k ?_)
    exact kk
  | 4, _ =>
    rw [hkd] at hF
    refine g_callU (k := k) (n9 := 1) (av := [.int dd]) (st := st) E (ct_X19_age l dd hG) gciX25 d hF ql q1223 q1224 q1185 q146 q1192 rfl (by decide +kernel) rfl rfl ⟨by omega, by omega⟩ hf hroom hq (gPu.k ?_)
    exact kk
  | n + 5, h => exact absurd h (by omega)
set_option maxHeartbeats 1000000 in
theorem v_age_Fresh {z : gZ} {l : Launch} {cc : ByteArray} {nL : Nat} {own : String} {ret : Option FieldType} {fr mc ms lc : Nat} {g : gWM} {kc ks pc q : Nat} {lo : List (Option Value)} {st : List Value} (E : gEv z l cc nL own ret fr mc ms lc) {idx k bb j : Nat} {B : gBar} {dd : Int32} (d : decode cc pc = .ok (.invokevirtual idx, 3)) (ql : Cond.methodLink own idx ⟨"SaltedGate$Fresh", "age", "(I)I"⟩ ∈ lw_all) (hG : pGo g bb k B j) (hkd9 : B 12 j = 0)  (hR : 1 ≤ fr ∧ 21 ≤ lc) (hf : kc ≤ mc ∧ ks ≤ ms) (hroom : gcat st ≤ 8) (hq : pc + 3 = q) (kk : gV z g kc ks q lo (.int (zAge B j dd) :: st)) : gV z g kc ks pc lo (.int dd :: .ref k :: st) := by
  have hGo := hG
  obtain ⟨⟨F, hF, -⟩, -, hk4⟩ := hGo
  have h1 := hR.1; have h2 := hR.2
  have hkd := hkd9
  rw [hkd] at hF
  refine g_callU (k := k) (n9 := 1) (av := [.int dd]) (st := st) E (ct_X19_age l dd hG) gciX20 d hF ql q1213 q1215 q1185 q146 q1192 rfl (by decide +kernel) rfl rfl ⟨by omega, by omega⟩ hf hroom hq (gPu.k ?_)
  exact kk
set_option maxHeartbeats 1000000 in
theorem v_age_Wine {z : gZ} {l : Launch} {cc : ByteArray} {nL : Nat} {own : String} {ret : Option FieldType} {fr mc ms lc : Nat} {g : gWM} {kc ks pc q : Nat} {lo : List (Option Value)} {st : List Value} (E : gEv z l cc nL own ret fr mc ms lc) {idx k bb j : Nat} {B : gBar} {dd : Int32} (d : decode cc pc = .ok (.invokevirtual idx, 3)) (ql : Cond.methodLink own idx ⟨"SaltedGate$Wine", "age", "(I)I"⟩ ∈ lw_all) (hG : pGo g bb k B j) (hkd9 : B 12 j = 2)  (hR : 1 ≤ fr ∧ 21 ≤ lc) (hf : kc ≤ mc ∧ ks ≤ ms) (hroom : gcat st ≤ 8) (hq : pc + 3 = q) (kk : gV z g kc ks q lo (.int (zAge B j dd) :: st)) : gV z g kc ks pc lo (.int dd :: .ref k :: st) := by
  have hGo := hG
  obtain ⟨⟨F, hF, -⟩, -, hk4⟩ := hGo
  have h1 := hR.1; have h2 := hR.2
  have hkd := hkd9
  rw [hkd] at hF
  refine g_callU (k := k) (n9 := 1) (av := [.int dd]) (st := st) E (ct_X19_age l dd hG) gciX23 d hF ql q1375 q1376 q1185 q146 q1192 rfl (by decide +kernel) rfl rfl ⟨by omega, by omega⟩ hf hroom hq (gPu.k ?_)
  exact kk
set_option maxHeartbeats 400000 in
theorem ct_X20_isTurned (l : Launch) {g : gWM} {bb k j : Nat} {B : gBar} (d : Int32) (hG : pGo g bb k B j) (hkd : B 12 j = 0) : gCt l yX20_isTurned cX20_isTurned 2 (some .boolean) 1 0 0 21 [.ref k, .int d] g (gPu (.int (zb (zTur B j d))) g) := by
  refine gCt.of RX20 (by decide) rfl (lo := [some (.ref k), some (.int d)]) 0 rfl (Nat.le_of_ble_eq_true rfl) (fun z E Rt => ?_)
  have o1 := hG
  obtain ⟨⟨o1_F, o1_a, o1_0, o1_1, o1_2, o1_3, o1_4, o1_7⟩, o1_m, o1_k⟩ := o1
  refine g_aload_n E dX20_isTurned_0 rfl rfl rfl ?_
  refine g_iload_n E dX20_isTurned_1 rfl rfl rfl ?_
  refine v_age_Fresh E dX20_isTurned_2 q1212 hG hkd ⟨by decide, by decide⟩ ⟨by decide, by decide⟩ (Nat.le_of_ble_eq_true rfl) rfl ?_
  refine g_iconst E (v := 3) dX20_isTurned_5 (by decide) rfl ?_
  refine g_icmp_le E dX20_isTurned_6 (tgt := 13) (by decide) rfl (fun c6 => ?_) (fun c6 => ?_)
  · refine g_iconst E (v := 0) dX20_isTurned_13 (by decide) rfl ?_
    exact g_zret E Rt dX20_isTurned_14 rfl (by decide) (by decide) (by decide) (⟨congrArg (fun x => some (Value.int x)) (by simp [zTur, hkd, zb, c6]), rfl⟩)
  · refine g_iconst E (v := 1) dX20_isTurned_9 (by decide) rfl ?_
    refine g_goto E dX20_isTurned_10 (tgt := 14) (by decide) ?_
    exact g_zret E Rt dX20_isTurned_14 rfl (by decide) (by decide) (by decide) (⟨congrArg (fun x => some (Value.int x)) (by simp [zTur, hkd, zb, c6]), rfl⟩)
set_option maxHeartbeats 400000 in
theorem ct_X21_isTurned (l : Launch) {g : gWM} {bb k j : Nat} {B : gBar} (d : Int32) (hk0 : B 12 j ≠ 0) (hn4 : B 12 j ≠ 4) (hG : pGo g bb k B j) : gCt l yX21_isTurned cX21_isTurned 2 (some .boolean) 1 0 0 21 [.ref k, .int d] g (gPu (.int (zb (zTur B j d))) g) := by
  refine gCt.of RX21 (by decide) rfl (lo := [some (.ref k), some (.int d)]) 0 rfl (Nat.le_of_ble_eq_true rfl) (fun z E Rt => ?_)
  have o1 := hG
  obtain ⟨⟨o1_F, o1_a, o1_0, o1_1, o1_2, o1_3, o1_4, o1_7⟩, o1_m, o1_k⟩ := o1
  obtain ⟨m2_F, m2_a, m2_1, m2_2, m2_3, m2_4, m2_5, m2_6, m2_7⟩ := o1_m hk0
  refine g_aload_n E dX21_isTurned_0 rfl rfl rfl ?_
  refine g_iload_n E dX21_isTurned_1 rfl rfl rfl ?_
  refine v_age_Kept E dX21_isTurned_2 q1222 hG hk0 ⟨by decide, by decide⟩ ⟨by decide, by decide⟩ (Nat.le_of_ble_eq_true rfl) rfl ?_
  refine g_aload_n E dX21_isTurned_5 rfl rfl rfl ?_
  refine g_getK E dX21_isTurned_6 o1_a (o1_k) (hk0) 7 (by decide) rfl rfl rfl rfl q1015 (.inl rfl) (.ref (bb + 10 + B 13 j)) (o1_7 hk0) rfl ?_
  refine g_getf E gciX16 dX21_isTurned_9 m2_a 4 rfl (by decide) q855 (.inl rfl) (.int (nI (B 3 (B 13 j)))) (m2_4) rfl ?_
  refine g_icmp_le E dX21_isTurned_12 (tgt := 19) (by decide) rfl (fun c12 => ?_) (fun c12 => ?_)
  · refine g_iconst E (v := 0) dX21_isTurned_19 (by decide) rfl ?_
    exact g_zret E Rt dX21_isTurned_20 rfl (by decide) (by decide) (by decide) (⟨congrArg (fun x => some (Value.int x)) (by simp [zTur, hk0, hn4, zb, c12]), rfl⟩)
  · refine g_iconst E (v := 1) dX21_isTurned_15 (by decide) rfl ?_
    refine g_goto E dX21_isTurned_16 (tgt := 20) (by decide) ?_
    exact g_zret E Rt dX21_isTurned_20 rfl (by decide) (by decide) (by decide) (⟨congrArg (fun x => some (Value.int x)) (by simp [zTur, hk0, hn4, zb, c12]), rfl⟩)
set_option maxHeartbeats 400000 in
theorem ct_X25_isTurned (l : Launch) {g : gWM} {bb k j : Nat} {B : gBar} (d : Int32) (hG : pGo g bb k B j) (hkd : B 12 j = 4) : gCt l yX25_isTurned cX25_isTurned 2 (some .boolean) 0 0 0 0 [.ref k, .int d] g (gPu (.int (zb (zTur B j d))) g) := by
  refine gCt.of RX25 (by decide) rfl (lo := [some (.ref k), some (.int d)]) 0 rfl (Nat.le_of_ble_eq_true rfl) (fun z E Rt => ?_)
  have o1 := hG
  obtain ⟨⟨o1_F, o1_a, o1_0, o1_1, o1_2, o1_3, o1_4, o1_7⟩, o1_m, o1_k⟩ := o1
  refine g_iconst E (v := 0) dX25_isTurned_0 (by decide) rfl ?_
  exact g_zret E Rt dX25_isTurned_1 rfl (by decide) (by decide) (by decide) (⟨congrArg (fun x => some (Value.int x)) (by simp [zTur, hkd, zb]), rfl⟩)
set_option maxHeartbeats 1000000 in
theorem v_isTurned_Good {z : gZ} {l : Launch} {cc : ByteArray} {nL : Nat} {own : String} {ret : Option FieldType} {fr mc ms lc : Nat} {g : gWM} {kc ks pc q : Nat} {lo : List (Option Value)} {st : List Value} (E : gEv z l cc nL own ret fr mc ms lc) {idx k bb j : Nat} {B : gBar} {dd : Int32} (d : decode cc pc = .ok (.invokevirtual idx, 3)) (ql : Cond.methodLink own idx ⟨"SaltedGate$Good", "isTurned", "(I)Z"⟩ ∈ lw_all) (hG : pGo g bb k B j)   (hR : 2 ≤ fr ∧ 42 ≤ lc) (hf : kc ≤ mc ∧ ks ≤ ms) (hroom : gcat st ≤ 8) (hq : pc + 3 = q) (kk : gV z g kc ks q lo (.int (zb (zTur B j dd)) :: st)) : gV z g kc ks pc lo (.int dd :: .ref k :: st) := by
  have hGo := hG
  obtain ⟨⟨F, hF, -⟩, -, hk4⟩ := hGo
  have h1 := hR.1; have h2 := hR.2
  match hkd : B 12 j, hk4 with
  | 0, _ =>
    rw [hkd] at hF
    refine g_callA (k := k) (n9 := 1) (av := [.int dd]) (st := st) E (ct_X20_isTurned l dd hG hkd) gciX20 d hF ql q1208 q1207 q1209 q1210 q147 q1211 (by decide +kernel) rfl rfl ⟨by omega, by omega⟩ hf hroom hq (gPu.k ?_)
    exact kk
  | 1, _ =>
    rw [hkd] at hF
    refine g_callA (k := k) (n9 := 1) (av := [.int dd]) (st := st) E (ct_X21_isTurned l dd (by omega) (by omega) hG) gciX22 d hF ql q1208 q1207 q1228 q1220 q148 q1221 (by decide +kernel) rfl rfl ⟨by omega, by omega⟩ hf hroom hq (gPu.k ?_)
    exact kk
  | 2, _ =>
    rw [hkd] at hF
    refine g_callA (k := k) (n9 := 1) (av := [.int dd]) (st := st) E (ct_X21_isTurned l dd (by omega) (by omega) hG) gciX23 d hF ql q1208 q1207 q1229 q1220 q148 q1221 (by decide +kernel) rfl rfl ⟨by omega, by omega⟩ hf hroom hq (gPu.k ?_)
    exact kk
  | 3, _ =>
    rw [hkd] at hF
    refine g_callA (k := k) (n9 := 1) (av := [.int dd]) (st := st) E (ct_X21_isTurned l dd (by omega) (by omega) hG) gciX24 d hF ql q1208 q1207 q1219 q1220 q148 q1221 (by decide +kernel) rfl rfl ⟨by omega, by omega⟩ hf hroom hq (gPu.k ?_)
    exact kk
  | 4, _ =>
    rw [hkd] at hF
    refine g_callA (k := k) (n9 := 1) (av := [.int dd]) (st := st) E (ct_X25_isTurned l dd hG hkd) gciX25 d hF ql q1208 q1207 q1216 q1217 q152 q1218 (by decide +kernel) rfl rfl ⟨by omega, by omega⟩ hf hroom hq (gPu.k ?_)
    exact kk
  | n + 5, h => exact absurd h (by omega)
set_option maxHeartbeats 1000000 in
theorem v_isTurned_Kept {z : gZ} {l : Launch} {cc : ByteArray} {nL : Nat} {own : String} {ret : Option FieldType} {fr mc ms lc : Nat} {g : gWM} {kc ks pc q : Nat} {lo : List (Option Value)} {st : List Value} (E : gEv z l cc nL own ret fr mc ms lc) {idx k bb j : Nat} {B : gBar} {dd : Int32} (d : decode cc pc = .ok (.invokevirtual idx, 3)) (ql : Cond.methodLink own idx ⟨"SaltedGate$Kept", "isTurned", "(I)Z"⟩ ∈ lw_all) (hG : pGo g bb k B j) (hk0 : B 12 j ≠ 0)  (hR : 2 ≤ fr ∧ 42 ≤ lc) (hf : kc ≤ mc ∧ ks ≤ ms) (hroom : gcat st ≤ 8) (hq : pc + 3 = q) (kk : gV z g kc ks q lo (.int (zb (zTur B j dd)) :: st)) : gV z g kc ks pc lo (.int dd :: .ref k :: st) := by
  have hGo := hG
  obtain ⟨⟨F, hF, -⟩, -, hk4⟩ := hGo
  have h1 := hR.1; have h2 := hR.2
  match hkd : B 12 j, hk4 with
  | 0, _ => exact absurd hkd hk0
  | 1, _ =>
    rw [hkd] at hF
    refine g_callU (k := k) (n9 := 1) (av := [.int dd]) (st := st) E (ct_X21_isTurned l dd (by omega) (by omega) hG) gciX22 d hF ql q2545 q2548 q1220 q148 q1221 rfl (by decide +kernel) rfl rfl ⟨by omega, by omega⟩ hf hroom hq (gPu.k ?_)
    exact kk
  | 2, _ =>
    rw [hkd] at hF
    refine g_callU (k := k) (n9 := 1) (av := [.int dd]) (st := st) E (ct_X21_isTurned l dd (by omega) (by omega) hG) gciX23 d hF ql q2545 q2549 q1220 q148 q1221 rfl (by decide +kernel) rfl rfl ⟨by omega, by omega⟩ hf hroom hq (gPu.k ?_)
    exact kk
  | 3, _ =>
    rw [hkd] at hF
    refine g_callU (k := k) (n9 := 1) (av := [.int dd]) (st := st) E (ct_X21_isTurned l dd (by omega) (by omega) hG) gciX24 d hF ql q2545 q2547 q1220 q148 q1221 rfl (by decide +kernel) rfl rfl ⟨by omega, by omega⟩ hf hroom hq (gPu.k ?_)
    exact kk
  | 4, _ =>
    rw [hkd] at hF
    refine g_callO (k := k) (n9 := 1) (av := [.int dd]) (st := st) E (ct_X25_isTurned l dd hG hkd) gciX25 d hF ql q2545 q1220 q2546 q1217 q152 q1218 q1221 (by decide +kernel) rfl rfl ⟨by omega, by omega⟩ hf hroom hq (gPu.k ?_)
    exact kk
  | n + 5, h => exact absurd h (by omega)
set_option maxHeartbeats 1000000 in
theorem v_isTurned_Wine {z : gZ} {l : Launch} {cc : ByteArray} {nL : Nat} {own : String} {ret : Option FieldType} {fr mc ms lc : Nat} {g : gWM} {kc ks pc q : Nat} {lo : List (Option Value)} {st : List Value} (E : gEv z l cc nL own ret fr mc ms lc) {idx k bb j : Nat} {B : gBar} {dd : Int32} (d : decode cc pc = .ok (.invokevirtual idx, 3)) (ql : Cond.methodLink own idx ⟨"SaltedGate$Wine", "isTurned", "(I)Z"⟩ ∈ lw_all) (hG : pGo g bb k B j) (hkd9 : B 12 j = 2)  (hR : 2 ≤ fr ∧ 42 ≤ lc) (hf : kc ≤ mc ∧ ks ≤ ms) (hroom : gcat st ≤ 8) (hq : pc + 3 = q) (kk : gV z g kc ks q lo (.int (zb (zTur B j dd)) :: st)) : gV z g kc ks pc lo (.int dd :: .ref k :: st) := by
  have hGo := hG
  obtain ⟨⟨F, hF, -⟩, -, hk4⟩ := hGo
  have h1 := hR.1; have h2 := hR.2
  have hkd := hkd9
  rw [hkd] at hF
  refine g_callU (k := k) (n9 := 1) (av := [.int dd]) (st := st) E (ct_X21_isTurned l dd (by omega) (by omega) hG) gciX23 d hF ql q1366 q1368 q1220 q148 q1221 rfl (by decide +kernel) rfl rfl ⟨by omega, by omega⟩ hf hroom hq (gPu.k ?_)
  exact kk
set_option maxHeartbeats 400000 in
theorem ct_X19_worthOn (l : Launch) {g : gWM} {bb k j : Nat} {B : gBar} (d : Int32) (hG : pGo g bb k B j) : gCt l yX19_worthOn cX19_worthOn 2 (some .int) 2 0 0 42 [.ref k, .int d] g (gPu (.int (if zTur B j d then 0 else nI (B 17 j))) g) := by
  refine gCt.of RX19 (by decide) rfl (lo := [some (.ref k), some (.int d)]) 0 rfl (Nat.le_of_ble_eq_true rfl) (fun z E Rt => ?_)
  have o1 := hG
  obtain ⟨⟨o1_F, o1_a, o1_0, o1_1, o1_2, o1_3, o1_4, o1_7⟩, o1_m, o1_k⟩ := o1
  refine g_aload_n E dX19_worthOn_0 rfl rfl rfl ?_
  refine g_iload_n E dX19_worthOn_1 rfl rfl rfl ?_
  refine v_isTurned_Good E dX19_worthOn_2 q1373 hG ⟨by decide, by decide⟩ ⟨by decide, by decide⟩ (Nat.le_of_ble_eq_true rfl) rfl ?_
  refine g_if_eq E dX19_worthOn_5 (tgt := 12) (by decide) rfl (fun c5 => ?_) (fun c5 => ?_)
  · have c5 := zb_0.mp c5
    refine g_aload_n E dX19_worthOn_12 rfl rfl rfl ?_
    refine g_getG E dX19_worthOn_13 o1_a (o1_k) 3 (by decide) rfl rfl rfl rfl rfl q976 (.inl rfl) (.int (nI (B 17 j))) (o1_3) rfl ?_
    exact g_iret E Rt dX19_worthOn_16 rfl (by decide) (by decide) (⟨congrArg (fun x => some (Value.int x)) (by simp [c5]), rfl⟩)
  · have c5 := zb_n0.mp c5
    refine g_iconst E (v := 0) dX19_worthOn_8 (by decide) rfl ?_
    refine g_goto E dX19_worthOn_9 (tgt := 16) (by decide) ?_
    exact g_iret E Rt dX19_worthOn_16 rfl (by decide) (by decide) (⟨congrArg (fun x => some (Value.int x)) (by simp [c5]), rfl⟩)
set_option maxHeartbeats 400000 in
theorem ct_X23_worthOn (l : Launch) {g : gWM} {bb k j : Nat} {B : gBar} (d : Int32) (hkd : B 12 j = 2) (hk0 : B 12 j ≠ 0) (hG : pGo g bb k B j) : gCt l yX23_worthOn cX23_worthOn 2 (some .int) 3 0 0 63 [.ref k, .int d] g (gPu (.int (zWor B j d)) g) := by
  refine gCt.of RX23 (by decide) rfl (lo := [some (.ref k), some (.int d)]) 0 rfl (Nat.le_of_ble_eq_true rfl) (fun z E Rt => ?_)
  have o1 := hG
  obtain ⟨⟨o1_F, o1_a, o1_0, o1_1, o1_2, o1_3, o1_4, o1_7⟩, o1_m, o1_k⟩ := o1
  obtain ⟨m2_F, m2_a, m2_1, m2_2, m2_3, m2_4, m2_5, m2_6, m2_7⟩ := o1_m hk0
  refine g_aload_n E dX23_worthOn_0 rfl rfl rfl ?_
  refine g_iload_n E dX23_worthOn_1 rfl rfl rfl ?_
  refine v_isTurned_Wine E dX23_worthOn_2 q1365 hG hkd ⟨by decide, by decide⟩ ⟨by decide, by decide⟩ (Nat.le_of_ble_eq_true rfl) rfl ?_
  refine g_if_eq E dX23_worthOn_5 (tgt := 16) (by decide) rfl (fun c5 => ?_) (fun c5 => ?_)
  · have c5 := zb_0.mp c5
    refine g_aload_n E dX23_worthOn_16 rfl rfl rfl ?_
    refine g_iload_n E dX23_worthOn_17 rfl rfl rfl ?_
    have w3 := o1_a
    rw [hkd] at w3
    refine g_callSX (k := k) (n9 := 1) (av := [.int d]) (st := []) E (ct_X19_worthOn l d hG) gciX23 dX23_worthOn_18 w3 rfl q1369 q1370 q1041 q1182 q1356 q146 q1372 (by decide +kernel) rfl rfl ⟨by decide, by decide⟩ ⟨by decide, by decide⟩ (Nat.le_of_ble_eq_true rfl) rfl (gPu.k ?_)
    refine g_aload_n E dX23_worthOn_21 rfl rfl rfl ?_
    refine g_iload_n E dX23_worthOn_22 rfl rfl rfl ?_
    refine v_age_Wine E dX23_worthOn_23 q1374 hG hkd ⟨by decide, by decide⟩ ⟨by decide, by decide⟩ (Nat.le_of_ble_eq_true rfl) rfl ?_
    refine g_bipush E (v := 10) dX23_worthOn_26 (by decide) rfl ?_
    refine g_idiv E dX23_worthOn_28 (by decide) rfl ?_
    refine g_iadd E dX23_worthOn_29 rfl ?_
    exact g_iret E Rt dX23_worthOn_30 rfl (by decide) (by decide) (⟨congrArg (fun x => some (Value.int x)) (by simp [zWor, hkd, c5]), rfl⟩)
  · have c5 := zb_n0.mp c5
    refine g_aload_n E dX23_worthOn_8 rfl rfl rfl ?_
    refine g_iload_n E dX23_worthOn_9 rfl rfl rfl ?_
    have w4 := o1_a
    rw [hkd] at w4
    refine g_callSX (k := k) (n9 := 1) (av := [.int d]) (st := []) E (ct_X19_worthOn l d hG) gciX23 dX23_worthOn_10 w4 rfl q1369 q1370 q1041 q1182 q1356 q146 q1372 (by decide +kernel) rfl rfl ⟨by decide, by decide⟩ ⟨by decide, by decide⟩ (Nat.le_of_ble_eq_true rfl) rfl (gPu.k ?_)
    refine g_goto E dX23_worthOn_13 (tgt := 30) (by decide) ?_
    exact g_iret E Rt dX23_worthOn_30 rfl (by decide) (by decide) (⟨congrArg (fun x => some (Value.int x)) (by simp [zWor, hkd, c5]), rfl⟩)
set_option maxHeartbeats 1000000 in
theorem v_worthOn_Good {z : gZ} {l : Launch} {cc : ByteArray} {nL : Nat} {own : String} {ret : Option FieldType} {fr mc ms lc : Nat} {g : gWM} {kc ks pc q : Nat} {lo : List (Option Value)} {st : List Value} (E : gEv z l cc nL own ret fr mc ms lc) {idx k bb j : Nat} {B : gBar} {dd : Int32} (d : decode cc pc = .ok (.invokevirtual idx, 3)) (ql : Cond.methodLink own idx ⟨"SaltedGate$Good", "worthOn", "(I)I"⟩ ∈ lw_all) (hG : pGo g bb k B j)   (hR : 4 ≤ fr ∧ 84 ≤ lc) (hf : kc ≤ mc ∧ ks ≤ ms) (hroom : gcat st ≤ 8) (hq : pc + 3 = q) (kk : gV z g kc ks q lo (.int (zWor B j dd) :: st)) : gV z g kc ks pc lo (.int dd :: .ref k :: st) := by
  have hGo := hG
  obtain ⟨⟨F, hF, -⟩, -, hk4⟩ := hGo
  have h1 := hR.1; have h2 := hR.2
  match hkd : B 12 j, hk4 with
  | 0, _ =>
    rw [hkd] at hF
    rw [show zWor B j dd = (if zTur B j dd then 0 else nI (B 17 j)) by simp [zWor, hkd]] at kk
    refine g_callU (k := k) (n9 := 1) (av := [.int dd]) (st := st) E (ct_X19_worthOn l dd hG) gciX20 d hF ql q1357 q1358 q1356 q146 q1372 rfl (by decide +kernel) rfl rfl ⟨by omega, by omega⟩ hf hroom hq (gPu.k ?_)
    exact kk
  | 1, _ =>
    rw [hkd] at hF
    rw [show zWor B j dd = (if zTur B j dd then 0 else nI (B 17 j)) by simp [zWor, hkd]] at kk
    refine g_callU (k := k) (n9 := 1) (av := [.int dd]) (st := st) E (ct_X19_worthOn l dd hG) gciX22 d hF ql q1357 q1361 q1356 q146 q1372 rfl (by decide +kernel) rfl rfl ⟨by omega, by omega⟩ hf hroom hq (gPu.k ?_)
    exact kk
  | 2, _ =>
    rw [hkd] at hF
    refine g_callO (k := k) (n9 := 1) (av := [.int dd]) (st := st) E (ct_X23_worthOn l dd hkd (by omega) hG) gciX23 d hF ql q1357 q1356 q1362 q1363 q150 q1364 q1372 (by decide +kernel) rfl rfl ⟨by omega, by omega⟩ hf hroom hq (gPu.k ?_)
    exact kk
  | 3, _ =>
    rw [hkd] at hF
    rw [show zWor B j dd = (if zTur B j dd then 0 else nI (B 17 j)) by simp [zWor, hkd]] at kk
    refine g_callU (k := k) (n9 := 1) (av := [.int dd]) (st := st) E (ct_X19_worthOn l dd hG) gciX24 d hF ql q1357 q1360 q1356 q146 q1372 rfl (by decide +kernel) rfl rfl ⟨by omega, by omega⟩ hf hroom hq (gPu.k ?_)
    exact kk
  | 4, _ =>
    rw [hkd] at hF
    rw [show zWor B j dd = (if zTur B j dd then 0 else nI (B 17 j)) by simp [zWor, hkd]] at kk
    refine g_callU (k := k) (n9 := 1) (av := [.int dd]) (st := st) E (ct_X19_worthOn l dd hG) gciX25 d hF ql q1357 q1359 q1356 q146 q1372 rfl (by decide +kernel) rfl rfl ⟨by omega, by omega⟩ hf hroom hq (gPu.k ?_)
    exact kk
  | n + 5, h => exact absurd h (by omega)
set_option maxHeartbeats 400000 in
theorem ct_X19_smells (l : Launch) {g : gWM} {bb k j : Nat} {B : gBar} (d : Int32) (hG : pGo g bb k B j) : gCt l yX19_smells cX19_smells 2 (some .int) 1 0 0 21 [.ref k, .int d] g (gPu (.int (nI (B 16 j) + zAge B j d / 10)) g) := by
  refine gCt.of RX19 (by decide) rfl (lo := [some (.ref k), some (.int d)]) 0 rfl (Nat.le_of_ble_eq_true rfl) (fun z E Rt => ?_)
  have o1 := hG
  obtain ⟨⟨o1_F, o1_a, o1_0, o1_1, o1_2, o1_3, o1_4, o1_7⟩, o1_m, o1_k⟩ := o1
  refine g_aload_n E dX19_smells_0 rfl rfl rfl ?_
  refine g_getG E dX19_smells_1 o1_a (o1_k) 2 (by decide) rfl rfl rfl rfl rfl q973 (.inl rfl) (.int (nI (B 16 j))) (o1_2) rfl ?_
  refine g_aload_n E dX19_smells_4 rfl rfl rfl ?_
  refine g_iload_n E dX19_smells_5 rfl rfl rfl ?_
  refine v_age_Good E dX19_smells_6 q1184 hG ⟨by decide, by decide⟩ ⟨by decide, by decide⟩ (Nat.le_of_ble_eq_true rfl) rfl ?_
  refine g_bipush E (v := 10) dX19_smells_9 (by decide) rfl ?_
  refine g_idiv E dX19_smells_11 (by decide) rfl ?_
  refine g_iadd E dX19_smells_12 rfl ?_
  exact g_iret E Rt dX19_smells_13 rfl (by decide) (by decide) (⟨congrArg (fun x => some (Value.int x)) (by simp []), rfl⟩)
set_option maxHeartbeats 400000 in
theorem ct_X24_smells (l : Launch) {g : gWM} {bb k j : Nat} {B : gBar} (d : Int32) (hkd : B 12 j = 3) (hk0 : B 12 j ≠ 0) (hG : pGo g bb k B j) : gCt l yX24_smells cX24_smells 2 (some .int) 2 0 0 42 [.ref k, .int d] g (gPu (.int (zSmb B j d)) g) := by
  refine gCt.of RX24 (by decide) rfl (lo := [some (.ref k), some (.int d)]) 0 rfl (Nat.le_of_ble_eq_true rfl) (fun z E Rt => ?_)
  have o1 := hG
  obtain ⟨⟨o1_F, o1_a, o1_0, o1_1, o1_2, o1_3, o1_4, o1_7⟩, o1_m, o1_k⟩ := o1
  obtain ⟨m2_F, m2_a, m2_1, m2_2, m2_3, m2_4, m2_5, m2_6, m2_7⟩ := o1_m hk0
  refine g_iconst E (v := 2) dX24_smells_0 (by decide) rfl ?_
  refine g_aload_n E dX24_smells_1 rfl rfl rfl ?_
  refine g_iload_n E dX24_smells_2 rfl rfl rfl ?_
  have w3 := o1_a
  rw [hkd] at w3
  refine g_callSX (k := k) (n9 := 1) (av := [.int d]) (st := [.int 2]) E (ct_X19_smells l d hG) gciX24 dX24_smells_3 w3 rfl q1179 q1180 q1057 q1182 q1172 q146 q1183 (by decide +kernel) rfl rfl ⟨by decide, by decide⟩ ⟨by decide, by decide⟩ (Nat.le_of_ble_eq_true rfl) rfl (gPu.k ?_)
  refine g_imul E dX24_smells_6 rfl ?_
  exact g_iret E Rt dX24_smells_7 rfl (by decide) (by decide) (⟨congrArg (fun x => some (Value.int x)) (by simp [zSmb, hkd]), rfl⟩)
set_option maxHeartbeats 1000000 in
theorem v_smells_Good {z : gZ} {l : Launch} {cc : ByteArray} {nL : Nat} {own : String} {ret : Option FieldType} {fr mc ms lc : Nat} {g : gWM} {kc ks pc q : Nat} {lo : List (Option Value)} {st : List Value} (E : gEv z l cc nL own ret fr mc ms lc) {idx k bb j : Nat} {B : gBar} {dd : Int32} (d : decode cc pc = .ok (.invokevirtual idx, 3)) (ql : Cond.methodLink own idx ⟨"SaltedGate$Good", "smells", "(I)I"⟩ ∈ lw_all) (hG : pGo g bb k B j)   (hR : 3 ≤ fr ∧ 63 ≤ lc) (hf : kc ≤ mc ∧ ks ≤ ms) (hroom : gcat st ≤ 8) (hq : pc + 3 = q) (kk : gV z g kc ks q lo (.int (zSmb B j dd) :: st)) : gV z g kc ks pc lo (.int dd :: .ref k :: st) := by
  have hGo := hG
  obtain ⟨⟨F, hF, -⟩, -, hk4⟩ := hGo
  have h1 := hR.1; have h2 := hR.2
  match hkd : B 12 j, hk4 with
  | 0, _ =>
    rw [hkd] at hF
    rw [show zSmb B j dd = nI (B 16 j) + zAge B j dd / 10 by simp [zSmb, hkd]] at kk
    refine g_callU (k := k) (n9 := 1) (av := [.int dd]) (st := st) E (ct_X19_smells l dd hG) gciX20 d hF ql q1173 q1174 q1172 q146 q1183 rfl (by decide +kernel) rfl rfl ⟨by omega, by omega⟩ hf hroom hq (gPu.k ?_)
    exact kk
  | 1, _ =>
    rw [hkd] at hF
    rw [show zSmb B j dd = nI (B 16 j) + zAge B j dd / 10 by simp [zSmb, hkd]] at kk
    refine g_callU (k := k) (n9 := 1) (av := [.int dd]) (st := st) E (ct_X19_smells l dd hG) gciX22 d hF ql q1173 q1193 q1172 q146 q1183 rfl (by decide +kernel) rfl rfl ⟨by omega, by omega⟩ hf hroom hq (gPu.k ?_)
    exact kk
  | 2, _ =>
    rw [hkd] at hF
    rw [show zSmb B j dd = nI (B 16 j) + zAge B j dd / 10 by simp [zSmb, hkd]] at kk
    refine g_callU (k := k) (n9 := 1) (av := [.int dd]) (st := st) E (ct_X19_smells l dd hG) gciX23 d hF ql q1173 q1194 q1172 q146 q1183 rfl (by decide +kernel) rfl rfl ⟨by omega, by omega⟩ hf hroom hq (gPu.k ?_)
    exact kk
  | 3, _ =>
    rw [hkd] at hF
    refine g_callO (k := k) (n9 := 1) (av := [.int dd]) (st := st) E (ct_X24_smells l dd hkd (by omega) hG) gciX24 d hF ql q1173 q1172 q1176 q1177 q151 q1178 q1183 (by decide +kernel) rfl rfl ⟨by omega, by omega⟩ hf hroom hq (gPu.k ?_)
    exact kk
  | 4, _ =>
    rw [hkd] at hF
    rw [show zSmb B j dd = nI (B 16 j) + zAge B j dd / 10 by simp [zSmb, hkd]] at kk
    refine g_callU (k := k) (n9 := 1) (av := [.int dd]) (st := st) E (ct_X19_smells l dd hG) gciX25 d hF ql q1173 q1175 q1172 q146 q1183 rfl (by decide +kernel) rfl rfl ⟨by omega, by omega⟩ hf hroom hq (gPu.k ?_)
    exact kk
  | n + 5, h => exact absurd h (by omega)
set_option maxHeartbeats 400000 in
theorem ct_X19_isFresh (l : Launch) {g : gWM} {bb k j : Nat} {B : gBar} (hG : pGo g bb k B j) (hk0 : B 12 j ≠ 0) : gCt l yX19_isFresh cX19_isFresh 1 (some .boolean) 0 0 0 0 [.ref k] g (gPu (.int (zb (decide (B 12 j = 0)))) g) := by
  refine gCt.of RX19 (by decide) rfl (lo := [some (.ref k)]) 0 rfl (Nat.le_of_ble_eq_true rfl) (fun z E Rt => ?_)
  have o1 := hG
  obtain ⟨⟨o1_F, o1_a, o1_0, o1_1, o1_2, o1_3, o1_4, o1_7⟩, o1_m, o1_k⟩ := o1
  refine g_iconst E (v := 0) dX19_isFresh_0 (by decide) rfl ?_
  exact g_zret E Rt dX19_isFresh_1 rfl (by decide) (by decide) (by decide) (⟨congrArg (fun x => some (Value.int x)) (by simp [zb, hk0]), rfl⟩)
set_option maxHeartbeats 400000 in
theorem ct_X20_isFresh (l : Launch) {g : gWM} {bb k j : Nat} {B : gBar} (hG : pGo g bb k B j) (hkd : B 12 j = 0) : gCt l yX20_isFresh cX20_isFresh 1 (some .boolean) 0 0 0 0 [.ref k] g (gPu (.int (zb (decide (B 12 j = 0)))) g) := by
  refine gCt.of RX20 (by decide) rfl (lo := [some (.ref k)]) 0 rfl (Nat.le_of_ble_eq_true rfl) (fun z E Rt => ?_)
  have o1 := hG
  obtain ⟨⟨o1_F, o1_a, o1_0, o1_1, o1_2, o1_3, o1_4, o1_7⟩, o1_m, o1_k⟩ := o1
  refine g_iconst E (v := 1) dX20_isFresh_0 (by decide) rfl ?_
  exact g_zret E Rt dX20_isFresh_1 rfl (by decide) (by decide) (by decide) (⟨congrArg (fun x => some (Value.int x)) (by simp [zb, hkd]), rfl⟩)
set_option maxHeartbeats 1000000 in
theorem v_isFresh_Good {z : gZ} {l : Launch} {cc : ByteArray} {nL : Nat} {own : String} {ret : Option FieldType} {fr mc ms lc : Nat} {g : gWM} {kc ks pc q : Nat} {lo : List (Option Value)} {st : List Value} (E : gEv z l cc nL own ret fr mc ms lc) {idx k bb j : Nat} {B : gBar}  (d : decode cc pc = .ok (.invokevirtual idx, 3)) (ql : Cond.methodLink own idx ⟨"SaltedGate$Good", "isFresh", "()Z"⟩ ∈ lw_all) (hG : pGo g bb k B j)   (hR : 1 ≤ fr ∧ 20 ≤ lc) (hf : kc ≤ mc ∧ ks ≤ ms) (hroom : gcat st ≤ 8) (hq : pc + 3 = q) (kk : gV z g kc ks q lo (.int (zb (decide (B 12 j = 0))) :: st)) : gV z g kc ks pc lo (.ref k :: st) := by
  have hGo := hG
  obtain ⟨⟨F, hF, -⟩, -, hk4⟩ := hGo
  have h1 := hR.1; have h2 := hR.2
  match hkd : B 12 j, hk4 with
  | 0, _ =>
    rw [hkd] at hF
    refine g_callO (k := k) (n9 := 0) (av := []) (st := st) E (ct_X20_isFresh l hG hkd) gciX20 d hF ql q1197 q1196 q1198 q1199 q147 q1200 q1205 (by decide +kernel) rfl rfl ⟨by omega, by omega⟩ hf hroom hq (gPu.k ?_)
    exact kk
  | 1, _ =>
    rw [hkd] at hF
    refine g_callU (k := k) (n9 := 0) (av := []) (st := st) E (ct_X19_isFresh l hG (by omega)) gciX22 d hF ql q1197 q1203 q1196 q146 q1205 rfl (by decide +kernel) rfl rfl ⟨by omega, by omega⟩ hf hroom hq (gPu.k ?_)
    exact kk
  | 2, _ =>
    rw [hkd] at hF
    refine g_callU (k := k) (n9 := 0) (av := []) (st := st) E (ct_X19_isFresh l hG (by omega)) gciX23 d hF ql q1197 q1204 q1196 q146 q1205 rfl (by decide +kernel) rfl rfl ⟨by omega, by omega⟩ hf hroom hq (gPu.k ?_)
    exact kk
  | 3, _ =>
    rw [hkd] at hF
    refine g_callU (k := k) (n9 := 0) (av := []) (st := st) E (ct_X19_isFresh l hG (by omega)) gciX24 d hF ql q1197 q1202 q1196 q146 q1205 rfl (by decide +kernel) rfl rfl ⟨by omega, by omega⟩ hf hroom hq (gPu.k ?_)
    exact kk
  | 4, _ =>
    rw [hkd] at hF
    refine g_callU (k := k) (n9 := 0) (av := []) (st := st) E (ct_X19_isFresh l hG (by omega)) gciX25 d hF ql q1197 q1201 q1196 q146 q1205 rfl (by decide +kernel) rfl rfl ⟨by omega, by omega⟩ hf hroom hq (gPu.k ?_)
    exact kk
  | n + 5, h => exact absurd h (by omega)
set_option maxHeartbeats 400000 in
theorem ct_X20_kind (l : Launch) {g : gWM} {bb k j : Nat} {B : gBar} (hG : pGo g bb k B j) (hkd : B 12 j = 0) : gCt l yX20_kind cX20_kind 1 (some .int) 0 0 0 0 [.ref k] g (gPu (.int (nI (B 12 j))) g) := by
  refine gCt.of RX20 (by decide) rfl (lo := [some (.ref k)]) 0 rfl (Nat.le_of_ble_eq_true rfl) (fun z E Rt => ?_)
  have o1 := hG
  obtain ⟨⟨o1_F, o1_a, o1_0, o1_1, o1_2, o1_3, o1_4, o1_7⟩, o1_m, o1_k⟩ := o1
  refine g_iconst E (v := 0) dX20_kind_0 (by decide) rfl ?_
  exact g_iret E Rt dX20_kind_1 rfl (by decide) (by decide) (⟨congrArg (fun x => some (Value.int x)) (by rw [hkd]; rfl), rfl⟩)
set_option maxHeartbeats 400000 in
theorem ct_X22_kind (l : Launch) {g : gWM} {bb k j : Nat} {B : gBar} (hG : pGo g bb k B j) (hkd : B 12 j = 1) : gCt l yX22_kind cX22_kind 1 (some .int) 0 0 0 0 [.ref k] g (gPu (.int (nI (B 12 j))) g) := by
  refine gCt.of RX22 (by decide) rfl (lo := [some (.ref k)]) 0 rfl (Nat.le_of_ble_eq_true rfl) (fun z E Rt => ?_)
  have o1 := hG
  obtain ⟨⟨o1_F, o1_a, o1_0, o1_1, o1_2, o1_3, o1_4, o1_7⟩, o1_m, o1_k⟩ := o1
  refine g_iconst E (v := 1) dX22_kind_0 (by decide) rfl ?_
  exact g_iret E Rt dX22_kind_1 rfl (by decide) (by decide) (⟨congrArg (fun x => some (Value.int x)) (by rw [hkd]; rfl), rfl⟩)
set_option maxHeartbeats 400000 in
theorem ct_X23_kind (l : Launch) {g : gWM} {bb k j : Nat} {B : gBar} (hG : pGo g bb k B j) (hkd : B 12 j = 2) : gCt l yX23_kind cX23_kind 1 (some .int) 0 0 0 0 [.ref k] g (gPu (.int (nI (B 12 j))) g) := by
  refine gCt.of RX23 (by decide) rfl (lo := [some (.ref k)]) 0 rfl (Nat.le_of_ble_eq_true rfl) (fun z E Rt => ?_)
  have o1 := hG
  obtain ⟨⟨o1_F, o1_a, o1_0, o1_1, o1_2, o1_3, o1_4, o1_7⟩, o1_m, o1_k⟩ := o1
  refine g_iconst E (v := 2) dX23_kind_0 (by decide) rfl ?_
  exact g_iret E Rt dX23_kind_1 rfl (by decide) (by decide) (⟨congrArg (fun x => some (Value.int x)) (by rw [hkd]; rfl), rfl⟩)
set_option maxHeartbeats 400000 in
theorem ct_X24_kind (l : Launch) {g : gWM} {bb k j : Nat} {B : gBar} (hG : pGo g bb k B j) (hkd : B 12 j = 3) : gCt l yX24_kind cX24_kind 1 (some .int) 0 0 0 0 [.ref k] g (gPu (.int (nI (B 12 j))) g) := by
  refine gCt.of RX24 (by decide) rfl (lo := [some (.ref k)]) 0 rfl (Nat.le_of_ble_eq_true rfl) (fun z E Rt => ?_)
  have o1 := hG
  obtain ⟨⟨o1_F, o1_a, o1_0, o1_1, o1_2, o1_3, o1_4, o1_7⟩, o1_m, o1_k⟩ := o1
  refine g_iconst E (v := 3) dX24_kind_0 (by decide) rfl ?_
  exact g_iret E Rt dX24_kind_1 rfl (by decide) (by decide) (⟨congrArg (fun x => some (Value.int x)) (by rw [hkd]; rfl), rfl⟩)
set_option maxHeartbeats 400000 in
theorem ct_X25_kind (l : Launch) {g : gWM} {bb k j : Nat} {B : gBar} (hG : pGo g bb k B j) (hkd : B 12 j = 4) : gCt l yX25_kind cX25_kind 1 (some .int) 0 0 0 0 [.ref k] g (gPu (.int (nI (B 12 j))) g) := by
  refine gCt.of RX25 (by decide) rfl (lo := [some (.ref k)]) 0 rfl (Nat.le_of_ble_eq_true rfl) (fun z E Rt => ?_)
  have o1 := hG
  obtain ⟨⟨o1_F, o1_a, o1_0, o1_1, o1_2, o1_3, o1_4, o1_7⟩, o1_m, o1_k⟩ := o1
  refine g_iconst E (v := 4) dX25_kind_0 (by decide) rfl ?_
  exact g_iret E Rt dX25_kind_1 rfl (by decide) (by decide) (⟨congrArg (fun x => some (Value.int x)) (by rw [hkd]; rfl), rfl⟩)
set_option maxHeartbeats 1000000 in
theorem v_kind_Good {z : gZ} {l : Launch} {cc : ByteArray} {nL : Nat} {own : String} {ret : Option FieldType} {fr mc ms lc : Nat} {g : gWM} {kc ks pc q : Nat} {lo : List (Option Value)} {st : List Value} (E : gEv z l cc nL own ret fr mc ms lc) {idx k bb j : Nat} {B : gBar}  (d : decode cc pc = .ok (.invokevirtual idx, 3)) (ql : Cond.methodLink own idx ⟨"SaltedGate$Good", "kind", "()I"⟩ ∈ lw_all) (hG : pGo g bb k B j)   (hR : 1 ≤ fr ∧ 20 ≤ lc) (hf : kc ≤ mc ∧ ks ≤ ms) (hroom : gcat st ≤ 8) (hq : pc + 3 = q) (kk : gV z g kc ks q lo (.int (nI (B 12 j)) :: st)) : gV z g kc ks pc lo (.ref k :: st) := by
  have hGo := hG
  obtain ⟨⟨F, hF, -⟩, -, hk4⟩ := hGo
  have h1 := hR.1; have h2 := hR.2
  match hkd : B 12 j, hk4 with
  | 0, _ =>
    rw [hkd] at hF
    refine g_callA (k := k) (n9 := 0) (av := []) (st := st) E (ct_X20_kind l hG hkd) gciX20 d hF ql q1289 q1288 q1290 q1291 q147 q1292 (by decide +kernel) rfl rfl ⟨by omega, by omega⟩ hf hroom hq (gPu.k ?_)
    exact kk
  | 1, _ =>
    rw [hkd] at hF
    refine g_callA (k := k) (n9 := 0) (av := []) (st := st) E (ct_X22_kind l hG hkd) gciX22 d hF ql q1289 q1288 q1299 q1300 q149 q1301 (by decide +kernel) rfl rfl ⟨by omega, by omega⟩ hf hroom hq (gPu.k ?_)
    exact kk
  | 2, _ =>
    rw [hkd] at hF
    refine g_callA (k := k) (n9 := 0) (av := []) (st := st) E (ct_X23_kind l hG hkd) gciX23 d hF ql q1289 q1288 q1302 q1303 q150 q1304 (by decide +kernel) rfl rfl ⟨by omega, by omega⟩ hf hroom hq (gPu.k ?_)
    exact kk
  | 3, _ =>
    rw [hkd] at hF
    refine g_callA (k := k) (n9 := 0) (av := []) (st := st) E (ct_X24_kind l hG hkd) gciX24 d hF ql q1289 q1288 q1296 q1297 q151 q1298 (by decide +kernel) rfl rfl ⟨by omega, by omega⟩ hf hroom hq (gPu.k ?_)
    exact kk
  | 4, _ =>
    rw [hkd] at hF
    refine g_callA (k := k) (n9 := 0) (av := []) (st := st) E (ct_X25_kind l hG hkd) gciX25 d hF ql q1289 q1288 q1293 q1294 q152 q1295 (by decide +kernel) rfl rfl ⟨by omega, by omega⟩ hf hroom hq (gPu.k ?_)
    exact kk
  | n + 5, h => exact absurd h (by omega)
set_option maxHeartbeats 400000 in
theorem ct_X6_rate (l : Launch) {g : gWM} {lw mk i : Nat} {B : gBar} (hM : pMe g mk B i) : gCt l yX6_rate cX6_rate 2 (some .int) 0 0 0 0 [.ref lw, .ref mk] g (gPu (.int (nI (B 1 i))) g) := by
  refine gCt.of RX6 (by decide) rfl (lo := [some (.ref lw), some (.ref mk)]) 0 rfl (Nat.le_of_ble_eq_true rfl) (fun z E Rt => ?_)
  obtain ⟨m1_F, m1_a, m1_1, m1_2, m1_3, m1_4, m1_5, m1_6, m1_7⟩ := hM
  refine g_aload_n E dX6_rate_0 rfl rfl rfl ?_
  refine g_getf E gciX16 dX6_rate_1 m1_a 2 rfl (by decide) q851 (.inl rfl) (.int (nI (B 1 i))) (m1_2) rfl ?_
  exact g_iret E Rt dX6_rate_4 rfl (by decide) (by decide) (⟨rfl, rfl⟩)
set_option maxHeartbeats 400000 in
theorem ct_X7_rate (l : Launch) {g : gWM} {lw mk i : Nat} {B : gBar} (hM : pMe g mk B i) : gCt l yX7_rate cX7_rate 2 (some .int) 0 0 0 0 [.ref lw, .ref mk] g (gPu (.int (nI (B 2 i))) g) := by
  refine gCt.of RX7 (by decide) rfl (lo := [some (.ref lw), some (.ref mk)]) 0 rfl (Nat.le_of_ble_eq_true rfl) (fun z E Rt => ?_)
  obtain ⟨m1_F, m1_a, m1_1, m1_2, m1_3, m1_4, m1_5, m1_6, m1_7⟩ := hM
  refine g_aload_n E dX7_rate_0 rfl rfl rfl ?_
  refine g_getf E gciX16 dX7_rate_1 m1_a 3 rfl (by decide) q853 (.inl rfl) (.int (nI (B 2 i))) (m1_3) rfl ?_
  exact g_iret E Rt dX7_rate_4 rfl (by decide) (by decide) (⟨rfl, rfl⟩)
theorem v_rate {z : gZ} {l : Launch} {cc : ByteArray} {nL : Nat} {own : String} {ret : Option FieldType} {fr mc ms lc : Nat} {g : gWM} {kc ks pc q : Nat} {lo : List (Option Value)} {st : List Value} (E : gEv z l cc nL own ret fr mc ms lc) {idx k mk i r : Nat} {B : gBar} (d : decode cc pc = .ok (.invokevirtual idx, 3)) (ql : Cond.methodLink own idx ⟨"SaltedGate$Law", "rate", "(LSaltedGate$Means;)I"⟩ ∈ lw_all) (hL : pLw g k r) (hM : pMe g mk B i) (hR : 1 ≤ fr ∧ 21 ≤ lc) (hf : kc ≤ mc ∧ ks ≤ ms) (hroom : gcat st ≤ 8) (hq : pc + 3 = q) (kk : gV z g kc ks q lo (.int (nI (B r i)) :: st)) : gV z g kc ks pc lo (.ref mk :: .ref k :: st) := by
  have h1 := hR.1; have h2 := hR.2
  rcases hL with ⟨hr, F, hF⟩ | ⟨hr, F, hF⟩
  · subst hr
    refine g_callA (k := k) (n9 := 1) (av := [.ref mk]) (st := st) E (ct_X6_rate l hM) gciX6 d hF ql q1260 q1259 q1264 q1265 q128 q1266 (by decide +kernel) rfl rfl ⟨by omega, by omega⟩ hf hroom hq (gPu.k ?_)
    exact kk
  · subst hr
    refine g_callA (k := k) (n9 := 1) (av := [.ref mk]) (st := st) E (ct_X7_rate l hM) gciX7 d hF ql q1260 q1259 q1261 q1262 q129 q1263 (by decide +kernel) rfl rfl ⟨by omega, by omega⟩ hf hroom hq (gPu.k ?_)
    exact kk
set_option maxHeartbeats 400000 in
theorem ct_X20_duty (l : Launch) {g : gWM} {bb k j : Nat} {B : gBar} {lw r : Nat} (d : Int32) (hG : pGo g bb k B j) (hkd : B 12 j = 0) : gCt l yX20_duty cX20_duty 3 (some .int) 0 0 0 0 [.ref k, .int d, .ref lw] g (gPu (.int (zDut B r j d)) g) := by
  refine gCt.of RX20 (by decide) rfl (lo := [some (.ref k), some (.int d), some (.ref lw)]) 0 rfl (Nat.le_of_ble_eq_true rfl) (fun z E Rt => ?_)
  have o1 := hG
  obtain ⟨⟨o1_F, o1_a, o1_0, o1_1, o1_2, o1_3, o1_4, o1_7⟩, o1_m, o1_k⟩ := o1
  refine g_iconst E (v := 0) dX20_duty_0 (by decide) rfl ?_
  exact g_iret E Rt dX20_duty_1 rfl (by decide) (by decide) (⟨congrArg (fun x => some (Value.int x)) (by simp [zDut, hkd]), rfl⟩)
set_option maxHeartbeats 400000 in
theorem ct_X21_duty (l : Launch) {g : gWM} {bb k j : Nat} {B : gBar} {lw r : Nat} (d : Int32) (hk0 : B 12 j ≠ 0) (hL : pLw g lw r) (hG : pGo g bb k B j) : gCt l yX21_duty cX21_duty 3 (some .int) 2 0 0 42 [.ref k, .int d, .ref lw] g (gPu (.int (zDut B r j d)) g) := by
  refine gCt.of RX21 (by decide) rfl (lo := [some (.ref k), some (.int d), some (.ref lw)]) 0 rfl (Nat.le_of_ble_eq_true rfl) (fun z E Rt => ?_)
  have o1 := hG
  obtain ⟨⟨o1_F, o1_a, o1_0, o1_1, o1_2, o1_3, o1_4, o1_7⟩, o1_m, o1_k⟩ := o1
  obtain ⟨m2_F, m2_a, m2_1, m2_2, m2_3, m2_4, m2_5, m2_6, m2_7⟩ := o1_m hk0
  refine g_aload_n E dX21_duty_0 rfl rfl rfl ?_
  refine g_iload_n E dX21_duty_1 rfl rfl rfl ?_
  refine v_isTurned_Kept E dX21_duty_2 q1257 hG hk0 ⟨by decide, by decide⟩ ⟨by decide, by decide⟩ (Nat.le_of_ble_eq_true rfl) rfl ?_
  refine g_if_eq E dX21_duty_5 (tgt := 12) (by decide) rfl (fun c5 => ?_) (fun c5 => ?_)
  · have c5 := zb_0.mp c5
    refine g_aload_n E dX21_duty_12 rfl rfl rfl ?_
    refine g_getG E dX21_duty_13 o1_a (o1_k) 2 (by decide) rfl rfl rfl rfl rfl q971 (.inr q972) (.int (nI (B 16 j))) (o1_2) rfl ?_
    refine g_aload_n E dX21_duty_16 rfl rfl rfl ?_
    refine g_aload_n E dX21_duty_17 rfl rfl rfl ?_
    refine g_getK E dX21_duty_18 o1_a (o1_k) (hk0) 7 (by decide) rfl rfl rfl rfl q1015 (.inl rfl) (.ref (bb + 10 + B 13 j)) (o1_7 hk0) rfl ?_
    refine v_rate E dX21_duty_21 q1258 hL (o1_m hk0) ⟨by decide, by decide⟩ ⟨by decide, by decide⟩ (Nat.le_of_ble_eq_true rfl) rfl ?_
    refine g_imul E dX21_duty_24 rfl ?_
    refine g_aload_n E dX21_duty_25 rfl rfl rfl ?_
    refine g_iload_n E dX21_duty_26 rfl rfl rfl ?_
    refine v_age_Kept E dX21_duty_27 q1222 hG hk0 ⟨by decide, by decide⟩ ⟨by decide, by decide⟩ (Nat.le_of_ble_eq_true rfl) rfl ?_
    refine g_bipush E (v := 10) dX21_duty_30 (by decide) rfl ?_
    refine g_idiv E dX21_duty_32 (by decide) rfl ?_
    refine g_imul E dX21_duty_33 rfl ?_
    exact g_iret E Rt dX21_duty_34 rfl (by decide) (by decide) (⟨congrArg (fun x => some (Value.int x)) (by simp [zDut, hk0, c5]), rfl⟩)
  · have c5 := zb_n0.mp c5
    refine g_iconst E (v := 0) dX21_duty_8 (by decide) rfl ?_
    refine g_goto E dX21_duty_9 (tgt := 34) (by decide) ?_
    exact g_iret E Rt dX21_duty_34 rfl (by decide) (by decide) (⟨congrArg (fun x => some (Value.int x)) (by simp [zDut, hk0, c5]), rfl⟩)
set_option maxHeartbeats 1000000 in
theorem v_duty_Good {z : gZ} {l : Launch} {cc : ByteArray} {nL : Nat} {own : String} {ret : Option FieldType} {fr mc ms lc : Nat} {g : gWM} {kc ks pc q : Nat} {lo : List (Option Value)} {st : List Value} (E : gEv z l cc nL own ret fr mc ms lc) {idx k bb j : Nat} {B : gBar} {lw r : Nat} {dd : Int32} (d : decode cc pc = .ok (.invokevirtual idx, 3)) (ql : Cond.methodLink own idx ⟨"SaltedGate$Good", "duty", "(ILSaltedGate$Law;)I"⟩ ∈ lw_all) (hG : pGo g bb k B j)  (hL : pLw g lw r) (hR : 3 ≤ fr ∧ 64 ≤ lc) (hf : kc ≤ mc ∧ ks ≤ ms) (hroom : gcat st ≤ 8) (hq : pc + 3 = q) (kk : gV z g kc ks q lo (.int (zDut B r j dd) :: st)) : gV z g kc ks pc lo (.ref lw :: .int dd :: .ref k :: st) := by
  have hGo := hG
  obtain ⟨⟨F, hF, -⟩, -, hk4⟩ := hGo
  have h1 := hR.1; have h2 := hR.2
  match hkd : B 12 j, hk4 with
  | 0, _ =>
    rw [hkd] at hF
    refine g_callA (k := k) (n9 := 2) (av := [.int dd, .ref lw]) (st := st) E (ct_X20_duty l (r := r) dd hG hkd) gciX20 d hF ql q1250 q1249 q1251 q1252 q147 q1253 (by decide +kernel) rfl rfl ⟨by omega, by omega⟩ hf hroom hq (gPu.k ?_)
    exact kk
  | 1, _ =>
    rw [hkd] at hF
    refine g_callA (k := k) (n9 := 2) (av := [.int dd, .ref lw]) (st := st) E (ct_X21_duty l dd (by omega) hL hG) gciX22 d hF ql q1250 q1249 q1268 q1255 q148 q1256 (by decide +kernel) rfl rfl ⟨by omega, by omega⟩ hf hroom hq (gPu.k ?_)
    exact kk
  | 2, _ =>
    rw [hkd] at hF
    refine g_callA (k := k) (n9 := 2) (av := [.int dd, .ref lw]) (st := st) E (ct_X21_duty l dd (by omega) hL hG) gciX23 d hF ql q1250 q1249 q1269 q1255 q148 q1256 (by decide +kernel) rfl rfl ⟨by omega, by omega⟩ hf hroom hq (gPu.k ?_)
    exact kk
  | 3, _ =>
    rw [hkd] at hF
    refine g_callA (k := k) (n9 := 2) (av := [.int dd, .ref lw]) (st := st) E (ct_X21_duty l dd (by omega) hL hG) gciX24 d hF ql q1250 q1249 q1267 q1255 q148 q1256 (by decide +kernel) rfl rfl ⟨by omega, by omega⟩ hf hroom hq (gPu.k ?_)
    exact kk
  | 4, _ =>
    rw [hkd] at hF
    refine g_callA (k := k) (n9 := 2) (av := [.int dd, .ref lw]) (st := st) E (ct_X21_duty l dd (by omega) hL hG) gciX25 d hF ql q1250 q1249 q1254 q1255 q148 q1256 (by decide +kernel) rfl rfl ⟨by omega, by omega⟩ hf hroom hq (gPu.k ?_)
    exact kk
  | n + 5, h => exact absurd h (by omega)
set_option maxHeartbeats 1000000 in
theorem v_duty_Kept {z : gZ} {l : Launch} {cc : ByteArray} {nL : Nat} {own : String} {ret : Option FieldType} {fr mc ms lc : Nat} {g : gWM} {kc ks pc q : Nat} {lo : List (Option Value)} {st : List Value} (E : gEv z l cc nL own ret fr mc ms lc) {idx k bb j : Nat} {B : gBar} {lw r : Nat} {dd : Int32} (d : decode cc pc = .ok (.invokevirtual idx, 3)) (ql : Cond.methodLink own idx ⟨"SaltedGate$Kept", "duty", "(ILSaltedGate$Law;)I"⟩ ∈ lw_all) (hG : pGo g bb k B j) (hk0 : B 12 j ≠ 0) (hL : pLw g lw r) (hR : 3 ≤ fr ∧ 64 ≤ lc) (hf : kc ≤ mc ∧ ks ≤ ms) (hroom : gcat st ≤ 8) (hq : pc + 3 = q) (kk : gV z g kc ks q lo (.int (zDut B r j dd) :: st)) : gV z g kc ks pc lo (.ref lw :: .int dd :: .ref k :: st) := by
  have hGo := hG
  obtain ⟨⟨F, hF, -⟩, -, hk4⟩ := hGo
  have h1 := hR.1; have h2 := hR.2
  match hkd : B 12 j, hk4 with
  | 0, _ => exact absurd hkd hk0
  | 1, _ =>
    rw [hkd] at hF
    refine g_callU (k := k) (n9 := 2) (av := [.int dd, .ref lw]) (st := st) E (ct_X21_duty l dd (by omega) hL hG) gciX22 d hF ql q2550 q2553 q1255 q148 q1256 rfl (by decide +kernel) rfl rfl ⟨by omega, by omega⟩ hf hroom hq (gPu.k ?_)
    exact kk
  | 2, _ =>
    rw [hkd] at hF
    refine g_callU (k := k) (n9 := 2) (av := [.int dd, .ref lw]) (st := st) E (ct_X21_duty l dd (by omega) hL hG) gciX23 d hF ql q2550 q2554 q1255 q148 q1256 rfl (by decide +kernel) rfl rfl ⟨by omega, by omega⟩ hf hroom hq (gPu.k ?_)
    exact kk
  | 3, _ =>
    rw [hkd] at hF
    refine g_callU (k := k) (n9 := 2) (av := [.int dd, .ref lw]) (st := st) E (ct_X21_duty l dd (by omega) hL hG) gciX24 d hF ql q2550 q2552 q1255 q148 q1256 rfl (by decide +kernel) rfl rfl ⟨by omega, by omega⟩ hf hroom hq (gPu.k ?_)
    exact kk
  | 4, _ =>
    rw [hkd] at hF
    refine g_callU (k := k) (n9 := 2) (av := [.int dd, .ref lw]) (st := st) E (ct_X21_duty l dd (by omega) hL hG) gciX25 d hF ql q2550 q2551 q1255 q148 q1256 rfl (by decide +kernel) rfl rfl ⟨by omega, by omega⟩ hf hroom hq (gPu.k ?_)
    exact kk
  | n + 5, h => exact absurd h (by omega)
set_option maxHeartbeats 400000 in
theorem ct_X20_gain (l : Launch) {g : gWM} {bb k j : Nat} {B : gBar} {lw : Nat} (d : Int32) (hG : pGo g bb k B j) (hkd : B 12 j = 0) : gCt l yX20_gain cX20_gain 3 (some .int) 0 0 0 0 [.ref k, .int d, .ref lw] g (gPu (.int (zGai B j d)) g) := by
  refine gCt.of RX20 (by decide) rfl (lo := [some (.ref k), some (.int d), some (.ref lw)]) 0 rfl (Nat.le_of_ble_eq_true rfl) (fun z E Rt => ?_)
  have o1 := hG
  obtain ⟨⟨o1_F, o1_a, o1_0, o1_1, o1_2, o1_3, o1_4, o1_7⟩, o1_m, o1_k⟩ := o1
  refine g_iconst E (v := 0) dX20_gain_0 (by decide) rfl ?_
  exact g_iret E Rt dX20_gain_1 rfl (by decide) (by decide) (⟨congrArg (fun x => some (Value.int x)) (by simp [zGai, hkd]), rfl⟩)
set_option maxHeartbeats 400000 in
theorem ct_X21_gain (l : Launch) {g : gWM} {bb k j : Nat} {B : gBar} {lw : Nat} (d : Int32) (hk0 : B 12 j ≠ 0) (hL : pLw g lw 1) (hG : pGo g bb k B j) : gCt l yX21_gain cX21_gain 3 (some .int) 3 0 0 64 [.ref k, .int d, .ref lw] g (gPu (.int (zGai B j d)) g) := by
  refine gCt.of RX21 (by decide) rfl (lo := [some (.ref k), some (.int d), some (.ref lw)]) 0 rfl (Nat.le_of_ble_eq_true rfl) (fun z E Rt => ?_)
  have o1 := hG
  obtain ⟨⟨o1_F, o1_a, o1_0, o1_1, o1_2, o1_3, o1_4, o1_7⟩, o1_m, o1_k⟩ := o1
  obtain ⟨m2_F, m2_a, m2_1, m2_2, m2_3, m2_4, m2_5, m2_6, m2_7⟩ := o1_m hk0
  refine g_aload_n E dX21_gain_0 rfl rfl rfl ?_
  refine g_iload_n E dX21_gain_1 rfl rfl rfl ?_
  refine v_isTurned_Kept E dX21_gain_2 q1257 hG hk0 ⟨by decide, by decide⟩ ⟨by decide, by decide⟩ (Nat.le_of_ble_eq_true rfl) rfl ?_
  refine g_if_eq E dX21_gain_5 (tgt := 24) (by decide) rfl (fun c5 => ?_) (fun c5 => ?_)
  · have c5 := zb_0.mp c5
    refine g_aload_n E dX21_gain_24 rfl rfl rfl ?_
    refine g_getG E dX21_gain_25 o1_a (o1_k) 2 (by decide) rfl rfl rfl rfl rfl q971 (.inr q972) (.int (nI (B 16 j))) (o1_2) rfl ?_
    refine g_aload_n E dX21_gain_28 rfl rfl rfl ?_
    refine g_getK E dX21_gain_29 o1_a (o1_k) (hk0) 7 (by decide) rfl rfl rfl rfl q1015 (.inl rfl) (.ref (bb + 10 + B 13 j)) (o1_7 hk0) rfl ?_
    refine g_getf E gciX16 dX21_gain_32 m2_a 6 rfl (by decide) q859 (.inl rfl) (.int (nI (B 5 (B 13 j)))) (m2_6) rfl ?_
    refine g_aload_n E dX21_gain_35 rfl rfl rfl ?_
    refine g_getK E dX21_gain_36 o1_a (o1_k) (hk0) 7 (by decide) rfl rfl rfl rfl q1015 (.inl rfl) (.ref (bb + 10 + B 13 j)) (o1_7 hk0) rfl ?_
    refine g_getf E gciX16 dX21_gain_39 m2_a 5 rfl (by decide) q857 (.inl rfl) (.int (nI (B 4 (B 13 j)))) (m2_5) rfl ?_
    refine g_isub E dX21_gain_42 rfl ?_
    refine g_imul E dX21_gain_43 rfl ?_
    refine g_aload_n E dX21_gain_44 rfl rfl rfl ?_
    refine g_iload_n E dX21_gain_45 rfl rfl rfl ?_
    refine g_aload_n E dX21_gain_46 rfl rfl rfl ?_
    refine v_duty_Kept E dX21_gain_47 q1551 hG hk0 hL ⟨by decide, by decide⟩ ⟨by decide, by decide⟩ (Nat.le_of_ble_eq_true rfl) rfl ?_
    refine g_isub E dX21_gain_50 rfl ?_
    exact g_iret E Rt dX21_gain_51 rfl (by decide) (by decide) (⟨congrArg (fun x => some (Value.int x)) (by simp [zGai, hk0, c5]), rfl⟩)
  · have c5 := zb_n0.mp c5
    refine g_aload_n E dX21_gain_8 rfl rfl rfl ?_
    refine g_getG E dX21_gain_9 o1_a (o1_k) 2 (by decide) rfl rfl rfl rfl rfl q971 (.inr q972) (.int (nI (B 16 j))) (o1_2) rfl ?_
    refine g_ineg E dX21_gain_12 rfl ?_
    refine g_aload_n E dX21_gain_13 rfl rfl rfl ?_
    refine g_getK E dX21_gain_14 o1_a (o1_k) (hk0) 7 (by decide) rfl rfl rfl rfl q1015 (.inl rfl) (.ref (bb + 10 + B 13 j)) (o1_7 hk0) rfl ?_
    refine g_getf E gciX16 dX21_gain_17 m2_a 5 rfl (by decide) q857 (.inl rfl) (.int (nI (B 4 (B 13 j)))) (m2_5) rfl ?_
    refine g_imul E dX21_gain_20 rfl ?_
    refine g_goto E dX21_gain_21 (tgt := 51) (by decide) ?_
    exact g_iret E Rt dX21_gain_51 rfl (by decide) (by decide) (⟨congrArg (fun x => some (Value.int x)) (by simp [zGai, hk0, c5]), rfl⟩)
set_option maxHeartbeats 1000000 in
theorem v_gain_Good {z : gZ} {l : Launch} {cc : ByteArray} {nL : Nat} {own : String} {ret : Option FieldType} {fr mc ms lc : Nat} {g : gWM} {kc ks pc q : Nat} {lo : List (Option Value)} {st : List Value} (E : gEv z l cc nL own ret fr mc ms lc) {idx k bb j : Nat} {B : gBar} {lw : Nat} {dd : Int32} (d : decode cc pc = .ok (.invokevirtual idx, 3)) (ql : Cond.methodLink own idx ⟨"SaltedGate$Good", "gain", "(ILSaltedGate$Law;)I"⟩ ∈ lw_all) (hG : pGo g bb k B j)  (hL : pLw g lw 1) (hR : 4 ≤ fr ∧ 86 ≤ lc) (hf : kc ≤ mc ∧ ks ≤ ms) (hroom : gcat st ≤ 8) (hq : pc + 3 = q) (kk : gV z g kc ks q lo (.int (zGai B j dd) :: st)) : gV z g kc ks pc lo (.ref lw :: .int dd :: .ref k :: st) := by
  have hGo := hG
  obtain ⟨⟨F, hF, -⟩, -, hk4⟩ := hGo
  have h1 := hR.1; have h2 := hR.2
  match hkd : B 12 j, hk4 with
  | 0, _ =>
    rw [hkd] at hF
    refine g_callA (k := k) (n9 := 2) (av := [.int dd, .ref lw]) (st := st) E (ct_X20_gain l dd hG hkd) gciX20 d hF ql q1544 q1543 q1545 q1546 q147 q1547 (by decide +kernel) rfl rfl ⟨by omega, by omega⟩ hf hroom hq (gPu.k ?_)
    exact kk
  | 1, _ =>
    rw [hkd] at hF
    refine g_callA (k := k) (n9 := 2) (av := [.int dd, .ref lw]) (st := st) E (ct_X21_gain l dd (by omega) hL hG) gciX22 d hF ql q1544 q1543 q1553 q1549 q148 q1550 (by decide +kernel) rfl rfl ⟨by omega, by omega⟩ hf hroom hq (gPu.k ?_)
    exact kk
  | 2, _ =>
    rw [hkd] at hF
    refine g_callA (k := k) (n9 := 2) (av := [.int dd, .ref lw]) (st := st) E (ct_X21_gain l dd (by omega) hL hG) gciX23 d hF ql q1544 q1543 q1554 q1549 q148 q1550 (by decide +kernel) rfl rfl ⟨by omega, by omega⟩ hf hroom hq (gPu.k ?_)
    exact kk
  | 3, _ =>
    rw [hkd] at hF
    refine g_callA (k := k) (n9 := 2) (av := [.int dd, .ref lw]) (st := st) E (ct_X21_gain l dd (by omega) hL hG) gciX24 d hF ql q1544 q1543 q1552 q1549 q148 q1550 (by decide +kernel) rfl rfl ⟨by omega, by omega⟩ hf hroom hq (gPu.k ?_)
    exact kk
  | 4, _ =>
    rw [hkd] at hF
    refine g_callA (k := k) (n9 := 2) (av := [.int dd, .ref lw]) (st := st) E (ct_X21_gain l dd (by omega) hL hG) gciX25 d hF ql q1544 q1543 q1548 q1549 q148 q1550 (by decide +kernel) rfl rfl ⟨by omega, by omega⟩ hf hroom hq (gPu.k ?_)
    exact kk
  | n + 5, h => exact absurd h (by omega)
