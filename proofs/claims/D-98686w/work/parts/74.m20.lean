/-! WALKS, twentieth: constructors of what is told -/
set_option maxRecDepth 100000
set_option maxHeartbeats 400000 in
theorem ct_X15_init_X16 (l : Launch) {g : gWM} {k s : Nat} (n : Int32) (hO : g k = some (.inr (12, fun j => defaultValue (tyX16 j)))) : gCt l yX15_init cX15_init 3 none 1 0 0 20 [.ref k, .ref s, .int n] g (gPn (fun g1 => g1 k = some (.inr (12, va_up (va_up (fun j => defaultValue (tyX16 j)) 0 (.ref s)) 1 (.int n))) ∧ ∀ j, j ≠ k → g1 j = g j)) := by
  refine gCt.ofI RX15 (by decide) rfl (lo := [some (.ref k), some (.ref s), some (.int n)]) 0 rfl (Nat.le_of_ble_eq_true rfl) rfl (fun z E Rt Hin => ?_)
  refine g_aload_n E dX15_init_0 rfl rfl rfl ?_
  refine g_objInit E dX15_init_1 q850 q164 q165 ⟨by decide, by decide⟩ (Nat.le_of_ble_eq_true rfl) rfl ?_
  refine g_aload_n E dX15_init_4 rfl rfl rfl ?_
  refine g_aload_n E dX15_init_5 rfl rfl rfl ?_
  refine g_putfF E gciX16 (v := .ref s) dX15_init_6 hO 0 rfl (by decide) q862 (.inl rfl) rfl Hin rfl (fun _ => rfl) (fun _ => rfl) rfl (g_upk (fun g1 h1 f1 => ?_))
  refine g_aload_n E dX15_init_9 rfl rfl rfl ?_
  refine g_iload_n E dX15_init_10 rfl rfl rfl ?_
  refine g_putfF E gciX16 (v := .int n) dX15_init_11 h1 1 rfl (by decide) q864 (.inl rfl) rfl Hin rfl (fun _ => rfl) (fun _ => rfl) rfl (g_upk (fun g2 h2 f2 => ?_))
  exact g_vret E Rt dX15_init_14 rfl (by decide) (by decide) (⟨rfl, h2, fun j9 h9 => (f2 j9 (by omega)).trans (f1 j9 (by omega))⟩)
set_option maxHeartbeats 400000 in
theorem ct_X16_init (l : Launch) {g : gWM} {k s : Nat} (n : Int32) (hO : g k = some (.inr (12, fun j => defaultValue (tyX16 j)))) : gCt l yX16_init cX16_init 3 none 2 0 0 42 [.ref k, .ref s, .int n] g (gPn (fun g1 => g1 k = some (.inr (12, va_up (va_up (fun j => defaultValue (tyX16 j)) 0 (.ref s)) 1 (.int n))) ∧ ∀ j, j ≠ k → g1 j = g j)) := by
  refine gCt.ofI RX16 (by decide) rfl (lo := [some (.ref k), some (.ref s), some (.int n)]) 0 rfl (Nat.le_of_ble_eq_true rfl) rfl (fun z E Rt Hin => ?_)
  refine g_aload_n E dX16_init_0 rfl rfl rfl ?_
  refine g_aload_n E dX16_init_1 rfl rfl rfl ?_
  refine g_iload_n E dX16_init_2 rfl rfl rfl ?_
  refine g_callI (k := k) (n9 := 2) (av := [.ref s, .int n]) (st := []) E (ct_X15_init_X16 l n hO) gciX16 dX16_init_3 hO q847 q848 q142 q849 (by decide +kernel) rfl rfl rfl ⟨by decide, by decide⟩ ⟨by decide, by decide⟩ (Nat.le_of_ble_eq_true rfl) rfl (gPn.k (fun g1 h1 => ?_))
  obtain ⟨h1, f1⟩ := h1
  exact g_vret E Rt dX16_init_6 rfl (by decide) (by decide) (⟨rfl, h1, fun j9 h9 => f1 j9 (by omega)⟩)
set_option maxHeartbeats 400000 in
theorem ct_X15_init_X17 (l : Launch) {g : gWM} {k s : Nat} (n : Int32) (hO : g k = some (.inr (13, fun j => defaultValue (tyX17 j)))) : gCt l yX15_init cX15_init 3 none 1 0 0 20 [.ref k, .ref s, .int n] g (gPn (fun g1 => g1 k = some (.inr (13, va_up (va_up (fun j => defaultValue (tyX17 j)) 0 (.ref s)) 1 (.int n))) ∧ ∀ j, j ≠ k → g1 j = g j)) := by
  refine gCt.ofI RX15 (by decide) rfl (lo := [some (.ref k), some (.ref s), some (.int n)]) 0 rfl (Nat.le_of_ble_eq_true rfl) rfl (fun z E Rt Hin => ?_)
  refine g_aload_n E dX15_init_0 rfl rfl rfl ?_
  refine g_objInit E dX15_init_1 q850 q164 q165 ⟨by decide, by decide⟩ (Nat.le_of_ble_eq_true rfl) rfl ?_
  refine g_aload_n E dX15_init_4 rfl rfl rfl ?_
  refine g_aload_n E dX15_init_5 rfl rfl rfl ?_
  refine g_putfF E gciX17 (v := .ref s) dX15_init_6 hO 0 rfl (by decide) q862 (.inl rfl) rfl Hin rfl (fun _ => rfl) (fun _ => rfl) rfl (g_upk (fun g1 h1 f1 => ?_))
  refine g_aload_n E dX15_init_9 rfl rfl rfl ?_
  refine g_iload_n E dX15_init_10 rfl rfl rfl ?_
  refine g_putfF E gciX17 (v := .int n) dX15_init_11 h1 1 rfl (by decide) q864 (.inl rfl) rfl Hin rfl (fun _ => rfl) (fun _ => rfl) rfl (g_upk (fun g2 h2 f2 => ?_))
  exact g_vret E Rt dX15_init_14 rfl (by decide) (by decide) (⟨rfl, h2, fun j9 h9 => (f2 j9 (by omega)).trans (f1 j9 (by omega))⟩)
set_option maxHeartbeats 400000 in
theorem ct_X17_init (l : Launch) {g : gWM} {k s : Nat} (n : Int32) (hO : g k = some (.inr (13, fun j => defaultValue (tyX17 j)))) : gCt l yX17_init cX17_init 3 none 2 0 0 42 [.ref k, .ref s, .int n] g (gPn (fun g1 => g1 k = some (.inr (13, va_up (va_up (fun j => defaultValue (tyX17 j)) 0 (.ref s)) 1 (.int n))) ∧ ∀ j, j ≠ k → g1 j = g j)) := by
  refine gCt.ofI RX17 (by decide) rfl (lo := [some (.ref k), some (.ref s), some (.int n)]) 0 rfl (Nat.le_of_ble_eq_true rfl) rfl (fun z E Rt Hin => ?_)
  refine g_aload_n E dX17_init_0 rfl rfl rfl ?_
  refine g_aload_n E dX17_init_1 rfl rfl rfl ?_
  refine g_iload_n E dX17_init_2 rfl rfl rfl ?_
  refine g_callI (k := k) (n9 := 2) (av := [.ref s, .int n]) (st := []) E (ct_X15_init_X17 l n hO) gciX17 dX17_init_3 hO q899 q848 q142 q849 (by decide +kernel) rfl rfl rfl ⟨by decide, by decide⟩ ⟨by decide, by decide⟩ (Nat.le_of_ble_eq_true rfl) rfl (gPn.k (fun g1 h1 => ?_))
  obtain ⟨h1, f1⟩ := h1
  exact g_vret E Rt dX17_init_6 rfl (by decide) (by decide) (⟨rfl, h1, fun j9 h9 => f1 j9 (by omega)⟩)
set_option maxHeartbeats 400000 in
theorem ct_X15_init_X18 (l : Launch) {g : gWM} {k s : Nat} (n : Int32) (hO : g k = some (.inr (14, fun j => defaultValue (tyX18 j)))) : gCt l yX15_init cX15_init 3 none 1 0 0 20 [.ref k, .ref s, .int n] g (gPn (fun g1 => g1 k = some (.inr (14, va_up (va_up (fun j => defaultValue (tyX18 j)) 0 (.ref s)) 1 (.int n))) ∧ ∀ j, j ≠ k → g1 j = g j)) := by
  refine gCt.ofI RX15 (by decide) rfl (lo := [some (.ref k), some (.ref s), some (.int n)]) 0 rfl (Nat.le_of_ble_eq_true rfl) rfl (fun z E Rt Hin => ?_)
  refine g_aload_n E dX15_init_0 rfl rfl rfl ?_
  refine g_objInit E dX15_init_1 q850 q164 q165 ⟨by decide, by decide⟩ (Nat.le_of_ble_eq_true rfl) rfl ?_
  refine g_aload_n E dX15_init_4 rfl rfl rfl ?_
  refine g_aload_n E dX15_init_5 rfl rfl rfl ?_
  refine g_putfF E gciX18 (v := .ref s) dX15_init_6 hO 0 rfl (by decide) q862 (.inl rfl) rfl Hin rfl (fun _ => rfl) (fun _ => rfl) rfl (g_upk (fun g1 h1 f1 => ?_))
  refine g_aload_n E dX15_init_9 rfl rfl rfl ?_
  refine g_iload_n E dX15_init_10 rfl rfl rfl ?_
  refine g_putfF E gciX18 (v := .int n) dX15_init_11 h1 1 rfl (by decide) q864 (.inl rfl) rfl Hin rfl (fun _ => rfl) (fun _ => rfl) rfl (g_upk (fun g2 h2 f2 => ?_))
  exact g_vret E Rt dX15_init_14 rfl (by decide) (by decide) (⟨rfl, h2, fun j9 h9 => (f2 j9 (by omega)).trans (f1 j9 (by omega))⟩)
set_option maxHeartbeats 400000 in
theorem ct_X18_init (l : Launch) {g : gWM} {k s : Nat} (n : Int32) (hO : g k = some (.inr (14, fun j => defaultValue (tyX18 j)))) : gCt l yX18_init cX18_init 3 none 2 0 0 42 [.ref k, .ref s, .int n] g (gPn (fun g1 => g1 k = some (.inr (14, va_up (va_up (fun j => defaultValue (tyX18 j)) 0 (.ref s)) 1 (.int n))) ∧ ∀ j, j ≠ k → g1 j = g j)) := by
  refine gCt.ofI RX18 (by decide) rfl (lo := [some (.ref k), some (.ref s), some (.int n)]) 0 rfl (Nat.le_of_ble_eq_true rfl) rfl (fun z E Rt Hin => ?_)
  refine g_aload_n E dX18_init_0 rfl rfl rfl ?_
  refine g_aload_n E dX18_init_1 rfl rfl rfl ?_
  refine g_iload_n E dX18_init_2 rfl rfl rfl ?_
  refine g_callI (k := k) (n9 := 2) (av := [.ref s, .int n]) (st := []) E (ct_X15_init_X18 l n hO) gciX18 dX18_init_3 hO q923 q848 q142 q849 (by decide +kernel) rfl rfl rfl ⟨by decide, by decide⟩ ⟨by decide, by decide⟩ (Nat.le_of_ble_eq_true rfl) rfl (gPn.k (fun g1 h1 => ?_))
  obtain ⟨h1, f1⟩ := h1
  exact g_vret E Rt dX18_init_6 rfl (by decide) (by decide) (⟨rfl, h1, fun j9 h9 => f1 j9 (by omega)⟩)
set_option maxHeartbeats 400000 in
theorem ct_X15_init_X20 (l : Launch) {g : gWM} {k s : Nat} (n : Int32) (hO : g k = some (.inr (15, fun j => defaultValue (tyX20 j)))) : gCt l yX15_init cX15_init 3 none 1 0 0 20 [.ref k, .ref s, .int n] g (gPn (fun g1 => g1 k = some (.inr (15, va_up (va_up (fun j => defaultValue (tyX20 j)) 5 (.ref s)) 6 (.int n))) ∧ ∀ j, j ≠ k → g1 j = g j)) := by
  refine gCt.ofI RX15 (by decide) rfl (lo := [some (.ref k), some (.ref s), some (.int n)]) 0 rfl (Nat.le_of_ble_eq_true rfl) rfl (fun z E Rt Hin => ?_)
  refine g_aload_n E dX15_init_0 rfl rfl rfl ?_
  refine g_objInit E dX15_init_1 q850 q164 q165 ⟨by decide, by decide⟩ (Nat.le_of_ble_eq_true rfl) rfl ?_
  refine g_aload_n E dX15_init_4 rfl rfl rfl ?_
  refine g_aload_n E dX15_init_5 rfl rfl rfl ?_
  refine g_putfF E gciX20 (v := .ref s) dX15_init_6 hO 5 rfl (by decide) q862 (.inl rfl) rfl Hin rfl (fun _ => rfl) (fun _ => rfl) rfl (g_upk (fun g1 h1 f1 => ?_))
  refine g_aload_n E dX15_init_9 rfl rfl rfl ?_
  refine g_iload_n E dX15_init_10 rfl rfl rfl ?_
  refine g_putfF E gciX20 (v := .int n) dX15_init_11 h1 6 rfl (by decide) q864 (.inl rfl) rfl Hin rfl (fun _ => rfl) (fun _ => rfl) rfl (g_upk (fun g2 h2 f2 => ?_))
  exact g_vret E Rt dX15_init_14 rfl (by decide) (by decide) (⟨rfl, h2, fun j9 h9 => (f2 j9 (by omega)).trans (f1 j9 (by omega))⟩)
set_option maxHeartbeats 400000 in
theorem ct_X19_init_X20 (l : Launch) {g : gWM} {k s : Nat} (n : Int32) (hO : g k = some (.inr (15, fun j => defaultValue (tyX20 j)))) : gCt l yX19_init cX19_init 3 none 2 0 0 42 [.ref k, .ref s, .int n] g (gPn (fun g1 => g1 k = some (.inr (15, va_up (va_up (fun j => defaultValue (tyX20 j)) 5 (.ref s)) 6 (.int n))) ∧ ∀ j, j ≠ k → g1 j = g j)) := by
  refine gCt.ofI RX19 (by decide) rfl (lo := [some (.ref k), some (.ref s), some (.int n)]) 0 rfl (Nat.le_of_ble_eq_true rfl) rfl (fun z E Rt Hin => ?_)
  refine g_aload_n E dX19_init_0 rfl rfl rfl ?_
  refine g_aload_n E dX19_init_1 rfl rfl rfl ?_
  refine g_iload_n E dX19_init_2 rfl rfl rfl ?_
  refine g_callI (k := k) (n9 := 2) (av := [.ref s, .int n]) (st := []) E (ct_X15_init_X20 l n hO) gciX20 dX19_init_3 hO q961 q848 q142 q849 (by decide +kernel) rfl rfl rfl ⟨by decide, by decide⟩ ⟨by decide, by decide⟩ (Nat.le_of_ble_eq_true rfl) rfl (gPn.k (fun g1 h1 => ?_))
  obtain ⟨h1, f1⟩ := h1
  exact g_vret E Rt dX19_init_6 rfl (by decide) (by decide) (⟨rfl, h1, fun j9 h9 => f1 j9 (by omega)⟩)
set_option maxHeartbeats 400000 in
theorem ct_X20_init (l : Launch) {g : gWM} {k s : Nat} (n : Int32) (hO : g k = some (.inr (15, fun j => defaultValue (tyX20 j)))) : gCt l yX20_init cX20_init 3 none 3 0 0 64 [.ref k, .ref s, .int n] g (gPn (fun g1 => g1 k = some (.inr (15, va_up (va_up (fun j => defaultValue (tyX20 j)) 5 (.ref s)) 6 (.int n))) ∧ ∀ j, j ≠ k → g1 j = g j)) := by
  refine gCt.ofI RX20 (by decide) rfl (lo := [some (.ref k), some (.ref s), some (.int n)]) 0 rfl (Nat.le_of_ble_eq_true rfl) rfl (fun z E Rt Hin => ?_)
  refine g_aload_n E dX20_init_0 rfl rfl rfl ?_
  refine g_aload_n E dX20_init_1 rfl rfl rfl ?_
  refine g_iload_n E dX20_init_2 rfl rfl rfl ?_
  refine g_callI (k := k) (n9 := 2) (av := [.ref s, .int n]) (st := []) E (ct_X19_init_X20 l n hO) gciX20 dX20_init_3 hO q958 q959 q146 q960 (by decide +kernel) rfl rfl rfl ⟨by decide, by decide⟩ ⟨by decide, by decide⟩ (Nat.le_of_ble_eq_true rfl) rfl (gPn.k (fun g1 h1 => ?_))
  obtain ⟨h1, f1⟩ := h1
  exact g_vret E Rt dX20_init_6 rfl (by decide) (by decide) (⟨rfl, h1, fun j9 h9 => f1 j9 (by omega)⟩)
set_option maxHeartbeats 400000 in
theorem ct_X15_init_X22 (l : Launch) {g : gWM} {k s : Nat} (n : Int32) (hO : g k = some (.inr (16, fun j => defaultValue (tyX22 j)))) : gCt l yX15_init cX15_init 3 none 1 0 0 20 [.ref k, .ref s, .int n] g (gPn (fun g1 => g1 k = some (.inr (16, va_up (va_up (fun j => defaultValue (tyX22 j)) 5 (.ref s)) 6 (.int n))) ∧ ∀ j, j ≠ k → g1 j = g j)) := by
  refine gCt.ofI RX15 (by decide) rfl (lo := [some (.ref k), some (.ref s), some (.int n)]) 0 rfl (Nat.le_of_ble_eq_true rfl) rfl (fun z E Rt Hin => ?_)
  refine g_aload_n E dX15_init_0 rfl rfl rfl ?_
  refine g_objInit E dX15_init_1 q850 q164 q165 ⟨by decide, by decide⟩ (Nat.le_of_ble_eq_true rfl) rfl ?_
  refine g_aload_n E dX15_init_4 rfl rfl rfl ?_
  refine g_aload_n E dX15_init_5 rfl rfl rfl ?_
  refine g_putfF E gciX22 (v := .ref s) dX15_init_6 hO 5 rfl (by decide) q862 (.inl rfl) rfl Hin rfl (fun _ => rfl) (fun _ => rfl) rfl (g_upk (fun g1 h1 f1 => ?_))
  refine g_aload_n E dX15_init_9 rfl rfl rfl ?_
  refine g_iload_n E dX15_init_10 rfl rfl rfl ?_
  refine g_putfF E gciX22 (v := .int n) dX15_init_11 h1 6 rfl (by decide) q864 (.inl rfl) rfl Hin rfl (fun _ => rfl) (fun _ => rfl) rfl (g_upk (fun g2 h2 f2 => ?_))
  exact g_vret E Rt dX15_init_14 rfl (by decide) (by decide) (⟨rfl, h2, fun j9 h9 => (f2 j9 (by omega)).trans (f1 j9 (by omega))⟩)
set_option maxHeartbeats 400000 in
theorem ct_X19_init_X22 (l : Launch) {g : gWM} {k s : Nat} (n : Int32) (hO : g k = some (.inr (16, fun j => defaultValue (tyX22 j)))) : gCt l yX19_init cX19_init 3 none 2 0 0 42 [.ref k, .ref s, .int n] g (gPn (fun g1 => g1 k = some (.inr (16, va_up (va_up (fun j => defaultValue (tyX22 j)) 5 (.ref s)) 6 (.int n))) ∧ ∀ j, j ≠ k → g1 j = g j)) := by
  refine gCt.ofI RX19 (by decide) rfl (lo := [some (.ref k), some (.ref s), some (.int n)]) 0 rfl (Nat.le_of_ble_eq_true rfl) rfl (fun z E Rt Hin => ?_)
  refine g_aload_n E dX19_init_0 rfl rfl rfl ?_
  refine g_aload_n E dX19_init_1 rfl rfl rfl ?_
  refine g_iload_n E dX19_init_2 rfl rfl rfl ?_
  refine g_callI (k := k) (n9 := 2) (av := [.ref s, .int n]) (st := []) E (ct_X15_init_X22 l n hO) gciX22 dX19_init_3 hO q961 q848 q142 q849 (by decide +kernel) rfl rfl rfl ⟨by decide, by decide⟩ ⟨by decide, by decide⟩ (Nat.le_of_ble_eq_true rfl) rfl (gPn.k (fun g1 h1 => ?_))
  obtain ⟨h1, f1⟩ := h1
  exact g_vret E Rt dX19_init_6 rfl (by decide) (by decide) (⟨rfl, h1, fun j9 h9 => f1 j9 (by omega)⟩)
set_option maxHeartbeats 400000 in
theorem ct_X21_init_X22 (l : Launch) {g : gWM} {k s : Nat} (n : Int32) (hO : g k = some (.inr (16, fun j => defaultValue (tyX22 j)))) : gCt l yX21_init cX21_init 3 none 3 0 0 64 [.ref k, .ref s, .int n] g (gPn (fun g1 => g1 k = some (.inr (16, va_up (va_up (fun j => defaultValue (tyX22 j)) 5 (.ref s)) 6 (.int n))) ∧ ∀ j, j ≠ k → g1 j = g j)) := by
  refine gCt.ofI RX21 (by decide) rfl (lo := [some (.ref k), some (.ref s), some (.int n)]) 0 rfl (Nat.le_of_ble_eq_true rfl) rfl (fun z E Rt Hin => ?_)
  refine g_aload_n E dX21_init_0 rfl rfl rfl ?_
  refine g_aload_n E dX21_init_1 rfl rfl rfl ?_
  refine g_iload_n E dX21_init_2 rfl rfl rfl ?_
  refine g_callI (k := k) (n9 := 2) (av := [.ref s, .int n]) (st := []) E (ct_X19_init_X22 l n hO) gciX22 dX21_init_3 hO q1014 q959 q146 q960 (by decide +kernel) rfl rfl rfl ⟨by decide, by decide⟩ ⟨by decide, by decide⟩ (Nat.le_of_ble_eq_true rfl) rfl (gPn.k (fun g1 h1 => ?_))
  obtain ⟨h1, f1⟩ := h1
  exact g_vret E Rt dX21_init_6 rfl (by decide) (by decide) (⟨rfl, h1, fun j9 h9 => f1 j9 (by omega)⟩)
set_option maxHeartbeats 400000 in
theorem ct_X22_init (l : Launch) {g : gWM} {k s : Nat} (n : Int32) (hO : g k = some (.inr (16, fun j => defaultValue (tyX22 j)))) : gCt l yX22_init cX22_init 3 none 4 0 0 86 [.ref k, .ref s, .int n] g (gPn (fun g1 => g1 k = some (.inr (16, va_up (va_up (fun j => defaultValue (tyX22 j)) 5 (.ref s)) 6 (.int n))) ∧ ∀ j, j ≠ k → g1 j = g j)) := by
  refine gCt.ofI RX22 (by decide) rfl (lo := [some (.ref k), some (.ref s), some (.int n)]) 0 rfl (Nat.le_of_ble_eq_true rfl) rfl (fun z E Rt Hin => ?_)
  refine g_aload_n E dX22_init_0 rfl rfl rfl ?_
  refine g_aload_n E dX22_init_1 rfl rfl rfl ?_
  refine g_iload_n E dX22_init_2 rfl rfl rfl ?_
  refine g_callI (k := k) (n9 := 2) (av := [.ref s, .int n]) (st := []) E (ct_X21_init_X22 l n hO) gciX22 dX22_init_3 hO q1011 q1012 q148 q1013 (by decide +kernel) rfl rfl rfl ⟨by decide, by decide⟩ ⟨by decide, by decide⟩ (Nat.le_of_ble_eq_true rfl) rfl (gPn.k (fun g1 h1 => ?_))
  obtain ⟨h1, f1⟩ := h1
  exact g_vret E Rt dX22_init_6 rfl (by decide) (by decide) (⟨rfl, h1, fun j9 h9 => f1 j9 (by omega)⟩)
set_option maxHeartbeats 400000 in
theorem ct_X15_init_X23 (l : Launch) {g : gWM} {k s : Nat} (n : Int32) (hO : g k = some (.inr (17, fun j => defaultValue (tyX23 j)))) : gCt l yX15_init cX15_init 3 none 1 0 0 20 [.ref k, .ref s, .int n] g (gPn (fun g1 => g1 k = some (.inr (17, va_up (va_up (fun j => defaultValue (tyX23 j)) 5 (.ref s)) 6 (.int n))) ∧ ∀ j, j ≠ k → g1 j = g j)) := by
  refine gCt.ofI RX15 (by decide) rfl (lo := [some (.ref k), some (.ref s), some (.int n)]) 0 rfl (Nat.le_of_ble_eq_true rfl) rfl (fun z E Rt Hin => ?_)
  refine g_aload_n E dX15_init_0 rfl rfl rfl ?_
  refine g_objInit E dX15_init_1 q850 q164 q165 ⟨by decide, by decide⟩ (Nat.le_of_ble_eq_true rfl) rfl ?_
  refine g_aload_n E dX15_init_4 rfl rfl rfl ?_
  refine g_aload_n E dX15_init_5 rfl rfl rfl ?_
  refine g_putfF E gciX23 (v := .ref s) dX15_init_6 hO 5 rfl (by decide) q862 (.inl rfl) rfl Hin rfl (fun _ => rfl) (fun _ => rfl) rfl (g_upk (fun g1 h1 f1 => ?_))
  refine g_aload_n E dX15_init_9 rfl rfl rfl ?_
  refine g_iload_n E dX15_init_10 rfl rfl rfl ?_
  refine g_putfF E gciX23 (v := .int n) dX15_init_11 h1 6 rfl (by decide) q864 (.inl rfl) rfl Hin rfl (fun _ => rfl) (fun _ => rfl) rfl (g_upk (fun g2 h2 f2 => ?_))
  exact g_vret E Rt dX15_init_14 rfl (by decide) (by decide) (⟨rfl, h2, fun j9 h9 => (f2 j9 (by omega)).trans (f1 j9 (by omega))⟩)
set_option maxHeartbeats 400000 in
theorem ct_X19_init_X23 (l : Launch) {g : gWM} {k s : Nat} (n : Int32) (hO : g k = some (.inr (17, fun j => defaultValue (tyX23 j)))) : gCt l yX19_init cX19_init 3 none 2 0 0 42 [.ref k, .ref s, .int n] g (gPn (fun g1 => g1 k = some (.inr (17, va_up (va_up (fun j => defaultValue (tyX23 j)) 5 (.ref s)) 6 (.int n))) ∧ ∀ j, j ≠ k → g1 j = g j)) := by
  refine gCt.ofI RX19 (by decide) rfl (lo := [some (.ref k), some (.ref s), some (.int n)]) 0 rfl (Nat.le_of_ble_eq_true rfl) rfl (fun z E Rt Hin => ?_)
  refine g_aload_n E dX19_init_0 rfl rfl rfl ?_
  refine g_aload_n E dX19_init_1 rfl rfl rfl ?_
  refine g_iload_n E dX19_init_2 rfl rfl rfl ?_
  refine g_callI (k := k) (n9 := 2) (av := [.ref s, .int n]) (st := []) E (ct_X15_init_X23 l n hO) gciX23 dX19_init_3 hO q961 q848 q142 q849 (by decide +kernel) rfl rfl rfl ⟨by decide, by decide⟩ ⟨by decide, by decide⟩ (Nat.le_of_ble_eq_true rfl) rfl (gPn.k (fun g1 h1 => ?_))
  obtain ⟨h1, f1⟩ := h1
  exact g_vret E Rt dX19_init_6 rfl (by decide) (by decide) (⟨rfl, h1, fun j9 h9 => f1 j9 (by omega)⟩)
set_option maxHeartbeats 400000 in
theorem ct_X21_init_X23 (l : Launch) {g : gWM} {k s : Nat} (n : Int32) (hO : g k = some (.inr (17, fun j => defaultValue (tyX23 j)))) : gCt l yX21_init cX21_init 3 none 3 0 0 64 [.ref k, .ref s, .int n] g (gPn (fun g1 => g1 k = some (.inr (17, va_up (va_up (fun j => defaultValue (tyX23 j)) 5 (.ref s)) 6 (.int n))) ∧ ∀ j, j ≠ k → g1 j = g j)) := by
  refine gCt.ofI RX21 (by decide) rfl (lo := [some (.ref k), some (.ref s), some (.int n)]) 0 rfl (Nat.le_of_ble_eq_true rfl) rfl (fun z E Rt Hin => ?_)
  refine g_aload_n E dX21_init_0 rfl rfl rfl ?_
  refine g_aload_n E dX21_init_1 rfl rfl rfl ?_
  refine g_iload_n E dX21_init_2 rfl rfl rfl ?_
  refine g_callI (k := k) (n9 := 2) (av := [.ref s, .int n]) (st := []) E (ct_X19_init_X23 l n hO) gciX23 dX21_init_3 hO q1014 q959 q146 q960 (by decide +kernel) rfl rfl rfl ⟨by decide, by decide⟩ ⟨by decide, by decide⟩ (Nat.le_of_ble_eq_true rfl) rfl (gPn.k (fun g1 h1 => ?_))
  obtain ⟨h1, f1⟩ := h1
  exact g_vret E Rt dX21_init_6 rfl (by decide) (by decide) (⟨rfl, h1, fun j9 h9 => f1 j9 (by omega)⟩)
set_option maxHeartbeats 400000 in
theorem ct_X23_init (l : Launch) {g : gWM} {k s : Nat} (n : Int32) (hO : g k = some (.inr (17, fun j => defaultValue (tyX23 j)))) : gCt l yX23_init cX23_init 3 none 4 0 0 86 [.ref k, .ref s, .int n] g (gPn (fun g1 => g1 k = some (.inr (17, va_up (va_up (fun j => defaultValue (tyX23 j)) 5 (.ref s)) 6 (.int n))) ∧ ∀ j, j ≠ k → g1 j = g j)) := by
  refine gCt.ofI RX23 (by decide) rfl (lo := [some (.ref k), some (.ref s), some (.int n)]) 0 rfl (Nat.le_of_ble_eq_true rfl) rfl (fun z E Rt Hin => ?_)
  refine g_aload_n E dX23_init_0 rfl rfl rfl ?_
  refine g_aload_n E dX23_init_1 rfl rfl rfl ?_
  refine g_iload_n E dX23_init_2 rfl rfl rfl ?_
  refine g_callI (k := k) (n9 := 2) (av := [.ref s, .int n]) (st := []) E (ct_X21_init_X23 l n hO) gciX23 dX23_init_3 hO q1032 q1012 q148 q1013 (by decide +kernel) rfl rfl rfl ⟨by decide, by decide⟩ ⟨by decide, by decide⟩ (Nat.le_of_ble_eq_true rfl) rfl (gPn.k (fun g1 h1 => ?_))
  obtain ⟨h1, f1⟩ := h1
  exact g_vret E Rt dX23_init_6 rfl (by decide) (by decide) (⟨rfl, h1, fun j9 h9 => f1 j9 (by omega)⟩)
set_option maxHeartbeats 400000 in
theorem ct_X15_init_X24 (l : Launch) {g : gWM} {k s : Nat} (n : Int32) (hO : g k = some (.inr (18, fun j => defaultValue (tyX24 j)))) : gCt l yX15_init cX15_init 3 none 1 0 0 20 [.ref k, .ref s, .int n] g (gPn (fun g1 => g1 k = some (.inr (18, va_up (va_up (fun j => defaultValue (tyX24 j)) 5 (.ref s)) 6 (.int n))) ∧ ∀ j, j ≠ k → g1 j = g j)) := by
  refine gCt.ofI RX15 (by decide) rfl (lo := [some (.ref k), some (.ref s), some (.int n)]) 0 rfl (Nat.le_of_ble_eq_true rfl) rfl (fun z E Rt Hin => ?_)
  refine g_aload_n E dX15_init_0 rfl rfl rfl ?_
  refine g_objInit E dX15_init_1 q850 q164 q165 ⟨by decide, by decide⟩ (Nat.le_of_ble_eq_true rfl) rfl ?_
  refine g_aload_n E dX15_init_4 rfl rfl rfl ?_
  refine g_aload_n E dX15_init_5 rfl rfl rfl ?_
  refine g_putfF E gciX24 (v := .ref s) dX15_init_6 hO 5 rfl (by decide) q862 (.inl rfl) rfl Hin rfl (fun _ => rfl) (fun _ => rfl) rfl (g_upk (fun g1 h1 f1 => ?_))
  refine g_aload_n E dX15_init_9 rfl rfl rfl ?_
  refine g_iload_n E dX15_init_10 rfl rfl rfl ?_
  refine g_putfF E gciX24 (v := .int n) dX15_init_11 h1 6 rfl (by decide) q864 (.inl rfl) rfl Hin rfl (fun _ => rfl) (fun _ => rfl) rfl (g_upk (fun g2 h2 f2 => ?_))
  exact g_vret E Rt dX15_init_14 rfl (by decide) (by decide) (⟨rfl, h2, fun j9 h9 => (f2 j9 (by omega)).trans (f1 j9 (by omega))⟩)
set_option maxHeartbeats 400000 in
theorem ct_X19_init_X24 (l : Launch) {g : gWM} {k s : Nat} (n : Int32) (hO : g k = some (.inr (18, fun j => defaultValue (tyX24 j)))) : gCt l yX19_init cX19_init 3 none 2 0 0 42 [.ref k, .ref s, .int n] g (gPn (fun g1 => g1 k = some (.inr (18, va_up (va_up (fun j => defaultValue (tyX24 j)) 5 (.ref s)) 6 (.int n))) ∧ ∀ j, j ≠ k → g1 j = g j)) := by
  refine gCt.ofI RX19 (by decide) rfl (lo := [some (.ref k), some (.ref s), some (.int n)]) 0 rfl (Nat.le_of_ble_eq_true rfl) rfl (fun z E Rt Hin => ?_)
  refine g_aload_n E dX19_init_0 rfl rfl rfl ?_
  refine g_aload_n E dX19_init_1 rfl rfl rfl ?_
  refine g_iload_n E dX19_init_2 rfl rfl rfl ?_
  refine g_callI (k := k) (n9 := 2) (av := [.ref s, .int n]) (st := []) E (ct_X15_init_X24 l n hO) gciX24 dX19_init_3 hO q961 q848 q142 q849 (by decide +kernel) rfl rfl rfl ⟨by decide, by decide⟩ ⟨by decide, by decide⟩ (Nat.le_of_ble_eq_true rfl) rfl (gPn.k (fun g1 h1 => ?_))
  obtain ⟨h1, f1⟩ := h1
  exact g_vret E Rt dX19_init_6 rfl (by decide) (by decide) (⟨rfl, h1, fun j9 h9 => f1 j9 (by omega)⟩)
set_option maxHeartbeats 400000 in
theorem ct_X21_init_X24 (l : Launch) {g : gWM} {k s : Nat} (n : Int32) (hO : g k = some (.inr (18, fun j => defaultValue (tyX24 j)))) : gCt l yX21_init cX21_init 3 none 3 0 0 64 [.ref k, .ref s, .int n] g (gPn (fun g1 => g1 k = some (.inr (18, va_up (va_up (fun j => defaultValue (tyX24 j)) 5 (.ref s)) 6 (.int n))) ∧ ∀ j, j ≠ k → g1 j = g j)) := by
  refine gCt.ofI RX21 (by decide) rfl (lo := [some (.ref k), some (.ref s), some (.int n)]) 0 rfl (Nat.le_of_ble_eq_true rfl) rfl (fun z E Rt Hin => ?_)
  refine g_aload_n E dX21_init_0 rfl rfl rfl ?_
  refine g_aload_n E dX21_init_1 rfl rfl rfl ?_
  refine g_iload_n E dX21_init_2 rfl rfl rfl ?_
  refine g_callI (k := k) (n9 := 2) (av := [.ref s, .int n]) (st := []) E (ct_X19_init_X24 l n hO) gciX24 dX21_init_3 hO q1014 q959 q146 q960 (by decide +kernel) rfl rfl rfl ⟨by decide, by decide⟩ ⟨by decide, by decide⟩ (Nat.le_of_ble_eq_true rfl) rfl (gPn.k (fun g1 h1 => ?_))
  obtain ⟨h1, f1⟩ := h1
  exact g_vret E Rt dX21_init_6 rfl (by decide) (by decide) (⟨rfl, h1, fun j9 h9 => f1 j9 (by omega)⟩)
set_option maxHeartbeats 400000 in
theorem ct_X24_init (l : Launch) {g : gWM} {k s : Nat} (n : Int32) (hO : g k = some (.inr (18, fun j => defaultValue (tyX24 j)))) : gCt l yX24_init cX24_init 3 none 4 0 0 86 [.ref k, .ref s, .int n] g (gPn (fun g1 => g1 k = some (.inr (18, va_up (va_up (fun j => defaultValue (tyX24 j)) 5 (.ref s)) 6 (.int n))) ∧ ∀ j, j ≠ k → g1 j = g j)) := by
  refine gCt.ofI RX24 (by decide) rfl (lo := [some (.ref k), some (.ref s), some (.int n)]) 0 rfl (Nat.le_of_ble_eq_true rfl) rfl (fun z E Rt Hin => ?_)
  refine g_aload_n E dX24_init_0 rfl rfl rfl ?_
  refine g_aload_n E dX24_init_1 rfl rfl rfl ?_
  refine g_iload_n E dX24_init_2 rfl rfl rfl ?_
  refine g_callI (k := k) (n9 := 2) (av := [.ref s, .int n]) (st := []) E (ct_X21_init_X24 l n hO) gciX24 dX24_init_3 hO q1048 q1012 q148 q1013 (by decide +kernel) rfl rfl rfl ⟨by decide, by decide⟩ ⟨by decide, by decide⟩ (Nat.le_of_ble_eq_true rfl) rfl (gPn.k (fun g1 h1 => ?_))
  obtain ⟨h1, f1⟩ := h1
  exact g_vret E Rt dX24_init_6 rfl (by decide) (by decide) (⟨rfl, h1, fun j9 h9 => f1 j9 (by omega)⟩)
set_option maxHeartbeats 400000 in
theorem ct_X15_init_X25 (l : Launch) {g : gWM} {k s : Nat} (n : Int32) (hO : g k = some (.inr (19, fun j => defaultValue (tyX25 j)))) : gCt l yX15_init cX15_init 3 none 1 0 0 20 [.ref k, .ref s, .int n] g (gPn (fun g1 => g1 k = some (.inr (19, va_up (va_up (fun j => defaultValue (tyX25 j)) 5 (.ref s)) 6 (.int n))) ∧ ∀ j, j ≠ k → g1 j = g j)) := by
  refine gCt.ofI RX15 (by decide) rfl (lo := [some (.ref k), some (.ref s), some (.int n)]) 0 rfl (Nat.le_of_ble_eq_true rfl) rfl (fun z E Rt Hin => ?_)
  refine g_aload_n E dX15_init_0 rfl rfl rfl ?_
  refine g_objInit E dX15_init_1 q850 q164 q165 ⟨by decide, by decide⟩ (Nat.le_of_ble_eq_true rfl) rfl ?_
  refine g_aload_n E dX15_init_4 rfl rfl rfl ?_
  refine g_aload_n E dX15_init_5 rfl rfl rfl ?_
  refine g_putfF E gciX25 (v := .ref s) dX15_init_6 hO 5 rfl (by decide) q862 (.inl rfl) rfl Hin rfl (fun _ => rfl) (fun _ => rfl) rfl (g_upk (fun g1 h1 f1 => ?_))
  refine g_aload_n E dX15_init_9 rfl rfl rfl ?_
  refine g_iload_n E dX15_init_10 rfl rfl rfl ?_
  refine g_putfF E gciX25 (v := .int n) dX15_init_11 h1 6 rfl (by decide) q864 (.inl rfl) rfl Hin rfl (fun _ => rfl) (fun _ => rfl) rfl (g_upk (fun g2 h2 f2 => ?_))
  exact g_vret E Rt dX15_init_14 rfl (by decide) (by decide) (⟨rfl, h2, fun j9 h9 => (f2 j9 (by omega)).trans (f1 j9 (by omega))⟩)
set_option maxHeartbeats 400000 in
theorem ct_X19_init_X25 (l : Launch) {g : gWM} {k s : Nat} (n : Int32) (hO : g k = some (.inr (19, fun j => defaultValue (tyX25 j)))) : gCt l yX19_init cX19_init 3 none 2 0 0 42 [.ref k, .ref s, .int n] g (gPn (fun g1 => g1 k = some (.inr (19, va_up (va_up (fun j => defaultValue (tyX25 j)) 5 (.ref s)) 6 (.int n))) ∧ ∀ j, j ≠ k → g1 j = g j)) := by
  refine gCt.ofI RX19 (by decide) rfl (lo := [some (.ref k), some (.ref s), some (.int n)]) 0 rfl (Nat.le_of_ble_eq_true rfl) rfl (fun z E Rt Hin => ?_)
  refine g_aload_n E dX19_init_0 rfl rfl rfl ?_
  refine g_aload_n E dX19_init_1 rfl rfl rfl ?_
  refine g_iload_n E dX19_init_2 rfl rfl rfl ?_
  refine g_callI (k := k) (n9 := 2) (av := [.ref s, .int n]) (st := []) E (ct_X15_init_X25 l n hO) gciX25 dX19_init_3 hO q961 q848 q142 q849 (by decide +kernel) rfl rfl rfl ⟨by decide, by decide⟩ ⟨by decide, by decide⟩ (Nat.le_of_ble_eq_true rfl) rfl (gPn.k (fun g1 h1 => ?_))
  obtain ⟨h1, f1⟩ := h1
  exact g_vret E Rt dX19_init_6 rfl (by decide) (by decide) (⟨rfl, h1, fun j9 h9 => f1 j9 (by omega)⟩)
set_option maxHeartbeats 400000 in
theorem ct_X21_init_X25 (l : Launch) {g : gWM} {k s : Nat} (n : Int32) (hO : g k = some (.inr (19, fun j => defaultValue (tyX25 j)))) : gCt l yX21_init cX21_init 3 none 3 0 0 64 [.ref k, .ref s, .int n] g (gPn (fun g1 => g1 k = some (.inr (19, va_up (va_up (fun j => defaultValue (tyX25 j)) 5 (.ref s)) 6 (.int n))) ∧ ∀ j, j ≠ k → g1 j = g j)) := by
  refine gCt.ofI RX21 (by decide) rfl (lo := [some (.ref k), some (.ref s), some (.int n)]) 0 rfl (Nat.le_of_ble_eq_true rfl) rfl (fun z E Rt Hin => ?_)
  refine g_aload_n E dX21_init_0 rfl rfl rfl ?_
  refine g_aload_n E dX21_init_1 rfl rfl rfl ?_
  refine g_iload_n E dX21_init_2 rfl rfl rfl ?_
  refine g_callI (k := k) (n9 := 2) (av := [.ref s, .int n]) (st := []) E (ct_X19_init_X25 l n hO) gciX25 dX21_init_3 hO q1014 q959 q146 q960 (by decide +kernel) rfl rfl rfl ⟨by decide, by decide⟩ ⟨by decide, by decide⟩ (Nat.le_of_ble_eq_true rfl) rfl (gPn.k (fun g1 h1 => ?_))
  obtain ⟨h1, f1⟩ := h1
  exact g_vret E Rt dX21_init_6 rfl (by decide) (by decide) (⟨rfl, h1, fun j9 h9 => f1 j9 (by omega)⟩)
set_option maxHeartbeats 400000 in
theorem ct_X25_init (l : Launch) {g : gWM} {k s : Nat} (n : Int32) (hO : g k = some (.inr (19, fun j => defaultValue (tyX25 j)))) : gCt l yX25_init cX25_init 3 none 4 0 0 86 [.ref k, .ref s, .int n] g (gPn (fun g1 => g1 k = some (.inr (19, va_up (va_up (fun j => defaultValue (tyX25 j)) 5 (.ref s)) 6 (.int n))) ∧ ∀ j, j ≠ k → g1 j = g j)) := by
  refine gCt.ofI RX25 (by decide) rfl (lo := [some (.ref k), some (.ref s), some (.int n)]) 0 rfl (Nat.le_of_ble_eq_true rfl) rfl (fun z E Rt Hin => ?_)
  refine g_aload_n E dX25_init_0 rfl rfl rfl ?_
  refine g_aload_n E dX25_init_1 rfl rfl rfl ?_
  refine g_iload_n E dX25_init_2 rfl rfl rfl ?_
  refine g_callI (k := k) (n9 := 2) (av := [.ref s, .int n]) (st := []) E (ct_X21_init_X25 l n hO) gciX25 dX25_init_3 hO q1064 q1012 q148 q1013 (by decide +kernel) rfl rfl rfl ⟨by decide, by decide⟩ ⟨by decide, by decide⟩ (Nat.le_of_ble_eq_true rfl) rfl (gPn.k (fun g1 h1 => ?_))
  obtain ⟨h1, f1⟩ := h1
  exact g_vret E Rt dX25_init_6 rfl (by decide) (by decide) (⟨rfl, h1, fun j9 h9 => f1 j9 (by omega)⟩)
set_option maxHeartbeats 400000 in
theorem ct_X26_init (l : Launch) {g : gWM} {k : Nat} (hO : g k = some (.inr (20, fun j => defaultValue (tyX26 j)))) : gCt l yX26_init cX26_init 1 none 1 0 0 20 [.ref k] g (gPv g) := by
  refine gCt.ofI RX26 (by decide) rfl (lo := [some (.ref k)]) 0 rfl (Nat.le_of_ble_eq_true rfl) rfl (fun z E Rt Hin => ?_)
  refine g_aload_n E dX26_init_0 rfl rfl rfl ?_
  refine g_objInit E dX26_init_1 q1107 q164 q165 ⟨by decide, by decide⟩ (Nat.le_of_ble_eq_true rfl) rfl ?_
  exact g_vret E Rt dX26_init_4 rfl (by decide) (by decide) (⟨rfl, rfl⟩)
set_option maxHeartbeats 400000 in
theorem ct_X14_init (l : Launch) {g : gWM} {bb : Nat} (hO : g bb = some (.inr (11, fun j => defaultValue (tyX14 j)))) (h9 : 1000 ≤ bb) (hz : ∀ j, (bb < j ∧ j < bb + 8) → g j = none) : gCt l yX14_init cX14_init 1 none 1 7 35 20 [.ref bb] g (gPn (fun g1 => pBr g1 bb zB0 ∧ (∃ F, g1 bb = some (.inr (11, F)) ∧ F 16 = .int 0) ∧ ∀ j, (j < bb ∨ bb + 8 ≤ j) → g1 j = g j)) := by
  refine gCt.ofI RX14 (by decide) rfl (lo := [some (.ref bb)]) 0 rfl (Nat.le_of_ble_eq_true rfl) rfl (fun z E Rt Hin => ?_)
  refine g_aload_n E dX14_init_0 rfl rfl rfl ?_
  refine g_objInit E dX14_init_1 q516 q164 q165 ⟨by decide, by decide⟩ (Nat.le_of_ble_eq_true rfl) rfl ?_
  refine g_aload_n E dX14_init_4 rfl rfl rfl ?_
  refine g_iconst E (v := 4) dX14_init_5 (by decide) rfl ?_
  refine g_newq E dX14_init_6 (fun _ => rfl) q517 q518 (n := 4) (t := 5) rfl (by decide) (bb + 1) (hz (bb + 1) (by omega)) (by omega) (by decide) (by decide) rfl (g_upk (fun g1 h1 f1 => ?_))
  have x2 := (f1 (bb) (by omega)).trans (hO)
  refine g_putfF E gciX14 (v := .ref (bb + 1)) dX14_init_9 x2 0 rfl (by decide) q527 (.inl rfl) rfl Hin rfl (fun _ => rfl) (fun _ => rfl) rfl (g_upk (fun g3 h3 f3 => ?_))
  refine g_aload_n E dX14_init_12 rfl rfl rfl ?_
  refine g_iconst E (v := 4) dX14_init_13 (by decide) rfl ?_
  refine g_newq E dX14_init_14 (fun _ => rfl) q519 q520 (n := 4) (t := 6) rfl (by decide) (bb + 2) ((f3 (bb + 2) (by omega)).trans ((f1 (bb + 2) (by omega)).trans (hz (bb + 2) (by omega)))) (by omega) (by decide) (by decide) rfl (g_upk (fun g4 h4 f4 => ?_))
  have x5 := (f4 (bb) (by omega)).trans (h3)
  refine g_putfF E gciX14 (v := .ref (bb + 2)) dX14_init_17 x5 1 rfl (by decide) q530 (.inl rfl) rfl Hin rfl (fun _ => rfl) (fun _ => rfl) rfl (g_upk (fun g6 h6 f6 => ?_))
  refine g_aload_n E dX14_init_20 rfl rfl rfl ?_
  refine g_iconst E (v := 3) dX14_init_21 (by decide) rfl ?_
  refine g_newq E dX14_init_22 (fun _ => rfl) q521 q522 (n := 3) (t := 7) rfl (by decide) (bb + 3) ((f6 (bb + 3) (by omega)).trans ((f4 (bb + 3) (by omega)).trans ((f3 (bb + 3) (by omega)).trans ((f1 (bb + 3) (by omega)).trans (hz (bb + 3) (by omega)))))) (by omega) (by decide) (by decide) rfl (g_upk (fun g7 h7 f7 => ?_))
  have x8 := (f7 (bb) (by omega)).trans (h6)
  refine g_putfF E gciX14 (v := .ref (bb + 3)) dX14_init_25 x8 2 rfl (by decide) q534 (.inl rfl) rfl Hin rfl (fun _ => rfl) (fun _ => rfl) rfl (g_upk (fun g9 h9 f9 => ?_))
  refine g_aload_n E dX14_init_28 rfl rfl rfl ?_
  refine g_bipush E (v := 8) dX14_init_29 (by decide) rfl ?_
  refine g_newq E dX14_init_31 (fun _ => rfl) q523 q524 (n := 8) (t := 8) rfl (by decide) (bb + 4) ((f9 (bb + 4) (by omega)).trans ((f7 (bb + 4) (by omega)).trans ((f6 (bb + 4) (by omega)).trans ((f4 (bb + 4) (by omega)).trans ((f3 (bb + 4) (by omega)).trans ((f1 (bb + 4) (by omega)).trans (hz (bb + 4) (by omega)))))))) (by omega) (by decide) (by decide) rfl (g_upk (fun g10 h10 f10 => ?_))
  have x11 := (f10 (bb) (by omega)).trans (h9)
  refine g_putfF E gciX14 (v := .ref (bb + 4)) dX14_init_34 x11 3 rfl (by decide) q539 (.inl rfl) rfl Hin rfl (fun _ => rfl) (fun _ => rfl) rfl (g_upk (fun g12 h12 f12 => ?_))
  refine g_aload_n E dX14_init_37 rfl rfl rfl ?_
  refine g_bipush E (v := 6) dX14_init_38 (by decide) rfl ?_
  refine g_newq E dX14_init_40 (fun _ => rfl) q525 q526 (n := 6) (t := 9) rfl (by decide) (bb + 5) ((f12 (bb + 5) (by omega)).trans ((f10 (bb + 5) (by omega)).trans ((f9 (bb + 5) (by omega)).trans ((f7 (bb + 5) (by omega)).trans ((f6 (bb + 5) (by omega)).trans ((f4 (bb + 5) (by omega)).trans ((f3 (bb + 5) (by omega)).trans ((f1 (bb + 5) (by omega)).trans (hz (bb + 5) (by omega)))))))))) (by omega) (by decide) (by decide) rfl (g_upk (fun g13 h13 f13 => ?_))
  have x14 := (f13 (bb) (by omega)).trans (h12)
  refine g_putfF E gciX14 (v := .ref (bb + 5)) dX14_init_43 x14 4 rfl (by decide) q544 (.inl rfl) rfl Hin rfl (fun _ => rfl) (fun _ => rfl) rfl (g_upk (fun g15 h15 f15 => ?_))
  refine g_aload_n E dX14_init_46 rfl rfl rfl ?_
  refine g_iconst E (v := 5) dX14_init_47 (by decide) rfl ?_
  refine g_newaI E dX14_init_48 q311 (n := 5) rfl (by decide) (bb + 6) ((f15 (bb + 6) (by omega)).trans ((f13 (bb + 6) (by omega)).trans ((f12 (bb + 6) (by omega)).trans ((f10 (bb + 6) (by omega)).trans ((f9 (bb + 6) (by omega)).trans ((f7 (bb + 6) (by omega)).trans ((f6 (bb + 6) (by omega)).trans ((f4 (bb + 6) (by omega)).trans ((f3 (bb + 6) (by omega)).trans ((f1 (bb + 6) (by omega)).trans (hz (bb + 6) (by omega)))))))))))) (by omega) (by decide) (by decide) rfl (g_upk (fun g16 h16 f16 => ?_))
  have x17 := (f16 (bb) (by omega)).trans (h15)
  refine g_putfF E gciX14 (v := .ref (bb + 6)) dX14_init_50 x17 5 rfl (by decide) q547 (.inl rfl) rfl Hin rfl (fun _ => rfl) (fun _ => rfl) rfl (g_upk (fun g18 h18 f18 => ?_))
  refine g_aload_n E dX14_init_53 rfl rfl rfl ?_
  refine g_iconst E (v := 5) dX14_init_54 (by decide) rfl ?_
  refine g_newaI E dX14_init_55 q311 (n := 5) rfl (by decide) (bb + 7) ((f18 (bb + 7) (by omega)).trans ((f16 (bb + 7) (by omega)).trans ((f15 (bb + 7) (by omega)).trans ((f13 (bb + 7) (by omega)).trans ((f12 (bb + 7) (by omega)).trans ((f10 (bb + 7) (by omega)).trans ((f9 (bb + 7) (by omega)).trans ((f7 (bb + 7) (by omega)).trans ((f6 (bb + 7) (by omega)).trans ((f4 (bb + 7) (by omega)).trans ((f3 (bb + 7) (by omega)).trans ((f1 (bb + 7) (by omega)).trans (hz (bb + 7) (by omega)))))))))))))) (by omega) (by decide) (by decide) rfl (g_upk (fun g19 h19 f19 => ?_))
  have x20 := (f19 (bb) (by omega)).trans (h18)
  refine g_putfF E gciX14 (v := .ref (bb + 7)) dX14_init_57 x20 6 rfl (by decide) q550 (.inl rfl) rfl Hin rfl (fun _ => rfl) (fun _ => rfl) rfl (g_upk (fun g21 h21 f21 => ?_))
  have x22 := (f21 (bb + 1) (by omega)).trans ((f19 (bb + 1) (by omega)).trans ((f18 (bb + 1) (by omega)).trans ((f16 (bb + 1) (by omega)).trans ((f15 (bb + 1) (by omega)).trans ((f13 (bb + 1) (by omega)).trans ((f12 (bb + 1) (by omega)).trans ((f10 (bb + 1) (by omega)).trans ((f9 (bb + 1) (by omega)).trans ((f7 (bb + 1) (by omega)).trans ((f6 (bb + 1) (by omega)).trans ((f4 (bb + 1) (by omega)).trans ((f3 (bb + 1) (by omega)).trans (h1)))))))))))))
  have x23 := (f21 (bb + 2) (by omega)).trans ((f19 (bb + 2) (by omega)).trans ((f18 (bb + 2) (by omega)).trans ((f16 (bb + 2) (by omega)).trans ((f15 (bb + 2) (by omega)).trans ((f13 (bb + 2) (by omega)).trans ((f12 (bb + 2) (by omega)).trans ((f10 (bb + 2) (by omega)).trans ((f9 (bb + 2) (by omega)).trans ((f7 (bb + 2) (by omega)).trans ((f6 (bb + 2) (by omega)).trans (h4)))))))))))
  have x24 := (f21 (bb + 3) (by omega)).trans ((f19 (bb + 3) (by omega)).trans ((f18 (bb + 3) (by omega)).trans ((f16 (bb + 3) (by omega)).trans ((f15 (bb + 3) (by omega)).trans ((f13 (bb + 3) (by omega)).trans ((f12 (bb + 3) (by omega)).trans ((f10 (bb + 3) (by omega)).trans ((f9 (bb + 3) (by omega)).trans (h7)))))))))
  have x25 := (f21 (bb + 4) (by omega)).trans ((f19 (bb + 4) (by omega)).trans ((f18 (bb + 4) (by omega)).trans ((f16 (bb + 4) (by omega)).trans ((f15 (bb + 4) (by omega)).trans ((f13 (bb + 4) (by omega)).trans ((f12 (bb + 4) (by omega)).trans (h10)))))))
  have x26 := (f21 (bb + 5) (by omega)).trans ((f19 (bb + 5) (by omega)).trans ((f18 (bb + 5) (by omega)).trans ((f16 (bb + 5) (by omega)).trans ((f15 (bb + 5) (by omega)).trans (h13)))))
  have x27 := (f21 (bb + 6) (by omega)).trans ((f19 (bb + 6) (by omega)).trans ((f18 (bb + 6) (by omega)).trans (h16)))
  have x28 := (f21 (bb + 7) (by omega)).trans (h19)
  have hp29 : pBr g21 bb zB0 := ⟨⟨_, h21, rfl, rfl, rfl, rfl, rfl, rfl, rfl, rfl, rfl, rfl, rfl, rfl, rfl, rfl, rfl, rfl⟩, ⟨_, x22, fun k9 h9 => absurd h9 (Nat.not_lt_zero k9)⟩, ⟨_, x23, fun k9 h9 => absurd h9 (Nat.not_lt_zero k9)⟩, ⟨_, x24, fun k9 h9 => absurd h9 (Nat.not_lt_zero k9)⟩, ⟨_, x25, fun k9 h9 => absurd h9 (Nat.not_lt_zero k9)⟩, ⟨_, x26, fun k9 h9 => absurd h9 (Nat.not_lt_zero k9)⟩, ⟨_, x27, fun k9 h9 => absurd h9 (Nat.not_lt_zero k9)⟩, ⟨_, x28, fun k9 h9 => absurd h9 (Nat.not_lt_zero k9)⟩, fun k9 h9 => absurd h9 (Nat.not_lt_zero k9), fun k9 h9 => absurd h9 (Nat.not_lt_zero k9), fun k9 h9 => absurd h9 (Nat.not_lt_zero k9), fun k9 h9 => absurd h9 (Nat.not_lt_zero k9), fun k9 h9 => absurd h9 (Nat.not_lt_zero k9)⟩
  exact g_vret E Rt dX14_init_60 rfl (by decide) (by decide) (⟨rfl, hp29, ⟨_, h21, rfl⟩, fun j9 h9 => (((((((((((((f21 j9 (by omega)).trans (f19 j9 (by omega))).trans (f18 j9 (by omega))).trans (f16 j9 (by omega))).trans (f15 j9 (by omega))).trans (f13 j9 (by omega))).trans (f12 j9 (by omega))).trans (f10 j9 (by omega))).trans (f9 j9 (by omega))).trans (f7 j9 (by omega))).trans (f6 j9 (by omega))).trans (f4 j9 (by omega))).trans (f3 j9 (by omega))).trans (f1 j9 (by omega))⟩)
set_option maxHeartbeats 400000 in
theorem ct_X3_at (l : Launch) {g : gWM} (a b : Int32) (hR : ∃ F, g 1003 = some (.inr (2, F))) : gCt l yX3_at cX3_at 3 (some (.object "SaltedGate$Refused")) 0 0 0 0 [.ref 1003, .int a, .int b] g (gPr 1003 (fun g1 => (∃ F, g1 1003 = some (.inr (2, F)) ∧ F 6 = .int a ∧ F 7 = .int b) ∧ ∀ j, j ≠ 1003 → g1 j = g j)) := by
  refine gCt.of RX3 (by decide) rfl (lo := [some (.ref 1003), some (.int a), some (.int b)]) 0 rfl (Nat.le_of_ble_eq_true rfl) (fun z E Rt => ?_)
  have hR_o := hR
  obtain ⟨hR_F, hR_a⟩ := hR_o
  refine g_aload_n E dX3_at_0 rfl rfl rfl ?_
  refine g_iload_n E dX3_at_1 rfl rfl rfl ?_
  refine g_putf E gciX3 (v := .int a) dX3_at_2 hR_a 6 rfl (by decide) q224 (.inl rfl) rfl (fun _ => rfl) (fun _ => rfl) rfl (g_upk (fun g1 h1 f1 => ?_))
  refine g_aload_n E dX3_at_5 rfl rfl rfl ?_
  refine g_iload_n E dX3_at_6 rfl rfl rfl ?_
  refine g_putf E gciX3 (v := .int b) dX3_at_7 h1 7 rfl (by decide) q226 (.inl rfl) rfl (fun _ => rfl) (fun _ => rfl) rfl (g_upk (fun g2 h2 f2 => ?_))
  refine g_aload_n E dX3_at_10 rfl rfl rfl ?_
  exact g_aret E Rt dX3_at_11 rfl (Or.inl ⟨_, rfl⟩) (by decide) (by decide) (⟨rfl, ⟨_, h2, rfl, rfl⟩, fun j9 h9 => (f2 j9 (by omega)).trans (f1 j9 (by omega))⟩)
set_option maxHeartbeats 400000 in
theorem ct_X21_by_X22 (l : Launch) {g : gWM} {k m : Nat} {F : Nat → Value} (hO : g k = some (.inr (16, F))) : gCt l yX21_by cX21_by 2 (some (.object "SaltedGate$Kept")) 0 0 0 0 [.ref k, .ref m] g (gPr k (fun g1 => g1 k = some (.inr (16, va_up F 7 (.ref m))) ∧ ∀ j, j ≠ k → g1 j = g j)) := by
  refine gCt.of RX21 (by decide) rfl (lo := [some (.ref k), some (.ref m)]) 0 rfl (Nat.le_of_ble_eq_true rfl) (fun z E Rt => ?_)
  refine g_aload_n E dX21_by_0 rfl rfl rfl ?_
  refine g_aload_n E dX21_by_1 rfl rfl rfl ?_
  refine g_putf E gciX22 (v := .ref m) dX21_by_2 hO 7 rfl (by decide) q1015 (.inl rfl) rfl (fun _ => rfl) (fun _ => rfl) rfl (g_upk (fun g1 h1 f1 => ?_))
  refine g_aload_n E dX21_by_5 rfl rfl rfl ?_
  exact g_aret E Rt dX21_by_6 rfl (Or.inl ⟨_, rfl⟩) (by decide) (by decide) (⟨rfl, h1, fun j9 h9 => f1 j9 (by omega)⟩)
set_option maxHeartbeats 400000 in
theorem ct_X21_by_X23 (l : Launch) {g : gWM} {k m : Nat} {F : Nat → Value} (hO : g k = some (.inr (17, F))) : gCt l yX21_by cX21_by 2 (some (.object "SaltedGate$Kept")) 0 0 0 0 [.ref k, .ref m] g (gPr k (fun g1 => g1 k = some (.inr (17, va_up F 7 (.ref m))) ∧ ∀ j, j ≠ k → g1 j = g j)) := by
  refine gCt.of RX21 (by decide) rfl (lo := [some (.ref k), some (.ref m)]) 0 rfl (Nat.le_of_ble_eq_true rfl) (fun z E Rt => ?_)
  refine g_aload_n E dX21_by_0 rfl rfl rfl ?_
  refine g_aload_n E dX21_by_1 rfl rfl rfl ?_
  refine g_putf E gciX23 (v := .ref m) dX21_by_2 hO 7 rfl (by decide) q1015 (.inl rfl) rfl (fun _ => rfl) (fun _ => rfl) rfl (g_upk (fun g1 h1 f1 => ?_))
  refine g_aload_n E dX21_by_5 rfl rfl rfl ?_
  exact g_aret E Rt dX21_by_6 rfl (Or.inl ⟨_, rfl⟩) (by decide) (by decide) (⟨rfl, h1, fun j9 h9 => f1 j9 (by omega)⟩)
set_option maxHeartbeats 400000 in
theorem ct_X21_by_X24 (l : Launch) {g : gWM} {k m : Nat} {F : Nat → Value} (hO : g k = some (.inr (18, F))) : gCt l yX21_by cX21_by 2 (some (.object "SaltedGate$Kept")) 0 0 0 0 [.ref k, .ref m] g (gPr k (fun g1 => g1 k = some (.inr (18, va_up F 7 (.ref m))) ∧ ∀ j, j ≠ k → g1 j = g j)) := by
  refine gCt.of RX21 (by decide) rfl (lo := [some (.ref k), some (.ref m)]) 0 rfl (Nat.le_of_ble_eq_true rfl) (fun z E Rt => ?_)
  refine g_aload_n E dX21_by_0 rfl rfl rfl ?_
  refine g_aload_n E dX21_by_1 rfl rfl rfl ?_
  refine g_putf E gciX24 (v := .ref m) dX21_by_2 hO 7 rfl (by decide) q1015 (.inl rfl) rfl (fun _ => rfl) (fun _ => rfl) rfl (g_upk (fun g1 h1 f1 => ?_))
  refine g_aload_n E dX21_by_5 rfl rfl rfl ?_
  exact g_aret E Rt dX21_by_6 rfl (Or.inl ⟨_, rfl⟩) (by decide) (by decide) (⟨rfl, h1, fun j9 h9 => f1 j9 (by omega)⟩)
set_option maxHeartbeats 400000 in
theorem ct_X21_by_X25 (l : Launch) {g : gWM} {k m : Nat} {F : Nat → Value} (hO : g k = some (.inr (19, F))) : gCt l yX21_by cX21_by 2 (some (.object "SaltedGate$Kept")) 0 0 0 0 [.ref k, .ref m] g (gPr k (fun g1 => g1 k = some (.inr (19, va_up F 7 (.ref m))) ∧ ∀ j, j ≠ k → g1 j = g j)) := by
  refine gCt.of RX21 (by decide) rfl (lo := [some (.ref k), some (.ref m)]) 0 rfl (Nat.le_of_ble_eq_true rfl) (fun z E Rt => ?_)
  refine g_aload_n E dX21_by_0 rfl rfl rfl ?_
  refine g_aload_n E dX21_by_1 rfl rfl rfl ?_
  refine g_putf E gciX25 (v := .ref m) dX21_by_2 hO 7 rfl (by decide) q1015 (.inl rfl) rfl (fun _ => rfl) (fun _ => rfl) rfl (g_upk (fun g1 h1 f1 => ?_))
  refine g_aload_n E dX21_by_5 rfl rfl rfl ?_
  exact g_aret E Rt dX21_by_6 rfl (Or.inl ⟨_, rfl⟩) (by decide) (by decide) (⟨rfl, h1, fun j9 h9 => f1 j9 (by omega)⟩)
