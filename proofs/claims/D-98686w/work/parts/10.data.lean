/-! THE TABLES of this claim: its classes (gCl), the sites of its literals, the pairs said not castable -/
set_option maxRecDepth 100000
def gT0 : u_T := fun _ => ("", "", "", false)
def gty0 : Nat → FieldType := fun _ => .int
def gCl : List vw_C := [(RX1, TX1, 20), (RX2, TX2, 10), (RX3, TX3, 8), (RX4, TX4, 6), (RX6, gT0, 0), (RX7, gT0, 0), (RX8, TX8, 7), (RX9, TX9, 5), (RX11, TX11, 4), (RX12, TX12, 4), (RX13, TX13, 31), (RX14, TX14, 17), (RX16, TX16, 8), (RX17, TX17, 4), (RX18, TX18, 5), (RX20, TX20, 7), (RX22, TX22, 8), (RX23, TX23, 8), (RX24, TX24, 8), (RX25, TX25, 8), (RX26, TX26, 4), (RX27, TX27, 35), (RJ3, TJ3, 4), (RJ9, TJ9, 6)]
/-- the class at the place ci of gCl: its name, fields, their types, how many -/
def gCI (ci : Nat) (C : String) (T : u_T) (ty : Nat → FieldType) (N : Nat) : Prop := gCl[ci]? = some (C, T, N) ∧ (∀ w ∈ u_ws C T N, w ∈ lw_all) ∧ (∀ k, k < N → parseFieldDescriptor (T k).2.2.1 = some (ty k)) ∧ ∀ a, a < N → ∀ b, b < N → a ≠ b → (T a).2.1 ≠ (T b).2.1
theorem gciX1 : gCI 0 RX1 TX1 tyX1 20 := ⟨rfl, in_X1, tyX1_ok, nmX1⟩
theorem gciX2 : gCI 1 RX2 TX2 tyX2 10 := ⟨rfl, in_X2, tyX2_ok, nmX2⟩
theorem gciX3 : gCI 2 RX3 TX3 tyX3 8 := ⟨rfl, in_X3, tyX3_ok, nmX3⟩
theorem gciX4 : gCI 3 RX4 TX4 tyX4 6 := ⟨rfl, in_X4, tyX4_ok, nmX4⟩
theorem gciX6 : gCI 4 RX6 gT0 gty0 0 := ⟨rfl, fun w h => (by cases h), fun k h => absurd h (Nat.not_lt_zero k), fun a h => absurd h (Nat.not_lt_zero a)⟩
theorem gciX7 : gCI 5 RX7 gT0 gty0 0 := ⟨rfl, fun w h => (by cases h), fun k h => absurd h (Nat.not_lt_zero k), fun a h => absurd h (Nat.not_lt_zero a)⟩
theorem gciX8 : gCI 6 RX8 TX8 tyX8 7 := ⟨rfl, in_X8, tyX8_ok, nmX8⟩
theorem gciX9 : gCI 7 RX9 TX9 tyX9 5 := ⟨rfl, in_X9, tyX9_ok, nmX9⟩
theorem gciX11 : gCI 8 RX11 TX11 tyX11 4 := ⟨rfl, in_X11, tyX11_ok, nmX11⟩
theorem gciX12 : gCI 9 RX12 TX12 tyX12 4 := ⟨rfl, in_X12, tyX12_ok, nmX12⟩
theorem gciX13 : gCI 10 RX13 TX13 tyX13 31 := ⟨rfl, in_X13, tyX13_ok, nmX13⟩
theorem gciX14 : gCI 11 RX14 TX14 tyX14 17 := ⟨rfl, in_X14, tyX14_ok, nmX14⟩
theorem gciX16 : gCI 12 RX16 TX16 tyX16 8 := ⟨rfl, in_X16, tyX16_ok, nmX16⟩
theorem gciX17 : gCI 13 RX17 TX17 tyX17 4 := ⟨rfl, in_X17, tyX17_ok, nmX17⟩
theorem gciX18 : gCI 14 RX18 TX18 tyX18 5 := ⟨rfl, in_X18, tyX18_ok, nmX18⟩
theorem gciX20 : gCI 15 RX20 TX20 tyX20 7 := ⟨rfl, in_X20, tyX20_ok, nmX20⟩
theorem gciX22 : gCI 16 RX22 TX22 tyX22 8 := ⟨rfl, in_X22, tyX22_ok, nmX22⟩
theorem gciX23 : gCI 17 RX23 TX23 tyX23 8 := ⟨rfl, in_X23, tyX23_ok, nmX23⟩
theorem gciX24 : gCI 18 RX24 TX24 tyX24 8 := ⟨rfl, in_X24, tyX24_ok, nmX24⟩
theorem gciX25 : gCI 19 RX25 TX25 tyX25 8 := ⟨rfl, in_X25, tyX25_ok, nmX25⟩
theorem gciX26 : gCI 20 RX26 TX26 tyX26 4 := ⟨rfl, in_X26, tyX26_ok, nmX26⟩
theorem gciX27 : gCI 21 RX27 TX27 tyX27 35 := ⟨rfl, in_X27, tyX27_ok, nmX27⟩
theorem gciJ3 : gCI 22 RJ3 TJ3 tyJ3 4 := ⟨rfl, in_J3, tyJ3_ok, nmJ3⟩
theorem gciJ9 : gCI 23 RJ9 TJ9 tyJ9 6 := ⟨rfl, in_J9, tyJ9_ok, nmJ9⟩
def gSites : List (String × Nat × String) := [("SaltedGate$Reader", 59, ""), ("SaltedGate$Reader", 90, "barrier"), ("SaltedGate$Reader", 92, "means"), ("SaltedGate$Reader", 94, "traveller"), ("SaltedGate$Reader", 96, "gate"), ("SaltedGate$Reader", 98, "good"), ("SaltedGate$Reader", 100, "hides"), ("SaltedGate$Reader", 102, "crosses"), ("SaltedGate$Reader", 104, "price"), ("SaltedGate$Reader", 106, "crumb"), ("SaltedGate$Reader", 186, "fee"), ("SaltedGate$Reader", 194, "interest"), ("SaltedGate$Reader", 108, "fresh"), ("SaltedGate$Reader", 110, "by"), ("SaltedGate$Reader", 212, "rate"), ("SaltedGate$Reader", 216, "or"), ("SaltedGate$Reader", 221, "keeps"), ("SaltedGate$Reader", 229, "allow"), ("SaltedGate$Reader", 233, "hunger"), ("SaltedGate$Reader", 242, "nose"), ("SaltedGate$Reader", 246, "opens"), ("SaltedGate$Reader", 250, "shuts"), ("SaltedGate$Reader", 258, "plain"), ("SaltedGate$Reader", 263, "wine"), ("SaltedGate$Reader", 268, "old"), ("SaltedGate$Reader", 273, "oath"), ("SaltedGate$Reader", 305, "age"), ("SaltedGate$Reader", 311, "weighs"), ("SaltedGate$Reader", 315, "worth"), ("SaltedGate$Reader", 339, "day"), ("SaltedGate$Reader", 347, "hour"), ("SaltedGate$Reader", 354, "here"), ("SaltedGate$Reader", 358, "there"), ("SaltedGateModel", 130, "barrier"), ("SaltedGateModel", 224, "fee"), ("SaltedGateModel", 229, "interest"), ("SaltedGateModel", 132, "means"), ("SaltedGateModel", 134, "traveller"), ("SaltedGateModel", 136, "gate"), ("SaltedGateModel", 138, "good"), ("SaltedGateModel", 140, "hides"), ("SaltedGateModel", 142, "crosses"), ("SaltedGateModel", 144, "price"), ("SaltedGateModel", 146, "crumb"), ("SaltedGateModel", 148, "fresh"), ("SaltedGateModel", 150, "by"), ("SaltedGateModel", 243, "rate"), ("SaltedGateModel", 245, "or"), ("SaltedGateModel", 247, "keeps"), ("SaltedGateModel", 259, "allow"), ("SaltedGateModel", 261, "hunger"), ("SaltedGateModel", 267, "nose"), ("SaltedGateModel", 269, "opens"), ("SaltedGateModel", 271, "shuts"), ("SaltedGateModel", 279, "plain"), ("SaltedGateModel", 281, "wine"), ("SaltedGateModel", 283, "old"), ("SaltedGateModel", 285, "oath"), ("SaltedGateModel", 296, "age"), ("SaltedGateModel", 298, "weighs"), ("SaltedGateModel", 300, "worth"), ("SaltedGateModel", 326, "day"), ("SaltedGateModel", 330, "hour"), ("SaltedGateModel", 343, "here"), ("SaltedGateModel", 344, "there")]
def gNo : List (String × String) := [("SaltedGate$Means", "SaltedGate$Traveller"), ("SaltedGate$Gate", "SaltedGate$Traveller"), ("SaltedGate$Fresh", "SaltedGate$Traveller"), ("SaltedGate$Plain", "SaltedGate$Traveller"), ("SaltedGate$Wine", "SaltedGate$Traveller"), ("SaltedGate$Old", "SaltedGate$Traveller"), ("SaltedGate$Oath", "SaltedGate$Traveller"), ("SaltedGate$Traveller", "SaltedGate$Means"), ("SaltedGate$Gate", "SaltedGate$Means"), ("SaltedGate$Fresh", "SaltedGate$Means"), ("SaltedGate$Plain", "SaltedGate$Means"), ("SaltedGate$Wine", "SaltedGate$Means"), ("SaltedGate$Old", "SaltedGate$Means"), ("SaltedGate$Oath", "SaltedGate$Means"), ("SaltedGate$Means", "SaltedGate$Good"), ("SaltedGate$Traveller", "SaltedGate$Good"), ("SaltedGate$Gate", "SaltedGate$Good"), ("SaltedGate$Means", "SaltedGate$Gate"), ("SaltedGate$Traveller", "SaltedGate$Gate"), ("SaltedGate$Fresh", "SaltedGate$Gate"), ("SaltedGate$Plain", "SaltedGate$Gate"), ("SaltedGate$Wine", "SaltedGate$Gate"), ("SaltedGate$Old", "SaltedGate$Gate"), ("SaltedGate$Oath", "SaltedGate$Gate")]
