/-! SaltedGateModel -/
set_option maxRecDepth 100000
def RX13 : String := "SaltedGateModel"
def TX13 : u_T := fun k => match k with
  | 0 => ("SaltedGateModel", "thrown", "I", false)
  | 1 => ("SaltedGateModel", "trouble", "I", false)
  | 2 => ("SaltedGateModel", "where", "I", false)
  | 3 => ("SaltedGateModel", "barrier", "LSaltedGateModel$Barrier;", false)
  | 4 => ("SaltedGateModel", "read", "LSaltedGateModel$Barrier;", false)
  | 5 => ("SaltedGateModel", "tape", "[B", true)
  | 6 => ("SaltedGateModel", "taped", "I", false)
  | 7 => ("SaltedGateModel", "size", "I", false)
  | 8 => ("SaltedGateModel", "spot", "I", false)
  | 9 => ("SaltedGateModel", "sort", "I", false)
  | 10 => ("SaltedGateModel", "place", "I", false)
  | 11 => ("SaltedGateModel", "number", "I", false)
  | 12 => ("SaltedGateModel", "fault", "I", false)
  | 13 => ("SaltedGateModel", "wrongAt", "I", false)
  | 14 => ("SaltedGateModel", "word", "J", false)
  | 15 => ("SaltedGateModel", "v", "[I", true)
  | 16 => ("SaltedGateModel", "x", "[I", true)
  | 17 => ("SaltedGateModel", "past", "[I", true)
  | 18 => ("SaltedGateModel", "kept", "[I", true)
  | 19 => ("SaltedGateModel", "acts", "I", false)
  | 20 => ("SaltedGateModel", "marks", "I", false)
  | 21 => ("SaltedGateModel", "bestDay", "I", false)
  | 22 => ("SaltedGateModel", "bestAsked", "I", false)
  | 23 => ("SaltedGateModel", "bestSet", "I", false)
  | 24 => ("SaltedGateModel", "heldBest", "I", false)
  | 25 => ("SaltedGateModel", "heldGain", "I", false)
  | 26 => ("SaltedGateModel", "result", "[I", true)
  | 27 => ("SaltedGateModel", "seedNow", "I", false)
  | 28 => ("SaltedGateModel", "row", "[I", true)
  | 29 => ("SaltedGateModel", "could", "[I", true)
  | _ => ("SaltedGateModel", "rows", "I", false)
def tyX13 : Nat → FieldType := fun k => match k with
  | 0 => .int
  | 1 => .int
  | 2 => .int
  | 3 => .object "SaltedGateModel$Barrier"
  | 4 => .object "SaltedGateModel$Barrier"
  | 5 => .array .byte
  | 6 => .int
  | 7 => .int
  | 8 => .int
  | 9 => .int
  | 10 => .int
  | 11 => .int
  | 12 => .int
  | 13 => .int
  | 14 => .long
  | 15 => .array .int
  | 16 => .array .int
  | 17 => .array .int
  | 18 => .array .int
  | 19 => .int
  | 20 => .int
  | 21 => .int
  | 22 => .int
  | 23 => .int
  | 24 => .int
  | 25 => .int
  | 26 => .array .int
  | 27 => .int
  | 28 => .array .int
  | 29 => .array .int
  | _ => .int
abbrev wsX130 : List Cond := u_ws RX13 TX13 31
set_option maxRecDepth 100000 in
theorem nmX13 : ∀ a, a < 31 → ∀ b, b < 31 → a ≠ b → (TX13 a).2.1 ≠ (TX13 b).2.1 := by decide +kernel
set_option maxRecDepth 100000 in
theorem tyX13_ok : ∀ k, k < 31 → parseFieldDescriptor (TX13 k).2.2.1 = some (tyX13 k) := by decide +kernel
abbrev cX13_init : ByteArray := prog_27_method_1_code
def yX13_init : MethodName := ⟨RX13, "<init>", "()V"⟩
def dkwX13_init_3 : List UInt8 := [181, 0, 36, 177]
abbrev dktX13_init_3 : List UInt8 := dkwX13_init_3 ++ []
def dkwX13_init_2 : List UInt8 := [188, 10, 181, 0, 27, 42, 16, 6, 188, 10, 181, 0, 30, 42, 8, 188, 10, 181, 0, 33, 42, 8, 188, 10]
abbrev dktX13_init_2 : List UInt8 := dkwX13_init_2 ++ dktX13_init_3
def dkwX13_init_1 : List UInt8 := [181, 0, 17, 42, 16, 18, 188, 10, 181, 0, 21, 42, 17, 1, 32, 188, 10, 181, 0, 24, 42, 16, 54]
abbrev dktX13_init_1 : List UInt8 := dkwX13_init_1 ++ dktX13_init_2
def dkwX13_init_0 : List UInt8 := [42, 183, 0, 3, 42, 2, 181, 0, 9, 42, 17, 4, 76, 188, 8, 181, 0, 13, 42, 16, 18, 188, 10]
abbrev dktX13_init_0 : List UInt8 := dkwX13_init_0 ++ dktX13_init_1
theorem dksX13_init_0 : cX13_init.data.toList.drop 0 = dktX13_init_0 := by decide +kernel
theorem dksX13_init_1 : cX13_init.data.toList.drop 23 = dktX13_init_1 := dk_seg dksX13_init_0 23 rfl rfl
theorem dksX13_init_2 : cX13_init.data.toList.drop 46 = dktX13_init_2 := dk_seg dksX13_init_1 23 rfl rfl
theorem dksX13_init_3 : cX13_init.data.toList.drop 70 = dktX13_init_3 := dk_seg dksX13_init_2 24 rfl rfl
theorem dX13_init_0 : decode cX13_init 0 = .ok (.aload_n 0, 1) := dk_42 (dk_at dksX13_init_0 0 rfl rfl)
theorem dX13_init_1 : decode cX13_init 1 = .ok (.invokespecial 3, 3) := dk_183 0 3 (dk_at dksX13_init_0 1 rfl rfl)
theorem dX13_init_4 : decode cX13_init 4 = .ok (.aload_n 0, 1) := dk_42 (dk_at dksX13_init_0 4 rfl rfl)
theorem dX13_init_5 : decode cX13_init 5 = .ok (.iconst (-1), 1) := dk_2 (dk_at dksX13_init_0 5 rfl rfl)
theorem dX13_init_6 : decode cX13_init 6 = .ok (.putfield 9, 3) := dk_181 0 9 (dk_at dksX13_init_0 6 rfl rfl)
theorem dX13_init_9 : decode cX13_init 9 = .ok (.aload_n 0, 1) := dk_42 (dk_at dksX13_init_0 9 rfl rfl)
theorem dX13_init_10 : decode cX13_init 10 = .ok (.sipush 1100, 3) := dk_17 4 76 (dk_at dksX13_init_0 10 rfl rfl)
theorem dX13_init_13 : decode cX13_init 13 = .ok (.newarray .byte, 2) := dk_188_8 (dk_at dksX13_init_0 13 rfl rfl)
theorem dX13_init_15 : decode cX13_init 15 = .ok (.putfield 13, 3) := dk_181 0 13 (dk_at dksX13_init_0 15 rfl rfl)
theorem dX13_init_18 : decode cX13_init 18 = .ok (.aload_n 0, 1) := dk_42 (dk_at dksX13_init_0 18 rfl rfl)
theorem dX13_init_19 : decode cX13_init 19 = .ok (.bipush 18, 2) := dk_16 18 (dk_at dksX13_init_0 19 rfl rfl)
theorem dX13_init_21 : decode cX13_init 21 = .ok (.newarray .int, 2) := dk_188_10 (dk_at dksX13_init_0 21 rfl rfl)
theorem dX13_init_23 : decode cX13_init 23 = .ok (.putfield 17, 3) := dk_181 0 17 (dk_at dksX13_init_1 0 rfl rfl)
theorem dX13_init_26 : decode cX13_init 26 = .ok (.aload_n 0, 1) := dk_42 (dk_at dksX13_init_1 3 rfl rfl)
theorem dX13_init_27 : decode cX13_init 27 = .ok (.bipush 18, 2) := dk_16 18 (dk_at dksX13_init_1 4 rfl rfl)
theorem dX13_init_29 : decode cX13_init 29 = .ok (.newarray .int, 2) := dk_188_10 (dk_at dksX13_init_1 6 rfl rfl)
theorem dX13_init_31 : decode cX13_init 31 = .ok (.putfield 21, 3) := dk_181 0 21 (dk_at dksX13_init_1 8 rfl rfl)
theorem dX13_init_34 : decode cX13_init 34 = .ok (.aload_n 0, 1) := dk_42 (dk_at dksX13_init_1 11 rfl rfl)
theorem dX13_init_35 : decode cX13_init 35 = .ok (.sipush 288, 3) := dk_17 1 32 (dk_at dksX13_init_1 12 rfl rfl)
theorem dX13_init_38 : decode cX13_init 38 = .ok (.newarray .int, 2) := dk_188_10 (dk_at dksX13_init_1 15 rfl rfl)
theorem dX13_init_40 : decode cX13_init 40 = .ok (.putfield 24, 3) := dk_181 0 24 (dk_at dksX13_init_1 17 rfl rfl)
theorem dX13_init_43 : decode cX13_init 43 = .ok (.aload_n 0, 1) := dk_42 (dk_at dksX13_init_1 20 rfl rfl)
theorem dX13_init_44 : decode cX13_init 44 = .ok (.bipush 54, 2) := dk_16 54 (dk_at dksX13_init_1 21 rfl rfl)
theorem dX13_init_46 : decode cX13_init 46 = .ok (.newarray .int, 2) := dk_188_10 (dk_at dksX13_init_2 0 rfl rfl)
theorem dX13_init_48 : decode cX13_init 48 = .ok (.putfield 27, 3) := dk_181 0 27 (dk_at dksX13_init_2 2 rfl rfl)
theorem dX13_init_51 : decode cX13_init 51 = .ok (.aload_n 0, 1) := dk_42 (dk_at dksX13_init_2 5 rfl rfl)
theorem dX13_init_52 : decode cX13_init 52 = .ok (.bipush 6, 2) := dk_16 6 (dk_at dksX13_init_2 6 rfl rfl)
theorem dX13_init_54 : decode cX13_init 54 = .ok (.newarray .int, 2) := dk_188_10 (dk_at dksX13_init_2 8 rfl rfl)
theorem dX13_init_56 : decode cX13_init 56 = .ok (.putfield 30, 3) := dk_181 0 30 (dk_at dksX13_init_2 10 rfl rfl)
theorem dX13_init_59 : decode cX13_init 59 = .ok (.aload_n 0, 1) := dk_42 (dk_at dksX13_init_2 13 rfl rfl)
theorem dX13_init_60 : decode cX13_init 60 = .ok (.iconst 5, 1) := dk_8 (dk_at dksX13_init_2 14 rfl rfl)
theorem dX13_init_61 : decode cX13_init 61 = .ok (.newarray .int, 2) := dk_188_10 (dk_at dksX13_init_2 15 rfl rfl)
theorem dX13_init_63 : decode cX13_init 63 = .ok (.putfield 33, 3) := dk_181 0 33 (dk_at dksX13_init_2 17 rfl rfl)
theorem dX13_init_66 : decode cX13_init 66 = .ok (.aload_n 0, 1) := dk_42 (dk_at dksX13_init_2 20 rfl rfl)
theorem dX13_init_67 : decode cX13_init 67 = .ok (.iconst 5, 1) := dk_8 (dk_at dksX13_init_2 21 rfl rfl)
theorem dX13_init_68 : decode cX13_init 68 = .ok (.newarray .int, 2) := dk_188_10 (dk_at dksX13_init_2 22 rfl rfl)
theorem dX13_init_70 : decode cX13_init 70 = .ok (.putfield 36, 3) := dk_181 0 36 (dk_at dksX13_init_3 0 rfl rfl)
theorem dX13_init_73 : decode cX13_init 73 = .ok (.return_, 1) := dk_177 (dk_at dksX13_init_3 3 rfl rfl)
abbrev cX13_thrown : ByteArray := prog_27_method_2_code
def yX13_thrown : MethodName := ⟨RX13, "thrown", "()I"⟩
theorem dX13_thrown_0 : decode cX13_thrown 0 = .ok (.aload_n 0, 1) := by decide +kernel
theorem dX13_thrown_1 : decode cX13_thrown 1 = .ok (.getfield 39, 3) := by decide +kernel
theorem dX13_thrown_4 : decode cX13_thrown 4 = .ok (.ireturn, 1) := by decide +kernel
abbrev cX13_feed : ByteArray := prog_27_method_42_code
def yX13_feed : MethodName := ⟨RX13, "feed", "(IIIII)I"⟩
def dkwX13_feed_5 : List UInt8 := [180, 1, 104, 172]
abbrev dktX13_feed_5 : List UInt8 := dkwX13_feed_5 ++ []
def dkwX13_feed_4 : List UInt8 := [112, 104, 100, 122, 145, 84, 42, 89, 180, 1, 104, 4, 96, 181, 1, 104, 132, 6, 1, 167, 255, 165, 42]
abbrev dktX13_feed_4 : List UInt8 := dkwX13_feed_4 ++ dktX13_feed_5
def dkwX13_feed_3 : List UInt8 := [167, 0, 5, 21, 5, 54, 7, 42, 180, 0, 13, 42, 180, 1, 104, 21, 7, 16, 24, 16, 8, 21, 6, 7]
abbrev dktX13_feed_3 : List UInt8 := dkwX13_feed_3 ++ dktX13_feed_4
def dkwX13_feed_2 : List UInt8 := [28, 167, 0, 28, 21, 6, 16, 12, 162, 0, 7, 29, 167, 0, 17, 21, 6, 16, 16, 162, 0, 8, 21, 4]
abbrev dktX13_feed_2 : List UInt8 := dkwX13_feed_2 ++ dktX13_feed_3
def dkwX13_feed_1 : List UInt8 := [21, 6, 16, 20, 162, 0, 90, 21, 6, 7, 162, 0, 7, 27, 167, 0, 39, 21, 6, 16, 8, 162, 0, 7]
abbrev dktX13_feed_1 : List UInt8 := dkwX13_feed_1 ++ dktX13_feed_2
def dkwX13_feed_0 : List UInt8 := [42, 3, 181, 0, 39, 42, 180, 1, 104, 16, 20, 96, 17, 4, 76, 164, 0, 5, 2, 172, 3, 54, 6]
abbrev dktX13_feed_0 : List UInt8 := dkwX13_feed_0 ++ dktX13_feed_1
theorem dksX13_feed_0 : cX13_feed.data.toList.drop 0 = dktX13_feed_0 := by decide +kernel
theorem dksX13_feed_1 : cX13_feed.data.toList.drop 23 = dktX13_feed_1 := dk_seg dksX13_feed_0 23 rfl rfl
theorem dksX13_feed_2 : cX13_feed.data.toList.drop 47 = dktX13_feed_2 := dk_seg dksX13_feed_1 24 rfl rfl
theorem dksX13_feed_3 : cX13_feed.data.toList.drop 71 = dktX13_feed_3 := dk_seg dksX13_feed_2 24 rfl rfl
theorem dksX13_feed_4 : cX13_feed.data.toList.drop 95 = dktX13_feed_4 := dk_seg dksX13_feed_3 24 rfl rfl
theorem dksX13_feed_5 : cX13_feed.data.toList.drop 118 = dktX13_feed_5 := dk_seg dksX13_feed_4 23 rfl rfl
theorem dX13_feed_0 : decode cX13_feed 0 = .ok (.aload_n 0, 1) := dk_42 (dk_at dksX13_feed_0 0 rfl rfl)
theorem dX13_feed_1 : decode cX13_feed 1 = .ok (.iconst 0, 1) := dk_3 (dk_at dksX13_feed_0 1 rfl rfl)
theorem dX13_feed_2 : decode cX13_feed 2 = .ok (.putfield 39, 3) := dk_181 0 39 (dk_at dksX13_feed_0 2 rfl rfl)
theorem dX13_feed_5 : decode cX13_feed 5 = .ok (.aload_n 0, 1) := dk_42 (dk_at dksX13_feed_0 5 rfl rfl)
theorem dX13_feed_6 : decode cX13_feed 6 = .ok (.getfield 360, 3) := dk_180 1 104 (dk_at dksX13_feed_0 6 rfl rfl)
theorem dX13_feed_9 : decode cX13_feed 9 = .ok (.bipush 20, 2) := dk_16 20 (dk_at dksX13_feed_0 9 rfl rfl)
theorem dX13_feed_11 : decode cX13_feed 11 = .ok (.iadd, 1) := dk_96 (dk_at dksX13_feed_0 11 rfl rfl)
theorem dX13_feed_12 : decode cX13_feed 12 = .ok (.sipush 1100, 3) := dk_17 4 76 (dk_at dksX13_feed_0 12 rfl rfl)
theorem dX13_feed_15 : decode cX13_feed 15 = .ok (.if_icmp .le 5, 3) := dk_164 0 5 (dk_at dksX13_feed_0 15 rfl rfl)
theorem dX13_feed_18 : decode cX13_feed 18 = .ok (.iconst (-1), 1) := dk_2 (dk_at dksX13_feed_0 18 rfl rfl)
theorem dX13_feed_19 : decode cX13_feed 19 = .ok (.ireturn, 1) := dk_172 (dk_at dksX13_feed_0 19 rfl rfl)
theorem dX13_feed_20 : decode cX13_feed 20 = .ok (.iconst 0, 1) := dk_3 (dk_at dksX13_feed_0 20 rfl rfl)
theorem dX13_feed_21 : decode cX13_feed 21 = .ok (.istore 6, 2) := dk_54 6 (dk_at dksX13_feed_0 21 rfl rfl)
theorem dX13_feed_23 : decode cX13_feed 23 = .ok (.iload 6, 2) := dk_21 6 (dk_at dksX13_feed_1 0 rfl rfl)
theorem dX13_feed_25 : decode cX13_feed 25 = .ok (.bipush 20, 2) := dk_16 20 (dk_at dksX13_feed_1 2 rfl rfl)
theorem dX13_feed_27 : decode cX13_feed 27 = .ok (.if_icmp .ge 90, 3) := dk_162 0 90 (dk_at dksX13_feed_1 4 rfl rfl)
theorem dX13_feed_30 : decode cX13_feed 30 = .ok (.iload 6, 2) := dk_21 6 (dk_at dksX13_feed_1 7 rfl rfl)
theorem dX13_feed_32 : decode cX13_feed 32 = .ok (.iconst 4, 1) := dk_7 (dk_at dksX13_feed_1 9 rfl rfl)
theorem dX13_feed_33 : decode cX13_feed 33 = .ok (.if_icmp .ge 7, 3) := dk_162 0 7 (dk_at dksX13_feed_1 10 rfl rfl)
theorem dX13_feed_36 : decode cX13_feed 36 = .ok (.iload_n 1, 1) := dk_27 (dk_at dksX13_feed_1 13 rfl rfl)
theorem dX13_feed_37 : decode cX13_feed 37 = .ok (.goto 39, 3) := dk_167 0 39 (dk_at dksX13_feed_1 14 rfl rfl)
theorem dX13_feed_40 : decode cX13_feed 40 = .ok (.iload 6, 2) := dk_21 6 (dk_at dksX13_feed_1 17 rfl rfl)
theorem dX13_feed_42 : decode cX13_feed 42 = .ok (.bipush 8, 2) := dk_16 8 (dk_at dksX13_feed_1 19 rfl rfl)
theorem dX13_feed_44 : decode cX13_feed 44 = .ok (.if_icmp .ge 7, 3) := dk_162 0 7 (dk_at dksX13_feed_1 21 rfl rfl)
theorem dX13_feed_47 : decode cX13_feed 47 = .ok (.iload_n 2, 1) := dk_28 (dk_at dksX13_feed_2 0 rfl rfl)
theorem dX13_feed_48 : decode cX13_feed 48 = .ok (.goto 28, 3) := dk_167 0 28 (dk_at dksX13_feed_2 1 rfl rfl)
theorem dX13_feed_51 : decode cX13_feed 51 = .ok (.iload 6, 2) := dk_21 6 (dk_at dksX13_feed_2 4 rfl rfl)
theorem dX13_feed_53 : decode cX13_feed 53 = .ok (.bipush 12, 2) := dk_16 12 (dk_at dksX13_feed_2 6 rfl rfl)
theorem dX13_feed_55 : decode cX13_feed 55 = .ok (.if_icmp .ge 7, 3) := dk_162 0 7 (dk_at dksX13_feed_2 8 rfl rfl)
theorem dX13_feed_58 : decode cX13_feed 58 = .ok (.iload_n 3, 1) := dk_29 (dk_at dksX13_feed_2 11 rfl rfl)
theorem dX13_feed_59 : decode cX13_feed 59 = .ok (.goto 17, 3) := dk_167 0 17 (dk_at dksX13_feed_2 12 rfl rfl)
theorem dX13_feed_62 : decode cX13_feed 62 = .ok (.iload 6, 2) := dk_21 6 (dk_at dksX13_feed_2 15 rfl rfl)
theorem dX13_feed_64 : decode cX13_feed 64 = .ok (.bipush 16, 2) := dk_16 16 (dk_at dksX13_feed_2 17 rfl rfl)
theorem dX13_feed_66 : decode cX13_feed 66 = .ok (.if_icmp .ge 8, 3) := dk_162 0 8 (dk_at dksX13_feed_2 19 rfl rfl)
theorem dX13_feed_69 : decode cX13_feed 69 = .ok (.iload 4, 2) := dk_21 4 (dk_at dksX13_feed_2 22 rfl rfl)
theorem dX13_feed_71 : decode cX13_feed 71 = .ok (.goto 5, 3) := dk_167 0 5 (dk_at dksX13_feed_3 0 rfl rfl)
theorem dX13_feed_74 : decode cX13_feed 74 = .ok (.iload 5, 2) := dk_21 5 (dk_at dksX13_feed_3 3 rfl rfl)
theorem dX13_feed_76 : decode cX13_feed 76 = .ok (.istore 7, 2) := dk_54 7 (dk_at dksX13_feed_3 5 rfl rfl)
theorem dX13_feed_78 : decode cX13_feed 78 = .ok (.aload_n 0, 1) := dk_42 (dk_at dksX13_feed_3 7 rfl rfl)
theorem dX13_feed_79 : decode cX13_feed 79 = .ok (.getfield 13, 3) := dk_180 0 13 (dk_at dksX13_feed_3 8 rfl rfl)
theorem dX13_feed_82 : decode cX13_feed 82 = .ok (.aload_n 0, 1) := dk_42 (dk_at dksX13_feed_3 11 rfl rfl)
theorem dX13_feed_83 : decode cX13_feed 83 = .ok (.getfield 360, 3) := dk_180 1 104 (dk_at dksX13_feed_3 12 rfl rfl)
theorem dX13_feed_86 : decode cX13_feed 86 = .ok (.iload 7, 2) := dk_21 7 (dk_at dksX13_feed_3 15 rfl rfl)
theorem dX13_feed_88 : decode cX13_feed 88 = .ok (.bipush 24, 2) := dk_16 24 (dk_at dksX13_feed_3 17 rfl rfl)
theorem dX13_feed_90 : decode cX13_feed 90 = .ok (.bipush 8, 2) := dk_16 8 (dk_at dksX13_feed_3 19 rfl rfl)
theorem dX13_feed_92 : decode cX13_feed 92 = .ok (.iload 6, 2) := dk_21 6 (dk_at dksX13_feed_3 21 rfl rfl)
theorem dX13_feed_94 : decode cX13_feed 94 = .ok (.iconst 4, 1) := dk_7 (dk_at dksX13_feed_3 23 rfl rfl)
theorem dX13_feed_95 : decode cX13_feed 95 = .ok (.irem, 1) := dk_112 (dk_at dksX13_feed_4 0 rfl rfl)
theorem dX13_feed_96 : decode cX13_feed 96 = .ok (.imul, 1) := dk_104 (dk_at dksX13_feed_4 1 rfl rfl)
theorem dX13_feed_97 : decode cX13_feed 97 = .ok (.isub, 1) := dk_100 (dk_at dksX13_feed_4 2 rfl rfl)
theorem dX13_feed_98 : decode cX13_feed 98 = .ok (.ishr, 1) := dk_122 (dk_at dksX13_feed_4 3 rfl rfl)
theorem dX13_feed_99 : decode cX13_feed 99 = .ok (.i2b, 1) := dk_145 (dk_at dksX13_feed_4 4 rfl rfl)
theorem dX13_feed_100 : decode cX13_feed 100 = .ok (.bastore, 1) := dk_84 (dk_at dksX13_feed_4 5 rfl rfl)
theorem dX13_feed_101 : decode cX13_feed 101 = .ok (.aload_n 0, 1) := dk_42 (dk_at dksX13_feed_4 6 rfl rfl)
theorem dX13_feed_102 : decode cX13_feed 102 = .ok (.dup, 1) := dk_89 (dk_at dksX13_feed_4 7 rfl rfl)
theorem dX13_feed_103 : decode cX13_feed 103 = .ok (.getfield 360, 3) := dk_180 1 104 (dk_at dksX13_feed_4 8 rfl rfl)
theorem dX13_feed_106 : decode cX13_feed 106 = .ok (.iconst 1, 1) := dk_4 (dk_at dksX13_feed_4 11 rfl rfl)
theorem dX13_feed_107 : decode cX13_feed 107 = .ok (.iadd, 1) := dk_96 (dk_at dksX13_feed_4 12 rfl rfl)
theorem dX13_feed_108 : decode cX13_feed 108 = .ok (.putfield 360, 3) := dk_181 1 104 (dk_at dksX13_feed_4 13 rfl rfl)
theorem dX13_feed_111 : decode cX13_feed 111 = .ok (.iinc 6 1, 3) := dk_132 6 1 (dk_at dksX13_feed_4 16 rfl rfl)
theorem dX13_feed_114 : decode cX13_feed 114 = .ok (.goto (-91), 3) := dk_167 255 165 (dk_at dksX13_feed_4 19 rfl rfl)
theorem dX13_feed_117 : decode cX13_feed 117 = .ok (.aload_n 0, 1) := dk_42 (dk_at dksX13_feed_4 22 rfl rfl)
theorem dX13_feed_118 : decode cX13_feed 118 = .ok (.getfield 360, 3) := dk_180 1 104 (dk_at dksX13_feed_5 0 rfl rfl)
theorem dX13_feed_121 : decode cX13_feed 121 = .ok (.ireturn, 1) := dk_172 (dk_at dksX13_feed_5 3 rfl rfl)
abbrev cX13_barrier : ByteArray := prog_27_method_43_code
def yX13_barrier : MethodName := ⟨RX13, "barrier", "(I)I"⟩
def dkwX13_barrier_5 : List UInt8 := [180, 1, 111, 180, 1, 31, 182, 0, 49, 172]
abbrev dktX13_barrier_5 : List UInt8 := dkwX13_barrier_5 ++ []
def dkwX13_barrier_4 : List UInt8 := [181, 1, 111, 42, 42, 180, 0, 17, 182, 1, 113, 42, 3, 181, 1, 117, 42, 3, 181, 1, 120, 42, 42]
abbrev dktX13_barrier_4 : List UInt8 := dkwX13_barrier_4 ++ dktX13_barrier_5
def dkwX13_barrier_3 : List UInt8 := [158, 0, 18, 42, 7, 181, 0, 42, 42, 42, 180, 0, 100, 181, 0, 9, 2, 172, 42, 42, 180, 0, 152]
abbrev dktX13_barrier_3 : List UInt8 := dkwX13_barrier_3 ++ dktX13_barrier_4
def dkwX13_barrier_2 : List UInt8 := [183, 1, 107, 181, 0, 152, 42, 3, 181, 0, 71, 42, 182, 0, 107, 42, 182, 1, 108, 42, 180, 0, 97]
abbrev dktX13_barrier_2 : List UInt8 := dkwX13_barrier_2 ++ dktX13_barrier_3
def dkwX13_barrier_1 : List UInt8 := [27, 181, 0, 56, 42, 3, 181, 1, 104, 42, 3, 181, 0, 74, 42, 3, 181, 0, 97, 42, 187, 0, 157, 89]
abbrev dktX13_barrier_1 : List UInt8 := dkwX13_barrier_1 ++ dktX13_barrier_2
def dkwX13_barrier_0 : List UInt8 := [42, 3, 181, 0, 39, 27, 155, 0, 11, 27, 42, 180, 1, 104, 164, 0, 9, 42, 5, 182, 0, 45, 172, 42]
abbrev dktX13_barrier_0 : List UInt8 := dkwX13_barrier_0 ++ dktX13_barrier_1
theorem dksX13_barrier_0 : cX13_barrier.data.toList.drop 0 = dktX13_barrier_0 := by decide +kernel
theorem dksX13_barrier_1 : cX13_barrier.data.toList.drop 24 = dktX13_barrier_1 := dk_seg dksX13_barrier_0 24 rfl rfl
theorem dksX13_barrier_2 : cX13_barrier.data.toList.drop 48 = dktX13_barrier_2 := dk_seg dksX13_barrier_1 24 rfl rfl
theorem dksX13_barrier_3 : cX13_barrier.data.toList.drop 71 = dktX13_barrier_3 := dk_seg dksX13_barrier_2 23 rfl rfl
theorem dksX13_barrier_4 : cX13_barrier.data.toList.drop 94 = dktX13_barrier_4 := dk_seg dksX13_barrier_3 23 rfl rfl
theorem dksX13_barrier_5 : cX13_barrier.data.toList.drop 117 = dktX13_barrier_5 := dk_seg dksX13_barrier_4 23 rfl rfl
theorem dX13_barrier_0 : decode cX13_barrier 0 = .ok (.aload_n 0, 1) := dk_42 (dk_at dksX13_barrier_0 0 rfl rfl)
theorem dX13_barrier_1 : decode cX13_barrier 1 = .ok (.iconst 0, 1) := dk_3 (dk_at dksX13_barrier_0 1 rfl rfl)
theorem dX13_barrier_2 : decode cX13_barrier 2 = .ok (.putfield 39, 3) := dk_181 0 39 (dk_at dksX13_barrier_0 2 rfl rfl)
theorem dX13_barrier_5 : decode cX13_barrier 5 = .ok (.iload_n 1, 1) := dk_27 (dk_at dksX13_barrier_0 5 rfl rfl)
theorem dX13_barrier_6 : decode cX13_barrier 6 = .ok (.ifCond .lt 11, 3) := dk_155 0 11 (dk_at dksX13_barrier_0 6 rfl rfl)
theorem dX13_barrier_9 : decode cX13_barrier 9 = .ok (.iload_n 1, 1) := dk_27 (dk_at dksX13_barrier_0 9 rfl rfl)
theorem dX13_barrier_10 : decode cX13_barrier 10 = .ok (.aload_n 0, 1) := dk_42 (dk_at dksX13_barrier_0 10 rfl rfl)
theorem dX13_barrier_11 : decode cX13_barrier 11 = .ok (.getfield 360, 3) := dk_180 1 104 (dk_at dksX13_barrier_0 11 rfl rfl)
theorem dX13_barrier_14 : decode cX13_barrier 14 = .ok (.if_icmp .le 9, 3) := dk_164 0 9 (dk_at dksX13_barrier_0 14 rfl rfl)
theorem dX13_barrier_17 : decode cX13_barrier 17 = .ok (.aload_n 0, 1) := dk_42 (dk_at dksX13_barrier_0 17 rfl rfl)
theorem dX13_barrier_18 : decode cX13_barrier 18 = .ok (.iconst 2, 1) := dk_5 (dk_at dksX13_barrier_0 18 rfl rfl)
theorem dX13_barrier_19 : decode cX13_barrier 19 = .ok (.invokevirtual 45, 3) := dk_182 0 45 (dk_at dksX13_barrier_0 19 rfl rfl)
theorem dX13_barrier_22 : decode cX13_barrier 22 = .ok (.ireturn, 1) := dk_172 (dk_at dksX13_barrier_0 22 rfl rfl)
theorem dX13_barrier_23 : decode cX13_barrier 23 = .ok (.aload_n 0, 1) := dk_42 (dk_at dksX13_barrier_0 23 rfl rfl)
theorem dX13_barrier_24 : decode cX13_barrier 24 = .ok (.iload_n 1, 1) := dk_27 (dk_at dksX13_barrier_1 0 rfl rfl)
theorem dX13_barrier_25 : decode cX13_barrier 25 = .ok (.putfield 56, 3) := dk_181 0 56 (dk_at dksX13_barrier_1 1 rfl rfl)
theorem dX13_barrier_28 : decode cX13_barrier 28 = .ok (.aload_n 0, 1) := dk_42 (dk_at dksX13_barrier_1 4 rfl rfl)
theorem dX13_barrier_29 : decode cX13_barrier 29 = .ok (.iconst 0, 1) := dk_3 (dk_at dksX13_barrier_1 5 rfl rfl)
theorem dX13_barrier_30 : decode cX13_barrier 30 = .ok (.putfield 360, 3) := dk_181 1 104 (dk_at dksX13_barrier_1 6 rfl rfl)
theorem dX13_barrier_33 : decode cX13_barrier 33 = .ok (.aload_n 0, 1) := dk_42 (dk_at dksX13_barrier_1 9 rfl rfl)
theorem dX13_barrier_34 : decode cX13_barrier 34 = .ok (.iconst 0, 1) := dk_3 (dk_at dksX13_barrier_1 10 rfl rfl)
theorem dX13_barrier_35 : decode cX13_barrier 35 = .ok (.putfield 74, 3) := dk_181 0 74 (dk_at dksX13_barrier_1 11 rfl rfl)
theorem dX13_barrier_38 : decode cX13_barrier 38 = .ok (.aload_n 0, 1) := dk_42 (dk_at dksX13_barrier_1 14 rfl rfl)
theorem dX13_barrier_39 : decode cX13_barrier 39 = .ok (.iconst 0, 1) := dk_3 (dk_at dksX13_barrier_1 15 rfl rfl)
theorem dX13_barrier_40 : decode cX13_barrier 40 = .ok (.putfield 97, 3) := dk_181 0 97 (dk_at dksX13_barrier_1 16 rfl rfl)
theorem dX13_barrier_43 : decode cX13_barrier 43 = .ok (.aload_n 0, 1) := dk_42 (dk_at dksX13_barrier_1 19 rfl rfl)
theorem dX13_barrier_44 : decode cX13_barrier 44 = .ok (.new 157, 3) := dk_187 0 157 (dk_at dksX13_barrier_1 20 rfl rfl)
theorem dX13_barrier_47 : decode cX13_barrier 47 = .ok (.dup, 1) := dk_89 (dk_at dksX13_barrier_1 23 rfl rfl)
theorem dX13_barrier_48 : decode cX13_barrier 48 = .ok (.invokespecial 363, 3) := dk_183 1 107 (dk_at dksX13_barrier_2 0 rfl rfl)
theorem dX13_barrier_51 : decode cX13_barrier 51 = .ok (.putfield 152, 3) := dk_181 0 152 (dk_at dksX13_barrier_2 3 rfl rfl)
theorem dX13_barrier_54 : decode cX13_barrier 54 = .ok (.aload_n 0, 1) := dk_42 (dk_at dksX13_barrier_2 6 rfl rfl)
theorem dX13_barrier_55 : decode cX13_barrier 55 = .ok (.iconst 0, 1) := dk_3 (dk_at dksX13_barrier_2 7 rfl rfl)
theorem dX13_barrier_56 : decode cX13_barrier 56 = .ok (.putfield 71, 3) := dk_181 0 71 (dk_at dksX13_barrier_2 8 rfl rfl)
theorem dX13_barrier_59 : decode cX13_barrier 59 = .ok (.aload_n 0, 1) := dk_42 (dk_at dksX13_barrier_2 11 rfl rfl)
theorem dX13_barrier_60 : decode cX13_barrier 60 = .ok (.invokevirtual 107, 3) := dk_182 0 107 (dk_at dksX13_barrier_2 12 rfl rfl)
theorem dX13_barrier_63 : decode cX13_barrier 63 = .ok (.aload_n 0, 1) := dk_42 (dk_at dksX13_barrier_2 15 rfl rfl)
theorem dX13_barrier_64 : decode cX13_barrier 64 = .ok (.invokevirtual 364, 3) := dk_182 1 108 (dk_at dksX13_barrier_2 16 rfl rfl)
theorem dX13_barrier_67 : decode cX13_barrier 67 = .ok (.aload_n 0, 1) := dk_42 (dk_at dksX13_barrier_2 19 rfl rfl)
theorem dX13_barrier_68 : decode cX13_barrier 68 = .ok (.getfield 97, 3) := dk_180 0 97 (dk_at dksX13_barrier_2 20 rfl rfl)
theorem dX13_barrier_71 : decode cX13_barrier 71 = .ok (.ifCond .le 18, 3) := dk_158 0 18 (dk_at dksX13_barrier_3 0 rfl rfl)
theorem dX13_barrier_74 : decode cX13_barrier 74 = .ok (.aload_n 0, 1) := dk_42 (dk_at dksX13_barrier_3 3 rfl rfl)
theorem dX13_barrier_75 : decode cX13_barrier 75 = .ok (.iconst 4, 1) := dk_7 (dk_at dksX13_barrier_3 4 rfl rfl)
theorem dX13_barrier_76 : decode cX13_barrier 76 = .ok (.putfield 42, 3) := dk_181 0 42 (dk_at dksX13_barrier_3 5 rfl rfl)
theorem dX13_barrier_79 : decode cX13_barrier 79 = .ok (.aload_n 0, 1) := dk_42 (dk_at dksX13_barrier_3 8 rfl rfl)
theorem dX13_barrier_80 : decode cX13_barrier 80 = .ok (.aload_n 0, 1) := dk_42 (dk_at dksX13_barrier_3 9 rfl rfl)
theorem dX13_barrier_81 : decode cX13_barrier 81 = .ok (.getfield 100, 3) := dk_180 0 100 (dk_at dksX13_barrier_3 10 rfl rfl)
theorem dX13_barrier_84 : decode cX13_barrier 84 = .ok (.putfield 9, 3) := dk_181 0 9 (dk_at dksX13_barrier_3 13 rfl rfl)
theorem dX13_barrier_87 : decode cX13_barrier 87 = .ok (.iconst (-1), 1) := dk_2 (dk_at dksX13_barrier_3 16 rfl rfl)
theorem dX13_barrier_88 : decode cX13_barrier 88 = .ok (.ireturn, 1) := dk_172 (dk_at dksX13_barrier_3 17 rfl rfl)
theorem dX13_barrier_89 : decode cX13_barrier 89 = .ok (.aload_n 0, 1) := dk_42 (dk_at dksX13_barrier_3 18 rfl rfl)
theorem dX13_barrier_90 : decode cX13_barrier 90 = .ok (.aload_n 0, 1) := dk_42 (dk_at dksX13_barrier_3 19 rfl rfl)
theorem dX13_barrier_91 : decode cX13_barrier 91 = .ok (.getfield 152, 3) := dk_180 0 152 (dk_at dksX13_barrier_3 20 rfl rfl)
theorem dX13_barrier_94 : decode cX13_barrier 94 = .ok (.putfield 367, 3) := dk_181 1 111 (dk_at dksX13_barrier_4 0 rfl rfl)
theorem dX13_barrier_97 : decode cX13_barrier 97 = .ok (.aload_n 0, 1) := dk_42 (dk_at dksX13_barrier_4 3 rfl rfl)
theorem dX13_barrier_98 : decode cX13_barrier 98 = .ok (.aload_n 0, 1) := dk_42 (dk_at dksX13_barrier_4 4 rfl rfl)
theorem dX13_barrier_99 : decode cX13_barrier 99 = .ok (.getfield 17, 3) := dk_180 0 17 (dk_at dksX13_barrier_4 5 rfl rfl)
theorem dX13_barrier_102 : decode cX13_barrier 102 = .ok (.invokevirtual 369, 3) := dk_182 1 113 (dk_at dksX13_barrier_4 8 rfl rfl)
theorem dX13_barrier_105 : decode cX13_barrier 105 = .ok (.aload_n 0, 1) := dk_42 (dk_at dksX13_barrier_4 11 rfl rfl)
theorem dX13_barrier_106 : decode cX13_barrier 106 = .ok (.iconst 0, 1) := dk_3 (dk_at dksX13_barrier_4 12 rfl rfl)
theorem dX13_barrier_107 : decode cX13_barrier 107 = .ok (.putfield 373, 3) := dk_181 1 117 (dk_at dksX13_barrier_4 13 rfl rfl)
theorem dX13_barrier_110 : decode cX13_barrier 110 = .ok (.aload_n 0, 1) := dk_42 (dk_at dksX13_barrier_4 16 rfl rfl)
theorem dX13_barrier_111 : decode cX13_barrier 111 = .ok (.iconst 0, 1) := dk_3 (dk_at dksX13_barrier_4 17 rfl rfl)
theorem dX13_barrier_112 : decode cX13_barrier 112 = .ok (.putfield 376, 3) := dk_181 1 120 (dk_at dksX13_barrier_4 18 rfl rfl)
theorem dX13_barrier_115 : decode cX13_barrier 115 = .ok (.aload_n 0, 1) := dk_42 (dk_at dksX13_barrier_4 21 rfl rfl)
theorem dX13_barrier_116 : decode cX13_barrier 116 = .ok (.aload_n 0, 1) := dk_42 (dk_at dksX13_barrier_4 22 rfl rfl)
theorem dX13_barrier_117 : decode cX13_barrier 117 = .ok (.getfield 367, 3) := dk_180 1 111 (dk_at dksX13_barrier_5 0 rfl rfl)
theorem dX13_barrier_120 : decode cX13_barrier 120 = .ok (.getfield 287, 3) := dk_180 1 31 (dk_at dksX13_barrier_5 3 rfl rfl)
theorem dX13_barrier_123 : decode cX13_barrier 123 = .ok (.invokevirtual 49, 3) := dk_182 0 49 (dk_at dksX13_barrier_5 6 rfl rfl)
theorem dX13_barrier_126 : decode cX13_barrier 126 = .ok (.ireturn, 1) := dk_172 (dk_at dksX13_barrier_5 9 rfl rfl)
abbrev cX13_refused : ByteArray := prog_27_method_3_code
def yX13_refused : MethodName := ⟨RX13, "refused", "(I)I"⟩
def dkwX13_refused_0 : List UInt8 := [42, 27, 181, 0, 42, 42, 2, 181, 0, 9, 2, 172]
abbrev dktX13_refused_0 : List UInt8 := dkwX13_refused_0 ++ []
theorem dksX13_refused_0 : cX13_refused.data.toList.drop 0 = dktX13_refused_0 := by decide +kernel
theorem dX13_refused_0 : decode cX13_refused 0 = .ok (.aload_n 0, 1) := dk_42 (dk_at dksX13_refused_0 0 rfl rfl)
theorem dX13_refused_1 : decode cX13_refused 1 = .ok (.iload_n 1, 1) := dk_27 (dk_at dksX13_refused_0 1 rfl rfl)
theorem dX13_refused_2 : decode cX13_refused 2 = .ok (.putfield 42, 3) := dk_181 0 42 (dk_at dksX13_refused_0 2 rfl rfl)
theorem dX13_refused_5 : decode cX13_refused 5 = .ok (.aload_n 0, 1) := dk_42 (dk_at dksX13_refused_0 5 rfl rfl)
theorem dX13_refused_6 : decode cX13_refused 6 = .ok (.iconst (-1), 1) := dk_2 (dk_at dksX13_refused_0 6 rfl rfl)
theorem dX13_refused_7 : decode cX13_refused 7 = .ok (.putfield 9, 3) := dk_181 0 9 (dk_at dksX13_refused_0 7 rfl rfl)
theorem dX13_refused_10 : decode cX13_refused 10 = .ok (.iconst (-1), 1) := dk_2 (dk_at dksX13_refused_0 10 rfl rfl)
theorem dX13_refused_11 : decode cX13_refused 11 = .ok (.ireturn, 1) := dk_172 (dk_at dksX13_refused_0 11 rfl rfl)
abbrev cX13_goesOn : ByteArray := prog_27_method_17_code
def yX13_goesOn : MethodName := ⟨RX13, "goesOn", "()V"⟩
def dkwX13_goesOn_11 : List UInt8 := [4, 96, 181, 0, 74, 177]
abbrev dktX13_goesOn_11 : List UInt8 := dkwX13_goesOn_11 ++ []
def dkwX13_goesOn_10 : List UInt8 := [42, 6, 181, 0, 71, 167, 0, 24, 27, 16, 59, 160, 0, 18, 42, 7, 181, 0, 71, 42, 89, 180, 0, 74]
abbrev dktX13_goesOn_10 : List UInt8 := dkwX13_goesOn_10 ++ dktX13_goesOn_11
def dkwX13_goesOn_9 : List UInt8 := [181, 0, 94, 132, 2, 1, 42, 89, 180, 0, 74, 4, 96, 181, 0, 74, 167, 255, 201, 28, 6, 163, 0, 32]
abbrev dktX13_goesOn_9 : List UInt8 := dkwX13_goesOn_9 ++ dktX13_goesOn_10
def dkwX13_goesOn_8 : List UInt8 := [162, 0, 26, 42, 16, 10, 42, 180, 0, 94, 104, 42, 42, 180, 0, 74, 182, 0, 77, 96, 16, 48, 100]
abbrev dktX13_goesOn_8 : List UInt8 := dkwX13_goesOn_8 ++ dktX13_goesOn_9
def dkwX13_goesOn_7 : List UInt8 := [153, 0, 79, 42, 3, 181, 0, 94, 42, 42, 180, 0, 74, 182, 0, 77, 184, 0, 91, 153, 0, 47, 28, 6]
abbrev dktX13_goesOn_7 : List UInt8 := dkwX13_goesOn_7 ++ dktX13_goesOn_8
def dkwX13_goesOn_6 : List UInt8 := [181, 0, 74, 167, 255, 196, 28, 16, 9, 163, 0, 115, 42, 5, 181, 0, 71, 167, 0, 107, 27, 184, 0, 91]
abbrev dktX13_goesOn_6 : List UInt8 := dkwX13_goesOn_6 ++ dktX13_goesOn_7
def dkwX13_goesOn_5 : List UInt8 := [182, 0, 77, 16, 97, 100, 4, 96, 133, 97, 181, 0, 87, 132, 2, 1, 42, 89, 180, 0, 74, 4, 96]
abbrev dktX13_goesOn_5 : List UInt8 := dkwX13_goesOn_5 ++ dktX13_goesOn_6
def dkwX13_goesOn_4 : List UInt8 := [153, 0, 52, 28, 16, 9, 162, 0, 30, 42, 20, 0, 65, 42, 180, 0, 87, 105, 42, 42, 180, 0, 74]
abbrev dktX13_goesOn_4 : List UInt8 := dkwX13_goesOn_4 ++ dktX13_goesOn_5
def dkwX13_goesOn_3 : List UInt8 := [27, 184, 0, 83, 153, 0, 85, 42, 9, 181, 0, 87, 42, 42, 180, 0, 74, 182, 0, 77, 184, 0, 83]
abbrev dktX13_goesOn_3 : List UInt8 := dkwX13_goesOn_3 ++ dktX13_goesOn_4
def dkwX13_goesOn_2 : List UInt8 := [42, 42, 180, 0, 74, 182, 0, 77, 60, 3, 61, 27, 2, 160, 0, 11, 42, 4, 181, 0, 71, 167, 0, 196]
abbrev dktX13_goesOn_2 : List UInt8 := dkwX13_goesOn_2 ++ dktX13_goesOn_3
def dkwX13_goesOn_1 : List UInt8 := [180, 0, 74, 4, 96, 181, 0, 74, 167, 255, 233, 42, 42, 180, 0, 74, 181, 0, 80, 42, 3, 181, 0, 71]
abbrev dktX13_goesOn_1 : List UInt8 := dkwX13_goesOn_1 ++ dktX13_goesOn_2
def dkwX13_goesOn_0 : List UInt8 := [42, 180, 0, 71, 8, 160, 0, 4, 177, 42, 42, 180, 0, 74, 182, 0, 77, 16, 32, 160, 0, 16, 42, 89]
abbrev dktX13_goesOn_0 : List UInt8 := dkwX13_goesOn_0 ++ dktX13_goesOn_1
theorem dksX13_goesOn_0 : cX13_goesOn.data.toList.drop 0 = dktX13_goesOn_0 := by decide +kernel
theorem dksX13_goesOn_1 : cX13_goesOn.data.toList.drop 24 = dktX13_goesOn_1 := dk_seg dksX13_goesOn_0 24 rfl rfl
theorem dksX13_goesOn_2 : cX13_goesOn.data.toList.drop 48 = dktX13_goesOn_2 := dk_seg dksX13_goesOn_1 24 rfl rfl
theorem dksX13_goesOn_3 : cX13_goesOn.data.toList.drop 72 = dktX13_goesOn_3 := dk_seg dksX13_goesOn_2 24 rfl rfl
theorem dksX13_goesOn_4 : cX13_goesOn.data.toList.drop 95 = dktX13_goesOn_4 := dk_seg dksX13_goesOn_3 23 rfl rfl
theorem dksX13_goesOn_5 : cX13_goesOn.data.toList.drop 118 = dktX13_goesOn_5 := dk_seg dksX13_goesOn_4 23 rfl rfl
theorem dksX13_goesOn_6 : cX13_goesOn.data.toList.drop 141 = dktX13_goesOn_6 := dk_seg dksX13_goesOn_5 23 rfl rfl
theorem dksX13_goesOn_7 : cX13_goesOn.data.toList.drop 165 = dktX13_goesOn_7 := dk_seg dksX13_goesOn_6 24 rfl rfl
theorem dksX13_goesOn_8 : cX13_goesOn.data.toList.drop 189 = dktX13_goesOn_8 := dk_seg dksX13_goesOn_7 24 rfl rfl
theorem dksX13_goesOn_9 : cX13_goesOn.data.toList.drop 212 = dktX13_goesOn_9 := dk_seg dksX13_goesOn_8 23 rfl rfl
theorem dksX13_goesOn_10 : cX13_goesOn.data.toList.drop 236 = dktX13_goesOn_10 := dk_seg dksX13_goesOn_9 24 rfl rfl
theorem dksX13_goesOn_11 : cX13_goesOn.data.toList.drop 260 = dktX13_goesOn_11 := dk_seg dksX13_goesOn_10 24 rfl rfl
theorem dX13_goesOn_0 : decode cX13_goesOn 0 = .ok (.aload_n 0, 1) := dk_42 (dk_at dksX13_goesOn_0 0 rfl rfl)
theorem dX13_goesOn_1 : decode cX13_goesOn 1 = .ok (.getfield 71, 3) := dk_180 0 71 (dk_at dksX13_goesOn_0 1 rfl rfl)
theorem dX13_goesOn_4 : decode cX13_goesOn 4 = .ok (.iconst 5, 1) := dk_8 (dk_at dksX13_goesOn_0 4 rfl rfl)
theorem dX13_goesOn_5 : decode cX13_goesOn 5 = .ok (.if_icmp .ne 4, 3) := dk_160 0 4 (dk_at dksX13_goesOn_0 5 rfl rfl)
theorem dX13_goesOn_8 : decode cX13_goesOn 8 = .ok (.return_, 1) := dk_177 (dk_at dksX13_goesOn_0 8 rfl rfl)
theorem dX13_goesOn_9 : decode cX13_goesOn 9 = .ok (.aload_n 0, 1) := dk_42 (dk_at dksX13_goesOn_0 9 rfl rfl)
theorem dX13_goesOn_10 : decode cX13_goesOn 10 = .ok (.aload_n 0, 1) := dk_42 (dk_at dksX13_goesOn_0 10 rfl rfl)
theorem dX13_goesOn_11 : decode cX13_goesOn 11 = .ok (.getfield 74, 3) := dk_180 0 74 (dk_at dksX13_goesOn_0 11 rfl rfl)
theorem dX13_goesOn_14 : decode cX13_goesOn 14 = .ok (.invokevirtual 77, 3) := dk_182 0 77 (dk_at dksX13_goesOn_0 14 rfl rfl)
theorem dX13_goesOn_17 : decode cX13_goesOn 17 = .ok (.bipush 32, 2) := dk_16 32 (dk_at dksX13_goesOn_0 17 rfl rfl)
theorem dX13_goesOn_19 : decode cX13_goesOn 19 = .ok (.if_icmp .ne 16, 3) := dk_160 0 16 (dk_at dksX13_goesOn_0 19 rfl rfl)
theorem dX13_goesOn_22 : decode cX13_goesOn 22 = .ok (.aload_n 0, 1) := dk_42 (dk_at dksX13_goesOn_0 22 rfl rfl)
theorem dX13_goesOn_23 : decode cX13_goesOn 23 = .ok (.dup, 1) := dk_89 (dk_at dksX13_goesOn_0 23 rfl rfl)
theorem dX13_goesOn_24 : decode cX13_goesOn 24 = .ok (.getfield 74, 3) := dk_180 0 74 (dk_at dksX13_goesOn_1 0 rfl rfl)
theorem dX13_goesOn_27 : decode cX13_goesOn 27 = .ok (.iconst 1, 1) := dk_4 (dk_at dksX13_goesOn_1 3 rfl rfl)
theorem dX13_goesOn_28 : decode cX13_goesOn 28 = .ok (.iadd, 1) := dk_96 (dk_at dksX13_goesOn_1 4 rfl rfl)
theorem dX13_goesOn_29 : decode cX13_goesOn 29 = .ok (.putfield 74, 3) := dk_181 0 74 (dk_at dksX13_goesOn_1 5 rfl rfl)
theorem dX13_goesOn_32 : decode cX13_goesOn 32 = .ok (.goto (-23), 3) := dk_167 255 233 (dk_at dksX13_goesOn_1 8 rfl rfl)
theorem dX13_goesOn_35 : decode cX13_goesOn 35 = .ok (.aload_n 0, 1) := dk_42 (dk_at dksX13_goesOn_1 11 rfl rfl)
theorem dX13_goesOn_36 : decode cX13_goesOn 36 = .ok (.aload_n 0, 1) := dk_42 (dk_at dksX13_goesOn_1 12 rfl rfl)
theorem dX13_goesOn_37 : decode cX13_goesOn 37 = .ok (.getfield 74, 3) := dk_180 0 74 (dk_at dksX13_goesOn_1 13 rfl rfl)
theorem dX13_goesOn_40 : decode cX13_goesOn 40 = .ok (.putfield 80, 3) := dk_181 0 80 (dk_at dksX13_goesOn_1 16 rfl rfl)
theorem dX13_goesOn_43 : decode cX13_goesOn 43 = .ok (.aload_n 0, 1) := dk_42 (dk_at dksX13_goesOn_1 19 rfl rfl)
theorem dX13_goesOn_44 : decode cX13_goesOn 44 = .ok (.iconst 0, 1) := dk_3 (dk_at dksX13_goesOn_1 20 rfl rfl)
theorem dX13_goesOn_45 : decode cX13_goesOn 45 = .ok (.putfield 71, 3) := dk_181 0 71 (dk_at dksX13_goesOn_1 21 rfl rfl)
theorem dX13_goesOn_48 : decode cX13_goesOn 48 = .ok (.aload_n 0, 1) := dk_42 (dk_at dksX13_goesOn_2 0 rfl rfl)
theorem dX13_goesOn_49 : decode cX13_goesOn 49 = .ok (.aload_n 0, 1) := dk_42 (dk_at dksX13_goesOn_2 1 rfl rfl)
theorem dX13_goesOn_50 : decode cX13_goesOn 50 = .ok (.getfield 74, 3) := dk_180 0 74 (dk_at dksX13_goesOn_2 2 rfl rfl)
theorem dX13_goesOn_53 : decode cX13_goesOn 53 = .ok (.invokevirtual 77, 3) := dk_182 0 77 (dk_at dksX13_goesOn_2 5 rfl rfl)
theorem dX13_goesOn_56 : decode cX13_goesOn 56 = .ok (.istore_n 1, 1) := dk_60 (dk_at dksX13_goesOn_2 8 rfl rfl)
theorem dX13_goesOn_57 : decode cX13_goesOn 57 = .ok (.iconst 0, 1) := dk_3 (dk_at dksX13_goesOn_2 9 rfl rfl)
theorem dX13_goesOn_58 : decode cX13_goesOn 58 = .ok (.istore_n 2, 1) := dk_61 (dk_at dksX13_goesOn_2 10 rfl rfl)
theorem dX13_goesOn_59 : decode cX13_goesOn 59 = .ok (.iload_n 1, 1) := dk_27 (dk_at dksX13_goesOn_2 11 rfl rfl)
theorem dX13_goesOn_60 : decode cX13_goesOn 60 = .ok (.iconst (-1), 1) := dk_2 (dk_at dksX13_goesOn_2 12 rfl rfl)
theorem dX13_goesOn_61 : decode cX13_goesOn 61 = .ok (.if_icmp .ne 11, 3) := dk_160 0 11 (dk_at dksX13_goesOn_2 13 rfl rfl)
theorem dX13_goesOn_64 : decode cX13_goesOn 64 = .ok (.aload_n 0, 1) := dk_42 (dk_at dksX13_goesOn_2 16 rfl rfl)
theorem dX13_goesOn_65 : decode cX13_goesOn 65 = .ok (.iconst 1, 1) := dk_4 (dk_at dksX13_goesOn_2 17 rfl rfl)
theorem dX13_goesOn_66 : decode cX13_goesOn 66 = .ok (.putfield 71, 3) := dk_181 0 71 (dk_at dksX13_goesOn_2 18 rfl rfl)
theorem dX13_goesOn_69 : decode cX13_goesOn 69 = .ok (.goto 196, 3) := dk_167 0 196 (dk_at dksX13_goesOn_2 21 rfl rfl)
theorem dX13_goesOn_72 : decode cX13_goesOn 72 = .ok (.iload_n 1, 1) := dk_27 (dk_at dksX13_goesOn_3 0 rfl rfl)
theorem dX13_goesOn_73 : decode cX13_goesOn 73 = .ok (.invokestatic 83, 3) := dk_184 0 83 (dk_at dksX13_goesOn_3 1 rfl rfl)
theorem dX13_goesOn_76 : decode cX13_goesOn 76 = .ok (.ifCond .eq 85, 3) := dk_153 0 85 (dk_at dksX13_goesOn_3 4 rfl rfl)
theorem dX13_goesOn_79 : decode cX13_goesOn 79 = .ok (.aload_n 0, 1) := dk_42 (dk_at dksX13_goesOn_3 7 rfl rfl)
theorem dX13_goesOn_80 : decode cX13_goesOn 80 = .ok (.lconst 0, 1) := dk_9 (dk_at dksX13_goesOn_3 8 rfl rfl)
theorem dX13_goesOn_81 : decode cX13_goesOn 81 = .ok (.putfield 87, 3) := dk_181 0 87 (dk_at dksX13_goesOn_3 9 rfl rfl)
theorem dX13_goesOn_84 : decode cX13_goesOn 84 = .ok (.aload_n 0, 1) := dk_42 (dk_at dksX13_goesOn_3 12 rfl rfl)
theorem dX13_goesOn_85 : decode cX13_goesOn 85 = .ok (.aload_n 0, 1) := dk_42 (dk_at dksX13_goesOn_3 13 rfl rfl)
theorem dX13_goesOn_86 : decode cX13_goesOn 86 = .ok (.getfield 74, 3) := dk_180 0 74 (dk_at dksX13_goesOn_3 14 rfl rfl)
theorem dX13_goesOn_89 : decode cX13_goesOn 89 = .ok (.invokevirtual 77, 3) := dk_182 0 77 (dk_at dksX13_goesOn_3 17 rfl rfl)
theorem dX13_goesOn_92 : decode cX13_goesOn 92 = .ok (.invokestatic 83, 3) := dk_184 0 83 (dk_at dksX13_goesOn_3 20 rfl rfl)
theorem dX13_goesOn_95 : decode cX13_goesOn 95 = .ok (.ifCond .eq 52, 3) := dk_153 0 52 (dk_at dksX13_goesOn_4 0 rfl rfl)
theorem dX13_goesOn_98 : decode cX13_goesOn 98 = .ok (.iload_n 2, 1) := dk_28 (dk_at dksX13_goesOn_4 3 rfl rfl)
theorem dX13_goesOn_99 : decode cX13_goesOn 99 = .ok (.bipush 9, 2) := dk_16 9 (dk_at dksX13_goesOn_4 4 rfl rfl)
theorem dX13_goesOn_101 : decode cX13_goesOn 101 = .ok (.if_icmp .ge 30, 3) := dk_162 0 30 (dk_at dksX13_goesOn_4 6 rfl rfl)
theorem dX13_goesOn_104 : decode cX13_goesOn 104 = .ok (.aload_n 0, 1) := dk_42 (dk_at dksX13_goesOn_4 9 rfl rfl)
theorem dX13_goesOn_105 : decode cX13_goesOn 105 = .ok (.ldc2_w 65, 3) := dk_20 0 65 (dk_at dksX13_goesOn_4 10 rfl rfl)
theorem dX13_goesOn_108 : decode cX13_goesOn 108 = .ok (.aload_n 0, 1) := dk_42 (dk_at dksX13_goesOn_4 13 rfl rfl)
theorem dX13_goesOn_109 : decode cX13_goesOn 109 = .ok (.getfield 87, 3) := dk_180 0 87 (dk_at dksX13_goesOn_4 14 rfl rfl)
theorem dX13_goesOn_112 : decode cX13_goesOn 112 = .ok (.lmul, 1) := dk_105 (dk_at dksX13_goesOn_4 17 rfl rfl)
theorem dX13_goesOn_113 : decode cX13_goesOn 113 = .ok (.aload_n 0, 1) := dk_42 (dk_at dksX13_goesOn_4 18 rfl rfl)
theorem dX13_goesOn_114 : decode cX13_goesOn 114 = .ok (.aload_n 0, 1) := dk_42 (dk_at dksX13_goesOn_4 19 rfl rfl)
theorem dX13_goesOn_115 : decode cX13_goesOn 115 = .ok (.getfield 74, 3) := dk_180 0 74 (dk_at dksX13_goesOn_4 20 rfl rfl)
theorem dX13_goesOn_118 : decode cX13_goesOn 118 = .ok (.invokevirtual 77, 3) := dk_182 0 77 (dk_at dksX13_goesOn_5 0 rfl rfl)
theorem dX13_goesOn_121 : decode cX13_goesOn 121 = .ok (.bipush 97, 2) := dk_16 97 (dk_at dksX13_goesOn_5 3 rfl rfl)
theorem dX13_goesOn_123 : decode cX13_goesOn 123 = .ok (.isub, 1) := dk_100 (dk_at dksX13_goesOn_5 5 rfl rfl)
theorem dX13_goesOn_124 : decode cX13_goesOn 124 = .ok (.iconst 1, 1) := dk_4 (dk_at dksX13_goesOn_5 6 rfl rfl)
theorem dX13_goesOn_125 : decode cX13_goesOn 125 = .ok (.iadd, 1) := dk_96 (dk_at dksX13_goesOn_5 7 rfl rfl)
theorem dX13_goesOn_126 : decode cX13_goesOn 126 = .ok (.i2l, 1) := dk_133 (dk_at dksX13_goesOn_5 8 rfl rfl)
theorem dX13_goesOn_127 : decode cX13_goesOn 127 = .ok (.ladd, 1) := dk_97 (dk_at dksX13_goesOn_5 9 rfl rfl)
theorem dX13_goesOn_128 : decode cX13_goesOn 128 = .ok (.putfield 87, 3) := dk_181 0 87 (dk_at dksX13_goesOn_5 10 rfl rfl)
theorem dX13_goesOn_131 : decode cX13_goesOn 131 = .ok (.iinc 2 1, 3) := dk_132 2 1 (dk_at dksX13_goesOn_5 13 rfl rfl)
theorem dX13_goesOn_134 : decode cX13_goesOn 134 = .ok (.aload_n 0, 1) := dk_42 (dk_at dksX13_goesOn_5 16 rfl rfl)
theorem dX13_goesOn_135 : decode cX13_goesOn 135 = .ok (.dup, 1) := dk_89 (dk_at dksX13_goesOn_5 17 rfl rfl)
theorem dX13_goesOn_136 : decode cX13_goesOn 136 = .ok (.getfield 74, 3) := dk_180 0 74 (dk_at dksX13_goesOn_5 18 rfl rfl)
theorem dX13_goesOn_139 : decode cX13_goesOn 139 = .ok (.iconst 1, 1) := dk_4 (dk_at dksX13_goesOn_5 21 rfl rfl)
theorem dX13_goesOn_140 : decode cX13_goesOn 140 = .ok (.iadd, 1) := dk_96 (dk_at dksX13_goesOn_5 22 rfl rfl)
theorem dX13_goesOn_141 : decode cX13_goesOn 141 = .ok (.putfield 74, 3) := dk_181 0 74 (dk_at dksX13_goesOn_6 0 rfl rfl)
theorem dX13_goesOn_144 : decode cX13_goesOn 144 = .ok (.goto (-60), 3) := dk_167 255 196 (dk_at dksX13_goesOn_6 3 rfl rfl)
theorem dX13_goesOn_147 : decode cX13_goesOn 147 = .ok (.iload_n 2, 1) := dk_28 (dk_at dksX13_goesOn_6 6 rfl rfl)
theorem dX13_goesOn_148 : decode cX13_goesOn 148 = .ok (.bipush 9, 2) := dk_16 9 (dk_at dksX13_goesOn_6 7 rfl rfl)
theorem dX13_goesOn_150 : decode cX13_goesOn 150 = .ok (.if_icmp .gt 115, 3) := dk_163 0 115 (dk_at dksX13_goesOn_6 9 rfl rfl)
theorem dX13_goesOn_153 : decode cX13_goesOn 153 = .ok (.aload_n 0, 1) := dk_42 (dk_at dksX13_goesOn_6 12 rfl rfl)
theorem dX13_goesOn_154 : decode cX13_goesOn 154 = .ok (.iconst 2, 1) := dk_5 (dk_at dksX13_goesOn_6 13 rfl rfl)
theorem dX13_goesOn_155 : decode cX13_goesOn 155 = .ok (.putfield 71, 3) := dk_181 0 71 (dk_at dksX13_goesOn_6 14 rfl rfl)
theorem dX13_goesOn_158 : decode cX13_goesOn 158 = .ok (.goto 107, 3) := dk_167 0 107 (dk_at dksX13_goesOn_6 17 rfl rfl)
theorem dX13_goesOn_161 : decode cX13_goesOn 161 = .ok (.iload_n 1, 1) := dk_27 (dk_at dksX13_goesOn_6 20 rfl rfl)
theorem dX13_goesOn_162 : decode cX13_goesOn 162 = .ok (.invokestatic 91, 3) := dk_184 0 91 (dk_at dksX13_goesOn_6 21 rfl rfl)
theorem dX13_goesOn_165 : decode cX13_goesOn 165 = .ok (.ifCond .eq 79, 3) := dk_153 0 79 (dk_at dksX13_goesOn_7 0 rfl rfl)
theorem dX13_goesOn_168 : decode cX13_goesOn 168 = .ok (.aload_n 0, 1) := dk_42 (dk_at dksX13_goesOn_7 3 rfl rfl)
theorem dX13_goesOn_169 : decode cX13_goesOn 169 = .ok (.iconst 0, 1) := dk_3 (dk_at dksX13_goesOn_7 4 rfl rfl)
theorem dX13_goesOn_170 : decode cX13_goesOn 170 = .ok (.putfield 94, 3) := dk_181 0 94 (dk_at dksX13_goesOn_7 5 rfl rfl)
theorem dX13_goesOn_173 : decode cX13_goesOn 173 = .ok (.aload_n 0, 1) := dk_42 (dk_at dksX13_goesOn_7 8 rfl rfl)
theorem dX13_goesOn_174 : decode cX13_goesOn 174 = .ok (.aload_n 0, 1) := dk_42 (dk_at dksX13_goesOn_7 9 rfl rfl)
theorem dX13_goesOn_175 : decode cX13_goesOn 175 = .ok (.getfield 74, 3) := dk_180 0 74 (dk_at dksX13_goesOn_7 10 rfl rfl)
theorem dX13_goesOn_178 : decode cX13_goesOn 178 = .ok (.invokevirtual 77, 3) := dk_182 0 77 (dk_at dksX13_goesOn_7 13 rfl rfl)
theorem dX13_goesOn_181 : decode cX13_goesOn 181 = .ok (.invokestatic 91, 3) := dk_184 0 91 (dk_at dksX13_goesOn_7 16 rfl rfl)
theorem dX13_goesOn_184 : decode cX13_goesOn 184 = .ok (.ifCond .eq 47, 3) := dk_153 0 47 (dk_at dksX13_goesOn_7 19 rfl rfl)
theorem dX13_goesOn_187 : decode cX13_goesOn 187 = .ok (.iload_n 2, 1) := dk_28 (dk_at dksX13_goesOn_7 22 rfl rfl)
theorem dX13_goesOn_188 : decode cX13_goesOn 188 = .ok (.iconst 3, 1) := dk_6 (dk_at dksX13_goesOn_7 23 rfl rfl)
theorem dX13_goesOn_189 : decode cX13_goesOn 189 = .ok (.if_icmp .ge 26, 3) := dk_162 0 26 (dk_at dksX13_goesOn_8 0 rfl rfl)
theorem dX13_goesOn_192 : decode cX13_goesOn 192 = .ok (.aload_n 0, 1) := dk_42 (dk_at dksX13_goesOn_8 3 rfl rfl)
theorem dX13_goesOn_193 : decode cX13_goesOn 193 = .ok (.bipush 10, 2) := dk_16 10 (dk_at dksX13_goesOn_8 4 rfl rfl)
theorem dX13_goesOn_195 : decode cX13_goesOn 195 = .ok (.aload_n 0, 1) := dk_42 (dk_at dksX13_goesOn_8 6 rfl rfl)
theorem dX13_goesOn_196 : decode cX13_goesOn 196 = .ok (.getfield 94, 3) := dk_180 0 94 (dk_at dksX13_goesOn_8 7 rfl rfl)
theorem dX13_goesOn_199 : decode cX13_goesOn 199 = .ok (.imul, 1) := dk_104 (dk_at dksX13_goesOn_8 10 rfl rfl)
theorem dX13_goesOn_200 : decode cX13_goesOn 200 = .ok (.aload_n 0, 1) := dk_42 (dk_at dksX13_goesOn_8 11 rfl rfl)
theorem dX13_goesOn_201 : decode cX13_goesOn 201 = .ok (.aload_n 0, 1) := dk_42 (dk_at dksX13_goesOn_8 12 rfl rfl)
theorem dX13_goesOn_202 : decode cX13_goesOn 202 = .ok (.getfield 74, 3) := dk_180 0 74 (dk_at dksX13_goesOn_8 13 rfl rfl)
theorem dX13_goesOn_205 : decode cX13_goesOn 205 = .ok (.invokevirtual 77, 3) := dk_182 0 77 (dk_at dksX13_goesOn_8 16 rfl rfl)
theorem dX13_goesOn_208 : decode cX13_goesOn 208 = .ok (.iadd, 1) := dk_96 (dk_at dksX13_goesOn_8 19 rfl rfl)
theorem dX13_goesOn_209 : decode cX13_goesOn 209 = .ok (.bipush 48, 2) := dk_16 48 (dk_at dksX13_goesOn_8 20 rfl rfl)
theorem dX13_goesOn_211 : decode cX13_goesOn 211 = .ok (.isub, 1) := dk_100 (dk_at dksX13_goesOn_8 22 rfl rfl)
theorem dX13_goesOn_212 : decode cX13_goesOn 212 = .ok (.putfield 94, 3) := dk_181 0 94 (dk_at dksX13_goesOn_9 0 rfl rfl)
theorem dX13_goesOn_215 : decode cX13_goesOn 215 = .ok (.iinc 2 1, 3) := dk_132 2 1 (dk_at dksX13_goesOn_9 3 rfl rfl)
theorem dX13_goesOn_218 : decode cX13_goesOn 218 = .ok (.aload_n 0, 1) := dk_42 (dk_at dksX13_goesOn_9 6 rfl rfl)
theorem dX13_goesOn_219 : decode cX13_goesOn 219 = .ok (.dup, 1) := dk_89 (dk_at dksX13_goesOn_9 7 rfl rfl)
theorem dX13_goesOn_220 : decode cX13_goesOn 220 = .ok (.getfield 74, 3) := dk_180 0 74 (dk_at dksX13_goesOn_9 8 rfl rfl)
theorem dX13_goesOn_223 : decode cX13_goesOn 223 = .ok (.iconst 1, 1) := dk_4 (dk_at dksX13_goesOn_9 11 rfl rfl)
theorem dX13_goesOn_224 : decode cX13_goesOn 224 = .ok (.iadd, 1) := dk_96 (dk_at dksX13_goesOn_9 12 rfl rfl)
theorem dX13_goesOn_225 : decode cX13_goesOn 225 = .ok (.putfield 74, 3) := dk_181 0 74 (dk_at dksX13_goesOn_9 13 rfl rfl)
theorem dX13_goesOn_228 : decode cX13_goesOn 228 = .ok (.goto (-55), 3) := dk_167 255 201 (dk_at dksX13_goesOn_9 16 rfl rfl)
theorem dX13_goesOn_231 : decode cX13_goesOn 231 = .ok (.iload_n 2, 1) := dk_28 (dk_at dksX13_goesOn_9 19 rfl rfl)
theorem dX13_goesOn_232 : decode cX13_goesOn 232 = .ok (.iconst 3, 1) := dk_6 (dk_at dksX13_goesOn_9 20 rfl rfl)
theorem dX13_goesOn_233 : decode cX13_goesOn 233 = .ok (.if_icmp .gt 32, 3) := dk_163 0 32 (dk_at dksX13_goesOn_9 21 rfl rfl)
theorem dX13_goesOn_236 : decode cX13_goesOn 236 = .ok (.aload_n 0, 1) := dk_42 (dk_at dksX13_goesOn_10 0 rfl rfl)
theorem dX13_goesOn_237 : decode cX13_goesOn 237 = .ok (.iconst 3, 1) := dk_6 (dk_at dksX13_goesOn_10 1 rfl rfl)
theorem dX13_goesOn_238 : decode cX13_goesOn 238 = .ok (.putfield 71, 3) := dk_181 0 71 (dk_at dksX13_goesOn_10 2 rfl rfl)
theorem dX13_goesOn_241 : decode cX13_goesOn 241 = .ok (.goto 24, 3) := dk_167 0 24 (dk_at dksX13_goesOn_10 5 rfl rfl)
theorem dX13_goesOn_244 : decode cX13_goesOn 244 = .ok (.iload_n 1, 1) := dk_27 (dk_at dksX13_goesOn_10 8 rfl rfl)
theorem dX13_goesOn_245 : decode cX13_goesOn 245 = .ok (.bipush 59, 2) := dk_16 59 (dk_at dksX13_goesOn_10 9 rfl rfl)
theorem dX13_goesOn_247 : decode cX13_goesOn 247 = .ok (.if_icmp .ne 18, 3) := dk_160 0 18 (dk_at dksX13_goesOn_10 11 rfl rfl)
theorem dX13_goesOn_250 : decode cX13_goesOn 250 = .ok (.aload_n 0, 1) := dk_42 (dk_at dksX13_goesOn_10 14 rfl rfl)
theorem dX13_goesOn_251 : decode cX13_goesOn 251 = .ok (.iconst 4, 1) := dk_7 (dk_at dksX13_goesOn_10 15 rfl rfl)
theorem dX13_goesOn_252 : decode cX13_goesOn 252 = .ok (.putfield 71, 3) := dk_181 0 71 (dk_at dksX13_goesOn_10 16 rfl rfl)
theorem dX13_goesOn_255 : decode cX13_goesOn 255 = .ok (.aload_n 0, 1) := dk_42 (dk_at dksX13_goesOn_10 19 rfl rfl)
theorem dX13_goesOn_256 : decode cX13_goesOn 256 = .ok (.dup, 1) := dk_89 (dk_at dksX13_goesOn_10 20 rfl rfl)
theorem dX13_goesOn_257 : decode cX13_goesOn 257 = .ok (.getfield 74, 3) := dk_180 0 74 (dk_at dksX13_goesOn_10 21 rfl rfl)
theorem dX13_goesOn_260 : decode cX13_goesOn 260 = .ok (.iconst 1, 1) := dk_4 (dk_at dksX13_goesOn_11 0 rfl rfl)
theorem dX13_goesOn_261 : decode cX13_goesOn 261 = .ok (.iadd, 1) := dk_96 (dk_at dksX13_goesOn_11 1 rfl rfl)
theorem dX13_goesOn_262 : decode cX13_goesOn 262 = .ok (.putfield 74, 3) := dk_181 0 74 (dk_at dksX13_goesOn_11 2 rfl rfl)
theorem dX13_goesOn_265 : decode cX13_goesOn 265 = .ok (.return_, 1) := dk_177 (dk_at dksX13_goesOn_11 5 rfl rfl)
abbrev cX13_byteAt : ByteArray := prog_27_method_13_code
def yX13_byteAt : MethodName := ⟨RX13, "byteAt", "(I)I"⟩
def dkwX13_byteAt_0 : List UInt8 := [27, 42, 180, 0, 56, 162, 0, 16, 42, 180, 0, 13, 27, 51, 17, 0, 255, 126, 167, 0, 4, 2, 172]
abbrev dktX13_byteAt_0 : List UInt8 := dkwX13_byteAt_0 ++ []
theorem dksX13_byteAt_0 : cX13_byteAt.data.toList.drop 0 = dktX13_byteAt_0 := by decide +kernel
theorem dX13_byteAt_0 : decode cX13_byteAt 0 = .ok (.iload_n 1, 1) := dk_27 (dk_at dksX13_byteAt_0 0 rfl rfl)
theorem dX13_byteAt_1 : decode cX13_byteAt 1 = .ok (.aload_n 0, 1) := dk_42 (dk_at dksX13_byteAt_0 1 rfl rfl)
theorem dX13_byteAt_2 : decode cX13_byteAt 2 = .ok (.getfield 56, 3) := dk_180 0 56 (dk_at dksX13_byteAt_0 2 rfl rfl)
theorem dX13_byteAt_5 : decode cX13_byteAt 5 = .ok (.if_icmp .ge 16, 3) := dk_162 0 16 (dk_at dksX13_byteAt_0 5 rfl rfl)
theorem dX13_byteAt_8 : decode cX13_byteAt 8 = .ok (.aload_n 0, 1) := dk_42 (dk_at dksX13_byteAt_0 8 rfl rfl)
theorem dX13_byteAt_9 : decode cX13_byteAt 9 = .ok (.getfield 13, 3) := dk_180 0 13 (dk_at dksX13_byteAt_0 9 rfl rfl)
theorem dX13_byteAt_12 : decode cX13_byteAt 12 = .ok (.iload_n 1, 1) := dk_27 (dk_at dksX13_byteAt_0 12 rfl rfl)
theorem dX13_byteAt_13 : decode cX13_byteAt 13 = .ok (.baload, 1) := dk_51 (dk_at dksX13_byteAt_0 13 rfl rfl)
theorem dX13_byteAt_14 : decode cX13_byteAt 14 = .ok (.sipush 255, 3) := dk_17 0 255 (dk_at dksX13_byteAt_0 14 rfl rfl)
theorem dX13_byteAt_17 : decode cX13_byteAt 17 = .ok (.iand, 1) := dk_126 (dk_at dksX13_byteAt_0 17 rfl rfl)
theorem dX13_byteAt_18 : decode cX13_byteAt 18 = .ok (.goto 4, 3) := dk_167 0 4 (dk_at dksX13_byteAt_0 18 rfl rfl)
theorem dX13_byteAt_21 : decode cX13_byteAt 21 = .ok (.iconst (-1), 1) := dk_2 (dk_at dksX13_byteAt_0 21 rfl rfl)
theorem dX13_byteAt_22 : decode cX13_byteAt 22 = .ok (.ireturn, 1) := dk_172 (dk_at dksX13_byteAt_0 22 rfl rfl)
abbrev cX13_isLetter : ByteArray := prog_27_method_14_code
def yX13_isLetter : MethodName := ⟨RX13, "isLetter", "(I)Z"⟩
def dkwX13_isLetter_0 : List UInt8 := [26, 16, 97, 161, 0, 13, 26, 16, 122, 163, 0, 7, 4, 167, 0, 4, 3, 172]
abbrev dktX13_isLetter_0 : List UInt8 := dkwX13_isLetter_0 ++ []
theorem dksX13_isLetter_0 : cX13_isLetter.data.toList.drop 0 = dktX13_isLetter_0 := by decide +kernel
theorem dX13_isLetter_0 : decode cX13_isLetter 0 = .ok (.iload_n 0, 1) := dk_26 (dk_at dksX13_isLetter_0 0 rfl rfl)
theorem dX13_isLetter_1 : decode cX13_isLetter 1 = .ok (.bipush 97, 2) := dk_16 97 (dk_at dksX13_isLetter_0 1 rfl rfl)
theorem dX13_isLetter_3 : decode cX13_isLetter 3 = .ok (.if_icmp .lt 13, 3) := dk_161 0 13 (dk_at dksX13_isLetter_0 3 rfl rfl)
theorem dX13_isLetter_6 : decode cX13_isLetter 6 = .ok (.iload_n 0, 1) := dk_26 (dk_at dksX13_isLetter_0 6 rfl rfl)
theorem dX13_isLetter_7 : decode cX13_isLetter 7 = .ok (.bipush 122, 2) := dk_16 122 (dk_at dksX13_isLetter_0 7 rfl rfl)
theorem dX13_isLetter_9 : decode cX13_isLetter 9 = .ok (.if_icmp .gt 7, 3) := dk_163 0 7 (dk_at dksX13_isLetter_0 9 rfl rfl)
theorem dX13_isLetter_12 : decode cX13_isLetter 12 = .ok (.iconst 1, 1) := dk_4 (dk_at dksX13_isLetter_0 12 rfl rfl)
theorem dX13_isLetter_13 : decode cX13_isLetter 13 = .ok (.goto 4, 3) := dk_167 0 4 (dk_at dksX13_isLetter_0 13 rfl rfl)
theorem dX13_isLetter_16 : decode cX13_isLetter 16 = .ok (.iconst 0, 1) := dk_3 (dk_at dksX13_isLetter_0 16 rfl rfl)
theorem dX13_isLetter_17 : decode cX13_isLetter 17 = .ok (.ireturn, 1) := dk_172 (dk_at dksX13_isLetter_0 17 rfl rfl)
abbrev cX13_isDigit : ByteArray := prog_27_method_15_code
def yX13_isDigit : MethodName := ⟨RX13, "isDigit", "(I)Z"⟩
def dkwX13_isDigit_0 : List UInt8 := [26, 16, 48, 161, 0, 13, 26, 16, 57, 163, 0, 7, 4, 167, 0, 4, 3, 172]
abbrev dktX13_isDigit_0 : List UInt8 := dkwX13_isDigit_0 ++ []
theorem dksX13_isDigit_0 : cX13_isDigit.data.toList.drop 0 = dktX13_isDigit_0 := by decide +kernel
theorem dX13_isDigit_0 : decode cX13_isDigit 0 = .ok (.iload_n 0, 1) := dk_26 (dk_at dksX13_isDigit_0 0 rfl rfl)
theorem dX13_isDigit_1 : decode cX13_isDigit 1 = .ok (.bipush 48, 2) := dk_16 48 (dk_at dksX13_isDigit_0 1 rfl rfl)
theorem dX13_isDigit_3 : decode cX13_isDigit 3 = .ok (.if_icmp .lt 13, 3) := dk_161 0 13 (dk_at dksX13_isDigit_0 3 rfl rfl)
theorem dX13_isDigit_6 : decode cX13_isDigit 6 = .ok (.iload_n 0, 1) := dk_26 (dk_at dksX13_isDigit_0 6 rfl rfl)
theorem dX13_isDigit_7 : decode cX13_isDigit 7 = .ok (.bipush 57, 2) := dk_16 57 (dk_at dksX13_isDigit_0 7 rfl rfl)
theorem dX13_isDigit_9 : decode cX13_isDigit 9 = .ok (.if_icmp .gt 7, 3) := dk_163 0 7 (dk_at dksX13_isDigit_0 9 rfl rfl)
theorem dX13_isDigit_12 : decode cX13_isDigit 12 = .ok (.iconst 1, 1) := dk_4 (dk_at dksX13_isDigit_0 12 rfl rfl)
theorem dX13_isDigit_13 : decode cX13_isDigit 13 = .ok (.goto 4, 3) := dk_167 0 4 (dk_at dksX13_isDigit_0 13 rfl rfl)
theorem dX13_isDigit_16 : decode cX13_isDigit 16 = .ok (.iconst 0, 1) := dk_3 (dk_at dksX13_isDigit_0 16 rfl rfl)
theorem dX13_isDigit_17 : decode cX13_isDigit 17 = .ok (.ireturn, 1) := dk_172 (dk_at dksX13_isDigit_0 17 rfl rfl)
abbrev cX13_readAll : ByteArray := prog_27_method_30_code
def yX13_readAll : MethodName := ⟨RX13, "readAll", "()V"⟩
def dkwX13_readAll_2 : List UInt8 := [180, 0, 194, 154, 0, 9, 42, 16, 6, 182, 0, 114, 177]
abbrev dktX13_readAll_2 : List UInt8 := dkwX13_readAll_2 ++ []
def dkwX13_readAll_1 : List UInt8 := [159, 0, 8, 42, 4, 182, 0, 114, 42, 180, 0, 152, 180, 0, 191, 153, 0, 13, 42, 180, 0, 152]
abbrev dktX13_readAll_1 : List UInt8 := dkwX13_readAll_1 ++ dktX13_readAll_2
def dkwX13_readAll_0 : List UInt8 := [4, 60, 27, 153, 0, 15, 42, 182, 0, 185, 42, 182, 0, 188, 60, 167, 255, 243, 42, 180, 0, 71, 4]
abbrev dktX13_readAll_0 : List UInt8 := dkwX13_readAll_0 ++ dktX13_readAll_1
theorem dksX13_readAll_0 : cX13_readAll.data.toList.drop 0 = dktX13_readAll_0 := by decide +kernel
theorem dksX13_readAll_1 : cX13_readAll.data.toList.drop 23 = dktX13_readAll_1 := dk_seg dksX13_readAll_0 23 rfl rfl
theorem dksX13_readAll_2 : cX13_readAll.data.toList.drop 45 = dktX13_readAll_2 := dk_seg dksX13_readAll_1 22 rfl rfl
theorem dX13_readAll_0 : decode cX13_readAll 0 = .ok (.iconst 1, 1) := dk_4 (dk_at dksX13_readAll_0 0 rfl rfl)
theorem dX13_readAll_1 : decode cX13_readAll 1 = .ok (.istore_n 1, 1) := dk_60 (dk_at dksX13_readAll_0 1 rfl rfl)
theorem dX13_readAll_2 : decode cX13_readAll 2 = .ok (.iload_n 1, 1) := dk_27 (dk_at dksX13_readAll_0 2 rfl rfl)
theorem dX13_readAll_3 : decode cX13_readAll 3 = .ok (.ifCond .eq 15, 3) := dk_153 0 15 (dk_at dksX13_readAll_0 3 rfl rfl)
theorem dX13_readAll_6 : decode cX13_readAll 6 = .ok (.aload_n 0, 1) := dk_42 (dk_at dksX13_readAll_0 6 rfl rfl)
theorem dX13_readAll_7 : decode cX13_readAll 7 = .ok (.invokevirtual 185, 3) := dk_182 0 185 (dk_at dksX13_readAll_0 7 rfl rfl)
theorem dX13_readAll_10 : decode cX13_readAll 10 = .ok (.aload_n 0, 1) := dk_42 (dk_at dksX13_readAll_0 10 rfl rfl)
theorem dX13_readAll_11 : decode cX13_readAll 11 = .ok (.invokevirtual 188, 3) := dk_182 0 188 (dk_at dksX13_readAll_0 11 rfl rfl)
theorem dX13_readAll_14 : decode cX13_readAll 14 = .ok (.istore_n 1, 1) := dk_60 (dk_at dksX13_readAll_0 14 rfl rfl)
theorem dX13_readAll_15 : decode cX13_readAll 15 = .ok (.goto (-13), 3) := dk_167 255 243 (dk_at dksX13_readAll_0 15 rfl rfl)
theorem dX13_readAll_18 : decode cX13_readAll 18 = .ok (.aload_n 0, 1) := dk_42 (dk_at dksX13_readAll_0 18 rfl rfl)
theorem dX13_readAll_19 : decode cX13_readAll 19 = .ok (.getfield 71, 3) := dk_180 0 71 (dk_at dksX13_readAll_0 19 rfl rfl)
theorem dX13_readAll_22 : decode cX13_readAll 22 = .ok (.iconst 1, 1) := dk_4 (dk_at dksX13_readAll_0 22 rfl rfl)
theorem dX13_readAll_23 : decode cX13_readAll 23 = .ok (.if_icmp .eq 8, 3) := dk_159 0 8 (dk_at dksX13_readAll_1 0 rfl rfl)
theorem dX13_readAll_26 : decode cX13_readAll 26 = .ok (.aload_n 0, 1) := dk_42 (dk_at dksX13_readAll_1 3 rfl rfl)
theorem dX13_readAll_27 : decode cX13_readAll 27 = .ok (.iconst 1, 1) := dk_4 (dk_at dksX13_readAll_1 4 rfl rfl)
theorem dX13_readAll_28 : decode cX13_readAll 28 = .ok (.invokevirtual 114, 3) := dk_182 0 114 (dk_at dksX13_readAll_1 5 rfl rfl)
theorem dX13_readAll_31 : decode cX13_readAll 31 = .ok (.aload_n 0, 1) := dk_42 (dk_at dksX13_readAll_1 8 rfl rfl)
theorem dX13_readAll_32 : decode cX13_readAll 32 = .ok (.getfield 152, 3) := dk_180 0 152 (dk_at dksX13_readAll_1 9 rfl rfl)
theorem dX13_readAll_35 : decode cX13_readAll 35 = .ok (.getfield 191, 3) := dk_180 0 191 (dk_at dksX13_readAll_1 12 rfl rfl)
theorem dX13_readAll_38 : decode cX13_readAll 38 = .ok (.ifCond .eq 13, 3) := dk_153 0 13 (dk_at dksX13_readAll_1 15 rfl rfl)
theorem dX13_readAll_41 : decode cX13_readAll 41 = .ok (.aload_n 0, 1) := dk_42 (dk_at dksX13_readAll_1 18 rfl rfl)
theorem dX13_readAll_42 : decode cX13_readAll 42 = .ok (.getfield 152, 3) := dk_180 0 152 (dk_at dksX13_readAll_1 19 rfl rfl)
theorem dX13_readAll_45 : decode cX13_readAll 45 = .ok (.getfield 194, 3) := dk_180 0 194 (dk_at dksX13_readAll_2 0 rfl rfl)
theorem dX13_readAll_48 : decode cX13_readAll 48 = .ok (.ifCond .ne 9, 3) := dk_154 0 9 (dk_at dksX13_readAll_2 3 rfl rfl)
theorem dX13_readAll_51 : decode cX13_readAll 51 = .ok (.aload_n 0, 1) := dk_42 (dk_at dksX13_readAll_2 6 rfl rfl)
theorem dX13_readAll_52 : decode cX13_readAll 52 = .ok (.bipush 6, 2) := dk_16 6 (dk_at dksX13_readAll_2 7 rfl rfl)
theorem dX13_readAll_54 : decode cX13_readAll 54 = .ok (.invokevirtual 114, 3) := dk_182 0 114 (dk_at dksX13_readAll_2 9 rfl rfl)
theorem dX13_readAll_57 : decode cX13_readAll 57 = .ok (.return_, 1) := dk_177 (dk_at dksX13_readAll_2 12 rfl rfl)
abbrev cX13_readLine : ByteArray := prog_27_method_31_code
def yX13_readLine : MethodName := ⟨RX13, "readLine", "()V"⟩
def dkwX13_readLine_6 : List UInt8 := [42, 182, 0, 221, 167, 0, 8, 42, 4, 182, 0, 114, 177]
abbrev dktX13_readLine_6 : List UInt8 := dkwX13_readLine_6 ++ []
def dkwX13_readLine_5 : List UInt8 := [18, 144, 182, 0, 110, 153, 0, 10, 42, 182, 0, 218, 167, 0, 24, 42, 18, 146, 182, 0, 110, 153, 0, 10]
abbrev dktX13_readLine_5 : List UInt8 := dkwX13_readLine_5 ++ dktX13_readLine_6
def dkwX13_readLine_4 : List UInt8 := [182, 0, 212, 167, 0, 56, 42, 18, 142, 182, 0, 110, 153, 0, 10, 42, 182, 0, 215, 167, 0, 40, 42]
abbrev dktX13_readLine_4 : List UInt8 := dkwX13_readLine_4 ++ dktX13_readLine_5
def dkwX13_readLine_3 : List UInt8 := [182, 0, 110, 153, 0, 10, 42, 182, 0, 209, 167, 0, 72, 42, 18, 140, 182, 0, 110, 153, 0, 10, 42]
abbrev dktX13_readLine_3 : List UInt8 := dkwX13_readLine_3 ++ dktX13_readLine_4
def dkwX13_readLine_2 : List UInt8 := [167, 0, 104, 42, 18, 136, 182, 0, 110, 153, 0, 10, 42, 182, 0, 206, 167, 0, 88, 42, 18, 138]
abbrev dktX13_readLine_2 : List UInt8 := dkwX13_readLine_2 ++ dktX13_readLine_3
def dkwX13_readLine_1 : List UInt8 := [153, 0, 10, 42, 182, 0, 200, 167, 0, 120, 42, 18, 134, 182, 0, 110, 153, 0, 10, 42, 182, 0, 203]
abbrev dktX13_readLine_1 : List UInt8 := dkwX13_readLine_1 ++ dktX13_readLine_2
def dkwX13_readLine_0 : List UInt8 := [42, 18, 130, 182, 0, 110, 153, 0, 10, 42, 182, 0, 197, 167, 0, 136, 42, 18, 132, 182, 0, 110]
abbrev dktX13_readLine_0 : List UInt8 := dkwX13_readLine_0 ++ dktX13_readLine_1
theorem dksX13_readLine_0 : cX13_readLine.data.toList.drop 0 = dktX13_readLine_0 := by decide +kernel
theorem dksX13_readLine_1 : cX13_readLine.data.toList.drop 22 = dktX13_readLine_1 := dk_seg dksX13_readLine_0 22 rfl rfl
theorem dksX13_readLine_2 : cX13_readLine.data.toList.drop 45 = dktX13_readLine_2 := dk_seg dksX13_readLine_1 23 rfl rfl
theorem dksX13_readLine_3 : cX13_readLine.data.toList.drop 67 = dktX13_readLine_3 := dk_seg dksX13_readLine_2 22 rfl rfl
theorem dksX13_readLine_4 : cX13_readLine.data.toList.drop 90 = dktX13_readLine_4 := dk_seg dksX13_readLine_3 23 rfl rfl
theorem dksX13_readLine_5 : cX13_readLine.data.toList.drop 113 = dktX13_readLine_5 := dk_seg dksX13_readLine_4 23 rfl rfl
theorem dksX13_readLine_6 : cX13_readLine.data.toList.drop 137 = dktX13_readLine_6 := dk_seg dksX13_readLine_5 24 rfl rfl
theorem dX13_readLine_0 : decode cX13_readLine 0 = .ok (.aload_n 0, 1) := dk_42 (dk_at dksX13_readLine_0 0 rfl rfl)
theorem dX13_readLine_1 : decode cX13_readLine 1 = .ok (.ldc 130, 2) := dk_18 130 (dk_at dksX13_readLine_0 1 rfl rfl)
theorem dX13_readLine_3 : decode cX13_readLine 3 = .ok (.invokevirtual 110, 3) := dk_182 0 110 (dk_at dksX13_readLine_0 3 rfl rfl)
theorem dX13_readLine_6 : decode cX13_readLine 6 = .ok (.ifCond .eq 10, 3) := dk_153 0 10 (dk_at dksX13_readLine_0 6 rfl rfl)
theorem dX13_readLine_9 : decode cX13_readLine 9 = .ok (.aload_n 0, 1) := dk_42 (dk_at dksX13_readLine_0 9 rfl rfl)
theorem dX13_readLine_10 : decode cX13_readLine 10 = .ok (.invokevirtual 197, 3) := dk_182 0 197 (dk_at dksX13_readLine_0 10 rfl rfl)
theorem dX13_readLine_13 : decode cX13_readLine 13 = .ok (.goto 136, 3) := dk_167 0 136 (dk_at dksX13_readLine_0 13 rfl rfl)
theorem dX13_readLine_16 : decode cX13_readLine 16 = .ok (.aload_n 0, 1) := dk_42 (dk_at dksX13_readLine_0 16 rfl rfl)
theorem dX13_readLine_17 : decode cX13_readLine 17 = .ok (.ldc 132, 2) := dk_18 132 (dk_at dksX13_readLine_0 17 rfl rfl)
theorem dX13_readLine_19 : decode cX13_readLine 19 = .ok (.invokevirtual 110, 3) := dk_182 0 110 (dk_at dksX13_readLine_0 19 rfl rfl)
theorem dX13_readLine_22 : decode cX13_readLine 22 = .ok (.ifCond .eq 10, 3) := dk_153 0 10 (dk_at dksX13_readLine_1 0 rfl rfl)
theorem dX13_readLine_25 : decode cX13_readLine 25 = .ok (.aload_n 0, 1) := dk_42 (dk_at dksX13_readLine_1 3 rfl rfl)
theorem dX13_readLine_26 : decode cX13_readLine 26 = .ok (.invokevirtual 200, 3) := dk_182 0 200 (dk_at dksX13_readLine_1 4 rfl rfl)
theorem dX13_readLine_29 : decode cX13_readLine 29 = .ok (.goto 120, 3) := dk_167 0 120 (dk_at dksX13_readLine_1 7 rfl rfl)
theorem dX13_readLine_32 : decode cX13_readLine 32 = .ok (.aload_n 0, 1) := dk_42 (dk_at dksX13_readLine_1 10 rfl rfl)
theorem dX13_readLine_33 : decode cX13_readLine 33 = .ok (.ldc 134, 2) := dk_18 134 (dk_at dksX13_readLine_1 11 rfl rfl)
theorem dX13_readLine_35 : decode cX13_readLine 35 = .ok (.invokevirtual 110, 3) := dk_182 0 110 (dk_at dksX13_readLine_1 13 rfl rfl)
theorem dX13_readLine_38 : decode cX13_readLine 38 = .ok (.ifCond .eq 10, 3) := dk_153 0 10 (dk_at dksX13_readLine_1 16 rfl rfl)
theorem dX13_readLine_41 : decode cX13_readLine 41 = .ok (.aload_n 0, 1) := dk_42 (dk_at dksX13_readLine_1 19 rfl rfl)
theorem dX13_readLine_42 : decode cX13_readLine 42 = .ok (.invokevirtual 203, 3) := dk_182 0 203 (dk_at dksX13_readLine_1 20 rfl rfl)
theorem dX13_readLine_45 : decode cX13_readLine 45 = .ok (.goto 104, 3) := dk_167 0 104 (dk_at dksX13_readLine_2 0 rfl rfl)
theorem dX13_readLine_48 : decode cX13_readLine 48 = .ok (.aload_n 0, 1) := dk_42 (dk_at dksX13_readLine_2 3 rfl rfl)
theorem dX13_readLine_49 : decode cX13_readLine 49 = .ok (.ldc 136, 2) := dk_18 136 (dk_at dksX13_readLine_2 4 rfl rfl)
theorem dX13_readLine_51 : decode cX13_readLine 51 = .ok (.invokevirtual 110, 3) := dk_182 0 110 (dk_at dksX13_readLine_2 6 rfl rfl)
theorem dX13_readLine_54 : decode cX13_readLine 54 = .ok (.ifCond .eq 10, 3) := dk_153 0 10 (dk_at dksX13_readLine_2 9 rfl rfl)
theorem dX13_readLine_57 : decode cX13_readLine 57 = .ok (.aload_n 0, 1) := dk_42 (dk_at dksX13_readLine_2 12 rfl rfl)
theorem dX13_readLine_58 : decode cX13_readLine 58 = .ok (.invokevirtual 206, 3) := dk_182 0 206 (dk_at dksX13_readLine_2 13 rfl rfl)
theorem dX13_readLine_61 : decode cX13_readLine 61 = .ok (.goto 88, 3) := dk_167 0 88 (dk_at dksX13_readLine_2 16 rfl rfl)
theorem dX13_readLine_64 : decode cX13_readLine 64 = .ok (.aload_n 0, 1) := dk_42 (dk_at dksX13_readLine_2 19 rfl rfl)
theorem dX13_readLine_65 : decode cX13_readLine 65 = .ok (.ldc 138, 2) := dk_18 138 (dk_at dksX13_readLine_2 20 rfl rfl)
theorem dX13_readLine_67 : decode cX13_readLine 67 = .ok (.invokevirtual 110, 3) := dk_182 0 110 (dk_at dksX13_readLine_3 0 rfl rfl)
theorem dX13_readLine_70 : decode cX13_readLine 70 = .ok (.ifCond .eq 10, 3) := dk_153 0 10 (dk_at dksX13_readLine_3 3 rfl rfl)
theorem dX13_readLine_73 : decode cX13_readLine 73 = .ok (.aload_n 0, 1) := dk_42 (dk_at dksX13_readLine_3 6 rfl rfl)
theorem dX13_readLine_74 : decode cX13_readLine 74 = .ok (.invokevirtual 209, 3) := dk_182 0 209 (dk_at dksX13_readLine_3 7 rfl rfl)
theorem dX13_readLine_77 : decode cX13_readLine 77 = .ok (.goto 72, 3) := dk_167 0 72 (dk_at dksX13_readLine_3 10 rfl rfl)
theorem dX13_readLine_80 : decode cX13_readLine 80 = .ok (.aload_n 0, 1) := dk_42 (dk_at dksX13_readLine_3 13 rfl rfl)
theorem dX13_readLine_81 : decode cX13_readLine 81 = .ok (.ldc 140, 2) := dk_18 140 (dk_at dksX13_readLine_3 14 rfl rfl)
theorem dX13_readLine_83 : decode cX13_readLine 83 = .ok (.invokevirtual 110, 3) := dk_182 0 110 (dk_at dksX13_readLine_3 16 rfl rfl)
theorem dX13_readLine_86 : decode cX13_readLine 86 = .ok (.ifCond .eq 10, 3) := dk_153 0 10 (dk_at dksX13_readLine_3 19 rfl rfl)
theorem dX13_readLine_89 : decode cX13_readLine 89 = .ok (.aload_n 0, 1) := dk_42 (dk_at dksX13_readLine_3 22 rfl rfl)
theorem dX13_readLine_90 : decode cX13_readLine 90 = .ok (.invokevirtual 212, 3) := dk_182 0 212 (dk_at dksX13_readLine_4 0 rfl rfl)
theorem dX13_readLine_93 : decode cX13_readLine 93 = .ok (.goto 56, 3) := dk_167 0 56 (dk_at dksX13_readLine_4 3 rfl rfl)
theorem dX13_readLine_96 : decode cX13_readLine 96 = .ok (.aload_n 0, 1) := dk_42 (dk_at dksX13_readLine_4 6 rfl rfl)
theorem dX13_readLine_97 : decode cX13_readLine 97 = .ok (.ldc 142, 2) := dk_18 142 (dk_at dksX13_readLine_4 7 rfl rfl)
theorem dX13_readLine_99 : decode cX13_readLine 99 = .ok (.invokevirtual 110, 3) := dk_182 0 110 (dk_at dksX13_readLine_4 9 rfl rfl)
theorem dX13_readLine_102 : decode cX13_readLine 102 = .ok (.ifCond .eq 10, 3) := dk_153 0 10 (dk_at dksX13_readLine_4 12 rfl rfl)
theorem dX13_readLine_105 : decode cX13_readLine 105 = .ok (.aload_n 0, 1) := dk_42 (dk_at dksX13_readLine_4 15 rfl rfl)
theorem dX13_readLine_106 : decode cX13_readLine 106 = .ok (.invokevirtual 215, 3) := dk_182 0 215 (dk_at dksX13_readLine_4 16 rfl rfl)
theorem dX13_readLine_109 : decode cX13_readLine 109 = .ok (.goto 40, 3) := dk_167 0 40 (dk_at dksX13_readLine_4 19 rfl rfl)
theorem dX13_readLine_112 : decode cX13_readLine 112 = .ok (.aload_n 0, 1) := dk_42 (dk_at dksX13_readLine_4 22 rfl rfl)
theorem dX13_readLine_113 : decode cX13_readLine 113 = .ok (.ldc 144, 2) := dk_18 144 (dk_at dksX13_readLine_5 0 rfl rfl)
theorem dX13_readLine_115 : decode cX13_readLine 115 = .ok (.invokevirtual 110, 3) := dk_182 0 110 (dk_at dksX13_readLine_5 2 rfl rfl)
theorem dX13_readLine_118 : decode cX13_readLine 118 = .ok (.ifCond .eq 10, 3) := dk_153 0 10 (dk_at dksX13_readLine_5 5 rfl rfl)
theorem dX13_readLine_121 : decode cX13_readLine 121 = .ok (.aload_n 0, 1) := dk_42 (dk_at dksX13_readLine_5 8 rfl rfl)
theorem dX13_readLine_122 : decode cX13_readLine 122 = .ok (.invokevirtual 218, 3) := dk_182 0 218 (dk_at dksX13_readLine_5 9 rfl rfl)
theorem dX13_readLine_125 : decode cX13_readLine 125 = .ok (.goto 24, 3) := dk_167 0 24 (dk_at dksX13_readLine_5 12 rfl rfl)
theorem dX13_readLine_128 : decode cX13_readLine 128 = .ok (.aload_n 0, 1) := dk_42 (dk_at dksX13_readLine_5 15 rfl rfl)
theorem dX13_readLine_129 : decode cX13_readLine 129 = .ok (.ldc 146, 2) := dk_18 146 (dk_at dksX13_readLine_5 16 rfl rfl)
theorem dX13_readLine_131 : decode cX13_readLine 131 = .ok (.invokevirtual 110, 3) := dk_182 0 110 (dk_at dksX13_readLine_5 18 rfl rfl)
theorem dX13_readLine_134 : decode cX13_readLine 134 = .ok (.ifCond .eq 10, 3) := dk_153 0 10 (dk_at dksX13_readLine_5 21 rfl rfl)
theorem dX13_readLine_137 : decode cX13_readLine 137 = .ok (.aload_n 0, 1) := dk_42 (dk_at dksX13_readLine_6 0 rfl rfl)
theorem dX13_readLine_138 : decode cX13_readLine 138 = .ok (.invokevirtual 221, 3) := dk_182 0 221 (dk_at dksX13_readLine_6 1 rfl rfl)
theorem dX13_readLine_141 : decode cX13_readLine 141 = .ok (.goto 8, 3) := dk_167 0 8 (dk_at dksX13_readLine_6 4 rfl rfl)
theorem dX13_readLine_144 : decode cX13_readLine 144 = .ok (.aload_n 0, 1) := dk_42 (dk_at dksX13_readLine_6 7 rfl rfl)
theorem dX13_readLine_145 : decode cX13_readLine 145 = .ok (.iconst 1, 1) := dk_4 (dk_at dksX13_readLine_6 8 rfl rfl)
theorem dX13_readLine_146 : decode cX13_readLine 146 = .ok (.invokevirtual 114, 3) := dk_182 0 114 (dk_at dksX13_readLine_6 9 rfl rfl)
theorem dX13_readLine_149 : decode cX13_readLine 149 = .ok (.return_, 1) := dk_177 (dk_at dksX13_readLine_6 12 rfl rfl)
abbrev cX13_isWord : ByteArray := prog_27_method_19_code
def yX13_isWord : MethodName := ⟨RX13, "isWord", "(Ljava/lang/String;)Z"⟩
def dkwX13_isWord_1 : List UInt8 := [3, 172]
abbrev dktX13_isWord_1 : List UInt8 := dkwX13_isWord_1 ++ []
def dkwX13_isWord_0 : List UInt8 := [42, 180, 0, 71, 5, 160, 0, 19, 42, 180, 0, 87, 43, 184, 0, 103, 148, 154, 0, 7, 4, 167, 0, 4]
abbrev dktX13_isWord_0 : List UInt8 := dkwX13_isWord_0 ++ dktX13_isWord_1
theorem dksX13_isWord_0 : cX13_isWord.data.toList.drop 0 = dktX13_isWord_0 := by decide +kernel
theorem dksX13_isWord_1 : cX13_isWord.data.toList.drop 24 = dktX13_isWord_1 := dk_seg dksX13_isWord_0 24 rfl rfl
theorem dX13_isWord_0 : decode cX13_isWord 0 = .ok (.aload_n 0, 1) := dk_42 (dk_at dksX13_isWord_0 0 rfl rfl)
theorem dX13_isWord_1 : decode cX13_isWord 1 = .ok (.getfield 71, 3) := dk_180 0 71 (dk_at dksX13_isWord_0 1 rfl rfl)
theorem dX13_isWord_4 : decode cX13_isWord 4 = .ok (.iconst 2, 1) := dk_5 (dk_at dksX13_isWord_0 4 rfl rfl)
theorem dX13_isWord_5 : decode cX13_isWord 5 = .ok (.if_icmp .ne 19, 3) := dk_160 0 19 (dk_at dksX13_isWord_0 5 rfl rfl)
theorem dX13_isWord_8 : decode cX13_isWord 8 = .ok (.aload_n 0, 1) := dk_42 (dk_at dksX13_isWord_0 8 rfl rfl)
theorem dX13_isWord_9 : decode cX13_isWord 9 = .ok (.getfield 87, 3) := dk_180 0 87 (dk_at dksX13_isWord_0 9 rfl rfl)
theorem dX13_isWord_12 : decode cX13_isWord 12 = .ok (.aload_n 1, 1) := dk_43 (dk_at dksX13_isWord_0 12 rfl rfl)
theorem dX13_isWord_13 : decode cX13_isWord 13 = .ok (.invokestatic 103, 3) := dk_184 0 103 (dk_at dksX13_isWord_0 13 rfl rfl)
theorem dX13_isWord_16 : decode cX13_isWord 16 = .ok (.lcmp, 1) := dk_148 (dk_at dksX13_isWord_0 16 rfl rfl)
theorem dX13_isWord_17 : decode cX13_isWord 17 = .ok (.ifCond .ne 7, 3) := dk_154 0 7 (dk_at dksX13_isWord_0 17 rfl rfl)
theorem dX13_isWord_20 : decode cX13_isWord 20 = .ok (.iconst 1, 1) := dk_4 (dk_at dksX13_isWord_0 20 rfl rfl)
theorem dX13_isWord_21 : decode cX13_isWord 21 = .ok (.goto 4, 3) := dk_167 0 4 (dk_at dksX13_isWord_0 21 rfl rfl)
theorem dX13_isWord_24 : decode cX13_isWord 24 = .ok (.iconst 0, 1) := dk_3 (dk_at dksX13_isWord_1 0 rfl rfl)
theorem dX13_isWord_25 : decode cX13_isWord 25 = .ok (.ireturn, 1) := dk_172 (dk_at dksX13_isWord_1 1 rfl rfl)
abbrev cX13_packed : ByteArray := prog_27_method_16_code
def yX13_packed : MethodName := ⟨RX13, "packed", "(Ljava/lang/String;)J"⟩
def dkwX13_packed_1 : List UInt8 := [100, 4, 96, 133, 97, 64, 132, 3, 1, 167, 255, 227, 31, 173]
abbrev dktX13_packed_1 : List UInt8 := dkwX13_packed_1 ++ []
def dkwX13_packed_0 : List UInt8 := [9, 64, 3, 62, 29, 42, 182, 0, 59, 162, 0, 27, 20, 0, 65, 31, 105, 42, 29, 182, 0, 67, 16, 97]
abbrev dktX13_packed_0 : List UInt8 := dkwX13_packed_0 ++ dktX13_packed_1
theorem dksX13_packed_0 : cX13_packed.data.toList.drop 0 = dktX13_packed_0 := by decide +kernel
theorem dksX13_packed_1 : cX13_packed.data.toList.drop 24 = dktX13_packed_1 := dk_seg dksX13_packed_0 24 rfl rfl
theorem dX13_packed_0 : decode cX13_packed 0 = .ok (.lconst 0, 1) := dk_9 (dk_at dksX13_packed_0 0 rfl rfl)
theorem dX13_packed_1 : decode cX13_packed 1 = .ok (.lstore_n 1, 1) := dk_64 (dk_at dksX13_packed_0 1 rfl rfl)
theorem dX13_packed_2 : decode cX13_packed 2 = .ok (.iconst 0, 1) := dk_3 (dk_at dksX13_packed_0 2 rfl rfl)
theorem dX13_packed_3 : decode cX13_packed 3 = .ok (.istore_n 3, 1) := dk_62 (dk_at dksX13_packed_0 3 rfl rfl)
theorem dX13_packed_4 : decode cX13_packed 4 = .ok (.iload_n 3, 1) := dk_29 (dk_at dksX13_packed_0 4 rfl rfl)
theorem dX13_packed_5 : decode cX13_packed 5 = .ok (.aload_n 0, 1) := dk_42 (dk_at dksX13_packed_0 5 rfl rfl)
theorem dX13_packed_6 : decode cX13_packed 6 = .ok (.invokevirtual 59, 3) := dk_182 0 59 (dk_at dksX13_packed_0 6 rfl rfl)
theorem dX13_packed_9 : decode cX13_packed 9 = .ok (.if_icmp .ge 27, 3) := dk_162 0 27 (dk_at dksX13_packed_0 9 rfl rfl)
theorem dX13_packed_12 : decode cX13_packed 12 = .ok (.ldc2_w 65, 3) := dk_20 0 65 (dk_at dksX13_packed_0 12 rfl rfl)
theorem dX13_packed_15 : decode cX13_packed 15 = .ok (.lload_n 1, 1) := dk_31 (dk_at dksX13_packed_0 15 rfl rfl)
theorem dX13_packed_16 : decode cX13_packed 16 = .ok (.lmul, 1) := dk_105 (dk_at dksX13_packed_0 16 rfl rfl)
theorem dX13_packed_17 : decode cX13_packed 17 = .ok (.aload_n 0, 1) := dk_42 (dk_at dksX13_packed_0 17 rfl rfl)
theorem dX13_packed_18 : decode cX13_packed 18 = .ok (.iload_n 3, 1) := dk_29 (dk_at dksX13_packed_0 18 rfl rfl)
theorem dX13_packed_19 : decode cX13_packed 19 = .ok (.invokevirtual 67, 3) := dk_182 0 67 (dk_at dksX13_packed_0 19 rfl rfl)
theorem dX13_packed_22 : decode cX13_packed 22 = .ok (.bipush 97, 2) := dk_16 97 (dk_at dksX13_packed_0 22 rfl rfl)
theorem dX13_packed_24 : decode cX13_packed 24 = .ok (.isub, 1) := dk_100 (dk_at dksX13_packed_1 0 rfl rfl)
theorem dX13_packed_25 : decode cX13_packed 25 = .ok (.iconst 1, 1) := dk_4 (dk_at dksX13_packed_1 1 rfl rfl)
theorem dX13_packed_26 : decode cX13_packed 26 = .ok (.iadd, 1) := dk_96 (dk_at dksX13_packed_1 2 rfl rfl)
theorem dX13_packed_27 : decode cX13_packed 27 = .ok (.i2l, 1) := dk_133 (dk_at dksX13_packed_1 3 rfl rfl)
theorem dX13_packed_28 : decode cX13_packed 28 = .ok (.ladd, 1) := dk_97 (dk_at dksX13_packed_1 4 rfl rfl)
theorem dX13_packed_29 : decode cX13_packed 29 = .ok (.lstore_n 1, 1) := dk_64 (dk_at dksX13_packed_1 5 rfl rfl)
theorem dX13_packed_30 : decode cX13_packed 30 = .ok (.iinc 3 1, 3) := dk_132 3 1 (dk_at dksX13_packed_1 6 rfl rfl)
theorem dX13_packed_33 : decode cX13_packed 33 = .ok (.goto (-29), 3) := dk_167 255 227 (dk_at dksX13_packed_1 9 rfl rfl)
theorem dX13_packed_36 : decode cX13_packed 36 = .ok (.lload_n 1, 1) := dk_31 (dk_at dksX13_packed_1 12 rfl rfl)
theorem dX13_packed_37 : decode cX13_packed 37 = .ok (.lreturn, 1) := dk_173 (dk_at dksX13_packed_1 13 rfl rfl)
abbrev cX13_readBarrier : ByteArray := prog_27_method_32_code
def yX13_readBarrier : MethodName := ⟨RX13, "readBarrier", "()V"⟩
def dkwX13_readBarrier_2 : List UInt8 := [177, 42, 180, 0, 152, 27, 181, 0, 156, 42, 180, 0, 152, 28, 181, 0, 231, 177]
abbrev dktX13_readBarrier_2 : List UInt8 := dkwX13_readBarrier_2 ++ []
def dkwX13_readBarrier_1 : List UInt8 := [16, 9, 182, 0, 225, 60, 42, 18, 229, 3, 16, 50, 182, 0, 225, 61, 42, 180, 0, 71, 8, 160, 0, 4]
abbrev dktX13_readBarrier_1 : List UInt8 := dkwX13_readBarrier_1 ++ dktX13_readBarrier_2
def dkwX13_readBarrier_0 : List UInt8 := [42, 180, 0, 152, 180, 0, 156, 2, 159, 0, 8, 42, 6, 182, 0, 114, 42, 182, 0, 107, 42, 18, 224, 3]
abbrev dktX13_readBarrier_0 : List UInt8 := dkwX13_readBarrier_0 ++ dktX13_readBarrier_1
theorem dksX13_readBarrier_0 : cX13_readBarrier.data.toList.drop 0 = dktX13_readBarrier_0 := by decide +kernel
theorem dksX13_readBarrier_1 : cX13_readBarrier.data.toList.drop 24 = dktX13_readBarrier_1 := dk_seg dksX13_readBarrier_0 24 rfl rfl
theorem dksX13_readBarrier_2 : cX13_readBarrier.data.toList.drop 48 = dktX13_readBarrier_2 := dk_seg dksX13_readBarrier_1 24 rfl rfl
theorem dX13_readBarrier_0 : decode cX13_readBarrier 0 = .ok (.aload_n 0, 1) := dk_42 (dk_at dksX13_readBarrier_0 0 rfl rfl)
theorem dX13_readBarrier_1 : decode cX13_readBarrier 1 = .ok (.getfield 152, 3) := dk_180 0 152 (dk_at dksX13_readBarrier_0 1 rfl rfl)
theorem dX13_readBarrier_4 : decode cX13_readBarrier 4 = .ok (.getfield 156, 3) := dk_180 0 156 (dk_at dksX13_readBarrier_0 4 rfl rfl)
theorem dX13_readBarrier_7 : decode cX13_readBarrier 7 = .ok (.iconst (-1), 1) := dk_2 (dk_at dksX13_readBarrier_0 7 rfl rfl)
theorem dX13_readBarrier_8 : decode cX13_readBarrier 8 = .ok (.if_icmp .eq 8, 3) := dk_159 0 8 (dk_at dksX13_readBarrier_0 8 rfl rfl)
theorem dX13_readBarrier_11 : decode cX13_readBarrier 11 = .ok (.aload_n 0, 1) := dk_42 (dk_at dksX13_readBarrier_0 11 rfl rfl)
theorem dX13_readBarrier_12 : decode cX13_readBarrier 12 = .ok (.iconst 3, 1) := dk_6 (dk_at dksX13_readBarrier_0 12 rfl rfl)
theorem dX13_readBarrier_13 : decode cX13_readBarrier 13 = .ok (.invokevirtual 114, 3) := dk_182 0 114 (dk_at dksX13_readBarrier_0 13 rfl rfl)
theorem dX13_readBarrier_16 : decode cX13_readBarrier 16 = .ok (.aload_n 0, 1) := dk_42 (dk_at dksX13_readBarrier_0 16 rfl rfl)
theorem dX13_readBarrier_17 : decode cX13_readBarrier 17 = .ok (.invokevirtual 107, 3) := dk_182 0 107 (dk_at dksX13_readBarrier_0 17 rfl rfl)
theorem dX13_readBarrier_20 : decode cX13_readBarrier 20 = .ok (.aload_n 0, 1) := dk_42 (dk_at dksX13_readBarrier_0 20 rfl rfl)
theorem dX13_readBarrier_21 : decode cX13_readBarrier 21 = .ok (.ldc 224, 2) := dk_18 224 (dk_at dksX13_readBarrier_0 21 rfl rfl)
theorem dX13_readBarrier_23 : decode cX13_readBarrier 23 = .ok (.iconst 0, 1) := dk_3 (dk_at dksX13_readBarrier_0 23 rfl rfl)
theorem dX13_readBarrier_24 : decode cX13_readBarrier 24 = .ok (.bipush 9, 2) := dk_16 9 (dk_at dksX13_readBarrier_1 0 rfl rfl)
theorem dX13_readBarrier_26 : decode cX13_readBarrier 26 = .ok (.invokevirtual 225, 3) := dk_182 0 225 (dk_at dksX13_readBarrier_1 2 rfl rfl)
theorem dX13_readBarrier_29 : decode cX13_readBarrier 29 = .ok (.istore_n 1, 1) := dk_60 (dk_at dksX13_readBarrier_1 5 rfl rfl)
theorem dX13_readBarrier_30 : decode cX13_readBarrier 30 = .ok (.aload_n 0, 1) := dk_42 (dk_at dksX13_readBarrier_1 6 rfl rfl)
theorem dX13_readBarrier_31 : decode cX13_readBarrier 31 = .ok (.ldc 229, 2) := dk_18 229 (dk_at dksX13_readBarrier_1 7 rfl rfl)
theorem dX13_readBarrier_33 : decode cX13_readBarrier 33 = .ok (.iconst 0, 1) := dk_3 (dk_at dksX13_readBarrier_1 9 rfl rfl)
theorem dX13_readBarrier_34 : decode cX13_readBarrier 34 = .ok (.bipush 50, 2) := dk_16 50 (dk_at dksX13_readBarrier_1 10 rfl rfl)
theorem dX13_readBarrier_36 : decode cX13_readBarrier 36 = .ok (.invokevirtual 225, 3) := dk_182 0 225 (dk_at dksX13_readBarrier_1 12 rfl rfl)
theorem dX13_readBarrier_39 : decode cX13_readBarrier 39 = .ok (.istore_n 2, 1) := dk_61 (dk_at dksX13_readBarrier_1 15 rfl rfl)
theorem dX13_readBarrier_40 : decode cX13_readBarrier 40 = .ok (.aload_n 0, 1) := dk_42 (dk_at dksX13_readBarrier_1 16 rfl rfl)
theorem dX13_readBarrier_41 : decode cX13_readBarrier 41 = .ok (.getfield 71, 3) := dk_180 0 71 (dk_at dksX13_readBarrier_1 17 rfl rfl)
theorem dX13_readBarrier_44 : decode cX13_readBarrier 44 = .ok (.iconst 5, 1) := dk_8 (dk_at dksX13_readBarrier_1 20 rfl rfl)
theorem dX13_readBarrier_45 : decode cX13_readBarrier 45 = .ok (.if_icmp .ne 4, 3) := dk_160 0 4 (dk_at dksX13_readBarrier_1 21 rfl rfl)
theorem dX13_readBarrier_48 : decode cX13_readBarrier 48 = .ok (.return_, 1) := dk_177 (dk_at dksX13_readBarrier_2 0 rfl rfl)
theorem dX13_readBarrier_49 : decode cX13_readBarrier 49 = .ok (.aload_n 0, 1) := dk_42 (dk_at dksX13_readBarrier_2 1 rfl rfl)
theorem dX13_readBarrier_50 : decode cX13_readBarrier 50 = .ok (.getfield 152, 3) := dk_180 0 152 (dk_at dksX13_readBarrier_2 2 rfl rfl)
theorem dX13_readBarrier_53 : decode cX13_readBarrier 53 = .ok (.iload_n 1, 1) := dk_27 (dk_at dksX13_readBarrier_2 5 rfl rfl)
theorem dX13_readBarrier_54 : decode cX13_readBarrier 54 = .ok (.putfield 156, 3) := dk_181 0 156 (dk_at dksX13_readBarrier_2 6 rfl rfl)
theorem dX13_readBarrier_57 : decode cX13_readBarrier 57 = .ok (.aload_n 0, 1) := dk_42 (dk_at dksX13_readBarrier_2 9 rfl rfl)
theorem dX13_readBarrier_58 : decode cX13_readBarrier 58 = .ok (.getfield 152, 3) := dk_180 0 152 (dk_at dksX13_readBarrier_2 10 rfl rfl)
theorem dX13_readBarrier_61 : decode cX13_readBarrier 61 = .ok (.iload_n 2, 1) := dk_28 (dk_at dksX13_readBarrier_2 13 rfl rfl)
theorem dX13_readBarrier_62 : decode cX13_readBarrier 62 = .ok (.putfield 231, 3) := dk_181 0 231 (dk_at dksX13_readBarrier_2 14 rfl rfl)
theorem dX13_readBarrier_65 : decode cX13_readBarrier 65 = .ok (.return_, 1) := dk_177 (dk_at dksX13_readBarrier_2 17 rfl rfl)
abbrev cX13_flaw : ByteArray := prog_27_method_18_code
def yX13_flaw : MethodName := ⟨RX13, "flaw", "(I)V"⟩
def dkwX13_flaw_1 : List UInt8 := [181, 0, 71, 177]
abbrev dktX13_flaw_1 : List UInt8 := dkwX13_flaw_1 ++ []
def dkwX13_flaw_0 : List UInt8 := [42, 180, 0, 71, 8, 160, 0, 4, 177, 42, 27, 181, 0, 97, 42, 42, 180, 0, 80, 181, 0, 100, 42, 8]
abbrev dktX13_flaw_0 : List UInt8 := dkwX13_flaw_0 ++ dktX13_flaw_1
theorem dksX13_flaw_0 : cX13_flaw.data.toList.drop 0 = dktX13_flaw_0 := by decide +kernel
theorem dksX13_flaw_1 : cX13_flaw.data.toList.drop 24 = dktX13_flaw_1 := dk_seg dksX13_flaw_0 24 rfl rfl
theorem dX13_flaw_0 : decode cX13_flaw 0 = .ok (.aload_n 0, 1) := dk_42 (dk_at dksX13_flaw_0 0 rfl rfl)
theorem dX13_flaw_1 : decode cX13_flaw 1 = .ok (.getfield 71, 3) := dk_180 0 71 (dk_at dksX13_flaw_0 1 rfl rfl)
theorem dX13_flaw_4 : decode cX13_flaw 4 = .ok (.iconst 5, 1) := dk_8 (dk_at dksX13_flaw_0 4 rfl rfl)
theorem dX13_flaw_5 : decode cX13_flaw 5 = .ok (.if_icmp .ne 4, 3) := dk_160 0 4 (dk_at dksX13_flaw_0 5 rfl rfl)
theorem dX13_flaw_8 : decode cX13_flaw 8 = .ok (.return_, 1) := dk_177 (dk_at dksX13_flaw_0 8 rfl rfl)
theorem dX13_flaw_9 : decode cX13_flaw 9 = .ok (.aload_n 0, 1) := dk_42 (dk_at dksX13_flaw_0 9 rfl rfl)
theorem dX13_flaw_10 : decode cX13_flaw 10 = .ok (.iload_n 1, 1) := dk_27 (dk_at dksX13_flaw_0 10 rfl rfl)
theorem dX13_flaw_11 : decode cX13_flaw 11 = .ok (.putfield 97, 3) := dk_181 0 97 (dk_at dksX13_flaw_0 11 rfl rfl)
theorem dX13_flaw_14 : decode cX13_flaw 14 = .ok (.aload_n 0, 1) := dk_42 (dk_at dksX13_flaw_0 14 rfl rfl)
theorem dX13_flaw_15 : decode cX13_flaw 15 = .ok (.aload_n 0, 1) := dk_42 (dk_at dksX13_flaw_0 15 rfl rfl)
theorem dX13_flaw_16 : decode cX13_flaw 16 = .ok (.getfield 80, 3) := dk_180 0 80 (dk_at dksX13_flaw_0 16 rfl rfl)
theorem dX13_flaw_19 : decode cX13_flaw 19 = .ok (.putfield 100, 3) := dk_181 0 100 (dk_at dksX13_flaw_0 19 rfl rfl)
theorem dX13_flaw_22 : decode cX13_flaw 22 = .ok (.aload_n 0, 1) := dk_42 (dk_at dksX13_flaw_0 22 rfl rfl)
theorem dX13_flaw_23 : decode cX13_flaw 23 = .ok (.iconst 5, 1) := dk_8 (dk_at dksX13_flaw_0 23 rfl rfl)
theorem dX13_flaw_24 : decode cX13_flaw 24 = .ok (.putfield 71, 3) := dk_181 0 71 (dk_at dksX13_flaw_1 0 rfl rfl)
theorem dX13_flaw_27 : decode cX13_flaw 27 = .ok (.return_, 1) := dk_177 (dk_at dksX13_flaw_1 3 rfl rfl)
abbrev cX13_readPart : ByteArray := prog_27_method_23_code
def yX13_readPart : MethodName := ⟨RX13, "readPart", "(Ljava/lang/String;II)I"⟩
def dkwX13_readPart_0 : List UInt8 := [42, 43, 182, 0, 122, 42, 28, 29, 182, 0, 126, 172]
abbrev dktX13_readPart_0 : List UInt8 := dkwX13_readPart_0 ++ []
theorem dksX13_readPart_0 : cX13_readPart.data.toList.drop 0 = dktX13_readPart_0 := by decide +kernel
theorem dX13_readPart_0 : decode cX13_readPart 0 = .ok (.aload_n 0, 1) := dk_42 (dk_at dksX13_readPart_0 0 rfl rfl)
theorem dX13_readPart_1 : decode cX13_readPart 1 = .ok (.aload_n 1, 1) := dk_43 (dk_at dksX13_readPart_0 1 rfl rfl)
theorem dX13_readPart_2 : decode cX13_readPart 2 = .ok (.invokevirtual 122, 3) := dk_182 0 122 (dk_at dksX13_readPart_0 2 rfl rfl)
theorem dX13_readPart_5 : decode cX13_readPart 5 = .ok (.aload_n 0, 1) := dk_42 (dk_at dksX13_readPart_0 5 rfl rfl)
theorem dX13_readPart_6 : decode cX13_readPart 6 = .ok (.iload_n 2, 1) := dk_28 (dk_at dksX13_readPart_0 6 rfl rfl)
theorem dX13_readPart_7 : decode cX13_readPart 7 = .ok (.iload_n 3, 1) := dk_29 (dk_at dksX13_readPart_0 7 rfl rfl)
theorem dX13_readPart_8 : decode cX13_readPart 8 = .ok (.invokevirtual 126, 3) := dk_182 0 126 (dk_at dksX13_readPart_0 8 rfl rfl)
theorem dX13_readPart_11 : decode cX13_readPart 11 = .ok (.ireturn, 1) := dk_172 (dk_at dksX13_readPart_0 11 rfl rfl)
abbrev cX13_needs : ByteArray := prog_27_method_21_code
def yX13_needs : MethodName := ⟨RX13, "needs", "(Ljava/lang/String;)V"⟩
def dkwX13_needs_0 : List UInt8 := [42, 43, 182, 0, 110, 154, 0, 8, 42, 4, 182, 0, 114, 42, 182, 0, 107, 177]
abbrev dktX13_needs_0 : List UInt8 := dkwX13_needs_0 ++ []
theorem dksX13_needs_0 : cX13_needs.data.toList.drop 0 = dktX13_needs_0 := by decide +kernel
theorem dX13_needs_0 : decode cX13_needs 0 = .ok (.aload_n 0, 1) := dk_42 (dk_at dksX13_needs_0 0 rfl rfl)
theorem dX13_needs_1 : decode cX13_needs 1 = .ok (.aload_n 1, 1) := dk_43 (dk_at dksX13_needs_0 1 rfl rfl)
theorem dX13_needs_2 : decode cX13_needs 2 = .ok (.invokevirtual 110, 3) := dk_182 0 110 (dk_at dksX13_needs_0 2 rfl rfl)
theorem dX13_needs_5 : decode cX13_needs 5 = .ok (.ifCond .ne 8, 3) := dk_154 0 8 (dk_at dksX13_needs_0 5 rfl rfl)
theorem dX13_needs_8 : decode cX13_needs 8 = .ok (.aload_n 0, 1) := dk_42 (dk_at dksX13_needs_0 8 rfl rfl)
theorem dX13_needs_9 : decode cX13_needs 9 = .ok (.iconst 1, 1) := dk_4 (dk_at dksX13_needs_0 9 rfl rfl)
theorem dX13_needs_10 : decode cX13_needs 10 = .ok (.invokevirtual 114, 3) := dk_182 0 114 (dk_at dksX13_needs_0 10 rfl rfl)
theorem dX13_needs_13 : decode cX13_needs 13 = .ok (.aload_n 0, 1) := dk_42 (dk_at dksX13_needs_0 13 rfl rfl)
theorem dX13_needs_14 : decode cX13_needs 14 = .ok (.invokevirtual 107, 3) := dk_182 0 107 (dk_at dksX13_needs_0 14 rfl rfl)
theorem dX13_needs_17 : decode cX13_needs 17 = .ok (.return_, 1) := dk_177 (dk_at dksX13_needs_0 17 rfl rfl)
abbrev cX13_readWhole : ByteArray := prog_27_method_22_code
def yX13_readWhole : MethodName := ⟨RX13, "readWhole", "(II)I"⟩
def dkwX13_readWhole_2 : List UInt8 := [180, 0, 94, 62, 42, 182, 0, 107, 29, 172]
abbrev dktX13_readWhole_2 : List UInt8 := dkwX13_readWhole_2 ++ []
def dkwX13_readWhole_1 : List UInt8 := [184, 0, 118, 154, 0, 8, 42, 7, 182, 0, 114, 42, 180, 0, 71, 8, 160, 0, 7, 27, 167, 0, 7, 42]
abbrev dktX13_readWhole_1 : List UInt8 := dkwX13_readWhole_1 ++ dktX13_readWhole_2
def dkwX13_readWhole_0 : List UInt8 := [42, 180, 0, 71, 6, 159, 0, 11, 42, 4, 182, 0, 114, 167, 0, 20, 42, 180, 0, 94, 27, 28]
abbrev dktX13_readWhole_0 : List UInt8 := dkwX13_readWhole_0 ++ dktX13_readWhole_1
theorem dksX13_readWhole_0 : cX13_readWhole.data.toList.drop 0 = dktX13_readWhole_0 := by decide +kernel
theorem dksX13_readWhole_1 : cX13_readWhole.data.toList.drop 22 = dktX13_readWhole_1 := dk_seg dksX13_readWhole_0 22 rfl rfl
theorem dksX13_readWhole_2 : cX13_readWhole.data.toList.drop 46 = dktX13_readWhole_2 := dk_seg dksX13_readWhole_1 24 rfl rfl
theorem dX13_readWhole_0 : decode cX13_readWhole 0 = .ok (.aload_n 0, 1) := dk_42 (dk_at dksX13_readWhole_0 0 rfl rfl)
theorem dX13_readWhole_1 : decode cX13_readWhole 1 = .ok (.getfield 71, 3) := dk_180 0 71 (dk_at dksX13_readWhole_0 1 rfl rfl)
theorem dX13_readWhole_4 : decode cX13_readWhole 4 = .ok (.iconst 3, 1) := dk_6 (dk_at dksX13_readWhole_0 4 rfl rfl)
theorem dX13_readWhole_5 : decode cX13_readWhole 5 = .ok (.if_icmp .eq 11, 3) := dk_159 0 11 (dk_at dksX13_readWhole_0 5 rfl rfl)
theorem dX13_readWhole_8 : decode cX13_readWhole 8 = .ok (.aload_n 0, 1) := dk_42 (dk_at dksX13_readWhole_0 8 rfl rfl)
theorem dX13_readWhole_9 : decode cX13_readWhole 9 = .ok (.iconst 1, 1) := dk_4 (dk_at dksX13_readWhole_0 9 rfl rfl)
theorem dX13_readWhole_10 : decode cX13_readWhole 10 = .ok (.invokevirtual 114, 3) := dk_182 0 114 (dk_at dksX13_readWhole_0 10 rfl rfl)
theorem dX13_readWhole_13 : decode cX13_readWhole 13 = .ok (.goto 20, 3) := dk_167 0 20 (dk_at dksX13_readWhole_0 13 rfl rfl)
theorem dX13_readWhole_16 : decode cX13_readWhole 16 = .ok (.aload_n 0, 1) := dk_42 (dk_at dksX13_readWhole_0 16 rfl rfl)
theorem dX13_readWhole_17 : decode cX13_readWhole 17 = .ok (.getfield 94, 3) := dk_180 0 94 (dk_at dksX13_readWhole_0 17 rfl rfl)
theorem dX13_readWhole_20 : decode cX13_readWhole 20 = .ok (.iload_n 1, 1) := dk_27 (dk_at dksX13_readWhole_0 20 rfl rfl)
theorem dX13_readWhole_21 : decode cX13_readWhole 21 = .ok (.iload_n 2, 1) := dk_28 (dk_at dksX13_readWhole_0 21 rfl rfl)
theorem dX13_readWhole_22 : decode cX13_readWhole 22 = .ok (.invokestatic 118, 3) := dk_184 0 118 (dk_at dksX13_readWhole_1 0 rfl rfl)
theorem dX13_readWhole_25 : decode cX13_readWhole 25 = .ok (.ifCond .ne 8, 3) := dk_154 0 8 (dk_at dksX13_readWhole_1 3 rfl rfl)
theorem dX13_readWhole_28 : decode cX13_readWhole 28 = .ok (.aload_n 0, 1) := dk_42 (dk_at dksX13_readWhole_1 6 rfl rfl)
theorem dX13_readWhole_29 : decode cX13_readWhole 29 = .ok (.iconst 4, 1) := dk_7 (dk_at dksX13_readWhole_1 7 rfl rfl)
theorem dX13_readWhole_30 : decode cX13_readWhole 30 = .ok (.invokevirtual 114, 3) := dk_182 0 114 (dk_at dksX13_readWhole_1 8 rfl rfl)
theorem dX13_readWhole_33 : decode cX13_readWhole 33 = .ok (.aload_n 0, 1) := dk_42 (dk_at dksX13_readWhole_1 11 rfl rfl)
theorem dX13_readWhole_34 : decode cX13_readWhole 34 = .ok (.getfield 71, 3) := dk_180 0 71 (dk_at dksX13_readWhole_1 12 rfl rfl)
theorem dX13_readWhole_37 : decode cX13_readWhole 37 = .ok (.iconst 5, 1) := dk_8 (dk_at dksX13_readWhole_1 15 rfl rfl)
theorem dX13_readWhole_38 : decode cX13_readWhole 38 = .ok (.if_icmp .ne 7, 3) := dk_160 0 7 (dk_at dksX13_readWhole_1 16 rfl rfl)
theorem dX13_readWhole_41 : decode cX13_readWhole 41 = .ok (.iload_n 1, 1) := dk_27 (dk_at dksX13_readWhole_1 19 rfl rfl)
theorem dX13_readWhole_42 : decode cX13_readWhole 42 = .ok (.goto 7, 3) := dk_167 0 7 (dk_at dksX13_readWhole_1 20 rfl rfl)
theorem dX13_readWhole_45 : decode cX13_readWhole 45 = .ok (.aload_n 0, 1) := dk_42 (dk_at dksX13_readWhole_1 23 rfl rfl)
theorem dX13_readWhole_46 : decode cX13_readWhole 46 = .ok (.getfield 94, 3) := dk_180 0 94 (dk_at dksX13_readWhole_2 0 rfl rfl)
theorem dX13_readWhole_49 : decode cX13_readWhole 49 = .ok (.istore_n 3, 1) := dk_62 (dk_at dksX13_readWhole_2 3 rfl rfl)
theorem dX13_readWhole_50 : decode cX13_readWhole 50 = .ok (.aload_n 0, 1) := dk_42 (dk_at dksX13_readWhole_2 4 rfl rfl)
theorem dX13_readWhole_51 : decode cX13_readWhole 51 = .ok (.invokevirtual 107, 3) := dk_182 0 107 (dk_at dksX13_readWhole_2 5 rfl rfl)
theorem dX13_readWhole_54 : decode cX13_readWhole 54 = .ok (.iload_n 3, 1) := dk_29 (dk_at dksX13_readWhole_2 8 rfl rfl)
theorem dX13_readWhole_55 : decode cX13_readWhole 55 = .ok (.ireturn, 1) := dk_172 (dk_at dksX13_readWhole_2 9 rfl rfl)
abbrev cX13_in : ByteArray := prog_27_method_8_code
def yX13_in : MethodName := ⟨RX13, "in", "(III)Z"⟩
def dkwX13_in_0 : List UInt8 := [26, 27, 161, 0, 12, 26, 28, 163, 0, 7, 4, 167, 0, 4, 3, 172]
abbrev dktX13_in_0 : List UInt8 := dkwX13_in_0 ++ []
theorem dksX13_in_0 : cX13_in.data.toList.drop 0 = dktX13_in_0 := by decide +kernel
theorem dX13_in_0 : decode cX13_in 0 = .ok (.iload_n 0, 1) := dk_26 (dk_at dksX13_in_0 0 rfl rfl)
theorem dX13_in_1 : decode cX13_in 1 = .ok (.iload_n 1, 1) := dk_27 (dk_at dksX13_in_0 1 rfl rfl)
theorem dX13_in_2 : decode cX13_in 2 = .ok (.if_icmp .lt 12, 3) := dk_161 0 12 (dk_at dksX13_in_0 2 rfl rfl)
theorem dX13_in_5 : decode cX13_in 5 = .ok (.iload_n 0, 1) := dk_26 (dk_at dksX13_in_0 5 rfl rfl)
theorem dX13_in_6 : decode cX13_in 6 = .ok (.iload_n 2, 1) := dk_28 (dk_at dksX13_in_0 6 rfl rfl)
theorem dX13_in_7 : decode cX13_in 7 = .ok (.if_icmp .gt 7, 3) := dk_163 0 7 (dk_at dksX13_in_0 7 rfl rfl)
theorem dX13_in_10 : decode cX13_in 10 = .ok (.iconst 1, 1) := dk_4 (dk_at dksX13_in_0 10 rfl rfl)
theorem dX13_in_11 : decode cX13_in 11 = .ok (.goto 4, 3) := dk_167 0 4 (dk_at dksX13_in_0 11 rfl rfl)
theorem dX13_in_14 : decode cX13_in 14 = .ok (.iconst 0, 1) := dk_3 (dk_at dksX13_in_0 14 rfl rfl)
theorem dX13_in_15 : decode cX13_in 15 = .ok (.ireturn, 1) := dk_172 (dk_at dksX13_in_0 15 rfl rfl)
abbrev cX13_readMeans : ByteArray := prog_27_method_33_code
def yX13_readMeans : MethodName := ⟨RX13, "readMeans", "()V"⟩
def dkwX13_readMeans_6 : List UInt8 := [79, 42, 180, 0, 152, 89, 180, 0, 233, 4, 96, 181, 0, 233, 177]
abbrev dktX13_readMeans_6 : List UInt8 := dkwX13_readMeans_6 ++ []
def dkwX13_readMeans_5 : List UInt8 := [180, 0, 152, 180, 0, 233, 21, 5, 79, 42, 180, 0, 152, 180, 1, 0, 42, 180, 0, 152, 180, 0, 233, 2]
abbrev dktX13_readMeans_5 : List UInt8 := dkwX13_readMeans_5 ++ dktX13_readMeans_6
def dkwX13_readMeans_4 : List UInt8 := [180, 0, 252, 7, 42, 180, 0, 152, 180, 0, 233, 96, 21, 4, 79, 42, 180, 0, 152, 180, 0, 254, 42]
abbrev dktX13_readMeans_4 : List UInt8 := dkwX13_readMeans_4 ++ dktX13_readMeans_5
def dkwX13_readMeans_3 : List UInt8 := [182, 0, 249, 42, 180, 0, 152, 180, 0, 252, 42, 180, 0, 152, 180, 0, 233, 29, 79, 42, 180, 0, 152]
abbrev dktX13_readMeans_3 : List UInt8 := dkwX13_readMeans_3 ++ dktX13_readMeans_4
def dkwX13_readMeans_2 : List UInt8 := [182, 0, 225, 54, 5, 42, 180, 0, 71, 8, 160, 0, 4, 177, 42, 31, 3, 42, 180, 0, 152, 180, 0, 233]
abbrev dktX13_readMeans_2 : List UInt8 := dkwX13_readMeans_2 ++ dktX13_readMeans_3
def dkwX13_readMeans_1 : List UInt8 := [182, 0, 225, 62, 42, 18, 245, 3, 16, 9, 182, 0, 225, 54, 4, 42, 18, 247, 4, 17, 1, 44]
abbrev dktX13_readMeans_1 : List UInt8 := dkwX13_readMeans_1 ++ dktX13_readMeans_2
def dkwX13_readMeans_0 : List UInt8 := [42, 42, 180, 0, 152, 180, 0, 233, 7, 182, 0, 235, 42, 182, 0, 239, 64, 42, 18, 243, 3, 16, 9]
abbrev dktX13_readMeans_0 : List UInt8 := dkwX13_readMeans_0 ++ dktX13_readMeans_1
theorem dksX13_readMeans_0 : cX13_readMeans.data.toList.drop 0 = dktX13_readMeans_0 := by decide +kernel
theorem dksX13_readMeans_1 : cX13_readMeans.data.toList.drop 23 = dktX13_readMeans_1 := dk_seg dksX13_readMeans_0 23 rfl rfl
theorem dksX13_readMeans_2 : cX13_readMeans.data.toList.drop 45 = dktX13_readMeans_2 := dk_seg dksX13_readMeans_1 22 rfl rfl
theorem dksX13_readMeans_3 : cX13_readMeans.data.toList.drop 69 = dktX13_readMeans_3 := dk_seg dksX13_readMeans_2 24 rfl rfl
theorem dksX13_readMeans_4 : cX13_readMeans.data.toList.drop 92 = dktX13_readMeans_4 := dk_seg dksX13_readMeans_3 23 rfl rfl
theorem dksX13_readMeans_5 : cX13_readMeans.data.toList.drop 115 = dktX13_readMeans_5 := dk_seg dksX13_readMeans_4 23 rfl rfl
theorem dksX13_readMeans_6 : cX13_readMeans.data.toList.drop 139 = dktX13_readMeans_6 := dk_seg dksX13_readMeans_5 24 rfl rfl
theorem dX13_readMeans_0 : decode cX13_readMeans 0 = .ok (.aload_n 0, 1) := dk_42 (dk_at dksX13_readMeans_0 0 rfl rfl)
theorem dX13_readMeans_1 : decode cX13_readMeans 1 = .ok (.aload_n 0, 1) := dk_42 (dk_at dksX13_readMeans_0 1 rfl rfl)
theorem dX13_readMeans_2 : decode cX13_readMeans 2 = .ok (.getfield 152, 3) := dk_180 0 152 (dk_at dksX13_readMeans_0 2 rfl rfl)
theorem dX13_readMeans_5 : decode cX13_readMeans 5 = .ok (.getfield 233, 3) := dk_180 0 233 (dk_at dksX13_readMeans_0 5 rfl rfl)
theorem dX13_readMeans_8 : decode cX13_readMeans 8 = .ok (.iconst 4, 1) := dk_7 (dk_at dksX13_readMeans_0 8 rfl rfl)
theorem dX13_readMeans_9 : decode cX13_readMeans 9 = .ok (.invokevirtual 235, 3) := dk_182 0 235 (dk_at dksX13_readMeans_0 9 rfl rfl)
theorem dX13_readMeans_12 : decode cX13_readMeans 12 = .ok (.aload_n 0, 1) := dk_42 (dk_at dksX13_readMeans_0 12 rfl rfl)
theorem dX13_readMeans_13 : decode cX13_readMeans 13 = .ok (.invokevirtual 239, 3) := dk_182 0 239 (dk_at dksX13_readMeans_0 13 rfl rfl)
theorem dX13_readMeans_16 : decode cX13_readMeans 16 = .ok (.lstore_n 1, 1) := dk_64 (dk_at dksX13_readMeans_0 16 rfl rfl)
theorem dX13_readMeans_17 : decode cX13_readMeans 17 = .ok (.aload_n 0, 1) := dk_42 (dk_at dksX13_readMeans_0 17 rfl rfl)
theorem dX13_readMeans_18 : decode cX13_readMeans 18 = .ok (.ldc 243, 2) := dk_18 243 (dk_at dksX13_readMeans_0 18 rfl rfl)
theorem dX13_readMeans_20 : decode cX13_readMeans 20 = .ok (.iconst 0, 1) := dk_3 (dk_at dksX13_readMeans_0 20 rfl rfl)
theorem dX13_readMeans_21 : decode cX13_readMeans 21 = .ok (.bipush 9, 2) := dk_16 9 (dk_at dksX13_readMeans_0 21 rfl rfl)
theorem dX13_readMeans_23 : decode cX13_readMeans 23 = .ok (.invokevirtual 225, 3) := dk_182 0 225 (dk_at dksX13_readMeans_1 0 rfl rfl)
theorem dX13_readMeans_26 : decode cX13_readMeans 26 = .ok (.istore_n 3, 1) := dk_62 (dk_at dksX13_readMeans_1 3 rfl rfl)
theorem dX13_readMeans_27 : decode cX13_readMeans 27 = .ok (.aload_n 0, 1) := dk_42 (dk_at dksX13_readMeans_1 4 rfl rfl)
theorem dX13_readMeans_28 : decode cX13_readMeans 28 = .ok (.ldc 245, 2) := dk_18 245 (dk_at dksX13_readMeans_1 5 rfl rfl)
theorem dX13_readMeans_30 : decode cX13_readMeans 30 = .ok (.iconst 0, 1) := dk_3 (dk_at dksX13_readMeans_1 7 rfl rfl)
theorem dX13_readMeans_31 : decode cX13_readMeans 31 = .ok (.bipush 9, 2) := dk_16 9 (dk_at dksX13_readMeans_1 8 rfl rfl)
theorem dX13_readMeans_33 : decode cX13_readMeans 33 = .ok (.invokevirtual 225, 3) := dk_182 0 225 (dk_at dksX13_readMeans_1 10 rfl rfl)
theorem dX13_readMeans_36 : decode cX13_readMeans 36 = .ok (.istore 4, 2) := dk_54 4 (dk_at dksX13_readMeans_1 13 rfl rfl)
theorem dX13_readMeans_38 : decode cX13_readMeans 38 = .ok (.aload_n 0, 1) := dk_42 (dk_at dksX13_readMeans_1 15 rfl rfl)
theorem dX13_readMeans_39 : decode cX13_readMeans 39 = .ok (.ldc 247, 2) := dk_18 247 (dk_at dksX13_readMeans_1 16 rfl rfl)
theorem dX13_readMeans_41 : decode cX13_readMeans 41 = .ok (.iconst 1, 1) := dk_4 (dk_at dksX13_readMeans_1 18 rfl rfl)
theorem dX13_readMeans_42 : decode cX13_readMeans 42 = .ok (.sipush 300, 3) := dk_17 1 44 (dk_at dksX13_readMeans_1 19 rfl rfl)
theorem dX13_readMeans_45 : decode cX13_readMeans 45 = .ok (.invokevirtual 225, 3) := dk_182 0 225 (dk_at dksX13_readMeans_2 0 rfl rfl)
theorem dX13_readMeans_48 : decode cX13_readMeans 48 = .ok (.istore 5, 2) := dk_54 5 (dk_at dksX13_readMeans_2 3 rfl rfl)
theorem dX13_readMeans_50 : decode cX13_readMeans 50 = .ok (.aload_n 0, 1) := dk_42 (dk_at dksX13_readMeans_2 5 rfl rfl)
theorem dX13_readMeans_51 : decode cX13_readMeans 51 = .ok (.getfield 71, 3) := dk_180 0 71 (dk_at dksX13_readMeans_2 6 rfl rfl)
theorem dX13_readMeans_54 : decode cX13_readMeans 54 = .ok (.iconst 5, 1) := dk_8 (dk_at dksX13_readMeans_2 9 rfl rfl)
theorem dX13_readMeans_55 : decode cX13_readMeans 55 = .ok (.if_icmp .ne 4, 3) := dk_160 0 4 (dk_at dksX13_readMeans_2 10 rfl rfl)
theorem dX13_readMeans_58 : decode cX13_readMeans 58 = .ok (.return_, 1) := dk_177 (dk_at dksX13_readMeans_2 13 rfl rfl)
theorem dX13_readMeans_59 : decode cX13_readMeans 59 = .ok (.aload_n 0, 1) := dk_42 (dk_at dksX13_readMeans_2 14 rfl rfl)
theorem dX13_readMeans_60 : decode cX13_readMeans 60 = .ok (.lload_n 1, 1) := dk_31 (dk_at dksX13_readMeans_2 15 rfl rfl)
theorem dX13_readMeans_61 : decode cX13_readMeans 61 = .ok (.iconst 0, 1) := dk_3 (dk_at dksX13_readMeans_2 16 rfl rfl)
theorem dX13_readMeans_62 : decode cX13_readMeans 62 = .ok (.aload_n 0, 1) := dk_42 (dk_at dksX13_readMeans_2 17 rfl rfl)
theorem dX13_readMeans_63 : decode cX13_readMeans 63 = .ok (.getfield 152, 3) := dk_180 0 152 (dk_at dksX13_readMeans_2 18 rfl rfl)
theorem dX13_readMeans_66 : decode cX13_readMeans 66 = .ok (.getfield 233, 3) := dk_180 0 233 (dk_at dksX13_readMeans_2 21 rfl rfl)
theorem dX13_readMeans_69 : decode cX13_readMeans 69 = .ok (.invokevirtual 249, 3) := dk_182 0 249 (dk_at dksX13_readMeans_3 0 rfl rfl)
theorem dX13_readMeans_72 : decode cX13_readMeans 72 = .ok (.aload_n 0, 1) := dk_42 (dk_at dksX13_readMeans_3 3 rfl rfl)
theorem dX13_readMeans_73 : decode cX13_readMeans 73 = .ok (.getfield 152, 3) := dk_180 0 152 (dk_at dksX13_readMeans_3 4 rfl rfl)
theorem dX13_readMeans_76 : decode cX13_readMeans 76 = .ok (.getfield 252, 3) := dk_180 0 252 (dk_at dksX13_readMeans_3 7 rfl rfl)
theorem dX13_readMeans_79 : decode cX13_readMeans 79 = .ok (.aload_n 0, 1) := dk_42 (dk_at dksX13_readMeans_3 10 rfl rfl)
theorem dX13_readMeans_80 : decode cX13_readMeans 80 = .ok (.getfield 152, 3) := dk_180 0 152 (dk_at dksX13_readMeans_3 11 rfl rfl)
theorem dX13_readMeans_83 : decode cX13_readMeans 83 = .ok (.getfield 233, 3) := dk_180 0 233 (dk_at dksX13_readMeans_3 14 rfl rfl)
theorem dX13_readMeans_86 : decode cX13_readMeans 86 = .ok (.iload_n 3, 1) := dk_29 (dk_at dksX13_readMeans_3 17 rfl rfl)
theorem dX13_readMeans_87 : decode cX13_readMeans 87 = .ok (.iastore, 1) := dk_79 (dk_at dksX13_readMeans_3 18 rfl rfl)
theorem dX13_readMeans_88 : decode cX13_readMeans 88 = .ok (.aload_n 0, 1) := dk_42 (dk_at dksX13_readMeans_3 19 rfl rfl)
theorem dX13_readMeans_89 : decode cX13_readMeans 89 = .ok (.getfield 152, 3) := dk_180 0 152 (dk_at dksX13_readMeans_3 20 rfl rfl)
theorem dX13_readMeans_92 : decode cX13_readMeans 92 = .ok (.getfield 252, 3) := dk_180 0 252 (dk_at dksX13_readMeans_4 0 rfl rfl)
theorem dX13_readMeans_95 : decode cX13_readMeans 95 = .ok (.iconst 4, 1) := dk_7 (dk_at dksX13_readMeans_4 3 rfl rfl)
theorem dX13_readMeans_96 : decode cX13_readMeans 96 = .ok (.aload_n 0, 1) := dk_42 (dk_at dksX13_readMeans_4 4 rfl rfl)
theorem dX13_readMeans_97 : decode cX13_readMeans 97 = .ok (.getfield 152, 3) := dk_180 0 152 (dk_at dksX13_readMeans_4 5 rfl rfl)
theorem dX13_readMeans_100 : decode cX13_readMeans 100 = .ok (.getfield 233, 3) := dk_180 0 233 (dk_at dksX13_readMeans_4 8 rfl rfl)
theorem dX13_readMeans_103 : decode cX13_readMeans 103 = .ok (.iadd, 1) := dk_96 (dk_at dksX13_readMeans_4 11 rfl rfl)
theorem dX13_readMeans_104 : decode cX13_readMeans 104 = .ok (.iload 4, 2) := dk_21 4 (dk_at dksX13_readMeans_4 12 rfl rfl)
theorem dX13_readMeans_106 : decode cX13_readMeans 106 = .ok (.iastore, 1) := dk_79 (dk_at dksX13_readMeans_4 14 rfl rfl)
theorem dX13_readMeans_107 : decode cX13_readMeans 107 = .ok (.aload_n 0, 1) := dk_42 (dk_at dksX13_readMeans_4 15 rfl rfl)
theorem dX13_readMeans_108 : decode cX13_readMeans 108 = .ok (.getfield 152, 3) := dk_180 0 152 (dk_at dksX13_readMeans_4 16 rfl rfl)
theorem dX13_readMeans_111 : decode cX13_readMeans 111 = .ok (.getfield 254, 3) := dk_180 0 254 (dk_at dksX13_readMeans_4 19 rfl rfl)
theorem dX13_readMeans_114 : decode cX13_readMeans 114 = .ok (.aload_n 0, 1) := dk_42 (dk_at dksX13_readMeans_4 22 rfl rfl)
theorem dX13_readMeans_115 : decode cX13_readMeans 115 = .ok (.getfield 152, 3) := dk_180 0 152 (dk_at dksX13_readMeans_5 0 rfl rfl)
theorem dX13_readMeans_118 : decode cX13_readMeans 118 = .ok (.getfield 233, 3) := dk_180 0 233 (dk_at dksX13_readMeans_5 3 rfl rfl)
theorem dX13_readMeans_121 : decode cX13_readMeans 121 = .ok (.iload 5, 2) := dk_21 5 (dk_at dksX13_readMeans_5 6 rfl rfl)
theorem dX13_readMeans_123 : decode cX13_readMeans 123 = .ok (.iastore, 1) := dk_79 (dk_at dksX13_readMeans_5 8 rfl rfl)
theorem dX13_readMeans_124 : decode cX13_readMeans 124 = .ok (.aload_n 0, 1) := dk_42 (dk_at dksX13_readMeans_5 9 rfl rfl)
theorem dX13_readMeans_125 : decode cX13_readMeans 125 = .ok (.getfield 152, 3) := dk_180 0 152 (dk_at dksX13_readMeans_5 10 rfl rfl)
theorem dX13_readMeans_128 : decode cX13_readMeans 128 = .ok (.getfield 256, 3) := dk_180 1 0 (dk_at dksX13_readMeans_5 13 rfl rfl)
theorem dX13_readMeans_131 : decode cX13_readMeans 131 = .ok (.aload_n 0, 1) := dk_42 (dk_at dksX13_readMeans_5 16 rfl rfl)
theorem dX13_readMeans_132 : decode cX13_readMeans 132 = .ok (.getfield 152, 3) := dk_180 0 152 (dk_at dksX13_readMeans_5 17 rfl rfl)
theorem dX13_readMeans_135 : decode cX13_readMeans 135 = .ok (.getfield 233, 3) := dk_180 0 233 (dk_at dksX13_readMeans_5 20 rfl rfl)
theorem dX13_readMeans_138 : decode cX13_readMeans 138 = .ok (.iconst (-1), 1) := dk_2 (dk_at dksX13_readMeans_5 23 rfl rfl)
theorem dX13_readMeans_139 : decode cX13_readMeans 139 = .ok (.iastore, 1) := dk_79 (dk_at dksX13_readMeans_6 0 rfl rfl)
theorem dX13_readMeans_140 : decode cX13_readMeans 140 = .ok (.aload_n 0, 1) := dk_42 (dk_at dksX13_readMeans_6 1 rfl rfl)
theorem dX13_readMeans_141 : decode cX13_readMeans 141 = .ok (.getfield 152, 3) := dk_180 0 152 (dk_at dksX13_readMeans_6 2 rfl rfl)
theorem dX13_readMeans_144 : decode cX13_readMeans 144 = .ok (.dup, 1) := dk_89 (dk_at dksX13_readMeans_6 5 rfl rfl)
theorem dX13_readMeans_145 : decode cX13_readMeans 145 = .ok (.getfield 233, 3) := dk_180 0 233 (dk_at dksX13_readMeans_6 6 rfl rfl)
theorem dX13_readMeans_148 : decode cX13_readMeans 148 = .ok (.iconst 1, 1) := dk_4 (dk_at dksX13_readMeans_6 9 rfl rfl)
theorem dX13_readMeans_149 : decode cX13_readMeans 149 = .ok (.iadd, 1) := dk_96 (dk_at dksX13_readMeans_6 10 rfl rfl)
theorem dX13_readMeans_150 : decode cX13_readMeans 150 = .ok (.putfield 233, 3) := dk_181 0 233 (dk_at dksX13_readMeans_6 11 rfl rfl)
theorem dX13_readMeans_153 : decode cX13_readMeans 153 = .ok (.return_, 1) := dk_177 (dk_at dksX13_readMeans_6 14 rfl rfl)
abbrev cX13_begins : ByteArray := prog_27_method_25_code
def yX13_begins : MethodName := ⟨RX13, "begins", "(II)V"⟩
def dkwX13_begins_1 : List UInt8 := [182, 0, 114, 42, 182, 0, 107, 177]
abbrev dktX13_begins_1 : List UInt8 := dkwX13_begins_1 ++ []
def dkwX13_begins_0 : List UInt8 := [27, 28, 160, 0, 8, 42, 8, 182, 0, 114, 42, 180, 0, 152, 180, 0, 156, 2, 160, 0, 9, 42, 16, 6]
abbrev dktX13_begins_0 : List UInt8 := dkwX13_begins_0 ++ dktX13_begins_1
theorem dksX13_begins_0 : cX13_begins.data.toList.drop 0 = dktX13_begins_0 := by decide +kernel
theorem dksX13_begins_1 : cX13_begins.data.toList.drop 24 = dktX13_begins_1 := dk_seg dksX13_begins_0 24 rfl rfl
theorem dX13_begins_0 : decode cX13_begins 0 = .ok (.iload_n 1, 1) := dk_27 (dk_at dksX13_begins_0 0 rfl rfl)
theorem dX13_begins_1 : decode cX13_begins 1 = .ok (.iload_n 2, 1) := dk_28 (dk_at dksX13_begins_0 1 rfl rfl)
theorem dX13_begins_2 : decode cX13_begins 2 = .ok (.if_icmp .ne 8, 3) := dk_160 0 8 (dk_at dksX13_begins_0 2 rfl rfl)
theorem dX13_begins_5 : decode cX13_begins 5 = .ok (.aload_n 0, 1) := dk_42 (dk_at dksX13_begins_0 5 rfl rfl)
theorem dX13_begins_6 : decode cX13_begins 6 = .ok (.iconst 5, 1) := dk_8 (dk_at dksX13_begins_0 6 rfl rfl)
theorem dX13_begins_7 : decode cX13_begins 7 = .ok (.invokevirtual 114, 3) := dk_182 0 114 (dk_at dksX13_begins_0 7 rfl rfl)
theorem dX13_begins_10 : decode cX13_begins 10 = .ok (.aload_n 0, 1) := dk_42 (dk_at dksX13_begins_0 10 rfl rfl)
theorem dX13_begins_11 : decode cX13_begins 11 = .ok (.getfield 152, 3) := dk_180 0 152 (dk_at dksX13_begins_0 11 rfl rfl)
theorem dX13_begins_14 : decode cX13_begins 14 = .ok (.getfield 156, 3) := dk_180 0 156 (dk_at dksX13_begins_0 14 rfl rfl)
theorem dX13_begins_17 : decode cX13_begins 17 = .ok (.iconst (-1), 1) := dk_2 (dk_at dksX13_begins_0 17 rfl rfl)
theorem dX13_begins_18 : decode cX13_begins 18 = .ok (.if_icmp .ne 9, 3) := dk_160 0 9 (dk_at dksX13_begins_0 18 rfl rfl)
theorem dX13_begins_21 : decode cX13_begins 21 = .ok (.aload_n 0, 1) := dk_42 (dk_at dksX13_begins_0 21 rfl rfl)
theorem dX13_begins_22 : decode cX13_begins 22 = .ok (.bipush 6, 2) := dk_16 6 (dk_at dksX13_begins_0 22 rfl rfl)
theorem dX13_begins_24 : decode cX13_begins 24 = .ok (.invokevirtual 114, 3) := dk_182 0 114 (dk_at dksX13_begins_1 0 rfl rfl)
theorem dX13_begins_27 : decode cX13_begins 27 = .ok (.aload_n 0, 1) := dk_42 (dk_at dksX13_begins_1 3 rfl rfl)
theorem dX13_begins_28 : decode cX13_begins 28 = .ok (.invokevirtual 107, 3) := dk_182 0 107 (dk_at dksX13_begins_1 4 rfl rfl)
theorem dX13_begins_31 : decode cX13_begins 31 = .ok (.return_, 1) := dk_177 (dk_at dksX13_begins_1 7 rfl rfl)
abbrev cX13_readFresh : ByteArray := prog_27_method_26_code
def yX13_readFresh : MethodName := ⟨RX13, "readFresh", "()J"⟩
def dkwX13_readFresh_1 : List UInt8 := [159, 0, 8, 42, 6, 182, 0, 114, 42, 180, 0, 87, 64, 42, 182, 0, 107, 31, 173]
abbrev dktX13_readFresh_1 : List UInt8 := dkwX13_readFresh_1 ++ []
def dkwX13_readFresh_0 : List UInt8 := [42, 182, 0, 161, 154, 0, 8, 42, 4, 182, 0, 114, 42, 180, 0, 152, 42, 180, 0, 87, 182, 0, 165, 2]
abbrev dktX13_readFresh_0 : List UInt8 := dkwX13_readFresh_0 ++ dktX13_readFresh_1
theorem dksX13_readFresh_0 : cX13_readFresh.data.toList.drop 0 = dktX13_readFresh_0 := by decide +kernel
theorem dksX13_readFresh_1 : cX13_readFresh.data.toList.drop 24 = dktX13_readFresh_1 := dk_seg dksX13_readFresh_0 24 rfl rfl
theorem dX13_readFresh_0 : decode cX13_readFresh 0 = .ok (.aload_n 0, 1) := dk_42 (dk_at dksX13_readFresh_0 0 rfl rfl)
theorem dX13_readFresh_1 : decode cX13_readFresh 1 = .ok (.invokevirtual 161, 3) := dk_182 0 161 (dk_at dksX13_readFresh_0 1 rfl rfl)
theorem dX13_readFresh_4 : decode cX13_readFresh 4 = .ok (.ifCond .ne 8, 3) := dk_154 0 8 (dk_at dksX13_readFresh_0 4 rfl rfl)
theorem dX13_readFresh_7 : decode cX13_readFresh 7 = .ok (.aload_n 0, 1) := dk_42 (dk_at dksX13_readFresh_0 7 rfl rfl)
theorem dX13_readFresh_8 : decode cX13_readFresh 8 = .ok (.iconst 1, 1) := dk_4 (dk_at dksX13_readFresh_0 8 rfl rfl)
theorem dX13_readFresh_9 : decode cX13_readFresh 9 = .ok (.invokevirtual 114, 3) := dk_182 0 114 (dk_at dksX13_readFresh_0 9 rfl rfl)
theorem dX13_readFresh_12 : decode cX13_readFresh 12 = .ok (.aload_n 0, 1) := dk_42 (dk_at dksX13_readFresh_0 12 rfl rfl)
theorem dX13_readFresh_13 : decode cX13_readFresh 13 = .ok (.getfield 152, 3) := dk_180 0 152 (dk_at dksX13_readFresh_0 13 rfl rfl)
theorem dX13_readFresh_16 : decode cX13_readFresh 16 = .ok (.aload_n 0, 1) := dk_42 (dk_at dksX13_readFresh_0 16 rfl rfl)
theorem dX13_readFresh_17 : decode cX13_readFresh 17 = .ok (.getfield 87, 3) := dk_180 0 87 (dk_at dksX13_readFresh_0 17 rfl rfl)
theorem dX13_readFresh_20 : decode cX13_readFresh 20 = .ok (.invokevirtual 165, 3) := dk_182 0 165 (dk_at dksX13_readFresh_0 20 rfl rfl)
theorem dX13_readFresh_23 : decode cX13_readFresh 23 = .ok (.iconst (-1), 1) := dk_2 (dk_at dksX13_readFresh_0 23 rfl rfl)
theorem dX13_readFresh_24 : decode cX13_readFresh 24 = .ok (.if_icmp .eq 8, 3) := dk_159 0 8 (dk_at dksX13_readFresh_1 0 rfl rfl)
theorem dX13_readFresh_27 : decode cX13_readFresh 27 = .ok (.aload_n 0, 1) := dk_42 (dk_at dksX13_readFresh_1 3 rfl rfl)
theorem dX13_readFresh_28 : decode cX13_readFresh 28 = .ok (.iconst 3, 1) := dk_6 (dk_at dksX13_readFresh_1 4 rfl rfl)
theorem dX13_readFresh_29 : decode cX13_readFresh 29 = .ok (.invokevirtual 114, 3) := dk_182 0 114 (dk_at dksX13_readFresh_1 5 rfl rfl)
theorem dX13_readFresh_32 : decode cX13_readFresh 32 = .ok (.aload_n 0, 1) := dk_42 (dk_at dksX13_readFresh_1 8 rfl rfl)
theorem dX13_readFresh_33 : decode cX13_readFresh 33 = .ok (.getfield 87, 3) := dk_180 0 87 (dk_at dksX13_readFresh_1 9 rfl rfl)
theorem dX13_readFresh_36 : decode cX13_readFresh 36 = .ok (.lstore_n 1, 1) := dk_64 (dk_at dksX13_readFresh_1 12 rfl rfl)
theorem dX13_readFresh_37 : decode cX13_readFresh 37 = .ok (.aload_n 0, 1) := dk_42 (dk_at dksX13_readFresh_1 13 rfl rfl)
theorem dX13_readFresh_38 : decode cX13_readFresh 38 = .ok (.invokevirtual 107, 3) := dk_182 0 107 (dk_at dksX13_readFresh_1 14 rfl rfl)
theorem dX13_readFresh_41 : decode cX13_readFresh 41 = .ok (.lload_n 1, 1) := dk_31 (dk_at dksX13_readFresh_1 17 rfl rfl)
theorem dX13_readFresh_42 : decode cX13_readFresh 42 = .ok (.lreturn, 1) := dk_173 (dk_at dksX13_readFresh_1 18 rfl rfl)
abbrev cX13_isName : ByteArray := prog_27_method_24_code
def yX13_isName : MethodName := ⟨RX13, "isName", "()Z"⟩
def dkwX13_isName_4 : List UInt8 := [182, 0, 110, 154, 0, 16, 42, 18, 150, 182, 0, 110, 154, 0, 7, 4, 167, 0, 4, 3, 172]
abbrev dktX13_isName_4 : List UInt8 := dkwX13_isName_4 ++ []
def dkwX13_isName_3 : List UInt8 := [154, 0, 43, 42, 18, 144, 182, 0, 110, 154, 0, 34, 42, 18, 146, 182, 0, 110, 154, 0, 25, 42, 18, 148]
abbrev dktX13_isName_3 : List UInt8 := dkwX13_isName_3 ++ dktX13_isName_4
def dkwX13_isName_2 : List UInt8 := [182, 0, 110, 153, 0, 5, 3, 172, 42, 18, 140, 182, 0, 110, 154, 0, 52, 42, 18, 142, 182, 0, 110]
abbrev dktX13_isName_2 : List UInt8 := dkwX13_isName_2 ++ dktX13_isName_3
def dkwX13_isName_1 : List UInt8 := [154, 0, 30, 42, 18, 134, 182, 0, 110, 154, 0, 21, 42, 18, 136, 182, 0, 110, 154, 0, 12, 42, 18, 138]
abbrev dktX13_isName_1 : List UInt8 := dkwX13_isName_1 ++ dktX13_isName_2
def dkwX13_isName_0 : List UInt8 := [42, 180, 0, 71, 5, 160, 0, 48, 42, 18, 130, 182, 0, 110, 154, 0, 39, 42, 18, 132, 182, 0, 110]
abbrev dktX13_isName_0 : List UInt8 := dkwX13_isName_0 ++ dktX13_isName_1
theorem dksX13_isName_0 : cX13_isName.data.toList.drop 0 = dktX13_isName_0 := by decide +kernel
theorem dksX13_isName_1 : cX13_isName.data.toList.drop 23 = dktX13_isName_1 := dk_seg dksX13_isName_0 23 rfl rfl
theorem dksX13_isName_2 : cX13_isName.data.toList.drop 47 = dktX13_isName_2 := dk_seg dksX13_isName_1 24 rfl rfl
theorem dksX13_isName_3 : cX13_isName.data.toList.drop 70 = dktX13_isName_3 := dk_seg dksX13_isName_2 23 rfl rfl
theorem dksX13_isName_4 : cX13_isName.data.toList.drop 94 = dktX13_isName_4 := dk_seg dksX13_isName_3 24 rfl rfl
theorem dX13_isName_0 : decode cX13_isName 0 = .ok (.aload_n 0, 1) := dk_42 (dk_at dksX13_isName_0 0 rfl rfl)
theorem dX13_isName_1 : decode cX13_isName 1 = .ok (.getfield 71, 3) := dk_180 0 71 (dk_at dksX13_isName_0 1 rfl rfl)
theorem dX13_isName_4 : decode cX13_isName 4 = .ok (.iconst 2, 1) := dk_5 (dk_at dksX13_isName_0 4 rfl rfl)
theorem dX13_isName_5 : decode cX13_isName 5 = .ok (.if_icmp .ne 48, 3) := dk_160 0 48 (dk_at dksX13_isName_0 5 rfl rfl)
theorem dX13_isName_8 : decode cX13_isName 8 = .ok (.aload_n 0, 1) := dk_42 (dk_at dksX13_isName_0 8 rfl rfl)
theorem dX13_isName_9 : decode cX13_isName 9 = .ok (.ldc 130, 2) := dk_18 130 (dk_at dksX13_isName_0 9 rfl rfl)
theorem dX13_isName_11 : decode cX13_isName 11 = .ok (.invokevirtual 110, 3) := dk_182 0 110 (dk_at dksX13_isName_0 11 rfl rfl)
theorem dX13_isName_14 : decode cX13_isName 14 = .ok (.ifCond .ne 39, 3) := dk_154 0 39 (dk_at dksX13_isName_0 14 rfl rfl)
theorem dX13_isName_17 : decode cX13_isName 17 = .ok (.aload_n 0, 1) := dk_42 (dk_at dksX13_isName_0 17 rfl rfl)
theorem dX13_isName_18 : decode cX13_isName 18 = .ok (.ldc 132, 2) := dk_18 132 (dk_at dksX13_isName_0 18 rfl rfl)
theorem dX13_isName_20 : decode cX13_isName 20 = .ok (.invokevirtual 110, 3) := dk_182 0 110 (dk_at dksX13_isName_0 20 rfl rfl)
theorem dX13_isName_23 : decode cX13_isName 23 = .ok (.ifCond .ne 30, 3) := dk_154 0 30 (dk_at dksX13_isName_1 0 rfl rfl)
theorem dX13_isName_26 : decode cX13_isName 26 = .ok (.aload_n 0, 1) := dk_42 (dk_at dksX13_isName_1 3 rfl rfl)
theorem dX13_isName_27 : decode cX13_isName 27 = .ok (.ldc 134, 2) := dk_18 134 (dk_at dksX13_isName_1 4 rfl rfl)
theorem dX13_isName_29 : decode cX13_isName 29 = .ok (.invokevirtual 110, 3) := dk_182 0 110 (dk_at dksX13_isName_1 6 rfl rfl)
theorem dX13_isName_32 : decode cX13_isName 32 = .ok (.ifCond .ne 21, 3) := dk_154 0 21 (dk_at dksX13_isName_1 9 rfl rfl)
theorem dX13_isName_35 : decode cX13_isName 35 = .ok (.aload_n 0, 1) := dk_42 (dk_at dksX13_isName_1 12 rfl rfl)
theorem dX13_isName_36 : decode cX13_isName 36 = .ok (.ldc 136, 2) := dk_18 136 (dk_at dksX13_isName_1 13 rfl rfl)
theorem dX13_isName_38 : decode cX13_isName 38 = .ok (.invokevirtual 110, 3) := dk_182 0 110 (dk_at dksX13_isName_1 15 rfl rfl)
theorem dX13_isName_41 : decode cX13_isName 41 = .ok (.ifCond .ne 12, 3) := dk_154 0 12 (dk_at dksX13_isName_1 18 rfl rfl)
theorem dX13_isName_44 : decode cX13_isName 44 = .ok (.aload_n 0, 1) := dk_42 (dk_at dksX13_isName_1 21 rfl rfl)
theorem dX13_isName_45 : decode cX13_isName 45 = .ok (.ldc 138, 2) := dk_18 138 (dk_at dksX13_isName_1 22 rfl rfl)
theorem dX13_isName_47 : decode cX13_isName 47 = .ok (.invokevirtual 110, 3) := dk_182 0 110 (dk_at dksX13_isName_2 0 rfl rfl)
theorem dX13_isName_50 : decode cX13_isName 50 = .ok (.ifCond .eq 5, 3) := dk_153 0 5 (dk_at dksX13_isName_2 3 rfl rfl)
theorem dX13_isName_53 : decode cX13_isName 53 = .ok (.iconst 0, 1) := dk_3 (dk_at dksX13_isName_2 6 rfl rfl)
theorem dX13_isName_54 : decode cX13_isName 54 = .ok (.ireturn, 1) := dk_172 (dk_at dksX13_isName_2 7 rfl rfl)
theorem dX13_isName_55 : decode cX13_isName 55 = .ok (.aload_n 0, 1) := dk_42 (dk_at dksX13_isName_2 8 rfl rfl)
theorem dX13_isName_56 : decode cX13_isName 56 = .ok (.ldc 140, 2) := dk_18 140 (dk_at dksX13_isName_2 9 rfl rfl)
theorem dX13_isName_58 : decode cX13_isName 58 = .ok (.invokevirtual 110, 3) := dk_182 0 110 (dk_at dksX13_isName_2 11 rfl rfl)
theorem dX13_isName_61 : decode cX13_isName 61 = .ok (.ifCond .ne 52, 3) := dk_154 0 52 (dk_at dksX13_isName_2 14 rfl rfl)
theorem dX13_isName_64 : decode cX13_isName 64 = .ok (.aload_n 0, 1) := dk_42 (dk_at dksX13_isName_2 17 rfl rfl)
theorem dX13_isName_65 : decode cX13_isName 65 = .ok (.ldc 142, 2) := dk_18 142 (dk_at dksX13_isName_2 18 rfl rfl)
theorem dX13_isName_67 : decode cX13_isName 67 = .ok (.invokevirtual 110, 3) := dk_182 0 110 (dk_at dksX13_isName_2 20 rfl rfl)
theorem dX13_isName_70 : decode cX13_isName 70 = .ok (.ifCond .ne 43, 3) := dk_154 0 43 (dk_at dksX13_isName_3 0 rfl rfl)
theorem dX13_isName_73 : decode cX13_isName 73 = .ok (.aload_n 0, 1) := dk_42 (dk_at dksX13_isName_3 3 rfl rfl)
theorem dX13_isName_74 : decode cX13_isName 74 = .ok (.ldc 144, 2) := dk_18 144 (dk_at dksX13_isName_3 4 rfl rfl)
theorem dX13_isName_76 : decode cX13_isName 76 = .ok (.invokevirtual 110, 3) := dk_182 0 110 (dk_at dksX13_isName_3 6 rfl rfl)
theorem dX13_isName_79 : decode cX13_isName 79 = .ok (.ifCond .ne 34, 3) := dk_154 0 34 (dk_at dksX13_isName_3 9 rfl rfl)
theorem dX13_isName_82 : decode cX13_isName 82 = .ok (.aload_n 0, 1) := dk_42 (dk_at dksX13_isName_3 12 rfl rfl)
theorem dX13_isName_83 : decode cX13_isName 83 = .ok (.ldc 146, 2) := dk_18 146 (dk_at dksX13_isName_3 13 rfl rfl)
theorem dX13_isName_85 : decode cX13_isName 85 = .ok (.invokevirtual 110, 3) := dk_182 0 110 (dk_at dksX13_isName_3 15 rfl rfl)
theorem dX13_isName_88 : decode cX13_isName 88 = .ok (.ifCond .ne 25, 3) := dk_154 0 25 (dk_at dksX13_isName_3 18 rfl rfl)
theorem dX13_isName_91 : decode cX13_isName 91 = .ok (.aload_n 0, 1) := dk_42 (dk_at dksX13_isName_3 21 rfl rfl)
theorem dX13_isName_92 : decode cX13_isName 92 = .ok (.ldc 148, 2) := dk_18 148 (dk_at dksX13_isName_3 22 rfl rfl)
theorem dX13_isName_94 : decode cX13_isName 94 = .ok (.invokevirtual 110, 3) := dk_182 0 110 (dk_at dksX13_isName_4 0 rfl rfl)
theorem dX13_isName_97 : decode cX13_isName 97 = .ok (.ifCond .ne 16, 3) := dk_154 0 16 (dk_at dksX13_isName_4 3 rfl rfl)
theorem dX13_isName_100 : decode cX13_isName 100 = .ok (.aload_n 0, 1) := dk_42 (dk_at dksX13_isName_4 6 rfl rfl)
theorem dX13_isName_101 : decode cX13_isName 101 = .ok (.ldc 150, 2) := dk_18 150 (dk_at dksX13_isName_4 7 rfl rfl)
theorem dX13_isName_103 : decode cX13_isName 103 = .ok (.invokevirtual 110, 3) := dk_182 0 110 (dk_at dksX13_isName_4 9 rfl rfl)
theorem dX13_isName_106 : decode cX13_isName 106 = .ok (.ifCond .ne 7, 3) := dk_154 0 7 (dk_at dksX13_isName_4 12 rfl rfl)
theorem dX13_isName_109 : decode cX13_isName 109 = .ok (.iconst 1, 1) := dk_4 (dk_at dksX13_isName_4 15 rfl rfl)
theorem dX13_isName_110 : decode cX13_isName 110 = .ok (.goto 4, 3) := dk_167 0 4 (dk_at dksX13_isName_4 16 rfl rfl)
theorem dX13_isName_113 : decode cX13_isName 113 = .ok (.iconst 0, 1) := dk_3 (dk_at dksX13_isName_4 19 rfl rfl)
theorem dX13_isName_114 : decode cX13_isName 114 = .ok (.ireturn, 1) := dk_172 (dk_at dksX13_isName_4 20 rfl rfl)
abbrev cX13_names : ByteArray := prog_27_method_27_code
def yX13_names : MethodName := ⟨RX13, "names", "(JII)V"⟩
def dkwX13_names_2 : List UInt8 := [79, 42, 180, 0, 152, 89, 180, 0, 173, 4, 96, 181, 0, 173, 177]
abbrev dktX13_names_2 : List UInt8 := dkwX13_names_2 ++ []
def dkwX13_names_1 : List UInt8 := [180, 0, 152, 180, 0, 173, 29, 79, 42, 180, 0, 152, 180, 0, 179, 42, 180, 0, 152, 180, 0, 173, 21, 4]
abbrev dktX13_names_1 : List UInt8 := dkwX13_names_1 ++ dktX13_names_2
def dkwX13_names_0 : List UInt8 := [42, 180, 0, 152, 180, 0, 169, 42, 180, 0, 152, 180, 0, 173, 31, 80, 42, 180, 0, 152, 180, 0, 176, 42]
abbrev dktX13_names_0 : List UInt8 := dkwX13_names_0 ++ dktX13_names_1
theorem dksX13_names_0 : cX13_names.data.toList.drop 0 = dktX13_names_0 := by decide +kernel
theorem dksX13_names_1 : cX13_names.data.toList.drop 24 = dktX13_names_1 := dk_seg dksX13_names_0 24 rfl rfl
theorem dksX13_names_2 : cX13_names.data.toList.drop 48 = dktX13_names_2 := dk_seg dksX13_names_1 24 rfl rfl
theorem dX13_names_0 : decode cX13_names 0 = .ok (.aload_n 0, 1) := dk_42 (dk_at dksX13_names_0 0 rfl rfl)
theorem dX13_names_1 : decode cX13_names 1 = .ok (.getfield 152, 3) := dk_180 0 152 (dk_at dksX13_names_0 1 rfl rfl)
theorem dX13_names_4 : decode cX13_names 4 = .ok (.getfield 169, 3) := dk_180 0 169 (dk_at dksX13_names_0 4 rfl rfl)
theorem dX13_names_7 : decode cX13_names 7 = .ok (.aload_n 0, 1) := dk_42 (dk_at dksX13_names_0 7 rfl rfl)
theorem dX13_names_8 : decode cX13_names 8 = .ok (.getfield 152, 3) := dk_180 0 152 (dk_at dksX13_names_0 8 rfl rfl)
theorem dX13_names_11 : decode cX13_names 11 = .ok (.getfield 173, 3) := dk_180 0 173 (dk_at dksX13_names_0 11 rfl rfl)
theorem dX13_names_14 : decode cX13_names 14 = .ok (.lload_n 1, 1) := dk_31 (dk_at dksX13_names_0 14 rfl rfl)
theorem dX13_names_15 : decode cX13_names 15 = .ok (.lastore, 1) := dk_80 (dk_at dksX13_names_0 15 rfl rfl)
theorem dX13_names_16 : decode cX13_names 16 = .ok (.aload_n 0, 1) := dk_42 (dk_at dksX13_names_0 16 rfl rfl)
theorem dX13_names_17 : decode cX13_names 17 = .ok (.getfield 152, 3) := dk_180 0 152 (dk_at dksX13_names_0 17 rfl rfl)
theorem dX13_names_20 : decode cX13_names 20 = .ok (.getfield 176, 3) := dk_180 0 176 (dk_at dksX13_names_0 20 rfl rfl)
theorem dX13_names_23 : decode cX13_names 23 = .ok (.aload_n 0, 1) := dk_42 (dk_at dksX13_names_0 23 rfl rfl)
theorem dX13_names_24 : decode cX13_names 24 = .ok (.getfield 152, 3) := dk_180 0 152 (dk_at dksX13_names_1 0 rfl rfl)
theorem dX13_names_27 : decode cX13_names 27 = .ok (.getfield 173, 3) := dk_180 0 173 (dk_at dksX13_names_1 3 rfl rfl)
theorem dX13_names_30 : decode cX13_names 30 = .ok (.iload_n 3, 1) := dk_29 (dk_at dksX13_names_1 6 rfl rfl)
theorem dX13_names_31 : decode cX13_names 31 = .ok (.iastore, 1) := dk_79 (dk_at dksX13_names_1 7 rfl rfl)
theorem dX13_names_32 : decode cX13_names 32 = .ok (.aload_n 0, 1) := dk_42 (dk_at dksX13_names_1 8 rfl rfl)
theorem dX13_names_33 : decode cX13_names 33 = .ok (.getfield 152, 3) := dk_180 0 152 (dk_at dksX13_names_1 9 rfl rfl)
theorem dX13_names_36 : decode cX13_names 36 = .ok (.getfield 179, 3) := dk_180 0 179 (dk_at dksX13_names_1 12 rfl rfl)
theorem dX13_names_39 : decode cX13_names 39 = .ok (.aload_n 0, 1) := dk_42 (dk_at dksX13_names_1 15 rfl rfl)
theorem dX13_names_40 : decode cX13_names 40 = .ok (.getfield 152, 3) := dk_180 0 152 (dk_at dksX13_names_1 16 rfl rfl)
theorem dX13_names_43 : decode cX13_names 43 = .ok (.getfield 173, 3) := dk_180 0 173 (dk_at dksX13_names_1 19 rfl rfl)
theorem dX13_names_46 : decode cX13_names 46 = .ok (.iload 4, 2) := dk_21 4 (dk_at dksX13_names_1 22 rfl rfl)
theorem dX13_names_48 : decode cX13_names 48 = .ok (.iastore, 1) := dk_79 (dk_at dksX13_names_2 0 rfl rfl)
theorem dX13_names_49 : decode cX13_names 49 = .ok (.aload_n 0, 1) := dk_42 (dk_at dksX13_names_2 1 rfl rfl)
theorem dX13_names_50 : decode cX13_names 50 = .ok (.getfield 152, 3) := dk_180 0 152 (dk_at dksX13_names_2 2 rfl rfl)
theorem dX13_names_53 : decode cX13_names 53 = .ok (.dup, 1) := dk_89 (dk_at dksX13_names_2 5 rfl rfl)
theorem dX13_names_54 : decode cX13_names 54 = .ok (.getfield 173, 3) := dk_180 0 173 (dk_at dksX13_names_2 6 rfl rfl)
theorem dX13_names_57 : decode cX13_names 57 = .ok (.iconst 1, 1) := dk_4 (dk_at dksX13_names_2 9 rfl rfl)
theorem dX13_names_58 : decode cX13_names 58 = .ok (.iadd, 1) := dk_96 (dk_at dksX13_names_2 10 rfl rfl)
theorem dX13_names_59 : decode cX13_names 59 = .ok (.putfield 173, 3) := dk_181 0 173 (dk_at dksX13_names_2 11 rfl rfl)
theorem dX13_names_62 : decode cX13_names 62 = .ok (.return_, 1) := dk_177 (dk_at dksX13_names_2 14 rfl rfl)
abbrev cX13_readTraveller : ByteArray := prog_27_method_34_code
def yX13_readTraveller : MethodName := ⟨RX13, "readTraveller", "()V"⟩
def dkwX13_readTraveller_4 : List UInt8 := [180, 0, 152, 89, 180, 0, 191, 4, 96, 181, 0, 191, 177]
abbrev dktX13_readTraveller_4 : List UInt8 := dkwX13_readTraveller_4 ++ []
def dkwX13_readTraveller_3 : List UInt8 := [180, 0, 191, 29, 79, 42, 180, 0, 152, 180, 1, 9, 42, 180, 0, 152, 180, 0, 191, 21, 4, 79, 42]
abbrev dktX13_readTraveller_3 : List UInt8 := dkwX13_readTraveller_3 ++ dktX13_readTraveller_4
def dkwX13_readTraveller_2 : List UInt8 := [42, 31, 4, 42, 180, 0, 152, 180, 0, 191, 182, 0, 249, 42, 180, 0, 152, 180, 1, 7, 42, 180, 0, 152]
abbrev dktX13_readTraveller_2 : List UInt8 := dkwX13_readTraveller_2 ++ dktX13_readTraveller_3
def dkwX13_readTraveller_1 : List UInt8 := [182, 0, 225, 62, 42, 19, 1, 5, 3, 6, 182, 0, 225, 54, 4, 42, 180, 0, 71, 8, 160, 0, 4, 177]
abbrev dktX13_readTraveller_1 : List UInt8 := dkwX13_readTraveller_1 ++ dktX13_readTraveller_2
def dkwX13_readTraveller_0 : List UInt8 := [42, 42, 180, 0, 152, 180, 0, 191, 7, 182, 0, 235, 42, 182, 0, 239, 64, 42, 19, 1, 3, 3, 16, 99]
abbrev dktX13_readTraveller_0 : List UInt8 := dkwX13_readTraveller_0 ++ dktX13_readTraveller_1
theorem dksX13_readTraveller_0 : cX13_readTraveller.data.toList.drop 0 = dktX13_readTraveller_0 := by decide +kernel
theorem dksX13_readTraveller_1 : cX13_readTraveller.data.toList.drop 24 = dktX13_readTraveller_1 := dk_seg dksX13_readTraveller_0 24 rfl rfl
theorem dksX13_readTraveller_2 : cX13_readTraveller.data.toList.drop 48 = dktX13_readTraveller_2 := dk_seg dksX13_readTraveller_1 24 rfl rfl
theorem dksX13_readTraveller_3 : cX13_readTraveller.data.toList.drop 72 = dktX13_readTraveller_3 := dk_seg dksX13_readTraveller_2 24 rfl rfl
theorem dksX13_readTraveller_4 : cX13_readTraveller.data.toList.drop 95 = dktX13_readTraveller_4 := dk_seg dksX13_readTraveller_3 23 rfl rfl
theorem dX13_readTraveller_0 : decode cX13_readTraveller 0 = .ok (.aload_n 0, 1) := dk_42 (dk_at dksX13_readTraveller_0 0 rfl rfl)
theorem dX13_readTraveller_1 : decode cX13_readTraveller 1 = .ok (.aload_n 0, 1) := dk_42 (dk_at dksX13_readTraveller_0 1 rfl rfl)
theorem dX13_readTraveller_2 : decode cX13_readTraveller 2 = .ok (.getfield 152, 3) := dk_180 0 152 (dk_at dksX13_readTraveller_0 2 rfl rfl)
theorem dX13_readTraveller_5 : decode cX13_readTraveller 5 = .ok (.getfield 191, 3) := dk_180 0 191 (dk_at dksX13_readTraveller_0 5 rfl rfl)
theorem dX13_readTraveller_8 : decode cX13_readTraveller 8 = .ok (.iconst 4, 1) := dk_7 (dk_at dksX13_readTraveller_0 8 rfl rfl)
theorem dX13_readTraveller_9 : decode cX13_readTraveller 9 = .ok (.invokevirtual 235, 3) := dk_182 0 235 (dk_at dksX13_readTraveller_0 9 rfl rfl)
theorem dX13_readTraveller_12 : decode cX13_readTraveller 12 = .ok (.aload_n 0, 1) := dk_42 (dk_at dksX13_readTraveller_0 12 rfl rfl)
theorem dX13_readTraveller_13 : decode cX13_readTraveller 13 = .ok (.invokevirtual 239, 3) := dk_182 0 239 (dk_at dksX13_readTraveller_0 13 rfl rfl)
theorem dX13_readTraveller_16 : decode cX13_readTraveller 16 = .ok (.lstore_n 1, 1) := dk_64 (dk_at dksX13_readTraveller_0 16 rfl rfl)
theorem dX13_readTraveller_17 : decode cX13_readTraveller 17 = .ok (.aload_n 0, 1) := dk_42 (dk_at dksX13_readTraveller_0 17 rfl rfl)
theorem dX13_readTraveller_18 : decode cX13_readTraveller 18 = .ok (.ldc_w 259, 3) := dk_19 1 3 (dk_at dksX13_readTraveller_0 18 rfl rfl)
theorem dX13_readTraveller_21 : decode cX13_readTraveller 21 = .ok (.iconst 0, 1) := dk_3 (dk_at dksX13_readTraveller_0 21 rfl rfl)
theorem dX13_readTraveller_22 : decode cX13_readTraveller 22 = .ok (.bipush 99, 2) := dk_16 99 (dk_at dksX13_readTraveller_0 22 rfl rfl)
theorem dX13_readTraveller_24 : decode cX13_readTraveller 24 = .ok (.invokevirtual 225, 3) := dk_182 0 225 (dk_at dksX13_readTraveller_1 0 rfl rfl)
theorem dX13_readTraveller_27 : decode cX13_readTraveller 27 = .ok (.istore_n 3, 1) := dk_62 (dk_at dksX13_readTraveller_1 3 rfl rfl)
theorem dX13_readTraveller_28 : decode cX13_readTraveller 28 = .ok (.aload_n 0, 1) := dk_42 (dk_at dksX13_readTraveller_1 4 rfl rfl)
theorem dX13_readTraveller_29 : decode cX13_readTraveller 29 = .ok (.ldc_w 261, 3) := dk_19 1 5 (dk_at dksX13_readTraveller_1 5 rfl rfl)
theorem dX13_readTraveller_32 : decode cX13_readTraveller 32 = .ok (.iconst 0, 1) := dk_3 (dk_at dksX13_readTraveller_1 8 rfl rfl)
theorem dX13_readTraveller_33 : decode cX13_readTraveller 33 = .ok (.iconst 3, 1) := dk_6 (dk_at dksX13_readTraveller_1 9 rfl rfl)
theorem dX13_readTraveller_34 : decode cX13_readTraveller 34 = .ok (.invokevirtual 225, 3) := dk_182 0 225 (dk_at dksX13_readTraveller_1 10 rfl rfl)
theorem dX13_readTraveller_37 : decode cX13_readTraveller 37 = .ok (.istore 4, 2) := dk_54 4 (dk_at dksX13_readTraveller_1 13 rfl rfl)
theorem dX13_readTraveller_39 : decode cX13_readTraveller 39 = .ok (.aload_n 0, 1) := dk_42 (dk_at dksX13_readTraveller_1 15 rfl rfl)
theorem dX13_readTraveller_40 : decode cX13_readTraveller 40 = .ok (.getfield 71, 3) := dk_180 0 71 (dk_at dksX13_readTraveller_1 16 rfl rfl)
theorem dX13_readTraveller_43 : decode cX13_readTraveller 43 = .ok (.iconst 5, 1) := dk_8 (dk_at dksX13_readTraveller_1 19 rfl rfl)
theorem dX13_readTraveller_44 : decode cX13_readTraveller 44 = .ok (.if_icmp .ne 4, 3) := dk_160 0 4 (dk_at dksX13_readTraveller_1 20 rfl rfl)
theorem dX13_readTraveller_47 : decode cX13_readTraveller 47 = .ok (.return_, 1) := dk_177 (dk_at dksX13_readTraveller_1 23 rfl rfl)
theorem dX13_readTraveller_48 : decode cX13_readTraveller 48 = .ok (.aload_n 0, 1) := dk_42 (dk_at dksX13_readTraveller_2 0 rfl rfl)
theorem dX13_readTraveller_49 : decode cX13_readTraveller 49 = .ok (.lload_n 1, 1) := dk_31 (dk_at dksX13_readTraveller_2 1 rfl rfl)
theorem dX13_readTraveller_50 : decode cX13_readTraveller 50 = .ok (.iconst 1, 1) := dk_4 (dk_at dksX13_readTraveller_2 2 rfl rfl)
theorem dX13_readTraveller_51 : decode cX13_readTraveller 51 = .ok (.aload_n 0, 1) := dk_42 (dk_at dksX13_readTraveller_2 3 rfl rfl)
theorem dX13_readTraveller_52 : decode cX13_readTraveller 52 = .ok (.getfield 152, 3) := dk_180 0 152 (dk_at dksX13_readTraveller_2 4 rfl rfl)
theorem dX13_readTraveller_55 : decode cX13_readTraveller 55 = .ok (.getfield 191, 3) := dk_180 0 191 (dk_at dksX13_readTraveller_2 7 rfl rfl)
theorem dX13_readTraveller_58 : decode cX13_readTraveller 58 = .ok (.invokevirtual 249, 3) := dk_182 0 249 (dk_at dksX13_readTraveller_2 10 rfl rfl)
theorem dX13_readTraveller_61 : decode cX13_readTraveller 61 = .ok (.aload_n 0, 1) := dk_42 (dk_at dksX13_readTraveller_2 13 rfl rfl)
theorem dX13_readTraveller_62 : decode cX13_readTraveller 62 = .ok (.getfield 152, 3) := dk_180 0 152 (dk_at dksX13_readTraveller_2 14 rfl rfl)
theorem dX13_readTraveller_65 : decode cX13_readTraveller 65 = .ok (.getfield 263, 3) := dk_180 1 7 (dk_at dksX13_readTraveller_2 17 rfl rfl)
theorem dX13_readTraveller_68 : decode cX13_readTraveller 68 = .ok (.aload_n 0, 1) := dk_42 (dk_at dksX13_readTraveller_2 20 rfl rfl)
theorem dX13_readTraveller_69 : decode cX13_readTraveller 69 = .ok (.getfield 152, 3) := dk_180 0 152 (dk_at dksX13_readTraveller_2 21 rfl rfl)
theorem dX13_readTraveller_72 : decode cX13_readTraveller 72 = .ok (.getfield 191, 3) := dk_180 0 191 (dk_at dksX13_readTraveller_3 0 rfl rfl)
theorem dX13_readTraveller_75 : decode cX13_readTraveller 75 = .ok (.iload_n 3, 1) := dk_29 (dk_at dksX13_readTraveller_3 3 rfl rfl)
theorem dX13_readTraveller_76 : decode cX13_readTraveller 76 = .ok (.iastore, 1) := dk_79 (dk_at dksX13_readTraveller_3 4 rfl rfl)
theorem dX13_readTraveller_77 : decode cX13_readTraveller 77 = .ok (.aload_n 0, 1) := dk_42 (dk_at dksX13_readTraveller_3 5 rfl rfl)
theorem dX13_readTraveller_78 : decode cX13_readTraveller 78 = .ok (.getfield 152, 3) := dk_180 0 152 (dk_at dksX13_readTraveller_3 6 rfl rfl)
theorem dX13_readTraveller_81 : decode cX13_readTraveller 81 = .ok (.getfield 265, 3) := dk_180 1 9 (dk_at dksX13_readTraveller_3 9 rfl rfl)
theorem dX13_readTraveller_84 : decode cX13_readTraveller 84 = .ok (.aload_n 0, 1) := dk_42 (dk_at dksX13_readTraveller_3 12 rfl rfl)
theorem dX13_readTraveller_85 : decode cX13_readTraveller 85 = .ok (.getfield 152, 3) := dk_180 0 152 (dk_at dksX13_readTraveller_3 13 rfl rfl)
theorem dX13_readTraveller_88 : decode cX13_readTraveller 88 = .ok (.getfield 191, 3) := dk_180 0 191 (dk_at dksX13_readTraveller_3 16 rfl rfl)
theorem dX13_readTraveller_91 : decode cX13_readTraveller 91 = .ok (.iload 4, 2) := dk_21 4 (dk_at dksX13_readTraveller_3 19 rfl rfl)
theorem dX13_readTraveller_93 : decode cX13_readTraveller 93 = .ok (.iastore, 1) := dk_79 (dk_at dksX13_readTraveller_3 21 rfl rfl)
theorem dX13_readTraveller_94 : decode cX13_readTraveller 94 = .ok (.aload_n 0, 1) := dk_42 (dk_at dksX13_readTraveller_3 22 rfl rfl)
theorem dX13_readTraveller_95 : decode cX13_readTraveller 95 = .ok (.getfield 152, 3) := dk_180 0 152 (dk_at dksX13_readTraveller_4 0 rfl rfl)
theorem dX13_readTraveller_98 : decode cX13_readTraveller 98 = .ok (.dup, 1) := dk_89 (dk_at dksX13_readTraveller_4 3 rfl rfl)
theorem dX13_readTraveller_99 : decode cX13_readTraveller 99 = .ok (.getfield 191, 3) := dk_180 0 191 (dk_at dksX13_readTraveller_4 4 rfl rfl)
theorem dX13_readTraveller_102 : decode cX13_readTraveller 102 = .ok (.iconst 1, 1) := dk_4 (dk_at dksX13_readTraveller_4 7 rfl rfl)
theorem dX13_readTraveller_103 : decode cX13_readTraveller 103 = .ok (.iadd, 1) := dk_96 (dk_at dksX13_readTraveller_4 8 rfl rfl)
theorem dX13_readTraveller_104 : decode cX13_readTraveller 104 = .ok (.putfield 191, 3) := dk_181 0 191 (dk_at dksX13_readTraveller_4 9 rfl rfl)
theorem dX13_readTraveller_107 : decode cX13_readTraveller 107 = .ok (.return_, 1) := dk_177 (dk_at dksX13_readTraveller_4 12 rfl rfl)
abbrev cX13_readGate : ByteArray := prog_27_method_35_code
def yX13_readGate : MethodName := ⟨RX13, "readGate", "()V"⟩
def dkwX13_readGate_5 : List UInt8 := [180, 0, 194, 21, 5, 79, 42, 180, 0, 152, 89, 180, 0, 194, 4, 96, 181, 0, 194, 177]
abbrev dktX13_readGate_5 : List UInt8 := dkwX13_readGate_5 ++ []
def dkwX13_readGate_4 : List UInt8 := [180, 1, 19, 42, 180, 0, 152, 180, 0, 194, 21, 4, 79, 42, 180, 0, 152, 180, 1, 21, 42, 180, 0, 152]
abbrev dktX13_readGate_4 : List UInt8 := dkwX13_readGate_4 ++ dktX13_readGate_5
def dkwX13_readGate_3 : List UInt8 := [182, 0, 249, 42, 180, 0, 152, 180, 1, 17, 42, 180, 0, 152, 180, 0, 194, 29, 79, 42, 180, 0, 152]
abbrev dktX13_readGate_3 : List UInt8 := dkwX13_readGate_3 ++ dktX13_readGate_4
def dkwX13_readGate_2 : List UInt8 := [182, 0, 225, 54, 5, 42, 180, 0, 71, 8, 160, 0, 4, 177, 42, 31, 5, 42, 180, 0, 152, 180, 0, 194]
abbrev dktX13_readGate_2 : List UInt8 := dkwX13_readGate_2 ++ dktX13_readGate_3
def dkwX13_readGate_1 : List UInt8 := [182, 0, 225, 62, 42, 19, 1, 13, 3, 16, 23, 182, 0, 225, 54, 4, 42, 19, 1, 15, 21, 4, 16, 23]
abbrev dktX13_readGate_1 : List UInt8 := dkwX13_readGate_1 ++ dktX13_readGate_2
def dkwX13_readGate_0 : List UInt8 := [42, 42, 180, 0, 152, 180, 0, 194, 6, 182, 0, 235, 42, 182, 0, 239, 64, 42, 19, 1, 11, 4, 16, 99]
abbrev dktX13_readGate_0 : List UInt8 := dkwX13_readGate_0 ++ dktX13_readGate_1
theorem dksX13_readGate_0 : cX13_readGate.data.toList.drop 0 = dktX13_readGate_0 := by decide +kernel
theorem dksX13_readGate_1 : cX13_readGate.data.toList.drop 24 = dktX13_readGate_1 := dk_seg dksX13_readGate_0 24 rfl rfl
theorem dksX13_readGate_2 : cX13_readGate.data.toList.drop 48 = dktX13_readGate_2 := dk_seg dksX13_readGate_1 24 rfl rfl
theorem dksX13_readGate_3 : cX13_readGate.data.toList.drop 72 = dktX13_readGate_3 := dk_seg dksX13_readGate_2 24 rfl rfl
theorem dksX13_readGate_4 : cX13_readGate.data.toList.drop 95 = dktX13_readGate_4 := dk_seg dksX13_readGate_3 23 rfl rfl
theorem dksX13_readGate_5 : cX13_readGate.data.toList.drop 119 = dktX13_readGate_5 := dk_seg dksX13_readGate_4 24 rfl rfl
theorem dX13_readGate_0 : decode cX13_readGate 0 = .ok (.aload_n 0, 1) := dk_42 (dk_at dksX13_readGate_0 0 rfl rfl)
theorem dX13_readGate_1 : decode cX13_readGate 1 = .ok (.aload_n 0, 1) := dk_42 (dk_at dksX13_readGate_0 1 rfl rfl)
theorem dX13_readGate_2 : decode cX13_readGate 2 = .ok (.getfield 152, 3) := dk_180 0 152 (dk_at dksX13_readGate_0 2 rfl rfl)
theorem dX13_readGate_5 : decode cX13_readGate 5 = .ok (.getfield 194, 3) := dk_180 0 194 (dk_at dksX13_readGate_0 5 rfl rfl)
theorem dX13_readGate_8 : decode cX13_readGate 8 = .ok (.iconst 3, 1) := dk_6 (dk_at dksX13_readGate_0 8 rfl rfl)
theorem dX13_readGate_9 : decode cX13_readGate 9 = .ok (.invokevirtual 235, 3) := dk_182 0 235 (dk_at dksX13_readGate_0 9 rfl rfl)
theorem dX13_readGate_12 : decode cX13_readGate 12 = .ok (.aload_n 0, 1) := dk_42 (dk_at dksX13_readGate_0 12 rfl rfl)
theorem dX13_readGate_13 : decode cX13_readGate 13 = .ok (.invokevirtual 239, 3) := dk_182 0 239 (dk_at dksX13_readGate_0 13 rfl rfl)
theorem dX13_readGate_16 : decode cX13_readGate 16 = .ok (.lstore_n 1, 1) := dk_64 (dk_at dksX13_readGate_0 16 rfl rfl)
theorem dX13_readGate_17 : decode cX13_readGate 17 = .ok (.aload_n 0, 1) := dk_42 (dk_at dksX13_readGate_0 17 rfl rfl)
theorem dX13_readGate_18 : decode cX13_readGate 18 = .ok (.ldc_w 267, 3) := dk_19 1 11 (dk_at dksX13_readGate_0 18 rfl rfl)
theorem dX13_readGate_21 : decode cX13_readGate 21 = .ok (.iconst 1, 1) := dk_4 (dk_at dksX13_readGate_0 21 rfl rfl)
theorem dX13_readGate_22 : decode cX13_readGate 22 = .ok (.bipush 99, 2) := dk_16 99 (dk_at dksX13_readGate_0 22 rfl rfl)
theorem dX13_readGate_24 : decode cX13_readGate 24 = .ok (.invokevirtual 225, 3) := dk_182 0 225 (dk_at dksX13_readGate_1 0 rfl rfl)
theorem dX13_readGate_27 : decode cX13_readGate 27 = .ok (.istore_n 3, 1) := dk_62 (dk_at dksX13_readGate_1 3 rfl rfl)
theorem dX13_readGate_28 : decode cX13_readGate 28 = .ok (.aload_n 0, 1) := dk_42 (dk_at dksX13_readGate_1 4 rfl rfl)
theorem dX13_readGate_29 : decode cX13_readGate 29 = .ok (.ldc_w 269, 3) := dk_19 1 13 (dk_at dksX13_readGate_1 5 rfl rfl)
theorem dX13_readGate_32 : decode cX13_readGate 32 = .ok (.iconst 0, 1) := dk_3 (dk_at dksX13_readGate_1 8 rfl rfl)
theorem dX13_readGate_33 : decode cX13_readGate 33 = .ok (.bipush 23, 2) := dk_16 23 (dk_at dksX13_readGate_1 9 rfl rfl)
theorem dX13_readGate_35 : decode cX13_readGate 35 = .ok (.invokevirtual 225, 3) := dk_182 0 225 (dk_at dksX13_readGate_1 11 rfl rfl)
theorem dX13_readGate_38 : decode cX13_readGate 38 = .ok (.istore 4, 2) := dk_54 4 (dk_at dksX13_readGate_1 14 rfl rfl)
theorem dX13_readGate_40 : decode cX13_readGate 40 = .ok (.aload_n 0, 1) := dk_42 (dk_at dksX13_readGate_1 16 rfl rfl)
theorem dX13_readGate_41 : decode cX13_readGate 41 = .ok (.ldc_w 271, 3) := dk_19 1 15 (dk_at dksX13_readGate_1 17 rfl rfl)
theorem dX13_readGate_44 : decode cX13_readGate 44 = .ok (.iload 4, 2) := dk_21 4 (dk_at dksX13_readGate_1 20 rfl rfl)
theorem dX13_readGate_46 : decode cX13_readGate 46 = .ok (.bipush 23, 2) := dk_16 23 (dk_at dksX13_readGate_1 22 rfl rfl)
theorem dX13_readGate_48 : decode cX13_readGate 48 = .ok (.invokevirtual 225, 3) := dk_182 0 225 (dk_at dksX13_readGate_2 0 rfl rfl)
theorem dX13_readGate_51 : decode cX13_readGate 51 = .ok (.istore 5, 2) := dk_54 5 (dk_at dksX13_readGate_2 3 rfl rfl)
theorem dX13_readGate_53 : decode cX13_readGate 53 = .ok (.aload_n 0, 1) := dk_42 (dk_at dksX13_readGate_2 5 rfl rfl)
theorem dX13_readGate_54 : decode cX13_readGate 54 = .ok (.getfield 71, 3) := dk_180 0 71 (dk_at dksX13_readGate_2 6 rfl rfl)
theorem dX13_readGate_57 : decode cX13_readGate 57 = .ok (.iconst 5, 1) := dk_8 (dk_at dksX13_readGate_2 9 rfl rfl)
theorem dX13_readGate_58 : decode cX13_readGate 58 = .ok (.if_icmp .ne 4, 3) := dk_160 0 4 (dk_at dksX13_readGate_2 10 rfl rfl)
theorem dX13_readGate_61 : decode cX13_readGate 61 = .ok (.return_, 1) := dk_177 (dk_at dksX13_readGate_2 13 rfl rfl)
theorem dX13_readGate_62 : decode cX13_readGate 62 = .ok (.aload_n 0, 1) := dk_42 (dk_at dksX13_readGate_2 14 rfl rfl)
theorem dX13_readGate_63 : decode cX13_readGate 63 = .ok (.lload_n 1, 1) := dk_31 (dk_at dksX13_readGate_2 15 rfl rfl)
theorem dX13_readGate_64 : decode cX13_readGate 64 = .ok (.iconst 2, 1) := dk_5 (dk_at dksX13_readGate_2 16 rfl rfl)
theorem dX13_readGate_65 : decode cX13_readGate 65 = .ok (.aload_n 0, 1) := dk_42 (dk_at dksX13_readGate_2 17 rfl rfl)
theorem dX13_readGate_66 : decode cX13_readGate 66 = .ok (.getfield 152, 3) := dk_180 0 152 (dk_at dksX13_readGate_2 18 rfl rfl)
theorem dX13_readGate_69 : decode cX13_readGate 69 = .ok (.getfield 194, 3) := dk_180 0 194 (dk_at dksX13_readGate_2 21 rfl rfl)
theorem dX13_readGate_72 : decode cX13_readGate 72 = .ok (.invokevirtual 249, 3) := dk_182 0 249 (dk_at dksX13_readGate_3 0 rfl rfl)
theorem dX13_readGate_75 : decode cX13_readGate 75 = .ok (.aload_n 0, 1) := dk_42 (dk_at dksX13_readGate_3 3 rfl rfl)
theorem dX13_readGate_76 : decode cX13_readGate 76 = .ok (.getfield 152, 3) := dk_180 0 152 (dk_at dksX13_readGate_3 4 rfl rfl)
theorem dX13_readGate_79 : decode cX13_readGate 79 = .ok (.getfield 273, 3) := dk_180 1 17 (dk_at dksX13_readGate_3 7 rfl rfl)
theorem dX13_readGate_82 : decode cX13_readGate 82 = .ok (.aload_n 0, 1) := dk_42 (dk_at dksX13_readGate_3 10 rfl rfl)
theorem dX13_readGate_83 : decode cX13_readGate 83 = .ok (.getfield 152, 3) := dk_180 0 152 (dk_at dksX13_readGate_3 11 rfl rfl)
theorem dX13_readGate_86 : decode cX13_readGate 86 = .ok (.getfield 194, 3) := dk_180 0 194 (dk_at dksX13_readGate_3 14 rfl rfl)
theorem dX13_readGate_89 : decode cX13_readGate 89 = .ok (.iload_n 3, 1) := dk_29 (dk_at dksX13_readGate_3 17 rfl rfl)
theorem dX13_readGate_90 : decode cX13_readGate 90 = .ok (.iastore, 1) := dk_79 (dk_at dksX13_readGate_3 18 rfl rfl)
theorem dX13_readGate_91 : decode cX13_readGate 91 = .ok (.aload_n 0, 1) := dk_42 (dk_at dksX13_readGate_3 19 rfl rfl)
theorem dX13_readGate_92 : decode cX13_readGate 92 = .ok (.getfield 152, 3) := dk_180 0 152 (dk_at dksX13_readGate_3 20 rfl rfl)
theorem dX13_readGate_95 : decode cX13_readGate 95 = .ok (.getfield 275, 3) := dk_180 1 19 (dk_at dksX13_readGate_4 0 rfl rfl)
theorem dX13_readGate_98 : decode cX13_readGate 98 = .ok (.aload_n 0, 1) := dk_42 (dk_at dksX13_readGate_4 3 rfl rfl)
theorem dX13_readGate_99 : decode cX13_readGate 99 = .ok (.getfield 152, 3) := dk_180 0 152 (dk_at dksX13_readGate_4 4 rfl rfl)
theorem dX13_readGate_102 : decode cX13_readGate 102 = .ok (.getfield 194, 3) := dk_180 0 194 (dk_at dksX13_readGate_4 7 rfl rfl)
theorem dX13_readGate_105 : decode cX13_readGate 105 = .ok (.iload 4, 2) := dk_21 4 (dk_at dksX13_readGate_4 10 rfl rfl)
theorem dX13_readGate_107 : decode cX13_readGate 107 = .ok (.iastore, 1) := dk_79 (dk_at dksX13_readGate_4 12 rfl rfl)
theorem dX13_readGate_108 : decode cX13_readGate 108 = .ok (.aload_n 0, 1) := dk_42 (dk_at dksX13_readGate_4 13 rfl rfl)
theorem dX13_readGate_109 : decode cX13_readGate 109 = .ok (.getfield 152, 3) := dk_180 0 152 (dk_at dksX13_readGate_4 14 rfl rfl)
theorem dX13_readGate_112 : decode cX13_readGate 112 = .ok (.getfield 277, 3) := dk_180 1 21 (dk_at dksX13_readGate_4 17 rfl rfl)
theorem dX13_readGate_115 : decode cX13_readGate 115 = .ok (.aload_n 0, 1) := dk_42 (dk_at dksX13_readGate_4 20 rfl rfl)
theorem dX13_readGate_116 : decode cX13_readGate 116 = .ok (.getfield 152, 3) := dk_180 0 152 (dk_at dksX13_readGate_4 21 rfl rfl)
theorem dX13_readGate_119 : decode cX13_readGate 119 = .ok (.getfield 194, 3) := dk_180 0 194 (dk_at dksX13_readGate_5 0 rfl rfl)
theorem dX13_readGate_122 : decode cX13_readGate 122 = .ok (.iload 5, 2) := dk_21 5 (dk_at dksX13_readGate_5 3 rfl rfl)
theorem dX13_readGate_124 : decode cX13_readGate 124 = .ok (.iastore, 1) := dk_79 (dk_at dksX13_readGate_5 5 rfl rfl)
theorem dX13_readGate_125 : decode cX13_readGate 125 = .ok (.aload_n 0, 1) := dk_42 (dk_at dksX13_readGate_5 6 rfl rfl)
theorem dX13_readGate_126 : decode cX13_readGate 126 = .ok (.getfield 152, 3) := dk_180 0 152 (dk_at dksX13_readGate_5 7 rfl rfl)
theorem dX13_readGate_129 : decode cX13_readGate 129 = .ok (.dup, 1) := dk_89 (dk_at dksX13_readGate_5 10 rfl rfl)
theorem dX13_readGate_130 : decode cX13_readGate 130 = .ok (.getfield 194, 3) := dk_180 0 194 (dk_at dksX13_readGate_5 11 rfl rfl)
theorem dX13_readGate_133 : decode cX13_readGate 133 = .ok (.iconst 1, 1) := dk_4 (dk_at dksX13_readGate_5 14 rfl rfl)
theorem dX13_readGate_134 : decode cX13_readGate 134 = .ok (.iadd, 1) := dk_96 (dk_at dksX13_readGate_5 15 rfl rfl)
theorem dX13_readGate_135 : decode cX13_readGate 135 = .ok (.putfield 194, 3) := dk_181 0 194 (dk_at dksX13_readGate_5 16 rfl rfl)
theorem dX13_readGate_138 : decode cX13_readGate 138 = .ok (.return_, 1) := dk_177 (dk_at dksX13_readGate_5 19 rfl rfl)
abbrev cX13_readGood : ByteArray := prog_27_method_37_code
def yX13_readGood : MethodName := ⟨RX13, "readGood", "()V"⟩
def dkwX13_readGood_9 : List UInt8 := [177]
abbrev dktX13_readGood_9 : List UInt8 := dkwX13_readGood_9 ++ []
def dkwX13_readGood_8 : List UInt8 := [180, 0, 152, 180, 1, 58, 21, 9, 21, 8, 79, 42, 180, 0, 152, 89, 180, 1, 31, 4, 96, 181, 1, 31]
abbrev dktX13_readGood_8 : List UInt8 := dkwX13_readGood_8 ++ dktX13_readGood_9
def dkwX13_readGood_7 : List UInt8 := [180, 0, 152, 180, 1, 54, 21, 9, 21, 6, 79, 42, 180, 0, 152, 180, 1, 56, 21, 9, 21, 7, 79, 42]
abbrev dktX13_readGood_7 : List UInt8 := dkwX13_readGood_7 ++ dktX13_readGood_8
def dkwX13_readGood_6 : List UInt8 := [180, 0, 152, 180, 1, 49, 21, 9, 21, 4, 79, 42, 180, 0, 152, 180, 1, 52, 21, 9, 21, 5, 79, 42]
abbrev dktX13_readGood_6 : List UInt8 := dkwX13_readGood_6 ++ dktX13_readGood_7
def dkwX13_readGood_5 : List UInt8 := [54, 9, 42, 31, 6, 21, 9, 182, 0, 249, 42, 180, 0, 152, 180, 1, 46, 21, 9, 29, 79, 42]
abbrev dktX13_readGood_5 : List UInt8 := dkwX13_readGood_5 ++ dktX13_readGood_6
def dkwX13_readGood_4 : List UInt8 := [3, 16, 99, 182, 0, 225, 54, 8, 42, 180, 0, 71, 8, 160, 0, 4, 177, 42, 180, 0, 152, 180, 1, 31]
abbrev dktX13_readGood_4 : List UInt8 := dkwX13_readGood_4 ++ dktX13_readGood_5
def dkwX13_readGood_3 : List UInt8 := [17, 1, 44, 182, 0, 225, 54, 6, 42, 19, 1, 42, 4, 16, 9, 182, 0, 225, 54, 7, 42, 19, 1, 44]
abbrev dktX13_readGood_3 : List UInt8 := dkwX13_readGood_3 ++ dktX13_readGood_4
def dkwX13_readGood_2 : List UInt8 := [29, 153, 0, 16, 42, 18, 150, 182, 0, 122, 42, 3, 182, 1, 37, 54, 5, 42, 19, 1, 40, 3]
abbrev dktX13_readGood_2 : List UInt8 := dkwX13_readGood_2 ++ dktX13_readGood_3
def dkwX13_readGood_1 : List UInt8 := [2, 160, 0, 8, 42, 4, 182, 0, 114, 42, 182, 0, 107, 42, 4, 182, 1, 37, 54, 4, 16, 254, 54, 5]
abbrev dktX13_readGood_1 : List UInt8 := dkwX13_readGood_1 ++ dktX13_readGood_2
def dkwX13_readGood_0 : List UInt8 := [42, 42, 180, 0, 152, 180, 1, 31, 16, 8, 182, 0, 235, 42, 182, 0, 239, 64, 42, 182, 1, 34, 62, 29]
abbrev dktX13_readGood_0 : List UInt8 := dkwX13_readGood_0 ++ dktX13_readGood_1
theorem dksX13_readGood_0 : cX13_readGood.data.toList.drop 0 = dktX13_readGood_0 := by decide +kernel
theorem dksX13_readGood_1 : cX13_readGood.data.toList.drop 24 = dktX13_readGood_1 := dk_seg dksX13_readGood_0 24 rfl rfl
theorem dksX13_readGood_2 : cX13_readGood.data.toList.drop 48 = dktX13_readGood_2 := dk_seg dksX13_readGood_1 24 rfl rfl
theorem dksX13_readGood_3 : cX13_readGood.data.toList.drop 70 = dktX13_readGood_3 := dk_seg dksX13_readGood_2 22 rfl rfl
theorem dksX13_readGood_4 : cX13_readGood.data.toList.drop 94 = dktX13_readGood_4 := dk_seg dksX13_readGood_3 24 rfl rfl
theorem dksX13_readGood_5 : cX13_readGood.data.toList.drop 118 = dktX13_readGood_5 := dk_seg dksX13_readGood_4 24 rfl rfl
theorem dksX13_readGood_6 : cX13_readGood.data.toList.drop 140 = dktX13_readGood_6 := dk_seg dksX13_readGood_5 22 rfl rfl
theorem dksX13_readGood_7 : cX13_readGood.data.toList.drop 164 = dktX13_readGood_7 := dk_seg dksX13_readGood_6 24 rfl rfl
theorem dksX13_readGood_8 : cX13_readGood.data.toList.drop 188 = dktX13_readGood_8 := dk_seg dksX13_readGood_7 24 rfl rfl
theorem dksX13_readGood_9 : cX13_readGood.data.toList.drop 212 = dktX13_readGood_9 := dk_seg dksX13_readGood_8 24 rfl rfl
theorem dX13_readGood_0 : decode cX13_readGood 0 = .ok (.aload_n 0, 1) := dk_42 (dk_at dksX13_readGood_0 0 rfl rfl)
theorem dX13_readGood_1 : decode cX13_readGood 1 = .ok (.aload_n 0, 1) := dk_42 (dk_at dksX13_readGood_0 1 rfl rfl)
theorem dX13_readGood_2 : decode cX13_readGood 2 = .ok (.getfield 152, 3) := dk_180 0 152 (dk_at dksX13_readGood_0 2 rfl rfl)
theorem dX13_readGood_5 : decode cX13_readGood 5 = .ok (.getfield 287, 3) := dk_180 1 31 (dk_at dksX13_readGood_0 5 rfl rfl)
theorem dX13_readGood_8 : decode cX13_readGood 8 = .ok (.bipush 8, 2) := dk_16 8 (dk_at dksX13_readGood_0 8 rfl rfl)
theorem dX13_readGood_10 : decode cX13_readGood 10 = .ok (.invokevirtual 235, 3) := dk_182 0 235 (dk_at dksX13_readGood_0 10 rfl rfl)
theorem dX13_readGood_13 : decode cX13_readGood 13 = .ok (.aload_n 0, 1) := dk_42 (dk_at dksX13_readGood_0 13 rfl rfl)
theorem dX13_readGood_14 : decode cX13_readGood 14 = .ok (.invokevirtual 239, 3) := dk_182 0 239 (dk_at dksX13_readGood_0 14 rfl rfl)
theorem dX13_readGood_17 : decode cX13_readGood 17 = .ok (.lstore_n 1, 1) := dk_64 (dk_at dksX13_readGood_0 17 rfl rfl)
theorem dX13_readGood_18 : decode cX13_readGood 18 = .ok (.aload_n 0, 1) := dk_42 (dk_at dksX13_readGood_0 18 rfl rfl)
theorem dX13_readGood_19 : decode cX13_readGood 19 = .ok (.invokevirtual 290, 3) := dk_182 1 34 (dk_at dksX13_readGood_0 19 rfl rfl)
theorem dX13_readGood_22 : decode cX13_readGood 22 = .ok (.istore_n 3, 1) := dk_62 (dk_at dksX13_readGood_0 22 rfl rfl)
theorem dX13_readGood_23 : decode cX13_readGood 23 = .ok (.iload_n 3, 1) := dk_29 (dk_at dksX13_readGood_0 23 rfl rfl)
theorem dX13_readGood_24 : decode cX13_readGood 24 = .ok (.iconst (-1), 1) := dk_2 (dk_at dksX13_readGood_1 0 rfl rfl)
theorem dX13_readGood_25 : decode cX13_readGood 25 = .ok (.if_icmp .ne 8, 3) := dk_160 0 8 (dk_at dksX13_readGood_1 1 rfl rfl)
theorem dX13_readGood_28 : decode cX13_readGood 28 = .ok (.aload_n 0, 1) := dk_42 (dk_at dksX13_readGood_1 4 rfl rfl)
theorem dX13_readGood_29 : decode cX13_readGood 29 = .ok (.iconst 1, 1) := dk_4 (dk_at dksX13_readGood_1 5 rfl rfl)
theorem dX13_readGood_30 : decode cX13_readGood 30 = .ok (.invokevirtual 114, 3) := dk_182 0 114 (dk_at dksX13_readGood_1 6 rfl rfl)
theorem dX13_readGood_33 : decode cX13_readGood 33 = .ok (.aload_n 0, 1) := dk_42 (dk_at dksX13_readGood_1 9 rfl rfl)
theorem dX13_readGood_34 : decode cX13_readGood 34 = .ok (.invokevirtual 107, 3) := dk_182 0 107 (dk_at dksX13_readGood_1 10 rfl rfl)
theorem dX13_readGood_37 : decode cX13_readGood 37 = .ok (.aload_n 0, 1) := dk_42 (dk_at dksX13_readGood_1 13 rfl rfl)
theorem dX13_readGood_38 : decode cX13_readGood 38 = .ok (.iconst 1, 1) := dk_4 (dk_at dksX13_readGood_1 14 rfl rfl)
theorem dX13_readGood_39 : decode cX13_readGood 39 = .ok (.invokevirtual 293, 3) := dk_182 1 37 (dk_at dksX13_readGood_1 15 rfl rfl)
theorem dX13_readGood_42 : decode cX13_readGood 42 = .ok (.istore 4, 2) := dk_54 4 (dk_at dksX13_readGood_1 18 rfl rfl)
theorem dX13_readGood_44 : decode cX13_readGood 44 = .ok (.bipush (-2), 2) := dk_16 254 (dk_at dksX13_readGood_1 20 rfl rfl)
theorem dX13_readGood_46 : decode cX13_readGood 46 = .ok (.istore 5, 2) := dk_54 5 (dk_at dksX13_readGood_1 22 rfl rfl)
theorem dX13_readGood_48 : decode cX13_readGood 48 = .ok (.iload_n 3, 1) := dk_29 (dk_at dksX13_readGood_2 0 rfl rfl)
theorem dX13_readGood_49 : decode cX13_readGood 49 = .ok (.ifCond .eq 16, 3) := dk_153 0 16 (dk_at dksX13_readGood_2 1 rfl rfl)
theorem dX13_readGood_52 : decode cX13_readGood 52 = .ok (.aload_n 0, 1) := dk_42 (dk_at dksX13_readGood_2 4 rfl rfl)
theorem dX13_readGood_53 : decode cX13_readGood 53 = .ok (.ldc 150, 2) := dk_18 150 (dk_at dksX13_readGood_2 5 rfl rfl)
theorem dX13_readGood_55 : decode cX13_readGood 55 = .ok (.invokevirtual 122, 3) := dk_182 0 122 (dk_at dksX13_readGood_2 7 rfl rfl)
theorem dX13_readGood_58 : decode cX13_readGood 58 = .ok (.aload_n 0, 1) := dk_42 (dk_at dksX13_readGood_2 10 rfl rfl)
theorem dX13_readGood_59 : decode cX13_readGood 59 = .ok (.iconst 0, 1) := dk_3 (dk_at dksX13_readGood_2 11 rfl rfl)
theorem dX13_readGood_60 : decode cX13_readGood 60 = .ok (.invokevirtual 293, 3) := dk_182 1 37 (dk_at dksX13_readGood_2 12 rfl rfl)
theorem dX13_readGood_63 : decode cX13_readGood 63 = .ok (.istore 5, 2) := dk_54 5 (dk_at dksX13_readGood_2 15 rfl rfl)
theorem dX13_readGood_65 : decode cX13_readGood 65 = .ok (.aload_n 0, 1) := dk_42 (dk_at dksX13_readGood_2 17 rfl rfl)
theorem dX13_readGood_66 : decode cX13_readGood 66 = .ok (.ldc_w 296, 3) := dk_19 1 40 (dk_at dksX13_readGood_2 18 rfl rfl)
theorem dX13_readGood_69 : decode cX13_readGood 69 = .ok (.iconst 0, 1) := dk_3 (dk_at dksX13_readGood_2 21 rfl rfl)
theorem dX13_readGood_70 : decode cX13_readGood 70 = .ok (.sipush 300, 3) := dk_17 1 44 (dk_at dksX13_readGood_3 0 rfl rfl)
theorem dX13_readGood_73 : decode cX13_readGood 73 = .ok (.invokevirtual 225, 3) := dk_182 0 225 (dk_at dksX13_readGood_3 3 rfl rfl)
theorem dX13_readGood_76 : decode cX13_readGood 76 = .ok (.istore 6, 2) := dk_54 6 (dk_at dksX13_readGood_3 6 rfl rfl)
theorem dX13_readGood_78 : decode cX13_readGood 78 = .ok (.aload_n 0, 1) := dk_42 (dk_at dksX13_readGood_3 8 rfl rfl)
theorem dX13_readGood_79 : decode cX13_readGood 79 = .ok (.ldc_w 298, 3) := dk_19 1 42 (dk_at dksX13_readGood_3 9 rfl rfl)
theorem dX13_readGood_82 : decode cX13_readGood 82 = .ok (.iconst 1, 1) := dk_4 (dk_at dksX13_readGood_3 12 rfl rfl)
theorem dX13_readGood_83 : decode cX13_readGood 83 = .ok (.bipush 9, 2) := dk_16 9 (dk_at dksX13_readGood_3 13 rfl rfl)
theorem dX13_readGood_85 : decode cX13_readGood 85 = .ok (.invokevirtual 225, 3) := dk_182 0 225 (dk_at dksX13_readGood_3 15 rfl rfl)
theorem dX13_readGood_88 : decode cX13_readGood 88 = .ok (.istore 7, 2) := dk_54 7 (dk_at dksX13_readGood_3 18 rfl rfl)
theorem dX13_readGood_90 : decode cX13_readGood 90 = .ok (.aload_n 0, 1) := dk_42 (dk_at dksX13_readGood_3 20 rfl rfl)
theorem dX13_readGood_91 : decode cX13_readGood 91 = .ok (.ldc_w 300, 3) := dk_19 1 44 (dk_at dksX13_readGood_3 21 rfl rfl)
theorem dX13_readGood_94 : decode cX13_readGood 94 = .ok (.iconst 0, 1) := dk_3 (dk_at dksX13_readGood_4 0 rfl rfl)
theorem dX13_readGood_95 : decode cX13_readGood 95 = .ok (.bipush 99, 2) := dk_16 99 (dk_at dksX13_readGood_4 1 rfl rfl)
theorem dX13_readGood_97 : decode cX13_readGood 97 = .ok (.invokevirtual 225, 3) := dk_182 0 225 (dk_at dksX13_readGood_4 3 rfl rfl)
theorem dX13_readGood_100 : decode cX13_readGood 100 = .ok (.istore 8, 2) := dk_54 8 (dk_at dksX13_readGood_4 6 rfl rfl)
theorem dX13_readGood_102 : decode cX13_readGood 102 = .ok (.aload_n 0, 1) := dk_42 (dk_at dksX13_readGood_4 8 rfl rfl)
theorem dX13_readGood_103 : decode cX13_readGood 103 = .ok (.getfield 71, 3) := dk_180 0 71 (dk_at dksX13_readGood_4 9 rfl rfl)
theorem dX13_readGood_106 : decode cX13_readGood 106 = .ok (.iconst 5, 1) := dk_8 (dk_at dksX13_readGood_4 12 rfl rfl)
theorem dX13_readGood_107 : decode cX13_readGood 107 = .ok (.if_icmp .ne 4, 3) := dk_160 0 4 (dk_at dksX13_readGood_4 13 rfl rfl)
theorem dX13_readGood_110 : decode cX13_readGood 110 = .ok (.return_, 1) := dk_177 (dk_at dksX13_readGood_4 16 rfl rfl)
theorem dX13_readGood_111 : decode cX13_readGood 111 = .ok (.aload_n 0, 1) := dk_42 (dk_at dksX13_readGood_4 17 rfl rfl)
theorem dX13_readGood_112 : decode cX13_readGood 112 = .ok (.getfield 152, 3) := dk_180 0 152 (dk_at dksX13_readGood_4 18 rfl rfl)
theorem dX13_readGood_115 : decode cX13_readGood 115 = .ok (.getfield 287, 3) := dk_180 1 31 (dk_at dksX13_readGood_4 21 rfl rfl)
theorem dX13_readGood_118 : decode cX13_readGood 118 = .ok (.istore 9, 2) := dk_54 9 (dk_at dksX13_readGood_5 0 rfl rfl)
theorem dX13_readGood_120 : decode cX13_readGood 120 = .ok (.aload_n 0, 1) := dk_42 (dk_at dksX13_readGood_5 2 rfl rfl)
theorem dX13_readGood_121 : decode cX13_readGood 121 = .ok (.lload_n 1, 1) := dk_31 (dk_at dksX13_readGood_5 3 rfl rfl)
theorem dX13_readGood_122 : decode cX13_readGood 122 = .ok (.iconst 3, 1) := dk_6 (dk_at dksX13_readGood_5 4 rfl rfl)
theorem dX13_readGood_123 : decode cX13_readGood 123 = .ok (.iload 9, 2) := dk_21 9 (dk_at dksX13_readGood_5 5 rfl rfl)
theorem dX13_readGood_125 : decode cX13_readGood 125 = .ok (.invokevirtual 249, 3) := dk_182 0 249 (dk_at dksX13_readGood_5 7 rfl rfl)
theorem dX13_readGood_128 : decode cX13_readGood 128 = .ok (.aload_n 0, 1) := dk_42 (dk_at dksX13_readGood_5 10 rfl rfl)
theorem dX13_readGood_129 : decode cX13_readGood 129 = .ok (.getfield 152, 3) := dk_180 0 152 (dk_at dksX13_readGood_5 11 rfl rfl)
theorem dX13_readGood_132 : decode cX13_readGood 132 = .ok (.getfield 302, 3) := dk_180 1 46 (dk_at dksX13_readGood_5 14 rfl rfl)
theorem dX13_readGood_135 : decode cX13_readGood 135 = .ok (.iload 9, 2) := dk_21 9 (dk_at dksX13_readGood_5 17 rfl rfl)
theorem dX13_readGood_137 : decode cX13_readGood 137 = .ok (.iload_n 3, 1) := dk_29 (dk_at dksX13_readGood_5 19 rfl rfl)
theorem dX13_readGood_138 : decode cX13_readGood 138 = .ok (.iastore, 1) := dk_79 (dk_at dksX13_readGood_5 20 rfl rfl)
theorem dX13_readGood_139 : decode cX13_readGood 139 = .ok (.aload_n 0, 1) := dk_42 (dk_at dksX13_readGood_5 21 rfl rfl)
theorem dX13_readGood_140 : decode cX13_readGood 140 = .ok (.getfield 152, 3) := dk_180 0 152 (dk_at dksX13_readGood_6 0 rfl rfl)
theorem dX13_readGood_143 : decode cX13_readGood 143 = .ok (.getfield 305, 3) := dk_180 1 49 (dk_at dksX13_readGood_6 3 rfl rfl)
theorem dX13_readGood_146 : decode cX13_readGood 146 = .ok (.iload 9, 2) := dk_21 9 (dk_at dksX13_readGood_6 6 rfl rfl)
theorem dX13_readGood_148 : decode cX13_readGood 148 = .ok (.iload 4, 2) := dk_21 4 (dk_at dksX13_readGood_6 8 rfl rfl)
theorem dX13_readGood_150 : decode cX13_readGood 150 = .ok (.iastore, 1) := dk_79 (dk_at dksX13_readGood_6 10 rfl rfl)
theorem dX13_readGood_151 : decode cX13_readGood 151 = .ok (.aload_n 0, 1) := dk_42 (dk_at dksX13_readGood_6 11 rfl rfl)
theorem dX13_readGood_152 : decode cX13_readGood 152 = .ok (.getfield 152, 3) := dk_180 0 152 (dk_at dksX13_readGood_6 12 rfl rfl)
theorem dX13_readGood_155 : decode cX13_readGood 155 = .ok (.getfield 308, 3) := dk_180 1 52 (dk_at dksX13_readGood_6 15 rfl rfl)
theorem dX13_readGood_158 : decode cX13_readGood 158 = .ok (.iload 9, 2) := dk_21 9 (dk_at dksX13_readGood_6 18 rfl rfl)
theorem dX13_readGood_160 : decode cX13_readGood 160 = .ok (.iload 5, 2) := dk_21 5 (dk_at dksX13_readGood_6 20 rfl rfl)
theorem dX13_readGood_162 : decode cX13_readGood 162 = .ok (.iastore, 1) := dk_79 (dk_at dksX13_readGood_6 22 rfl rfl)
theorem dX13_readGood_163 : decode cX13_readGood 163 = .ok (.aload_n 0, 1) := dk_42 (dk_at dksX13_readGood_6 23 rfl rfl)
theorem dX13_readGood_164 : decode cX13_readGood 164 = .ok (.getfield 152, 3) := dk_180 0 152 (dk_at dksX13_readGood_7 0 rfl rfl)
theorem dX13_readGood_167 : decode cX13_readGood 167 = .ok (.getfield 310, 3) := dk_180 1 54 (dk_at dksX13_readGood_7 3 rfl rfl)
theorem dX13_readGood_170 : decode cX13_readGood 170 = .ok (.iload 9, 2) := dk_21 9 (dk_at dksX13_readGood_7 6 rfl rfl)
theorem dX13_readGood_172 : decode cX13_readGood 172 = .ok (.iload 6, 2) := dk_21 6 (dk_at dksX13_readGood_7 8 rfl rfl)
theorem dX13_readGood_174 : decode cX13_readGood 174 = .ok (.iastore, 1) := dk_79 (dk_at dksX13_readGood_7 10 rfl rfl)
theorem dX13_readGood_175 : decode cX13_readGood 175 = .ok (.aload_n 0, 1) := dk_42 (dk_at dksX13_readGood_7 11 rfl rfl)
theorem dX13_readGood_176 : decode cX13_readGood 176 = .ok (.getfield 152, 3) := dk_180 0 152 (dk_at dksX13_readGood_7 12 rfl rfl)
theorem dX13_readGood_179 : decode cX13_readGood 179 = .ok (.getfield 312, 3) := dk_180 1 56 (dk_at dksX13_readGood_7 15 rfl rfl)
theorem dX13_readGood_182 : decode cX13_readGood 182 = .ok (.iload 9, 2) := dk_21 9 (dk_at dksX13_readGood_7 18 rfl rfl)
theorem dX13_readGood_184 : decode cX13_readGood 184 = .ok (.iload 7, 2) := dk_21 7 (dk_at dksX13_readGood_7 20 rfl rfl)
theorem dX13_readGood_186 : decode cX13_readGood 186 = .ok (.iastore, 1) := dk_79 (dk_at dksX13_readGood_7 22 rfl rfl)
theorem dX13_readGood_187 : decode cX13_readGood 187 = .ok (.aload_n 0, 1) := dk_42 (dk_at dksX13_readGood_7 23 rfl rfl)
theorem dX13_readGood_188 : decode cX13_readGood 188 = .ok (.getfield 152, 3) := dk_180 0 152 (dk_at dksX13_readGood_8 0 rfl rfl)
theorem dX13_readGood_191 : decode cX13_readGood 191 = .ok (.getfield 314, 3) := dk_180 1 58 (dk_at dksX13_readGood_8 3 rfl rfl)
theorem dX13_readGood_194 : decode cX13_readGood 194 = .ok (.iload 9, 2) := dk_21 9 (dk_at dksX13_readGood_8 6 rfl rfl)
theorem dX13_readGood_196 : decode cX13_readGood 196 = .ok (.iload 8, 2) := dk_21 8 (dk_at dksX13_readGood_8 8 rfl rfl)
theorem dX13_readGood_198 : decode cX13_readGood 198 = .ok (.iastore, 1) := dk_79 (dk_at dksX13_readGood_8 10 rfl rfl)
theorem dX13_readGood_199 : decode cX13_readGood 199 = .ok (.aload_n 0, 1) := dk_42 (dk_at dksX13_readGood_8 11 rfl rfl)
theorem dX13_readGood_200 : decode cX13_readGood 200 = .ok (.getfield 152, 3) := dk_180 0 152 (dk_at dksX13_readGood_8 12 rfl rfl)
theorem dX13_readGood_203 : decode cX13_readGood 203 = .ok (.dup, 1) := dk_89 (dk_at dksX13_readGood_8 15 rfl rfl)
theorem dX13_readGood_204 : decode cX13_readGood 204 = .ok (.getfield 287, 3) := dk_180 1 31 (dk_at dksX13_readGood_8 16 rfl rfl)
theorem dX13_readGood_207 : decode cX13_readGood 207 = .ok (.iconst 1, 1) := dk_4 (dk_at dksX13_readGood_8 19 rfl rfl)
theorem dX13_readGood_208 : decode cX13_readGood 208 = .ok (.iadd, 1) := dk_96 (dk_at dksX13_readGood_8 20 rfl rfl)
theorem dX13_readGood_209 : decode cX13_readGood 209 = .ok (.putfield 287, 3) := dk_181 1 31 (dk_at dksX13_readGood_8 21 rfl rfl)
theorem dX13_readGood_212 : decode cX13_readGood 212 = .ok (.return_, 1) := dk_177 (dk_at dksX13_readGood_9 0 rfl rfl)
abbrev cX13_kindOfGood : ByteArray := prog_27_method_36_code
def yX13_kindOfGood : MethodName := ⟨RX13, "kindOfGood", "()I"⟩
def dkwX13_kindOfGood_2 : List UInt8 := [19, 1, 29, 182, 0, 110, 153, 0, 7, 7, 167, 0, 4, 2, 172]
abbrev dktX13_kindOfGood_2 : List UInt8 := dkwX13_kindOfGood_2 ++ []
def dkwX13_kindOfGood_1 : List UInt8 := [19, 1, 25, 182, 0, 110, 153, 0, 5, 5, 172, 42, 19, 1, 27, 182, 0, 110, 153, 0, 5, 6, 172, 42]
abbrev dktX13_kindOfGood_1 : List UInt8 := dkwX13_kindOfGood_1 ++ dktX13_kindOfGood_2
def dkwX13_kindOfGood_0 : List UInt8 := [42, 18, 148, 182, 0, 110, 153, 0, 5, 3, 172, 42, 19, 1, 23, 182, 0, 110, 153, 0, 5, 4, 172, 42]
abbrev dktX13_kindOfGood_0 : List UInt8 := dkwX13_kindOfGood_0 ++ dktX13_kindOfGood_1
theorem dksX13_kindOfGood_0 : cX13_kindOfGood.data.toList.drop 0 = dktX13_kindOfGood_0 := by decide +kernel
theorem dksX13_kindOfGood_1 : cX13_kindOfGood.data.toList.drop 24 = dktX13_kindOfGood_1 := dk_seg dksX13_kindOfGood_0 24 rfl rfl
theorem dksX13_kindOfGood_2 : cX13_kindOfGood.data.toList.drop 48 = dktX13_kindOfGood_2 := dk_seg dksX13_kindOfGood_1 24 rfl rfl
theorem dX13_kindOfGood_0 : decode cX13_kindOfGood 0 = .ok (.aload_n 0, 1) := dk_42 (dk_at dksX13_kindOfGood_0 0 rfl rfl)
theorem dX13_kindOfGood_1 : decode cX13_kindOfGood 1 = .ok (.ldc 148, 2) := dk_18 148 (dk_at dksX13_kindOfGood_0 1 rfl rfl)
theorem dX13_kindOfGood_3 : decode cX13_kindOfGood 3 = .ok (.invokevirtual 110, 3) := dk_182 0 110 (dk_at dksX13_kindOfGood_0 3 rfl rfl)
theorem dX13_kindOfGood_6 : decode cX13_kindOfGood 6 = .ok (.ifCond .eq 5, 3) := dk_153 0 5 (dk_at dksX13_kindOfGood_0 6 rfl rfl)
theorem dX13_kindOfGood_9 : decode cX13_kindOfGood 9 = .ok (.iconst 0, 1) := dk_3 (dk_at dksX13_kindOfGood_0 9 rfl rfl)
theorem dX13_kindOfGood_10 : decode cX13_kindOfGood 10 = .ok (.ireturn, 1) := dk_172 (dk_at dksX13_kindOfGood_0 10 rfl rfl)
theorem dX13_kindOfGood_11 : decode cX13_kindOfGood 11 = .ok (.aload_n 0, 1) := dk_42 (dk_at dksX13_kindOfGood_0 11 rfl rfl)
theorem dX13_kindOfGood_12 : decode cX13_kindOfGood 12 = .ok (.ldc_w 279, 3) := dk_19 1 23 (dk_at dksX13_kindOfGood_0 12 rfl rfl)
theorem dX13_kindOfGood_15 : decode cX13_kindOfGood 15 = .ok (.invokevirtual 110, 3) := dk_182 0 110 (dk_at dksX13_kindOfGood_0 15 rfl rfl)
theorem dX13_kindOfGood_18 : decode cX13_kindOfGood 18 = .ok (.ifCond .eq 5, 3) := dk_153 0 5 (dk_at dksX13_kindOfGood_0 18 rfl rfl)
theorem dX13_kindOfGood_21 : decode cX13_kindOfGood 21 = .ok (.iconst 1, 1) := dk_4 (dk_at dksX13_kindOfGood_0 21 rfl rfl)
theorem dX13_kindOfGood_22 : decode cX13_kindOfGood 22 = .ok (.ireturn, 1) := dk_172 (dk_at dksX13_kindOfGood_0 22 rfl rfl)
theorem dX13_kindOfGood_23 : decode cX13_kindOfGood 23 = .ok (.aload_n 0, 1) := dk_42 (dk_at dksX13_kindOfGood_0 23 rfl rfl)
theorem dX13_kindOfGood_24 : decode cX13_kindOfGood 24 = .ok (.ldc_w 281, 3) := dk_19 1 25 (dk_at dksX13_kindOfGood_1 0 rfl rfl)
theorem dX13_kindOfGood_27 : decode cX13_kindOfGood 27 = .ok (.invokevirtual 110, 3) := dk_182 0 110 (dk_at dksX13_kindOfGood_1 3 rfl rfl)
theorem dX13_kindOfGood_30 : decode cX13_kindOfGood 30 = .ok (.ifCond .eq 5, 3) := dk_153 0 5 (dk_at dksX13_kindOfGood_1 6 rfl rfl)
theorem dX13_kindOfGood_33 : decode cX13_kindOfGood 33 = .ok (.iconst 2, 1) := dk_5 (dk_at dksX13_kindOfGood_1 9 rfl rfl)
theorem dX13_kindOfGood_34 : decode cX13_kindOfGood 34 = .ok (.ireturn, 1) := dk_172 (dk_at dksX13_kindOfGood_1 10 rfl rfl)
theorem dX13_kindOfGood_35 : decode cX13_kindOfGood 35 = .ok (.aload_n 0, 1) := dk_42 (dk_at dksX13_kindOfGood_1 11 rfl rfl)
theorem dX13_kindOfGood_36 : decode cX13_kindOfGood 36 = .ok (.ldc_w 283, 3) := dk_19 1 27 (dk_at dksX13_kindOfGood_1 12 rfl rfl)
theorem dX13_kindOfGood_39 : decode cX13_kindOfGood 39 = .ok (.invokevirtual 110, 3) := dk_182 0 110 (dk_at dksX13_kindOfGood_1 15 rfl rfl)
theorem dX13_kindOfGood_42 : decode cX13_kindOfGood 42 = .ok (.ifCond .eq 5, 3) := dk_153 0 5 (dk_at dksX13_kindOfGood_1 18 rfl rfl)
theorem dX13_kindOfGood_45 : decode cX13_kindOfGood 45 = .ok (.iconst 3, 1) := dk_6 (dk_at dksX13_kindOfGood_1 21 rfl rfl)
theorem dX13_kindOfGood_46 : decode cX13_kindOfGood 46 = .ok (.ireturn, 1) := dk_172 (dk_at dksX13_kindOfGood_1 22 rfl rfl)
theorem dX13_kindOfGood_47 : decode cX13_kindOfGood 47 = .ok (.aload_n 0, 1) := dk_42 (dk_at dksX13_kindOfGood_1 23 rfl rfl)
theorem dX13_kindOfGood_48 : decode cX13_kindOfGood 48 = .ok (.ldc_w 285, 3) := dk_19 1 29 (dk_at dksX13_kindOfGood_2 0 rfl rfl)
theorem dX13_kindOfGood_51 : decode cX13_kindOfGood 51 = .ok (.invokevirtual 110, 3) := dk_182 0 110 (dk_at dksX13_kindOfGood_2 3 rfl rfl)
theorem dX13_kindOfGood_54 : decode cX13_kindOfGood 54 = .ok (.ifCond .eq 7, 3) := dk_153 0 7 (dk_at dksX13_kindOfGood_2 6 rfl rfl)
theorem dX13_kindOfGood_57 : decode cX13_kindOfGood 57 = .ok (.iconst 4, 1) := dk_7 (dk_at dksX13_kindOfGood_2 9 rfl rfl)
theorem dX13_kindOfGood_58 : decode cX13_kindOfGood 58 = .ok (.goto 4, 3) := dk_167 0 4 (dk_at dksX13_kindOfGood_2 10 rfl rfl)
theorem dX13_kindOfGood_61 : decode cX13_kindOfGood 61 = .ok (.iconst (-1), 1) := dk_2 (dk_at dksX13_kindOfGood_2 13 rfl rfl)
theorem dX13_kindOfGood_62 : decode cX13_kindOfGood 62 = .ok (.ireturn, 1) := dk_172 (dk_at dksX13_kindOfGood_2 14 rfl rfl)
abbrev cX13_readKnown : ByteArray := prog_27_method_29_code
def yX13_readKnown : MethodName := ⟨RX13, "readKnown", "(I)I"⟩
def dkwX13_readKnown_0 : List UInt8 := [42, 27, 182, 0, 182, 61, 42, 182, 0, 107, 28, 172]
abbrev dktX13_readKnown_0 : List UInt8 := dkwX13_readKnown_0 ++ []
theorem dksX13_readKnown_0 : cX13_readKnown.data.toList.drop 0 = dktX13_readKnown_0 := by decide +kernel
theorem dX13_readKnown_0 : decode cX13_readKnown 0 = .ok (.aload_n 0, 1) := dk_42 (dk_at dksX13_readKnown_0 0 rfl rfl)
theorem dX13_readKnown_1 : decode cX13_readKnown 1 = .ok (.iload_n 1, 1) := dk_27 (dk_at dksX13_readKnown_0 1 rfl rfl)
theorem dX13_readKnown_2 : decode cX13_readKnown 2 = .ok (.invokevirtual 182, 3) := dk_182 0 182 (dk_at dksX13_readKnown_0 2 rfl rfl)
theorem dX13_readKnown_5 : decode cX13_readKnown 5 = .ok (.istore_n 2, 1) := dk_61 (dk_at dksX13_readKnown_0 5 rfl rfl)
theorem dX13_readKnown_6 : decode cX13_readKnown 6 = .ok (.aload_n 0, 1) := dk_42 (dk_at dksX13_readKnown_0 6 rfl rfl)
theorem dX13_readKnown_7 : decode cX13_readKnown 7 = .ok (.invokevirtual 107, 3) := dk_182 0 107 (dk_at dksX13_readKnown_0 7 rfl rfl)
theorem dX13_readKnown_10 : decode cX13_readKnown 10 = .ok (.iload_n 2, 1) := dk_28 (dk_at dksX13_readKnown_0 10 rfl rfl)
theorem dX13_readKnown_11 : decode cX13_readKnown 11 = .ok (.ireturn, 1) := dk_172 (dk_at dksX13_readKnown_0 11 rfl rfl)
abbrev cX13_knownOne : ByteArray := prog_27_method_28_code
def yX13_knownOne : MethodName := ⟨RX13, "knownOne", "(I)I"⟩
def dkwX13_knownOne_2 : List UInt8 := [180, 0, 71, 8, 160, 0, 7, 3, 167, 0, 12, 42, 180, 0, 152, 180, 0, 179, 28, 46, 172]
abbrev dktX13_knownOne_2 : List UInt8 := dkwX13_knownOne_2 ++ []
def dkwX13_knownOne_1 : List UInt8 := [28, 2, 159, 0, 16, 42, 180, 0, 152, 180, 0, 176, 28, 46, 27, 159, 0, 8, 42, 5, 182, 0, 114, 42]
abbrev dktX13_knownOne_1 : List UInt8 := dkwX13_knownOne_1 ++ dktX13_knownOne_2
def dkwX13_knownOne_0 : List UInt8 := [42, 182, 0, 161, 154, 0, 8, 42, 4, 182, 0, 114, 42, 180, 0, 152, 42, 180, 0, 87, 182, 0, 165, 61]
abbrev dktX13_knownOne_0 : List UInt8 := dkwX13_knownOne_0 ++ dktX13_knownOne_1
theorem dksX13_knownOne_0 : cX13_knownOne.data.toList.drop 0 = dktX13_knownOne_0 := by decide +kernel
theorem dksX13_knownOne_1 : cX13_knownOne.data.toList.drop 24 = dktX13_knownOne_1 := dk_seg dksX13_knownOne_0 24 rfl rfl
theorem dksX13_knownOne_2 : cX13_knownOne.data.toList.drop 48 = dktX13_knownOne_2 := dk_seg dksX13_knownOne_1 24 rfl rfl
theorem dX13_knownOne_0 : decode cX13_knownOne 0 = .ok (.aload_n 0, 1) := dk_42 (dk_at dksX13_knownOne_0 0 rfl rfl)
theorem dX13_knownOne_1 : decode cX13_knownOne 1 = .ok (.invokevirtual 161, 3) := dk_182 0 161 (dk_at dksX13_knownOne_0 1 rfl rfl)
theorem dX13_knownOne_4 : decode cX13_knownOne 4 = .ok (.ifCond .ne 8, 3) := dk_154 0 8 (dk_at dksX13_knownOne_0 4 rfl rfl)
theorem dX13_knownOne_7 : decode cX13_knownOne 7 = .ok (.aload_n 0, 1) := dk_42 (dk_at dksX13_knownOne_0 7 rfl rfl)
theorem dX13_knownOne_8 : decode cX13_knownOne 8 = .ok (.iconst 1, 1) := dk_4 (dk_at dksX13_knownOne_0 8 rfl rfl)
theorem dX13_knownOne_9 : decode cX13_knownOne 9 = .ok (.invokevirtual 114, 3) := dk_182 0 114 (dk_at dksX13_knownOne_0 9 rfl rfl)
theorem dX13_knownOne_12 : decode cX13_knownOne 12 = .ok (.aload_n 0, 1) := dk_42 (dk_at dksX13_knownOne_0 12 rfl rfl)
theorem dX13_knownOne_13 : decode cX13_knownOne 13 = .ok (.getfield 152, 3) := dk_180 0 152 (dk_at dksX13_knownOne_0 13 rfl rfl)
theorem dX13_knownOne_16 : decode cX13_knownOne 16 = .ok (.aload_n 0, 1) := dk_42 (dk_at dksX13_knownOne_0 16 rfl rfl)
theorem dX13_knownOne_17 : decode cX13_knownOne 17 = .ok (.getfield 87, 3) := dk_180 0 87 (dk_at dksX13_knownOne_0 17 rfl rfl)
theorem dX13_knownOne_20 : decode cX13_knownOne 20 = .ok (.invokevirtual 165, 3) := dk_182 0 165 (dk_at dksX13_knownOne_0 20 rfl rfl)
theorem dX13_knownOne_23 : decode cX13_knownOne 23 = .ok (.istore_n 2, 1) := dk_61 (dk_at dksX13_knownOne_0 23 rfl rfl)
theorem dX13_knownOne_24 : decode cX13_knownOne 24 = .ok (.iload_n 2, 1) := dk_28 (dk_at dksX13_knownOne_1 0 rfl rfl)
theorem dX13_knownOne_25 : decode cX13_knownOne 25 = .ok (.iconst (-1), 1) := dk_2 (dk_at dksX13_knownOne_1 1 rfl rfl)
theorem dX13_knownOne_26 : decode cX13_knownOne 26 = .ok (.if_icmp .eq 16, 3) := dk_159 0 16 (dk_at dksX13_knownOne_1 2 rfl rfl)
theorem dX13_knownOne_29 : decode cX13_knownOne 29 = .ok (.aload_n 0, 1) := dk_42 (dk_at dksX13_knownOne_1 5 rfl rfl)
theorem dX13_knownOne_30 : decode cX13_knownOne 30 = .ok (.getfield 152, 3) := dk_180 0 152 (dk_at dksX13_knownOne_1 6 rfl rfl)
theorem dX13_knownOne_33 : decode cX13_knownOne 33 = .ok (.getfield 176, 3) := dk_180 0 176 (dk_at dksX13_knownOne_1 9 rfl rfl)
theorem dX13_knownOne_36 : decode cX13_knownOne 36 = .ok (.iload_n 2, 1) := dk_28 (dk_at dksX13_knownOne_1 12 rfl rfl)
theorem dX13_knownOne_37 : decode cX13_knownOne 37 = .ok (.iaload, 1) := dk_46 (dk_at dksX13_knownOne_1 13 rfl rfl)
theorem dX13_knownOne_38 : decode cX13_knownOne 38 = .ok (.iload_n 1, 1) := dk_27 (dk_at dksX13_knownOne_1 14 rfl rfl)
theorem dX13_knownOne_39 : decode cX13_knownOne 39 = .ok (.if_icmp .eq 8, 3) := dk_159 0 8 (dk_at dksX13_knownOne_1 15 rfl rfl)
theorem dX13_knownOne_42 : decode cX13_knownOne 42 = .ok (.aload_n 0, 1) := dk_42 (dk_at dksX13_knownOne_1 18 rfl rfl)
theorem dX13_knownOne_43 : decode cX13_knownOne 43 = .ok (.iconst 2, 1) := dk_5 (dk_at dksX13_knownOne_1 19 rfl rfl)
theorem dX13_knownOne_44 : decode cX13_knownOne 44 = .ok (.invokevirtual 114, 3) := dk_182 0 114 (dk_at dksX13_knownOne_1 20 rfl rfl)
theorem dX13_knownOne_47 : decode cX13_knownOne 47 = .ok (.aload_n 0, 1) := dk_42 (dk_at dksX13_knownOne_1 23 rfl rfl)
theorem dX13_knownOne_48 : decode cX13_knownOne 48 = .ok (.getfield 71, 3) := dk_180 0 71 (dk_at dksX13_knownOne_2 0 rfl rfl)
theorem dX13_knownOne_51 : decode cX13_knownOne 51 = .ok (.iconst 5, 1) := dk_8 (dk_at dksX13_knownOne_2 3 rfl rfl)
theorem dX13_knownOne_52 : decode cX13_knownOne 52 = .ok (.if_icmp .ne 7, 3) := dk_160 0 7 (dk_at dksX13_knownOne_2 4 rfl rfl)
theorem dX13_knownOne_55 : decode cX13_knownOne 55 = .ok (.iconst 0, 1) := dk_3 (dk_at dksX13_knownOne_2 7 rfl rfl)
theorem dX13_knownOne_56 : decode cX13_knownOne 56 = .ok (.goto 12, 3) := dk_167 0 12 (dk_at dksX13_knownOne_2 8 rfl rfl)
theorem dX13_knownOne_59 : decode cX13_knownOne 59 = .ok (.aload_n 0, 1) := dk_42 (dk_at dksX13_knownOne_2 11 rfl rfl)
theorem dX13_knownOne_60 : decode cX13_knownOne 60 = .ok (.getfield 152, 3) := dk_180 0 152 (dk_at dksX13_knownOne_2 12 rfl rfl)
theorem dX13_knownOne_63 : decode cX13_knownOne 63 = .ok (.getfield 179, 3) := dk_180 0 179 (dk_at dksX13_knownOne_2 15 rfl rfl)
theorem dX13_knownOne_66 : decode cX13_knownOne 66 = .ok (.iload_n 2, 1) := dk_28 (dk_at dksX13_knownOne_2 18 rfl rfl)
theorem dX13_knownOne_67 : decode cX13_knownOne 67 = .ok (.iaload, 1) := dk_46 (dk_at dksX13_knownOne_2 19 rfl rfl)
theorem dX13_knownOne_68 : decode cX13_knownOne 68 = .ok (.ireturn, 1) := dk_172 (dk_at dksX13_knownOne_2 20 rfl rfl)
abbrev cX13_readHides : ByteArray := prog_27_method_38_code
def yX13_readHides : MethodName := ⟨RX13, "readHides", "()V"⟩
def dkwX13_readHides_2 : List UInt8 := [159, 0, 18, 42, 180, 0, 152, 89, 180, 1, 60, 4, 27, 120, 128, 181, 1, 60, 177]
abbrev dktX13_readHides_2 : List UInt8 := dkwX13_readHides_2 ++ []
def dkwX13_readHides_1 : List UInt8 := [180, 1, 60, 27, 184, 1, 63, 153, 0, 8, 42, 6, 182, 0, 114, 42, 182, 0, 107, 42, 180, 0, 71, 8]
abbrev dktX13_readHides_1 : List UInt8 := dkwX13_readHides_1 ++ dktX13_readHides_2
def dkwX13_readHides_0 : List UInt8 := [42, 3, 4, 182, 0, 235, 42, 6, 182, 0, 182, 60, 42, 180, 0, 71, 8, 159, 0, 22, 42, 180, 0, 152]
abbrev dktX13_readHides_0 : List UInt8 := dkwX13_readHides_0 ++ dktX13_readHides_1
theorem dksX13_readHides_0 : cX13_readHides.data.toList.drop 0 = dktX13_readHides_0 := by decide +kernel
theorem dksX13_readHides_1 : cX13_readHides.data.toList.drop 24 = dktX13_readHides_1 := dk_seg dksX13_readHides_0 24 rfl rfl
theorem dksX13_readHides_2 : cX13_readHides.data.toList.drop 48 = dktX13_readHides_2 := dk_seg dksX13_readHides_1 24 rfl rfl
theorem dX13_readHides_0 : decode cX13_readHides 0 = .ok (.aload_n 0, 1) := dk_42 (dk_at dksX13_readHides_0 0 rfl rfl)
theorem dX13_readHides_1 : decode cX13_readHides 1 = .ok (.iconst 0, 1) := dk_3 (dk_at dksX13_readHides_0 1 rfl rfl)
theorem dX13_readHides_2 : decode cX13_readHides 2 = .ok (.iconst 1, 1) := dk_4 (dk_at dksX13_readHides_0 2 rfl rfl)
theorem dX13_readHides_3 : decode cX13_readHides 3 = .ok (.invokevirtual 235, 3) := dk_182 0 235 (dk_at dksX13_readHides_0 3 rfl rfl)
theorem dX13_readHides_6 : decode cX13_readHides 6 = .ok (.aload_n 0, 1) := dk_42 (dk_at dksX13_readHides_0 6 rfl rfl)
theorem dX13_readHides_7 : decode cX13_readHides 7 = .ok (.iconst 3, 1) := dk_6 (dk_at dksX13_readHides_0 7 rfl rfl)
theorem dX13_readHides_8 : decode cX13_readHides 8 = .ok (.invokevirtual 182, 3) := dk_182 0 182 (dk_at dksX13_readHides_0 8 rfl rfl)
theorem dX13_readHides_11 : decode cX13_readHides 11 = .ok (.istore_n 1, 1) := dk_60 (dk_at dksX13_readHides_0 11 rfl rfl)
theorem dX13_readHides_12 : decode cX13_readHides 12 = .ok (.aload_n 0, 1) := dk_42 (dk_at dksX13_readHides_0 12 rfl rfl)
theorem dX13_readHides_13 : decode cX13_readHides 13 = .ok (.getfield 71, 3) := dk_180 0 71 (dk_at dksX13_readHides_0 13 rfl rfl)
theorem dX13_readHides_16 : decode cX13_readHides 16 = .ok (.iconst 5, 1) := dk_8 (dk_at dksX13_readHides_0 16 rfl rfl)
theorem dX13_readHides_17 : decode cX13_readHides 17 = .ok (.if_icmp .eq 22, 3) := dk_159 0 22 (dk_at dksX13_readHides_0 17 rfl rfl)
theorem dX13_readHides_20 : decode cX13_readHides 20 = .ok (.aload_n 0, 1) := dk_42 (dk_at dksX13_readHides_0 20 rfl rfl)
theorem dX13_readHides_21 : decode cX13_readHides 21 = .ok (.getfield 152, 3) := dk_180 0 152 (dk_at dksX13_readHides_0 21 rfl rfl)
theorem dX13_readHides_24 : decode cX13_readHides 24 = .ok (.getfield 316, 3) := dk_180 1 60 (dk_at dksX13_readHides_1 0 rfl rfl)
theorem dX13_readHides_27 : decode cX13_readHides 27 = .ok (.iload_n 1, 1) := dk_27 (dk_at dksX13_readHides_1 3 rfl rfl)
theorem dX13_readHides_28 : decode cX13_readHides 28 = .ok (.invokestatic 319, 3) := dk_184 1 63 (dk_at dksX13_readHides_1 4 rfl rfl)
theorem dX13_readHides_31 : decode cX13_readHides 31 = .ok (.ifCond .eq 8, 3) := dk_153 0 8 (dk_at dksX13_readHides_1 7 rfl rfl)
theorem dX13_readHides_34 : decode cX13_readHides 34 = .ok (.aload_n 0, 1) := dk_42 (dk_at dksX13_readHides_1 10 rfl rfl)
theorem dX13_readHides_35 : decode cX13_readHides 35 = .ok (.iconst 3, 1) := dk_6 (dk_at dksX13_readHides_1 11 rfl rfl)
theorem dX13_readHides_36 : decode cX13_readHides 36 = .ok (.invokevirtual 114, 3) := dk_182 0 114 (dk_at dksX13_readHides_1 12 rfl rfl)
theorem dX13_readHides_39 : decode cX13_readHides 39 = .ok (.aload_n 0, 1) := dk_42 (dk_at dksX13_readHides_1 15 rfl rfl)
theorem dX13_readHides_40 : decode cX13_readHides 40 = .ok (.invokevirtual 107, 3) := dk_182 0 107 (dk_at dksX13_readHides_1 16 rfl rfl)
theorem dX13_readHides_43 : decode cX13_readHides 43 = .ok (.aload_n 0, 1) := dk_42 (dk_at dksX13_readHides_1 19 rfl rfl)
theorem dX13_readHides_44 : decode cX13_readHides 44 = .ok (.getfield 71, 3) := dk_180 0 71 (dk_at dksX13_readHides_1 20 rfl rfl)
theorem dX13_readHides_47 : decode cX13_readHides 47 = .ok (.iconst 5, 1) := dk_8 (dk_at dksX13_readHides_1 23 rfl rfl)
theorem dX13_readHides_48 : decode cX13_readHides 48 = .ok (.if_icmp .eq 18, 3) := dk_159 0 18 (dk_at dksX13_readHides_2 0 rfl rfl)
theorem dX13_readHides_51 : decode cX13_readHides 51 = .ok (.aload_n 0, 1) := dk_42 (dk_at dksX13_readHides_2 3 rfl rfl)
theorem dX13_readHides_52 : decode cX13_readHides 52 = .ok (.getfield 152, 3) := dk_180 0 152 (dk_at dksX13_readHides_2 4 rfl rfl)
theorem dX13_readHides_55 : decode cX13_readHides 55 = .ok (.dup, 1) := dk_89 (dk_at dksX13_readHides_2 7 rfl rfl)
theorem dX13_readHides_56 : decode cX13_readHides 56 = .ok (.getfield 316, 3) := dk_180 1 60 (dk_at dksX13_readHides_2 8 rfl rfl)
theorem dX13_readHides_59 : decode cX13_readHides 59 = .ok (.iconst 1, 1) := dk_4 (dk_at dksX13_readHides_2 11 rfl rfl)
theorem dX13_readHides_60 : decode cX13_readHides 60 = .ok (.iload_n 1, 1) := dk_27 (dk_at dksX13_readHides_2 12 rfl rfl)
theorem dX13_readHides_61 : decode cX13_readHides 61 = .ok (.ishl, 1) := dk_120 (dk_at dksX13_readHides_2 13 rfl rfl)
theorem dX13_readHides_62 : decode cX13_readHides 62 = .ok (.ior, 1) := dk_128 (dk_at dksX13_readHides_2 14 rfl rfl)
theorem dX13_readHides_63 : decode cX13_readHides 63 = .ok (.putfield 316, 3) := dk_181 1 60 (dk_at dksX13_readHides_2 15 rfl rfl)
theorem dX13_readHides_66 : decode cX13_readHides 66 = .ok (.return_, 1) := dk_177 (dk_at dksX13_readHides_2 18 rfl rfl)
abbrev cX13_bit : ByteArray := prog_27_method_9_code
def yX13_bit : MethodName := ⟨RX13, "bit", "(II)Z"⟩
def dkwX13_bit_0 : List UInt8 := [26, 27, 122, 4, 126, 4, 160, 0, 7, 4, 167, 0, 4, 3, 172]
abbrev dktX13_bit_0 : List UInt8 := dkwX13_bit_0 ++ []
theorem dksX13_bit_0 : cX13_bit.data.toList.drop 0 = dktX13_bit_0 := by decide +kernel
theorem dX13_bit_0 : decode cX13_bit 0 = .ok (.iload_n 0, 1) := dk_26 (dk_at dksX13_bit_0 0 rfl rfl)
theorem dX13_bit_1 : decode cX13_bit 1 = .ok (.iload_n 1, 1) := dk_27 (dk_at dksX13_bit_0 1 rfl rfl)
theorem dX13_bit_2 : decode cX13_bit 2 = .ok (.ishr, 1) := dk_122 (dk_at dksX13_bit_0 2 rfl rfl)
theorem dX13_bit_3 : decode cX13_bit 3 = .ok (.iconst 1, 1) := dk_4 (dk_at dksX13_bit_0 3 rfl rfl)
theorem dX13_bit_4 : decode cX13_bit 4 = .ok (.iand, 1) := dk_126 (dk_at dksX13_bit_0 4 rfl rfl)
theorem dX13_bit_5 : decode cX13_bit 5 = .ok (.iconst 1, 1) := dk_4 (dk_at dksX13_bit_0 5 rfl rfl)
theorem dX13_bit_6 : decode cX13_bit 6 = .ok (.if_icmp .ne 7, 3) := dk_160 0 7 (dk_at dksX13_bit_0 6 rfl rfl)
theorem dX13_bit_9 : decode cX13_bit 9 = .ok (.iconst 1, 1) := dk_4 (dk_at dksX13_bit_0 9 rfl rfl)
theorem dX13_bit_10 : decode cX13_bit 10 = .ok (.goto 4, 3) := dk_167 0 4 (dk_at dksX13_bit_0 10 rfl rfl)
theorem dX13_bit_13 : decode cX13_bit 13 = .ok (.iconst 0, 1) := dk_3 (dk_at dksX13_bit_0 13 rfl rfl)
theorem dX13_bit_14 : decode cX13_bit 14 = .ok (.ireturn, 1) := dk_172 (dk_at dksX13_bit_0 14 rfl rfl)
abbrev cX13_readCrosses : ByteArray := prog_27_method_39_code
def yX13_readCrosses : MethodName := ⟨RX13, "readCrosses", "()V"⟩
def dkwX13_readCrosses_7 : List UInt8 := [180, 1, 67, 4, 96, 181, 1, 67, 177]
abbrev dktX13_readCrosses_7 : List UInt8 := dkwX13_readCrosses_7 ++ []
def dkwX13_readCrosses_6 : List UInt8 := [79, 42, 180, 0, 152, 180, 1, 82, 42, 180, 0, 152, 180, 1, 67, 21, 4, 79, 42, 180, 0, 152, 89]
abbrev dktX13_readCrosses_6 : List UInt8 := dkwX13_readCrosses_6 ++ dktX13_readCrosses_7
def dkwX13_readCrosses_5 : List UInt8 := [42, 180, 0, 152, 180, 1, 67, 28, 79, 42, 180, 0, 152, 180, 1, 72, 42, 180, 0, 152, 180, 1, 67, 29]
abbrev dktX13_readCrosses_5 : List UInt8 := dkwX13_readCrosses_5 ++ dktX13_readCrosses_6
def dkwX13_readCrosses_4 : List UInt8 := [177, 42, 180, 0, 152, 180, 1, 76, 42, 180, 0, 152, 180, 1, 67, 27, 79, 42, 180, 0, 152, 180, 1, 79]
abbrev dktX13_readCrosses_4 : List UInt8 := dkwX13_readCrosses_4 ++ dktX13_readCrosses_5
def dkwX13_readCrosses_3 : List UInt8 := [182, 0, 225, 62, 42, 19, 1, 74, 3, 16, 23, 182, 0, 225, 54, 4, 42, 180, 0, 71, 8, 160, 0, 4]
abbrev dktX13_readCrosses_3 : List UInt8 := dkwX13_readCrosses_3 ++ dktX13_readCrosses_4
def dkwX13_readCrosses_2 : List UInt8 := [167, 0, 20, 42, 180, 0, 152, 180, 1, 72, 42, 180, 0, 152, 180, 1, 67, 4, 100, 46, 16, 60]
abbrev dktX13_readCrosses_2 : List UInt8 := dkwX13_readCrosses_2 ++ dktX13_readCrosses_3
def dkwX13_readCrosses_1 : List UInt8 := [61, 42, 19, 1, 70, 42, 180, 0, 152, 180, 1, 67, 153, 0, 11, 42, 180, 0, 71, 8, 160, 0, 7, 3]
abbrev dktX13_readCrosses_1 : List UInt8 := dkwX13_readCrosses_1 ++ dktX13_readCrosses_2
def dkwX13_readCrosses_0 : List UInt8 := [42, 42, 180, 0, 152, 180, 1, 67, 16, 6, 182, 0, 235, 42, 4, 182, 1, 37, 60, 42, 5, 182, 1, 37]
abbrev dktX13_readCrosses_0 : List UInt8 := dkwX13_readCrosses_0 ++ dktX13_readCrosses_1
theorem dksX13_readCrosses_0 : cX13_readCrosses.data.toList.drop 0 = dktX13_readCrosses_0 := by decide +kernel
theorem dksX13_readCrosses_1 : cX13_readCrosses.data.toList.drop 24 = dktX13_readCrosses_1 := dk_seg dksX13_readCrosses_0 24 rfl rfl
theorem dksX13_readCrosses_2 : cX13_readCrosses.data.toList.drop 48 = dktX13_readCrosses_2 := dk_seg dksX13_readCrosses_1 24 rfl rfl
theorem dksX13_readCrosses_3 : cX13_readCrosses.data.toList.drop 70 = dktX13_readCrosses_3 := dk_seg dksX13_readCrosses_2 22 rfl rfl
theorem dksX13_readCrosses_4 : cX13_readCrosses.data.toList.drop 94 = dktX13_readCrosses_4 := dk_seg dksX13_readCrosses_3 24 rfl rfl
theorem dksX13_readCrosses_5 : cX13_readCrosses.data.toList.drop 118 = dktX13_readCrosses_5 := dk_seg dksX13_readCrosses_4 24 rfl rfl
theorem dksX13_readCrosses_6 : cX13_readCrosses.data.toList.drop 142 = dktX13_readCrosses_6 := dk_seg dksX13_readCrosses_5 24 rfl rfl
theorem dksX13_readCrosses_7 : cX13_readCrosses.data.toList.drop 165 = dktX13_readCrosses_7 := dk_seg dksX13_readCrosses_6 23 rfl rfl
theorem dX13_readCrosses_0 : decode cX13_readCrosses 0 = .ok (.aload_n 0, 1) := dk_42 (dk_at dksX13_readCrosses_0 0 rfl rfl)
theorem dX13_readCrosses_1 : decode cX13_readCrosses 1 = .ok (.aload_n 0, 1) := dk_42 (dk_at dksX13_readCrosses_0 1 rfl rfl)
theorem dX13_readCrosses_2 : decode cX13_readCrosses 2 = .ok (.getfield 152, 3) := dk_180 0 152 (dk_at dksX13_readCrosses_0 2 rfl rfl)
theorem dX13_readCrosses_5 : decode cX13_readCrosses 5 = .ok (.getfield 323, 3) := dk_180 1 67 (dk_at dksX13_readCrosses_0 5 rfl rfl)
theorem dX13_readCrosses_8 : decode cX13_readCrosses 8 = .ok (.bipush 6, 2) := dk_16 6 (dk_at dksX13_readCrosses_0 8 rfl rfl)
theorem dX13_readCrosses_10 : decode cX13_readCrosses 10 = .ok (.invokevirtual 235, 3) := dk_182 0 235 (dk_at dksX13_readCrosses_0 10 rfl rfl)
theorem dX13_readCrosses_13 : decode cX13_readCrosses 13 = .ok (.aload_n 0, 1) := dk_42 (dk_at dksX13_readCrosses_0 13 rfl rfl)
theorem dX13_readCrosses_14 : decode cX13_readCrosses 14 = .ok (.iconst 1, 1) := dk_4 (dk_at dksX13_readCrosses_0 14 rfl rfl)
theorem dX13_readCrosses_15 : decode cX13_readCrosses 15 = .ok (.invokevirtual 293, 3) := dk_182 1 37 (dk_at dksX13_readCrosses_0 15 rfl rfl)
theorem dX13_readCrosses_18 : decode cX13_readCrosses 18 = .ok (.istore_n 1, 1) := dk_60 (dk_at dksX13_readCrosses_0 18 rfl rfl)
theorem dX13_readCrosses_19 : decode cX13_readCrosses 19 = .ok (.aload_n 0, 1) := dk_42 (dk_at dksX13_readCrosses_0 19 rfl rfl)
theorem dX13_readCrosses_20 : decode cX13_readCrosses 20 = .ok (.iconst 2, 1) := dk_5 (dk_at dksX13_readCrosses_0 20 rfl rfl)
theorem dX13_readCrosses_21 : decode cX13_readCrosses 21 = .ok (.invokevirtual 293, 3) := dk_182 1 37 (dk_at dksX13_readCrosses_0 21 rfl rfl)
theorem dX13_readCrosses_24 : decode cX13_readCrosses 24 = .ok (.istore_n 2, 1) := dk_61 (dk_at dksX13_readCrosses_1 0 rfl rfl)
theorem dX13_readCrosses_25 : decode cX13_readCrosses 25 = .ok (.aload_n 0, 1) := dk_42 (dk_at dksX13_readCrosses_1 1 rfl rfl)
theorem dX13_readCrosses_26 : decode cX13_readCrosses 26 = .ok (.ldc_w 326, 3) := dk_19 1 70 (dk_at dksX13_readCrosses_1 2 rfl rfl)
theorem dX13_readCrosses_29 : decode cX13_readCrosses 29 = .ok (.aload_n 0, 1) := dk_42 (dk_at dksX13_readCrosses_1 5 rfl rfl)
theorem dX13_readCrosses_30 : decode cX13_readCrosses 30 = .ok (.getfield 152, 3) := dk_180 0 152 (dk_at dksX13_readCrosses_1 6 rfl rfl)
theorem dX13_readCrosses_33 : decode cX13_readCrosses 33 = .ok (.getfield 323, 3) := dk_180 1 67 (dk_at dksX13_readCrosses_1 9 rfl rfl)
theorem dX13_readCrosses_36 : decode cX13_readCrosses 36 = .ok (.ifCond .eq 11, 3) := dk_153 0 11 (dk_at dksX13_readCrosses_1 12 rfl rfl)
theorem dX13_readCrosses_39 : decode cX13_readCrosses 39 = .ok (.aload_n 0, 1) := dk_42 (dk_at dksX13_readCrosses_1 15 rfl rfl)
theorem dX13_readCrosses_40 : decode cX13_readCrosses 40 = .ok (.getfield 71, 3) := dk_180 0 71 (dk_at dksX13_readCrosses_1 16 rfl rfl)
theorem dX13_readCrosses_43 : decode cX13_readCrosses 43 = .ok (.iconst 5, 1) := dk_8 (dk_at dksX13_readCrosses_1 19 rfl rfl)
theorem dX13_readCrosses_44 : decode cX13_readCrosses 44 = .ok (.if_icmp .ne 7, 3) := dk_160 0 7 (dk_at dksX13_readCrosses_1 20 rfl rfl)
theorem dX13_readCrosses_47 : decode cX13_readCrosses 47 = .ok (.iconst 0, 1) := dk_3 (dk_at dksX13_readCrosses_1 23 rfl rfl)
theorem dX13_readCrosses_48 : decode cX13_readCrosses 48 = .ok (.goto 20, 3) := dk_167 0 20 (dk_at dksX13_readCrosses_2 0 rfl rfl)
theorem dX13_readCrosses_51 : decode cX13_readCrosses 51 = .ok (.aload_n 0, 1) := dk_42 (dk_at dksX13_readCrosses_2 3 rfl rfl)
theorem dX13_readCrosses_52 : decode cX13_readCrosses 52 = .ok (.getfield 152, 3) := dk_180 0 152 (dk_at dksX13_readCrosses_2 4 rfl rfl)
theorem dX13_readCrosses_55 : decode cX13_readCrosses 55 = .ok (.getfield 328, 3) := dk_180 1 72 (dk_at dksX13_readCrosses_2 7 rfl rfl)
theorem dX13_readCrosses_58 : decode cX13_readCrosses 58 = .ok (.aload_n 0, 1) := dk_42 (dk_at dksX13_readCrosses_2 10 rfl rfl)
theorem dX13_readCrosses_59 : decode cX13_readCrosses 59 = .ok (.getfield 152, 3) := dk_180 0 152 (dk_at dksX13_readCrosses_2 11 rfl rfl)
theorem dX13_readCrosses_62 : decode cX13_readCrosses 62 = .ok (.getfield 323, 3) := dk_180 1 67 (dk_at dksX13_readCrosses_2 14 rfl rfl)
theorem dX13_readCrosses_65 : decode cX13_readCrosses 65 = .ok (.iconst 1, 1) := dk_4 (dk_at dksX13_readCrosses_2 17 rfl rfl)
theorem dX13_readCrosses_66 : decode cX13_readCrosses 66 = .ok (.isub, 1) := dk_100 (dk_at dksX13_readCrosses_2 18 rfl rfl)
theorem dX13_readCrosses_67 : decode cX13_readCrosses 67 = .ok (.iaload, 1) := dk_46 (dk_at dksX13_readCrosses_2 19 rfl rfl)
theorem dX13_readCrosses_68 : decode cX13_readCrosses 68 = .ok (.bipush 60, 2) := dk_16 60 (dk_at dksX13_readCrosses_2 20 rfl rfl)
theorem dX13_readCrosses_70 : decode cX13_readCrosses 70 = .ok (.invokevirtual 225, 3) := dk_182 0 225 (dk_at dksX13_readCrosses_3 0 rfl rfl)
theorem dX13_readCrosses_73 : decode cX13_readCrosses 73 = .ok (.istore_n 3, 1) := dk_62 (dk_at dksX13_readCrosses_3 3 rfl rfl)
theorem dX13_readCrosses_74 : decode cX13_readCrosses 74 = .ok (.aload_n 0, 1) := dk_42 (dk_at dksX13_readCrosses_3 4 rfl rfl)
theorem dX13_readCrosses_75 : decode cX13_readCrosses 75 = .ok (.ldc_w 330, 3) := dk_19 1 74 (dk_at dksX13_readCrosses_3 5 rfl rfl)
theorem dX13_readCrosses_78 : decode cX13_readCrosses 78 = .ok (.iconst 0, 1) := dk_3 (dk_at dksX13_readCrosses_3 8 rfl rfl)
theorem dX13_readCrosses_79 : decode cX13_readCrosses 79 = .ok (.bipush 23, 2) := dk_16 23 (dk_at dksX13_readCrosses_3 9 rfl rfl)
theorem dX13_readCrosses_81 : decode cX13_readCrosses 81 = .ok (.invokevirtual 225, 3) := dk_182 0 225 (dk_at dksX13_readCrosses_3 11 rfl rfl)
theorem dX13_readCrosses_84 : decode cX13_readCrosses 84 = .ok (.istore 4, 2) := dk_54 4 (dk_at dksX13_readCrosses_3 14 rfl rfl)
theorem dX13_readCrosses_86 : decode cX13_readCrosses 86 = .ok (.aload_n 0, 1) := dk_42 (dk_at dksX13_readCrosses_3 16 rfl rfl)
theorem dX13_readCrosses_87 : decode cX13_readCrosses 87 = .ok (.getfield 71, 3) := dk_180 0 71 (dk_at dksX13_readCrosses_3 17 rfl rfl)
theorem dX13_readCrosses_90 : decode cX13_readCrosses 90 = .ok (.iconst 5, 1) := dk_8 (dk_at dksX13_readCrosses_3 20 rfl rfl)
theorem dX13_readCrosses_91 : decode cX13_readCrosses 91 = .ok (.if_icmp .ne 4, 3) := dk_160 0 4 (dk_at dksX13_readCrosses_3 21 rfl rfl)
theorem dX13_readCrosses_94 : decode cX13_readCrosses 94 = .ok (.return_, 1) := dk_177 (dk_at dksX13_readCrosses_4 0 rfl rfl)
theorem dX13_readCrosses_95 : decode cX13_readCrosses 95 = .ok (.aload_n 0, 1) := dk_42 (dk_at dksX13_readCrosses_4 1 rfl rfl)
theorem dX13_readCrosses_96 : decode cX13_readCrosses 96 = .ok (.getfield 152, 3) := dk_180 0 152 (dk_at dksX13_readCrosses_4 2 rfl rfl)
theorem dX13_readCrosses_99 : decode cX13_readCrosses 99 = .ok (.getfield 332, 3) := dk_180 1 76 (dk_at dksX13_readCrosses_4 5 rfl rfl)
theorem dX13_readCrosses_102 : decode cX13_readCrosses 102 = .ok (.aload_n 0, 1) := dk_42 (dk_at dksX13_readCrosses_4 8 rfl rfl)
theorem dX13_readCrosses_103 : decode cX13_readCrosses 103 = .ok (.getfield 152, 3) := dk_180 0 152 (dk_at dksX13_readCrosses_4 9 rfl rfl)
theorem dX13_readCrosses_106 : decode cX13_readCrosses 106 = .ok (.getfield 323, 3) := dk_180 1 67 (dk_at dksX13_readCrosses_4 12 rfl rfl)
theorem dX13_readCrosses_109 : decode cX13_readCrosses 109 = .ok (.iload_n 1, 1) := dk_27 (dk_at dksX13_readCrosses_4 15 rfl rfl)
theorem dX13_readCrosses_110 : decode cX13_readCrosses 110 = .ok (.iastore, 1) := dk_79 (dk_at dksX13_readCrosses_4 16 rfl rfl)
theorem dX13_readCrosses_111 : decode cX13_readCrosses 111 = .ok (.aload_n 0, 1) := dk_42 (dk_at dksX13_readCrosses_4 17 rfl rfl)
theorem dX13_readCrosses_112 : decode cX13_readCrosses 112 = .ok (.getfield 152, 3) := dk_180 0 152 (dk_at dksX13_readCrosses_4 18 rfl rfl)
theorem dX13_readCrosses_115 : decode cX13_readCrosses 115 = .ok (.getfield 335, 3) := dk_180 1 79 (dk_at dksX13_readCrosses_4 21 rfl rfl)
theorem dX13_readCrosses_118 : decode cX13_readCrosses 118 = .ok (.aload_n 0, 1) := dk_42 (dk_at dksX13_readCrosses_5 0 rfl rfl)
theorem dX13_readCrosses_119 : decode cX13_readCrosses 119 = .ok (.getfield 152, 3) := dk_180 0 152 (dk_at dksX13_readCrosses_5 1 rfl rfl)
theorem dX13_readCrosses_122 : decode cX13_readCrosses 122 = .ok (.getfield 323, 3) := dk_180 1 67 (dk_at dksX13_readCrosses_5 4 rfl rfl)
theorem dX13_readCrosses_125 : decode cX13_readCrosses 125 = .ok (.iload_n 2, 1) := dk_28 (dk_at dksX13_readCrosses_5 7 rfl rfl)
theorem dX13_readCrosses_126 : decode cX13_readCrosses 126 = .ok (.iastore, 1) := dk_79 (dk_at dksX13_readCrosses_5 8 rfl rfl)
theorem dX13_readCrosses_127 : decode cX13_readCrosses 127 = .ok (.aload_n 0, 1) := dk_42 (dk_at dksX13_readCrosses_5 9 rfl rfl)
theorem dX13_readCrosses_128 : decode cX13_readCrosses 128 = .ok (.getfield 152, 3) := dk_180 0 152 (dk_at dksX13_readCrosses_5 10 rfl rfl)
theorem dX13_readCrosses_131 : decode cX13_readCrosses 131 = .ok (.getfield 328, 3) := dk_180 1 72 (dk_at dksX13_readCrosses_5 13 rfl rfl)
theorem dX13_readCrosses_134 : decode cX13_readCrosses 134 = .ok (.aload_n 0, 1) := dk_42 (dk_at dksX13_readCrosses_5 16 rfl rfl)
theorem dX13_readCrosses_135 : decode cX13_readCrosses 135 = .ok (.getfield 152, 3) := dk_180 0 152 (dk_at dksX13_readCrosses_5 17 rfl rfl)
theorem dX13_readCrosses_138 : decode cX13_readCrosses 138 = .ok (.getfield 323, 3) := dk_180 1 67 (dk_at dksX13_readCrosses_5 20 rfl rfl)
theorem dX13_readCrosses_141 : decode cX13_readCrosses 141 = .ok (.iload_n 3, 1) := dk_29 (dk_at dksX13_readCrosses_5 23 rfl rfl)
theorem dX13_readCrosses_142 : decode cX13_readCrosses 142 = .ok (.iastore, 1) := dk_79 (dk_at dksX13_readCrosses_6 0 rfl rfl)
theorem dX13_readCrosses_143 : decode cX13_readCrosses 143 = .ok (.aload_n 0, 1) := dk_42 (dk_at dksX13_readCrosses_6 1 rfl rfl)
theorem dX13_readCrosses_144 : decode cX13_readCrosses 144 = .ok (.getfield 152, 3) := dk_180 0 152 (dk_at dksX13_readCrosses_6 2 rfl rfl)
theorem dX13_readCrosses_147 : decode cX13_readCrosses 147 = .ok (.getfield 338, 3) := dk_180 1 82 (dk_at dksX13_readCrosses_6 5 rfl rfl)
theorem dX13_readCrosses_150 : decode cX13_readCrosses 150 = .ok (.aload_n 0, 1) := dk_42 (dk_at dksX13_readCrosses_6 8 rfl rfl)
theorem dX13_readCrosses_151 : decode cX13_readCrosses 151 = .ok (.getfield 152, 3) := dk_180 0 152 (dk_at dksX13_readCrosses_6 9 rfl rfl)
theorem dX13_readCrosses_154 : decode cX13_readCrosses 154 = .ok (.getfield 323, 3) := dk_180 1 67 (dk_at dksX13_readCrosses_6 12 rfl rfl)
theorem dX13_readCrosses_157 : decode cX13_readCrosses 157 = .ok (.iload 4, 2) := dk_21 4 (dk_at dksX13_readCrosses_6 15 rfl rfl)
theorem dX13_readCrosses_159 : decode cX13_readCrosses 159 = .ok (.iastore, 1) := dk_79 (dk_at dksX13_readCrosses_6 17 rfl rfl)
theorem dX13_readCrosses_160 : decode cX13_readCrosses 160 = .ok (.aload_n 0, 1) := dk_42 (dk_at dksX13_readCrosses_6 18 rfl rfl)
theorem dX13_readCrosses_161 : decode cX13_readCrosses 161 = .ok (.getfield 152, 3) := dk_180 0 152 (dk_at dksX13_readCrosses_6 19 rfl rfl)
theorem dX13_readCrosses_164 : decode cX13_readCrosses 164 = .ok (.dup, 1) := dk_89 (dk_at dksX13_readCrosses_6 22 rfl rfl)
theorem dX13_readCrosses_165 : decode cX13_readCrosses 165 = .ok (.getfield 323, 3) := dk_180 1 67 (dk_at dksX13_readCrosses_7 0 rfl rfl)
theorem dX13_readCrosses_168 : decode cX13_readCrosses 168 = .ok (.iconst 1, 1) := dk_4 (dk_at dksX13_readCrosses_7 3 rfl rfl)
theorem dX13_readCrosses_169 : decode cX13_readCrosses 169 = .ok (.iadd, 1) := dk_96 (dk_at dksX13_readCrosses_7 4 rfl rfl)
theorem dX13_readCrosses_170 : decode cX13_readCrosses 170 = .ok (.putfield 323, 3) := dk_181 1 67 (dk_at dksX13_readCrosses_7 5 rfl rfl)
theorem dX13_readCrosses_173 : decode cX13_readCrosses 173 = .ok (.return_, 1) := dk_177 (dk_at dksX13_readCrosses_7 8 rfl rfl)
abbrev cX13_readPrice : ByteArray := prog_27_method_40_code
def yX13_readPrice : MethodName := ⟨RX13, "readPrice", "()V"⟩
def dkwX13_readPrice_4 : List UInt8 := [89, 180, 1, 92, 4, 96, 181, 1, 92, 177]
abbrev dktX13_readPrice_4 : List UInt8 := dkwX13_readPrice_4 ++ []
def dkwX13_readPrice_3 : List UInt8 := [42, 180, 0, 152, 180, 1, 0, 27, 28, 79, 42, 180, 0, 152, 180, 1, 90, 27, 29, 79, 42, 180, 0, 152]
abbrev dktX13_readPrice_3 : List UInt8 := dkwX13_readPrice_3 ++ dktX13_readPrice_4
def dkwX13_readPrice_2 : List UInt8 := [182, 0, 225, 61, 42, 19, 1, 88, 3, 16, 99, 182, 0, 225, 62, 42, 180, 0, 71, 8, 160, 0, 4, 177]
abbrev dktX13_readPrice_2 : List UInt8 := dkwX13_readPrice_2 ++ dktX13_readPrice_3
def dkwX13_readPrice_1 : List UInt8 := [27, 182, 1, 84, 153, 0, 8, 42, 6, 182, 0, 114, 42, 182, 0, 107, 42, 19, 1, 87, 3, 16, 99]
abbrev dktX13_readPrice_1 : List UInt8 := dkwX13_readPrice_1 ++ dktX13_readPrice_2
def dkwX13_readPrice_0 : List UInt8 := [42, 3, 4, 182, 0, 235, 42, 3, 182, 0, 182, 60, 42, 180, 0, 71, 8, 159, 0, 19, 42, 180, 0, 152]
abbrev dktX13_readPrice_0 : List UInt8 := dkwX13_readPrice_0 ++ dktX13_readPrice_1
theorem dksX13_readPrice_0 : cX13_readPrice.data.toList.drop 0 = dktX13_readPrice_0 := by decide +kernel
theorem dksX13_readPrice_1 : cX13_readPrice.data.toList.drop 24 = dktX13_readPrice_1 := dk_seg dksX13_readPrice_0 24 rfl rfl
theorem dksX13_readPrice_2 : cX13_readPrice.data.toList.drop 47 = dktX13_readPrice_2 := dk_seg dksX13_readPrice_1 23 rfl rfl
theorem dksX13_readPrice_3 : cX13_readPrice.data.toList.drop 71 = dktX13_readPrice_3 := dk_seg dksX13_readPrice_2 24 rfl rfl
theorem dksX13_readPrice_4 : cX13_readPrice.data.toList.drop 95 = dktX13_readPrice_4 := dk_seg dksX13_readPrice_3 24 rfl rfl
theorem dX13_readPrice_0 : decode cX13_readPrice 0 = .ok (.aload_n 0, 1) := dk_42 (dk_at dksX13_readPrice_0 0 rfl rfl)
theorem dX13_readPrice_1 : decode cX13_readPrice 1 = .ok (.iconst 0, 1) := dk_3 (dk_at dksX13_readPrice_0 1 rfl rfl)
theorem dX13_readPrice_2 : decode cX13_readPrice 2 = .ok (.iconst 1, 1) := dk_4 (dk_at dksX13_readPrice_0 2 rfl rfl)
theorem dX13_readPrice_3 : decode cX13_readPrice 3 = .ok (.invokevirtual 235, 3) := dk_182 0 235 (dk_at dksX13_readPrice_0 3 rfl rfl)
theorem dX13_readPrice_6 : decode cX13_readPrice 6 = .ok (.aload_n 0, 1) := dk_42 (dk_at dksX13_readPrice_0 6 rfl rfl)
theorem dX13_readPrice_7 : decode cX13_readPrice 7 = .ok (.iconst 0, 1) := dk_3 (dk_at dksX13_readPrice_0 7 rfl rfl)
theorem dX13_readPrice_8 : decode cX13_readPrice 8 = .ok (.invokevirtual 182, 3) := dk_182 0 182 (dk_at dksX13_readPrice_0 8 rfl rfl)
theorem dX13_readPrice_11 : decode cX13_readPrice 11 = .ok (.istore_n 1, 1) := dk_60 (dk_at dksX13_readPrice_0 11 rfl rfl)
theorem dX13_readPrice_12 : decode cX13_readPrice 12 = .ok (.aload_n 0, 1) := dk_42 (dk_at dksX13_readPrice_0 12 rfl rfl)
theorem dX13_readPrice_13 : decode cX13_readPrice 13 = .ok (.getfield 71, 3) := dk_180 0 71 (dk_at dksX13_readPrice_0 13 rfl rfl)
theorem dX13_readPrice_16 : decode cX13_readPrice 16 = .ok (.iconst 5, 1) := dk_8 (dk_at dksX13_readPrice_0 16 rfl rfl)
theorem dX13_readPrice_17 : decode cX13_readPrice 17 = .ok (.if_icmp .eq 19, 3) := dk_159 0 19 (dk_at dksX13_readPrice_0 17 rfl rfl)
theorem dX13_readPrice_20 : decode cX13_readPrice 20 = .ok (.aload_n 0, 1) := dk_42 (dk_at dksX13_readPrice_0 20 rfl rfl)
theorem dX13_readPrice_21 : decode cX13_readPrice 21 = .ok (.getfield 152, 3) := dk_180 0 152 (dk_at dksX13_readPrice_0 21 rfl rfl)
theorem dX13_readPrice_24 : decode cX13_readPrice 24 = .ok (.iload_n 1, 1) := dk_27 (dk_at dksX13_readPrice_1 0 rfl rfl)
theorem dX13_readPrice_25 : decode cX13_readPrice 25 = .ok (.invokevirtual 340, 3) := dk_182 1 84 (dk_at dksX13_readPrice_1 1 rfl rfl)
theorem dX13_readPrice_28 : decode cX13_readPrice 28 = .ok (.ifCond .eq 8, 3) := dk_153 0 8 (dk_at dksX13_readPrice_1 4 rfl rfl)
theorem dX13_readPrice_31 : decode cX13_readPrice 31 = .ok (.aload_n 0, 1) := dk_42 (dk_at dksX13_readPrice_1 7 rfl rfl)
theorem dX13_readPrice_32 : decode cX13_readPrice 32 = .ok (.iconst 3, 1) := dk_6 (dk_at dksX13_readPrice_1 8 rfl rfl)
theorem dX13_readPrice_33 : decode cX13_readPrice 33 = .ok (.invokevirtual 114, 3) := dk_182 0 114 (dk_at dksX13_readPrice_1 9 rfl rfl)
theorem dX13_readPrice_36 : decode cX13_readPrice 36 = .ok (.aload_n 0, 1) := dk_42 (dk_at dksX13_readPrice_1 12 rfl rfl)
theorem dX13_readPrice_37 : decode cX13_readPrice 37 = .ok (.invokevirtual 107, 3) := dk_182 0 107 (dk_at dksX13_readPrice_1 13 rfl rfl)
theorem dX13_readPrice_40 : decode cX13_readPrice 40 = .ok (.aload_n 0, 1) := dk_42 (dk_at dksX13_readPrice_1 16 rfl rfl)
theorem dX13_readPrice_41 : decode cX13_readPrice 41 = .ok (.ldc_w 343, 3) := dk_19 1 87 (dk_at dksX13_readPrice_1 17 rfl rfl)
theorem dX13_readPrice_44 : decode cX13_readPrice 44 = .ok (.iconst 0, 1) := dk_3 (dk_at dksX13_readPrice_1 20 rfl rfl)
theorem dX13_readPrice_45 : decode cX13_readPrice 45 = .ok (.bipush 99, 2) := dk_16 99 (dk_at dksX13_readPrice_1 21 rfl rfl)
theorem dX13_readPrice_47 : decode cX13_readPrice 47 = .ok (.invokevirtual 225, 3) := dk_182 0 225 (dk_at dksX13_readPrice_2 0 rfl rfl)
theorem dX13_readPrice_50 : decode cX13_readPrice 50 = .ok (.istore_n 2, 1) := dk_61 (dk_at dksX13_readPrice_2 3 rfl rfl)
theorem dX13_readPrice_51 : decode cX13_readPrice 51 = .ok (.aload_n 0, 1) := dk_42 (dk_at dksX13_readPrice_2 4 rfl rfl)
theorem dX13_readPrice_52 : decode cX13_readPrice 52 = .ok (.ldc_w 344, 3) := dk_19 1 88 (dk_at dksX13_readPrice_2 5 rfl rfl)
theorem dX13_readPrice_55 : decode cX13_readPrice 55 = .ok (.iconst 0, 1) := dk_3 (dk_at dksX13_readPrice_2 8 rfl rfl)
theorem dX13_readPrice_56 : decode cX13_readPrice 56 = .ok (.bipush 99, 2) := dk_16 99 (dk_at dksX13_readPrice_2 9 rfl rfl)
theorem dX13_readPrice_58 : decode cX13_readPrice 58 = .ok (.invokevirtual 225, 3) := dk_182 0 225 (dk_at dksX13_readPrice_2 11 rfl rfl)
theorem dX13_readPrice_61 : decode cX13_readPrice 61 = .ok (.istore_n 3, 1) := dk_62 (dk_at dksX13_readPrice_2 14 rfl rfl)
theorem dX13_readPrice_62 : decode cX13_readPrice 62 = .ok (.aload_n 0, 1) := dk_42 (dk_at dksX13_readPrice_2 15 rfl rfl)
theorem dX13_readPrice_63 : decode cX13_readPrice 63 = .ok (.getfield 71, 3) := dk_180 0 71 (dk_at dksX13_readPrice_2 16 rfl rfl)
theorem dX13_readPrice_66 : decode cX13_readPrice 66 = .ok (.iconst 5, 1) := dk_8 (dk_at dksX13_readPrice_2 19 rfl rfl)
theorem dX13_readPrice_67 : decode cX13_readPrice 67 = .ok (.if_icmp .ne 4, 3) := dk_160 0 4 (dk_at dksX13_readPrice_2 20 rfl rfl)
theorem dX13_readPrice_70 : decode cX13_readPrice 70 = .ok (.return_, 1) := dk_177 (dk_at dksX13_readPrice_2 23 rfl rfl)
theorem dX13_readPrice_71 : decode cX13_readPrice 71 = .ok (.aload_n 0, 1) := dk_42 (dk_at dksX13_readPrice_3 0 rfl rfl)
theorem dX13_readPrice_72 : decode cX13_readPrice 72 = .ok (.getfield 152, 3) := dk_180 0 152 (dk_at dksX13_readPrice_3 1 rfl rfl)
theorem dX13_readPrice_75 : decode cX13_readPrice 75 = .ok (.getfield 256, 3) := dk_180 1 0 (dk_at dksX13_readPrice_3 4 rfl rfl)
theorem dX13_readPrice_78 : decode cX13_readPrice 78 = .ok (.iload_n 1, 1) := dk_27 (dk_at dksX13_readPrice_3 7 rfl rfl)
theorem dX13_readPrice_79 : decode cX13_readPrice 79 = .ok (.iload_n 2, 1) := dk_28 (dk_at dksX13_readPrice_3 8 rfl rfl)
theorem dX13_readPrice_80 : decode cX13_readPrice 80 = .ok (.iastore, 1) := dk_79 (dk_at dksX13_readPrice_3 9 rfl rfl)
theorem dX13_readPrice_81 : decode cX13_readPrice 81 = .ok (.aload_n 0, 1) := dk_42 (dk_at dksX13_readPrice_3 10 rfl rfl)
theorem dX13_readPrice_82 : decode cX13_readPrice 82 = .ok (.getfield 152, 3) := dk_180 0 152 (dk_at dksX13_readPrice_3 11 rfl rfl)
theorem dX13_readPrice_85 : decode cX13_readPrice 85 = .ok (.getfield 346, 3) := dk_180 1 90 (dk_at dksX13_readPrice_3 14 rfl rfl)
theorem dX13_readPrice_88 : decode cX13_readPrice 88 = .ok (.iload_n 1, 1) := dk_27 (dk_at dksX13_readPrice_3 17 rfl rfl)
theorem dX13_readPrice_89 : decode cX13_readPrice 89 = .ok (.iload_n 3, 1) := dk_29 (dk_at dksX13_readPrice_3 18 rfl rfl)
theorem dX13_readPrice_90 : decode cX13_readPrice 90 = .ok (.iastore, 1) := dk_79 (dk_at dksX13_readPrice_3 19 rfl rfl)
theorem dX13_readPrice_91 : decode cX13_readPrice 91 = .ok (.aload_n 0, 1) := dk_42 (dk_at dksX13_readPrice_3 20 rfl rfl)
theorem dX13_readPrice_92 : decode cX13_readPrice 92 = .ok (.getfield 152, 3) := dk_180 0 152 (dk_at dksX13_readPrice_3 21 rfl rfl)
theorem dX13_readPrice_95 : decode cX13_readPrice 95 = .ok (.dup, 1) := dk_89 (dk_at dksX13_readPrice_4 0 rfl rfl)
theorem dX13_readPrice_96 : decode cX13_readPrice 96 = .ok (.getfield 348, 3) := dk_180 1 92 (dk_at dksX13_readPrice_4 1 rfl rfl)
theorem dX13_readPrice_99 : decode cX13_readPrice 99 = .ok (.iconst 1, 1) := dk_4 (dk_at dksX13_readPrice_4 4 rfl rfl)
theorem dX13_readPrice_100 : decode cX13_readPrice 100 = .ok (.iadd, 1) := dk_96 (dk_at dksX13_readPrice_4 5 rfl rfl)
theorem dX13_readPrice_101 : decode cX13_readPrice 101 = .ok (.putfield 348, 3) := dk_181 1 92 (dk_at dksX13_readPrice_4 6 rfl rfl)
theorem dX13_readPrice_104 : decode cX13_readPrice 104 = .ok (.return_, 1) := dk_177 (dk_at dksX13_readPrice_4 9 rfl rfl)
abbrev cX13_readCrumb : ByteArray := prog_27_method_41_code
def yX13_readCrumb : MethodName := ⟨RX13, "readCrumb", "()V"⟩
def dkwX13_readCrumb_3 : List UInt8 := [42, 180, 0, 152, 89, 180, 1, 95, 4, 96, 181, 1, 95, 177]
abbrev dktX13_readCrumb_3 : List UInt8 := dkwX13_readCrumb_3 ++ []
def dkwX13_readCrumb_2 : List UInt8 := [180, 0, 152, 180, 1, 95, 27, 79, 42, 180, 0, 152, 180, 1, 101, 42, 180, 0, 152, 180, 1, 95, 28, 79]
abbrev dktX13_readCrumb_2 : List UInt8 := dkwX13_readCrumb_2 ++ dktX13_readCrumb_3
def dkwX13_readCrumb_1 : List UInt8 := [16, 60, 182, 0, 225, 61, 42, 180, 0, 71, 8, 160, 0, 4, 177, 42, 180, 0, 152, 180, 1, 98, 42]
abbrev dktX13_readCrumb_1 : List UInt8 := dkwX13_readCrumb_1 ++ dktX13_readCrumb_2
def dkwX13_readCrumb_0 : List UInt8 := [42, 42, 180, 0, 152, 180, 1, 95, 8, 182, 0, 235, 42, 3, 182, 1, 37, 60, 42, 19, 1, 70, 3]
abbrev dktX13_readCrumb_0 : List UInt8 := dkwX13_readCrumb_0 ++ dktX13_readCrumb_1
theorem dksX13_readCrumb_0 : cX13_readCrumb.data.toList.drop 0 = dktX13_readCrumb_0 := by decide +kernel
theorem dksX13_readCrumb_1 : cX13_readCrumb.data.toList.drop 23 = dktX13_readCrumb_1 := dk_seg dksX13_readCrumb_0 23 rfl rfl
theorem dksX13_readCrumb_2 : cX13_readCrumb.data.toList.drop 46 = dktX13_readCrumb_2 := dk_seg dksX13_readCrumb_1 23 rfl rfl
theorem dksX13_readCrumb_3 : cX13_readCrumb.data.toList.drop 70 = dktX13_readCrumb_3 := dk_seg dksX13_readCrumb_2 24 rfl rfl
theorem dX13_readCrumb_0 : decode cX13_readCrumb 0 = .ok (.aload_n 0, 1) := dk_42 (dk_at dksX13_readCrumb_0 0 rfl rfl)
theorem dX13_readCrumb_1 : decode cX13_readCrumb 1 = .ok (.aload_n 0, 1) := dk_42 (dk_at dksX13_readCrumb_0 1 rfl rfl)
theorem dX13_readCrumb_2 : decode cX13_readCrumb 2 = .ok (.getfield 152, 3) := dk_180 0 152 (dk_at dksX13_readCrumb_0 2 rfl rfl)
theorem dX13_readCrumb_5 : decode cX13_readCrumb 5 = .ok (.getfield 351, 3) := dk_180 1 95 (dk_at dksX13_readCrumb_0 5 rfl rfl)
theorem dX13_readCrumb_8 : decode cX13_readCrumb 8 = .ok (.iconst 5, 1) := dk_8 (dk_at dksX13_readCrumb_0 8 rfl rfl)
theorem dX13_readCrumb_9 : decode cX13_readCrumb 9 = .ok (.invokevirtual 235, 3) := dk_182 0 235 (dk_at dksX13_readCrumb_0 9 rfl rfl)
theorem dX13_readCrumb_12 : decode cX13_readCrumb 12 = .ok (.aload_n 0, 1) := dk_42 (dk_at dksX13_readCrumb_0 12 rfl rfl)
theorem dX13_readCrumb_13 : decode cX13_readCrumb 13 = .ok (.iconst 0, 1) := dk_3 (dk_at dksX13_readCrumb_0 13 rfl rfl)
theorem dX13_readCrumb_14 : decode cX13_readCrumb 14 = .ok (.invokevirtual 293, 3) := dk_182 1 37 (dk_at dksX13_readCrumb_0 14 rfl rfl)
theorem dX13_readCrumb_17 : decode cX13_readCrumb 17 = .ok (.istore_n 1, 1) := dk_60 (dk_at dksX13_readCrumb_0 17 rfl rfl)
theorem dX13_readCrumb_18 : decode cX13_readCrumb 18 = .ok (.aload_n 0, 1) := dk_42 (dk_at dksX13_readCrumb_0 18 rfl rfl)
theorem dX13_readCrumb_19 : decode cX13_readCrumb 19 = .ok (.ldc_w 326, 3) := dk_19 1 70 (dk_at dksX13_readCrumb_0 19 rfl rfl)
theorem dX13_readCrumb_22 : decode cX13_readCrumb 22 = .ok (.iconst 0, 1) := dk_3 (dk_at dksX13_readCrumb_0 22 rfl rfl)
theorem dX13_readCrumb_23 : decode cX13_readCrumb 23 = .ok (.bipush 60, 2) := dk_16 60 (dk_at dksX13_readCrumb_1 0 rfl rfl)
theorem dX13_readCrumb_25 : decode cX13_readCrumb 25 = .ok (.invokevirtual 225, 3) := dk_182 0 225 (dk_at dksX13_readCrumb_1 2 rfl rfl)
theorem dX13_readCrumb_28 : decode cX13_readCrumb 28 = .ok (.istore_n 2, 1) := dk_61 (dk_at dksX13_readCrumb_1 5 rfl rfl)
theorem dX13_readCrumb_29 : decode cX13_readCrumb 29 = .ok (.aload_n 0, 1) := dk_42 (dk_at dksX13_readCrumb_1 6 rfl rfl)
theorem dX13_readCrumb_30 : decode cX13_readCrumb 30 = .ok (.getfield 71, 3) := dk_180 0 71 (dk_at dksX13_readCrumb_1 7 rfl rfl)
theorem dX13_readCrumb_33 : decode cX13_readCrumb 33 = .ok (.iconst 5, 1) := dk_8 (dk_at dksX13_readCrumb_1 10 rfl rfl)
theorem dX13_readCrumb_34 : decode cX13_readCrumb 34 = .ok (.if_icmp .ne 4, 3) := dk_160 0 4 (dk_at dksX13_readCrumb_1 11 rfl rfl)
theorem dX13_readCrumb_37 : decode cX13_readCrumb 37 = .ok (.return_, 1) := dk_177 (dk_at dksX13_readCrumb_1 14 rfl rfl)
theorem dX13_readCrumb_38 : decode cX13_readCrumb 38 = .ok (.aload_n 0, 1) := dk_42 (dk_at dksX13_readCrumb_1 15 rfl rfl)
theorem dX13_readCrumb_39 : decode cX13_readCrumb 39 = .ok (.getfield 152, 3) := dk_180 0 152 (dk_at dksX13_readCrumb_1 16 rfl rfl)
theorem dX13_readCrumb_42 : decode cX13_readCrumb 42 = .ok (.getfield 354, 3) := dk_180 1 98 (dk_at dksX13_readCrumb_1 19 rfl rfl)
theorem dX13_readCrumb_45 : decode cX13_readCrumb 45 = .ok (.aload_n 0, 1) := dk_42 (dk_at dksX13_readCrumb_1 22 rfl rfl)
theorem dX13_readCrumb_46 : decode cX13_readCrumb 46 = .ok (.getfield 152, 3) := dk_180 0 152 (dk_at dksX13_readCrumb_2 0 rfl rfl)
theorem dX13_readCrumb_49 : decode cX13_readCrumb 49 = .ok (.getfield 351, 3) := dk_180 1 95 (dk_at dksX13_readCrumb_2 3 rfl rfl)
theorem dX13_readCrumb_52 : decode cX13_readCrumb 52 = .ok (.iload_n 1, 1) := dk_27 (dk_at dksX13_readCrumb_2 6 rfl rfl)
theorem dX13_readCrumb_53 : decode cX13_readCrumb 53 = .ok (.iastore, 1) := dk_79 (dk_at dksX13_readCrumb_2 7 rfl rfl)
theorem dX13_readCrumb_54 : decode cX13_readCrumb 54 = .ok (.aload_n 0, 1) := dk_42 (dk_at dksX13_readCrumb_2 8 rfl rfl)
theorem dX13_readCrumb_55 : decode cX13_readCrumb 55 = .ok (.getfield 152, 3) := dk_180 0 152 (dk_at dksX13_readCrumb_2 9 rfl rfl)
theorem dX13_readCrumb_58 : decode cX13_readCrumb 58 = .ok (.getfield 357, 3) := dk_180 1 101 (dk_at dksX13_readCrumb_2 12 rfl rfl)
theorem dX13_readCrumb_61 : decode cX13_readCrumb 61 = .ok (.aload_n 0, 1) := dk_42 (dk_at dksX13_readCrumb_2 15 rfl rfl)
theorem dX13_readCrumb_62 : decode cX13_readCrumb 62 = .ok (.getfield 152, 3) := dk_180 0 152 (dk_at dksX13_readCrumb_2 16 rfl rfl)
theorem dX13_readCrumb_65 : decode cX13_readCrumb 65 = .ok (.getfield 351, 3) := dk_180 1 95 (dk_at dksX13_readCrumb_2 19 rfl rfl)
theorem dX13_readCrumb_68 : decode cX13_readCrumb 68 = .ok (.iload_n 2, 1) := dk_28 (dk_at dksX13_readCrumb_2 22 rfl rfl)
theorem dX13_readCrumb_69 : decode cX13_readCrumb 69 = .ok (.iastore, 1) := dk_79 (dk_at dksX13_readCrumb_2 23 rfl rfl)
theorem dX13_readCrumb_70 : decode cX13_readCrumb 70 = .ok (.aload_n 0, 1) := dk_42 (dk_at dksX13_readCrumb_3 0 rfl rfl)
theorem dX13_readCrumb_71 : decode cX13_readCrumb 71 = .ok (.getfield 152, 3) := dk_180 0 152 (dk_at dksX13_readCrumb_3 1 rfl rfl)
theorem dX13_readCrumb_74 : decode cX13_readCrumb 74 = .ok (.dup, 1) := dk_89 (dk_at dksX13_readCrumb_3 4 rfl rfl)
theorem dX13_readCrumb_75 : decode cX13_readCrumb 75 = .ok (.getfield 351, 3) := dk_180 1 95 (dk_at dksX13_readCrumb_3 5 rfl rfl)
theorem dX13_readCrumb_78 : decode cX13_readCrumb 78 = .ok (.iconst 1, 1) := dk_4 (dk_at dksX13_readCrumb_3 8 rfl rfl)
theorem dX13_readCrumb_79 : decode cX13_readCrumb 79 = .ok (.iadd, 1) := dk_96 (dk_at dksX13_readCrumb_3 9 rfl rfl)
theorem dX13_readCrumb_80 : decode cX13_readCrumb 80 = .ok (.putfield 351, 3) := dk_181 1 95 (dk_at dksX13_readCrumb_3 10 rfl rfl)
theorem dX13_readCrumb_83 : decode cX13_readCrumb 83 = .ok (.return_, 1) := dk_177 (dk_at dksX13_readCrumb_3 13 rfl rfl)
abbrev cX13_eatsSemicolon : ByteArray := prog_27_method_20_code
def yX13_eatsSemicolon : MethodName := ⟨RX13, "eatsSemicolon", "()Z"⟩
def dkwX13_eatsSemicolon_0 : List UInt8 := [42, 180, 0, 71, 7, 160, 0, 7, 4, 167, 0, 4, 3, 60, 27, 153, 0, 7, 42, 182, 0, 107, 27, 172]
abbrev dktX13_eatsSemicolon_0 : List UInt8 := dkwX13_eatsSemicolon_0 ++ []
theorem dksX13_eatsSemicolon_0 : cX13_eatsSemicolon.data.toList.drop 0 = dktX13_eatsSemicolon_0 := by decide +kernel
theorem dX13_eatsSemicolon_0 : decode cX13_eatsSemicolon 0 = .ok (.aload_n 0, 1) := dk_42 (dk_at dksX13_eatsSemicolon_0 0 rfl rfl)
theorem dX13_eatsSemicolon_1 : decode cX13_eatsSemicolon 1 = .ok (.getfield 71, 3) := dk_180 0 71 (dk_at dksX13_eatsSemicolon_0 1 rfl rfl)
theorem dX13_eatsSemicolon_4 : decode cX13_eatsSemicolon 4 = .ok (.iconst 4, 1) := dk_7 (dk_at dksX13_eatsSemicolon_0 4 rfl rfl)
theorem dX13_eatsSemicolon_5 : decode cX13_eatsSemicolon 5 = .ok (.if_icmp .ne 7, 3) := dk_160 0 7 (dk_at dksX13_eatsSemicolon_0 5 rfl rfl)
theorem dX13_eatsSemicolon_8 : decode cX13_eatsSemicolon 8 = .ok (.iconst 1, 1) := dk_4 (dk_at dksX13_eatsSemicolon_0 8 rfl rfl)
theorem dX13_eatsSemicolon_9 : decode cX13_eatsSemicolon 9 = .ok (.goto 4, 3) := dk_167 0 4 (dk_at dksX13_eatsSemicolon_0 9 rfl rfl)
theorem dX13_eatsSemicolon_12 : decode cX13_eatsSemicolon 12 = .ok (.iconst 0, 1) := dk_3 (dk_at dksX13_eatsSemicolon_0 12 rfl rfl)
theorem dX13_eatsSemicolon_13 : decode cX13_eatsSemicolon 13 = .ok (.istore_n 1, 1) := dk_60 (dk_at dksX13_eatsSemicolon_0 13 rfl rfl)
theorem dX13_eatsSemicolon_14 : decode cX13_eatsSemicolon 14 = .ok (.iload_n 1, 1) := dk_27 (dk_at dksX13_eatsSemicolon_0 14 rfl rfl)
theorem dX13_eatsSemicolon_15 : decode cX13_eatsSemicolon 15 = .ok (.ifCond .eq 7, 3) := dk_153 0 7 (dk_at dksX13_eatsSemicolon_0 15 rfl rfl)
theorem dX13_eatsSemicolon_18 : decode cX13_eatsSemicolon 18 = .ok (.aload_n 0, 1) := dk_42 (dk_at dksX13_eatsSemicolon_0 18 rfl rfl)
theorem dX13_eatsSemicolon_19 : decode cX13_eatsSemicolon 19 = .ok (.invokevirtual 107, 3) := dk_182 0 107 (dk_at dksX13_eatsSemicolon_0 19 rfl rfl)
theorem dX13_eatsSemicolon_22 : decode cX13_eatsSemicolon 22 = .ok (.iload_n 1, 1) := dk_27 (dk_at dksX13_eatsSemicolon_0 22 rfl rfl)
theorem dX13_eatsSemicolon_23 : decode cX13_eatsSemicolon 23 = .ok (.ireturn, 1) := dk_172 (dk_at dksX13_eatsSemicolon_0 23 rfl rfl)
abbrev cX13_starts : ByteArray := prog_27_method_46_code
def yX13_starts : MethodName := ⟨RX13, "starts", "([I)V"⟩
def dkwX13_starts_2 : List UInt8 := [132, 2, 1, 167, 255, 227, 43, 16, 16, 42, 180, 1, 111, 180, 1, 60, 79, 177]
abbrev dktX13_starts_2 : List UInt8 := dkwX13_starts_2 ++ []
def dkwX13_starts_1 : List UInt8 := [180, 1, 111, 180, 0, 191, 162, 0, 24, 43, 16, 8, 28, 96, 42, 180, 1, 111, 180, 1, 9, 28, 46, 79]
abbrev dktX13_starts_1 : List UInt8 := dkwX13_starts_1 ++ dktX13_starts_2
def dkwX13_starts_0 : List UInt8 := [3, 61, 28, 16, 18, 162, 0, 13, 43, 28, 3, 79, 132, 2, 1, 167, 255, 243, 3, 61, 28, 42]
abbrev dktX13_starts_0 : List UInt8 := dkwX13_starts_0 ++ dktX13_starts_1
theorem dksX13_starts_0 : cX13_starts.data.toList.drop 0 = dktX13_starts_0 := by decide +kernel
theorem dksX13_starts_1 : cX13_starts.data.toList.drop 22 = dktX13_starts_1 := dk_seg dksX13_starts_0 22 rfl rfl
theorem dksX13_starts_2 : cX13_starts.data.toList.drop 46 = dktX13_starts_2 := dk_seg dksX13_starts_1 24 rfl rfl
theorem dX13_starts_0 : decode cX13_starts 0 = .ok (.iconst 0, 1) := dk_3 (dk_at dksX13_starts_0 0 rfl rfl)
theorem dX13_starts_1 : decode cX13_starts 1 = .ok (.istore_n 2, 1) := dk_61 (dk_at dksX13_starts_0 1 rfl rfl)
theorem dX13_starts_2 : decode cX13_starts 2 = .ok (.iload_n 2, 1) := dk_28 (dk_at dksX13_starts_0 2 rfl rfl)
theorem dX13_starts_3 : decode cX13_starts 3 = .ok (.bipush 18, 2) := dk_16 18 (dk_at dksX13_starts_0 3 rfl rfl)
theorem dX13_starts_5 : decode cX13_starts 5 = .ok (.if_icmp .ge 13, 3) := dk_162 0 13 (dk_at dksX13_starts_0 5 rfl rfl)
theorem dX13_starts_8 : decode cX13_starts 8 = .ok (.aload_n 1, 1) := dk_43 (dk_at dksX13_starts_0 8 rfl rfl)
theorem dX13_starts_9 : decode cX13_starts 9 = .ok (.iload_n 2, 1) := dk_28 (dk_at dksX13_starts_0 9 rfl rfl)
theorem dX13_starts_10 : decode cX13_starts 10 = .ok (.iconst 0, 1) := dk_3 (dk_at dksX13_starts_0 10 rfl rfl)
theorem dX13_starts_11 : decode cX13_starts 11 = .ok (.iastore, 1) := dk_79 (dk_at dksX13_starts_0 11 rfl rfl)
theorem dX13_starts_12 : decode cX13_starts 12 = .ok (.iinc 2 1, 3) := dk_132 2 1 (dk_at dksX13_starts_0 12 rfl rfl)
theorem dX13_starts_15 : decode cX13_starts 15 = .ok (.goto (-13), 3) := dk_167 255 243 (dk_at dksX13_starts_0 15 rfl rfl)
theorem dX13_starts_18 : decode cX13_starts 18 = .ok (.iconst 0, 1) := dk_3 (dk_at dksX13_starts_0 18 rfl rfl)
theorem dX13_starts_19 : decode cX13_starts 19 = .ok (.istore_n 2, 1) := dk_61 (dk_at dksX13_starts_0 19 rfl rfl)
theorem dX13_starts_20 : decode cX13_starts 20 = .ok (.iload_n 2, 1) := dk_28 (dk_at dksX13_starts_0 20 rfl rfl)
theorem dX13_starts_21 : decode cX13_starts 21 = .ok (.aload_n 0, 1) := dk_42 (dk_at dksX13_starts_0 21 rfl rfl)
theorem dX13_starts_22 : decode cX13_starts 22 = .ok (.getfield 367, 3) := dk_180 1 111 (dk_at dksX13_starts_1 0 rfl rfl)
theorem dX13_starts_25 : decode cX13_starts 25 = .ok (.getfield 191, 3) := dk_180 0 191 (dk_at dksX13_starts_1 3 rfl rfl)
theorem dX13_starts_28 : decode cX13_starts 28 = .ok (.if_icmp .ge 24, 3) := dk_162 0 24 (dk_at dksX13_starts_1 6 rfl rfl)
theorem dX13_starts_31 : decode cX13_starts 31 = .ok (.aload_n 1, 1) := dk_43 (dk_at dksX13_starts_1 9 rfl rfl)
theorem dX13_starts_32 : decode cX13_starts 32 = .ok (.bipush 8, 2) := dk_16 8 (dk_at dksX13_starts_1 10 rfl rfl)
theorem dX13_starts_34 : decode cX13_starts 34 = .ok (.iload_n 2, 1) := dk_28 (dk_at dksX13_starts_1 12 rfl rfl)
theorem dX13_starts_35 : decode cX13_starts 35 = .ok (.iadd, 1) := dk_96 (dk_at dksX13_starts_1 13 rfl rfl)
theorem dX13_starts_36 : decode cX13_starts 36 = .ok (.aload_n 0, 1) := dk_42 (dk_at dksX13_starts_1 14 rfl rfl)
theorem dX13_starts_37 : decode cX13_starts 37 = .ok (.getfield 367, 3) := dk_180 1 111 (dk_at dksX13_starts_1 15 rfl rfl)
theorem dX13_starts_40 : decode cX13_starts 40 = .ok (.getfield 265, 3) := dk_180 1 9 (dk_at dksX13_starts_1 18 rfl rfl)
theorem dX13_starts_43 : decode cX13_starts 43 = .ok (.iload_n 2, 1) := dk_28 (dk_at dksX13_starts_1 21 rfl rfl)
theorem dX13_starts_44 : decode cX13_starts 44 = .ok (.iaload, 1) := dk_46 (dk_at dksX13_starts_1 22 rfl rfl)
theorem dX13_starts_45 : decode cX13_starts 45 = .ok (.iastore, 1) := dk_79 (dk_at dksX13_starts_1 23 rfl rfl)
theorem dX13_starts_46 : decode cX13_starts 46 = .ok (.iinc 2 1, 3) := dk_132 2 1 (dk_at dksX13_starts_2 0 rfl rfl)
theorem dX13_starts_49 : decode cX13_starts 49 = .ok (.goto (-29), 3) := dk_167 255 227 (dk_at dksX13_starts_2 3 rfl rfl)
theorem dX13_starts_52 : decode cX13_starts 52 = .ok (.aload_n 1, 1) := dk_43 (dk_at dksX13_starts_2 6 rfl rfl)
theorem dX13_starts_53 : decode cX13_starts 53 = .ok (.bipush 16, 2) := dk_16 16 (dk_at dksX13_starts_2 7 rfl rfl)
theorem dX13_starts_55 : decode cX13_starts 55 = .ok (.aload_n 0, 1) := dk_42 (dk_at dksX13_starts_2 9 rfl rfl)
theorem dX13_starts_56 : decode cX13_starts 56 = .ok (.getfield 367, 3) := dk_180 1 111 (dk_at dksX13_starts_2 10 rfl rfl)
theorem dX13_starts_59 : decode cX13_starts 59 = .ok (.getfield 316, 3) := dk_180 1 60 (dk_at dksX13_starts_2 13 rfl rfl)
theorem dX13_starts_62 : decode cX13_starts 62 = .ok (.iastore, 1) := dk_79 (dk_at dksX13_starts_2 16 rfl rfl)
theorem dX13_starts_63 : decode cX13_starts 63 = .ok (.return_, 1) := dk_177 (dk_at dksX13_starts_2 17 rfl rfl)
abbrev cX13_fine : ByteArray := prog_27_method_6_code
def yX13_fine : MethodName := ⟨RX13, "fine", "(I)I"⟩
def dkwX13_fine_0 : List UInt8 := [42, 3, 181, 0, 42, 42, 2, 181, 0, 9, 27, 172]
abbrev dktX13_fine_0 : List UInt8 := dkwX13_fine_0 ++ []
theorem dksX13_fine_0 : cX13_fine.data.toList.drop 0 = dktX13_fine_0 := by decide +kernel
theorem dX13_fine_0 : decode cX13_fine 0 = .ok (.aload_n 0, 1) := dk_42 (dk_at dksX13_fine_0 0 rfl rfl)
theorem dX13_fine_1 : decode cX13_fine 1 = .ok (.iconst 0, 1) := dk_3 (dk_at dksX13_fine_0 1 rfl rfl)
theorem dX13_fine_2 : decode cX13_fine 2 = .ok (.putfield 42, 3) := dk_181 0 42 (dk_at dksX13_fine_0 2 rfl rfl)
theorem dX13_fine_5 : decode cX13_fine 5 = .ok (.aload_n 0, 1) := dk_42 (dk_at dksX13_fine_0 5 rfl rfl)
theorem dX13_fine_6 : decode cX13_fine 6 = .ok (.iconst (-1), 1) := dk_2 (dk_at dksX13_fine_0 6 rfl rfl)
theorem dX13_fine_7 : decode cX13_fine 7 = .ok (.putfield 9, 3) := dk_181 0 9 (dk_at dksX13_fine_0 7 rfl rfl)
theorem dX13_fine_10 : decode cX13_fine 10 = .ok (.iload_n 1, 1) := dk_27 (dk_at dksX13_fine_0 10 rfl rfl)
theorem dX13_fine_11 : decode cX13_fine 11 = .ok (.ireturn, 1) := dk_172 (dk_at dksX13_fine_0 11 rfl rfl)
abbrev cX13_fault : ByteArray := prog_27_method_44_code
def yX13_fault : MethodName := ⟨RX13, "fault", "()I"⟩
def dkwX13_fault_0 : List UInt8 := [42, 3, 181, 0, 39, 42, 180, 0, 97, 172]
abbrev dktX13_fault_0 : List UInt8 := dkwX13_fault_0 ++ []
theorem dksX13_fault_0 : cX13_fault.data.toList.drop 0 = dktX13_fault_0 := by decide +kernel
theorem dX13_fault_0 : decode cX13_fault 0 = .ok (.aload_n 0, 1) := dk_42 (dk_at dksX13_fault_0 0 rfl rfl)
theorem dX13_fault_1 : decode cX13_fault 1 = .ok (.iconst 0, 1) := dk_3 (dk_at dksX13_fault_0 1 rfl rfl)
theorem dX13_fault_2 : decode cX13_fault 2 = .ok (.putfield 39, 3) := dk_181 0 39 (dk_at dksX13_fault_0 2 rfl rfl)
theorem dX13_fault_5 : decode cX13_fault 5 = .ok (.aload_n 0, 1) := dk_42 (dk_at dksX13_fault_0 5 rfl rfl)
theorem dX13_fault_6 : decode cX13_fault 6 = .ok (.getfield 97, 3) := dk_180 0 97 (dk_at dksX13_fault_0 6 rfl rfl)
theorem dX13_fault_9 : decode cX13_fault 9 = .ok (.ireturn, 1) := dk_172 (dk_at dksX13_fault_0 9 rfl rfl)
abbrev cX13_where : ByteArray := prog_27_method_45_code
def yX13_where : MethodName := ⟨RX13, "where", "()I"⟩
def dkwX13_where_0 : List UInt8 := [42, 3, 181, 0, 39, 42, 180, 0, 9, 172]
abbrev dktX13_where_0 : List UInt8 := dkwX13_where_0 ++ []
theorem dksX13_where_0 : cX13_where.data.toList.drop 0 = dktX13_where_0 := by decide +kernel
theorem dX13_where_0 : decode cX13_where 0 = .ok (.aload_n 0, 1) := dk_42 (dk_at dksX13_where_0 0 rfl rfl)
theorem dX13_where_1 : decode cX13_where 1 = .ok (.iconst 0, 1) := dk_3 (dk_at dksX13_where_0 1 rfl rfl)
theorem dX13_where_2 : decode cX13_where 2 = .ok (.putfield 39, 3) := dk_181 0 39 (dk_at dksX13_where_0 2 rfl rfl)
theorem dX13_where_5 : decode cX13_where 5 = .ok (.aload_n 0, 1) := dk_42 (dk_at dksX13_where_0 5 rfl rfl)
theorem dX13_where_6 : decode cX13_where 6 = .ok (.getfield 9, 3) := dk_180 0 9 (dk_at dksX13_where_0 6 rfl rfl)
theorem dX13_where_9 : decode cX13_where 9 = .ok (.ireturn, 1) := dk_172 (dk_at dksX13_where_0 9 rfl rfl)
abbrev cX13_good : ByteArray := prog_27_method_64_code
def yX13_good : MethodName := ⟨RX13, "good", "(II)I"⟩
def dkwX13_good_6 : List UInt8 := [42, 180, 0, 17, 27, 182, 1, 141, 153, 0, 7, 4, 167, 0, 4, 3, 182, 0, 49, 172]
abbrev dktX13_good_6 : List UInt8 := dkwX13_good_6 ++ []
def dkwX13_good_5 : List UInt8 := [180, 1, 56, 27, 46, 182, 0, 49, 172, 42, 42, 180, 0, 17, 3, 27, 96, 46, 182, 0, 49, 172, 42, 42]
abbrev dktX13_good_5 : List UInt8 := dkwX13_good_5 ++ dktX13_good_6
def dkwX13_good_4 : List UInt8 := [182, 0, 49, 172, 42, 42, 180, 1, 111, 180, 1, 49, 27, 46, 182, 0, 49, 172, 42, 42, 180, 1, 111]
abbrev dktX13_good_4 : List UInt8 := dkwX13_good_4 ++ dktX13_good_5
def dkwX13_good_3 : List UInt8 := [42, 42, 180, 1, 111, 180, 1, 46, 27, 46, 182, 0, 49, 172, 42, 42, 180, 1, 111, 180, 1, 52, 27, 46]
abbrev dktX13_good_3 : List UInt8 := dkwX13_good_3 ++ dktX13_good_4
def dkwX13_good_2 : List UInt8 := [170, 0, 0, 0, 0, 0, 104, 0, 0, 0, 0, 0, 0, 0, 4, 0, 0, 0, 35, 0, 0, 0, 49, 0, 0, 0, 63, 0, 0, 0, 77, 0, 0, 0, 91]
abbrev dktX13_good_2 : List UInt8 := dkwX13_good_2 ++ dktX13_good_3
def dkwX13_good_1 : List UInt8 := [182, 0, 45, 172, 28]
abbrev dktX13_good_1 : List UInt8 := dkwX13_good_1 ++ dktX13_good_2
def dkwX13_good_0 : List UInt8 := [42, 3, 181, 0, 39, 42, 27, 182, 1, 158, 153, 0, 12, 28, 3, 8, 184, 0, 118, 154, 0, 9, 42, 4]
abbrev dktX13_good_0 : List UInt8 := dkwX13_good_0 ++ dktX13_good_1
theorem dksX13_good_0 : cX13_good.data.toList.drop 0 = dktX13_good_0 := by decide +kernel
theorem dksX13_good_1 : cX13_good.data.toList.drop 24 = dktX13_good_1 := dk_seg dksX13_good_0 24 rfl rfl
theorem dksX13_good_2 : cX13_good.data.toList.drop 29 = dktX13_good_2 := dk_seg dksX13_good_1 5 rfl rfl
theorem dksX13_good_3 : cX13_good.data.toList.drop 64 = dktX13_good_3 := dk_seg dksX13_good_2 35 rfl rfl
theorem dksX13_good_4 : cX13_good.data.toList.drop 88 = dktX13_good_4 := dk_seg dksX13_good_3 24 rfl rfl
theorem dksX13_good_5 : cX13_good.data.toList.drop 111 = dktX13_good_5 := dk_seg dksX13_good_4 23 rfl rfl
theorem dksX13_good_6 : cX13_good.data.toList.drop 135 = dktX13_good_6 := dk_seg dksX13_good_5 24 rfl rfl
theorem dX13_good_0 : decode cX13_good 0 = .ok (.aload_n 0, 1) := dk_42 (dk_at dksX13_good_0 0 rfl rfl)
theorem dX13_good_1 : decode cX13_good 1 = .ok (.iconst 0, 1) := dk_3 (dk_at dksX13_good_0 1 rfl rfl)
theorem dX13_good_2 : decode cX13_good 2 = .ok (.putfield 39, 3) := dk_181 0 39 (dk_at dksX13_good_0 2 rfl rfl)
theorem dX13_good_5 : decode cX13_good 5 = .ok (.aload_n 0, 1) := dk_42 (dk_at dksX13_good_0 5 rfl rfl)
theorem dX13_good_6 : decode cX13_good 6 = .ok (.iload_n 1, 1) := dk_27 (dk_at dksX13_good_0 6 rfl rfl)
theorem dX13_good_7 : decode cX13_good 7 = .ok (.invokevirtual 414, 3) := dk_182 1 158 (dk_at dksX13_good_0 7 rfl rfl)
theorem dX13_good_10 : decode cX13_good 10 = .ok (.ifCond .eq 12, 3) := dk_153 0 12 (dk_at dksX13_good_0 10 rfl rfl)
theorem dX13_good_13 : decode cX13_good 13 = .ok (.iload_n 2, 1) := dk_28 (dk_at dksX13_good_0 13 rfl rfl)
theorem dX13_good_14 : decode cX13_good 14 = .ok (.iconst 0, 1) := dk_3 (dk_at dksX13_good_0 14 rfl rfl)
theorem dX13_good_15 : decode cX13_good 15 = .ok (.iconst 5, 1) := dk_8 (dk_at dksX13_good_0 15 rfl rfl)
theorem dX13_good_16 : decode cX13_good 16 = .ok (.invokestatic 118, 3) := dk_184 0 118 (dk_at dksX13_good_0 16 rfl rfl)
theorem dX13_good_19 : decode cX13_good 19 = .ok (.ifCond .ne 9, 3) := dk_154 0 9 (dk_at dksX13_good_0 19 rfl rfl)
theorem dX13_good_22 : decode cX13_good 22 = .ok (.aload_n 0, 1) := dk_42 (dk_at dksX13_good_0 22 rfl rfl)
theorem dX13_good_23 : decode cX13_good 23 = .ok (.iconst 1, 1) := dk_4 (dk_at dksX13_good_0 23 rfl rfl)
theorem dX13_good_24 : decode cX13_good 24 = .ok (.invokevirtual 45, 3) := dk_182 0 45 (dk_at dksX13_good_1 0 rfl rfl)
theorem dX13_good_27 : decode cX13_good 27 = .ok (.ireturn, 1) := dk_172 (dk_at dksX13_good_1 3 rfl rfl)
theorem dX13_good_28 : decode cX13_good 28 = .ok (.iload_n 2, 1) := dk_28 (dk_at dksX13_good_1 4 rfl rfl)
theorem dX13_good_29 : decode cX13_good 29 = .ok (.tableswitch 104 0 4 #[35, 49, 63, 77, 91], 35) := by decide +kernel
theorem dX13_good_64 : decode cX13_good 64 = .ok (.aload_n 0, 1) := dk_42 (dk_at dksX13_good_3 0 rfl rfl)
theorem dX13_good_65 : decode cX13_good 65 = .ok (.aload_n 0, 1) := dk_42 (dk_at dksX13_good_3 1 rfl rfl)
theorem dX13_good_66 : decode cX13_good 66 = .ok (.getfield 367, 3) := dk_180 1 111 (dk_at dksX13_good_3 2 rfl rfl)
theorem dX13_good_69 : decode cX13_good 69 = .ok (.getfield 302, 3) := dk_180 1 46 (dk_at dksX13_good_3 5 rfl rfl)
theorem dX13_good_72 : decode cX13_good 72 = .ok (.iload_n 1, 1) := dk_27 (dk_at dksX13_good_3 8 rfl rfl)
theorem dX13_good_73 : decode cX13_good 73 = .ok (.iaload, 1) := dk_46 (dk_at dksX13_good_3 9 rfl rfl)
theorem dX13_good_74 : decode cX13_good 74 = .ok (.invokevirtual 49, 3) := dk_182 0 49 (dk_at dksX13_good_3 10 rfl rfl)
theorem dX13_good_77 : decode cX13_good 77 = .ok (.ireturn, 1) := dk_172 (dk_at dksX13_good_3 13 rfl rfl)
theorem dX13_good_78 : decode cX13_good 78 = .ok (.aload_n 0, 1) := dk_42 (dk_at dksX13_good_3 14 rfl rfl)
theorem dX13_good_79 : decode cX13_good 79 = .ok (.aload_n 0, 1) := dk_42 (dk_at dksX13_good_3 15 rfl rfl)
theorem dX13_good_80 : decode cX13_good 80 = .ok (.getfield 367, 3) := dk_180 1 111 (dk_at dksX13_good_3 16 rfl rfl)
theorem dX13_good_83 : decode cX13_good 83 = .ok (.getfield 308, 3) := dk_180 1 52 (dk_at dksX13_good_3 19 rfl rfl)
theorem dX13_good_86 : decode cX13_good 86 = .ok (.iload_n 1, 1) := dk_27 (dk_at dksX13_good_3 22 rfl rfl)
theorem dX13_good_87 : decode cX13_good 87 = .ok (.iaload, 1) := dk_46 (dk_at dksX13_good_3 23 rfl rfl)
theorem dX13_good_88 : decode cX13_good 88 = .ok (.invokevirtual 49, 3) := dk_182 0 49 (dk_at dksX13_good_4 0 rfl rfl)
theorem dX13_good_91 : decode cX13_good 91 = .ok (.ireturn, 1) := dk_172 (dk_at dksX13_good_4 3 rfl rfl)
theorem dX13_good_92 : decode cX13_good 92 = .ok (.aload_n 0, 1) := dk_42 (dk_at dksX13_good_4 4 rfl rfl)
theorem dX13_good_93 : decode cX13_good 93 = .ok (.aload_n 0, 1) := dk_42 (dk_at dksX13_good_4 5 rfl rfl)
theorem dX13_good_94 : decode cX13_good 94 = .ok (.getfield 367, 3) := dk_180 1 111 (dk_at dksX13_good_4 6 rfl rfl)
theorem dX13_good_97 : decode cX13_good 97 = .ok (.getfield 305, 3) := dk_180 1 49 (dk_at dksX13_good_4 9 rfl rfl)
theorem dX13_good_100 : decode cX13_good 100 = .ok (.iload_n 1, 1) := dk_27 (dk_at dksX13_good_4 12 rfl rfl)
theorem dX13_good_101 : decode cX13_good 101 = .ok (.iaload, 1) := dk_46 (dk_at dksX13_good_4 13 rfl rfl)
theorem dX13_good_102 : decode cX13_good 102 = .ok (.invokevirtual 49, 3) := dk_182 0 49 (dk_at dksX13_good_4 14 rfl rfl)
theorem dX13_good_105 : decode cX13_good 105 = .ok (.ireturn, 1) := dk_172 (dk_at dksX13_good_4 17 rfl rfl)
theorem dX13_good_106 : decode cX13_good 106 = .ok (.aload_n 0, 1) := dk_42 (dk_at dksX13_good_4 18 rfl rfl)
theorem dX13_good_107 : decode cX13_good 107 = .ok (.aload_n 0, 1) := dk_42 (dk_at dksX13_good_4 19 rfl rfl)
theorem dX13_good_108 : decode cX13_good 108 = .ok (.getfield 367, 3) := dk_180 1 111 (dk_at dksX13_good_4 20 rfl rfl)
theorem dX13_good_111 : decode cX13_good 111 = .ok (.getfield 312, 3) := dk_180 1 56 (dk_at dksX13_good_5 0 rfl rfl)
theorem dX13_good_114 : decode cX13_good 114 = .ok (.iload_n 1, 1) := dk_27 (dk_at dksX13_good_5 3 rfl rfl)
theorem dX13_good_115 : decode cX13_good 115 = .ok (.iaload, 1) := dk_46 (dk_at dksX13_good_5 4 rfl rfl)
theorem dX13_good_116 : decode cX13_good 116 = .ok (.invokevirtual 49, 3) := dk_182 0 49 (dk_at dksX13_good_5 5 rfl rfl)
theorem dX13_good_119 : decode cX13_good 119 = .ok (.ireturn, 1) := dk_172 (dk_at dksX13_good_5 8 rfl rfl)
theorem dX13_good_120 : decode cX13_good 120 = .ok (.aload_n 0, 1) := dk_42 (dk_at dksX13_good_5 9 rfl rfl)
theorem dX13_good_121 : decode cX13_good 121 = .ok (.aload_n 0, 1) := dk_42 (dk_at dksX13_good_5 10 rfl rfl)
theorem dX13_good_122 : decode cX13_good 122 = .ok (.getfield 17, 3) := dk_180 0 17 (dk_at dksX13_good_5 11 rfl rfl)
theorem dX13_good_125 : decode cX13_good 125 = .ok (.iconst 0, 1) := dk_3 (dk_at dksX13_good_5 14 rfl rfl)
theorem dX13_good_126 : decode cX13_good 126 = .ok (.iload_n 1, 1) := dk_27 (dk_at dksX13_good_5 15 rfl rfl)
theorem dX13_good_127 : decode cX13_good 127 = .ok (.iadd, 1) := dk_96 (dk_at dksX13_good_5 16 rfl rfl)
theorem dX13_good_128 : decode cX13_good 128 = .ok (.iaload, 1) := dk_46 (dk_at dksX13_good_5 17 rfl rfl)
theorem dX13_good_129 : decode cX13_good 129 = .ok (.invokevirtual 49, 3) := dk_182 0 49 (dk_at dksX13_good_5 18 rfl rfl)
theorem dX13_good_132 : decode cX13_good 132 = .ok (.ireturn, 1) := dk_172 (dk_at dksX13_good_5 21 rfl rfl)
theorem dX13_good_133 : decode cX13_good 133 = .ok (.aload_n 0, 1) := dk_42 (dk_at dksX13_good_5 22 rfl rfl)
theorem dX13_good_134 : decode cX13_good 134 = .ok (.aload_n 0, 1) := dk_42 (dk_at dksX13_good_5 23 rfl rfl)
theorem dX13_good_135 : decode cX13_good 135 = .ok (.aload_n 0, 1) := dk_42 (dk_at dksX13_good_6 0 rfl rfl)
theorem dX13_good_136 : decode cX13_good 136 = .ok (.getfield 17, 3) := dk_180 0 17 (dk_at dksX13_good_6 1 rfl rfl)
theorem dX13_good_139 : decode cX13_good 139 = .ok (.iload_n 1, 1) := dk_27 (dk_at dksX13_good_6 4 rfl rfl)
theorem dX13_good_140 : decode cX13_good 140 = .ok (.invokevirtual 397, 3) := dk_182 1 141 (dk_at dksX13_good_6 5 rfl rfl)
theorem dX13_good_143 : decode cX13_good 143 = .ok (.ifCond .eq 7, 3) := dk_153 0 7 (dk_at dksX13_good_6 8 rfl rfl)
theorem dX13_good_146 : decode cX13_good 146 = .ok (.iconst 1, 1) := dk_4 (dk_at dksX13_good_6 11 rfl rfl)
theorem dX13_good_147 : decode cX13_good 147 = .ok (.goto 4, 3) := dk_167 0 4 (dk_at dksX13_good_6 12 rfl rfl)
theorem dX13_good_150 : decode cX13_good 150 = .ok (.iconst 0, 1) := dk_3 (dk_at dksX13_good_6 15 rfl rfl)
theorem dX13_good_151 : decode cX13_good 151 = .ok (.invokevirtual 49, 3) := dk_182 0 49 (dk_at dksX13_good_6 16 rfl rfl)
theorem dX13_good_154 : decode cX13_good 154 = .ok (.ireturn, 1) := dk_172 (dk_at dksX13_good_6 19 rfl rfl)
abbrev cX13_isGood : ByteArray := prog_27_method_48_code
def yX13_isGood : MethodName := ⟨RX13, "isGood", "(I)Z"⟩
def dkwX13_isGood_1 : List UInt8 := [167, 0, 4, 3, 172]
abbrev dktX13_isGood_1 : List UInt8 := dkwX13_isGood_1 ++ []
def dkwX13_isGood_0 : List UInt8 := [42, 180, 1, 111, 198, 0, 22, 27, 155, 0, 18, 27, 42, 180, 1, 111, 180, 1, 31, 162, 0, 7, 4]
abbrev dktX13_isGood_0 : List UInt8 := dkwX13_isGood_0 ++ dktX13_isGood_1
theorem dksX13_isGood_0 : cX13_isGood.data.toList.drop 0 = dktX13_isGood_0 := by decide +kernel
theorem dksX13_isGood_1 : cX13_isGood.data.toList.drop 23 = dktX13_isGood_1 := dk_seg dksX13_isGood_0 23 rfl rfl
theorem dX13_isGood_0 : decode cX13_isGood 0 = .ok (.aload_n 0, 1) := dk_42 (dk_at dksX13_isGood_0 0 rfl rfl)
theorem dX13_isGood_1 : decode cX13_isGood 1 = .ok (.getfield 367, 3) := dk_180 1 111 (dk_at dksX13_isGood_0 1 rfl rfl)
theorem dX13_isGood_4 : decode cX13_isGood 4 = .ok (.ifnull 22, 3) := dk_198 0 22 (dk_at dksX13_isGood_0 4 rfl rfl)
theorem dX13_isGood_7 : decode cX13_isGood 7 = .ok (.iload_n 1, 1) := dk_27 (dk_at dksX13_isGood_0 7 rfl rfl)
theorem dX13_isGood_8 : decode cX13_isGood 8 = .ok (.ifCond .lt 18, 3) := dk_155 0 18 (dk_at dksX13_isGood_0 8 rfl rfl)
theorem dX13_isGood_11 : decode cX13_isGood 11 = .ok (.iload_n 1, 1) := dk_27 (dk_at dksX13_isGood_0 11 rfl rfl)
theorem dX13_isGood_12 : decode cX13_isGood 12 = .ok (.aload_n 0, 1) := dk_42 (dk_at dksX13_isGood_0 12 rfl rfl)
theorem dX13_isGood_13 : decode cX13_isGood 13 = .ok (.getfield 367, 3) := dk_180 1 111 (dk_at dksX13_isGood_0 13 rfl rfl)
theorem dX13_isGood_16 : decode cX13_isGood 16 = .ok (.getfield 287, 3) := dk_180 1 31 (dk_at dksX13_isGood_0 16 rfl rfl)
theorem dX13_isGood_19 : decode cX13_isGood 19 = .ok (.if_icmp .ge 7, 3) := dk_162 0 7 (dk_at dksX13_isGood_0 19 rfl rfl)
theorem dX13_isGood_22 : decode cX13_isGood 22 = .ok (.iconst 1, 1) := dk_4 (dk_at dksX13_isGood_0 22 rfl rfl)
theorem dX13_isGood_23 : decode cX13_isGood 23 = .ok (.goto 4, 3) := dk_167 0 4 (dk_at dksX13_isGood_1 0 rfl rfl)
theorem dX13_isGood_26 : decode cX13_isGood 26 = .ok (.iconst 0, 1) := dk_3 (dk_at dksX13_isGood_1 3 rfl rfl)
theorem dX13_isGood_27 : decode cX13_isGood 27 = .ok (.ireturn, 1) := dk_172 (dk_at dksX13_isGood_1 4 rfl rfl)
abbrev cX13_isHiddenIn : ByteArray := prog_27_method_59_code
def yX13_isHiddenIn : MethodName := ⟨RX13, "isHiddenIn", "([II)Z"⟩
def dkwX13_isHiddenIn_0 : List UInt8 := [43, 16, 16, 46, 28, 184, 1, 63, 172]
abbrev dktX13_isHiddenIn_0 : List UInt8 := dkwX13_isHiddenIn_0 ++ []
theorem dksX13_isHiddenIn_0 : cX13_isHiddenIn.data.toList.drop 0 = dktX13_isHiddenIn_0 := by decide +kernel
theorem dX13_isHiddenIn_0 : decode cX13_isHiddenIn 0 = .ok (.aload_n 1, 1) := dk_43 (dk_at dksX13_isHiddenIn_0 0 rfl rfl)
theorem dX13_isHiddenIn_1 : decode cX13_isHiddenIn 1 = .ok (.bipush 16, 2) := dk_16 16 (dk_at dksX13_isHiddenIn_0 1 rfl rfl)
theorem dX13_isHiddenIn_3 : decode cX13_isHiddenIn 3 = .ok (.iaload, 1) := dk_46 (dk_at dksX13_isHiddenIn_0 3 rfl rfl)
theorem dX13_isHiddenIn_4 : decode cX13_isHiddenIn 4 = .ok (.iload_n 2, 1) := dk_28 (dk_at dksX13_isHiddenIn_0 4 rfl rfl)
theorem dX13_isHiddenIn_5 : decode cX13_isHiddenIn 5 = .ok (.invokestatic 319, 3) := dk_184 1 63 (dk_at dksX13_isHiddenIn_0 5 rfl rfl)
theorem dX13_isHiddenIn_8 : decode cX13_isHiddenIn 8 = .ok (.ireturn, 1) := dk_172 (dk_at dksX13_isHiddenIn_0 8 rfl rfl)
abbrev cX13_traveller : ByteArray := prog_27_method_66_code
def yX13_traveller : MethodName := ⟨RX13, "traveller", "(II)I"⟩
def dkwX13_traveller_3 : List UInt8 := [16, 12, 27, 96, 46, 167, 0, 8, 42, 27, 182, 1, 164, 182, 0, 49, 172]
abbrev dktX13_traveller_3 : List UInt8 := dkwX13_traveller_3 ++ []
def dkwX13_traveller_2 : List UInt8 := [160, 0, 15, 42, 180, 0, 17, 16, 8, 27, 96, 46, 167, 0, 25, 28, 5, 160, 0, 15, 42, 180, 0, 17]
abbrev dktX13_traveller_2 : List UInt8 := dkwX13_traveller_2 ++ dktX13_traveller_3
def dkwX13_traveller_1 : List UInt8 := [182, 0, 45, 172, 42, 28, 154, 0, 15, 42, 180, 1, 111, 180, 1, 7, 27, 46, 167, 0, 42, 28, 4]
abbrev dktX13_traveller_1 : List UInt8 := dkwX13_traveller_1 ++ dktX13_traveller_2
def dkwX13_traveller_0 : List UInt8 := [42, 3, 181, 0, 39, 42, 27, 182, 1, 161, 153, 0, 12, 28, 3, 6, 184, 0, 118, 154, 0, 9, 42, 4]
abbrev dktX13_traveller_0 : List UInt8 := dkwX13_traveller_0 ++ dktX13_traveller_1
theorem dksX13_traveller_0 : cX13_traveller.data.toList.drop 0 = dktX13_traveller_0 := by decide +kernel
theorem dksX13_traveller_1 : cX13_traveller.data.toList.drop 24 = dktX13_traveller_1 := dk_seg dksX13_traveller_0 24 rfl rfl
theorem dksX13_traveller_2 : cX13_traveller.data.toList.drop 47 = dktX13_traveller_2 := dk_seg dksX13_traveller_1 23 rfl rfl
theorem dksX13_traveller_3 : cX13_traveller.data.toList.drop 71 = dktX13_traveller_3 := dk_seg dksX13_traveller_2 24 rfl rfl
theorem dX13_traveller_0 : decode cX13_traveller 0 = .ok (.aload_n 0, 1) := dk_42 (dk_at dksX13_traveller_0 0 rfl rfl)
theorem dX13_traveller_1 : decode cX13_traveller 1 = .ok (.iconst 0, 1) := dk_3 (dk_at dksX13_traveller_0 1 rfl rfl)
theorem dX13_traveller_2 : decode cX13_traveller 2 = .ok (.putfield 39, 3) := dk_181 0 39 (dk_at dksX13_traveller_0 2 rfl rfl)
theorem dX13_traveller_5 : decode cX13_traveller 5 = .ok (.aload_n 0, 1) := dk_42 (dk_at dksX13_traveller_0 5 rfl rfl)
theorem dX13_traveller_6 : decode cX13_traveller 6 = .ok (.iload_n 1, 1) := dk_27 (dk_at dksX13_traveller_0 6 rfl rfl)
theorem dX13_traveller_7 : decode cX13_traveller 7 = .ok (.invokevirtual 417, 3) := dk_182 1 161 (dk_at dksX13_traveller_0 7 rfl rfl)
theorem dX13_traveller_10 : decode cX13_traveller 10 = .ok (.ifCond .eq 12, 3) := dk_153 0 12 (dk_at dksX13_traveller_0 10 rfl rfl)
theorem dX13_traveller_13 : decode cX13_traveller 13 = .ok (.iload_n 2, 1) := dk_28 (dk_at dksX13_traveller_0 13 rfl rfl)
theorem dX13_traveller_14 : decode cX13_traveller 14 = .ok (.iconst 0, 1) := dk_3 (dk_at dksX13_traveller_0 14 rfl rfl)
theorem dX13_traveller_15 : decode cX13_traveller 15 = .ok (.iconst 3, 1) := dk_6 (dk_at dksX13_traveller_0 15 rfl rfl)
theorem dX13_traveller_16 : decode cX13_traveller 16 = .ok (.invokestatic 118, 3) := dk_184 0 118 (dk_at dksX13_traveller_0 16 rfl rfl)
theorem dX13_traveller_19 : decode cX13_traveller 19 = .ok (.ifCond .ne 9, 3) := dk_154 0 9 (dk_at dksX13_traveller_0 19 rfl rfl)
theorem dX13_traveller_22 : decode cX13_traveller 22 = .ok (.aload_n 0, 1) := dk_42 (dk_at dksX13_traveller_0 22 rfl rfl)
theorem dX13_traveller_23 : decode cX13_traveller 23 = .ok (.iconst 1, 1) := dk_4 (dk_at dksX13_traveller_0 23 rfl rfl)
theorem dX13_traveller_24 : decode cX13_traveller 24 = .ok (.invokevirtual 45, 3) := dk_182 0 45 (dk_at dksX13_traveller_1 0 rfl rfl)
theorem dX13_traveller_27 : decode cX13_traveller 27 = .ok (.ireturn, 1) := dk_172 (dk_at dksX13_traveller_1 3 rfl rfl)
theorem dX13_traveller_28 : decode cX13_traveller 28 = .ok (.aload_n 0, 1) := dk_42 (dk_at dksX13_traveller_1 4 rfl rfl)
theorem dX13_traveller_29 : decode cX13_traveller 29 = .ok (.iload_n 2, 1) := dk_28 (dk_at dksX13_traveller_1 5 rfl rfl)
theorem dX13_traveller_30 : decode cX13_traveller 30 = .ok (.ifCond .ne 15, 3) := dk_154 0 15 (dk_at dksX13_traveller_1 6 rfl rfl)
theorem dX13_traveller_33 : decode cX13_traveller 33 = .ok (.aload_n 0, 1) := dk_42 (dk_at dksX13_traveller_1 9 rfl rfl)
theorem dX13_traveller_34 : decode cX13_traveller 34 = .ok (.getfield 367, 3) := dk_180 1 111 (dk_at dksX13_traveller_1 10 rfl rfl)
theorem dX13_traveller_37 : decode cX13_traveller 37 = .ok (.getfield 263, 3) := dk_180 1 7 (dk_at dksX13_traveller_1 13 rfl rfl)
theorem dX13_traveller_40 : decode cX13_traveller 40 = .ok (.iload_n 1, 1) := dk_27 (dk_at dksX13_traveller_1 16 rfl rfl)
theorem dX13_traveller_41 : decode cX13_traveller 41 = .ok (.iaload, 1) := dk_46 (dk_at dksX13_traveller_1 17 rfl rfl)
theorem dX13_traveller_42 : decode cX13_traveller 42 = .ok (.goto 42, 3) := dk_167 0 42 (dk_at dksX13_traveller_1 18 rfl rfl)
theorem dX13_traveller_45 : decode cX13_traveller 45 = .ok (.iload_n 2, 1) := dk_28 (dk_at dksX13_traveller_1 21 rfl rfl)
theorem dX13_traveller_46 : decode cX13_traveller 46 = .ok (.iconst 1, 1) := dk_4 (dk_at dksX13_traveller_1 22 rfl rfl)
theorem dX13_traveller_47 : decode cX13_traveller 47 = .ok (.if_icmp .ne 15, 3) := dk_160 0 15 (dk_at dksX13_traveller_2 0 rfl rfl)
theorem dX13_traveller_50 : decode cX13_traveller 50 = .ok (.aload_n 0, 1) := dk_42 (dk_at dksX13_traveller_2 3 rfl rfl)
theorem dX13_traveller_51 : decode cX13_traveller 51 = .ok (.getfield 17, 3) := dk_180 0 17 (dk_at dksX13_traveller_2 4 rfl rfl)
theorem dX13_traveller_54 : decode cX13_traveller 54 = .ok (.bipush 8, 2) := dk_16 8 (dk_at dksX13_traveller_2 7 rfl rfl)
theorem dX13_traveller_56 : decode cX13_traveller 56 = .ok (.iload_n 1, 1) := dk_27 (dk_at dksX13_traveller_2 9 rfl rfl)
theorem dX13_traveller_57 : decode cX13_traveller 57 = .ok (.iadd, 1) := dk_96 (dk_at dksX13_traveller_2 10 rfl rfl)
theorem dX13_traveller_58 : decode cX13_traveller 58 = .ok (.iaload, 1) := dk_46 (dk_at dksX13_traveller_2 11 rfl rfl)
theorem dX13_traveller_59 : decode cX13_traveller 59 = .ok (.goto 25, 3) := dk_167 0 25 (dk_at dksX13_traveller_2 12 rfl rfl)
theorem dX13_traveller_62 : decode cX13_traveller 62 = .ok (.iload_n 2, 1) := dk_28 (dk_at dksX13_traveller_2 15 rfl rfl)
theorem dX13_traveller_63 : decode cX13_traveller 63 = .ok (.iconst 2, 1) := dk_5 (dk_at dksX13_traveller_2 16 rfl rfl)
theorem dX13_traveller_64 : decode cX13_traveller 64 = .ok (.if_icmp .ne 15, 3) := dk_160 0 15 (dk_at dksX13_traveller_2 17 rfl rfl)
theorem dX13_traveller_67 : decode cX13_traveller 67 = .ok (.aload_n 0, 1) := dk_42 (dk_at dksX13_traveller_2 20 rfl rfl)
theorem dX13_traveller_68 : decode cX13_traveller 68 = .ok (.getfield 17, 3) := dk_180 0 17 (dk_at dksX13_traveller_2 21 rfl rfl)
theorem dX13_traveller_71 : decode cX13_traveller 71 = .ok (.bipush 12, 2) := dk_16 12 (dk_at dksX13_traveller_3 0 rfl rfl)
theorem dX13_traveller_73 : decode cX13_traveller 73 = .ok (.iload_n 1, 1) := dk_27 (dk_at dksX13_traveller_3 2 rfl rfl)
theorem dX13_traveller_74 : decode cX13_traveller 74 = .ok (.iadd, 1) := dk_96 (dk_at dksX13_traveller_3 3 rfl rfl)
theorem dX13_traveller_75 : decode cX13_traveller 75 = .ok (.iaload, 1) := dk_46 (dk_at dksX13_traveller_3 4 rfl rfl)
theorem dX13_traveller_76 : decode cX13_traveller 76 = .ok (.goto 8, 3) := dk_167 0 8 (dk_at dksX13_traveller_3 5 rfl rfl)
theorem dX13_traveller_79 : decode cX13_traveller 79 = .ok (.aload_n 0, 1) := dk_42 (dk_at dksX13_traveller_3 8 rfl rfl)
theorem dX13_traveller_80 : decode cX13_traveller 80 = .ok (.iload_n 1, 1) := dk_27 (dk_at dksX13_traveller_3 9 rfl rfl)
theorem dX13_traveller_81 : decode cX13_traveller 81 = .ok (.invokevirtual 420, 3) := dk_182 1 164 (dk_at dksX13_traveller_3 10 rfl rfl)
theorem dX13_traveller_84 : decode cX13_traveller 84 = .ok (.invokevirtual 49, 3) := dk_182 0 49 (dk_at dksX13_traveller_3 13 rfl rfl)
theorem dX13_traveller_87 : decode cX13_traveller 87 = .ok (.ireturn, 1) := dk_172 (dk_at dksX13_traveller_3 16 rfl rfl)
abbrev cX13_isTraveller : ByteArray := prog_27_method_49_code
def yX13_isTraveller : MethodName := ⟨RX13, "isTraveller", "(I)Z"⟩
def dkwX13_isTraveller_1 : List UInt8 := [167, 0, 4, 3, 172]
abbrev dktX13_isTraveller_1 : List UInt8 := dkwX13_isTraveller_1 ++ []
def dkwX13_isTraveller_0 : List UInt8 := [42, 180, 1, 111, 198, 0, 22, 27, 155, 0, 18, 27, 42, 180, 1, 111, 180, 0, 191, 162, 0, 7, 4]
abbrev dktX13_isTraveller_0 : List UInt8 := dkwX13_isTraveller_0 ++ dktX13_isTraveller_1
theorem dksX13_isTraveller_0 : cX13_isTraveller.data.toList.drop 0 = dktX13_isTraveller_0 := by decide +kernel
theorem dksX13_isTraveller_1 : cX13_isTraveller.data.toList.drop 23 = dktX13_isTraveller_1 := dk_seg dksX13_isTraveller_0 23 rfl rfl
theorem dX13_isTraveller_0 : decode cX13_isTraveller 0 = .ok (.aload_n 0, 1) := dk_42 (dk_at dksX13_isTraveller_0 0 rfl rfl)
theorem dX13_isTraveller_1 : decode cX13_isTraveller 1 = .ok (.getfield 367, 3) := dk_180 1 111 (dk_at dksX13_isTraveller_0 1 rfl rfl)
theorem dX13_isTraveller_4 : decode cX13_isTraveller 4 = .ok (.ifnull 22, 3) := dk_198 0 22 (dk_at dksX13_isTraveller_0 4 rfl rfl)
theorem dX13_isTraveller_7 : decode cX13_isTraveller 7 = .ok (.iload_n 1, 1) := dk_27 (dk_at dksX13_isTraveller_0 7 rfl rfl)
theorem dX13_isTraveller_8 : decode cX13_isTraveller 8 = .ok (.ifCond .lt 18, 3) := dk_155 0 18 (dk_at dksX13_isTraveller_0 8 rfl rfl)
theorem dX13_isTraveller_11 : decode cX13_isTraveller 11 = .ok (.iload_n 1, 1) := dk_27 (dk_at dksX13_isTraveller_0 11 rfl rfl)
theorem dX13_isTraveller_12 : decode cX13_isTraveller 12 = .ok (.aload_n 0, 1) := dk_42 (dk_at dksX13_isTraveller_0 12 rfl rfl)
theorem dX13_isTraveller_13 : decode cX13_isTraveller 13 = .ok (.getfield 367, 3) := dk_180 1 111 (dk_at dksX13_isTraveller_0 13 rfl rfl)
theorem dX13_isTraveller_16 : decode cX13_isTraveller 16 = .ok (.getfield 191, 3) := dk_180 0 191 (dk_at dksX13_isTraveller_0 16 rfl rfl)
theorem dX13_isTraveller_19 : decode cX13_isTraveller 19 = .ok (.if_icmp .ge 7, 3) := dk_162 0 7 (dk_at dksX13_isTraveller_0 19 rfl rfl)
theorem dX13_isTraveller_22 : decode cX13_isTraveller 22 = .ok (.iconst 1, 1) := dk_4 (dk_at dksX13_isTraveller_0 22 rfl rfl)
theorem dX13_isTraveller_23 : decode cX13_isTraveller 23 = .ok (.goto 4, 3) := dk_167 0 4 (dk_at dksX13_isTraveller_1 0 rfl rfl)
theorem dX13_isTraveller_26 : decode cX13_isTraveller 26 = .ok (.iconst 0, 1) := dk_3 (dk_at dksX13_isTraveller_1 3 rfl rfl)
theorem dX13_isTraveller_27 : decode cX13_isTraveller 27 = .ok (.ireturn, 1) := dk_172 (dk_at dksX13_isTraveller_1 4 rfl rfl)
abbrev cX13_setOf : ByteArray := prog_27_method_65_code
def yX13_setOf : MethodName := ⟨RX13, "setOf", "(I)I"⟩
def dkwX13_setOf_1 : List UInt8 := [182, 1, 134, 153, 0, 9, 4, 29, 120, 167, 0, 4, 3, 128, 61, 132, 3, 1, 167, 255, 219, 28, 172]
abbrev dktX13_setOf_1 : List UInt8 := dkwX13_setOf_1 ++ []
def dkwX13_setOf_0 : List UInt8 := [3, 61, 3, 62, 29, 42, 180, 1, 111, 180, 1, 31, 162, 0, 32, 28, 42, 42, 180, 0, 17, 27, 29]
abbrev dktX13_setOf_0 : List UInt8 := dkwX13_setOf_0 ++ dktX13_setOf_1
theorem dksX13_setOf_0 : cX13_setOf.data.toList.drop 0 = dktX13_setOf_0 := by decide +kernel
theorem dksX13_setOf_1 : cX13_setOf.data.toList.drop 23 = dktX13_setOf_1 := dk_seg dksX13_setOf_0 23 rfl rfl
theorem dX13_setOf_0 : decode cX13_setOf 0 = .ok (.iconst 0, 1) := dk_3 (dk_at dksX13_setOf_0 0 rfl rfl)
theorem dX13_setOf_1 : decode cX13_setOf 1 = .ok (.istore_n 2, 1) := dk_61 (dk_at dksX13_setOf_0 1 rfl rfl)
theorem dX13_setOf_2 : decode cX13_setOf 2 = .ok (.iconst 0, 1) := dk_3 (dk_at dksX13_setOf_0 2 rfl rfl)
theorem dX13_setOf_3 : decode cX13_setOf 3 = .ok (.istore_n 3, 1) := dk_62 (dk_at dksX13_setOf_0 3 rfl rfl)
theorem dX13_setOf_4 : decode cX13_setOf 4 = .ok (.iload_n 3, 1) := dk_29 (dk_at dksX13_setOf_0 4 rfl rfl)
theorem dX13_setOf_5 : decode cX13_setOf 5 = .ok (.aload_n 0, 1) := dk_42 (dk_at dksX13_setOf_0 5 rfl rfl)
theorem dX13_setOf_6 : decode cX13_setOf 6 = .ok (.getfield 367, 3) := dk_180 1 111 (dk_at dksX13_setOf_0 6 rfl rfl)
theorem dX13_setOf_9 : decode cX13_setOf 9 = .ok (.getfield 287, 3) := dk_180 1 31 (dk_at dksX13_setOf_0 9 rfl rfl)
theorem dX13_setOf_12 : decode cX13_setOf 12 = .ok (.if_icmp .ge 32, 3) := dk_162 0 32 (dk_at dksX13_setOf_0 12 rfl rfl)
theorem dX13_setOf_15 : decode cX13_setOf 15 = .ok (.iload_n 2, 1) := dk_28 (dk_at dksX13_setOf_0 15 rfl rfl)
theorem dX13_setOf_16 : decode cX13_setOf 16 = .ok (.aload_n 0, 1) := dk_42 (dk_at dksX13_setOf_0 16 rfl rfl)
theorem dX13_setOf_17 : decode cX13_setOf 17 = .ok (.aload_n 0, 1) := dk_42 (dk_at dksX13_setOf_0 17 rfl rfl)
theorem dX13_setOf_18 : decode cX13_setOf 18 = .ok (.getfield 17, 3) := dk_180 0 17 (dk_at dksX13_setOf_0 18 rfl rfl)
theorem dX13_setOf_21 : decode cX13_setOf 21 = .ok (.iload_n 1, 1) := dk_27 (dk_at dksX13_setOf_0 21 rfl rfl)
theorem dX13_setOf_22 : decode cX13_setOf 22 = .ok (.iload_n 3, 1) := dk_29 (dk_at dksX13_setOf_0 22 rfl rfl)
theorem dX13_setOf_23 : decode cX13_setOf 23 = .ok (.invokevirtual 390, 3) := dk_182 1 134 (dk_at dksX13_setOf_1 0 rfl rfl)
theorem dX13_setOf_26 : decode cX13_setOf 26 = .ok (.ifCond .eq 9, 3) := dk_153 0 9 (dk_at dksX13_setOf_1 3 rfl rfl)
theorem dX13_setOf_29 : decode cX13_setOf 29 = .ok (.iconst 1, 1) := dk_4 (dk_at dksX13_setOf_1 6 rfl rfl)
theorem dX13_setOf_30 : decode cX13_setOf 30 = .ok (.iload_n 3, 1) := dk_29 (dk_at dksX13_setOf_1 7 rfl rfl)
theorem dX13_setOf_31 : decode cX13_setOf 31 = .ok (.ishl, 1) := dk_120 (dk_at dksX13_setOf_1 8 rfl rfl)
theorem dX13_setOf_32 : decode cX13_setOf 32 = .ok (.goto 4, 3) := dk_167 0 4 (dk_at dksX13_setOf_1 9 rfl rfl)
theorem dX13_setOf_35 : decode cX13_setOf 35 = .ok (.iconst 0, 1) := dk_3 (dk_at dksX13_setOf_1 12 rfl rfl)
theorem dX13_setOf_36 : decode cX13_setOf 36 = .ok (.ior, 1) := dk_128 (dk_at dksX13_setOf_1 13 rfl rfl)
theorem dX13_setOf_37 : decode cX13_setOf 37 = .ok (.istore_n 2, 1) := dk_61 (dk_at dksX13_setOf_1 14 rfl rfl)
theorem dX13_setOf_38 : decode cX13_setOf 38 = .ok (.iinc 3 1, 3) := dk_132 3 1 (dk_at dksX13_setOf_1 15 rfl rfl)
theorem dX13_setOf_41 : decode cX13_setOf 41 = .ok (.goto (-37), 3) := dk_167 255 219 (dk_at dksX13_setOf_1 18 rfl rfl)
theorem dX13_setOf_44 : decode cX13_setOf 44 = .ok (.iload_n 2, 1) := dk_28 (dk_at dksX13_setOf_1 21 rfl rfl)
theorem dX13_setOf_45 : decode cX13_setOf 45 = .ok (.ireturn, 1) := dk_172 (dk_at dksX13_setOf_1 22 rfl rfl)
abbrev cX13_hasIn : ByteArray := prog_27_method_54_code
def yX13_hasIn : MethodName := ⟨RX13, "hasIn", "([III)Z"⟩
def dkwX13_hasIn_1 : List UInt8 := [167, 0, 4, 3, 172]
abbrev dktX13_hasIn_1 : List UInt8 := dkwX13_hasIn_1 ++ []
def dkwX13_hasIn_0 : List UInt8 := [42, 180, 1, 111, 180, 1, 49, 29, 46, 28, 160, 0, 15, 43, 3, 29, 96, 46, 154, 0, 7, 4]
abbrev dktX13_hasIn_0 : List UInt8 := dkwX13_hasIn_0 ++ dktX13_hasIn_1
theorem dksX13_hasIn_0 : cX13_hasIn.data.toList.drop 0 = dktX13_hasIn_0 := by decide +kernel
theorem dksX13_hasIn_1 : cX13_hasIn.data.toList.drop 22 = dktX13_hasIn_1 := dk_seg dksX13_hasIn_0 22 rfl rfl
theorem dX13_hasIn_0 : decode cX13_hasIn 0 = .ok (.aload_n 0, 1) := dk_42 (dk_at dksX13_hasIn_0 0 rfl rfl)
theorem dX13_hasIn_1 : decode cX13_hasIn 1 = .ok (.getfield 367, 3) := dk_180 1 111 (dk_at dksX13_hasIn_0 1 rfl rfl)
theorem dX13_hasIn_4 : decode cX13_hasIn 4 = .ok (.getfield 305, 3) := dk_180 1 49 (dk_at dksX13_hasIn_0 4 rfl rfl)
theorem dX13_hasIn_7 : decode cX13_hasIn 7 = .ok (.iload_n 3, 1) := dk_29 (dk_at dksX13_hasIn_0 7 rfl rfl)
theorem dX13_hasIn_8 : decode cX13_hasIn 8 = .ok (.iaload, 1) := dk_46 (dk_at dksX13_hasIn_0 8 rfl rfl)
theorem dX13_hasIn_9 : decode cX13_hasIn 9 = .ok (.iload_n 2, 1) := dk_28 (dk_at dksX13_hasIn_0 9 rfl rfl)
theorem dX13_hasIn_10 : decode cX13_hasIn 10 = .ok (.if_icmp .ne 15, 3) := dk_160 0 15 (dk_at dksX13_hasIn_0 10 rfl rfl)
theorem dX13_hasIn_13 : decode cX13_hasIn 13 = .ok (.aload_n 1, 1) := dk_43 (dk_at dksX13_hasIn_0 13 rfl rfl)
theorem dX13_hasIn_14 : decode cX13_hasIn 14 = .ok (.iconst 0, 1) := dk_3 (dk_at dksX13_hasIn_0 14 rfl rfl)
theorem dX13_hasIn_15 : decode cX13_hasIn 15 = .ok (.iload_n 3, 1) := dk_29 (dk_at dksX13_hasIn_0 15 rfl rfl)
theorem dX13_hasIn_16 : decode cX13_hasIn 16 = .ok (.iadd, 1) := dk_96 (dk_at dksX13_hasIn_0 16 rfl rfl)
theorem dX13_hasIn_17 : decode cX13_hasIn 17 = .ok (.iaload, 1) := dk_46 (dk_at dksX13_hasIn_0 17 rfl rfl)
theorem dX13_hasIn_18 : decode cX13_hasIn 18 = .ok (.ifCond .ne 7, 3) := dk_154 0 7 (dk_at dksX13_hasIn_0 18 rfl rfl)
theorem dX13_hasIn_21 : decode cX13_hasIn 21 = .ok (.iconst 1, 1) := dk_4 (dk_at dksX13_hasIn_0 21 rfl rfl)
theorem dX13_hasIn_22 : decode cX13_hasIn 22 = .ok (.goto 4, 3) := dk_167 0 4 (dk_at dksX13_hasIn_1 0 rfl rfl)
theorem dX13_hasIn_25 : decode cX13_hasIn 25 = .ok (.iconst 0, 1) := dk_3 (dk_at dksX13_hasIn_1 3 rfl rfl)
theorem dX13_hasIn_26 : decode cX13_hasIn 26 = .ok (.ireturn, 1) := dk_172 (dk_at dksX13_hasIn_1 4 rfl rfl)
abbrev cX13_gate : ByteArray := prog_27_method_67_code
def yX13_gate : MethodName := ⟨RX13, "gate", "(II)I"⟩
def dkwX13_gate_3 : List UInt8 := [182, 0, 49, 172]
abbrev dktX13_gate_3 : List UInt8 := dkwX13_gate_3 ++ []
def dkwX13_gate_2 : List UInt8 := [160, 0, 15, 42, 180, 1, 111, 180, 1, 19, 27, 46, 167, 0, 12, 42, 180, 1, 111, 180, 1, 21, 27, 46]
abbrev dktX13_gate_2 : List UInt8 := dkwX13_gate_2 ++ dktX13_gate_3
def dkwX13_gate_1 : List UInt8 := [182, 0, 45, 172, 42, 28, 154, 0, 15, 42, 180, 1, 111, 180, 1, 17, 27, 46, 167, 0, 29, 28, 4]
abbrev dktX13_gate_1 : List UInt8 := dkwX13_gate_1 ++ dktX13_gate_2
def dkwX13_gate_0 : List UInt8 := [42, 3, 181, 0, 39, 42, 27, 182, 1, 167, 153, 0, 12, 28, 3, 5, 184, 0, 118, 154, 0, 9, 42, 4]
abbrev dktX13_gate_0 : List UInt8 := dkwX13_gate_0 ++ dktX13_gate_1
theorem dksX13_gate_0 : cX13_gate.data.toList.drop 0 = dktX13_gate_0 := by decide +kernel
theorem dksX13_gate_1 : cX13_gate.data.toList.drop 24 = dktX13_gate_1 := dk_seg dksX13_gate_0 24 rfl rfl
theorem dksX13_gate_2 : cX13_gate.data.toList.drop 47 = dktX13_gate_2 := dk_seg dksX13_gate_1 23 rfl rfl
theorem dksX13_gate_3 : cX13_gate.data.toList.drop 71 = dktX13_gate_3 := dk_seg dksX13_gate_2 24 rfl rfl
theorem dX13_gate_0 : decode cX13_gate 0 = .ok (.aload_n 0, 1) := dk_42 (dk_at dksX13_gate_0 0 rfl rfl)
theorem dX13_gate_1 : decode cX13_gate 1 = .ok (.iconst 0, 1) := dk_3 (dk_at dksX13_gate_0 1 rfl rfl)
theorem dX13_gate_2 : decode cX13_gate 2 = .ok (.putfield 39, 3) := dk_181 0 39 (dk_at dksX13_gate_0 2 rfl rfl)
theorem dX13_gate_5 : decode cX13_gate 5 = .ok (.aload_n 0, 1) := dk_42 (dk_at dksX13_gate_0 5 rfl rfl)
theorem dX13_gate_6 : decode cX13_gate 6 = .ok (.iload_n 1, 1) := dk_27 (dk_at dksX13_gate_0 6 rfl rfl)
theorem dX13_gate_7 : decode cX13_gate 7 = .ok (.invokevirtual 423, 3) := dk_182 1 167 (dk_at dksX13_gate_0 7 rfl rfl)
theorem dX13_gate_10 : decode cX13_gate 10 = .ok (.ifCond .eq 12, 3) := dk_153 0 12 (dk_at dksX13_gate_0 10 rfl rfl)
theorem dX13_gate_13 : decode cX13_gate 13 = .ok (.iload_n 2, 1) := dk_28 (dk_at dksX13_gate_0 13 rfl rfl)
theorem dX13_gate_14 : decode cX13_gate 14 = .ok (.iconst 0, 1) := dk_3 (dk_at dksX13_gate_0 14 rfl rfl)
theorem dX13_gate_15 : decode cX13_gate 15 = .ok (.iconst 2, 1) := dk_5 (dk_at dksX13_gate_0 15 rfl rfl)
theorem dX13_gate_16 : decode cX13_gate 16 = .ok (.invokestatic 118, 3) := dk_184 0 118 (dk_at dksX13_gate_0 16 rfl rfl)
theorem dX13_gate_19 : decode cX13_gate 19 = .ok (.ifCond .ne 9, 3) := dk_154 0 9 (dk_at dksX13_gate_0 19 rfl rfl)
theorem dX13_gate_22 : decode cX13_gate 22 = .ok (.aload_n 0, 1) := dk_42 (dk_at dksX13_gate_0 22 rfl rfl)
theorem dX13_gate_23 : decode cX13_gate 23 = .ok (.iconst 1, 1) := dk_4 (dk_at dksX13_gate_0 23 rfl rfl)
theorem dX13_gate_24 : decode cX13_gate 24 = .ok (.invokevirtual 45, 3) := dk_182 0 45 (dk_at dksX13_gate_1 0 rfl rfl)
theorem dX13_gate_27 : decode cX13_gate 27 = .ok (.ireturn, 1) := dk_172 (dk_at dksX13_gate_1 3 rfl rfl)
theorem dX13_gate_28 : decode cX13_gate 28 = .ok (.aload_n 0, 1) := dk_42 (dk_at dksX13_gate_1 4 rfl rfl)
theorem dX13_gate_29 : decode cX13_gate 29 = .ok (.iload_n 2, 1) := dk_28 (dk_at dksX13_gate_1 5 rfl rfl)
theorem dX13_gate_30 : decode cX13_gate 30 = .ok (.ifCond .ne 15, 3) := dk_154 0 15 (dk_at dksX13_gate_1 6 rfl rfl)
theorem dX13_gate_33 : decode cX13_gate 33 = .ok (.aload_n 0, 1) := dk_42 (dk_at dksX13_gate_1 9 rfl rfl)
theorem dX13_gate_34 : decode cX13_gate 34 = .ok (.getfield 367, 3) := dk_180 1 111 (dk_at dksX13_gate_1 10 rfl rfl)
theorem dX13_gate_37 : decode cX13_gate 37 = .ok (.getfield 273, 3) := dk_180 1 17 (dk_at dksX13_gate_1 13 rfl rfl)
theorem dX13_gate_40 : decode cX13_gate 40 = .ok (.iload_n 1, 1) := dk_27 (dk_at dksX13_gate_1 16 rfl rfl)
theorem dX13_gate_41 : decode cX13_gate 41 = .ok (.iaload, 1) := dk_46 (dk_at dksX13_gate_1 17 rfl rfl)
theorem dX13_gate_42 : decode cX13_gate 42 = .ok (.goto 29, 3) := dk_167 0 29 (dk_at dksX13_gate_1 18 rfl rfl)
theorem dX13_gate_45 : decode cX13_gate 45 = .ok (.iload_n 2, 1) := dk_28 (dk_at dksX13_gate_1 21 rfl rfl)
theorem dX13_gate_46 : decode cX13_gate 46 = .ok (.iconst 1, 1) := dk_4 (dk_at dksX13_gate_1 22 rfl rfl)
theorem dX13_gate_47 : decode cX13_gate 47 = .ok (.if_icmp .ne 15, 3) := dk_160 0 15 (dk_at dksX13_gate_2 0 rfl rfl)
theorem dX13_gate_50 : decode cX13_gate 50 = .ok (.aload_n 0, 1) := dk_42 (dk_at dksX13_gate_2 3 rfl rfl)
theorem dX13_gate_51 : decode cX13_gate 51 = .ok (.getfield 367, 3) := dk_180 1 111 (dk_at dksX13_gate_2 4 rfl rfl)
theorem dX13_gate_54 : decode cX13_gate 54 = .ok (.getfield 275, 3) := dk_180 1 19 (dk_at dksX13_gate_2 7 rfl rfl)
theorem dX13_gate_57 : decode cX13_gate 57 = .ok (.iload_n 1, 1) := dk_27 (dk_at dksX13_gate_2 10 rfl rfl)
theorem dX13_gate_58 : decode cX13_gate 58 = .ok (.iaload, 1) := dk_46 (dk_at dksX13_gate_2 11 rfl rfl)
theorem dX13_gate_59 : decode cX13_gate 59 = .ok (.goto 12, 3) := dk_167 0 12 (dk_at dksX13_gate_2 12 rfl rfl)
theorem dX13_gate_62 : decode cX13_gate 62 = .ok (.aload_n 0, 1) := dk_42 (dk_at dksX13_gate_2 15 rfl rfl)
theorem dX13_gate_63 : decode cX13_gate 63 = .ok (.getfield 367, 3) := dk_180 1 111 (dk_at dksX13_gate_2 16 rfl rfl)
theorem dX13_gate_66 : decode cX13_gate 66 = .ok (.getfield 277, 3) := dk_180 1 21 (dk_at dksX13_gate_2 19 rfl rfl)
theorem dX13_gate_69 : decode cX13_gate 69 = .ok (.iload_n 1, 1) := dk_27 (dk_at dksX13_gate_2 22 rfl rfl)
theorem dX13_gate_70 : decode cX13_gate 70 = .ok (.iaload, 1) := dk_46 (dk_at dksX13_gate_2 23 rfl rfl)
theorem dX13_gate_71 : decode cX13_gate 71 = .ok (.invokevirtual 49, 3) := dk_182 0 49 (dk_at dksX13_gate_3 0 rfl rfl)
theorem dX13_gate_74 : decode cX13_gate 74 = .ok (.ireturn, 1) := dk_172 (dk_at dksX13_gate_3 3 rfl rfl)
abbrev cX13_isGate : ByteArray := prog_27_method_51_code
def yX13_isGate : MethodName := ⟨RX13, "isGate", "(I)Z"⟩
def dkwX13_isGate_1 : List UInt8 := [167, 0, 4, 3, 172]
abbrev dktX13_isGate_1 : List UInt8 := dkwX13_isGate_1 ++ []
def dkwX13_isGate_0 : List UInt8 := [42, 180, 1, 111, 198, 0, 22, 27, 155, 0, 18, 27, 42, 180, 1, 111, 180, 0, 194, 162, 0, 7, 4]
abbrev dktX13_isGate_0 : List UInt8 := dkwX13_isGate_0 ++ dktX13_isGate_1
theorem dksX13_isGate_0 : cX13_isGate.data.toList.drop 0 = dktX13_isGate_0 := by decide +kernel
theorem dksX13_isGate_1 : cX13_isGate.data.toList.drop 23 = dktX13_isGate_1 := dk_seg dksX13_isGate_0 23 rfl rfl
theorem dX13_isGate_0 : decode cX13_isGate 0 = .ok (.aload_n 0, 1) := dk_42 (dk_at dksX13_isGate_0 0 rfl rfl)
theorem dX13_isGate_1 : decode cX13_isGate 1 = .ok (.getfield 367, 3) := dk_180 1 111 (dk_at dksX13_isGate_0 1 rfl rfl)
theorem dX13_isGate_4 : decode cX13_isGate 4 = .ok (.ifnull 22, 3) := dk_198 0 22 (dk_at dksX13_isGate_0 4 rfl rfl)
theorem dX13_isGate_7 : decode cX13_isGate 7 = .ok (.iload_n 1, 1) := dk_27 (dk_at dksX13_isGate_0 7 rfl rfl)
theorem dX13_isGate_8 : decode cX13_isGate 8 = .ok (.ifCond .lt 18, 3) := dk_155 0 18 (dk_at dksX13_isGate_0 8 rfl rfl)
theorem dX13_isGate_11 : decode cX13_isGate 11 = .ok (.iload_n 1, 1) := dk_27 (dk_at dksX13_isGate_0 11 rfl rfl)
theorem dX13_isGate_12 : decode cX13_isGate 12 = .ok (.aload_n 0, 1) := dk_42 (dk_at dksX13_isGate_0 12 rfl rfl)
theorem dX13_isGate_13 : decode cX13_isGate 13 = .ok (.getfield 367, 3) := dk_180 1 111 (dk_at dksX13_isGate_0 13 rfl rfl)
theorem dX13_isGate_16 : decode cX13_isGate 16 = .ok (.getfield 194, 3) := dk_180 0 194 (dk_at dksX13_isGate_0 16 rfl rfl)
theorem dX13_isGate_19 : decode cX13_isGate 19 = .ok (.if_icmp .ge 7, 3) := dk_162 0 7 (dk_at dksX13_isGate_0 19 rfl rfl)
theorem dX13_isGate_22 : decode cX13_isGate 22 = .ok (.iconst 1, 1) := dk_4 (dk_at dksX13_isGate_0 22 rfl rfl)
theorem dX13_isGate_23 : decode cX13_isGate 23 = .ok (.goto 4, 3) := dk_167 0 4 (dk_at dksX13_isGate_1 0 rfl rfl)
theorem dX13_isGate_26 : decode cX13_isGate 26 = .ok (.iconst 0, 1) := dk_3 (dk_at dksX13_isGate_1 3 rfl rfl)
theorem dX13_isGate_27 : decode cX13_isGate 27 = .ok (.ireturn, 1) := dk_172 (dk_at dksX13_isGate_1 4 rfl rfl)
abbrev cX13_age : ByteArray := prog_27_method_69_code
def yX13_age : MethodName := ⟨RX13, "age", "(II)I"⟩
def dkwX13_age_1 : List UInt8 := [182, 0, 45, 167, 0, 16, 42, 42, 42, 180, 0, 21, 27, 182, 1, 123, 182, 0, 49, 172]
abbrev dktX13_age_1 : List UInt8 := dkwX13_age_1 ++ []
def dkwX13_age_0 : List UInt8 := [42, 3, 181, 0, 39, 42, 42, 27, 182, 1, 158, 28, 182, 1, 173, 62, 29, 158, 0, 11, 42, 29]
abbrev dktX13_age_0 : List UInt8 := dkwX13_age_0 ++ dktX13_age_1
theorem dksX13_age_0 : cX13_age.data.toList.drop 0 = dktX13_age_0 := by decide +kernel
theorem dksX13_age_1 : cX13_age.data.toList.drop 22 = dktX13_age_1 := dk_seg dksX13_age_0 22 rfl rfl
theorem dX13_age_0 : decode cX13_age 0 = .ok (.aload_n 0, 1) := dk_42 (dk_at dksX13_age_0 0 rfl rfl)
theorem dX13_age_1 : decode cX13_age 1 = .ok (.iconst 0, 1) := dk_3 (dk_at dksX13_age_0 1 rfl rfl)
theorem dX13_age_2 : decode cX13_age 2 = .ok (.putfield 39, 3) := dk_181 0 39 (dk_at dksX13_age_0 2 rfl rfl)
theorem dX13_age_5 : decode cX13_age 5 = .ok (.aload_n 0, 1) := dk_42 (dk_at dksX13_age_0 5 rfl rfl)
theorem dX13_age_6 : decode cX13_age 6 = .ok (.aload_n 0, 1) := dk_42 (dk_at dksX13_age_0 6 rfl rfl)
theorem dX13_age_7 : decode cX13_age 7 = .ok (.iload_n 1, 1) := dk_27 (dk_at dksX13_age_0 7 rfl rfl)
theorem dX13_age_8 : decode cX13_age 8 = .ok (.invokevirtual 414, 3) := dk_182 1 158 (dk_at dksX13_age_0 8 rfl rfl)
theorem dX13_age_11 : decode cX13_age 11 = .ok (.iload_n 2, 1) := dk_28 (dk_at dksX13_age_0 11 rfl rfl)
theorem dX13_age_12 : decode cX13_age 12 = .ok (.invokevirtual 429, 3) := dk_182 1 173 (dk_at dksX13_age_0 12 rfl rfl)
theorem dX13_age_15 : decode cX13_age 15 = .ok (.istore_n 3, 1) := dk_62 (dk_at dksX13_age_0 15 rfl rfl)
theorem dX13_age_16 : decode cX13_age 16 = .ok (.iload_n 3, 1) := dk_29 (dk_at dksX13_age_0 16 rfl rfl)
theorem dX13_age_17 : decode cX13_age 17 = .ok (.ifCond .le 11, 3) := dk_158 0 11 (dk_at dksX13_age_0 17 rfl rfl)
theorem dX13_age_20 : decode cX13_age 20 = .ok (.aload_n 0, 1) := dk_42 (dk_at dksX13_age_0 20 rfl rfl)
theorem dX13_age_21 : decode cX13_age 21 = .ok (.iload_n 3, 1) := dk_29 (dk_at dksX13_age_0 21 rfl rfl)
theorem dX13_age_22 : decode cX13_age 22 = .ok (.invokevirtual 45, 3) := dk_182 0 45 (dk_at dksX13_age_1 0 rfl rfl)
theorem dX13_age_25 : decode cX13_age 25 = .ok (.goto 16, 3) := dk_167 0 16 (dk_at dksX13_age_1 3 rfl rfl)
theorem dX13_age_28 : decode cX13_age 28 = .ok (.aload_n 0, 1) := dk_42 (dk_at dksX13_age_1 6 rfl rfl)
theorem dX13_age_29 : decode cX13_age 29 = .ok (.aload_n 0, 1) := dk_42 (dk_at dksX13_age_1 7 rfl rfl)
theorem dX13_age_30 : decode cX13_age 30 = .ok (.aload_n 0, 1) := dk_42 (dk_at dksX13_age_1 8 rfl rfl)
theorem dX13_age_31 : decode cX13_age 31 = .ok (.getfield 21, 3) := dk_180 0 21 (dk_at dksX13_age_1 9 rfl rfl)
theorem dX13_age_34 : decode cX13_age 34 = .ok (.iload_n 1, 1) := dk_27 (dk_at dksX13_age_1 12 rfl rfl)
theorem dX13_age_35 : decode cX13_age 35 = .ok (.invokevirtual 379, 3) := dk_182 1 123 (dk_at dksX13_age_1 13 rfl rfl)
theorem dX13_age_38 : decode cX13_age 38 = .ok (.invokevirtual 49, 3) := dk_182 0 49 (dk_at dksX13_age_1 16 rfl rfl)
theorem dX13_age_41 : decode cX13_age 41 = .ok (.ireturn, 1) := dk_172 (dk_at dksX13_age_1 19 rfl rfl)
abbrev cX13_asks : ByteArray := prog_27_method_68_code
def yX13_asks : MethodName := ⟨RX13, "asks", "(ZI)I"⟩
def dkwX13_asks_1 : List UInt8 := [180, 0, 21, 16, 17, 92, 46, 28, 96, 79, 3, 172]
abbrev dktX13_asks_1 : List UInt8 := dkwX13_asks_1 ++ []
def dkwX13_asks_0 : List UInt8 := [27, 154, 0, 5, 4, 172, 28, 3, 16, 60, 184, 0, 118, 154, 0, 5, 5, 172, 42, 182, 1, 170, 42]
abbrev dktX13_asks_0 : List UInt8 := dkwX13_asks_0 ++ dktX13_asks_1
theorem dksX13_asks_0 : cX13_asks.data.toList.drop 0 = dktX13_asks_0 := by decide +kernel
theorem dksX13_asks_1 : cX13_asks.data.toList.drop 23 = dktX13_asks_1 := dk_seg dksX13_asks_0 23 rfl rfl
theorem dX13_asks_0 : decode cX13_asks 0 = .ok (.iload_n 1, 1) := dk_27 (dk_at dksX13_asks_0 0 rfl rfl)
theorem dX13_asks_1 : decode cX13_asks 1 = .ok (.ifCond .ne 5, 3) := dk_154 0 5 (dk_at dksX13_asks_0 1 rfl rfl)
theorem dX13_asks_4 : decode cX13_asks 4 = .ok (.iconst 1, 1) := dk_4 (dk_at dksX13_asks_0 4 rfl rfl)
theorem dX13_asks_5 : decode cX13_asks 5 = .ok (.ireturn, 1) := dk_172 (dk_at dksX13_asks_0 5 rfl rfl)
theorem dX13_asks_6 : decode cX13_asks 6 = .ok (.iload_n 2, 1) := dk_28 (dk_at dksX13_asks_0 6 rfl rfl)
theorem dX13_asks_7 : decode cX13_asks 7 = .ok (.iconst 0, 1) := dk_3 (dk_at dksX13_asks_0 7 rfl rfl)
theorem dX13_asks_8 : decode cX13_asks 8 = .ok (.bipush 60, 2) := dk_16 60 (dk_at dksX13_asks_0 8 rfl rfl)
theorem dX13_asks_10 : decode cX13_asks 10 = .ok (.invokestatic 118, 3) := dk_184 0 118 (dk_at dksX13_asks_0 10 rfl rfl)
theorem dX13_asks_13 : decode cX13_asks 13 = .ok (.ifCond .ne 5, 3) := dk_154 0 5 (dk_at dksX13_asks_0 13 rfl rfl)
theorem dX13_asks_16 : decode cX13_asks 16 = .ok (.iconst 2, 1) := dk_5 (dk_at dksX13_asks_0 16 rfl rfl)
theorem dX13_asks_17 : decode cX13_asks 17 = .ok (.ireturn, 1) := dk_172 (dk_at dksX13_asks_0 17 rfl rfl)
theorem dX13_asks_18 : decode cX13_asks 18 = .ok (.aload_n 0, 1) := dk_42 (dk_at dksX13_asks_0 18 rfl rfl)
theorem dX13_asks_19 : decode cX13_asks 19 = .ok (.invokevirtual 426, 3) := dk_182 1 170 (dk_at dksX13_asks_0 19 rfl rfl)
theorem dX13_asks_22 : decode cX13_asks 22 = .ok (.aload_n 0, 1) := dk_42 (dk_at dksX13_asks_0 22 rfl rfl)
theorem dX13_asks_23 : decode cX13_asks 23 = .ok (.getfield 21, 3) := dk_180 0 21 (dk_at dksX13_asks_1 0 rfl rfl)
theorem dX13_asks_26 : decode cX13_asks 26 = .ok (.bipush 17, 2) := dk_16 17 (dk_at dksX13_asks_1 3 rfl rfl)
theorem dX13_asks_28 : decode cX13_asks 28 = .ok (.dup2, 1) := dk_92 (dk_at dksX13_asks_1 5 rfl rfl)
theorem dX13_asks_29 : decode cX13_asks 29 = .ok (.iaload, 1) := dk_46 (dk_at dksX13_asks_1 6 rfl rfl)
theorem dX13_asks_30 : decode cX13_asks 30 = .ok (.iload_n 2, 1) := dk_28 (dk_at dksX13_asks_1 7 rfl rfl)
theorem dX13_asks_31 : decode cX13_asks 31 = .ok (.iadd, 1) := dk_96 (dk_at dksX13_asks_1 8 rfl rfl)
theorem dX13_asks_32 : decode cX13_asks 32 = .ok (.iastore, 1) := dk_79 (dk_at dksX13_asks_1 9 rfl rfl)
theorem dX13_asks_33 : decode cX13_asks 33 = .ok (.iconst 0, 1) := dk_3 (dk_at dksX13_asks_1 10 rfl rfl)
theorem dX13_asks_34 : decode cX13_asks 34 = .ok (.ireturn, 1) := dk_172 (dk_at dksX13_asks_1 11 rfl rfl)
abbrev cX13_tries : ByteArray := prog_27_method_47_code
def yX13_tries : MethodName := ⟨RX13, "tries", "()V"⟩
def dkwX13_tries_1 : List UInt8 := [167, 255, 235, 177]
abbrev dktX13_tries_1 : List UInt8 := dkwX13_tries_1 ++ []
def dkwX13_tries_0 : List UInt8 := [3, 60, 27, 16, 18, 162, 0, 21, 42, 180, 0, 21, 27, 42, 180, 0, 17, 27, 46, 79, 132, 1, 1]
abbrev dktX13_tries_0 : List UInt8 := dkwX13_tries_0 ++ dktX13_tries_1
theorem dksX13_tries_0 : cX13_tries.data.toList.drop 0 = dktX13_tries_0 := by decide +kernel
theorem dksX13_tries_1 : cX13_tries.data.toList.drop 23 = dktX13_tries_1 := dk_seg dksX13_tries_0 23 rfl rfl
theorem dX13_tries_0 : decode cX13_tries 0 = .ok (.iconst 0, 1) := dk_3 (dk_at dksX13_tries_0 0 rfl rfl)
theorem dX13_tries_1 : decode cX13_tries 1 = .ok (.istore_n 1, 1) := dk_60 (dk_at dksX13_tries_0 1 rfl rfl)
theorem dX13_tries_2 : decode cX13_tries 2 = .ok (.iload_n 1, 1) := dk_27 (dk_at dksX13_tries_0 2 rfl rfl)
theorem dX13_tries_3 : decode cX13_tries 3 = .ok (.bipush 18, 2) := dk_16 18 (dk_at dksX13_tries_0 3 rfl rfl)
theorem dX13_tries_5 : decode cX13_tries 5 = .ok (.if_icmp .ge 21, 3) := dk_162 0 21 (dk_at dksX13_tries_0 5 rfl rfl)
theorem dX13_tries_8 : decode cX13_tries 8 = .ok (.aload_n 0, 1) := dk_42 (dk_at dksX13_tries_0 8 rfl rfl)
theorem dX13_tries_9 : decode cX13_tries 9 = .ok (.getfield 21, 3) := dk_180 0 21 (dk_at dksX13_tries_0 9 rfl rfl)
theorem dX13_tries_12 : decode cX13_tries 12 = .ok (.iload_n 1, 1) := dk_27 (dk_at dksX13_tries_0 12 rfl rfl)
theorem dX13_tries_13 : decode cX13_tries 13 = .ok (.aload_n 0, 1) := dk_42 (dk_at dksX13_tries_0 13 rfl rfl)
theorem dX13_tries_14 : decode cX13_tries 14 = .ok (.getfield 17, 3) := dk_180 0 17 (dk_at dksX13_tries_0 14 rfl rfl)
theorem dX13_tries_17 : decode cX13_tries 17 = .ok (.iload_n 1, 1) := dk_27 (dk_at dksX13_tries_0 17 rfl rfl)
theorem dX13_tries_18 : decode cX13_tries 18 = .ok (.iaload, 1) := dk_46 (dk_at dksX13_tries_0 18 rfl rfl)
theorem dX13_tries_19 : decode cX13_tries 19 = .ok (.iastore, 1) := dk_79 (dk_at dksX13_tries_0 19 rfl rfl)
theorem dX13_tries_20 : decode cX13_tries 20 = .ok (.iinc 1 1, 3) := dk_132 1 1 (dk_at dksX13_tries_0 20 rfl rfl)
theorem dX13_tries_23 : decode cX13_tries 23 = .ok (.goto (-21), 3) := dk_167 255 235 (dk_at dksX13_tries_1 0 rfl rfl)
theorem dX13_tries_26 : decode cX13_tries 26 = .ok (.return_, 1) := dk_177 (dk_at dksX13_tries_1 3 rfl rfl)
abbrev cX13_ageIn : ByteArray := prog_27_method_52_code
def yX13_ageIn : MethodName := ⟨RX13, "ageIn", "([II)I"⟩
def dkwX13_ageIn_0 : List UInt8 := [42, 180, 1, 111, 180, 1, 54, 28, 46, 43, 16, 17, 46, 96, 172]
abbrev dktX13_ageIn_0 : List UInt8 := dkwX13_ageIn_0 ++ []
theorem dksX13_ageIn_0 : cX13_ageIn.data.toList.drop 0 = dktX13_ageIn_0 := by decide +kernel
theorem dX13_ageIn_0 : decode cX13_ageIn 0 = .ok (.aload_n 0, 1) := dk_42 (dk_at dksX13_ageIn_0 0 rfl rfl)
theorem dX13_ageIn_1 : decode cX13_ageIn 1 = .ok (.getfield 367, 3) := dk_180 1 111 (dk_at dksX13_ageIn_0 1 rfl rfl)
theorem dX13_ageIn_4 : decode cX13_ageIn 4 = .ok (.getfield 310, 3) := dk_180 1 54 (dk_at dksX13_ageIn_0 4 rfl rfl)
theorem dX13_ageIn_7 : decode cX13_ageIn 7 = .ok (.iload_n 2, 1) := dk_28 (dk_at dksX13_ageIn_0 7 rfl rfl)
theorem dX13_ageIn_8 : decode cX13_ageIn 8 = .ok (.iaload, 1) := dk_46 (dk_at dksX13_ageIn_0 8 rfl rfl)
theorem dX13_ageIn_9 : decode cX13_ageIn 9 = .ok (.aload_n 1, 1) := dk_43 (dk_at dksX13_ageIn_0 9 rfl rfl)
theorem dX13_ageIn_10 : decode cX13_ageIn 10 = .ok (.bipush 17, 2) := dk_16 17 (dk_at dksX13_ageIn_0 10 rfl rfl)
theorem dX13_ageIn_12 : decode cX13_ageIn 12 = .ok (.iaload, 1) := dk_46 (dk_at dksX13_ageIn_0 12 rfl rfl)
theorem dX13_ageIn_13 : decode cX13_ageIn 13 = .ok (.iadd, 1) := dk_96 (dk_at dksX13_ageIn_0 13 rfl rfl)
theorem dX13_ageIn_14 : decode cX13_ageIn 14 = .ok (.ireturn, 1) := dk_172 (dk_at dksX13_ageIn_0 14 rfl rfl)
abbrev cX13_worth : ByteArray := prog_27_method_70_code
def yX13_worth : MethodName := ⟨RX13, "worth", "(II)I"⟩
def dkwX13_worth_1 : List UInt8 := [182, 0, 45, 167, 0, 16, 42, 42, 42, 180, 0, 21, 27, 182, 1, 177, 182, 0, 49, 172]
abbrev dktX13_worth_1 : List UInt8 := dkwX13_worth_1 ++ []
def dkwX13_worth_0 : List UInt8 := [42, 3, 181, 0, 39, 42, 42, 27, 182, 1, 158, 28, 182, 1, 173, 62, 29, 158, 0, 11, 42, 29]
abbrev dktX13_worth_0 : List UInt8 := dkwX13_worth_0 ++ dktX13_worth_1
theorem dksX13_worth_0 : cX13_worth.data.toList.drop 0 = dktX13_worth_0 := by decide +kernel
theorem dksX13_worth_1 : cX13_worth.data.toList.drop 22 = dktX13_worth_1 := dk_seg dksX13_worth_0 22 rfl rfl
theorem dX13_worth_0 : decode cX13_worth 0 = .ok (.aload_n 0, 1) := dk_42 (dk_at dksX13_worth_0 0 rfl rfl)
theorem dX13_worth_1 : decode cX13_worth 1 = .ok (.iconst 0, 1) := dk_3 (dk_at dksX13_worth_0 1 rfl rfl)
theorem dX13_worth_2 : decode cX13_worth 2 = .ok (.putfield 39, 3) := dk_181 0 39 (dk_at dksX13_worth_0 2 rfl rfl)
theorem dX13_worth_5 : decode cX13_worth 5 = .ok (.aload_n 0, 1) := dk_42 (dk_at dksX13_worth_0 5 rfl rfl)
theorem dX13_worth_6 : decode cX13_worth 6 = .ok (.aload_n 0, 1) := dk_42 (dk_at dksX13_worth_0 6 rfl rfl)
theorem dX13_worth_7 : decode cX13_worth 7 = .ok (.iload_n 1, 1) := dk_27 (dk_at dksX13_worth_0 7 rfl rfl)
theorem dX13_worth_8 : decode cX13_worth 8 = .ok (.invokevirtual 414, 3) := dk_182 1 158 (dk_at dksX13_worth_0 8 rfl rfl)
theorem dX13_worth_11 : decode cX13_worth 11 = .ok (.iload_n 2, 1) := dk_28 (dk_at dksX13_worth_0 11 rfl rfl)
theorem dX13_worth_12 : decode cX13_worth 12 = .ok (.invokevirtual 429, 3) := dk_182 1 173 (dk_at dksX13_worth_0 12 rfl rfl)
theorem dX13_worth_15 : decode cX13_worth 15 = .ok (.istore_n 3, 1) := dk_62 (dk_at dksX13_worth_0 15 rfl rfl)
theorem dX13_worth_16 : decode cX13_worth 16 = .ok (.iload_n 3, 1) := dk_29 (dk_at dksX13_worth_0 16 rfl rfl)
theorem dX13_worth_17 : decode cX13_worth 17 = .ok (.ifCond .le 11, 3) := dk_158 0 11 (dk_at dksX13_worth_0 17 rfl rfl)
theorem dX13_worth_20 : decode cX13_worth 20 = .ok (.aload_n 0, 1) := dk_42 (dk_at dksX13_worth_0 20 rfl rfl)
theorem dX13_worth_21 : decode cX13_worth 21 = .ok (.iload_n 3, 1) := dk_29 (dk_at dksX13_worth_0 21 rfl rfl)
theorem dX13_worth_22 : decode cX13_worth 22 = .ok (.invokevirtual 45, 3) := dk_182 0 45 (dk_at dksX13_worth_1 0 rfl rfl)
theorem dX13_worth_25 : decode cX13_worth 25 = .ok (.goto 16, 3) := dk_167 0 16 (dk_at dksX13_worth_1 3 rfl rfl)
theorem dX13_worth_28 : decode cX13_worth 28 = .ok (.aload_n 0, 1) := dk_42 (dk_at dksX13_worth_1 6 rfl rfl)
theorem dX13_worth_29 : decode cX13_worth 29 = .ok (.aload_n 0, 1) := dk_42 (dk_at dksX13_worth_1 7 rfl rfl)
theorem dX13_worth_30 : decode cX13_worth 30 = .ok (.aload_n 0, 1) := dk_42 (dk_at dksX13_worth_1 8 rfl rfl)
theorem dX13_worth_31 : decode cX13_worth 31 = .ok (.getfield 21, 3) := dk_180 0 21 (dk_at dksX13_worth_1 9 rfl rfl)
theorem dX13_worth_34 : decode cX13_worth 34 = .ok (.iload_n 1, 1) := dk_27 (dk_at dksX13_worth_1 12 rfl rfl)
theorem dX13_worth_35 : decode cX13_worth 35 = .ok (.invokevirtual 433, 3) := dk_182 1 177 (dk_at dksX13_worth_1 13 rfl rfl)
theorem dX13_worth_38 : decode cX13_worth 38 = .ok (.invokevirtual 49, 3) := dk_182 0 49 (dk_at dksX13_worth_1 16 rfl rfl)
theorem dX13_worth_41 : decode cX13_worth 41 = .ok (.ireturn, 1) := dk_172 (dk_at dksX13_worth_1 19 rfl rfl)
abbrev cX13_worthIn : ByteArray := prog_27_method_55_code
def yX13_worthIn : MethodName := ⟨RX13, "worthIn", "([II)I"⟩
def dkwX13_worthIn_1 : List UInt8 := [180, 1, 46, 28, 46, 5, 160, 0, 15, 42, 43, 28, 182, 1, 123, 16, 10, 108, 167, 0, 4, 3, 96, 172]
abbrev dktX13_worthIn_1 : List UInt8 := dkwX13_worthIn_1 ++ []
def dkwX13_worthIn_0 : List UInt8 := [42, 43, 28, 182, 1, 130, 153, 0, 5, 3, 172, 42, 180, 1, 111, 180, 1, 58, 28, 46, 42, 180, 1, 111]
abbrev dktX13_worthIn_0 : List UInt8 := dkwX13_worthIn_0 ++ dktX13_worthIn_1
theorem dksX13_worthIn_0 : cX13_worthIn.data.toList.drop 0 = dktX13_worthIn_0 := by decide +kernel
theorem dksX13_worthIn_1 : cX13_worthIn.data.toList.drop 24 = dktX13_worthIn_1 := dk_seg dksX13_worthIn_0 24 rfl rfl
theorem dX13_worthIn_0 : decode cX13_worthIn 0 = .ok (.aload_n 0, 1) := dk_42 (dk_at dksX13_worthIn_0 0 rfl rfl)
theorem dX13_worthIn_1 : decode cX13_worthIn 1 = .ok (.aload_n 1, 1) := dk_43 (dk_at dksX13_worthIn_0 1 rfl rfl)
theorem dX13_worthIn_2 : decode cX13_worthIn 2 = .ok (.iload_n 2, 1) := dk_28 (dk_at dksX13_worthIn_0 2 rfl rfl)
theorem dX13_worthIn_3 : decode cX13_worthIn 3 = .ok (.invokevirtual 386, 3) := dk_182 1 130 (dk_at dksX13_worthIn_0 3 rfl rfl)
theorem dX13_worthIn_6 : decode cX13_worthIn 6 = .ok (.ifCond .eq 5, 3) := dk_153 0 5 (dk_at dksX13_worthIn_0 6 rfl rfl)
theorem dX13_worthIn_9 : decode cX13_worthIn 9 = .ok (.iconst 0, 1) := dk_3 (dk_at dksX13_worthIn_0 9 rfl rfl)
theorem dX13_worthIn_10 : decode cX13_worthIn 10 = .ok (.ireturn, 1) := dk_172 (dk_at dksX13_worthIn_0 10 rfl rfl)
theorem dX13_worthIn_11 : decode cX13_worthIn 11 = .ok (.aload_n 0, 1) := dk_42 (dk_at dksX13_worthIn_0 11 rfl rfl)
theorem dX13_worthIn_12 : decode cX13_worthIn 12 = .ok (.getfield 367, 3) := dk_180 1 111 (dk_at dksX13_worthIn_0 12 rfl rfl)
theorem dX13_worthIn_15 : decode cX13_worthIn 15 = .ok (.getfield 314, 3) := dk_180 1 58 (dk_at dksX13_worthIn_0 15 rfl rfl)
theorem dX13_worthIn_18 : decode cX13_worthIn 18 = .ok (.iload_n 2, 1) := dk_28 (dk_at dksX13_worthIn_0 18 rfl rfl)
theorem dX13_worthIn_19 : decode cX13_worthIn 19 = .ok (.iaload, 1) := dk_46 (dk_at dksX13_worthIn_0 19 rfl rfl)
theorem dX13_worthIn_20 : decode cX13_worthIn 20 = .ok (.aload_n 0, 1) := dk_42 (dk_at dksX13_worthIn_0 20 rfl rfl)
theorem dX13_worthIn_21 : decode cX13_worthIn 21 = .ok (.getfield 367, 3) := dk_180 1 111 (dk_at dksX13_worthIn_0 21 rfl rfl)
theorem dX13_worthIn_24 : decode cX13_worthIn 24 = .ok (.getfield 302, 3) := dk_180 1 46 (dk_at dksX13_worthIn_1 0 rfl rfl)
theorem dX13_worthIn_27 : decode cX13_worthIn 27 = .ok (.iload_n 2, 1) := dk_28 (dk_at dksX13_worthIn_1 3 rfl rfl)
theorem dX13_worthIn_28 : decode cX13_worthIn 28 = .ok (.iaload, 1) := dk_46 (dk_at dksX13_worthIn_1 4 rfl rfl)
theorem dX13_worthIn_29 : decode cX13_worthIn 29 = .ok (.iconst 2, 1) := dk_5 (dk_at dksX13_worthIn_1 5 rfl rfl)
theorem dX13_worthIn_30 : decode cX13_worthIn 30 = .ok (.if_icmp .ne 15, 3) := dk_160 0 15 (dk_at dksX13_worthIn_1 6 rfl rfl)
theorem dX13_worthIn_33 : decode cX13_worthIn 33 = .ok (.aload_n 0, 1) := dk_42 (dk_at dksX13_worthIn_1 9 rfl rfl)
theorem dX13_worthIn_34 : decode cX13_worthIn 34 = .ok (.aload_n 1, 1) := dk_43 (dk_at dksX13_worthIn_1 10 rfl rfl)
theorem dX13_worthIn_35 : decode cX13_worthIn 35 = .ok (.iload_n 2, 1) := dk_28 (dk_at dksX13_worthIn_1 11 rfl rfl)
theorem dX13_worthIn_36 : decode cX13_worthIn 36 = .ok (.invokevirtual 379, 3) := dk_182 1 123 (dk_at dksX13_worthIn_1 12 rfl rfl)
theorem dX13_worthIn_39 : decode cX13_worthIn 39 = .ok (.bipush 10, 2) := dk_16 10 (dk_at dksX13_worthIn_1 15 rfl rfl)
theorem dX13_worthIn_41 : decode cX13_worthIn 41 = .ok (.idiv, 1) := dk_108 (dk_at dksX13_worthIn_1 17 rfl rfl)
theorem dX13_worthIn_42 : decode cX13_worthIn 42 = .ok (.goto 4, 3) := dk_167 0 4 (dk_at dksX13_worthIn_1 18 rfl rfl)
theorem dX13_worthIn_45 : decode cX13_worthIn 45 = .ok (.iconst 0, 1) := dk_3 (dk_at dksX13_worthIn_1 21 rfl rfl)
theorem dX13_worthIn_46 : decode cX13_worthIn 46 = .ok (.iadd, 1) := dk_96 (dk_at dksX13_worthIn_1 22 rfl rfl)
theorem dX13_worthIn_47 : decode cX13_worthIn 47 = .ok (.ireturn, 1) := dk_172 (dk_at dksX13_worthIn_1 23 rfl rfl)
abbrev cX13_isTurnedIn : ByteArray := prog_27_method_53_code
def yX13_isTurnedIn : MethodName := ⟨RX13, "isTurnedIn", "([II)Z"⟩
def dkwX13_isTurnedIn_0 : List UInt8 := [42, 180, 1, 111, 28, 42, 43, 28, 182, 1, 123, 182, 1, 127, 172]
abbrev dktX13_isTurnedIn_0 : List UInt8 := dkwX13_isTurnedIn_0 ++ []
theorem dksX13_isTurnedIn_0 : cX13_isTurnedIn.data.toList.drop 0 = dktX13_isTurnedIn_0 := by decide +kernel
theorem dX13_isTurnedIn_0 : decode cX13_isTurnedIn 0 = .ok (.aload_n 0, 1) := dk_42 (dk_at dksX13_isTurnedIn_0 0 rfl rfl)
theorem dX13_isTurnedIn_1 : decode cX13_isTurnedIn 1 = .ok (.getfield 367, 3) := dk_180 1 111 (dk_at dksX13_isTurnedIn_0 1 rfl rfl)
theorem dX13_isTurnedIn_4 : decode cX13_isTurnedIn 4 = .ok (.iload_n 2, 1) := dk_28 (dk_at dksX13_isTurnedIn_0 4 rfl rfl)
theorem dX13_isTurnedIn_5 : decode cX13_isTurnedIn 5 = .ok (.aload_n 0, 1) := dk_42 (dk_at dksX13_isTurnedIn_0 5 rfl rfl)
theorem dX13_isTurnedIn_6 : decode cX13_isTurnedIn 6 = .ok (.aload_n 1, 1) := dk_43 (dk_at dksX13_isTurnedIn_0 6 rfl rfl)
theorem dX13_isTurnedIn_7 : decode cX13_isTurnedIn 7 = .ok (.iload_n 2, 1) := dk_28 (dk_at dksX13_isTurnedIn_0 7 rfl rfl)
theorem dX13_isTurnedIn_8 : decode cX13_isTurnedIn 8 = .ok (.invokevirtual 379, 3) := dk_182 1 123 (dk_at dksX13_isTurnedIn_0 8 rfl rfl)
theorem dX13_isTurnedIn_11 : decode cX13_isTurnedIn 11 = .ok (.invokevirtual 383, 3) := dk_182 1 127 (dk_at dksX13_isTurnedIn_0 11 rfl rfl)
theorem dX13_isTurnedIn_14 : decode cX13_isTurnedIn 14 = .ok (.ireturn, 1) := dk_172 (dk_at dksX13_isTurnedIn_0 14 rfl rfl)
abbrev cX13_duty : ByteArray := prog_27_method_71_code
def yX13_duty : MethodName := ⟨RX13, "duty", "(II)I"⟩
def dkwX13_duty_1 : List UInt8 := [182, 0, 45, 167, 0, 17, 42, 42, 42, 180, 0, 21, 27, 3, 182, 1, 148, 182, 0, 49, 172]
abbrev dktX13_duty_1 : List UInt8 := dkwX13_duty_1 ++ []
def dkwX13_duty_0 : List UInt8 := [42, 3, 181, 0, 39, 42, 42, 27, 182, 1, 158, 28, 182, 1, 173, 62, 29, 158, 0, 11, 42, 29]
abbrev dktX13_duty_0 : List UInt8 := dkwX13_duty_0 ++ dktX13_duty_1
theorem dksX13_duty_0 : cX13_duty.data.toList.drop 0 = dktX13_duty_0 := by decide +kernel
theorem dksX13_duty_1 : cX13_duty.data.toList.drop 22 = dktX13_duty_1 := dk_seg dksX13_duty_0 22 rfl rfl
theorem dX13_duty_0 : decode cX13_duty 0 = .ok (.aload_n 0, 1) := dk_42 (dk_at dksX13_duty_0 0 rfl rfl)
theorem dX13_duty_1 : decode cX13_duty 1 = .ok (.iconst 0, 1) := dk_3 (dk_at dksX13_duty_0 1 rfl rfl)
theorem dX13_duty_2 : decode cX13_duty 2 = .ok (.putfield 39, 3) := dk_181 0 39 (dk_at dksX13_duty_0 2 rfl rfl)
theorem dX13_duty_5 : decode cX13_duty 5 = .ok (.aload_n 0, 1) := dk_42 (dk_at dksX13_duty_0 5 rfl rfl)
theorem dX13_duty_6 : decode cX13_duty 6 = .ok (.aload_n 0, 1) := dk_42 (dk_at dksX13_duty_0 6 rfl rfl)
theorem dX13_duty_7 : decode cX13_duty 7 = .ok (.iload_n 1, 1) := dk_27 (dk_at dksX13_duty_0 7 rfl rfl)
theorem dX13_duty_8 : decode cX13_duty 8 = .ok (.invokevirtual 414, 3) := dk_182 1 158 (dk_at dksX13_duty_0 8 rfl rfl)
theorem dX13_duty_11 : decode cX13_duty 11 = .ok (.iload_n 2, 1) := dk_28 (dk_at dksX13_duty_0 11 rfl rfl)
theorem dX13_duty_12 : decode cX13_duty 12 = .ok (.invokevirtual 429, 3) := dk_182 1 173 (dk_at dksX13_duty_0 12 rfl rfl)
theorem dX13_duty_15 : decode cX13_duty 15 = .ok (.istore_n 3, 1) := dk_62 (dk_at dksX13_duty_0 15 rfl rfl)
theorem dX13_duty_16 : decode cX13_duty 16 = .ok (.iload_n 3, 1) := dk_29 (dk_at dksX13_duty_0 16 rfl rfl)
theorem dX13_duty_17 : decode cX13_duty 17 = .ok (.ifCond .le 11, 3) := dk_158 0 11 (dk_at dksX13_duty_0 17 rfl rfl)
theorem dX13_duty_20 : decode cX13_duty 20 = .ok (.aload_n 0, 1) := dk_42 (dk_at dksX13_duty_0 20 rfl rfl)
theorem dX13_duty_21 : decode cX13_duty 21 = .ok (.iload_n 3, 1) := dk_29 (dk_at dksX13_duty_0 21 rfl rfl)
theorem dX13_duty_22 : decode cX13_duty 22 = .ok (.invokevirtual 45, 3) := dk_182 0 45 (dk_at dksX13_duty_1 0 rfl rfl)
theorem dX13_duty_25 : decode cX13_duty 25 = .ok (.goto 17, 3) := dk_167 0 17 (dk_at dksX13_duty_1 3 rfl rfl)
theorem dX13_duty_28 : decode cX13_duty 28 = .ok (.aload_n 0, 1) := dk_42 (dk_at dksX13_duty_1 6 rfl rfl)
theorem dX13_duty_29 : decode cX13_duty 29 = .ok (.aload_n 0, 1) := dk_42 (dk_at dksX13_duty_1 7 rfl rfl)
theorem dX13_duty_30 : decode cX13_duty 30 = .ok (.aload_n 0, 1) := dk_42 (dk_at dksX13_duty_1 8 rfl rfl)
theorem dX13_duty_31 : decode cX13_duty 31 = .ok (.getfield 21, 3) := dk_180 0 21 (dk_at dksX13_duty_1 9 rfl rfl)
theorem dX13_duty_34 : decode cX13_duty 34 = .ok (.iload_n 1, 1) := dk_27 (dk_at dksX13_duty_1 12 rfl rfl)
theorem dX13_duty_35 : decode cX13_duty 35 = .ok (.iconst 0, 1) := dk_3 (dk_at dksX13_duty_1 13 rfl rfl)
theorem dX13_duty_36 : decode cX13_duty 36 = .ok (.invokevirtual 404, 3) := dk_182 1 148 (dk_at dksX13_duty_1 14 rfl rfl)
theorem dX13_duty_39 : decode cX13_duty 39 = .ok (.invokevirtual 49, 3) := dk_182 0 49 (dk_at dksX13_duty_1 17 rfl rfl)
theorem dX13_duty_42 : decode cX13_duty 42 = .ok (.ireturn, 1) := dk_172 (dk_at dksX13_duty_1 20 rfl rfl)
abbrev cX13_dutyIn : ByteArray := prog_27_method_56_code
def yX13_dutyIn : MethodName := ⟨RX13, "dutyIn", "([III)I"⟩
def dkwX13_dutyIn_2 : List UInt8 := [180, 1, 52, 28, 46, 96, 46, 104, 42, 43, 28, 182, 1, 123, 16, 10, 108, 104, 172]
abbrev dktX13_dutyIn_2 : List UInt8 := dkwX13_dutyIn_2 ++ []
def dkwX13_dutyIn_1 : List UInt8 := [180, 1, 111, 180, 1, 56, 28, 46, 42, 180, 1, 111, 180, 0, 252, 7, 29, 104, 42, 180, 1, 111]
abbrev dktX13_dutyIn_1 : List UInt8 := dkwX13_dutyIn_1 ++ dktX13_dutyIn_2
def dkwX13_dutyIn_0 : List UInt8 := [42, 180, 1, 111, 180, 1, 46, 28, 46, 153, 0, 12, 42, 43, 28, 182, 1, 130, 153, 0, 5, 3, 172, 42]
abbrev dktX13_dutyIn_0 : List UInt8 := dkwX13_dutyIn_0 ++ dktX13_dutyIn_1
theorem dksX13_dutyIn_0 : cX13_dutyIn.data.toList.drop 0 = dktX13_dutyIn_0 := by decide +kernel
theorem dksX13_dutyIn_1 : cX13_dutyIn.data.toList.drop 24 = dktX13_dutyIn_1 := dk_seg dksX13_dutyIn_0 24 rfl rfl
theorem dksX13_dutyIn_2 : cX13_dutyIn.data.toList.drop 46 = dktX13_dutyIn_2 := dk_seg dksX13_dutyIn_1 22 rfl rfl
theorem dX13_dutyIn_0 : decode cX13_dutyIn 0 = .ok (.aload_n 0, 1) := dk_42 (dk_at dksX13_dutyIn_0 0 rfl rfl)
theorem dX13_dutyIn_1 : decode cX13_dutyIn 1 = .ok (.getfield 367, 3) := dk_180 1 111 (dk_at dksX13_dutyIn_0 1 rfl rfl)
theorem dX13_dutyIn_4 : decode cX13_dutyIn 4 = .ok (.getfield 302, 3) := dk_180 1 46 (dk_at dksX13_dutyIn_0 4 rfl rfl)
theorem dX13_dutyIn_7 : decode cX13_dutyIn 7 = .ok (.iload_n 2, 1) := dk_28 (dk_at dksX13_dutyIn_0 7 rfl rfl)
theorem dX13_dutyIn_8 : decode cX13_dutyIn 8 = .ok (.iaload, 1) := dk_46 (dk_at dksX13_dutyIn_0 8 rfl rfl)
theorem dX13_dutyIn_9 : decode cX13_dutyIn 9 = .ok (.ifCond .eq 12, 3) := dk_153 0 12 (dk_at dksX13_dutyIn_0 9 rfl rfl)
theorem dX13_dutyIn_12 : decode cX13_dutyIn 12 = .ok (.aload_n 0, 1) := dk_42 (dk_at dksX13_dutyIn_0 12 rfl rfl)
theorem dX13_dutyIn_13 : decode cX13_dutyIn 13 = .ok (.aload_n 1, 1) := dk_43 (dk_at dksX13_dutyIn_0 13 rfl rfl)
theorem dX13_dutyIn_14 : decode cX13_dutyIn 14 = .ok (.iload_n 2, 1) := dk_28 (dk_at dksX13_dutyIn_0 14 rfl rfl)
theorem dX13_dutyIn_15 : decode cX13_dutyIn 15 = .ok (.invokevirtual 386, 3) := dk_182 1 130 (dk_at dksX13_dutyIn_0 15 rfl rfl)
theorem dX13_dutyIn_18 : decode cX13_dutyIn 18 = .ok (.ifCond .eq 5, 3) := dk_153 0 5 (dk_at dksX13_dutyIn_0 18 rfl rfl)
theorem dX13_dutyIn_21 : decode cX13_dutyIn 21 = .ok (.iconst 0, 1) := dk_3 (dk_at dksX13_dutyIn_0 21 rfl rfl)
theorem dX13_dutyIn_22 : decode cX13_dutyIn 22 = .ok (.ireturn, 1) := dk_172 (dk_at dksX13_dutyIn_0 22 rfl rfl)
theorem dX13_dutyIn_23 : decode cX13_dutyIn 23 = .ok (.aload_n 0, 1) := dk_42 (dk_at dksX13_dutyIn_0 23 rfl rfl)
theorem dX13_dutyIn_24 : decode cX13_dutyIn 24 = .ok (.getfield 367, 3) := dk_180 1 111 (dk_at dksX13_dutyIn_1 0 rfl rfl)
theorem dX13_dutyIn_27 : decode cX13_dutyIn 27 = .ok (.getfield 312, 3) := dk_180 1 56 (dk_at dksX13_dutyIn_1 3 rfl rfl)
theorem dX13_dutyIn_30 : decode cX13_dutyIn 30 = .ok (.iload_n 2, 1) := dk_28 (dk_at dksX13_dutyIn_1 6 rfl rfl)
theorem dX13_dutyIn_31 : decode cX13_dutyIn 31 = .ok (.iaload, 1) := dk_46 (dk_at dksX13_dutyIn_1 7 rfl rfl)
theorem dX13_dutyIn_32 : decode cX13_dutyIn 32 = .ok (.aload_n 0, 1) := dk_42 (dk_at dksX13_dutyIn_1 8 rfl rfl)
theorem dX13_dutyIn_33 : decode cX13_dutyIn 33 = .ok (.getfield 367, 3) := dk_180 1 111 (dk_at dksX13_dutyIn_1 9 rfl rfl)
theorem dX13_dutyIn_36 : decode cX13_dutyIn 36 = .ok (.getfield 252, 3) := dk_180 0 252 (dk_at dksX13_dutyIn_1 12 rfl rfl)
theorem dX13_dutyIn_39 : decode cX13_dutyIn 39 = .ok (.iconst 4, 1) := dk_7 (dk_at dksX13_dutyIn_1 15 rfl rfl)
theorem dX13_dutyIn_40 : decode cX13_dutyIn 40 = .ok (.iload_n 3, 1) := dk_29 (dk_at dksX13_dutyIn_1 16 rfl rfl)
theorem dX13_dutyIn_41 : decode cX13_dutyIn 41 = .ok (.imul, 1) := dk_104 (dk_at dksX13_dutyIn_1 17 rfl rfl)
theorem dX13_dutyIn_42 : decode cX13_dutyIn 42 = .ok (.aload_n 0, 1) := dk_42 (dk_at dksX13_dutyIn_1 18 rfl rfl)
theorem dX13_dutyIn_43 : decode cX13_dutyIn 43 = .ok (.getfield 367, 3) := dk_180 1 111 (dk_at dksX13_dutyIn_1 19 rfl rfl)
theorem dX13_dutyIn_46 : decode cX13_dutyIn 46 = .ok (.getfield 308, 3) := dk_180 1 52 (dk_at dksX13_dutyIn_2 0 rfl rfl)
theorem dX13_dutyIn_49 : decode cX13_dutyIn 49 = .ok (.iload_n 2, 1) := dk_28 (dk_at dksX13_dutyIn_2 3 rfl rfl)
theorem dX13_dutyIn_50 : decode cX13_dutyIn 50 = .ok (.iaload, 1) := dk_46 (dk_at dksX13_dutyIn_2 4 rfl rfl)
theorem dX13_dutyIn_51 : decode cX13_dutyIn 51 = .ok (.iadd, 1) := dk_96 (dk_at dksX13_dutyIn_2 5 rfl rfl)
theorem dX13_dutyIn_52 : decode cX13_dutyIn 52 = .ok (.iaload, 1) := dk_46 (dk_at dksX13_dutyIn_2 6 rfl rfl)
theorem dX13_dutyIn_53 : decode cX13_dutyIn 53 = .ok (.imul, 1) := dk_104 (dk_at dksX13_dutyIn_2 7 rfl rfl)
theorem dX13_dutyIn_54 : decode cX13_dutyIn 54 = .ok (.aload_n 0, 1) := dk_42 (dk_at dksX13_dutyIn_2 8 rfl rfl)
theorem dX13_dutyIn_55 : decode cX13_dutyIn 55 = .ok (.aload_n 1, 1) := dk_43 (dk_at dksX13_dutyIn_2 9 rfl rfl)
theorem dX13_dutyIn_56 : decode cX13_dutyIn 56 = .ok (.iload_n 2, 1) := dk_28 (dk_at dksX13_dutyIn_2 10 rfl rfl)
theorem dX13_dutyIn_57 : decode cX13_dutyIn 57 = .ok (.invokevirtual 379, 3) := dk_182 1 123 (dk_at dksX13_dutyIn_2 11 rfl rfl)
theorem dX13_dutyIn_60 : decode cX13_dutyIn 60 = .ok (.bipush 10, 2) := dk_16 10 (dk_at dksX13_dutyIn_2 14 rfl rfl)
theorem dX13_dutyIn_62 : decode cX13_dutyIn 62 = .ok (.idiv, 1) := dk_108 (dk_at dksX13_dutyIn_2 16 rfl rfl)
theorem dX13_dutyIn_63 : decode cX13_dutyIn 63 = .ok (.imul, 1) := dk_104 (dk_at dksX13_dutyIn_2 17 rfl rfl)
theorem dX13_dutyIn_64 : decode cX13_dutyIn 64 = .ok (.ireturn, 1) := dk_172 (dk_at dksX13_dutyIn_2 18 rfl rfl)
abbrev cX13_smell : ByteArray := prog_27_method_72_code
def yX13_smell : MethodName := ⟨RX13, "smell", "(II)I"⟩
def dkwX13_smell_1 : List UInt8 := [182, 0, 45, 167, 0, 17, 42, 42, 42, 180, 0, 21, 27, 3, 182, 1, 144, 182, 0, 49, 172]
abbrev dktX13_smell_1 : List UInt8 := dkwX13_smell_1 ++ []
def dkwX13_smell_0 : List UInt8 := [42, 3, 181, 0, 39, 42, 42, 27, 182, 1, 158, 28, 182, 1, 173, 62, 29, 158, 0, 11, 42, 29]
abbrev dktX13_smell_0 : List UInt8 := dkwX13_smell_0 ++ dktX13_smell_1
theorem dksX13_smell_0 : cX13_smell.data.toList.drop 0 = dktX13_smell_0 := by decide +kernel
theorem dksX13_smell_1 : cX13_smell.data.toList.drop 22 = dktX13_smell_1 := dk_seg dksX13_smell_0 22 rfl rfl
theorem dX13_smell_0 : decode cX13_smell 0 = .ok (.aload_n 0, 1) := dk_42 (dk_at dksX13_smell_0 0 rfl rfl)
theorem dX13_smell_1 : decode cX13_smell 1 = .ok (.iconst 0, 1) := dk_3 (dk_at dksX13_smell_0 1 rfl rfl)
theorem dX13_smell_2 : decode cX13_smell 2 = .ok (.putfield 39, 3) := dk_181 0 39 (dk_at dksX13_smell_0 2 rfl rfl)
theorem dX13_smell_5 : decode cX13_smell 5 = .ok (.aload_n 0, 1) := dk_42 (dk_at dksX13_smell_0 5 rfl rfl)
theorem dX13_smell_6 : decode cX13_smell 6 = .ok (.aload_n 0, 1) := dk_42 (dk_at dksX13_smell_0 6 rfl rfl)
theorem dX13_smell_7 : decode cX13_smell 7 = .ok (.iload_n 1, 1) := dk_27 (dk_at dksX13_smell_0 7 rfl rfl)
theorem dX13_smell_8 : decode cX13_smell 8 = .ok (.invokevirtual 414, 3) := dk_182 1 158 (dk_at dksX13_smell_0 8 rfl rfl)
theorem dX13_smell_11 : decode cX13_smell 11 = .ok (.iload_n 2, 1) := dk_28 (dk_at dksX13_smell_0 11 rfl rfl)
theorem dX13_smell_12 : decode cX13_smell 12 = .ok (.invokevirtual 429, 3) := dk_182 1 173 (dk_at dksX13_smell_0 12 rfl rfl)
theorem dX13_smell_15 : decode cX13_smell 15 = .ok (.istore_n 3, 1) := dk_62 (dk_at dksX13_smell_0 15 rfl rfl)
theorem dX13_smell_16 : decode cX13_smell 16 = .ok (.iload_n 3, 1) := dk_29 (dk_at dksX13_smell_0 16 rfl rfl)
theorem dX13_smell_17 : decode cX13_smell 17 = .ok (.ifCond .le 11, 3) := dk_158 0 11 (dk_at dksX13_smell_0 17 rfl rfl)
theorem dX13_smell_20 : decode cX13_smell 20 = .ok (.aload_n 0, 1) := dk_42 (dk_at dksX13_smell_0 20 rfl rfl)
theorem dX13_smell_21 : decode cX13_smell 21 = .ok (.iload_n 3, 1) := dk_29 (dk_at dksX13_smell_0 21 rfl rfl)
theorem dX13_smell_22 : decode cX13_smell 22 = .ok (.invokevirtual 45, 3) := dk_182 0 45 (dk_at dksX13_smell_1 0 rfl rfl)
theorem dX13_smell_25 : decode cX13_smell 25 = .ok (.goto 17, 3) := dk_167 0 17 (dk_at dksX13_smell_1 3 rfl rfl)
theorem dX13_smell_28 : decode cX13_smell 28 = .ok (.aload_n 0, 1) := dk_42 (dk_at dksX13_smell_1 6 rfl rfl)
theorem dX13_smell_29 : decode cX13_smell 29 = .ok (.aload_n 0, 1) := dk_42 (dk_at dksX13_smell_1 7 rfl rfl)
theorem dX13_smell_30 : decode cX13_smell 30 = .ok (.aload_n 0, 1) := dk_42 (dk_at dksX13_smell_1 8 rfl rfl)
theorem dX13_smell_31 : decode cX13_smell 31 = .ok (.getfield 21, 3) := dk_180 0 21 (dk_at dksX13_smell_1 9 rfl rfl)
theorem dX13_smell_34 : decode cX13_smell 34 = .ok (.iload_n 1, 1) := dk_27 (dk_at dksX13_smell_1 12 rfl rfl)
theorem dX13_smell_35 : decode cX13_smell 35 = .ok (.iconst 0, 1) := dk_3 (dk_at dksX13_smell_1 13 rfl rfl)
theorem dX13_smell_36 : decode cX13_smell 36 = .ok (.invokevirtual 400, 3) := dk_182 1 144 (dk_at dksX13_smell_1 14 rfl rfl)
theorem dX13_smell_39 : decode cX13_smell 39 = .ok (.invokevirtual 49, 3) := dk_182 0 49 (dk_at dksX13_smell_1 17 rfl rfl)
theorem dX13_smell_42 : decode cX13_smell 42 = .ok (.ireturn, 1) := dk_172 (dk_at dksX13_smell_1 20 rfl rfl)
abbrev cX13_smellIn : ByteArray := prog_27_method_58_code
def yX13_smellIn : MethodName := ⟨RX13, "smellIn", "([III)I"⟩
def dkwX13_smellIn_2 : List UInt8 := [182, 1, 138, 29, 96, 104, 100, 54, 4, 21, 4, 158, 0, 8, 21, 4, 167, 0, 4, 3, 172]
abbrev dktX13_smellIn_2 : List UInt8 := dkwX13_smellIn_2 ++ []
def dkwX13_smellIn_1 : List UInt8 := [180, 1, 111, 180, 1, 46, 28, 46, 6, 160, 0, 9, 21, 4, 5, 104, 54, 4, 21, 4, 5, 42, 43, 28]
abbrev dktX13_smellIn_1 : List UInt8 := dkwX13_smellIn_1 ++ dktX13_smellIn_2
def dkwX13_smellIn_0 : List UInt8 := [42, 180, 1, 111, 180, 1, 56, 28, 46, 42, 43, 28, 182, 1, 123, 16, 10, 108, 96, 54, 4, 42]
abbrev dktX13_smellIn_0 : List UInt8 := dkwX13_smellIn_0 ++ dktX13_smellIn_1
theorem dksX13_smellIn_0 : cX13_smellIn.data.toList.drop 0 = dktX13_smellIn_0 := by decide +kernel
theorem dksX13_smellIn_1 : cX13_smellIn.data.toList.drop 22 = dktX13_smellIn_1 := dk_seg dksX13_smellIn_0 22 rfl rfl
theorem dksX13_smellIn_2 : cX13_smellIn.data.toList.drop 46 = dktX13_smellIn_2 := dk_seg dksX13_smellIn_1 24 rfl rfl
theorem dX13_smellIn_0 : decode cX13_smellIn 0 = .ok (.aload_n 0, 1) := dk_42 (dk_at dksX13_smellIn_0 0 rfl rfl)
theorem dX13_smellIn_1 : decode cX13_smellIn 1 = .ok (.getfield 367, 3) := dk_180 1 111 (dk_at dksX13_smellIn_0 1 rfl rfl)
theorem dX13_smellIn_4 : decode cX13_smellIn 4 = .ok (.getfield 312, 3) := dk_180 1 56 (dk_at dksX13_smellIn_0 4 rfl rfl)
theorem dX13_smellIn_7 : decode cX13_smellIn 7 = .ok (.iload_n 2, 1) := dk_28 (dk_at dksX13_smellIn_0 7 rfl rfl)
theorem dX13_smellIn_8 : decode cX13_smellIn 8 = .ok (.iaload, 1) := dk_46 (dk_at dksX13_smellIn_0 8 rfl rfl)
theorem dX13_smellIn_9 : decode cX13_smellIn 9 = .ok (.aload_n 0, 1) := dk_42 (dk_at dksX13_smellIn_0 9 rfl rfl)
theorem dX13_smellIn_10 : decode cX13_smellIn 10 = .ok (.aload_n 1, 1) := dk_43 (dk_at dksX13_smellIn_0 10 rfl rfl)
theorem dX13_smellIn_11 : decode cX13_smellIn 11 = .ok (.iload_n 2, 1) := dk_28 (dk_at dksX13_smellIn_0 11 rfl rfl)
theorem dX13_smellIn_12 : decode cX13_smellIn 12 = .ok (.invokevirtual 379, 3) := dk_182 1 123 (dk_at dksX13_smellIn_0 12 rfl rfl)
theorem dX13_smellIn_15 : decode cX13_smellIn 15 = .ok (.bipush 10, 2) := dk_16 10 (dk_at dksX13_smellIn_0 15 rfl rfl)
theorem dX13_smellIn_17 : decode cX13_smellIn 17 = .ok (.idiv, 1) := dk_108 (dk_at dksX13_smellIn_0 17 rfl rfl)
theorem dX13_smellIn_18 : decode cX13_smellIn 18 = .ok (.iadd, 1) := dk_96 (dk_at dksX13_smellIn_0 18 rfl rfl)
theorem dX13_smellIn_19 : decode cX13_smellIn 19 = .ok (.istore 4, 2) := dk_54 4 (dk_at dksX13_smellIn_0 19 rfl rfl)
theorem dX13_smellIn_21 : decode cX13_smellIn 21 = .ok (.aload_n 0, 1) := dk_42 (dk_at dksX13_smellIn_0 21 rfl rfl)
theorem dX13_smellIn_22 : decode cX13_smellIn 22 = .ok (.getfield 367, 3) := dk_180 1 111 (dk_at dksX13_smellIn_1 0 rfl rfl)
theorem dX13_smellIn_25 : decode cX13_smellIn 25 = .ok (.getfield 302, 3) := dk_180 1 46 (dk_at dksX13_smellIn_1 3 rfl rfl)
theorem dX13_smellIn_28 : decode cX13_smellIn 28 = .ok (.iload_n 2, 1) := dk_28 (dk_at dksX13_smellIn_1 6 rfl rfl)
theorem dX13_smellIn_29 : decode cX13_smellIn 29 = .ok (.iaload, 1) := dk_46 (dk_at dksX13_smellIn_1 7 rfl rfl)
theorem dX13_smellIn_30 : decode cX13_smellIn 30 = .ok (.iconst 3, 1) := dk_6 (dk_at dksX13_smellIn_1 8 rfl rfl)
theorem dX13_smellIn_31 : decode cX13_smellIn 31 = .ok (.if_icmp .ne 9, 3) := dk_160 0 9 (dk_at dksX13_smellIn_1 9 rfl rfl)
theorem dX13_smellIn_34 : decode cX13_smellIn 34 = .ok (.iload 4, 2) := dk_21 4 (dk_at dksX13_smellIn_1 12 rfl rfl)
theorem dX13_smellIn_36 : decode cX13_smellIn 36 = .ok (.iconst 2, 1) := dk_5 (dk_at dksX13_smellIn_1 14 rfl rfl)
theorem dX13_smellIn_37 : decode cX13_smellIn 37 = .ok (.imul, 1) := dk_104 (dk_at dksX13_smellIn_1 15 rfl rfl)
theorem dX13_smellIn_38 : decode cX13_smellIn 38 = .ok (.istore 4, 2) := dk_54 4 (dk_at dksX13_smellIn_1 16 rfl rfl)
theorem dX13_smellIn_40 : decode cX13_smellIn 40 = .ok (.iload 4, 2) := dk_21 4 (dk_at dksX13_smellIn_1 18 rfl rfl)
theorem dX13_smellIn_42 : decode cX13_smellIn 42 = .ok (.iconst 2, 1) := dk_5 (dk_at dksX13_smellIn_1 20 rfl rfl)
theorem dX13_smellIn_43 : decode cX13_smellIn 43 = .ok (.aload_n 0, 1) := dk_42 (dk_at dksX13_smellIn_1 21 rfl rfl)
theorem dX13_smellIn_44 : decode cX13_smellIn 44 = .ok (.aload_n 1, 1) := dk_43 (dk_at dksX13_smellIn_1 22 rfl rfl)
theorem dX13_smellIn_45 : decode cX13_smellIn 45 = .ok (.iload_n 2, 1) := dk_28 (dk_at dksX13_smellIn_1 23 rfl rfl)
theorem dX13_smellIn_46 : decode cX13_smellIn 46 = .ok (.invokevirtual 394, 3) := dk_182 1 138 (dk_at dksX13_smellIn_2 0 rfl rfl)
theorem dX13_smellIn_49 : decode cX13_smellIn 49 = .ok (.iload_n 3, 1) := dk_29 (dk_at dksX13_smellIn_2 3 rfl rfl)
theorem dX13_smellIn_50 : decode cX13_smellIn 50 = .ok (.iadd, 1) := dk_96 (dk_at dksX13_smellIn_2 4 rfl rfl)
theorem dX13_smellIn_51 : decode cX13_smellIn 51 = .ok (.imul, 1) := dk_104 (dk_at dksX13_smellIn_2 5 rfl rfl)
theorem dX13_smellIn_52 : decode cX13_smellIn 52 = .ok (.isub, 1) := dk_100 (dk_at dksX13_smellIn_2 6 rfl rfl)
theorem dX13_smellIn_53 : decode cX13_smellIn 53 = .ok (.istore 4, 2) := dk_54 4 (dk_at dksX13_smellIn_2 7 rfl rfl)
theorem dX13_smellIn_55 : decode cX13_smellIn 55 = .ok (.iload 4, 2) := dk_21 4 (dk_at dksX13_smellIn_2 9 rfl rfl)
theorem dX13_smellIn_57 : decode cX13_smellIn 57 = .ok (.ifCond .le 8, 3) := dk_158 0 8 (dk_at dksX13_smellIn_2 11 rfl rfl)
theorem dX13_smellIn_60 : decode cX13_smellIn 60 = .ok (.iload 4, 2) := dk_21 4 (dk_at dksX13_smellIn_2 14 rfl rfl)
theorem dX13_smellIn_62 : decode cX13_smellIn 62 = .ok (.goto 4, 3) := dk_167 0 4 (dk_at dksX13_smellIn_2 16 rfl rfl)
theorem dX13_smellIn_65 : decode cX13_smellIn 65 = .ok (.iconst 0, 1) := dk_3 (dk_at dksX13_smellIn_2 19 rfl rfl)
theorem dX13_smellIn_66 : decode cX13_smellIn 66 = .ok (.ireturn, 1) := dk_172 (dk_at dksX13_smellIn_2 20 rfl rfl)
abbrev cX13_freshIn : ByteArray := prog_27_method_57_code
def yX13_freshIn : MethodName := ⟨RX13, "freshIn", "([II)I"⟩
def dkwX13_freshIn_3 : List UInt8 := [62, 132, 4, 1, 167, 255, 185, 29, 172]
abbrev dktX13_freshIn_3 : List UInt8 := dkwX13_freshIn_3 ++ []
def dkwX13_freshIn_2 : List UInt8 := [21, 4, 182, 1, 134, 153, 0, 17, 42, 43, 21, 4, 182, 1, 130, 154, 0, 7, 4, 167, 0, 4, 3, 96]
abbrev dktX13_freshIn_2 : List UInt8 := dkwX13_freshIn_2 ++ dktX13_freshIn_3
def dkwX13_freshIn_1 : List UInt8 := [42, 180, 1, 111, 180, 1, 46, 21, 4, 46, 154, 0, 36, 42, 43, 42, 180, 1, 111, 180, 1, 49, 28, 46]
abbrev dktX13_freshIn_1 : List UInt8 := dkwX13_freshIn_1 ++ dktX13_freshIn_2
def dkwX13_freshIn_0 : List UInt8 := [3, 62, 3, 54, 4, 21, 4, 42, 180, 1, 111, 180, 1, 31, 162, 0, 65, 29, 21, 4, 28, 159, 0, 49]
abbrev dktX13_freshIn_0 : List UInt8 := dkwX13_freshIn_0 ++ dktX13_freshIn_1
theorem dksX13_freshIn_0 : cX13_freshIn.data.toList.drop 0 = dktX13_freshIn_0 := by decide +kernel
theorem dksX13_freshIn_1 : cX13_freshIn.data.toList.drop 24 = dktX13_freshIn_1 := dk_seg dksX13_freshIn_0 24 rfl rfl
theorem dksX13_freshIn_2 : cX13_freshIn.data.toList.drop 48 = dktX13_freshIn_2 := dk_seg dksX13_freshIn_1 24 rfl rfl
theorem dksX13_freshIn_3 : cX13_freshIn.data.toList.drop 72 = dktX13_freshIn_3 := dk_seg dksX13_freshIn_2 24 rfl rfl
theorem dX13_freshIn_0 : decode cX13_freshIn 0 = .ok (.iconst 0, 1) := dk_3 (dk_at dksX13_freshIn_0 0 rfl rfl)
theorem dX13_freshIn_1 : decode cX13_freshIn 1 = .ok (.istore_n 3, 1) := dk_62 (dk_at dksX13_freshIn_0 1 rfl rfl)
theorem dX13_freshIn_2 : decode cX13_freshIn 2 = .ok (.iconst 0, 1) := dk_3 (dk_at dksX13_freshIn_0 2 rfl rfl)
theorem dX13_freshIn_3 : decode cX13_freshIn 3 = .ok (.istore 4, 2) := dk_54 4 (dk_at dksX13_freshIn_0 3 rfl rfl)
theorem dX13_freshIn_5 : decode cX13_freshIn 5 = .ok (.iload 4, 2) := dk_21 4 (dk_at dksX13_freshIn_0 5 rfl rfl)
theorem dX13_freshIn_7 : decode cX13_freshIn 7 = .ok (.aload_n 0, 1) := dk_42 (dk_at dksX13_freshIn_0 7 rfl rfl)
theorem dX13_freshIn_8 : decode cX13_freshIn 8 = .ok (.getfield 367, 3) := dk_180 1 111 (dk_at dksX13_freshIn_0 8 rfl rfl)
theorem dX13_freshIn_11 : decode cX13_freshIn 11 = .ok (.getfield 287, 3) := dk_180 1 31 (dk_at dksX13_freshIn_0 11 rfl rfl)
theorem dX13_freshIn_14 : decode cX13_freshIn 14 = .ok (.if_icmp .ge 65, 3) := dk_162 0 65 (dk_at dksX13_freshIn_0 14 rfl rfl)
theorem dX13_freshIn_17 : decode cX13_freshIn 17 = .ok (.iload_n 3, 1) := dk_29 (dk_at dksX13_freshIn_0 17 rfl rfl)
theorem dX13_freshIn_18 : decode cX13_freshIn 18 = .ok (.iload 4, 2) := dk_21 4 (dk_at dksX13_freshIn_0 18 rfl rfl)
theorem dX13_freshIn_20 : decode cX13_freshIn 20 = .ok (.iload_n 2, 1) := dk_28 (dk_at dksX13_freshIn_0 20 rfl rfl)
theorem dX13_freshIn_21 : decode cX13_freshIn 21 = .ok (.if_icmp .eq 49, 3) := dk_159 0 49 (dk_at dksX13_freshIn_0 21 rfl rfl)
theorem dX13_freshIn_24 : decode cX13_freshIn 24 = .ok (.aload_n 0, 1) := dk_42 (dk_at dksX13_freshIn_1 0 rfl rfl)
theorem dX13_freshIn_25 : decode cX13_freshIn 25 = .ok (.getfield 367, 3) := dk_180 1 111 (dk_at dksX13_freshIn_1 1 rfl rfl)
theorem dX13_freshIn_28 : decode cX13_freshIn 28 = .ok (.getfield 302, 3) := dk_180 1 46 (dk_at dksX13_freshIn_1 4 rfl rfl)
theorem dX13_freshIn_31 : decode cX13_freshIn 31 = .ok (.iload 4, 2) := dk_21 4 (dk_at dksX13_freshIn_1 7 rfl rfl)
theorem dX13_freshIn_33 : decode cX13_freshIn 33 = .ok (.iaload, 1) := dk_46 (dk_at dksX13_freshIn_1 9 rfl rfl)
theorem dX13_freshIn_34 : decode cX13_freshIn 34 = .ok (.ifCond .ne 36, 3) := dk_154 0 36 (dk_at dksX13_freshIn_1 10 rfl rfl)
theorem dX13_freshIn_37 : decode cX13_freshIn 37 = .ok (.aload_n 0, 1) := dk_42 (dk_at dksX13_freshIn_1 13 rfl rfl)
theorem dX13_freshIn_38 : decode cX13_freshIn 38 = .ok (.aload_n 1, 1) := dk_43 (dk_at dksX13_freshIn_1 14 rfl rfl)
theorem dX13_freshIn_39 : decode cX13_freshIn 39 = .ok (.aload_n 0, 1) := dk_42 (dk_at dksX13_freshIn_1 15 rfl rfl)
theorem dX13_freshIn_40 : decode cX13_freshIn 40 = .ok (.getfield 367, 3) := dk_180 1 111 (dk_at dksX13_freshIn_1 16 rfl rfl)
theorem dX13_freshIn_43 : decode cX13_freshIn 43 = .ok (.getfield 305, 3) := dk_180 1 49 (dk_at dksX13_freshIn_1 19 rfl rfl)
theorem dX13_freshIn_46 : decode cX13_freshIn 46 = .ok (.iload_n 2, 1) := dk_28 (dk_at dksX13_freshIn_1 22 rfl rfl)
theorem dX13_freshIn_47 : decode cX13_freshIn 47 = .ok (.iaload, 1) := dk_46 (dk_at dksX13_freshIn_1 23 rfl rfl)
theorem dX13_freshIn_48 : decode cX13_freshIn 48 = .ok (.iload 4, 2) := dk_21 4 (dk_at dksX13_freshIn_2 0 rfl rfl)
theorem dX13_freshIn_50 : decode cX13_freshIn 50 = .ok (.invokevirtual 390, 3) := dk_182 1 134 (dk_at dksX13_freshIn_2 2 rfl rfl)
theorem dX13_freshIn_53 : decode cX13_freshIn 53 = .ok (.ifCond .eq 17, 3) := dk_153 0 17 (dk_at dksX13_freshIn_2 5 rfl rfl)
theorem dX13_freshIn_56 : decode cX13_freshIn 56 = .ok (.aload_n 0, 1) := dk_42 (dk_at dksX13_freshIn_2 8 rfl rfl)
theorem dX13_freshIn_57 : decode cX13_freshIn 57 = .ok (.aload_n 1, 1) := dk_43 (dk_at dksX13_freshIn_2 9 rfl rfl)
theorem dX13_freshIn_58 : decode cX13_freshIn 58 = .ok (.iload 4, 2) := dk_21 4 (dk_at dksX13_freshIn_2 10 rfl rfl)
theorem dX13_freshIn_60 : decode cX13_freshIn 60 = .ok (.invokevirtual 386, 3) := dk_182 1 130 (dk_at dksX13_freshIn_2 12 rfl rfl)
theorem dX13_freshIn_63 : decode cX13_freshIn 63 = .ok (.ifCond .ne 7, 3) := dk_154 0 7 (dk_at dksX13_freshIn_2 15 rfl rfl)
theorem dX13_freshIn_66 : decode cX13_freshIn 66 = .ok (.iconst 1, 1) := dk_4 (dk_at dksX13_freshIn_2 18 rfl rfl)
theorem dX13_freshIn_67 : decode cX13_freshIn 67 = .ok (.goto 4, 3) := dk_167 0 4 (dk_at dksX13_freshIn_2 19 rfl rfl)
theorem dX13_freshIn_70 : decode cX13_freshIn 70 = .ok (.iconst 0, 1) := dk_3 (dk_at dksX13_freshIn_2 22 rfl rfl)
theorem dX13_freshIn_71 : decode cX13_freshIn 71 = .ok (.iadd, 1) := dk_96 (dk_at dksX13_freshIn_2 23 rfl rfl)
theorem dX13_freshIn_72 : decode cX13_freshIn 72 = .ok (.istore_n 3, 1) := dk_62 (dk_at dksX13_freshIn_3 0 rfl rfl)
theorem dX13_freshIn_73 : decode cX13_freshIn 73 = .ok (.iinc 4 1, 3) := dk_132 4 1 (dk_at dksX13_freshIn_3 1 rfl rfl)
theorem dX13_freshIn_76 : decode cX13_freshIn 76 = .ok (.goto (-71), 3) := dk_167 255 185 (dk_at dksX13_freshIn_3 4 rfl rfl)
theorem dX13_freshIn_79 : decode cX13_freshIn 79 = .ok (.iload_n 3, 1) := dk_29 (dk_at dksX13_freshIn_3 7 rfl rfl)
theorem dX13_freshIn_80 : decode cX13_freshIn 80 = .ok (.ireturn, 1) := dk_172 (dk_at dksX13_freshIn_3 8 rfl rfl)
abbrev cX13_turned : ByteArray := prog_27_method_73_code
def yX13_turned : MethodName := ⟨RX13, "turned", "(I)I"⟩
def dkwX13_turned_3 : List UInt8 := [172]
abbrev dktX13_turned_3 : List UInt8 := dkwX13_turned_3 ++ []
def dkwX13_turned_2 : List UInt8 := [182, 1, 127, 153, 0, 9, 42, 28, 182, 0, 49, 172, 132, 2, 1, 167, 255, 218, 42, 16, 254, 182, 0, 49]
abbrev dktX13_turned_2 : List UInt8 := dkwX13_turned_2 ++ dktX13_turned_3
def dkwX13_turned_1 : List UInt8 := [17, 1, 45, 163, 0, 37, 42, 180, 1, 111, 27, 42, 42, 180, 0, 17, 27, 182, 1, 123, 28, 96]
abbrev dktX13_turned_1 : List UInt8 := dkwX13_turned_1 ++ dktX13_turned_2
def dkwX13_turned_0 : List UInt8 := [42, 3, 181, 0, 39, 42, 27, 182, 1, 158, 154, 0, 9, 42, 4, 182, 0, 45, 172, 3, 61, 28]
abbrev dktX13_turned_0 : List UInt8 := dkwX13_turned_0 ++ dktX13_turned_1
theorem dksX13_turned_0 : cX13_turned.data.toList.drop 0 = dktX13_turned_0 := by decide +kernel
theorem dksX13_turned_1 : cX13_turned.data.toList.drop 22 = dktX13_turned_1 := dk_seg dksX13_turned_0 22 rfl rfl
theorem dksX13_turned_2 : cX13_turned.data.toList.drop 44 = dktX13_turned_2 := dk_seg dksX13_turned_1 22 rfl rfl
theorem dksX13_turned_3 : cX13_turned.data.toList.drop 68 = dktX13_turned_3 := dk_seg dksX13_turned_2 24 rfl rfl
theorem dX13_turned_0 : decode cX13_turned 0 = .ok (.aload_n 0, 1) := dk_42 (dk_at dksX13_turned_0 0 rfl rfl)
theorem dX13_turned_1 : decode cX13_turned 1 = .ok (.iconst 0, 1) := dk_3 (dk_at dksX13_turned_0 1 rfl rfl)
theorem dX13_turned_2 : decode cX13_turned 2 = .ok (.putfield 39, 3) := dk_181 0 39 (dk_at dksX13_turned_0 2 rfl rfl)
theorem dX13_turned_5 : decode cX13_turned 5 = .ok (.aload_n 0, 1) := dk_42 (dk_at dksX13_turned_0 5 rfl rfl)
theorem dX13_turned_6 : decode cX13_turned 6 = .ok (.iload_n 1, 1) := dk_27 (dk_at dksX13_turned_0 6 rfl rfl)
theorem dX13_turned_7 : decode cX13_turned 7 = .ok (.invokevirtual 414, 3) := dk_182 1 158 (dk_at dksX13_turned_0 7 rfl rfl)
theorem dX13_turned_10 : decode cX13_turned 10 = .ok (.ifCond .ne 9, 3) := dk_154 0 9 (dk_at dksX13_turned_0 10 rfl rfl)
theorem dX13_turned_13 : decode cX13_turned 13 = .ok (.aload_n 0, 1) := dk_42 (dk_at dksX13_turned_0 13 rfl rfl)
theorem dX13_turned_14 : decode cX13_turned 14 = .ok (.iconst 1, 1) := dk_4 (dk_at dksX13_turned_0 14 rfl rfl)
theorem dX13_turned_15 : decode cX13_turned 15 = .ok (.invokevirtual 45, 3) := dk_182 0 45 (dk_at dksX13_turned_0 15 rfl rfl)
theorem dX13_turned_18 : decode cX13_turned 18 = .ok (.ireturn, 1) := dk_172 (dk_at dksX13_turned_0 18 rfl rfl)
theorem dX13_turned_19 : decode cX13_turned 19 = .ok (.iconst 0, 1) := dk_3 (dk_at dksX13_turned_0 19 rfl rfl)
theorem dX13_turned_20 : decode cX13_turned 20 = .ok (.istore_n 2, 1) := dk_61 (dk_at dksX13_turned_0 20 rfl rfl)
theorem dX13_turned_21 : decode cX13_turned 21 = .ok (.iload_n 2, 1) := dk_28 (dk_at dksX13_turned_0 21 rfl rfl)
theorem dX13_turned_22 : decode cX13_turned 22 = .ok (.sipush 301, 3) := dk_17 1 45 (dk_at dksX13_turned_1 0 rfl rfl)
theorem dX13_turned_25 : decode cX13_turned 25 = .ok (.if_icmp .gt 37, 3) := dk_163 0 37 (dk_at dksX13_turned_1 3 rfl rfl)
theorem dX13_turned_28 : decode cX13_turned 28 = .ok (.aload_n 0, 1) := dk_42 (dk_at dksX13_turned_1 6 rfl rfl)
theorem dX13_turned_29 : decode cX13_turned 29 = .ok (.getfield 367, 3) := dk_180 1 111 (dk_at dksX13_turned_1 7 rfl rfl)
theorem dX13_turned_32 : decode cX13_turned 32 = .ok (.iload_n 1, 1) := dk_27 (dk_at dksX13_turned_1 10 rfl rfl)
theorem dX13_turned_33 : decode cX13_turned 33 = .ok (.aload_n 0, 1) := dk_42 (dk_at dksX13_turned_1 11 rfl rfl)
theorem dX13_turned_34 : decode cX13_turned 34 = .ok (.aload_n 0, 1) := dk_42 (dk_at dksX13_turned_1 12 rfl rfl)
theorem dX13_turned_35 : decode cX13_turned 35 = .ok (.getfield 17, 3) := dk_180 0 17 (dk_at dksX13_turned_1 13 rfl rfl)
theorem dX13_turned_38 : decode cX13_turned 38 = .ok (.iload_n 1, 1) := dk_27 (dk_at dksX13_turned_1 16 rfl rfl)
theorem dX13_turned_39 : decode cX13_turned 39 = .ok (.invokevirtual 379, 3) := dk_182 1 123 (dk_at dksX13_turned_1 17 rfl rfl)
theorem dX13_turned_42 : decode cX13_turned 42 = .ok (.iload_n 2, 1) := dk_28 (dk_at dksX13_turned_1 20 rfl rfl)
theorem dX13_turned_43 : decode cX13_turned 43 = .ok (.iadd, 1) := dk_96 (dk_at dksX13_turned_1 21 rfl rfl)
theorem dX13_turned_44 : decode cX13_turned 44 = .ok (.invokevirtual 383, 3) := dk_182 1 127 (dk_at dksX13_turned_2 0 rfl rfl)
theorem dX13_turned_47 : decode cX13_turned 47 = .ok (.ifCond .eq 9, 3) := dk_153 0 9 (dk_at dksX13_turned_2 3 rfl rfl)
theorem dX13_turned_50 : decode cX13_turned 50 = .ok (.aload_n 0, 1) := dk_42 (dk_at dksX13_turned_2 6 rfl rfl)
theorem dX13_turned_51 : decode cX13_turned 51 = .ok (.iload_n 2, 1) := dk_28 (dk_at dksX13_turned_2 7 rfl rfl)
theorem dX13_turned_52 : decode cX13_turned 52 = .ok (.invokevirtual 49, 3) := dk_182 0 49 (dk_at dksX13_turned_2 8 rfl rfl)
theorem dX13_turned_55 : decode cX13_turned 55 = .ok (.ireturn, 1) := dk_172 (dk_at dksX13_turned_2 11 rfl rfl)
theorem dX13_turned_56 : decode cX13_turned 56 = .ok (.iinc 2 1, 3) := dk_132 2 1 (dk_at dksX13_turned_2 12 rfl rfl)
theorem dX13_turned_59 : decode cX13_turned 59 = .ok (.goto (-38), 3) := dk_167 255 218 (dk_at dksX13_turned_2 15 rfl rfl)
theorem dX13_turned_62 : decode cX13_turned 62 = .ok (.aload_n 0, 1) := dk_42 (dk_at dksX13_turned_2 18 rfl rfl)
theorem dX13_turned_63 : decode cX13_turned 63 = .ok (.bipush (-2), 2) := dk_16 254 (dk_at dksX13_turned_2 19 rfl rfl)
theorem dX13_turned_65 : decode cX13_turned 65 = .ok (.invokevirtual 49, 3) := dk_182 0 49 (dk_at dksX13_turned_2 21 rfl rfl)
theorem dX13_turned_68 : decode cX13_turned 68 = .ok (.ireturn, 1) := dk_172 (dk_at dksX13_turned_3 0 rfl rfl)
abbrev cX13_asked : ByteArray := prog_27_method_74_code
def yX13_asked : MethodName := ⟨RX13, "asked", "(III)I"⟩
def dkwX13_asked_2 : List UInt8 := [42, 42, 42, 180, 0, 21, 27, 28, 182, 1, 180, 182, 0, 49, 172]
abbrev dktX13_asked_2 : List UInt8 := dkwX13_asked_2 ++ []
def dkwX13_asked_1 : List UInt8 := [167, 0, 4, 3, 29, 182, 1, 173, 54, 4, 21, 4, 158, 0, 12, 42, 21, 4, 182, 0, 45, 167, 0, 17]
abbrev dktX13_asked_1 : List UInt8 := dkwX13_asked_1 ++ dktX13_asked_2
def dkwX13_asked_0 : List UInt8 := [42, 3, 181, 0, 39, 42, 42, 27, 182, 1, 161, 153, 0, 15, 42, 28, 182, 1, 167, 153, 0, 7, 4]
abbrev dktX13_asked_0 : List UInt8 := dkwX13_asked_0 ++ dktX13_asked_1
theorem dksX13_asked_0 : cX13_asked.data.toList.drop 0 = dktX13_asked_0 := by decide +kernel
theorem dksX13_asked_1 : cX13_asked.data.toList.drop 23 = dktX13_asked_1 := dk_seg dksX13_asked_0 23 rfl rfl
theorem dksX13_asked_2 : cX13_asked.data.toList.drop 47 = dktX13_asked_2 := dk_seg dksX13_asked_1 24 rfl rfl
theorem dX13_asked_0 : decode cX13_asked 0 = .ok (.aload_n 0, 1) := dk_42 (dk_at dksX13_asked_0 0 rfl rfl)
theorem dX13_asked_1 : decode cX13_asked 1 = .ok (.iconst 0, 1) := dk_3 (dk_at dksX13_asked_0 1 rfl rfl)
theorem dX13_asked_2 : decode cX13_asked 2 = .ok (.putfield 39, 3) := dk_181 0 39 (dk_at dksX13_asked_0 2 rfl rfl)
theorem dX13_asked_5 : decode cX13_asked 5 = .ok (.aload_n 0, 1) := dk_42 (dk_at dksX13_asked_0 5 rfl rfl)
theorem dX13_asked_6 : decode cX13_asked 6 = .ok (.aload_n 0, 1) := dk_42 (dk_at dksX13_asked_0 6 rfl rfl)
theorem dX13_asked_7 : decode cX13_asked 7 = .ok (.iload_n 1, 1) := dk_27 (dk_at dksX13_asked_0 7 rfl rfl)
theorem dX13_asked_8 : decode cX13_asked 8 = .ok (.invokevirtual 417, 3) := dk_182 1 161 (dk_at dksX13_asked_0 8 rfl rfl)
theorem dX13_asked_11 : decode cX13_asked 11 = .ok (.ifCond .eq 15, 3) := dk_153 0 15 (dk_at dksX13_asked_0 11 rfl rfl)
theorem dX13_asked_14 : decode cX13_asked 14 = .ok (.aload_n 0, 1) := dk_42 (dk_at dksX13_asked_0 14 rfl rfl)
theorem dX13_asked_15 : decode cX13_asked 15 = .ok (.iload_n 2, 1) := dk_28 (dk_at dksX13_asked_0 15 rfl rfl)
theorem dX13_asked_16 : decode cX13_asked 16 = .ok (.invokevirtual 423, 3) := dk_182 1 167 (dk_at dksX13_asked_0 16 rfl rfl)
theorem dX13_asked_19 : decode cX13_asked 19 = .ok (.ifCond .eq 7, 3) := dk_153 0 7 (dk_at dksX13_asked_0 19 rfl rfl)
theorem dX13_asked_22 : decode cX13_asked 22 = .ok (.iconst 1, 1) := dk_4 (dk_at dksX13_asked_0 22 rfl rfl)
theorem dX13_asked_23 : decode cX13_asked 23 = .ok (.goto 4, 3) := dk_167 0 4 (dk_at dksX13_asked_1 0 rfl rfl)
theorem dX13_asked_26 : decode cX13_asked 26 = .ok (.iconst 0, 1) := dk_3 (dk_at dksX13_asked_1 3 rfl rfl)
theorem dX13_asked_27 : decode cX13_asked 27 = .ok (.iload_n 3, 1) := dk_29 (dk_at dksX13_asked_1 4 rfl rfl)
theorem dX13_asked_28 : decode cX13_asked 28 = .ok (.invokevirtual 429, 3) := dk_182 1 173 (dk_at dksX13_asked_1 5 rfl rfl)
theorem dX13_asked_31 : decode cX13_asked 31 = .ok (.istore 4, 2) := dk_54 4 (dk_at dksX13_asked_1 8 rfl rfl)
theorem dX13_asked_33 : decode cX13_asked 33 = .ok (.iload 4, 2) := dk_21 4 (dk_at dksX13_asked_1 10 rfl rfl)
theorem dX13_asked_35 : decode cX13_asked 35 = .ok (.ifCond .le 12, 3) := dk_158 0 12 (dk_at dksX13_asked_1 12 rfl rfl)
theorem dX13_asked_38 : decode cX13_asked 38 = .ok (.aload_n 0, 1) := dk_42 (dk_at dksX13_asked_1 15 rfl rfl)
theorem dX13_asked_39 : decode cX13_asked 39 = .ok (.iload 4, 2) := dk_21 4 (dk_at dksX13_asked_1 16 rfl rfl)
theorem dX13_asked_41 : decode cX13_asked 41 = .ok (.invokevirtual 45, 3) := dk_182 0 45 (dk_at dksX13_asked_1 18 rfl rfl)
theorem dX13_asked_44 : decode cX13_asked 44 = .ok (.goto 17, 3) := dk_167 0 17 (dk_at dksX13_asked_1 21 rfl rfl)
theorem dX13_asked_47 : decode cX13_asked 47 = .ok (.aload_n 0, 1) := dk_42 (dk_at dksX13_asked_2 0 rfl rfl)
theorem dX13_asked_48 : decode cX13_asked 48 = .ok (.aload_n 0, 1) := dk_42 (dk_at dksX13_asked_2 1 rfl rfl)
theorem dX13_asked_49 : decode cX13_asked 49 = .ok (.aload_n 0, 1) := dk_42 (dk_at dksX13_asked_2 2 rfl rfl)
theorem dX13_asked_50 : decode cX13_asked 50 = .ok (.getfield 21, 3) := dk_180 0 21 (dk_at dksX13_asked_2 3 rfl rfl)
theorem dX13_asked_53 : decode cX13_asked 53 = .ok (.iload_n 1, 1) := dk_27 (dk_at dksX13_asked_2 6 rfl rfl)
theorem dX13_asked_54 : decode cX13_asked 54 = .ok (.iload_n 2, 1) := dk_28 (dk_at dksX13_asked_2 7 rfl rfl)
theorem dX13_asked_55 : decode cX13_asked 55 = .ok (.invokevirtual 436, 3) := dk_182 1 180 (dk_at dksX13_asked_2 8 rfl rfl)
theorem dX13_asked_58 : decode cX13_asked 58 = .ok (.invokevirtual 49, 3) := dk_182 0 49 (dk_at dksX13_asked_2 11 rfl rfl)
theorem dX13_asked_61 : decode cX13_asked 61 = .ok (.ireturn, 1) := dk_172 (dk_at dksX13_asked_2 14 rfl rfl)
abbrev cX13_askedIn : ByteArray := prog_27_method_62_code
def yX13_askedIn : MethodName := ⟨RX13, "askedIn", "([III)I"⟩
def dkwX13_askedIn_0 : List UInt8 := [42, 43, 28, 42, 43, 28, 29, 3, 182, 1, 151, 3, 182, 1, 155, 172]
abbrev dktX13_askedIn_0 : List UInt8 := dkwX13_askedIn_0 ++ []
theorem dksX13_askedIn_0 : cX13_askedIn.data.toList.drop 0 = dktX13_askedIn_0 := by decide +kernel
theorem dX13_askedIn_0 : decode cX13_askedIn 0 = .ok (.aload_n 0, 1) := dk_42 (dk_at dksX13_askedIn_0 0 rfl rfl)
theorem dX13_askedIn_1 : decode cX13_askedIn 1 = .ok (.aload_n 1, 1) := dk_43 (dk_at dksX13_askedIn_0 1 rfl rfl)
theorem dX13_askedIn_2 : decode cX13_askedIn 2 = .ok (.iload_n 2, 1) := dk_28 (dk_at dksX13_askedIn_0 2 rfl rfl)
theorem dX13_askedIn_3 : decode cX13_askedIn 3 = .ok (.aload_n 0, 1) := dk_42 (dk_at dksX13_askedIn_0 3 rfl rfl)
theorem dX13_askedIn_4 : decode cX13_askedIn 4 = .ok (.aload_n 1, 1) := dk_43 (dk_at dksX13_askedIn_0 4 rfl rfl)
theorem dX13_askedIn_5 : decode cX13_askedIn 5 = .ok (.iload_n 2, 1) := dk_28 (dk_at dksX13_askedIn_0 5 rfl rfl)
theorem dX13_askedIn_6 : decode cX13_askedIn 6 = .ok (.iload_n 3, 1) := dk_29 (dk_at dksX13_askedIn_0 6 rfl rfl)
theorem dX13_askedIn_7 : decode cX13_askedIn 7 = .ok (.iconst 0, 1) := dk_3 (dk_at dksX13_askedIn_0 7 rfl rfl)
theorem dX13_askedIn_8 : decode cX13_askedIn 8 = .ok (.invokevirtual 407, 3) := dk_182 1 151 (dk_at dksX13_askedIn_0 8 rfl rfl)
theorem dX13_askedIn_11 : decode cX13_askedIn 11 = .ok (.iconst 0, 1) := dk_3 (dk_at dksX13_askedIn_0 11 rfl rfl)
theorem dX13_askedIn_12 : decode cX13_askedIn 12 = .ok (.invokevirtual 411, 3) := dk_182 1 155 (dk_at dksX13_askedIn_0 12 rfl rfl)
theorem dX13_askedIn_15 : decode cX13_askedIn 15 = .ok (.ireturn, 1) := dk_172 (dk_at dksX13_askedIn_0 15 rfl rfl)
abbrev cX13_foundIn : ByteArray := prog_27_method_60_code
def yX13_foundIn : MethodName := ⟨RX13, "foundIn", "([IIII)I"⟩
def dkwX13_foundIn_3 : List UInt8 := [54, 5, 132, 6, 1, 167, 255, 186, 21, 5, 172]
abbrev dktX13_foundIn_3 : List UInt8 := dkwX13_foundIn_3 ++ []
def dkwX13_foundIn_2 : List UInt8 := [182, 1, 144, 42, 180, 1, 111, 180, 1, 17, 29, 46, 161, 0, 10, 4, 21, 6, 120, 167, 0, 4, 3, 128]
abbrev dktX13_foundIn_2 : List UInt8 := dkwX13_foundIn_2 ++ dktX13_foundIn_3
def dkwX13_foundIn_1 : List UInt8 := [21, 6, 182, 1, 134, 153, 0, 41, 42, 43, 21, 6, 182, 1, 141, 153, 0, 31, 42, 43, 21, 6, 21, 4]
abbrev dktX13_foundIn_1 : List UInt8 := dkwX13_foundIn_1 ++ dktX13_foundIn_2
def dkwX13_foundIn_0 : List UInt8 := [3, 54, 5, 3, 54, 6, 21, 6, 42, 180, 1, 111, 180, 1, 31, 162, 0, 64, 21, 5, 42, 43, 28]
abbrev dktX13_foundIn_0 : List UInt8 := dkwX13_foundIn_0 ++ dktX13_foundIn_1
theorem dksX13_foundIn_0 : cX13_foundIn.data.toList.drop 0 = dktX13_foundIn_0 := by decide +kernel
theorem dksX13_foundIn_1 : cX13_foundIn.data.toList.drop 23 = dktX13_foundIn_1 := dk_seg dksX13_foundIn_0 23 rfl rfl
theorem dksX13_foundIn_2 : cX13_foundIn.data.toList.drop 47 = dktX13_foundIn_2 := dk_seg dksX13_foundIn_1 24 rfl rfl
theorem dksX13_foundIn_3 : cX13_foundIn.data.toList.drop 71 = dktX13_foundIn_3 := dk_seg dksX13_foundIn_2 24 rfl rfl
theorem dX13_foundIn_0 : decode cX13_foundIn 0 = .ok (.iconst 0, 1) := dk_3 (dk_at dksX13_foundIn_0 0 rfl rfl)
theorem dX13_foundIn_1 : decode cX13_foundIn 1 = .ok (.istore 5, 2) := dk_54 5 (dk_at dksX13_foundIn_0 1 rfl rfl)
theorem dX13_foundIn_3 : decode cX13_foundIn 3 = .ok (.iconst 0, 1) := dk_3 (dk_at dksX13_foundIn_0 3 rfl rfl)
theorem dX13_foundIn_4 : decode cX13_foundIn 4 = .ok (.istore 6, 2) := dk_54 6 (dk_at dksX13_foundIn_0 4 rfl rfl)
theorem dX13_foundIn_6 : decode cX13_foundIn 6 = .ok (.iload 6, 2) := dk_21 6 (dk_at dksX13_foundIn_0 6 rfl rfl)
theorem dX13_foundIn_8 : decode cX13_foundIn 8 = .ok (.aload_n 0, 1) := dk_42 (dk_at dksX13_foundIn_0 8 rfl rfl)
theorem dX13_foundIn_9 : decode cX13_foundIn 9 = .ok (.getfield 367, 3) := dk_180 1 111 (dk_at dksX13_foundIn_0 9 rfl rfl)
theorem dX13_foundIn_12 : decode cX13_foundIn 12 = .ok (.getfield 287, 3) := dk_180 1 31 (dk_at dksX13_foundIn_0 12 rfl rfl)
theorem dX13_foundIn_15 : decode cX13_foundIn 15 = .ok (.if_icmp .ge 64, 3) := dk_162 0 64 (dk_at dksX13_foundIn_0 15 rfl rfl)
theorem dX13_foundIn_18 : decode cX13_foundIn 18 = .ok (.iload 5, 2) := dk_21 5 (dk_at dksX13_foundIn_0 18 rfl rfl)
theorem dX13_foundIn_20 : decode cX13_foundIn 20 = .ok (.aload_n 0, 1) := dk_42 (dk_at dksX13_foundIn_0 20 rfl rfl)
theorem dX13_foundIn_21 : decode cX13_foundIn 21 = .ok (.aload_n 1, 1) := dk_43 (dk_at dksX13_foundIn_0 21 rfl rfl)
theorem dX13_foundIn_22 : decode cX13_foundIn 22 = .ok (.iload_n 2, 1) := dk_28 (dk_at dksX13_foundIn_0 22 rfl rfl)
theorem dX13_foundIn_23 : decode cX13_foundIn 23 = .ok (.iload 6, 2) := dk_21 6 (dk_at dksX13_foundIn_1 0 rfl rfl)
theorem dX13_foundIn_25 : decode cX13_foundIn 25 = .ok (.invokevirtual 390, 3) := dk_182 1 134 (dk_at dksX13_foundIn_1 2 rfl rfl)
theorem dX13_foundIn_28 : decode cX13_foundIn 28 = .ok (.ifCond .eq 41, 3) := dk_153 0 41 (dk_at dksX13_foundIn_1 5 rfl rfl)
theorem dX13_foundIn_31 : decode cX13_foundIn 31 = .ok (.aload_n 0, 1) := dk_42 (dk_at dksX13_foundIn_1 8 rfl rfl)
theorem dX13_foundIn_32 : decode cX13_foundIn 32 = .ok (.aload_n 1, 1) := dk_43 (dk_at dksX13_foundIn_1 9 rfl rfl)
theorem dX13_foundIn_33 : decode cX13_foundIn 33 = .ok (.iload 6, 2) := dk_21 6 (dk_at dksX13_foundIn_1 10 rfl rfl)
theorem dX13_foundIn_35 : decode cX13_foundIn 35 = .ok (.invokevirtual 397, 3) := dk_182 1 141 (dk_at dksX13_foundIn_1 12 rfl rfl)
theorem dX13_foundIn_38 : decode cX13_foundIn 38 = .ok (.ifCond .eq 31, 3) := dk_153 0 31 (dk_at dksX13_foundIn_1 15 rfl rfl)
theorem dX13_foundIn_41 : decode cX13_foundIn 41 = .ok (.aload_n 0, 1) := dk_42 (dk_at dksX13_foundIn_1 18 rfl rfl)
theorem dX13_foundIn_42 : decode cX13_foundIn 42 = .ok (.aload_n 1, 1) := dk_43 (dk_at dksX13_foundIn_1 19 rfl rfl)
theorem dX13_foundIn_43 : decode cX13_foundIn 43 = .ok (.iload 6, 2) := dk_21 6 (dk_at dksX13_foundIn_1 20 rfl rfl)
theorem dX13_foundIn_45 : decode cX13_foundIn 45 = .ok (.iload 4, 2) := dk_21 4 (dk_at dksX13_foundIn_1 22 rfl rfl)
theorem dX13_foundIn_47 : decode cX13_foundIn 47 = .ok (.invokevirtual 400, 3) := dk_182 1 144 (dk_at dksX13_foundIn_2 0 rfl rfl)
theorem dX13_foundIn_50 : decode cX13_foundIn 50 = .ok (.aload_n 0, 1) := dk_42 (dk_at dksX13_foundIn_2 3 rfl rfl)
theorem dX13_foundIn_51 : decode cX13_foundIn 51 = .ok (.getfield 367, 3) := dk_180 1 111 (dk_at dksX13_foundIn_2 4 rfl rfl)
theorem dX13_foundIn_54 : decode cX13_foundIn 54 = .ok (.getfield 273, 3) := dk_180 1 17 (dk_at dksX13_foundIn_2 7 rfl rfl)
theorem dX13_foundIn_57 : decode cX13_foundIn 57 = .ok (.iload_n 3, 1) := dk_29 (dk_at dksX13_foundIn_2 10 rfl rfl)
theorem dX13_foundIn_58 : decode cX13_foundIn 58 = .ok (.iaload, 1) := dk_46 (dk_at dksX13_foundIn_2 11 rfl rfl)
theorem dX13_foundIn_59 : decode cX13_foundIn 59 = .ok (.if_icmp .lt 10, 3) := dk_161 0 10 (dk_at dksX13_foundIn_2 12 rfl rfl)
theorem dX13_foundIn_62 : decode cX13_foundIn 62 = .ok (.iconst 1, 1) := dk_4 (dk_at dksX13_foundIn_2 15 rfl rfl)
theorem dX13_foundIn_63 : decode cX13_foundIn 63 = .ok (.iload 6, 2) := dk_21 6 (dk_at dksX13_foundIn_2 16 rfl rfl)
theorem dX13_foundIn_65 : decode cX13_foundIn 65 = .ok (.ishl, 1) := dk_120 (dk_at dksX13_foundIn_2 18 rfl rfl)
theorem dX13_foundIn_66 : decode cX13_foundIn 66 = .ok (.goto 4, 3) := dk_167 0 4 (dk_at dksX13_foundIn_2 19 rfl rfl)
theorem dX13_foundIn_69 : decode cX13_foundIn 69 = .ok (.iconst 0, 1) := dk_3 (dk_at dksX13_foundIn_2 22 rfl rfl)
theorem dX13_foundIn_70 : decode cX13_foundIn 70 = .ok (.ior, 1) := dk_128 (dk_at dksX13_foundIn_2 23 rfl rfl)
theorem dX13_foundIn_71 : decode cX13_foundIn 71 = .ok (.istore 5, 2) := dk_54 5 (dk_at dksX13_foundIn_3 0 rfl rfl)
theorem dX13_foundIn_73 : decode cX13_foundIn 73 = .ok (.iinc 6 1, 3) := dk_132 6 1 (dk_at dksX13_foundIn_3 2 rfl rfl)
theorem dX13_foundIn_76 : decode cX13_foundIn 76 = .ok (.goto (-70), 3) := dk_167 255 186 (dk_at dksX13_foundIn_3 5 rfl rfl)
theorem dX13_foundIn_79 : decode cX13_foundIn 79 = .ok (.iload 5, 2) := dk_21 5 (dk_at dksX13_foundIn_3 8 rfl rfl)
theorem dX13_foundIn_81 : decode cX13_foundIn 81 = .ok (.ireturn, 1) := dk_172 (dk_at dksX13_foundIn_3 10 rfl rfl)
abbrev cX13_askedBy : ByteArray := prog_27_method_61_code
def yX13_askedBy : MethodName := ⟨RX13, "askedBy", "([IIII)I"⟩
def dkwX13_askedBy_5 : List UInt8 := [167, 0, 4, 3, 96, 172]
abbrev dktX13_askedBy_5 : List UInt8 := dkwX13_askedBy_5 ++ []
def dkwX13_askedBy_4 : List UInt8 := [21, 5, 42, 180, 1, 111, 180, 1, 7, 28, 46, 100, 54, 5, 21, 6, 21, 5, 158, 0, 8, 21, 5]
abbrev dktX13_askedBy_4 : List UInt8 := dkwX13_askedBy_4 ++ dktX13_askedBy_5
def dkwX13_askedBy_3 : List UInt8 := [154, 0, 17, 21, 5, 42, 43, 21, 7, 21, 4, 182, 1, 148, 96, 54, 5, 132, 7, 1, 167, 255, 175]
abbrev dktX13_askedBy_3 : List UInt8 := dkwX13_askedBy_3 ++ dktX13_askedBy_4
def dkwX13_askedBy_2 : List UInt8 := [43, 21, 7, 21, 4, 182, 1, 148, 104, 96, 54, 6, 167, 0, 27, 42, 43, 21, 7, 182, 1, 141]
abbrev dktX13_askedBy_2 : List UInt8 := dkwX13_askedBy_2 ++ dktX13_askedBy_3
def dkwX13_askedBy_1 : List UInt8 := [21, 7, 182, 1, 134, 154, 0, 6, 167, 0, 55, 29, 21, 7, 184, 1, 63, 153, 0, 22, 21, 6, 6, 42]
abbrev dktX13_askedBy_1 : List UInt8 := dkwX13_askedBy_1 ++ dktX13_askedBy_2
def dkwX13_askedBy_0 : List UInt8 := [3, 54, 5, 3, 54, 6, 3, 54, 7, 21, 7, 42, 180, 1, 111, 180, 1, 31, 162, 0, 75, 42, 43, 28]
abbrev dktX13_askedBy_0 : List UInt8 := dkwX13_askedBy_0 ++ dktX13_askedBy_1
theorem dksX13_askedBy_0 : cX13_askedBy.data.toList.drop 0 = dktX13_askedBy_0 := by decide +kernel
theorem dksX13_askedBy_1 : cX13_askedBy.data.toList.drop 24 = dktX13_askedBy_1 := dk_seg dksX13_askedBy_0 24 rfl rfl
theorem dksX13_askedBy_2 : cX13_askedBy.data.toList.drop 48 = dktX13_askedBy_2 := dk_seg dksX13_askedBy_1 24 rfl rfl
theorem dksX13_askedBy_3 : cX13_askedBy.data.toList.drop 70 = dktX13_askedBy_3 := dk_seg dksX13_askedBy_2 22 rfl rfl
theorem dksX13_askedBy_4 : cX13_askedBy.data.toList.drop 93 = dktX13_askedBy_4 := dk_seg dksX13_askedBy_3 23 rfl rfl
theorem dksX13_askedBy_5 : cX13_askedBy.data.toList.drop 116 = dktX13_askedBy_5 := dk_seg dksX13_askedBy_4 23 rfl rfl
theorem dX13_askedBy_0 : decode cX13_askedBy 0 = .ok (.iconst 0, 1) := dk_3 (dk_at dksX13_askedBy_0 0 rfl rfl)
theorem dX13_askedBy_1 : decode cX13_askedBy 1 = .ok (.istore 5, 2) := dk_54 5 (dk_at dksX13_askedBy_0 1 rfl rfl)
theorem dX13_askedBy_3 : decode cX13_askedBy 3 = .ok (.iconst 0, 1) := dk_3 (dk_at dksX13_askedBy_0 3 rfl rfl)
theorem dX13_askedBy_4 : decode cX13_askedBy 4 = .ok (.istore 6, 2) := dk_54 6 (dk_at dksX13_askedBy_0 4 rfl rfl)
theorem dX13_askedBy_6 : decode cX13_askedBy 6 = .ok (.iconst 0, 1) := dk_3 (dk_at dksX13_askedBy_0 6 rfl rfl)
theorem dX13_askedBy_7 : decode cX13_askedBy 7 = .ok (.istore 7, 2) := dk_54 7 (dk_at dksX13_askedBy_0 7 rfl rfl)
theorem dX13_askedBy_9 : decode cX13_askedBy 9 = .ok (.iload 7, 2) := dk_21 7 (dk_at dksX13_askedBy_0 9 rfl rfl)
theorem dX13_askedBy_11 : decode cX13_askedBy 11 = .ok (.aload_n 0, 1) := dk_42 (dk_at dksX13_askedBy_0 11 rfl rfl)
theorem dX13_askedBy_12 : decode cX13_askedBy 12 = .ok (.getfield 367, 3) := dk_180 1 111 (dk_at dksX13_askedBy_0 12 rfl rfl)
theorem dX13_askedBy_15 : decode cX13_askedBy 15 = .ok (.getfield 287, 3) := dk_180 1 31 (dk_at dksX13_askedBy_0 15 rfl rfl)
theorem dX13_askedBy_18 : decode cX13_askedBy 18 = .ok (.if_icmp .ge 75, 3) := dk_162 0 75 (dk_at dksX13_askedBy_0 18 rfl rfl)
theorem dX13_askedBy_21 : decode cX13_askedBy 21 = .ok (.aload_n 0, 1) := dk_42 (dk_at dksX13_askedBy_0 21 rfl rfl)
theorem dX13_askedBy_22 : decode cX13_askedBy 22 = .ok (.aload_n 1, 1) := dk_43 (dk_at dksX13_askedBy_0 22 rfl rfl)
theorem dX13_askedBy_23 : decode cX13_askedBy 23 = .ok (.iload_n 2, 1) := dk_28 (dk_at dksX13_askedBy_0 23 rfl rfl)
theorem dX13_askedBy_24 : decode cX13_askedBy 24 = .ok (.iload 7, 2) := dk_21 7 (dk_at dksX13_askedBy_1 0 rfl rfl)
theorem dX13_askedBy_26 : decode cX13_askedBy 26 = .ok (.invokevirtual 390, 3) := dk_182 1 134 (dk_at dksX13_askedBy_1 2 rfl rfl)
theorem dX13_askedBy_29 : decode cX13_askedBy 29 = .ok (.ifCond .ne 6, 3) := dk_154 0 6 (dk_at dksX13_askedBy_1 5 rfl rfl)
theorem dX13_askedBy_32 : decode cX13_askedBy 32 = .ok (.goto 55, 3) := dk_167 0 55 (dk_at dksX13_askedBy_1 8 rfl rfl)
theorem dX13_askedBy_35 : decode cX13_askedBy 35 = .ok (.iload_n 3, 1) := dk_29 (dk_at dksX13_askedBy_1 11 rfl rfl)
theorem dX13_askedBy_36 : decode cX13_askedBy 36 = .ok (.iload 7, 2) := dk_21 7 (dk_at dksX13_askedBy_1 12 rfl rfl)
theorem dX13_askedBy_38 : decode cX13_askedBy 38 = .ok (.invokestatic 319, 3) := dk_184 1 63 (dk_at dksX13_askedBy_1 14 rfl rfl)
theorem dX13_askedBy_41 : decode cX13_askedBy 41 = .ok (.ifCond .eq 22, 3) := dk_153 0 22 (dk_at dksX13_askedBy_1 17 rfl rfl)
theorem dX13_askedBy_44 : decode cX13_askedBy 44 = .ok (.iload 6, 2) := dk_21 6 (dk_at dksX13_askedBy_1 20 rfl rfl)
theorem dX13_askedBy_46 : decode cX13_askedBy 46 = .ok (.iconst 3, 1) := dk_6 (dk_at dksX13_askedBy_1 22 rfl rfl)
theorem dX13_askedBy_47 : decode cX13_askedBy 47 = .ok (.aload_n 0, 1) := dk_42 (dk_at dksX13_askedBy_1 23 rfl rfl)
theorem dX13_askedBy_48 : decode cX13_askedBy 48 = .ok (.aload_n 1, 1) := dk_43 (dk_at dksX13_askedBy_2 0 rfl rfl)
theorem dX13_askedBy_49 : decode cX13_askedBy 49 = .ok (.iload 7, 2) := dk_21 7 (dk_at dksX13_askedBy_2 1 rfl rfl)
theorem dX13_askedBy_51 : decode cX13_askedBy 51 = .ok (.iload 4, 2) := dk_21 4 (dk_at dksX13_askedBy_2 3 rfl rfl)
theorem dX13_askedBy_53 : decode cX13_askedBy 53 = .ok (.invokevirtual 404, 3) := dk_182 1 148 (dk_at dksX13_askedBy_2 5 rfl rfl)
theorem dX13_askedBy_56 : decode cX13_askedBy 56 = .ok (.imul, 1) := dk_104 (dk_at dksX13_askedBy_2 8 rfl rfl)
theorem dX13_askedBy_57 : decode cX13_askedBy 57 = .ok (.iadd, 1) := dk_96 (dk_at dksX13_askedBy_2 9 rfl rfl)
theorem dX13_askedBy_58 : decode cX13_askedBy 58 = .ok (.istore 6, 2) := dk_54 6 (dk_at dksX13_askedBy_2 10 rfl rfl)
theorem dX13_askedBy_60 : decode cX13_askedBy 60 = .ok (.goto 27, 3) := dk_167 0 27 (dk_at dksX13_askedBy_2 12 rfl rfl)
theorem dX13_askedBy_63 : decode cX13_askedBy 63 = .ok (.aload_n 0, 1) := dk_42 (dk_at dksX13_askedBy_2 15 rfl rfl)
theorem dX13_askedBy_64 : decode cX13_askedBy 64 = .ok (.aload_n 1, 1) := dk_43 (dk_at dksX13_askedBy_2 16 rfl rfl)
theorem dX13_askedBy_65 : decode cX13_askedBy 65 = .ok (.iload 7, 2) := dk_21 7 (dk_at dksX13_askedBy_2 17 rfl rfl)
theorem dX13_askedBy_67 : decode cX13_askedBy 67 = .ok (.invokevirtual 397, 3) := dk_182 1 141 (dk_at dksX13_askedBy_2 19 rfl rfl)
theorem dX13_askedBy_70 : decode cX13_askedBy 70 = .ok (.ifCond .ne 17, 3) := dk_154 0 17 (dk_at dksX13_askedBy_3 0 rfl rfl)
theorem dX13_askedBy_73 : decode cX13_askedBy 73 = .ok (.iload 5, 2) := dk_21 5 (dk_at dksX13_askedBy_3 3 rfl rfl)
theorem dX13_askedBy_75 : decode cX13_askedBy 75 = .ok (.aload_n 0, 1) := dk_42 (dk_at dksX13_askedBy_3 5 rfl rfl)
theorem dX13_askedBy_76 : decode cX13_askedBy 76 = .ok (.aload_n 1, 1) := dk_43 (dk_at dksX13_askedBy_3 6 rfl rfl)
theorem dX13_askedBy_77 : decode cX13_askedBy 77 = .ok (.iload 7, 2) := dk_21 7 (dk_at dksX13_askedBy_3 7 rfl rfl)
theorem dX13_askedBy_79 : decode cX13_askedBy 79 = .ok (.iload 4, 2) := dk_21 4 (dk_at dksX13_askedBy_3 9 rfl rfl)
theorem dX13_askedBy_81 : decode cX13_askedBy 81 = .ok (.invokevirtual 404, 3) := dk_182 1 148 (dk_at dksX13_askedBy_3 11 rfl rfl)
theorem dX13_askedBy_84 : decode cX13_askedBy 84 = .ok (.iadd, 1) := dk_96 (dk_at dksX13_askedBy_3 14 rfl rfl)
theorem dX13_askedBy_85 : decode cX13_askedBy 85 = .ok (.istore 5, 2) := dk_54 5 (dk_at dksX13_askedBy_3 15 rfl rfl)
theorem dX13_askedBy_87 : decode cX13_askedBy 87 = .ok (.iinc 7 1, 3) := dk_132 7 1 (dk_at dksX13_askedBy_3 17 rfl rfl)
theorem dX13_askedBy_90 : decode cX13_askedBy 90 = .ok (.goto (-81), 3) := dk_167 255 175 (dk_at dksX13_askedBy_3 20 rfl rfl)
theorem dX13_askedBy_93 : decode cX13_askedBy 93 = .ok (.iload 5, 2) := dk_21 5 (dk_at dksX13_askedBy_4 0 rfl rfl)
theorem dX13_askedBy_95 : decode cX13_askedBy 95 = .ok (.aload_n 0, 1) := dk_42 (dk_at dksX13_askedBy_4 2 rfl rfl)
theorem dX13_askedBy_96 : decode cX13_askedBy 96 = .ok (.getfield 367, 3) := dk_180 1 111 (dk_at dksX13_askedBy_4 3 rfl rfl)
theorem dX13_askedBy_99 : decode cX13_askedBy 99 = .ok (.getfield 263, 3) := dk_180 1 7 (dk_at dksX13_askedBy_4 6 rfl rfl)
theorem dX13_askedBy_102 : decode cX13_askedBy 102 = .ok (.iload_n 2, 1) := dk_28 (dk_at dksX13_askedBy_4 9 rfl rfl)
theorem dX13_askedBy_103 : decode cX13_askedBy 103 = .ok (.iaload, 1) := dk_46 (dk_at dksX13_askedBy_4 10 rfl rfl)
theorem dX13_askedBy_104 : decode cX13_askedBy 104 = .ok (.isub, 1) := dk_100 (dk_at dksX13_askedBy_4 11 rfl rfl)
theorem dX13_askedBy_105 : decode cX13_askedBy 105 = .ok (.istore 5, 2) := dk_54 5 (dk_at dksX13_askedBy_4 12 rfl rfl)
theorem dX13_askedBy_107 : decode cX13_askedBy 107 = .ok (.iload 6, 2) := dk_21 6 (dk_at dksX13_askedBy_4 14 rfl rfl)
theorem dX13_askedBy_109 : decode cX13_askedBy 109 = .ok (.iload 5, 2) := dk_21 5 (dk_at dksX13_askedBy_4 16 rfl rfl)
theorem dX13_askedBy_111 : decode cX13_askedBy 111 = .ok (.ifCond .le 8, 3) := dk_158 0 8 (dk_at dksX13_askedBy_4 18 rfl rfl)
theorem dX13_askedBy_114 : decode cX13_askedBy 114 = .ok (.iload 5, 2) := dk_21 5 (dk_at dksX13_askedBy_4 21 rfl rfl)
theorem dX13_askedBy_116 : decode cX13_askedBy 116 = .ok (.goto 4, 3) := dk_167 0 4 (dk_at dksX13_askedBy_5 0 rfl rfl)
theorem dX13_askedBy_119 : decode cX13_askedBy 119 = .ok (.iconst 0, 1) := dk_3 (dk_at dksX13_askedBy_5 3 rfl rfl)
theorem dX13_askedBy_120 : decode cX13_askedBy 120 = .ok (.iadd, 1) := dk_96 (dk_at dksX13_askedBy_5 4 rfl rfl)
theorem dX13_askedBy_121 : decode cX13_askedBy 121 = .ok (.ireturn, 1) := dk_172 (dk_at dksX13_askedBy_5 5 rfl rfl)
abbrev cX13_found : ByteArray := prog_27_method_75_code
def yX13_found : MethodName := ⟨RX13, "found", "(III)I"⟩
def dkwX13_found_2 : List UInt8 := [42, 42, 42, 180, 0, 21, 27, 28, 3, 182, 1, 151, 182, 0, 49, 172]
abbrev dktX13_found_2 : List UInt8 := dkwX13_found_2 ++ []
def dkwX13_found_1 : List UInt8 := [167, 0, 4, 3, 29, 182, 1, 173, 54, 4, 21, 4, 158, 0, 12, 42, 21, 4, 182, 0, 45, 167, 0, 18]
abbrev dktX13_found_1 : List UInt8 := dkwX13_found_1 ++ dktX13_found_2
def dkwX13_found_0 : List UInt8 := [42, 3, 181, 0, 39, 42, 42, 27, 182, 1, 161, 153, 0, 15, 42, 28, 182, 1, 167, 153, 0, 7, 4]
abbrev dktX13_found_0 : List UInt8 := dkwX13_found_0 ++ dktX13_found_1
theorem dksX13_found_0 : cX13_found.data.toList.drop 0 = dktX13_found_0 := by decide +kernel
theorem dksX13_found_1 : cX13_found.data.toList.drop 23 = dktX13_found_1 := dk_seg dksX13_found_0 23 rfl rfl
theorem dksX13_found_2 : cX13_found.data.toList.drop 47 = dktX13_found_2 := dk_seg dksX13_found_1 24 rfl rfl
theorem dX13_found_0 : decode cX13_found 0 = .ok (.aload_n 0, 1) := dk_42 (dk_at dksX13_found_0 0 rfl rfl)
theorem dX13_found_1 : decode cX13_found 1 = .ok (.iconst 0, 1) := dk_3 (dk_at dksX13_found_0 1 rfl rfl)
theorem dX13_found_2 : decode cX13_found 2 = .ok (.putfield 39, 3) := dk_181 0 39 (dk_at dksX13_found_0 2 rfl rfl)
theorem dX13_found_5 : decode cX13_found 5 = .ok (.aload_n 0, 1) := dk_42 (dk_at dksX13_found_0 5 rfl rfl)
theorem dX13_found_6 : decode cX13_found 6 = .ok (.aload_n 0, 1) := dk_42 (dk_at dksX13_found_0 6 rfl rfl)
theorem dX13_found_7 : decode cX13_found 7 = .ok (.iload_n 1, 1) := dk_27 (dk_at dksX13_found_0 7 rfl rfl)
theorem dX13_found_8 : decode cX13_found 8 = .ok (.invokevirtual 417, 3) := dk_182 1 161 (dk_at dksX13_found_0 8 rfl rfl)
theorem dX13_found_11 : decode cX13_found 11 = .ok (.ifCond .eq 15, 3) := dk_153 0 15 (dk_at dksX13_found_0 11 rfl rfl)
theorem dX13_found_14 : decode cX13_found 14 = .ok (.aload_n 0, 1) := dk_42 (dk_at dksX13_found_0 14 rfl rfl)
theorem dX13_found_15 : decode cX13_found 15 = .ok (.iload_n 2, 1) := dk_28 (dk_at dksX13_found_0 15 rfl rfl)
theorem dX13_found_16 : decode cX13_found 16 = .ok (.invokevirtual 423, 3) := dk_182 1 167 (dk_at dksX13_found_0 16 rfl rfl)
theorem dX13_found_19 : decode cX13_found 19 = .ok (.ifCond .eq 7, 3) := dk_153 0 7 (dk_at dksX13_found_0 19 rfl rfl)
theorem dX13_found_22 : decode cX13_found 22 = .ok (.iconst 1, 1) := dk_4 (dk_at dksX13_found_0 22 rfl rfl)
theorem dX13_found_23 : decode cX13_found 23 = .ok (.goto 4, 3) := dk_167 0 4 (dk_at dksX13_found_1 0 rfl rfl)
theorem dX13_found_26 : decode cX13_found 26 = .ok (.iconst 0, 1) := dk_3 (dk_at dksX13_found_1 3 rfl rfl)
theorem dX13_found_27 : decode cX13_found 27 = .ok (.iload_n 3, 1) := dk_29 (dk_at dksX13_found_1 4 rfl rfl)
theorem dX13_found_28 : decode cX13_found 28 = .ok (.invokevirtual 429, 3) := dk_182 1 173 (dk_at dksX13_found_1 5 rfl rfl)
theorem dX13_found_31 : decode cX13_found 31 = .ok (.istore 4, 2) := dk_54 4 (dk_at dksX13_found_1 8 rfl rfl)
theorem dX13_found_33 : decode cX13_found 33 = .ok (.iload 4, 2) := dk_21 4 (dk_at dksX13_found_1 10 rfl rfl)
theorem dX13_found_35 : decode cX13_found 35 = .ok (.ifCond .le 12, 3) := dk_158 0 12 (dk_at dksX13_found_1 12 rfl rfl)
theorem dX13_found_38 : decode cX13_found 38 = .ok (.aload_n 0, 1) := dk_42 (dk_at dksX13_found_1 15 rfl rfl)
theorem dX13_found_39 : decode cX13_found 39 = .ok (.iload 4, 2) := dk_21 4 (dk_at dksX13_found_1 16 rfl rfl)
theorem dX13_found_41 : decode cX13_found 41 = .ok (.invokevirtual 45, 3) := dk_182 0 45 (dk_at dksX13_found_1 18 rfl rfl)
theorem dX13_found_44 : decode cX13_found 44 = .ok (.goto 18, 3) := dk_167 0 18 (dk_at dksX13_found_1 21 rfl rfl)
theorem dX13_found_47 : decode cX13_found 47 = .ok (.aload_n 0, 1) := dk_42 (dk_at dksX13_found_2 0 rfl rfl)
theorem dX13_found_48 : decode cX13_found 48 = .ok (.aload_n 0, 1) := dk_42 (dk_at dksX13_found_2 1 rfl rfl)
theorem dX13_found_49 : decode cX13_found 49 = .ok (.aload_n 0, 1) := dk_42 (dk_at dksX13_found_2 2 rfl rfl)
theorem dX13_found_50 : decode cX13_found 50 = .ok (.getfield 21, 3) := dk_180 0 21 (dk_at dksX13_found_2 3 rfl rfl)
theorem dX13_found_53 : decode cX13_found 53 = .ok (.iload_n 1, 1) := dk_27 (dk_at dksX13_found_2 6 rfl rfl)
theorem dX13_found_54 : decode cX13_found 54 = .ok (.iload_n 2, 1) := dk_28 (dk_at dksX13_found_2 7 rfl rfl)
theorem dX13_found_55 : decode cX13_found 55 = .ok (.iconst 0, 1) := dk_3 (dk_at dksX13_found_2 8 rfl rfl)
theorem dX13_found_56 : decode cX13_found 56 = .ok (.invokevirtual 407, 3) := dk_182 1 151 (dk_at dksX13_found_2 9 rfl rfl)
theorem dX13_found_59 : decode cX13_found 59 = .ok (.invokevirtual 49, 3) := dk_182 0 49 (dk_at dksX13_found_2 12 rfl rfl)
theorem dX13_found_62 : decode cX13_found 62 = .ok (.ireturn, 1) := dk_172 (dk_at dksX13_found_2 15 rfl rfl)
abbrev cX13_otherLaw : ByteArray := prog_27_method_76_code
def yX13_otherLaw : MethodName := ⟨RX13, "otherLaw", "(III)I"⟩
def dkwX13_otherLaw_3 : List UInt8 := [182, 0, 49, 172]
abbrev dktX13_otherLaw_3 : List UInt8 := dkwX13_otherLaw_3 ++ []
def dkwX13_otherLaw_2 : List UInt8 := [42, 42, 42, 180, 0, 21, 27, 42, 42, 180, 0, 21, 27, 28, 3, 182, 1, 151, 4, 182, 1, 155]
abbrev dktX13_otherLaw_2 : List UInt8 := dkwX13_otherLaw_2 ++ dktX13_otherLaw_3
def dkwX13_otherLaw_1 : List UInt8 := [167, 0, 4, 3, 29, 182, 1, 173, 54, 4, 21, 4, 158, 0, 12, 42, 21, 4, 182, 0, 45, 167, 0, 28]
abbrev dktX13_otherLaw_1 : List UInt8 := dkwX13_otherLaw_1 ++ dktX13_otherLaw_2
def dkwX13_otherLaw_0 : List UInt8 := [42, 3, 181, 0, 39, 42, 42, 27, 182, 1, 161, 153, 0, 15, 42, 28, 182, 1, 167, 153, 0, 7, 4]
abbrev dktX13_otherLaw_0 : List UInt8 := dkwX13_otherLaw_0 ++ dktX13_otherLaw_1
theorem dksX13_otherLaw_0 : cX13_otherLaw.data.toList.drop 0 = dktX13_otherLaw_0 := by decide +kernel
theorem dksX13_otherLaw_1 : cX13_otherLaw.data.toList.drop 23 = dktX13_otherLaw_1 := dk_seg dksX13_otherLaw_0 23 rfl rfl
theorem dksX13_otherLaw_2 : cX13_otherLaw.data.toList.drop 47 = dktX13_otherLaw_2 := dk_seg dksX13_otherLaw_1 24 rfl rfl
theorem dksX13_otherLaw_3 : cX13_otherLaw.data.toList.drop 69 = dktX13_otherLaw_3 := dk_seg dksX13_otherLaw_2 22 rfl rfl
theorem dX13_otherLaw_0 : decode cX13_otherLaw 0 = .ok (.aload_n 0, 1) := dk_42 (dk_at dksX13_otherLaw_0 0 rfl rfl)
theorem dX13_otherLaw_1 : decode cX13_otherLaw 1 = .ok (.iconst 0, 1) := dk_3 (dk_at dksX13_otherLaw_0 1 rfl rfl)
theorem dX13_otherLaw_2 : decode cX13_otherLaw 2 = .ok (.putfield 39, 3) := dk_181 0 39 (dk_at dksX13_otherLaw_0 2 rfl rfl)
theorem dX13_otherLaw_5 : decode cX13_otherLaw 5 = .ok (.aload_n 0, 1) := dk_42 (dk_at dksX13_otherLaw_0 5 rfl rfl)
theorem dX13_otherLaw_6 : decode cX13_otherLaw 6 = .ok (.aload_n 0, 1) := dk_42 (dk_at dksX13_otherLaw_0 6 rfl rfl)
theorem dX13_otherLaw_7 : decode cX13_otherLaw 7 = .ok (.iload_n 1, 1) := dk_27 (dk_at dksX13_otherLaw_0 7 rfl rfl)
theorem dX13_otherLaw_8 : decode cX13_otherLaw 8 = .ok (.invokevirtual 417, 3) := dk_182 1 161 (dk_at dksX13_otherLaw_0 8 rfl rfl)
theorem dX13_otherLaw_11 : decode cX13_otherLaw 11 = .ok (.ifCond .eq 15, 3) := dk_153 0 15 (dk_at dksX13_otherLaw_0 11 rfl rfl)
theorem dX13_otherLaw_14 : decode cX13_otherLaw 14 = .ok (.aload_n 0, 1) := dk_42 (dk_at dksX13_otherLaw_0 14 rfl rfl)
theorem dX13_otherLaw_15 : decode cX13_otherLaw 15 = .ok (.iload_n 2, 1) := dk_28 (dk_at dksX13_otherLaw_0 15 rfl rfl)
theorem dX13_otherLaw_16 : decode cX13_otherLaw 16 = .ok (.invokevirtual 423, 3) := dk_182 1 167 (dk_at dksX13_otherLaw_0 16 rfl rfl)
theorem dX13_otherLaw_19 : decode cX13_otherLaw 19 = .ok (.ifCond .eq 7, 3) := dk_153 0 7 (dk_at dksX13_otherLaw_0 19 rfl rfl)
theorem dX13_otherLaw_22 : decode cX13_otherLaw 22 = .ok (.iconst 1, 1) := dk_4 (dk_at dksX13_otherLaw_0 22 rfl rfl)
theorem dX13_otherLaw_23 : decode cX13_otherLaw 23 = .ok (.goto 4, 3) := dk_167 0 4 (dk_at dksX13_otherLaw_1 0 rfl rfl)
theorem dX13_otherLaw_26 : decode cX13_otherLaw 26 = .ok (.iconst 0, 1) := dk_3 (dk_at dksX13_otherLaw_1 3 rfl rfl)
theorem dX13_otherLaw_27 : decode cX13_otherLaw 27 = .ok (.iload_n 3, 1) := dk_29 (dk_at dksX13_otherLaw_1 4 rfl rfl)
theorem dX13_otherLaw_28 : decode cX13_otherLaw 28 = .ok (.invokevirtual 429, 3) := dk_182 1 173 (dk_at dksX13_otherLaw_1 5 rfl rfl)
theorem dX13_otherLaw_31 : decode cX13_otherLaw 31 = .ok (.istore 4, 2) := dk_54 4 (dk_at dksX13_otherLaw_1 8 rfl rfl)
theorem dX13_otherLaw_33 : decode cX13_otherLaw 33 = .ok (.iload 4, 2) := dk_21 4 (dk_at dksX13_otherLaw_1 10 rfl rfl)
theorem dX13_otherLaw_35 : decode cX13_otherLaw 35 = .ok (.ifCond .le 12, 3) := dk_158 0 12 (dk_at dksX13_otherLaw_1 12 rfl rfl)
theorem dX13_otherLaw_38 : decode cX13_otherLaw 38 = .ok (.aload_n 0, 1) := dk_42 (dk_at dksX13_otherLaw_1 15 rfl rfl)
theorem dX13_otherLaw_39 : decode cX13_otherLaw 39 = .ok (.iload 4, 2) := dk_21 4 (dk_at dksX13_otherLaw_1 16 rfl rfl)
theorem dX13_otherLaw_41 : decode cX13_otherLaw 41 = .ok (.invokevirtual 45, 3) := dk_182 0 45 (dk_at dksX13_otherLaw_1 18 rfl rfl)
theorem dX13_otherLaw_44 : decode cX13_otherLaw 44 = .ok (.goto 28, 3) := dk_167 0 28 (dk_at dksX13_otherLaw_1 21 rfl rfl)
theorem dX13_otherLaw_47 : decode cX13_otherLaw 47 = .ok (.aload_n 0, 1) := dk_42 (dk_at dksX13_otherLaw_2 0 rfl rfl)
theorem dX13_otherLaw_48 : decode cX13_otherLaw 48 = .ok (.aload_n 0, 1) := dk_42 (dk_at dksX13_otherLaw_2 1 rfl rfl)
theorem dX13_otherLaw_49 : decode cX13_otherLaw 49 = .ok (.aload_n 0, 1) := dk_42 (dk_at dksX13_otherLaw_2 2 rfl rfl)
theorem dX13_otherLaw_50 : decode cX13_otherLaw 50 = .ok (.getfield 21, 3) := dk_180 0 21 (dk_at dksX13_otherLaw_2 3 rfl rfl)
theorem dX13_otherLaw_53 : decode cX13_otherLaw 53 = .ok (.iload_n 1, 1) := dk_27 (dk_at dksX13_otherLaw_2 6 rfl rfl)
theorem dX13_otherLaw_54 : decode cX13_otherLaw 54 = .ok (.aload_n 0, 1) := dk_42 (dk_at dksX13_otherLaw_2 7 rfl rfl)
theorem dX13_otherLaw_55 : decode cX13_otherLaw 55 = .ok (.aload_n 0, 1) := dk_42 (dk_at dksX13_otherLaw_2 8 rfl rfl)
theorem dX13_otherLaw_56 : decode cX13_otherLaw 56 = .ok (.getfield 21, 3) := dk_180 0 21 (dk_at dksX13_otherLaw_2 9 rfl rfl)
theorem dX13_otherLaw_59 : decode cX13_otherLaw 59 = .ok (.iload_n 1, 1) := dk_27 (dk_at dksX13_otherLaw_2 12 rfl rfl)
theorem dX13_otherLaw_60 : decode cX13_otherLaw 60 = .ok (.iload_n 2, 1) := dk_28 (dk_at dksX13_otherLaw_2 13 rfl rfl)
theorem dX13_otherLaw_61 : decode cX13_otherLaw 61 = .ok (.iconst 0, 1) := dk_3 (dk_at dksX13_otherLaw_2 14 rfl rfl)
theorem dX13_otherLaw_62 : decode cX13_otherLaw 62 = .ok (.invokevirtual 407, 3) := dk_182 1 151 (dk_at dksX13_otherLaw_2 15 rfl rfl)
theorem dX13_otherLaw_65 : decode cX13_otherLaw 65 = .ok (.iconst 1, 1) := dk_4 (dk_at dksX13_otherLaw_2 18 rfl rfl)
theorem dX13_otherLaw_66 : decode cX13_otherLaw 66 = .ok (.invokevirtual 411, 3) := dk_182 1 155 (dk_at dksX13_otherLaw_2 19 rfl rfl)
theorem dX13_otherLaw_69 : decode cX13_otherLaw 69 = .ok (.invokevirtual 49, 3) := dk_182 0 49 (dk_at dksX13_otherLaw_3 0 rfl rfl)
theorem dX13_otherLaw_72 : decode cX13_otherLaw 72 = .ok (.ireturn, 1) := dk_172 (dk_at dksX13_otherLaw_3 3 rfl rfl)
abbrev cX13_carries : ByteArray := prog_27_method_77_code
def yX13_carries : MethodName := ⟨RX13, "carries", "(II)I"⟩
def dkwX13_carries_3 : List UInt8 := [167, 0, 4, 3, 96, 54, 4, 132, 5, 1, 167, 255, 208, 42, 21, 4, 182, 0, 49, 172]
abbrev dktX13_carries_3 : List UInt8 := dkwX13_carries_3 ++ []
def dkwX13_carries_2 : List UInt8 := [42, 42, 180, 0, 21, 27, 21, 5, 182, 1, 134, 153, 0, 16, 42, 42, 180, 0, 21, 21, 5, 182, 1, 177]
abbrev dktX13_carries_2 : List UInt8 := dkwX13_carries_2 ++ dktX13_carries_3
def dkwX13_carries_1 : List UInt8 := [182, 0, 45, 172, 3, 54, 4, 3, 54, 5, 21, 5, 42, 180, 1, 111, 180, 1, 31, 162, 0, 42, 21, 4]
abbrev dktX13_carries_1 : List UInt8 := dkwX13_carries_1 ++ dktX13_carries_2
def dkwX13_carries_0 : List UInt8 := [42, 3, 181, 0, 39, 42, 42, 27, 182, 1, 161, 28, 182, 1, 173, 62, 29, 158, 0, 9, 42, 29]
abbrev dktX13_carries_0 : List UInt8 := dkwX13_carries_0 ++ dktX13_carries_1
theorem dksX13_carries_0 : cX13_carries.data.toList.drop 0 = dktX13_carries_0 := by decide +kernel
theorem dksX13_carries_1 : cX13_carries.data.toList.drop 22 = dktX13_carries_1 := dk_seg dksX13_carries_0 22 rfl rfl
theorem dksX13_carries_2 : cX13_carries.data.toList.drop 46 = dktX13_carries_2 := dk_seg dksX13_carries_1 24 rfl rfl
theorem dksX13_carries_3 : cX13_carries.data.toList.drop 70 = dktX13_carries_3 := dk_seg dksX13_carries_2 24 rfl rfl
theorem dX13_carries_0 : decode cX13_carries 0 = .ok (.aload_n 0, 1) := dk_42 (dk_at dksX13_carries_0 0 rfl rfl)
theorem dX13_carries_1 : decode cX13_carries 1 = .ok (.iconst 0, 1) := dk_3 (dk_at dksX13_carries_0 1 rfl rfl)
theorem dX13_carries_2 : decode cX13_carries 2 = .ok (.putfield 39, 3) := dk_181 0 39 (dk_at dksX13_carries_0 2 rfl rfl)
theorem dX13_carries_5 : decode cX13_carries 5 = .ok (.aload_n 0, 1) := dk_42 (dk_at dksX13_carries_0 5 rfl rfl)
theorem dX13_carries_6 : decode cX13_carries 6 = .ok (.aload_n 0, 1) := dk_42 (dk_at dksX13_carries_0 6 rfl rfl)
theorem dX13_carries_7 : decode cX13_carries 7 = .ok (.iload_n 1, 1) := dk_27 (dk_at dksX13_carries_0 7 rfl rfl)
theorem dX13_carries_8 : decode cX13_carries 8 = .ok (.invokevirtual 417, 3) := dk_182 1 161 (dk_at dksX13_carries_0 8 rfl rfl)
theorem dX13_carries_11 : decode cX13_carries 11 = .ok (.iload_n 2, 1) := dk_28 (dk_at dksX13_carries_0 11 rfl rfl)
theorem dX13_carries_12 : decode cX13_carries 12 = .ok (.invokevirtual 429, 3) := dk_182 1 173 (dk_at dksX13_carries_0 12 rfl rfl)
theorem dX13_carries_15 : decode cX13_carries 15 = .ok (.istore_n 3, 1) := dk_62 (dk_at dksX13_carries_0 15 rfl rfl)
theorem dX13_carries_16 : decode cX13_carries 16 = .ok (.iload_n 3, 1) := dk_29 (dk_at dksX13_carries_0 16 rfl rfl)
theorem dX13_carries_17 : decode cX13_carries 17 = .ok (.ifCond .le 9, 3) := dk_158 0 9 (dk_at dksX13_carries_0 17 rfl rfl)
theorem dX13_carries_20 : decode cX13_carries 20 = .ok (.aload_n 0, 1) := dk_42 (dk_at dksX13_carries_0 20 rfl rfl)
theorem dX13_carries_21 : decode cX13_carries 21 = .ok (.iload_n 3, 1) := dk_29 (dk_at dksX13_carries_0 21 rfl rfl)
theorem dX13_carries_22 : decode cX13_carries 22 = .ok (.invokevirtual 45, 3) := dk_182 0 45 (dk_at dksX13_carries_1 0 rfl rfl)
theorem dX13_carries_25 : decode cX13_carries 25 = .ok (.ireturn, 1) := dk_172 (dk_at dksX13_carries_1 3 rfl rfl)
theorem dX13_carries_26 : decode cX13_carries 26 = .ok (.iconst 0, 1) := dk_3 (dk_at dksX13_carries_1 4 rfl rfl)
theorem dX13_carries_27 : decode cX13_carries 27 = .ok (.istore 4, 2) := dk_54 4 (dk_at dksX13_carries_1 5 rfl rfl)
theorem dX13_carries_29 : decode cX13_carries 29 = .ok (.iconst 0, 1) := dk_3 (dk_at dksX13_carries_1 7 rfl rfl)
theorem dX13_carries_30 : decode cX13_carries 30 = .ok (.istore 5, 2) := dk_54 5 (dk_at dksX13_carries_1 8 rfl rfl)
theorem dX13_carries_32 : decode cX13_carries 32 = .ok (.iload 5, 2) := dk_21 5 (dk_at dksX13_carries_1 10 rfl rfl)
theorem dX13_carries_34 : decode cX13_carries 34 = .ok (.aload_n 0, 1) := dk_42 (dk_at dksX13_carries_1 12 rfl rfl)
theorem dX13_carries_35 : decode cX13_carries 35 = .ok (.getfield 367, 3) := dk_180 1 111 (dk_at dksX13_carries_1 13 rfl rfl)
theorem dX13_carries_38 : decode cX13_carries 38 = .ok (.getfield 287, 3) := dk_180 1 31 (dk_at dksX13_carries_1 16 rfl rfl)
theorem dX13_carries_41 : decode cX13_carries 41 = .ok (.if_icmp .ge 42, 3) := dk_162 0 42 (dk_at dksX13_carries_1 19 rfl rfl)
theorem dX13_carries_44 : decode cX13_carries 44 = .ok (.iload 4, 2) := dk_21 4 (dk_at dksX13_carries_1 22 rfl rfl)
theorem dX13_carries_46 : decode cX13_carries 46 = .ok (.aload_n 0, 1) := dk_42 (dk_at dksX13_carries_2 0 rfl rfl)
theorem dX13_carries_47 : decode cX13_carries 47 = .ok (.aload_n 0, 1) := dk_42 (dk_at dksX13_carries_2 1 rfl rfl)
theorem dX13_carries_48 : decode cX13_carries 48 = .ok (.getfield 21, 3) := dk_180 0 21 (dk_at dksX13_carries_2 2 rfl rfl)
theorem dX13_carries_51 : decode cX13_carries 51 = .ok (.iload_n 1, 1) := dk_27 (dk_at dksX13_carries_2 5 rfl rfl)
theorem dX13_carries_52 : decode cX13_carries 52 = .ok (.iload 5, 2) := dk_21 5 (dk_at dksX13_carries_2 6 rfl rfl)
theorem dX13_carries_54 : decode cX13_carries 54 = .ok (.invokevirtual 390, 3) := dk_182 1 134 (dk_at dksX13_carries_2 8 rfl rfl)
theorem dX13_carries_57 : decode cX13_carries 57 = .ok (.ifCond .eq 16, 3) := dk_153 0 16 (dk_at dksX13_carries_2 11 rfl rfl)
theorem dX13_carries_60 : decode cX13_carries 60 = .ok (.aload_n 0, 1) := dk_42 (dk_at dksX13_carries_2 14 rfl rfl)
theorem dX13_carries_61 : decode cX13_carries 61 = .ok (.aload_n 0, 1) := dk_42 (dk_at dksX13_carries_2 15 rfl rfl)
theorem dX13_carries_62 : decode cX13_carries 62 = .ok (.getfield 21, 3) := dk_180 0 21 (dk_at dksX13_carries_2 16 rfl rfl)
theorem dX13_carries_65 : decode cX13_carries 65 = .ok (.iload 5, 2) := dk_21 5 (dk_at dksX13_carries_2 19 rfl rfl)
theorem dX13_carries_67 : decode cX13_carries 67 = .ok (.invokevirtual 433, 3) := dk_182 1 177 (dk_at dksX13_carries_2 21 rfl rfl)
theorem dX13_carries_70 : decode cX13_carries 70 = .ok (.goto 4, 3) := dk_167 0 4 (dk_at dksX13_carries_3 0 rfl rfl)
theorem dX13_carries_73 : decode cX13_carries 73 = .ok (.iconst 0, 1) := dk_3 (dk_at dksX13_carries_3 3 rfl rfl)
theorem dX13_carries_74 : decode cX13_carries 74 = .ok (.iadd, 1) := dk_96 (dk_at dksX13_carries_3 4 rfl rfl)
theorem dX13_carries_75 : decode cX13_carries 75 = .ok (.istore 4, 2) := dk_54 4 (dk_at dksX13_carries_3 5 rfl rfl)
theorem dX13_carries_77 : decode cX13_carries 77 = .ok (.iinc 5 1, 3) := dk_132 5 1 (dk_at dksX13_carries_3 7 rfl rfl)
theorem dX13_carries_80 : decode cX13_carries 80 = .ok (.goto (-48), 3) := dk_167 255 208 (dk_at dksX13_carries_3 10 rfl rfl)
theorem dX13_carries_83 : decode cX13_carries 83 = .ok (.aload_n 0, 1) := dk_42 (dk_at dksX13_carries_3 13 rfl rfl)
theorem dX13_carries_84 : decode cX13_carries 84 = .ok (.iload 4, 2) := dk_21 4 (dk_at dksX13_carries_3 14 rfl rfl)
theorem dX13_carries_86 : decode cX13_carries 86 = .ok (.invokevirtual 49, 3) := dk_182 0 49 (dk_at dksX13_carries_3 16 rfl rfl)
theorem dX13_carries_89 : decode cX13_carries 89 = .ok (.ireturn, 1) := dk_172 (dk_at dksX13_carries_3 19 rfl rfl)
abbrev cX13_dutyBy : ByteArray := prog_27_method_78_code
def yX13_dutyBy : MethodName := ⟨RX13, "dutyBy", "(II)I"⟩
def dkwX13_dutyBy_4 : List UInt8 := [167, 255, 195, 42, 21, 4, 182, 0, 49, 172]
abbrev dktX13_dutyBy_4 : List UInt8 := dkwX13_dutyBy_4 ++ []
def dkwX13_dutyBy_3 : List UInt8 := [154, 0, 17, 42, 42, 180, 0, 21, 21, 5, 3, 182, 1, 148, 167, 0, 4, 3, 96, 54, 4, 132, 5, 1]
abbrev dktX13_dutyBy_3 : List UInt8 := dkwX13_dutyBy_3 ++ dktX13_dutyBy_4
def dkwX13_dutyBy_2 : List UInt8 := [42, 180, 1, 111, 180, 1, 52, 21, 5, 46, 27, 160, 0, 29, 42, 180, 0, 21, 3, 21, 5, 96, 46]
abbrev dktX13_dutyBy_2 : List UInt8 := dkwX13_dutyBy_2 ++ dktX13_dutyBy_3
def dkwX13_dutyBy_1 : List UInt8 := [182, 0, 45, 172, 3, 54, 4, 3, 54, 5, 21, 5, 42, 180, 1, 111, 180, 1, 31, 162, 0, 55, 21, 4]
abbrev dktX13_dutyBy_1 : List UInt8 := dkwX13_dutyBy_1 ++ dktX13_dutyBy_2
def dkwX13_dutyBy_0 : List UInt8 := [42, 3, 181, 0, 39, 42, 42, 27, 182, 1, 183, 28, 182, 1, 173, 62, 29, 158, 0, 9, 42, 29]
abbrev dktX13_dutyBy_0 : List UInt8 := dkwX13_dutyBy_0 ++ dktX13_dutyBy_1
theorem dksX13_dutyBy_0 : cX13_dutyBy.data.toList.drop 0 = dktX13_dutyBy_0 := by decide +kernel
theorem dksX13_dutyBy_1 : cX13_dutyBy.data.toList.drop 22 = dktX13_dutyBy_1 := dk_seg dksX13_dutyBy_0 22 rfl rfl
theorem dksX13_dutyBy_2 : cX13_dutyBy.data.toList.drop 46 = dktX13_dutyBy_2 := dk_seg dksX13_dutyBy_1 24 rfl rfl
theorem dksX13_dutyBy_3 : cX13_dutyBy.data.toList.drop 69 = dktX13_dutyBy_3 := dk_seg dksX13_dutyBy_2 23 rfl rfl
theorem dksX13_dutyBy_4 : cX13_dutyBy.data.toList.drop 93 = dktX13_dutyBy_4 := dk_seg dksX13_dutyBy_3 24 rfl rfl
theorem dX13_dutyBy_0 : decode cX13_dutyBy 0 = .ok (.aload_n 0, 1) := dk_42 (dk_at dksX13_dutyBy_0 0 rfl rfl)
theorem dX13_dutyBy_1 : decode cX13_dutyBy 1 = .ok (.iconst 0, 1) := dk_3 (dk_at dksX13_dutyBy_0 1 rfl rfl)
theorem dX13_dutyBy_2 : decode cX13_dutyBy 2 = .ok (.putfield 39, 3) := dk_181 0 39 (dk_at dksX13_dutyBy_0 2 rfl rfl)
theorem dX13_dutyBy_5 : decode cX13_dutyBy 5 = .ok (.aload_n 0, 1) := dk_42 (dk_at dksX13_dutyBy_0 5 rfl rfl)
theorem dX13_dutyBy_6 : decode cX13_dutyBy 6 = .ok (.aload_n 0, 1) := dk_42 (dk_at dksX13_dutyBy_0 6 rfl rfl)
theorem dX13_dutyBy_7 : decode cX13_dutyBy 7 = .ok (.iload_n 1, 1) := dk_27 (dk_at dksX13_dutyBy_0 7 rfl rfl)
theorem dX13_dutyBy_8 : decode cX13_dutyBy 8 = .ok (.invokevirtual 439, 3) := dk_182 1 183 (dk_at dksX13_dutyBy_0 8 rfl rfl)
theorem dX13_dutyBy_11 : decode cX13_dutyBy 11 = .ok (.iload_n 2, 1) := dk_28 (dk_at dksX13_dutyBy_0 11 rfl rfl)
theorem dX13_dutyBy_12 : decode cX13_dutyBy 12 = .ok (.invokevirtual 429, 3) := dk_182 1 173 (dk_at dksX13_dutyBy_0 12 rfl rfl)
theorem dX13_dutyBy_15 : decode cX13_dutyBy 15 = .ok (.istore_n 3, 1) := dk_62 (dk_at dksX13_dutyBy_0 15 rfl rfl)
theorem dX13_dutyBy_16 : decode cX13_dutyBy 16 = .ok (.iload_n 3, 1) := dk_29 (dk_at dksX13_dutyBy_0 16 rfl rfl)
theorem dX13_dutyBy_17 : decode cX13_dutyBy 17 = .ok (.ifCond .le 9, 3) := dk_158 0 9 (dk_at dksX13_dutyBy_0 17 rfl rfl)
theorem dX13_dutyBy_20 : decode cX13_dutyBy 20 = .ok (.aload_n 0, 1) := dk_42 (dk_at dksX13_dutyBy_0 20 rfl rfl)
theorem dX13_dutyBy_21 : decode cX13_dutyBy 21 = .ok (.iload_n 3, 1) := dk_29 (dk_at dksX13_dutyBy_0 21 rfl rfl)
theorem dX13_dutyBy_22 : decode cX13_dutyBy 22 = .ok (.invokevirtual 45, 3) := dk_182 0 45 (dk_at dksX13_dutyBy_1 0 rfl rfl)
theorem dX13_dutyBy_25 : decode cX13_dutyBy 25 = .ok (.ireturn, 1) := dk_172 (dk_at dksX13_dutyBy_1 3 rfl rfl)
theorem dX13_dutyBy_26 : decode cX13_dutyBy 26 = .ok (.iconst 0, 1) := dk_3 (dk_at dksX13_dutyBy_1 4 rfl rfl)
theorem dX13_dutyBy_27 : decode cX13_dutyBy 27 = .ok (.istore 4, 2) := dk_54 4 (dk_at dksX13_dutyBy_1 5 rfl rfl)
theorem dX13_dutyBy_29 : decode cX13_dutyBy 29 = .ok (.iconst 0, 1) := dk_3 (dk_at dksX13_dutyBy_1 7 rfl rfl)
theorem dX13_dutyBy_30 : decode cX13_dutyBy 30 = .ok (.istore 5, 2) := dk_54 5 (dk_at dksX13_dutyBy_1 8 rfl rfl)
theorem dX13_dutyBy_32 : decode cX13_dutyBy 32 = .ok (.iload 5, 2) := dk_21 5 (dk_at dksX13_dutyBy_1 10 rfl rfl)
theorem dX13_dutyBy_34 : decode cX13_dutyBy 34 = .ok (.aload_n 0, 1) := dk_42 (dk_at dksX13_dutyBy_1 12 rfl rfl)
theorem dX13_dutyBy_35 : decode cX13_dutyBy 35 = .ok (.getfield 367, 3) := dk_180 1 111 (dk_at dksX13_dutyBy_1 13 rfl rfl)
theorem dX13_dutyBy_38 : decode cX13_dutyBy 38 = .ok (.getfield 287, 3) := dk_180 1 31 (dk_at dksX13_dutyBy_1 16 rfl rfl)
theorem dX13_dutyBy_41 : decode cX13_dutyBy 41 = .ok (.if_icmp .ge 55, 3) := dk_162 0 55 (dk_at dksX13_dutyBy_1 19 rfl rfl)
theorem dX13_dutyBy_44 : decode cX13_dutyBy 44 = .ok (.iload 4, 2) := dk_21 4 (dk_at dksX13_dutyBy_1 22 rfl rfl)
theorem dX13_dutyBy_46 : decode cX13_dutyBy 46 = .ok (.aload_n 0, 1) := dk_42 (dk_at dksX13_dutyBy_2 0 rfl rfl)
theorem dX13_dutyBy_47 : decode cX13_dutyBy 47 = .ok (.getfield 367, 3) := dk_180 1 111 (dk_at dksX13_dutyBy_2 1 rfl rfl)
theorem dX13_dutyBy_50 : decode cX13_dutyBy 50 = .ok (.getfield 308, 3) := dk_180 1 52 (dk_at dksX13_dutyBy_2 4 rfl rfl)
theorem dX13_dutyBy_53 : decode cX13_dutyBy 53 = .ok (.iload 5, 2) := dk_21 5 (dk_at dksX13_dutyBy_2 7 rfl rfl)
theorem dX13_dutyBy_55 : decode cX13_dutyBy 55 = .ok (.iaload, 1) := dk_46 (dk_at dksX13_dutyBy_2 9 rfl rfl)
theorem dX13_dutyBy_56 : decode cX13_dutyBy 56 = .ok (.iload_n 1, 1) := dk_27 (dk_at dksX13_dutyBy_2 10 rfl rfl)
theorem dX13_dutyBy_57 : decode cX13_dutyBy 57 = .ok (.if_icmp .ne 29, 3) := dk_160 0 29 (dk_at dksX13_dutyBy_2 11 rfl rfl)
theorem dX13_dutyBy_60 : decode cX13_dutyBy 60 = .ok (.aload_n 0, 1) := dk_42 (dk_at dksX13_dutyBy_2 14 rfl rfl)
theorem dX13_dutyBy_61 : decode cX13_dutyBy 61 = .ok (.getfield 21, 3) := dk_180 0 21 (dk_at dksX13_dutyBy_2 15 rfl rfl)
theorem dX13_dutyBy_64 : decode cX13_dutyBy 64 = .ok (.iconst 0, 1) := dk_3 (dk_at dksX13_dutyBy_2 18 rfl rfl)
theorem dX13_dutyBy_65 : decode cX13_dutyBy 65 = .ok (.iload 5, 2) := dk_21 5 (dk_at dksX13_dutyBy_2 19 rfl rfl)
theorem dX13_dutyBy_67 : decode cX13_dutyBy 67 = .ok (.iadd, 1) := dk_96 (dk_at dksX13_dutyBy_2 21 rfl rfl)
theorem dX13_dutyBy_68 : decode cX13_dutyBy 68 = .ok (.iaload, 1) := dk_46 (dk_at dksX13_dutyBy_2 22 rfl rfl)
theorem dX13_dutyBy_69 : decode cX13_dutyBy 69 = .ok (.ifCond .ne 17, 3) := dk_154 0 17 (dk_at dksX13_dutyBy_3 0 rfl rfl)
theorem dX13_dutyBy_72 : decode cX13_dutyBy 72 = .ok (.aload_n 0, 1) := dk_42 (dk_at dksX13_dutyBy_3 3 rfl rfl)
theorem dX13_dutyBy_73 : decode cX13_dutyBy 73 = .ok (.aload_n 0, 1) := dk_42 (dk_at dksX13_dutyBy_3 4 rfl rfl)
theorem dX13_dutyBy_74 : decode cX13_dutyBy 74 = .ok (.getfield 21, 3) := dk_180 0 21 (dk_at dksX13_dutyBy_3 5 rfl rfl)
theorem dX13_dutyBy_77 : decode cX13_dutyBy 77 = .ok (.iload 5, 2) := dk_21 5 (dk_at dksX13_dutyBy_3 8 rfl rfl)
theorem dX13_dutyBy_79 : decode cX13_dutyBy 79 = .ok (.iconst 0, 1) := dk_3 (dk_at dksX13_dutyBy_3 10 rfl rfl)
theorem dX13_dutyBy_80 : decode cX13_dutyBy 80 = .ok (.invokevirtual 404, 3) := dk_182 1 148 (dk_at dksX13_dutyBy_3 11 rfl rfl)
theorem dX13_dutyBy_83 : decode cX13_dutyBy 83 = .ok (.goto 4, 3) := dk_167 0 4 (dk_at dksX13_dutyBy_3 14 rfl rfl)
theorem dX13_dutyBy_86 : decode cX13_dutyBy 86 = .ok (.iconst 0, 1) := dk_3 (dk_at dksX13_dutyBy_3 17 rfl rfl)
theorem dX13_dutyBy_87 : decode cX13_dutyBy 87 = .ok (.iadd, 1) := dk_96 (dk_at dksX13_dutyBy_3 18 rfl rfl)
theorem dX13_dutyBy_88 : decode cX13_dutyBy 88 = .ok (.istore 4, 2) := dk_54 4 (dk_at dksX13_dutyBy_3 19 rfl rfl)
theorem dX13_dutyBy_90 : decode cX13_dutyBy 90 = .ok (.iinc 5 1, 3) := dk_132 5 1 (dk_at dksX13_dutyBy_3 21 rfl rfl)
theorem dX13_dutyBy_93 : decode cX13_dutyBy 93 = .ok (.goto (-61), 3) := dk_167 255 195 (dk_at dksX13_dutyBy_4 0 rfl rfl)
theorem dX13_dutyBy_96 : decode cX13_dutyBy 96 = .ok (.aload_n 0, 1) := dk_42 (dk_at dksX13_dutyBy_4 3 rfl rfl)
theorem dX13_dutyBy_97 : decode cX13_dutyBy 97 = .ok (.iload 4, 2) := dk_21 4 (dk_at dksX13_dutyBy_4 4 rfl rfl)
theorem dX13_dutyBy_99 : decode cX13_dutyBy 99 = .ok (.invokevirtual 49, 3) := dk_182 0 49 (dk_at dksX13_dutyBy_4 6 rfl rfl)
theorem dX13_dutyBy_102 : decode cX13_dutyBy 102 = .ok (.ireturn, 1) := dk_172 (dk_at dksX13_dutyBy_4 9 rfl rfl)
abbrev cX13_isMeans : ByteArray := prog_27_method_50_code
def yX13_isMeans : MethodName := ⟨RX13, "isMeans", "(I)Z"⟩
def dkwX13_isMeans_1 : List UInt8 := [167, 0, 4, 3, 172]
abbrev dktX13_isMeans_1 : List UInt8 := dkwX13_isMeans_1 ++ []
def dkwX13_isMeans_0 : List UInt8 := [42, 180, 1, 111, 198, 0, 22, 27, 155, 0, 18, 27, 42, 180, 1, 111, 180, 0, 233, 162, 0, 7, 4]
abbrev dktX13_isMeans_0 : List UInt8 := dkwX13_isMeans_0 ++ dktX13_isMeans_1
theorem dksX13_isMeans_0 : cX13_isMeans.data.toList.drop 0 = dktX13_isMeans_0 := by decide +kernel
theorem dksX13_isMeans_1 : cX13_isMeans.data.toList.drop 23 = dktX13_isMeans_1 := dk_seg dksX13_isMeans_0 23 rfl rfl
theorem dX13_isMeans_0 : decode cX13_isMeans 0 = .ok (.aload_n 0, 1) := dk_42 (dk_at dksX13_isMeans_0 0 rfl rfl)
theorem dX13_isMeans_1 : decode cX13_isMeans 1 = .ok (.getfield 367, 3) := dk_180 1 111 (dk_at dksX13_isMeans_0 1 rfl rfl)
theorem dX13_isMeans_4 : decode cX13_isMeans 4 = .ok (.ifnull 22, 3) := dk_198 0 22 (dk_at dksX13_isMeans_0 4 rfl rfl)
theorem dX13_isMeans_7 : decode cX13_isMeans 7 = .ok (.iload_n 1, 1) := dk_27 (dk_at dksX13_isMeans_0 7 rfl rfl)
theorem dX13_isMeans_8 : decode cX13_isMeans 8 = .ok (.ifCond .lt 18, 3) := dk_155 0 18 (dk_at dksX13_isMeans_0 8 rfl rfl)
theorem dX13_isMeans_11 : decode cX13_isMeans 11 = .ok (.iload_n 1, 1) := dk_27 (dk_at dksX13_isMeans_0 11 rfl rfl)
theorem dX13_isMeans_12 : decode cX13_isMeans 12 = .ok (.aload_n 0, 1) := dk_42 (dk_at dksX13_isMeans_0 12 rfl rfl)
theorem dX13_isMeans_13 : decode cX13_isMeans 13 = .ok (.getfield 367, 3) := dk_180 1 111 (dk_at dksX13_isMeans_0 13 rfl rfl)
theorem dX13_isMeans_16 : decode cX13_isMeans 16 = .ok (.getfield 233, 3) := dk_180 0 233 (dk_at dksX13_isMeans_0 16 rfl rfl)
theorem dX13_isMeans_19 : decode cX13_isMeans 19 = .ok (.if_icmp .ge 7, 3) := dk_162 0 7 (dk_at dksX13_isMeans_0 19 rfl rfl)
theorem dX13_isMeans_22 : decode cX13_isMeans 22 = .ok (.iconst 1, 1) := dk_4 (dk_at dksX13_isMeans_0 22 rfl rfl)
theorem dX13_isMeans_23 : decode cX13_isMeans 23 = .ok (.goto 4, 3) := dk_167 0 4 (dk_at dksX13_isMeans_1 0 rfl rfl)
theorem dX13_isMeans_26 : decode cX13_isMeans 26 = .ok (.iconst 0, 1) := dk_3 (dk_at dksX13_isMeans_1 3 rfl rfl)
theorem dX13_isMeans_27 : decode cX13_isMeans 27 = .ok (.ireturn, 1) := dk_172 (dk_at dksX13_isMeans_1 4 rfl rfl)
abbrev cX13_nearest : ByteArray := prog_27_method_79_code
def yX13_nearest : MethodName := ⟨RX13, "nearest", "(III)I"⟩
def dkwX13_nearest_7 : List UInt8 := [182, 0, 49, 172]
abbrev dktX13_nearest_7 : List UInt8 := dkwX13_nearest_7 ++ []
def dkwX13_nearest_6 : List UInt8 := [21, 6, 3, 182, 1, 144, 164, 0, 7, 21, 7, 54, 6, 132, 7, 1, 167, 255, 165, 42, 21, 6]
abbrev dktX13_nearest_6 : List UInt8 := dkwX13_nearest_6 ++ dktX13_nearest_7
def dkwX13_nearest_5 : List UInt8 := [21, 6, 16, 254, 159, 0, 28, 42, 42, 180, 0, 21, 21, 7, 3, 182, 1, 144, 42, 42, 180, 0, 21]
abbrev dktX13_nearest_5 : List UInt8 := dkwX13_nearest_5 ++ dktX13_nearest_6
def dkwX13_nearest_4 : List UInt8 := [180, 0, 21, 21, 7, 182, 1, 141, 153, 0, 52, 21, 5, 21, 7, 184, 1, 63, 153, 0, 6, 167, 0, 39]
abbrev dktX13_nearest_4 : List UInt8 := dkwX13_nearest_4 ++ dktX13_nearest_5
def dkwX13_nearest_3 : List UInt8 := [180, 1, 31, 162, 0, 85, 42, 42, 180, 0, 21, 27, 21, 7, 182, 1, 134, 153, 0, 65, 42, 42]
abbrev dktX13_nearest_3 : List UInt8 := dkwX13_nearest_3 ++ dktX13_nearest_4
def dkwX13_nearest_2 : List UInt8 := [180, 0, 21, 27, 28, 3, 182, 1, 151, 54, 5, 16, 254, 54, 6, 3, 54, 7, 21, 7, 42, 180, 1, 111]
abbrev dktX13_nearest_2 : List UInt8 := dkwX13_nearest_2 ++ dktX13_nearest_3
def dkwX13_nearest_1 : List UInt8 := [167, 0, 4, 3, 29, 182, 1, 173, 54, 4, 21, 4, 158, 0, 10, 42, 21, 4, 182, 0, 45, 172, 42, 42]
abbrev dktX13_nearest_1 : List UInt8 := dkwX13_nearest_1 ++ dktX13_nearest_2
def dkwX13_nearest_0 : List UInt8 := [42, 3, 181, 0, 39, 42, 42, 27, 182, 1, 161, 153, 0, 15, 42, 28, 182, 1, 167, 153, 0, 7, 4]
abbrev dktX13_nearest_0 : List UInt8 := dkwX13_nearest_0 ++ dktX13_nearest_1
theorem dksX13_nearest_0 : cX13_nearest.data.toList.drop 0 = dktX13_nearest_0 := by decide +kernel
theorem dksX13_nearest_1 : cX13_nearest.data.toList.drop 23 = dktX13_nearest_1 := dk_seg dksX13_nearest_0 23 rfl rfl
theorem dksX13_nearest_2 : cX13_nearest.data.toList.drop 47 = dktX13_nearest_2 := dk_seg dksX13_nearest_1 24 rfl rfl
theorem dksX13_nearest_3 : cX13_nearest.data.toList.drop 71 = dktX13_nearest_3 := dk_seg dksX13_nearest_2 24 rfl rfl
theorem dksX13_nearest_4 : cX13_nearest.data.toList.drop 93 = dktX13_nearest_4 := dk_seg dksX13_nearest_3 22 rfl rfl
theorem dksX13_nearest_5 : cX13_nearest.data.toList.drop 117 = dktX13_nearest_5 := dk_seg dksX13_nearest_4 24 rfl rfl
theorem dksX13_nearest_6 : cX13_nearest.data.toList.drop 140 = dktX13_nearest_6 := dk_seg dksX13_nearest_5 23 rfl rfl
theorem dksX13_nearest_7 : cX13_nearest.data.toList.drop 162 = dktX13_nearest_7 := dk_seg dksX13_nearest_6 22 rfl rfl
theorem dX13_nearest_0 : decode cX13_nearest 0 = .ok (.aload_n 0, 1) := dk_42 (dk_at dksX13_nearest_0 0 rfl rfl)
theorem dX13_nearest_1 : decode cX13_nearest 1 = .ok (.iconst 0, 1) := dk_3 (dk_at dksX13_nearest_0 1 rfl rfl)
theorem dX13_nearest_2 : decode cX13_nearest 2 = .ok (.putfield 39, 3) := dk_181 0 39 (dk_at dksX13_nearest_0 2 rfl rfl)
theorem dX13_nearest_5 : decode cX13_nearest 5 = .ok (.aload_n 0, 1) := dk_42 (dk_at dksX13_nearest_0 5 rfl rfl)
theorem dX13_nearest_6 : decode cX13_nearest 6 = .ok (.aload_n 0, 1) := dk_42 (dk_at dksX13_nearest_0 6 rfl rfl)
theorem dX13_nearest_7 : decode cX13_nearest 7 = .ok (.iload_n 1, 1) := dk_27 (dk_at dksX13_nearest_0 7 rfl rfl)
theorem dX13_nearest_8 : decode cX13_nearest 8 = .ok (.invokevirtual 417, 3) := dk_182 1 161 (dk_at dksX13_nearest_0 8 rfl rfl)
theorem dX13_nearest_11 : decode cX13_nearest 11 = .ok (.ifCond .eq 15, 3) := dk_153 0 15 (dk_at dksX13_nearest_0 11 rfl rfl)
theorem dX13_nearest_14 : decode cX13_nearest 14 = .ok (.aload_n 0, 1) := dk_42 (dk_at dksX13_nearest_0 14 rfl rfl)
theorem dX13_nearest_15 : decode cX13_nearest 15 = .ok (.iload_n 2, 1) := dk_28 (dk_at dksX13_nearest_0 15 rfl rfl)
theorem dX13_nearest_16 : decode cX13_nearest 16 = .ok (.invokevirtual 423, 3) := dk_182 1 167 (dk_at dksX13_nearest_0 16 rfl rfl)
theorem dX13_nearest_19 : decode cX13_nearest 19 = .ok (.ifCond .eq 7, 3) := dk_153 0 7 (dk_at dksX13_nearest_0 19 rfl rfl)
theorem dX13_nearest_22 : decode cX13_nearest 22 = .ok (.iconst 1, 1) := dk_4 (dk_at dksX13_nearest_0 22 rfl rfl)
theorem dX13_nearest_23 : decode cX13_nearest 23 = .ok (.goto 4, 3) := dk_167 0 4 (dk_at dksX13_nearest_1 0 rfl rfl)
theorem dX13_nearest_26 : decode cX13_nearest 26 = .ok (.iconst 0, 1) := dk_3 (dk_at dksX13_nearest_1 3 rfl rfl)
theorem dX13_nearest_27 : decode cX13_nearest 27 = .ok (.iload_n 3, 1) := dk_29 (dk_at dksX13_nearest_1 4 rfl rfl)
theorem dX13_nearest_28 : decode cX13_nearest 28 = .ok (.invokevirtual 429, 3) := dk_182 1 173 (dk_at dksX13_nearest_1 5 rfl rfl)
theorem dX13_nearest_31 : decode cX13_nearest 31 = .ok (.istore 4, 2) := dk_54 4 (dk_at dksX13_nearest_1 8 rfl rfl)
theorem dX13_nearest_33 : decode cX13_nearest 33 = .ok (.iload 4, 2) := dk_21 4 (dk_at dksX13_nearest_1 10 rfl rfl)
theorem dX13_nearest_35 : decode cX13_nearest 35 = .ok (.ifCond .le 10, 3) := dk_158 0 10 (dk_at dksX13_nearest_1 12 rfl rfl)
theorem dX13_nearest_38 : decode cX13_nearest 38 = .ok (.aload_n 0, 1) := dk_42 (dk_at dksX13_nearest_1 15 rfl rfl)
theorem dX13_nearest_39 : decode cX13_nearest 39 = .ok (.iload 4, 2) := dk_21 4 (dk_at dksX13_nearest_1 16 rfl rfl)
theorem dX13_nearest_41 : decode cX13_nearest 41 = .ok (.invokevirtual 45, 3) := dk_182 0 45 (dk_at dksX13_nearest_1 18 rfl rfl)
theorem dX13_nearest_44 : decode cX13_nearest 44 = .ok (.ireturn, 1) := dk_172 (dk_at dksX13_nearest_1 21 rfl rfl)
theorem dX13_nearest_45 : decode cX13_nearest 45 = .ok (.aload_n 0, 1) := dk_42 (dk_at dksX13_nearest_1 22 rfl rfl)
theorem dX13_nearest_46 : decode cX13_nearest 46 = .ok (.aload_n 0, 1) := dk_42 (dk_at dksX13_nearest_1 23 rfl rfl)
theorem dX13_nearest_47 : decode cX13_nearest 47 = .ok (.getfield 21, 3) := dk_180 0 21 (dk_at dksX13_nearest_2 0 rfl rfl)
theorem dX13_nearest_50 : decode cX13_nearest 50 = .ok (.iload_n 1, 1) := dk_27 (dk_at dksX13_nearest_2 3 rfl rfl)
theorem dX13_nearest_51 : decode cX13_nearest 51 = .ok (.iload_n 2, 1) := dk_28 (dk_at dksX13_nearest_2 4 rfl rfl)
theorem dX13_nearest_52 : decode cX13_nearest 52 = .ok (.iconst 0, 1) := dk_3 (dk_at dksX13_nearest_2 5 rfl rfl)
theorem dX13_nearest_53 : decode cX13_nearest 53 = .ok (.invokevirtual 407, 3) := dk_182 1 151 (dk_at dksX13_nearest_2 6 rfl rfl)
theorem dX13_nearest_56 : decode cX13_nearest 56 = .ok (.istore 5, 2) := dk_54 5 (dk_at dksX13_nearest_2 9 rfl rfl)
theorem dX13_nearest_58 : decode cX13_nearest 58 = .ok (.bipush (-2), 2) := dk_16 254 (dk_at dksX13_nearest_2 11 rfl rfl)
theorem dX13_nearest_60 : decode cX13_nearest 60 = .ok (.istore 6, 2) := dk_54 6 (dk_at dksX13_nearest_2 13 rfl rfl)
theorem dX13_nearest_62 : decode cX13_nearest 62 = .ok (.iconst 0, 1) := dk_3 (dk_at dksX13_nearest_2 15 rfl rfl)
theorem dX13_nearest_63 : decode cX13_nearest 63 = .ok (.istore 7, 2) := dk_54 7 (dk_at dksX13_nearest_2 16 rfl rfl)
theorem dX13_nearest_65 : decode cX13_nearest 65 = .ok (.iload 7, 2) := dk_21 7 (dk_at dksX13_nearest_2 18 rfl rfl)
theorem dX13_nearest_67 : decode cX13_nearest 67 = .ok (.aload_n 0, 1) := dk_42 (dk_at dksX13_nearest_2 20 rfl rfl)
theorem dX13_nearest_68 : decode cX13_nearest 68 = .ok (.getfield 367, 3) := dk_180 1 111 (dk_at dksX13_nearest_2 21 rfl rfl)
theorem dX13_nearest_71 : decode cX13_nearest 71 = .ok (.getfield 287, 3) := dk_180 1 31 (dk_at dksX13_nearest_3 0 rfl rfl)
theorem dX13_nearest_74 : decode cX13_nearest 74 = .ok (.if_icmp .ge 85, 3) := dk_162 0 85 (dk_at dksX13_nearest_3 3 rfl rfl)
theorem dX13_nearest_77 : decode cX13_nearest 77 = .ok (.aload_n 0, 1) := dk_42 (dk_at dksX13_nearest_3 6 rfl rfl)
theorem dX13_nearest_78 : decode cX13_nearest 78 = .ok (.aload_n 0, 1) := dk_42 (dk_at dksX13_nearest_3 7 rfl rfl)
theorem dX13_nearest_79 : decode cX13_nearest 79 = .ok (.getfield 21, 3) := dk_180 0 21 (dk_at dksX13_nearest_3 8 rfl rfl)
theorem dX13_nearest_82 : decode cX13_nearest 82 = .ok (.iload_n 1, 1) := dk_27 (dk_at dksX13_nearest_3 11 rfl rfl)
theorem dX13_nearest_83 : decode cX13_nearest 83 = .ok (.iload 7, 2) := dk_21 7 (dk_at dksX13_nearest_3 12 rfl rfl)
theorem dX13_nearest_85 : decode cX13_nearest 85 = .ok (.invokevirtual 390, 3) := dk_182 1 134 (dk_at dksX13_nearest_3 14 rfl rfl)
theorem dX13_nearest_88 : decode cX13_nearest 88 = .ok (.ifCond .eq 65, 3) := dk_153 0 65 (dk_at dksX13_nearest_3 17 rfl rfl)
theorem dX13_nearest_91 : decode cX13_nearest 91 = .ok (.aload_n 0, 1) := dk_42 (dk_at dksX13_nearest_3 20 rfl rfl)
theorem dX13_nearest_92 : decode cX13_nearest 92 = .ok (.aload_n 0, 1) := dk_42 (dk_at dksX13_nearest_3 21 rfl rfl)
theorem dX13_nearest_93 : decode cX13_nearest 93 = .ok (.getfield 21, 3) := dk_180 0 21 (dk_at dksX13_nearest_4 0 rfl rfl)
theorem dX13_nearest_96 : decode cX13_nearest 96 = .ok (.iload 7, 2) := dk_21 7 (dk_at dksX13_nearest_4 3 rfl rfl)
theorem dX13_nearest_98 : decode cX13_nearest 98 = .ok (.invokevirtual 397, 3) := dk_182 1 141 (dk_at dksX13_nearest_4 5 rfl rfl)
theorem dX13_nearest_101 : decode cX13_nearest 101 = .ok (.ifCond .eq 52, 3) := dk_153 0 52 (dk_at dksX13_nearest_4 8 rfl rfl)
theorem dX13_nearest_104 : decode cX13_nearest 104 = .ok (.iload 5, 2) := dk_21 5 (dk_at dksX13_nearest_4 11 rfl rfl)
theorem dX13_nearest_106 : decode cX13_nearest 106 = .ok (.iload 7, 2) := dk_21 7 (dk_at dksX13_nearest_4 13 rfl rfl)
theorem dX13_nearest_108 : decode cX13_nearest 108 = .ok (.invokestatic 319, 3) := dk_184 1 63 (dk_at dksX13_nearest_4 15 rfl rfl)
theorem dX13_nearest_111 : decode cX13_nearest 111 = .ok (.ifCond .eq 6, 3) := dk_153 0 6 (dk_at dksX13_nearest_4 18 rfl rfl)
theorem dX13_nearest_114 : decode cX13_nearest 114 = .ok (.goto 39, 3) := dk_167 0 39 (dk_at dksX13_nearest_4 21 rfl rfl)
theorem dX13_nearest_117 : decode cX13_nearest 117 = .ok (.iload 6, 2) := dk_21 6 (dk_at dksX13_nearest_5 0 rfl rfl)
theorem dX13_nearest_119 : decode cX13_nearest 119 = .ok (.bipush (-2), 2) := dk_16 254 (dk_at dksX13_nearest_5 2 rfl rfl)
theorem dX13_nearest_121 : decode cX13_nearest 121 = .ok (.if_icmp .eq 28, 3) := dk_159 0 28 (dk_at dksX13_nearest_5 4 rfl rfl)
theorem dX13_nearest_124 : decode cX13_nearest 124 = .ok (.aload_n 0, 1) := dk_42 (dk_at dksX13_nearest_5 7 rfl rfl)
theorem dX13_nearest_125 : decode cX13_nearest 125 = .ok (.aload_n 0, 1) := dk_42 (dk_at dksX13_nearest_5 8 rfl rfl)
theorem dX13_nearest_126 : decode cX13_nearest 126 = .ok (.getfield 21, 3) := dk_180 0 21 (dk_at dksX13_nearest_5 9 rfl rfl)
theorem dX13_nearest_129 : decode cX13_nearest 129 = .ok (.iload 7, 2) := dk_21 7 (dk_at dksX13_nearest_5 12 rfl rfl)
theorem dX13_nearest_131 : decode cX13_nearest 131 = .ok (.iconst 0, 1) := dk_3 (dk_at dksX13_nearest_5 14 rfl rfl)
theorem dX13_nearest_132 : decode cX13_nearest 132 = .ok (.invokevirtual 400, 3) := dk_182 1 144 (dk_at dksX13_nearest_5 15 rfl rfl)
theorem dX13_nearest_135 : decode cX13_nearest 135 = .ok (.aload_n 0, 1) := dk_42 (dk_at dksX13_nearest_5 18 rfl rfl)
theorem dX13_nearest_136 : decode cX13_nearest 136 = .ok (.aload_n 0, 1) := dk_42 (dk_at dksX13_nearest_5 19 rfl rfl)
theorem dX13_nearest_137 : decode cX13_nearest 137 = .ok (.getfield 21, 3) := dk_180 0 21 (dk_at dksX13_nearest_5 20 rfl rfl)
theorem dX13_nearest_140 : decode cX13_nearest 140 = .ok (.iload 6, 2) := dk_21 6 (dk_at dksX13_nearest_6 0 rfl rfl)
theorem dX13_nearest_142 : decode cX13_nearest 142 = .ok (.iconst 0, 1) := dk_3 (dk_at dksX13_nearest_6 2 rfl rfl)
theorem dX13_nearest_143 : decode cX13_nearest 143 = .ok (.invokevirtual 400, 3) := dk_182 1 144 (dk_at dksX13_nearest_6 3 rfl rfl)
theorem dX13_nearest_146 : decode cX13_nearest 146 = .ok (.if_icmp .le 7, 3) := dk_164 0 7 (dk_at dksX13_nearest_6 6 rfl rfl)
theorem dX13_nearest_149 : decode cX13_nearest 149 = .ok (.iload 7, 2) := dk_21 7 (dk_at dksX13_nearest_6 9 rfl rfl)
theorem dX13_nearest_151 : decode cX13_nearest 151 = .ok (.istore 6, 2) := dk_54 6 (dk_at dksX13_nearest_6 11 rfl rfl)
theorem dX13_nearest_153 : decode cX13_nearest 153 = .ok (.iinc 7 1, 3) := dk_132 7 1 (dk_at dksX13_nearest_6 13 rfl rfl)
theorem dX13_nearest_156 : decode cX13_nearest 156 = .ok (.goto (-91), 3) := dk_167 255 165 (dk_at dksX13_nearest_6 16 rfl rfl)
theorem dX13_nearest_159 : decode cX13_nearest 159 = .ok (.aload_n 0, 1) := dk_42 (dk_at dksX13_nearest_6 19 rfl rfl)
theorem dX13_nearest_160 : decode cX13_nearest 160 = .ok (.iload 6, 2) := dk_21 6 (dk_at dksX13_nearest_6 20 rfl rfl)
theorem dX13_nearest_162 : decode cX13_nearest 162 = .ok (.invokevirtual 49, 3) := dk_182 0 49 (dk_at dksX13_nearest_7 0 rfl rfl)
theorem dX13_nearest_165 : decode cX13_nearest 165 = .ok (.ireturn, 1) := dk_172 (dk_at dksX13_nearest_7 3 rfl rfl)
abbrev cX13_bestGate : ByteArray := prog_27_method_80_code
def yX13_bestGate : MethodName := ⟨RX13, "bestGate", "(II)I"⟩
def dkwX13_bestGate_3 : List UInt8 := [21, 5, 54, 4, 132, 5, 1, 167, 255, 212, 42, 21, 4, 182, 0, 49, 172]
abbrev dktX13_bestGate_3 : List UInt8 := dkwX13_bestGate_3 ++ []
def dkwX13_bestGate_2 : List UInt8 := [180, 0, 21, 27, 21, 5, 182, 1, 180, 42, 42, 180, 0, 21, 27, 21, 4, 182, 1, 180, 162, 0, 7]
abbrev dktX13_bestGate_2 : List UInt8 := dkwX13_bestGate_2 ++ dktX13_bestGate_3
def dkwX13_bestGate_1 : List UInt8 := [182, 0, 45, 172, 3, 54, 4, 4, 54, 5, 21, 5, 42, 180, 1, 111, 180, 0, 194, 162, 0, 38, 42, 42]
abbrev dktX13_bestGate_1 : List UInt8 := dkwX13_bestGate_1 ++ dktX13_bestGate_2
def dkwX13_bestGate_0 : List UInt8 := [42, 3, 181, 0, 39, 42, 42, 27, 182, 1, 161, 28, 182, 1, 173, 62, 29, 158, 0, 9, 42, 29]
abbrev dktX13_bestGate_0 : List UInt8 := dkwX13_bestGate_0 ++ dktX13_bestGate_1
theorem dksX13_bestGate_0 : cX13_bestGate.data.toList.drop 0 = dktX13_bestGate_0 := by decide +kernel
theorem dksX13_bestGate_1 : cX13_bestGate.data.toList.drop 22 = dktX13_bestGate_1 := dk_seg dksX13_bestGate_0 22 rfl rfl
theorem dksX13_bestGate_2 : cX13_bestGate.data.toList.drop 46 = dktX13_bestGate_2 := dk_seg dksX13_bestGate_1 24 rfl rfl
theorem dksX13_bestGate_3 : cX13_bestGate.data.toList.drop 69 = dktX13_bestGate_3 := dk_seg dksX13_bestGate_2 23 rfl rfl
theorem dX13_bestGate_0 : decode cX13_bestGate 0 = .ok (.aload_n 0, 1) := dk_42 (dk_at dksX13_bestGate_0 0 rfl rfl)
theorem dX13_bestGate_1 : decode cX13_bestGate 1 = .ok (.iconst 0, 1) := dk_3 (dk_at dksX13_bestGate_0 1 rfl rfl)
theorem dX13_bestGate_2 : decode cX13_bestGate 2 = .ok (.putfield 39, 3) := dk_181 0 39 (dk_at dksX13_bestGate_0 2 rfl rfl)
theorem dX13_bestGate_5 : decode cX13_bestGate 5 = .ok (.aload_n 0, 1) := dk_42 (dk_at dksX13_bestGate_0 5 rfl rfl)
theorem dX13_bestGate_6 : decode cX13_bestGate 6 = .ok (.aload_n 0, 1) := dk_42 (dk_at dksX13_bestGate_0 6 rfl rfl)
theorem dX13_bestGate_7 : decode cX13_bestGate 7 = .ok (.iload_n 1, 1) := dk_27 (dk_at dksX13_bestGate_0 7 rfl rfl)
theorem dX13_bestGate_8 : decode cX13_bestGate 8 = .ok (.invokevirtual 417, 3) := dk_182 1 161 (dk_at dksX13_bestGate_0 8 rfl rfl)
theorem dX13_bestGate_11 : decode cX13_bestGate 11 = .ok (.iload_n 2, 1) := dk_28 (dk_at dksX13_bestGate_0 11 rfl rfl)
theorem dX13_bestGate_12 : decode cX13_bestGate 12 = .ok (.invokevirtual 429, 3) := dk_182 1 173 (dk_at dksX13_bestGate_0 12 rfl rfl)
theorem dX13_bestGate_15 : decode cX13_bestGate 15 = .ok (.istore_n 3, 1) := dk_62 (dk_at dksX13_bestGate_0 15 rfl rfl)
theorem dX13_bestGate_16 : decode cX13_bestGate 16 = .ok (.iload_n 3, 1) := dk_29 (dk_at dksX13_bestGate_0 16 rfl rfl)
theorem dX13_bestGate_17 : decode cX13_bestGate 17 = .ok (.ifCond .le 9, 3) := dk_158 0 9 (dk_at dksX13_bestGate_0 17 rfl rfl)
theorem dX13_bestGate_20 : decode cX13_bestGate 20 = .ok (.aload_n 0, 1) := dk_42 (dk_at dksX13_bestGate_0 20 rfl rfl)
theorem dX13_bestGate_21 : decode cX13_bestGate 21 = .ok (.iload_n 3, 1) := dk_29 (dk_at dksX13_bestGate_0 21 rfl rfl)
theorem dX13_bestGate_22 : decode cX13_bestGate 22 = .ok (.invokevirtual 45, 3) := dk_182 0 45 (dk_at dksX13_bestGate_1 0 rfl rfl)
theorem dX13_bestGate_25 : decode cX13_bestGate 25 = .ok (.ireturn, 1) := dk_172 (dk_at dksX13_bestGate_1 3 rfl rfl)
theorem dX13_bestGate_26 : decode cX13_bestGate 26 = .ok (.iconst 0, 1) := dk_3 (dk_at dksX13_bestGate_1 4 rfl rfl)
theorem dX13_bestGate_27 : decode cX13_bestGate 27 = .ok (.istore 4, 2) := dk_54 4 (dk_at dksX13_bestGate_1 5 rfl rfl)
theorem dX13_bestGate_29 : decode cX13_bestGate 29 = .ok (.iconst 1, 1) := dk_4 (dk_at dksX13_bestGate_1 7 rfl rfl)
theorem dX13_bestGate_30 : decode cX13_bestGate 30 = .ok (.istore 5, 2) := dk_54 5 (dk_at dksX13_bestGate_1 8 rfl rfl)
theorem dX13_bestGate_32 : decode cX13_bestGate 32 = .ok (.iload 5, 2) := dk_21 5 (dk_at dksX13_bestGate_1 10 rfl rfl)
theorem dX13_bestGate_34 : decode cX13_bestGate 34 = .ok (.aload_n 0, 1) := dk_42 (dk_at dksX13_bestGate_1 12 rfl rfl)
theorem dX13_bestGate_35 : decode cX13_bestGate 35 = .ok (.getfield 367, 3) := dk_180 1 111 (dk_at dksX13_bestGate_1 13 rfl rfl)
theorem dX13_bestGate_38 : decode cX13_bestGate 38 = .ok (.getfield 194, 3) := dk_180 0 194 (dk_at dksX13_bestGate_1 16 rfl rfl)
theorem dX13_bestGate_41 : decode cX13_bestGate 41 = .ok (.if_icmp .ge 38, 3) := dk_162 0 38 (dk_at dksX13_bestGate_1 19 rfl rfl)
theorem dX13_bestGate_44 : decode cX13_bestGate 44 = .ok (.aload_n 0, 1) := dk_42 (dk_at dksX13_bestGate_1 22 rfl rfl)
theorem dX13_bestGate_45 : decode cX13_bestGate 45 = .ok (.aload_n 0, 1) := dk_42 (dk_at dksX13_bestGate_1 23 rfl rfl)
theorem dX13_bestGate_46 : decode cX13_bestGate 46 = .ok (.getfield 21, 3) := dk_180 0 21 (dk_at dksX13_bestGate_2 0 rfl rfl)
theorem dX13_bestGate_49 : decode cX13_bestGate 49 = .ok (.iload_n 1, 1) := dk_27 (dk_at dksX13_bestGate_2 3 rfl rfl)
theorem dX13_bestGate_50 : decode cX13_bestGate 50 = .ok (.iload 5, 2) := dk_21 5 (dk_at dksX13_bestGate_2 4 rfl rfl)
theorem dX13_bestGate_52 : decode cX13_bestGate 52 = .ok (.invokevirtual 436, 3) := dk_182 1 180 (dk_at dksX13_bestGate_2 6 rfl rfl)
theorem dX13_bestGate_55 : decode cX13_bestGate 55 = .ok (.aload_n 0, 1) := dk_42 (dk_at dksX13_bestGate_2 9 rfl rfl)
theorem dX13_bestGate_56 : decode cX13_bestGate 56 = .ok (.aload_n 0, 1) := dk_42 (dk_at dksX13_bestGate_2 10 rfl rfl)
theorem dX13_bestGate_57 : decode cX13_bestGate 57 = .ok (.getfield 21, 3) := dk_180 0 21 (dk_at dksX13_bestGate_2 11 rfl rfl)
theorem dX13_bestGate_60 : decode cX13_bestGate 60 = .ok (.iload_n 1, 1) := dk_27 (dk_at dksX13_bestGate_2 14 rfl rfl)
theorem dX13_bestGate_61 : decode cX13_bestGate 61 = .ok (.iload 4, 2) := dk_21 4 (dk_at dksX13_bestGate_2 15 rfl rfl)
theorem dX13_bestGate_63 : decode cX13_bestGate 63 = .ok (.invokevirtual 436, 3) := dk_182 1 180 (dk_at dksX13_bestGate_2 17 rfl rfl)
theorem dX13_bestGate_66 : decode cX13_bestGate 66 = .ok (.if_icmp .ge 7, 3) := dk_162 0 7 (dk_at dksX13_bestGate_2 20 rfl rfl)
theorem dX13_bestGate_69 : decode cX13_bestGate 69 = .ok (.iload 5, 2) := dk_21 5 (dk_at dksX13_bestGate_3 0 rfl rfl)
theorem dX13_bestGate_71 : decode cX13_bestGate 71 = .ok (.istore 4, 2) := dk_54 4 (dk_at dksX13_bestGate_3 2 rfl rfl)
theorem dX13_bestGate_73 : decode cX13_bestGate 73 = .ok (.iinc 5 1, 3) := dk_132 5 1 (dk_at dksX13_bestGate_3 4 rfl rfl)
theorem dX13_bestGate_76 : decode cX13_bestGate 76 = .ok (.goto (-44), 3) := dk_167 255 212 (dk_at dksX13_bestGate_3 7 rfl rfl)
theorem dX13_bestGate_79 : decode cX13_bestGate 79 = .ok (.aload_n 0, 1) := dk_42 (dk_at dksX13_bestGate_3 10 rfl rfl)
theorem dX13_bestGate_80 : decode cX13_bestGate 80 = .ok (.iload 4, 2) := dk_21 4 (dk_at dksX13_bestGate_3 11 rfl rfl)
theorem dX13_bestGate_82 : decode cX13_bestGate 82 = .ok (.invokevirtual 49, 3) := dk_182 0 49 (dk_at dksX13_bestGate_3 13 rfl rfl)
theorem dX13_bestGate_85 : decode cX13_bestGate 85 = .ok (.ireturn, 1) := dk_172 (dk_at dksX13_bestGate_3 16 rfl rfl)
abbrev cX13_cheapestDay : ByteArray := prog_27_method_82_code
def yX13_cheapestDay : MethodName := ⟨RX13, "cheapestDay", "(II)I"⟩
def dkwX13_cheapestDay_1 : List UInt8 := [182, 0, 45, 172, 42, 27, 28, 182, 1, 192, 42, 42, 180, 1, 189, 182, 0, 49, 172]
abbrev dktX13_cheapestDay_1 : List UInt8 := dkwX13_cheapestDay_1 ++ []
def dkwX13_cheapestDay_0 : List UInt8 := [42, 3, 181, 0, 39, 42, 27, 182, 1, 161, 153, 0, 11, 42, 28, 182, 1, 167, 154, 0, 9, 42, 4]
abbrev dktX13_cheapestDay_0 : List UInt8 := dkwX13_cheapestDay_0 ++ dktX13_cheapestDay_1
theorem dksX13_cheapestDay_0 : cX13_cheapestDay.data.toList.drop 0 = dktX13_cheapestDay_0 := by decide +kernel
theorem dksX13_cheapestDay_1 : cX13_cheapestDay.data.toList.drop 23 = dktX13_cheapestDay_1 := dk_seg dksX13_cheapestDay_0 23 rfl rfl
theorem dX13_cheapestDay_0 : decode cX13_cheapestDay 0 = .ok (.aload_n 0, 1) := dk_42 (dk_at dksX13_cheapestDay_0 0 rfl rfl)
theorem dX13_cheapestDay_1 : decode cX13_cheapestDay 1 = .ok (.iconst 0, 1) := dk_3 (dk_at dksX13_cheapestDay_0 1 rfl rfl)
theorem dX13_cheapestDay_2 : decode cX13_cheapestDay 2 = .ok (.putfield 39, 3) := dk_181 0 39 (dk_at dksX13_cheapestDay_0 2 rfl rfl)
theorem dX13_cheapestDay_5 : decode cX13_cheapestDay 5 = .ok (.aload_n 0, 1) := dk_42 (dk_at dksX13_cheapestDay_0 5 rfl rfl)
theorem dX13_cheapestDay_6 : decode cX13_cheapestDay 6 = .ok (.iload_n 1, 1) := dk_27 (dk_at dksX13_cheapestDay_0 6 rfl rfl)
theorem dX13_cheapestDay_7 : decode cX13_cheapestDay 7 = .ok (.invokevirtual 417, 3) := dk_182 1 161 (dk_at dksX13_cheapestDay_0 7 rfl rfl)
theorem dX13_cheapestDay_10 : decode cX13_cheapestDay 10 = .ok (.ifCond .eq 11, 3) := dk_153 0 11 (dk_at dksX13_cheapestDay_0 10 rfl rfl)
theorem dX13_cheapestDay_13 : decode cX13_cheapestDay 13 = .ok (.aload_n 0, 1) := dk_42 (dk_at dksX13_cheapestDay_0 13 rfl rfl)
theorem dX13_cheapestDay_14 : decode cX13_cheapestDay 14 = .ok (.iload_n 2, 1) := dk_28 (dk_at dksX13_cheapestDay_0 14 rfl rfl)
theorem dX13_cheapestDay_15 : decode cX13_cheapestDay 15 = .ok (.invokevirtual 423, 3) := dk_182 1 167 (dk_at dksX13_cheapestDay_0 15 rfl rfl)
theorem dX13_cheapestDay_18 : decode cX13_cheapestDay 18 = .ok (.ifCond .ne 9, 3) := dk_154 0 9 (dk_at dksX13_cheapestDay_0 18 rfl rfl)
theorem dX13_cheapestDay_21 : decode cX13_cheapestDay 21 = .ok (.aload_n 0, 1) := dk_42 (dk_at dksX13_cheapestDay_0 21 rfl rfl)
theorem dX13_cheapestDay_22 : decode cX13_cheapestDay 22 = .ok (.iconst 1, 1) := dk_4 (dk_at dksX13_cheapestDay_0 22 rfl rfl)
theorem dX13_cheapestDay_23 : decode cX13_cheapestDay 23 = .ok (.invokevirtual 45, 3) := dk_182 0 45 (dk_at dksX13_cheapestDay_1 0 rfl rfl)
theorem dX13_cheapestDay_26 : decode cX13_cheapestDay 26 = .ok (.ireturn, 1) := dk_172 (dk_at dksX13_cheapestDay_1 3 rfl rfl)
theorem dX13_cheapestDay_27 : decode cX13_cheapestDay 27 = .ok (.aload_n 0, 1) := dk_42 (dk_at dksX13_cheapestDay_1 4 rfl rfl)
theorem dX13_cheapestDay_28 : decode cX13_cheapestDay 28 = .ok (.iload_n 1, 1) := dk_27 (dk_at dksX13_cheapestDay_1 5 rfl rfl)
theorem dX13_cheapestDay_29 : decode cX13_cheapestDay 29 = .ok (.iload_n 2, 1) := dk_28 (dk_at dksX13_cheapestDay_1 6 rfl rfl)
theorem dX13_cheapestDay_30 : decode cX13_cheapestDay 30 = .ok (.invokevirtual 448, 3) := dk_182 1 192 (dk_at dksX13_cheapestDay_1 7 rfl rfl)
theorem dX13_cheapestDay_33 : decode cX13_cheapestDay 33 = .ok (.aload_n 0, 1) := dk_42 (dk_at dksX13_cheapestDay_1 10 rfl rfl)
theorem dX13_cheapestDay_34 : decode cX13_cheapestDay 34 = .ok (.aload_n 0, 1) := dk_42 (dk_at dksX13_cheapestDay_1 11 rfl rfl)
theorem dX13_cheapestDay_35 : decode cX13_cheapestDay 35 = .ok (.getfield 445, 3) := dk_180 1 189 (dk_at dksX13_cheapestDay_1 12 rfl rfl)
theorem dX13_cheapestDay_38 : decode cX13_cheapestDay 38 = .ok (.invokevirtual 49, 3) := dk_182 0 49 (dk_at dksX13_cheapestDay_1 15 rfl rfl)
theorem dX13_cheapestDay_41 : decode cX13_cheapestDay 41 = .ok (.ireturn, 1) := dk_172 (dk_at dksX13_cheapestDay_1 18 rfl rfl)
abbrev cX13_cheapests : ByteArray := prog_27_method_81_code
def yX13_cheapests : MethodName := ⟨RX13, "cheapests", "(II)V"⟩
def dkwX13_cheapests_2 : List UInt8 := [161, 0, 6, 167, 0, 14, 42, 21, 4, 181, 1, 186, 42, 29, 181, 1, 189, 132, 3, 1, 167, 255, 197, 177]
abbrev dktX13_cheapests_2 : List UInt8 := dkwX13_cheapests_2 ++ []
def dkwX13_cheapests_1 : List UInt8 := [180, 0, 21, 27, 28, 182, 1, 180, 54, 4, 42, 180, 1, 186, 2, 159, 0, 15, 21, 4, 42, 180, 1, 186]
abbrev dktX13_cheapests_1 : List UInt8 := dkwX13_cheapests_1 ++ dktX13_cheapests_2
def dkwX13_cheapests_0 : List UInt8 := [42, 2, 181, 1, 186, 3, 62, 29, 16, 60, 163, 0, 59, 42, 4, 29, 182, 1, 173, 87, 42, 42]
abbrev dktX13_cheapests_0 : List UInt8 := dkwX13_cheapests_0 ++ dktX13_cheapests_1
theorem dksX13_cheapests_0 : cX13_cheapests.data.toList.drop 0 = dktX13_cheapests_0 := by decide +kernel
theorem dksX13_cheapests_1 : cX13_cheapests.data.toList.drop 22 = dktX13_cheapests_1 := dk_seg dksX13_cheapests_0 22 rfl rfl
theorem dksX13_cheapests_2 : cX13_cheapests.data.toList.drop 46 = dktX13_cheapests_2 := dk_seg dksX13_cheapests_1 24 rfl rfl
theorem dX13_cheapests_0 : decode cX13_cheapests 0 = .ok (.aload_n 0, 1) := dk_42 (dk_at dksX13_cheapests_0 0 rfl rfl)
theorem dX13_cheapests_1 : decode cX13_cheapests 1 = .ok (.iconst (-1), 1) := dk_2 (dk_at dksX13_cheapests_0 1 rfl rfl)
theorem dX13_cheapests_2 : decode cX13_cheapests 2 = .ok (.putfield 442, 3) := dk_181 1 186 (dk_at dksX13_cheapests_0 2 rfl rfl)
theorem dX13_cheapests_5 : decode cX13_cheapests 5 = .ok (.iconst 0, 1) := dk_3 (dk_at dksX13_cheapests_0 5 rfl rfl)
theorem dX13_cheapests_6 : decode cX13_cheapests 6 = .ok (.istore_n 3, 1) := dk_62 (dk_at dksX13_cheapests_0 6 rfl rfl)
theorem dX13_cheapests_7 : decode cX13_cheapests 7 = .ok (.iload_n 3, 1) := dk_29 (dk_at dksX13_cheapests_0 7 rfl rfl)
theorem dX13_cheapests_8 : decode cX13_cheapests 8 = .ok (.bipush 60, 2) := dk_16 60 (dk_at dksX13_cheapests_0 8 rfl rfl)
theorem dX13_cheapests_10 : decode cX13_cheapests 10 = .ok (.if_icmp .gt 59, 3) := dk_163 0 59 (dk_at dksX13_cheapests_0 10 rfl rfl)
theorem dX13_cheapests_13 : decode cX13_cheapests 13 = .ok (.aload_n 0, 1) := dk_42 (dk_at dksX13_cheapests_0 13 rfl rfl)
theorem dX13_cheapests_14 : decode cX13_cheapests 14 = .ok (.iconst 1, 1) := dk_4 (dk_at dksX13_cheapests_0 14 rfl rfl)
theorem dX13_cheapests_15 : decode cX13_cheapests 15 = .ok (.iload_n 3, 1) := dk_29 (dk_at dksX13_cheapests_0 15 rfl rfl)
theorem dX13_cheapests_16 : decode cX13_cheapests 16 = .ok (.invokevirtual 429, 3) := dk_182 1 173 (dk_at dksX13_cheapests_0 16 rfl rfl)
theorem dX13_cheapests_19 : decode cX13_cheapests 19 = .ok (.pop, 1) := dk_87 (dk_at dksX13_cheapests_0 19 rfl rfl)
theorem dX13_cheapests_20 : decode cX13_cheapests 20 = .ok (.aload_n 0, 1) := dk_42 (dk_at dksX13_cheapests_0 20 rfl rfl)
theorem dX13_cheapests_21 : decode cX13_cheapests 21 = .ok (.aload_n 0, 1) := dk_42 (dk_at dksX13_cheapests_0 21 rfl rfl)
theorem dX13_cheapests_22 : decode cX13_cheapests 22 = .ok (.getfield 21, 3) := dk_180 0 21 (dk_at dksX13_cheapests_1 0 rfl rfl)
theorem dX13_cheapests_25 : decode cX13_cheapests 25 = .ok (.iload_n 1, 1) := dk_27 (dk_at dksX13_cheapests_1 3 rfl rfl)
theorem dX13_cheapests_26 : decode cX13_cheapests 26 = .ok (.iload_n 2, 1) := dk_28 (dk_at dksX13_cheapests_1 4 rfl rfl)
theorem dX13_cheapests_27 : decode cX13_cheapests 27 = .ok (.invokevirtual 436, 3) := dk_182 1 180 (dk_at dksX13_cheapests_1 5 rfl rfl)
theorem dX13_cheapests_30 : decode cX13_cheapests 30 = .ok (.istore 4, 2) := dk_54 4 (dk_at dksX13_cheapests_1 8 rfl rfl)
theorem dX13_cheapests_32 : decode cX13_cheapests 32 = .ok (.aload_n 0, 1) := dk_42 (dk_at dksX13_cheapests_1 10 rfl rfl)
theorem dX13_cheapests_33 : decode cX13_cheapests 33 = .ok (.getfield 442, 3) := dk_180 1 186 (dk_at dksX13_cheapests_1 11 rfl rfl)
theorem dX13_cheapests_36 : decode cX13_cheapests 36 = .ok (.iconst (-1), 1) := dk_2 (dk_at dksX13_cheapests_1 14 rfl rfl)
theorem dX13_cheapests_37 : decode cX13_cheapests 37 = .ok (.if_icmp .eq 15, 3) := dk_159 0 15 (dk_at dksX13_cheapests_1 15 rfl rfl)
theorem dX13_cheapests_40 : decode cX13_cheapests 40 = .ok (.iload 4, 2) := dk_21 4 (dk_at dksX13_cheapests_1 18 rfl rfl)
theorem dX13_cheapests_42 : decode cX13_cheapests 42 = .ok (.aload_n 0, 1) := dk_42 (dk_at dksX13_cheapests_1 20 rfl rfl)
theorem dX13_cheapests_43 : decode cX13_cheapests 43 = .ok (.getfield 442, 3) := dk_180 1 186 (dk_at dksX13_cheapests_1 21 rfl rfl)
theorem dX13_cheapests_46 : decode cX13_cheapests 46 = .ok (.if_icmp .lt 6, 3) := dk_161 0 6 (dk_at dksX13_cheapests_2 0 rfl rfl)
theorem dX13_cheapests_49 : decode cX13_cheapests 49 = .ok (.goto 14, 3) := dk_167 0 14 (dk_at dksX13_cheapests_2 3 rfl rfl)
theorem dX13_cheapests_52 : decode cX13_cheapests 52 = .ok (.aload_n 0, 1) := dk_42 (dk_at dksX13_cheapests_2 6 rfl rfl)
theorem dX13_cheapests_53 : decode cX13_cheapests 53 = .ok (.iload 4, 2) := dk_21 4 (dk_at dksX13_cheapests_2 7 rfl rfl)
theorem dX13_cheapests_55 : decode cX13_cheapests 55 = .ok (.putfield 442, 3) := dk_181 1 186 (dk_at dksX13_cheapests_2 9 rfl rfl)
theorem dX13_cheapests_58 : decode cX13_cheapests 58 = .ok (.aload_n 0, 1) := dk_42 (dk_at dksX13_cheapests_2 12 rfl rfl)
theorem dX13_cheapests_59 : decode cX13_cheapests 59 = .ok (.iload_n 3, 1) := dk_29 (dk_at dksX13_cheapests_2 13 rfl rfl)
theorem dX13_cheapests_60 : decode cX13_cheapests 60 = .ok (.putfield 445, 3) := dk_181 1 189 (dk_at dksX13_cheapests_2 14 rfl rfl)
theorem dX13_cheapests_63 : decode cX13_cheapests 63 = .ok (.iinc 3 1, 3) := dk_132 3 1 (dk_at dksX13_cheapests_2 17 rfl rfl)
theorem dX13_cheapests_66 : decode cX13_cheapests 66 = .ok (.goto (-59), 3) := dk_167 255 197 (dk_at dksX13_cheapests_2 20 rfl rfl)
theorem dX13_cheapests_69 : decode cX13_cheapests 69 = .ok (.return_, 1) := dk_177 (dk_at dksX13_cheapests_2 23 rfl rfl)
abbrev cX13_cheapest : ByteArray := prog_27_method_83_code
def yX13_cheapest : MethodName := ⟨RX13, "cheapest", "(II)I"⟩
def dkwX13_cheapest_1 : List UInt8 := [182, 0, 45, 172, 42, 27, 28, 182, 1, 192, 42, 42, 180, 1, 186, 182, 0, 49, 172]
abbrev dktX13_cheapest_1 : List UInt8 := dkwX13_cheapest_1 ++ []
def dkwX13_cheapest_0 : List UInt8 := [42, 3, 181, 0, 39, 42, 27, 182, 1, 161, 153, 0, 11, 42, 28, 182, 1, 167, 154, 0, 9, 42, 4]
abbrev dktX13_cheapest_0 : List UInt8 := dkwX13_cheapest_0 ++ dktX13_cheapest_1
theorem dksX13_cheapest_0 : cX13_cheapest.data.toList.drop 0 = dktX13_cheapest_0 := by decide +kernel
theorem dksX13_cheapest_1 : cX13_cheapest.data.toList.drop 23 = dktX13_cheapest_1 := dk_seg dksX13_cheapest_0 23 rfl rfl
theorem dX13_cheapest_0 : decode cX13_cheapest 0 = .ok (.aload_n 0, 1) := dk_42 (dk_at dksX13_cheapest_0 0 rfl rfl)
theorem dX13_cheapest_1 : decode cX13_cheapest 1 = .ok (.iconst 0, 1) := dk_3 (dk_at dksX13_cheapest_0 1 rfl rfl)
theorem dX13_cheapest_2 : decode cX13_cheapest 2 = .ok (.putfield 39, 3) := dk_181 0 39 (dk_at dksX13_cheapest_0 2 rfl rfl)
theorem dX13_cheapest_5 : decode cX13_cheapest 5 = .ok (.aload_n 0, 1) := dk_42 (dk_at dksX13_cheapest_0 5 rfl rfl)
theorem dX13_cheapest_6 : decode cX13_cheapest 6 = .ok (.iload_n 1, 1) := dk_27 (dk_at dksX13_cheapest_0 6 rfl rfl)
theorem dX13_cheapest_7 : decode cX13_cheapest 7 = .ok (.invokevirtual 417, 3) := dk_182 1 161 (dk_at dksX13_cheapest_0 7 rfl rfl)
theorem dX13_cheapest_10 : decode cX13_cheapest 10 = .ok (.ifCond .eq 11, 3) := dk_153 0 11 (dk_at dksX13_cheapest_0 10 rfl rfl)
theorem dX13_cheapest_13 : decode cX13_cheapest 13 = .ok (.aload_n 0, 1) := dk_42 (dk_at dksX13_cheapest_0 13 rfl rfl)
theorem dX13_cheapest_14 : decode cX13_cheapest 14 = .ok (.iload_n 2, 1) := dk_28 (dk_at dksX13_cheapest_0 14 rfl rfl)
theorem dX13_cheapest_15 : decode cX13_cheapest 15 = .ok (.invokevirtual 423, 3) := dk_182 1 167 (dk_at dksX13_cheapest_0 15 rfl rfl)
theorem dX13_cheapest_18 : decode cX13_cheapest 18 = .ok (.ifCond .ne 9, 3) := dk_154 0 9 (dk_at dksX13_cheapest_0 18 rfl rfl)
theorem dX13_cheapest_21 : decode cX13_cheapest 21 = .ok (.aload_n 0, 1) := dk_42 (dk_at dksX13_cheapest_0 21 rfl rfl)
theorem dX13_cheapest_22 : decode cX13_cheapest 22 = .ok (.iconst 1, 1) := dk_4 (dk_at dksX13_cheapest_0 22 rfl rfl)
theorem dX13_cheapest_23 : decode cX13_cheapest 23 = .ok (.invokevirtual 45, 3) := dk_182 0 45 (dk_at dksX13_cheapest_1 0 rfl rfl)
theorem dX13_cheapest_26 : decode cX13_cheapest 26 = .ok (.ireturn, 1) := dk_172 (dk_at dksX13_cheapest_1 3 rfl rfl)
theorem dX13_cheapest_27 : decode cX13_cheapest 27 = .ok (.aload_n 0, 1) := dk_42 (dk_at dksX13_cheapest_1 4 rfl rfl)
theorem dX13_cheapest_28 : decode cX13_cheapest 28 = .ok (.iload_n 1, 1) := dk_27 (dk_at dksX13_cheapest_1 5 rfl rfl)
theorem dX13_cheapest_29 : decode cX13_cheapest 29 = .ok (.iload_n 2, 1) := dk_28 (dk_at dksX13_cheapest_1 6 rfl rfl)
theorem dX13_cheapest_30 : decode cX13_cheapest 30 = .ok (.invokevirtual 448, 3) := dk_182 1 192 (dk_at dksX13_cheapest_1 7 rfl rfl)
theorem dX13_cheapest_33 : decode cX13_cheapest 33 = .ok (.aload_n 0, 1) := dk_42 (dk_at dksX13_cheapest_1 10 rfl rfl)
theorem dX13_cheapest_34 : decode cX13_cheapest 34 = .ok (.aload_n 0, 1) := dk_42 (dk_at dksX13_cheapest_1 11 rfl rfl)
theorem dX13_cheapest_35 : decode cX13_cheapest 35 = .ok (.getfield 442, 3) := dk_180 1 186 (dk_at dksX13_cheapest_1 12 rfl rfl)
theorem dX13_cheapest_38 : decode cX13_cheapest 38 = .ok (.invokevirtual 49, 3) := dk_182 0 49 (dk_at dksX13_cheapest_1 15 rfl rfl)
theorem dX13_cheapest_41 : decode cX13_cheapest 41 = .ok (.ireturn, 1) := dk_172 (dk_at dksX13_cheapest_1 18 rfl rfl)
abbrev cX13_eats : ByteArray := prog_27_method_86_code
def yX13_eats : MethodName := ⟨RX13, "eats", "(III)I"⟩
def dkwX13_eats_2 : List UInt8 := [28, 29, 182, 1, 204, 42, 42, 180, 1, 198, 182, 0, 49, 172]
abbrev dktX13_eats_2 : List UInt8 := dkwX13_eats_2 ++ []
def dkwX13_eats_1 : List UInt8 := [167, 0, 4, 3, 29, 182, 1, 173, 54, 4, 21, 4, 158, 0, 10, 42, 21, 4, 182, 0, 45, 172, 42, 27]
abbrev dktX13_eats_1 : List UInt8 := dkwX13_eats_1 ++ dktX13_eats_2
def dkwX13_eats_0 : List UInt8 := [42, 3, 181, 0, 39, 42, 42, 27, 182, 1, 161, 153, 0, 15, 42, 28, 182, 1, 167, 153, 0, 7, 4]
abbrev dktX13_eats_0 : List UInt8 := dkwX13_eats_0 ++ dktX13_eats_1
theorem dksX13_eats_0 : cX13_eats.data.toList.drop 0 = dktX13_eats_0 := by decide +kernel
theorem dksX13_eats_1 : cX13_eats.data.toList.drop 23 = dktX13_eats_1 := dk_seg dksX13_eats_0 23 rfl rfl
theorem dksX13_eats_2 : cX13_eats.data.toList.drop 47 = dktX13_eats_2 := dk_seg dksX13_eats_1 24 rfl rfl
theorem dX13_eats_0 : decode cX13_eats 0 = .ok (.aload_n 0, 1) := dk_42 (dk_at dksX13_eats_0 0 rfl rfl)
theorem dX13_eats_1 : decode cX13_eats 1 = .ok (.iconst 0, 1) := dk_3 (dk_at dksX13_eats_0 1 rfl rfl)
theorem dX13_eats_2 : decode cX13_eats 2 = .ok (.putfield 39, 3) := dk_181 0 39 (dk_at dksX13_eats_0 2 rfl rfl)
theorem dX13_eats_5 : decode cX13_eats 5 = .ok (.aload_n 0, 1) := dk_42 (dk_at dksX13_eats_0 5 rfl rfl)
theorem dX13_eats_6 : decode cX13_eats 6 = .ok (.aload_n 0, 1) := dk_42 (dk_at dksX13_eats_0 6 rfl rfl)
theorem dX13_eats_7 : decode cX13_eats 7 = .ok (.iload_n 1, 1) := dk_27 (dk_at dksX13_eats_0 7 rfl rfl)
theorem dX13_eats_8 : decode cX13_eats 8 = .ok (.invokevirtual 417, 3) := dk_182 1 161 (dk_at dksX13_eats_0 8 rfl rfl)
theorem dX13_eats_11 : decode cX13_eats 11 = .ok (.ifCond .eq 15, 3) := dk_153 0 15 (dk_at dksX13_eats_0 11 rfl rfl)
theorem dX13_eats_14 : decode cX13_eats 14 = .ok (.aload_n 0, 1) := dk_42 (dk_at dksX13_eats_0 14 rfl rfl)
theorem dX13_eats_15 : decode cX13_eats 15 = .ok (.iload_n 2, 1) := dk_28 (dk_at dksX13_eats_0 15 rfl rfl)
theorem dX13_eats_16 : decode cX13_eats 16 = .ok (.invokevirtual 423, 3) := dk_182 1 167 (dk_at dksX13_eats_0 16 rfl rfl)
theorem dX13_eats_19 : decode cX13_eats 19 = .ok (.ifCond .eq 7, 3) := dk_153 0 7 (dk_at dksX13_eats_0 19 rfl rfl)
theorem dX13_eats_22 : decode cX13_eats 22 = .ok (.iconst 1, 1) := dk_4 (dk_at dksX13_eats_0 22 rfl rfl)
theorem dX13_eats_23 : decode cX13_eats 23 = .ok (.goto 4, 3) := dk_167 0 4 (dk_at dksX13_eats_1 0 rfl rfl)
theorem dX13_eats_26 : decode cX13_eats 26 = .ok (.iconst 0, 1) := dk_3 (dk_at dksX13_eats_1 3 rfl rfl)
theorem dX13_eats_27 : decode cX13_eats 27 = .ok (.iload_n 3, 1) := dk_29 (dk_at dksX13_eats_1 4 rfl rfl)
theorem dX13_eats_28 : decode cX13_eats 28 = .ok (.invokevirtual 429, 3) := dk_182 1 173 (dk_at dksX13_eats_1 5 rfl rfl)
theorem dX13_eats_31 : decode cX13_eats 31 = .ok (.istore 4, 2) := dk_54 4 (dk_at dksX13_eats_1 8 rfl rfl)
theorem dX13_eats_33 : decode cX13_eats 33 = .ok (.iload 4, 2) := dk_21 4 (dk_at dksX13_eats_1 10 rfl rfl)
theorem dX13_eats_35 : decode cX13_eats 35 = .ok (.ifCond .le 10, 3) := dk_158 0 10 (dk_at dksX13_eats_1 12 rfl rfl)
theorem dX13_eats_38 : decode cX13_eats 38 = .ok (.aload_n 0, 1) := dk_42 (dk_at dksX13_eats_1 15 rfl rfl)
theorem dX13_eats_39 : decode cX13_eats 39 = .ok (.iload 4, 2) := dk_21 4 (dk_at dksX13_eats_1 16 rfl rfl)
theorem dX13_eats_41 : decode cX13_eats 41 = .ok (.invokevirtual 45, 3) := dk_182 0 45 (dk_at dksX13_eats_1 18 rfl rfl)
theorem dX13_eats_44 : decode cX13_eats 44 = .ok (.ireturn, 1) := dk_172 (dk_at dksX13_eats_1 21 rfl rfl)
theorem dX13_eats_45 : decode cX13_eats 45 = .ok (.aload_n 0, 1) := dk_42 (dk_at dksX13_eats_1 22 rfl rfl)
theorem dX13_eats_46 : decode cX13_eats 46 = .ok (.iload_n 1, 1) := dk_27 (dk_at dksX13_eats_1 23 rfl rfl)
theorem dX13_eats_47 : decode cX13_eats 47 = .ok (.iload_n 2, 1) := dk_28 (dk_at dksX13_eats_2 0 rfl rfl)
theorem dX13_eats_48 : decode cX13_eats 48 = .ok (.iload_n 3, 1) := dk_29 (dk_at dksX13_eats_2 1 rfl rfl)
theorem dX13_eats_49 : decode cX13_eats 49 = .ok (.invokevirtual 460, 3) := dk_182 1 204 (dk_at dksX13_eats_2 2 rfl rfl)
theorem dX13_eats_52 : decode cX13_eats 52 = .ok (.aload_n 0, 1) := dk_42 (dk_at dksX13_eats_2 5 rfl rfl)
theorem dX13_eats_53 : decode cX13_eats 53 = .ok (.aload_n 0, 1) := dk_42 (dk_at dksX13_eats_2 6 rfl rfl)
theorem dX13_eats_54 : decode cX13_eats 54 = .ok (.getfield 454, 3) := dk_180 1 198 (dk_at dksX13_eats_2 7 rfl rfl)
theorem dX13_eats_57 : decode cX13_eats 57 = .ok (.invokevirtual 49, 3) := dk_182 0 49 (dk_at dksX13_eats_2 10 rfl rfl)
theorem dX13_eats_60 : decode cX13_eats 60 = .ok (.ireturn, 1) := dk_172 (dk_at dksX13_eats_2 13 rfl rfl)
abbrev cX13_eatsBest : ByteArray := prog_27_method_85_code
def yX13_eatsBest : MethodName := ⟨RX13, "eatsBest", "(III)V"⟩
def dkwX13_eatsBest_5 : List UInt8 := [132, 5, 1, 167, 255, 152, 177]
abbrev dktX13_eatsBest_5 : List UInt8 := dkwX13_eatsBest_5 ++ []
def dkwX13_eatsBest_4 : List UInt8 := [4, 79, 132, 6, 1, 167, 255, 221, 42, 21, 5, 42, 42, 180, 0, 21, 27, 28, 182, 1, 180, 182, 1, 201]
abbrev dktX13_eatsBest_4 : List UInt8 := dkwX13_eatsBest_4 ++ dktX13_eatsBest_5
def dkwX13_eatsBest_3 : List UInt8 := [180, 1, 31, 162, 0, 29, 21, 5, 21, 6, 184, 1, 63, 153, 0, 13, 42, 180, 0, 21, 3, 21, 6, 96]
abbrev dktX13_eatsBest_3 : List UInt8 := dkwX13_eatsBest_3 ++ dktX13_eatsBest_4
def dkwX13_eatsBest_2 : List UInt8 := [164, 0, 6, 167, 0, 67, 42, 4, 29, 182, 1, 173, 87, 3, 54, 6, 21, 6, 42, 180, 1, 111]
abbrev dktX13_eatsBest_2 : List UInt8 := dkwX13_eatsBest_2 ++ dktX13_eatsBest_3
def dkwX13_eatsBest_1 : List UInt8 := [21, 4, 2, 130, 126, 154, 0, 87, 21, 5, 184, 1, 195, 42, 180, 0, 17, 16, 8, 27, 96, 46]
abbrev dktX13_eatsBest_1 : List UInt8 := dkwX13_eatsBest_1 ++ dktX13_eatsBest_2
def dkwX13_eatsBest_0 : List UInt8 := [42, 2, 181, 1, 186, 42, 27, 182, 1, 164, 54, 4, 3, 54, 5, 21, 5, 21, 4, 163, 0, 103, 21, 5]
abbrev dktX13_eatsBest_0 : List UInt8 := dkwX13_eatsBest_0 ++ dktX13_eatsBest_1
theorem dksX13_eatsBest_0 : cX13_eatsBest.data.toList.drop 0 = dktX13_eatsBest_0 := by decide +kernel
theorem dksX13_eatsBest_1 : cX13_eatsBest.data.toList.drop 24 = dktX13_eatsBest_1 := dk_seg dksX13_eatsBest_0 24 rfl rfl
theorem dksX13_eatsBest_2 : cX13_eatsBest.data.toList.drop 46 = dktX13_eatsBest_2 := dk_seg dksX13_eatsBest_1 22 rfl rfl
theorem dksX13_eatsBest_3 : cX13_eatsBest.data.toList.drop 68 = dktX13_eatsBest_3 := dk_seg dksX13_eatsBest_2 22 rfl rfl
theorem dksX13_eatsBest_4 : cX13_eatsBest.data.toList.drop 92 = dktX13_eatsBest_4 := dk_seg dksX13_eatsBest_3 24 rfl rfl
theorem dksX13_eatsBest_5 : cX13_eatsBest.data.toList.drop 116 = dktX13_eatsBest_5 := dk_seg dksX13_eatsBest_4 24 rfl rfl
theorem dX13_eatsBest_0 : decode cX13_eatsBest 0 = .ok (.aload_n 0, 1) := dk_42 (dk_at dksX13_eatsBest_0 0 rfl rfl)
theorem dX13_eatsBest_1 : decode cX13_eatsBest 1 = .ok (.iconst (-1), 1) := dk_2 (dk_at dksX13_eatsBest_0 1 rfl rfl)
theorem dX13_eatsBest_2 : decode cX13_eatsBest 2 = .ok (.putfield 442, 3) := dk_181 1 186 (dk_at dksX13_eatsBest_0 2 rfl rfl)
theorem dX13_eatsBest_5 : decode cX13_eatsBest 5 = .ok (.aload_n 0, 1) := dk_42 (dk_at dksX13_eatsBest_0 5 rfl rfl)
theorem dX13_eatsBest_6 : decode cX13_eatsBest 6 = .ok (.iload_n 1, 1) := dk_27 (dk_at dksX13_eatsBest_0 6 rfl rfl)
theorem dX13_eatsBest_7 : decode cX13_eatsBest 7 = .ok (.invokevirtual 420, 3) := dk_182 1 164 (dk_at dksX13_eatsBest_0 7 rfl rfl)
theorem dX13_eatsBest_10 : decode cX13_eatsBest 10 = .ok (.istore 4, 2) := dk_54 4 (dk_at dksX13_eatsBest_0 10 rfl rfl)
theorem dX13_eatsBest_12 : decode cX13_eatsBest 12 = .ok (.iconst 0, 1) := dk_3 (dk_at dksX13_eatsBest_0 12 rfl rfl)
theorem dX13_eatsBest_13 : decode cX13_eatsBest 13 = .ok (.istore 5, 2) := dk_54 5 (dk_at dksX13_eatsBest_0 13 rfl rfl)
theorem dX13_eatsBest_15 : decode cX13_eatsBest 15 = .ok (.iload 5, 2) := dk_21 5 (dk_at dksX13_eatsBest_0 15 rfl rfl)
theorem dX13_eatsBest_17 : decode cX13_eatsBest 17 = .ok (.iload 4, 2) := dk_21 4 (dk_at dksX13_eatsBest_0 17 rfl rfl)
theorem dX13_eatsBest_19 : decode cX13_eatsBest 19 = .ok (.if_icmp .gt 103, 3) := dk_163 0 103 (dk_at dksX13_eatsBest_0 19 rfl rfl)
theorem dX13_eatsBest_22 : decode cX13_eatsBest 22 = .ok (.iload 5, 2) := dk_21 5 (dk_at dksX13_eatsBest_0 22 rfl rfl)
theorem dX13_eatsBest_24 : decode cX13_eatsBest 24 = .ok (.iload 4, 2) := dk_21 4 (dk_at dksX13_eatsBest_1 0 rfl rfl)
theorem dX13_eatsBest_26 : decode cX13_eatsBest 26 = .ok (.iconst (-1), 1) := dk_2 (dk_at dksX13_eatsBest_1 2 rfl rfl)
theorem dX13_eatsBest_27 : decode cX13_eatsBest 27 = .ok (.ixor, 1) := dk_130 (dk_at dksX13_eatsBest_1 3 rfl rfl)
theorem dX13_eatsBest_28 : decode cX13_eatsBest 28 = .ok (.iand, 1) := dk_126 (dk_at dksX13_eatsBest_1 4 rfl rfl)
theorem dX13_eatsBest_29 : decode cX13_eatsBest 29 = .ok (.ifCond .ne 87, 3) := dk_154 0 87 (dk_at dksX13_eatsBest_1 5 rfl rfl)
theorem dX13_eatsBest_32 : decode cX13_eatsBest 32 = .ok (.iload 5, 2) := dk_21 5 (dk_at dksX13_eatsBest_1 8 rfl rfl)
theorem dX13_eatsBest_34 : decode cX13_eatsBest 34 = .ok (.invokestatic 451, 3) := dk_184 1 195 (dk_at dksX13_eatsBest_1 10 rfl rfl)
theorem dX13_eatsBest_37 : decode cX13_eatsBest 37 = .ok (.aload_n 0, 1) := dk_42 (dk_at dksX13_eatsBest_1 13 rfl rfl)
theorem dX13_eatsBest_38 : decode cX13_eatsBest 38 = .ok (.getfield 17, 3) := dk_180 0 17 (dk_at dksX13_eatsBest_1 14 rfl rfl)
theorem dX13_eatsBest_41 : decode cX13_eatsBest 41 = .ok (.bipush 8, 2) := dk_16 8 (dk_at dksX13_eatsBest_1 17 rfl rfl)
theorem dX13_eatsBest_43 : decode cX13_eatsBest 43 = .ok (.iload_n 1, 1) := dk_27 (dk_at dksX13_eatsBest_1 19 rfl rfl)
theorem dX13_eatsBest_44 : decode cX13_eatsBest 44 = .ok (.iadd, 1) := dk_96 (dk_at dksX13_eatsBest_1 20 rfl rfl)
theorem dX13_eatsBest_45 : decode cX13_eatsBest 45 = .ok (.iaload, 1) := dk_46 (dk_at dksX13_eatsBest_1 21 rfl rfl)
theorem dX13_eatsBest_46 : decode cX13_eatsBest 46 = .ok (.if_icmp .le 6, 3) := dk_164 0 6 (dk_at dksX13_eatsBest_2 0 rfl rfl)
theorem dX13_eatsBest_49 : decode cX13_eatsBest 49 = .ok (.goto 67, 3) := dk_167 0 67 (dk_at dksX13_eatsBest_2 3 rfl rfl)
theorem dX13_eatsBest_52 : decode cX13_eatsBest 52 = .ok (.aload_n 0, 1) := dk_42 (dk_at dksX13_eatsBest_2 6 rfl rfl)
theorem dX13_eatsBest_53 : decode cX13_eatsBest 53 = .ok (.iconst 1, 1) := dk_4 (dk_at dksX13_eatsBest_2 7 rfl rfl)
theorem dX13_eatsBest_54 : decode cX13_eatsBest 54 = .ok (.iload_n 3, 1) := dk_29 (dk_at dksX13_eatsBest_2 8 rfl rfl)
theorem dX13_eatsBest_55 : decode cX13_eatsBest 55 = .ok (.invokevirtual 429, 3) := dk_182 1 173 (dk_at dksX13_eatsBest_2 9 rfl rfl)
theorem dX13_eatsBest_58 : decode cX13_eatsBest 58 = .ok (.pop, 1) := dk_87 (dk_at dksX13_eatsBest_2 12 rfl rfl)
theorem dX13_eatsBest_59 : decode cX13_eatsBest 59 = .ok (.iconst 0, 1) := dk_3 (dk_at dksX13_eatsBest_2 13 rfl rfl)
theorem dX13_eatsBest_60 : decode cX13_eatsBest 60 = .ok (.istore 6, 2) := dk_54 6 (dk_at dksX13_eatsBest_2 14 rfl rfl)
theorem dX13_eatsBest_62 : decode cX13_eatsBest 62 = .ok (.iload 6, 2) := dk_21 6 (dk_at dksX13_eatsBest_2 16 rfl rfl)
theorem dX13_eatsBest_64 : decode cX13_eatsBest 64 = .ok (.aload_n 0, 1) := dk_42 (dk_at dksX13_eatsBest_2 18 rfl rfl)
theorem dX13_eatsBest_65 : decode cX13_eatsBest 65 = .ok (.getfield 367, 3) := dk_180 1 111 (dk_at dksX13_eatsBest_2 19 rfl rfl)
theorem dX13_eatsBest_68 : decode cX13_eatsBest 68 = .ok (.getfield 287, 3) := dk_180 1 31 (dk_at dksX13_eatsBest_3 0 rfl rfl)
theorem dX13_eatsBest_71 : decode cX13_eatsBest 71 = .ok (.if_icmp .ge 29, 3) := dk_162 0 29 (dk_at dksX13_eatsBest_3 3 rfl rfl)
theorem dX13_eatsBest_74 : decode cX13_eatsBest 74 = .ok (.iload 5, 2) := dk_21 5 (dk_at dksX13_eatsBest_3 6 rfl rfl)
theorem dX13_eatsBest_76 : decode cX13_eatsBest 76 = .ok (.iload 6, 2) := dk_21 6 (dk_at dksX13_eatsBest_3 8 rfl rfl)
theorem dX13_eatsBest_78 : decode cX13_eatsBest 78 = .ok (.invokestatic 319, 3) := dk_184 1 63 (dk_at dksX13_eatsBest_3 10 rfl rfl)
theorem dX13_eatsBest_81 : decode cX13_eatsBest 81 = .ok (.ifCond .eq 13, 3) := dk_153 0 13 (dk_at dksX13_eatsBest_3 13 rfl rfl)
theorem dX13_eatsBest_84 : decode cX13_eatsBest 84 = .ok (.aload_n 0, 1) := dk_42 (dk_at dksX13_eatsBest_3 16 rfl rfl)
theorem dX13_eatsBest_85 : decode cX13_eatsBest 85 = .ok (.getfield 21, 3) := dk_180 0 21 (dk_at dksX13_eatsBest_3 17 rfl rfl)
theorem dX13_eatsBest_88 : decode cX13_eatsBest 88 = .ok (.iconst 0, 1) := dk_3 (dk_at dksX13_eatsBest_3 20 rfl rfl)
theorem dX13_eatsBest_89 : decode cX13_eatsBest 89 = .ok (.iload 6, 2) := dk_21 6 (dk_at dksX13_eatsBest_3 21 rfl rfl)
theorem dX13_eatsBest_91 : decode cX13_eatsBest 91 = .ok (.iadd, 1) := dk_96 (dk_at dksX13_eatsBest_3 23 rfl rfl)
theorem dX13_eatsBest_92 : decode cX13_eatsBest 92 = .ok (.iconst 1, 1) := dk_4 (dk_at dksX13_eatsBest_4 0 rfl rfl)
theorem dX13_eatsBest_93 : decode cX13_eatsBest 93 = .ok (.iastore, 1) := dk_79 (dk_at dksX13_eatsBest_4 1 rfl rfl)
theorem dX13_eatsBest_94 : decode cX13_eatsBest 94 = .ok (.iinc 6 1, 3) := dk_132 6 1 (dk_at dksX13_eatsBest_4 2 rfl rfl)
theorem dX13_eatsBest_97 : decode cX13_eatsBest 97 = .ok (.goto (-35), 3) := dk_167 255 221 (dk_at dksX13_eatsBest_4 5 rfl rfl)
theorem dX13_eatsBest_100 : decode cX13_eatsBest 100 = .ok (.aload_n 0, 1) := dk_42 (dk_at dksX13_eatsBest_4 8 rfl rfl)
theorem dX13_eatsBest_101 : decode cX13_eatsBest 101 = .ok (.iload 5, 2) := dk_21 5 (dk_at dksX13_eatsBest_4 9 rfl rfl)
theorem dX13_eatsBest_103 : decode cX13_eatsBest 103 = .ok (.aload_n 0, 1) := dk_42 (dk_at dksX13_eatsBest_4 11 rfl rfl)
theorem dX13_eatsBest_104 : decode cX13_eatsBest 104 = .ok (.aload_n 0, 1) := dk_42 (dk_at dksX13_eatsBest_4 12 rfl rfl)
theorem dX13_eatsBest_105 : decode cX13_eatsBest 105 = .ok (.getfield 21, 3) := dk_180 0 21 (dk_at dksX13_eatsBest_4 13 rfl rfl)
theorem dX13_eatsBest_108 : decode cX13_eatsBest 108 = .ok (.iload_n 1, 1) := dk_27 (dk_at dksX13_eatsBest_4 16 rfl rfl)
theorem dX13_eatsBest_109 : decode cX13_eatsBest 109 = .ok (.iload_n 2, 1) := dk_28 (dk_at dksX13_eatsBest_4 17 rfl rfl)
theorem dX13_eatsBest_110 : decode cX13_eatsBest 110 = .ok (.invokevirtual 436, 3) := dk_182 1 180 (dk_at dksX13_eatsBest_4 18 rfl rfl)
theorem dX13_eatsBest_113 : decode cX13_eatsBest 113 = .ok (.invokevirtual 457, 3) := dk_182 1 201 (dk_at dksX13_eatsBest_4 21 rfl rfl)
theorem dX13_eatsBest_116 : decode cX13_eatsBest 116 = .ok (.iinc 5 1, 3) := dk_132 5 1 (dk_at dksX13_eatsBest_5 0 rfl rfl)
theorem dX13_eatsBest_119 : decode cX13_eatsBest 119 = .ok (.goto (-104), 3) := dk_167 255 152 (dk_at dksX13_eatsBest_5 3 rfl rfl)
theorem dX13_eatsBest_122 : decode cX13_eatsBest 122 = .ok (.return_, 1) := dk_177 (dk_at dksX13_eatsBest_5 6 rfl rfl)
abbrev cX13_bits : ByteArray := prog_27_method_10_code
def yX13_bits : MethodName := ⟨RX13, "bits", "(I)I"⟩
def dkwX13_bits_0 : List UInt8 := [3, 60, 26, 61, 28, 153, 0, 15, 132, 1, 1, 28, 28, 4, 100, 126, 61, 167, 255, 243, 27, 172]
abbrev dktX13_bits_0 : List UInt8 := dkwX13_bits_0 ++ []
theorem dksX13_bits_0 : cX13_bits.data.toList.drop 0 = dktX13_bits_0 := by decide +kernel
theorem dX13_bits_0 : decode cX13_bits 0 = .ok (.iconst 0, 1) := dk_3 (dk_at dksX13_bits_0 0 rfl rfl)
theorem dX13_bits_1 : decode cX13_bits 1 = .ok (.istore_n 1, 1) := dk_60 (dk_at dksX13_bits_0 1 rfl rfl)
theorem dX13_bits_2 : decode cX13_bits 2 = .ok (.iload_n 0, 1) := dk_26 (dk_at dksX13_bits_0 2 rfl rfl)
theorem dX13_bits_3 : decode cX13_bits 3 = .ok (.istore_n 2, 1) := dk_61 (dk_at dksX13_bits_0 3 rfl rfl)
theorem dX13_bits_4 : decode cX13_bits 4 = .ok (.iload_n 2, 1) := dk_28 (dk_at dksX13_bits_0 4 rfl rfl)
theorem dX13_bits_5 : decode cX13_bits 5 = .ok (.ifCond .eq 15, 3) := dk_153 0 15 (dk_at dksX13_bits_0 5 rfl rfl)
theorem dX13_bits_8 : decode cX13_bits 8 = .ok (.iinc 1 1, 3) := dk_132 1 1 (dk_at dksX13_bits_0 8 rfl rfl)
theorem dX13_bits_11 : decode cX13_bits 11 = .ok (.iload_n 2, 1) := dk_28 (dk_at dksX13_bits_0 11 rfl rfl)
theorem dX13_bits_12 : decode cX13_bits 12 = .ok (.iload_n 2, 1) := dk_28 (dk_at dksX13_bits_0 12 rfl rfl)
theorem dX13_bits_13 : decode cX13_bits 13 = .ok (.iconst 1, 1) := dk_4 (dk_at dksX13_bits_0 13 rfl rfl)
theorem dX13_bits_14 : decode cX13_bits 14 = .ok (.isub, 1) := dk_100 (dk_at dksX13_bits_0 14 rfl rfl)
theorem dX13_bits_15 : decode cX13_bits 15 = .ok (.iand, 1) := dk_126 (dk_at dksX13_bits_0 15 rfl rfl)
theorem dX13_bits_16 : decode cX13_bits 16 = .ok (.istore_n 2, 1) := dk_61 (dk_at dksX13_bits_0 16 rfl rfl)
theorem dX13_bits_17 : decode cX13_bits 17 = .ok (.goto (-13), 3) := dk_167 255 243 (dk_at dksX13_bits_0 17 rfl rfl)
theorem dX13_bits_20 : decode cX13_bits 20 = .ok (.iload_n 1, 1) := dk_27 (dk_at dksX13_bits_0 20 rfl rfl)
theorem dX13_bits_21 : decode cX13_bits 21 = .ok (.ireturn, 1) := dk_172 (dk_at dksX13_bits_0 21 rfl rfl)
abbrev cX13_takesSet : ByteArray := prog_27_method_84_code
def yX13_takesSet : MethodName := ⟨RX13, "takesSet", "(II)V"⟩
def dkwX13_takesSet_2 : List UInt8 := [181, 1, 198, 177]
abbrev dktX13_takesSet_2 : List UInt8 := dkwX13_takesSet_2 ++ []
def dkwX13_takesSet_1 : List UInt8 := [27, 184, 1, 195, 42, 180, 1, 198, 184, 1, 195, 161, 0, 4, 177, 42, 28, 181, 1, 186, 42, 27]
abbrev dktX13_takesSet_1 : List UInt8 := dkwX13_takesSet_1 ++ dktX13_takesSet_2
def dkwX13_takesSet_0 : List UInt8 := [42, 180, 1, 186, 2, 159, 0, 34, 28, 42, 180, 1, 186, 163, 0, 25, 28, 42, 180, 1, 186, 160, 0, 18]
abbrev dktX13_takesSet_0 : List UInt8 := dkwX13_takesSet_0 ++ dktX13_takesSet_1
theorem dksX13_takesSet_0 : cX13_takesSet.data.toList.drop 0 = dktX13_takesSet_0 := by decide +kernel
theorem dksX13_takesSet_1 : cX13_takesSet.data.toList.drop 24 = dktX13_takesSet_1 := dk_seg dksX13_takesSet_0 24 rfl rfl
theorem dksX13_takesSet_2 : cX13_takesSet.data.toList.drop 46 = dktX13_takesSet_2 := dk_seg dksX13_takesSet_1 22 rfl rfl
theorem dX13_takesSet_0 : decode cX13_takesSet 0 = .ok (.aload_n 0, 1) := dk_42 (dk_at dksX13_takesSet_0 0 rfl rfl)
theorem dX13_takesSet_1 : decode cX13_takesSet 1 = .ok (.getfield 442, 3) := dk_180 1 186 (dk_at dksX13_takesSet_0 1 rfl rfl)
theorem dX13_takesSet_4 : decode cX13_takesSet 4 = .ok (.iconst (-1), 1) := dk_2 (dk_at dksX13_takesSet_0 4 rfl rfl)
theorem dX13_takesSet_5 : decode cX13_takesSet 5 = .ok (.if_icmp .eq 34, 3) := dk_159 0 34 (dk_at dksX13_takesSet_0 5 rfl rfl)
theorem dX13_takesSet_8 : decode cX13_takesSet 8 = .ok (.iload_n 2, 1) := dk_28 (dk_at dksX13_takesSet_0 8 rfl rfl)
theorem dX13_takesSet_9 : decode cX13_takesSet 9 = .ok (.aload_n 0, 1) := dk_42 (dk_at dksX13_takesSet_0 9 rfl rfl)
theorem dX13_takesSet_10 : decode cX13_takesSet 10 = .ok (.getfield 442, 3) := dk_180 1 186 (dk_at dksX13_takesSet_0 10 rfl rfl)
theorem dX13_takesSet_13 : decode cX13_takesSet 13 = .ok (.if_icmp .gt 25, 3) := dk_163 0 25 (dk_at dksX13_takesSet_0 13 rfl rfl)
theorem dX13_takesSet_16 : decode cX13_takesSet 16 = .ok (.iload_n 2, 1) := dk_28 (dk_at dksX13_takesSet_0 16 rfl rfl)
theorem dX13_takesSet_17 : decode cX13_takesSet 17 = .ok (.aload_n 0, 1) := dk_42 (dk_at dksX13_takesSet_0 17 rfl rfl)
theorem dX13_takesSet_18 : decode cX13_takesSet 18 = .ok (.getfield 442, 3) := dk_180 1 186 (dk_at dksX13_takesSet_0 18 rfl rfl)
theorem dX13_takesSet_21 : decode cX13_takesSet 21 = .ok (.if_icmp .ne 18, 3) := dk_160 0 18 (dk_at dksX13_takesSet_0 21 rfl rfl)
theorem dX13_takesSet_24 : decode cX13_takesSet 24 = .ok (.iload_n 1, 1) := dk_27 (dk_at dksX13_takesSet_1 0 rfl rfl)
theorem dX13_takesSet_25 : decode cX13_takesSet 25 = .ok (.invokestatic 451, 3) := dk_184 1 195 (dk_at dksX13_takesSet_1 1 rfl rfl)
theorem dX13_takesSet_28 : decode cX13_takesSet 28 = .ok (.aload_n 0, 1) := dk_42 (dk_at dksX13_takesSet_1 4 rfl rfl)
theorem dX13_takesSet_29 : decode cX13_takesSet 29 = .ok (.getfield 454, 3) := dk_180 1 198 (dk_at dksX13_takesSet_1 5 rfl rfl)
theorem dX13_takesSet_32 : decode cX13_takesSet 32 = .ok (.invokestatic 451, 3) := dk_184 1 195 (dk_at dksX13_takesSet_1 8 rfl rfl)
theorem dX13_takesSet_35 : decode cX13_takesSet 35 = .ok (.if_icmp .lt 4, 3) := dk_161 0 4 (dk_at dksX13_takesSet_1 11 rfl rfl)
theorem dX13_takesSet_38 : decode cX13_takesSet 38 = .ok (.return_, 1) := dk_177 (dk_at dksX13_takesSet_1 14 rfl rfl)
theorem dX13_takesSet_39 : decode cX13_takesSet 39 = .ok (.aload_n 0, 1) := dk_42 (dk_at dksX13_takesSet_1 15 rfl rfl)
theorem dX13_takesSet_40 : decode cX13_takesSet 40 = .ok (.iload_n 2, 1) := dk_28 (dk_at dksX13_takesSet_1 16 rfl rfl)
theorem dX13_takesSet_41 : decode cX13_takesSet 41 = .ok (.putfield 442, 3) := dk_181 1 186 (dk_at dksX13_takesSet_1 17 rfl rfl)
theorem dX13_takesSet_44 : decode cX13_takesSet 44 = .ok (.aload_n 0, 1) := dk_42 (dk_at dksX13_takesSet_1 20 rfl rfl)
theorem dX13_takesSet_45 : decode cX13_takesSet 45 = .ok (.iload_n 1, 1) := dk_27 (dk_at dksX13_takesSet_1 21 rfl rfl)
theorem dX13_takesSet_46 : decode cX13_takesSet 46 = .ok (.putfield 454, 3) := dk_181 1 198 (dk_at dksX13_takesSet_2 0 rfl rfl)
theorem dX13_takesSet_49 : decode cX13_takesSet 49 = .ok (.return_, 1) := dk_177 (dk_at dksX13_takesSet_2 3 rfl rfl)
abbrev cX13_eatsAsked : ByteArray := prog_27_method_87_code
def yX13_eatsAsked : MethodName := ⟨RX13, "eatsAsked", "(III)I"⟩
def dkwX13_eatsAsked_2 : List UInt8 := [28, 29, 182, 1, 204, 42, 42, 180, 1, 186, 182, 0, 49, 172]
abbrev dktX13_eatsAsked_2 : List UInt8 := dkwX13_eatsAsked_2 ++ []
def dkwX13_eatsAsked_1 : List UInt8 := [167, 0, 4, 3, 29, 182, 1, 173, 54, 4, 21, 4, 158, 0, 10, 42, 21, 4, 182, 0, 45, 172, 42, 27]
abbrev dktX13_eatsAsked_1 : List UInt8 := dkwX13_eatsAsked_1 ++ dktX13_eatsAsked_2
def dkwX13_eatsAsked_0 : List UInt8 := [42, 3, 181, 0, 39, 42, 42, 27, 182, 1, 161, 153, 0, 15, 42, 28, 182, 1, 167, 153, 0, 7, 4]
abbrev dktX13_eatsAsked_0 : List UInt8 := dkwX13_eatsAsked_0 ++ dktX13_eatsAsked_1
theorem dksX13_eatsAsked_0 : cX13_eatsAsked.data.toList.drop 0 = dktX13_eatsAsked_0 := by decide +kernel
theorem dksX13_eatsAsked_1 : cX13_eatsAsked.data.toList.drop 23 = dktX13_eatsAsked_1 := dk_seg dksX13_eatsAsked_0 23 rfl rfl
theorem dksX13_eatsAsked_2 : cX13_eatsAsked.data.toList.drop 47 = dktX13_eatsAsked_2 := dk_seg dksX13_eatsAsked_1 24 rfl rfl
theorem dX13_eatsAsked_0 : decode cX13_eatsAsked 0 = .ok (.aload_n 0, 1) := dk_42 (dk_at dksX13_eatsAsked_0 0 rfl rfl)
theorem dX13_eatsAsked_1 : decode cX13_eatsAsked 1 = .ok (.iconst 0, 1) := dk_3 (dk_at dksX13_eatsAsked_0 1 rfl rfl)
theorem dX13_eatsAsked_2 : decode cX13_eatsAsked 2 = .ok (.putfield 39, 3) := dk_181 0 39 (dk_at dksX13_eatsAsked_0 2 rfl rfl)
theorem dX13_eatsAsked_5 : decode cX13_eatsAsked 5 = .ok (.aload_n 0, 1) := dk_42 (dk_at dksX13_eatsAsked_0 5 rfl rfl)
theorem dX13_eatsAsked_6 : decode cX13_eatsAsked 6 = .ok (.aload_n 0, 1) := dk_42 (dk_at dksX13_eatsAsked_0 6 rfl rfl)
theorem dX13_eatsAsked_7 : decode cX13_eatsAsked 7 = .ok (.iload_n 1, 1) := dk_27 (dk_at dksX13_eatsAsked_0 7 rfl rfl)
theorem dX13_eatsAsked_8 : decode cX13_eatsAsked 8 = .ok (.invokevirtual 417, 3) := dk_182 1 161 (dk_at dksX13_eatsAsked_0 8 rfl rfl)
theorem dX13_eatsAsked_11 : decode cX13_eatsAsked 11 = .ok (.ifCond .eq 15, 3) := dk_153 0 15 (dk_at dksX13_eatsAsked_0 11 rfl rfl)
theorem dX13_eatsAsked_14 : decode cX13_eatsAsked 14 = .ok (.aload_n 0, 1) := dk_42 (dk_at dksX13_eatsAsked_0 14 rfl rfl)
theorem dX13_eatsAsked_15 : decode cX13_eatsAsked 15 = .ok (.iload_n 2, 1) := dk_28 (dk_at dksX13_eatsAsked_0 15 rfl rfl)
theorem dX13_eatsAsked_16 : decode cX13_eatsAsked 16 = .ok (.invokevirtual 423, 3) := dk_182 1 167 (dk_at dksX13_eatsAsked_0 16 rfl rfl)
theorem dX13_eatsAsked_19 : decode cX13_eatsAsked 19 = .ok (.ifCond .eq 7, 3) := dk_153 0 7 (dk_at dksX13_eatsAsked_0 19 rfl rfl)
theorem dX13_eatsAsked_22 : decode cX13_eatsAsked 22 = .ok (.iconst 1, 1) := dk_4 (dk_at dksX13_eatsAsked_0 22 rfl rfl)
theorem dX13_eatsAsked_23 : decode cX13_eatsAsked 23 = .ok (.goto 4, 3) := dk_167 0 4 (dk_at dksX13_eatsAsked_1 0 rfl rfl)
theorem dX13_eatsAsked_26 : decode cX13_eatsAsked 26 = .ok (.iconst 0, 1) := dk_3 (dk_at dksX13_eatsAsked_1 3 rfl rfl)
theorem dX13_eatsAsked_27 : decode cX13_eatsAsked 27 = .ok (.iload_n 3, 1) := dk_29 (dk_at dksX13_eatsAsked_1 4 rfl rfl)
theorem dX13_eatsAsked_28 : decode cX13_eatsAsked 28 = .ok (.invokevirtual 429, 3) := dk_182 1 173 (dk_at dksX13_eatsAsked_1 5 rfl rfl)
theorem dX13_eatsAsked_31 : decode cX13_eatsAsked 31 = .ok (.istore 4, 2) := dk_54 4 (dk_at dksX13_eatsAsked_1 8 rfl rfl)
theorem dX13_eatsAsked_33 : decode cX13_eatsAsked 33 = .ok (.iload 4, 2) := dk_21 4 (dk_at dksX13_eatsAsked_1 10 rfl rfl)
theorem dX13_eatsAsked_35 : decode cX13_eatsAsked 35 = .ok (.ifCond .le 10, 3) := dk_158 0 10 (dk_at dksX13_eatsAsked_1 12 rfl rfl)
theorem dX13_eatsAsked_38 : decode cX13_eatsAsked 38 = .ok (.aload_n 0, 1) := dk_42 (dk_at dksX13_eatsAsked_1 15 rfl rfl)
theorem dX13_eatsAsked_39 : decode cX13_eatsAsked 39 = .ok (.iload 4, 2) := dk_21 4 (dk_at dksX13_eatsAsked_1 16 rfl rfl)
theorem dX13_eatsAsked_41 : decode cX13_eatsAsked 41 = .ok (.invokevirtual 45, 3) := dk_182 0 45 (dk_at dksX13_eatsAsked_1 18 rfl rfl)
theorem dX13_eatsAsked_44 : decode cX13_eatsAsked 44 = .ok (.ireturn, 1) := dk_172 (dk_at dksX13_eatsAsked_1 21 rfl rfl)
theorem dX13_eatsAsked_45 : decode cX13_eatsAsked 45 = .ok (.aload_n 0, 1) := dk_42 (dk_at dksX13_eatsAsked_1 22 rfl rfl)
theorem dX13_eatsAsked_46 : decode cX13_eatsAsked 46 = .ok (.iload_n 1, 1) := dk_27 (dk_at dksX13_eatsAsked_1 23 rfl rfl)
theorem dX13_eatsAsked_47 : decode cX13_eatsAsked 47 = .ok (.iload_n 2, 1) := dk_28 (dk_at dksX13_eatsAsked_2 0 rfl rfl)
theorem dX13_eatsAsked_48 : decode cX13_eatsAsked 48 = .ok (.iload_n 3, 1) := dk_29 (dk_at dksX13_eatsAsked_2 1 rfl rfl)
theorem dX13_eatsAsked_49 : decode cX13_eatsAsked 49 = .ok (.invokevirtual 460, 3) := dk_182 1 204 (dk_at dksX13_eatsAsked_2 2 rfl rfl)
theorem dX13_eatsAsked_52 : decode cX13_eatsAsked 52 = .ok (.aload_n 0, 1) := dk_42 (dk_at dksX13_eatsAsked_2 5 rfl rfl)
theorem dX13_eatsAsked_53 : decode cX13_eatsAsked 53 = .ok (.aload_n 0, 1) := dk_42 (dk_at dksX13_eatsAsked_2 6 rfl rfl)
theorem dX13_eatsAsked_54 : decode cX13_eatsAsked 54 = .ok (.getfield 442, 3) := dk_180 1 186 (dk_at dksX13_eatsAsked_2 7 rfl rfl)
theorem dX13_eatsAsked_57 : decode cX13_eatsAsked 57 = .ok (.invokevirtual 49, 3) := dk_182 0 49 (dk_at dksX13_eatsAsked_2 10 rfl rfl)
theorem dX13_eatsAsked_60 : decode cX13_eatsAsked 60 = .ok (.ireturn, 1) := dk_172 (dk_at dksX13_eatsAsked_2 13 rfl rfl)
abbrev cX13_hideBest : ByteArray := prog_27_method_89_code
def yX13_hideBest : MethodName := ⟨RX13, "hideBest", "(III)I"⟩
def dkwX13_hideBest_2 : List UInt8 := [28, 29, 182, 1, 208, 42, 42, 180, 1, 198, 182, 0, 49, 172]
abbrev dktX13_hideBest_2 : List UInt8 := dkwX13_hideBest_2 ++ []
def dkwX13_hideBest_1 : List UInt8 := [167, 0, 4, 3, 29, 182, 1, 173, 54, 4, 21, 4, 158, 0, 10, 42, 21, 4, 182, 0, 45, 172, 42, 27]
abbrev dktX13_hideBest_1 : List UInt8 := dkwX13_hideBest_1 ++ dktX13_hideBest_2
def dkwX13_hideBest_0 : List UInt8 := [42, 3, 181, 0, 39, 42, 42, 27, 182, 1, 161, 153, 0, 15, 42, 28, 182, 1, 167, 153, 0, 7, 4]
abbrev dktX13_hideBest_0 : List UInt8 := dkwX13_hideBest_0 ++ dktX13_hideBest_1
theorem dksX13_hideBest_0 : cX13_hideBest.data.toList.drop 0 = dktX13_hideBest_0 := by decide +kernel
theorem dksX13_hideBest_1 : cX13_hideBest.data.toList.drop 23 = dktX13_hideBest_1 := dk_seg dksX13_hideBest_0 23 rfl rfl
theorem dksX13_hideBest_2 : cX13_hideBest.data.toList.drop 47 = dktX13_hideBest_2 := dk_seg dksX13_hideBest_1 24 rfl rfl
theorem dX13_hideBest_0 : decode cX13_hideBest 0 = .ok (.aload_n 0, 1) := dk_42 (dk_at dksX13_hideBest_0 0 rfl rfl)
theorem dX13_hideBest_1 : decode cX13_hideBest 1 = .ok (.iconst 0, 1) := dk_3 (dk_at dksX13_hideBest_0 1 rfl rfl)
theorem dX13_hideBest_2 : decode cX13_hideBest 2 = .ok (.putfield 39, 3) := dk_181 0 39 (dk_at dksX13_hideBest_0 2 rfl rfl)
theorem dX13_hideBest_5 : decode cX13_hideBest 5 = .ok (.aload_n 0, 1) := dk_42 (dk_at dksX13_hideBest_0 5 rfl rfl)
theorem dX13_hideBest_6 : decode cX13_hideBest 6 = .ok (.aload_n 0, 1) := dk_42 (dk_at dksX13_hideBest_0 6 rfl rfl)
theorem dX13_hideBest_7 : decode cX13_hideBest 7 = .ok (.iload_n 1, 1) := dk_27 (dk_at dksX13_hideBest_0 7 rfl rfl)
theorem dX13_hideBest_8 : decode cX13_hideBest 8 = .ok (.invokevirtual 417, 3) := dk_182 1 161 (dk_at dksX13_hideBest_0 8 rfl rfl)
theorem dX13_hideBest_11 : decode cX13_hideBest 11 = .ok (.ifCond .eq 15, 3) := dk_153 0 15 (dk_at dksX13_hideBest_0 11 rfl rfl)
theorem dX13_hideBest_14 : decode cX13_hideBest 14 = .ok (.aload_n 0, 1) := dk_42 (dk_at dksX13_hideBest_0 14 rfl rfl)
theorem dX13_hideBest_15 : decode cX13_hideBest 15 = .ok (.iload_n 2, 1) := dk_28 (dk_at dksX13_hideBest_0 15 rfl rfl)
theorem dX13_hideBest_16 : decode cX13_hideBest 16 = .ok (.invokevirtual 423, 3) := dk_182 1 167 (dk_at dksX13_hideBest_0 16 rfl rfl)
theorem dX13_hideBest_19 : decode cX13_hideBest 19 = .ok (.ifCond .eq 7, 3) := dk_153 0 7 (dk_at dksX13_hideBest_0 19 rfl rfl)
theorem dX13_hideBest_22 : decode cX13_hideBest 22 = .ok (.iconst 1, 1) := dk_4 (dk_at dksX13_hideBest_0 22 rfl rfl)
theorem dX13_hideBest_23 : decode cX13_hideBest 23 = .ok (.goto 4, 3) := dk_167 0 4 (dk_at dksX13_hideBest_1 0 rfl rfl)
theorem dX13_hideBest_26 : decode cX13_hideBest 26 = .ok (.iconst 0, 1) := dk_3 (dk_at dksX13_hideBest_1 3 rfl rfl)
theorem dX13_hideBest_27 : decode cX13_hideBest 27 = .ok (.iload_n 3, 1) := dk_29 (dk_at dksX13_hideBest_1 4 rfl rfl)
theorem dX13_hideBest_28 : decode cX13_hideBest 28 = .ok (.invokevirtual 429, 3) := dk_182 1 173 (dk_at dksX13_hideBest_1 5 rfl rfl)
theorem dX13_hideBest_31 : decode cX13_hideBest 31 = .ok (.istore 4, 2) := dk_54 4 (dk_at dksX13_hideBest_1 8 rfl rfl)
theorem dX13_hideBest_33 : decode cX13_hideBest 33 = .ok (.iload 4, 2) := dk_21 4 (dk_at dksX13_hideBest_1 10 rfl rfl)
theorem dX13_hideBest_35 : decode cX13_hideBest 35 = .ok (.ifCond .le 10, 3) := dk_158 0 10 (dk_at dksX13_hideBest_1 12 rfl rfl)
theorem dX13_hideBest_38 : decode cX13_hideBest 38 = .ok (.aload_n 0, 1) := dk_42 (dk_at dksX13_hideBest_1 15 rfl rfl)
theorem dX13_hideBest_39 : decode cX13_hideBest 39 = .ok (.iload 4, 2) := dk_21 4 (dk_at dksX13_hideBest_1 16 rfl rfl)
theorem dX13_hideBest_41 : decode cX13_hideBest 41 = .ok (.invokevirtual 45, 3) := dk_182 0 45 (dk_at dksX13_hideBest_1 18 rfl rfl)
theorem dX13_hideBest_44 : decode cX13_hideBest 44 = .ok (.ireturn, 1) := dk_172 (dk_at dksX13_hideBest_1 21 rfl rfl)
theorem dX13_hideBest_45 : decode cX13_hideBest 45 = .ok (.aload_n 0, 1) := dk_42 (dk_at dksX13_hideBest_1 22 rfl rfl)
theorem dX13_hideBest_46 : decode cX13_hideBest 46 = .ok (.iload_n 1, 1) := dk_27 (dk_at dksX13_hideBest_1 23 rfl rfl)
theorem dX13_hideBest_47 : decode cX13_hideBest 47 = .ok (.iload_n 2, 1) := dk_28 (dk_at dksX13_hideBest_2 0 rfl rfl)
theorem dX13_hideBest_48 : decode cX13_hideBest 48 = .ok (.iload_n 3, 1) := dk_29 (dk_at dksX13_hideBest_2 1 rfl rfl)
theorem dX13_hideBest_49 : decode cX13_hideBest 49 = .ok (.invokevirtual 464, 3) := dk_182 1 208 (dk_at dksX13_hideBest_2 2 rfl rfl)
theorem dX13_hideBest_52 : decode cX13_hideBest 52 = .ok (.aload_n 0, 1) := dk_42 (dk_at dksX13_hideBest_2 5 rfl rfl)
theorem dX13_hideBest_53 : decode cX13_hideBest 53 = .ok (.aload_n 0, 1) := dk_42 (dk_at dksX13_hideBest_2 6 rfl rfl)
theorem dX13_hideBest_54 : decode cX13_hideBest 54 = .ok (.getfield 454, 3) := dk_180 1 198 (dk_at dksX13_hideBest_2 7 rfl rfl)
theorem dX13_hideBest_57 : decode cX13_hideBest 57 = .ok (.invokevirtual 49, 3) := dk_182 0 49 (dk_at dksX13_hideBest_2 10 rfl rfl)
theorem dX13_hideBest_60 : decode cX13_hideBest 60 = .ok (.ireturn, 1) := dk_172 (dk_at dksX13_hideBest_2 13 rfl rfl)
abbrev cX13_hidesBest : ByteArray := prog_27_method_88_code
def yX13_hidesBest : MethodName := ⟨RX13, "hidesBest", "(III)V"⟩
def dkwX13_hidesBest_3 : List UInt8 := [180, 0, 21, 27, 28, 182, 1, 180, 182, 1, 201, 132, 5, 1, 167, 255, 187, 177]
abbrev dktX13_hidesBest_3 : List UInt8 := dkwX13_hidesBest_3 ++ []
def dkwX13_hidesBest_2 : List UInt8 := [21, 5, 79, 42, 42, 180, 0, 21, 27, 28, 3, 182, 1, 151, 154, 0, 19, 42, 21, 5, 42, 42]
abbrev dktX13_hidesBest_2 : List UInt8 := dkwX13_hidesBest_2 ++ dktX13_hidesBest_3
def dkwX13_hidesBest_1 : List UInt8 := [21, 4, 2, 130, 126, 153, 0, 6, 167, 0, 49, 42, 4, 29, 182, 1, 173, 87, 42, 180, 0, 21, 16, 16]
abbrev dktX13_hidesBest_1 : List UInt8 := dkwX13_hidesBest_1 ++ dktX13_hidesBest_2
def dkwX13_hidesBest_0 : List UInt8 := [42, 2, 181, 1, 186, 42, 27, 182, 1, 164, 54, 4, 3, 54, 5, 21, 5, 21, 4, 163, 0, 68, 21, 5]
abbrev dktX13_hidesBest_0 : List UInt8 := dkwX13_hidesBest_0 ++ dktX13_hidesBest_1
theorem dksX13_hidesBest_0 : cX13_hidesBest.data.toList.drop 0 = dktX13_hidesBest_0 := by decide +kernel
theorem dksX13_hidesBest_1 : cX13_hidesBest.data.toList.drop 24 = dktX13_hidesBest_1 := dk_seg dksX13_hidesBest_0 24 rfl rfl
theorem dksX13_hidesBest_2 : cX13_hidesBest.data.toList.drop 48 = dktX13_hidesBest_2 := dk_seg dksX13_hidesBest_1 24 rfl rfl
theorem dksX13_hidesBest_3 : cX13_hidesBest.data.toList.drop 70 = dktX13_hidesBest_3 := dk_seg dksX13_hidesBest_2 22 rfl rfl
theorem dX13_hidesBest_0 : decode cX13_hidesBest 0 = .ok (.aload_n 0, 1) := dk_42 (dk_at dksX13_hidesBest_0 0 rfl rfl)
theorem dX13_hidesBest_1 : decode cX13_hidesBest 1 = .ok (.iconst (-1), 1) := dk_2 (dk_at dksX13_hidesBest_0 1 rfl rfl)
theorem dX13_hidesBest_2 : decode cX13_hidesBest 2 = .ok (.putfield 442, 3) := dk_181 1 186 (dk_at dksX13_hidesBest_0 2 rfl rfl)
theorem dX13_hidesBest_5 : decode cX13_hidesBest 5 = .ok (.aload_n 0, 1) := dk_42 (dk_at dksX13_hidesBest_0 5 rfl rfl)
theorem dX13_hidesBest_6 : decode cX13_hidesBest 6 = .ok (.iload_n 1, 1) := dk_27 (dk_at dksX13_hidesBest_0 6 rfl rfl)
theorem dX13_hidesBest_7 : decode cX13_hidesBest 7 = .ok (.invokevirtual 420, 3) := dk_182 1 164 (dk_at dksX13_hidesBest_0 7 rfl rfl)
theorem dX13_hidesBest_10 : decode cX13_hidesBest 10 = .ok (.istore 4, 2) := dk_54 4 (dk_at dksX13_hidesBest_0 10 rfl rfl)
theorem dX13_hidesBest_12 : decode cX13_hidesBest 12 = .ok (.iconst 0, 1) := dk_3 (dk_at dksX13_hidesBest_0 12 rfl rfl)
theorem dX13_hidesBest_13 : decode cX13_hidesBest 13 = .ok (.istore 5, 2) := dk_54 5 (dk_at dksX13_hidesBest_0 13 rfl rfl)
theorem dX13_hidesBest_15 : decode cX13_hidesBest 15 = .ok (.iload 5, 2) := dk_21 5 (dk_at dksX13_hidesBest_0 15 rfl rfl)
theorem dX13_hidesBest_17 : decode cX13_hidesBest 17 = .ok (.iload 4, 2) := dk_21 4 (dk_at dksX13_hidesBest_0 17 rfl rfl)
theorem dX13_hidesBest_19 : decode cX13_hidesBest 19 = .ok (.if_icmp .gt 68, 3) := dk_163 0 68 (dk_at dksX13_hidesBest_0 19 rfl rfl)
theorem dX13_hidesBest_22 : decode cX13_hidesBest 22 = .ok (.iload 5, 2) := dk_21 5 (dk_at dksX13_hidesBest_0 22 rfl rfl)
theorem dX13_hidesBest_24 : decode cX13_hidesBest 24 = .ok (.iload 4, 2) := dk_21 4 (dk_at dksX13_hidesBest_1 0 rfl rfl)
theorem dX13_hidesBest_26 : decode cX13_hidesBest 26 = .ok (.iconst (-1), 1) := dk_2 (dk_at dksX13_hidesBest_1 2 rfl rfl)
theorem dX13_hidesBest_27 : decode cX13_hidesBest 27 = .ok (.ixor, 1) := dk_130 (dk_at dksX13_hidesBest_1 3 rfl rfl)
theorem dX13_hidesBest_28 : decode cX13_hidesBest 28 = .ok (.iand, 1) := dk_126 (dk_at dksX13_hidesBest_1 4 rfl rfl)
theorem dX13_hidesBest_29 : decode cX13_hidesBest 29 = .ok (.ifCond .eq 6, 3) := dk_153 0 6 (dk_at dksX13_hidesBest_1 5 rfl rfl)
theorem dX13_hidesBest_32 : decode cX13_hidesBest 32 = .ok (.goto 49, 3) := dk_167 0 49 (dk_at dksX13_hidesBest_1 8 rfl rfl)
theorem dX13_hidesBest_35 : decode cX13_hidesBest 35 = .ok (.aload_n 0, 1) := dk_42 (dk_at dksX13_hidesBest_1 11 rfl rfl)
theorem dX13_hidesBest_36 : decode cX13_hidesBest 36 = .ok (.iconst 1, 1) := dk_4 (dk_at dksX13_hidesBest_1 12 rfl rfl)
theorem dX13_hidesBest_37 : decode cX13_hidesBest 37 = .ok (.iload_n 3, 1) := dk_29 (dk_at dksX13_hidesBest_1 13 rfl rfl)
theorem dX13_hidesBest_38 : decode cX13_hidesBest 38 = .ok (.invokevirtual 429, 3) := dk_182 1 173 (dk_at dksX13_hidesBest_1 14 rfl rfl)
theorem dX13_hidesBest_41 : decode cX13_hidesBest 41 = .ok (.pop, 1) := dk_87 (dk_at dksX13_hidesBest_1 17 rfl rfl)
theorem dX13_hidesBest_42 : decode cX13_hidesBest 42 = .ok (.aload_n 0, 1) := dk_42 (dk_at dksX13_hidesBest_1 18 rfl rfl)
theorem dX13_hidesBest_43 : decode cX13_hidesBest 43 = .ok (.getfield 21, 3) := dk_180 0 21 (dk_at dksX13_hidesBest_1 19 rfl rfl)
theorem dX13_hidesBest_46 : decode cX13_hidesBest 46 = .ok (.bipush 16, 2) := dk_16 16 (dk_at dksX13_hidesBest_1 22 rfl rfl)
theorem dX13_hidesBest_48 : decode cX13_hidesBest 48 = .ok (.iload 5, 2) := dk_21 5 (dk_at dksX13_hidesBest_2 0 rfl rfl)
theorem dX13_hidesBest_50 : decode cX13_hidesBest 50 = .ok (.iastore, 1) := dk_79 (dk_at dksX13_hidesBest_2 2 rfl rfl)
theorem dX13_hidesBest_51 : decode cX13_hidesBest 51 = .ok (.aload_n 0, 1) := dk_42 (dk_at dksX13_hidesBest_2 3 rfl rfl)
theorem dX13_hidesBest_52 : decode cX13_hidesBest 52 = .ok (.aload_n 0, 1) := dk_42 (dk_at dksX13_hidesBest_2 4 rfl rfl)
theorem dX13_hidesBest_53 : decode cX13_hidesBest 53 = .ok (.getfield 21, 3) := dk_180 0 21 (dk_at dksX13_hidesBest_2 5 rfl rfl)
theorem dX13_hidesBest_56 : decode cX13_hidesBest 56 = .ok (.iload_n 1, 1) := dk_27 (dk_at dksX13_hidesBest_2 8 rfl rfl)
theorem dX13_hidesBest_57 : decode cX13_hidesBest 57 = .ok (.iload_n 2, 1) := dk_28 (dk_at dksX13_hidesBest_2 9 rfl rfl)
theorem dX13_hidesBest_58 : decode cX13_hidesBest 58 = .ok (.iconst 0, 1) := dk_3 (dk_at dksX13_hidesBest_2 10 rfl rfl)
theorem dX13_hidesBest_59 : decode cX13_hidesBest 59 = .ok (.invokevirtual 407, 3) := dk_182 1 151 (dk_at dksX13_hidesBest_2 11 rfl rfl)
theorem dX13_hidesBest_62 : decode cX13_hidesBest 62 = .ok (.ifCond .ne 19, 3) := dk_154 0 19 (dk_at dksX13_hidesBest_2 14 rfl rfl)
theorem dX13_hidesBest_65 : decode cX13_hidesBest 65 = .ok (.aload_n 0, 1) := dk_42 (dk_at dksX13_hidesBest_2 17 rfl rfl)
theorem dX13_hidesBest_66 : decode cX13_hidesBest 66 = .ok (.iload 5, 2) := dk_21 5 (dk_at dksX13_hidesBest_2 18 rfl rfl)
theorem dX13_hidesBest_68 : decode cX13_hidesBest 68 = .ok (.aload_n 0, 1) := dk_42 (dk_at dksX13_hidesBest_2 20 rfl rfl)
theorem dX13_hidesBest_69 : decode cX13_hidesBest 69 = .ok (.aload_n 0, 1) := dk_42 (dk_at dksX13_hidesBest_2 21 rfl rfl)
theorem dX13_hidesBest_70 : decode cX13_hidesBest 70 = .ok (.getfield 21, 3) := dk_180 0 21 (dk_at dksX13_hidesBest_3 0 rfl rfl)
theorem dX13_hidesBest_73 : decode cX13_hidesBest 73 = .ok (.iload_n 1, 1) := dk_27 (dk_at dksX13_hidesBest_3 3 rfl rfl)
theorem dX13_hidesBest_74 : decode cX13_hidesBest 74 = .ok (.iload_n 2, 1) := dk_28 (dk_at dksX13_hidesBest_3 4 rfl rfl)
theorem dX13_hidesBest_75 : decode cX13_hidesBest 75 = .ok (.invokevirtual 436, 3) := dk_182 1 180 (dk_at dksX13_hidesBest_3 5 rfl rfl)
theorem dX13_hidesBest_78 : decode cX13_hidesBest 78 = .ok (.invokevirtual 457, 3) := dk_182 1 201 (dk_at dksX13_hidesBest_3 8 rfl rfl)
theorem dX13_hidesBest_81 : decode cX13_hidesBest 81 = .ok (.iinc 5 1, 3) := dk_132 5 1 (dk_at dksX13_hidesBest_3 11 rfl rfl)
theorem dX13_hidesBest_84 : decode cX13_hidesBest 84 = .ok (.goto (-69), 3) := dk_167 255 187 (dk_at dksX13_hidesBest_3 14 rfl rfl)
theorem dX13_hidesBest_87 : decode cX13_hidesBest 87 = .ok (.return_, 1) := dk_177 (dk_at dksX13_hidesBest_3 17 rfl rfl)
abbrev cX13_hideAsked : ByteArray := prog_27_method_90_code
def yX13_hideAsked : MethodName := ⟨RX13, "hideAsked", "(III)I"⟩
def dkwX13_hideAsked_2 : List UInt8 := [28, 29, 182, 1, 208, 42, 42, 180, 1, 186, 182, 0, 49, 172]
abbrev dktX13_hideAsked_2 : List UInt8 := dkwX13_hideAsked_2 ++ []
def dkwX13_hideAsked_1 : List UInt8 := [167, 0, 4, 3, 29, 182, 1, 173, 54, 4, 21, 4, 158, 0, 10, 42, 21, 4, 182, 0, 45, 172, 42, 27]
abbrev dktX13_hideAsked_1 : List UInt8 := dkwX13_hideAsked_1 ++ dktX13_hideAsked_2
def dkwX13_hideAsked_0 : List UInt8 := [42, 3, 181, 0, 39, 42, 42, 27, 182, 1, 161, 153, 0, 15, 42, 28, 182, 1, 167, 153, 0, 7, 4]
abbrev dktX13_hideAsked_0 : List UInt8 := dkwX13_hideAsked_0 ++ dktX13_hideAsked_1
theorem dksX13_hideAsked_0 : cX13_hideAsked.data.toList.drop 0 = dktX13_hideAsked_0 := by decide +kernel
theorem dksX13_hideAsked_1 : cX13_hideAsked.data.toList.drop 23 = dktX13_hideAsked_1 := dk_seg dksX13_hideAsked_0 23 rfl rfl
theorem dksX13_hideAsked_2 : cX13_hideAsked.data.toList.drop 47 = dktX13_hideAsked_2 := dk_seg dksX13_hideAsked_1 24 rfl rfl
theorem dX13_hideAsked_0 : decode cX13_hideAsked 0 = .ok (.aload_n 0, 1) := dk_42 (dk_at dksX13_hideAsked_0 0 rfl rfl)
theorem dX13_hideAsked_1 : decode cX13_hideAsked 1 = .ok (.iconst 0, 1) := dk_3 (dk_at dksX13_hideAsked_0 1 rfl rfl)
theorem dX13_hideAsked_2 : decode cX13_hideAsked 2 = .ok (.putfield 39, 3) := dk_181 0 39 (dk_at dksX13_hideAsked_0 2 rfl rfl)
theorem dX13_hideAsked_5 : decode cX13_hideAsked 5 = .ok (.aload_n 0, 1) := dk_42 (dk_at dksX13_hideAsked_0 5 rfl rfl)
theorem dX13_hideAsked_6 : decode cX13_hideAsked 6 = .ok (.aload_n 0, 1) := dk_42 (dk_at dksX13_hideAsked_0 6 rfl rfl)
theorem dX13_hideAsked_7 : decode cX13_hideAsked 7 = .ok (.iload_n 1, 1) := dk_27 (dk_at dksX13_hideAsked_0 7 rfl rfl)
theorem dX13_hideAsked_8 : decode cX13_hideAsked 8 = .ok (.invokevirtual 417, 3) := dk_182 1 161 (dk_at dksX13_hideAsked_0 8 rfl rfl)
theorem dX13_hideAsked_11 : decode cX13_hideAsked 11 = .ok (.ifCond .eq 15, 3) := dk_153 0 15 (dk_at dksX13_hideAsked_0 11 rfl rfl)
theorem dX13_hideAsked_14 : decode cX13_hideAsked 14 = .ok (.aload_n 0, 1) := dk_42 (dk_at dksX13_hideAsked_0 14 rfl rfl)
theorem dX13_hideAsked_15 : decode cX13_hideAsked 15 = .ok (.iload_n 2, 1) := dk_28 (dk_at dksX13_hideAsked_0 15 rfl rfl)
theorem dX13_hideAsked_16 : decode cX13_hideAsked 16 = .ok (.invokevirtual 423, 3) := dk_182 1 167 (dk_at dksX13_hideAsked_0 16 rfl rfl)
theorem dX13_hideAsked_19 : decode cX13_hideAsked 19 = .ok (.ifCond .eq 7, 3) := dk_153 0 7 (dk_at dksX13_hideAsked_0 19 rfl rfl)
theorem dX13_hideAsked_22 : decode cX13_hideAsked 22 = .ok (.iconst 1, 1) := dk_4 (dk_at dksX13_hideAsked_0 22 rfl rfl)
theorem dX13_hideAsked_23 : decode cX13_hideAsked 23 = .ok (.goto 4, 3) := dk_167 0 4 (dk_at dksX13_hideAsked_1 0 rfl rfl)
theorem dX13_hideAsked_26 : decode cX13_hideAsked 26 = .ok (.iconst 0, 1) := dk_3 (dk_at dksX13_hideAsked_1 3 rfl rfl)
theorem dX13_hideAsked_27 : decode cX13_hideAsked 27 = .ok (.iload_n 3, 1) := dk_29 (dk_at dksX13_hideAsked_1 4 rfl rfl)
theorem dX13_hideAsked_28 : decode cX13_hideAsked 28 = .ok (.invokevirtual 429, 3) := dk_182 1 173 (dk_at dksX13_hideAsked_1 5 rfl rfl)
theorem dX13_hideAsked_31 : decode cX13_hideAsked 31 = .ok (.istore 4, 2) := dk_54 4 (dk_at dksX13_hideAsked_1 8 rfl rfl)
theorem dX13_hideAsked_33 : decode cX13_hideAsked 33 = .ok (.iload 4, 2) := dk_21 4 (dk_at dksX13_hideAsked_1 10 rfl rfl)
theorem dX13_hideAsked_35 : decode cX13_hideAsked 35 = .ok (.ifCond .le 10, 3) := dk_158 0 10 (dk_at dksX13_hideAsked_1 12 rfl rfl)
theorem dX13_hideAsked_38 : decode cX13_hideAsked 38 = .ok (.aload_n 0, 1) := dk_42 (dk_at dksX13_hideAsked_1 15 rfl rfl)
theorem dX13_hideAsked_39 : decode cX13_hideAsked 39 = .ok (.iload 4, 2) := dk_21 4 (dk_at dksX13_hideAsked_1 16 rfl rfl)
theorem dX13_hideAsked_41 : decode cX13_hideAsked 41 = .ok (.invokevirtual 45, 3) := dk_182 0 45 (dk_at dksX13_hideAsked_1 18 rfl rfl)
theorem dX13_hideAsked_44 : decode cX13_hideAsked 44 = .ok (.ireturn, 1) := dk_172 (dk_at dksX13_hideAsked_1 21 rfl rfl)
theorem dX13_hideAsked_45 : decode cX13_hideAsked 45 = .ok (.aload_n 0, 1) := dk_42 (dk_at dksX13_hideAsked_1 22 rfl rfl)
theorem dX13_hideAsked_46 : decode cX13_hideAsked 46 = .ok (.iload_n 1, 1) := dk_27 (dk_at dksX13_hideAsked_1 23 rfl rfl)
theorem dX13_hideAsked_47 : decode cX13_hideAsked 47 = .ok (.iload_n 2, 1) := dk_28 (dk_at dksX13_hideAsked_2 0 rfl rfl)
theorem dX13_hideAsked_48 : decode cX13_hideAsked 48 = .ok (.iload_n 3, 1) := dk_29 (dk_at dksX13_hideAsked_2 1 rfl rfl)
theorem dX13_hideAsked_49 : decode cX13_hideAsked 49 = .ok (.invokevirtual 464, 3) := dk_182 1 208 (dk_at dksX13_hideAsked_2 2 rfl rfl)
theorem dX13_hideAsked_52 : decode cX13_hideAsked 52 = .ok (.aload_n 0, 1) := dk_42 (dk_at dksX13_hideAsked_2 5 rfl rfl)
theorem dX13_hideAsked_53 : decode cX13_hideAsked 53 = .ok (.aload_n 0, 1) := dk_42 (dk_at dksX13_hideAsked_2 6 rfl rfl)
theorem dX13_hideAsked_54 : decode cX13_hideAsked 54 = .ok (.getfield 442, 3) := dk_180 1 186 (dk_at dksX13_hideAsked_2 7 rfl rfl)
theorem dX13_hideAsked_57 : decode cX13_hideAsked 57 = .ok (.invokevirtual 49, 3) := dk_182 0 49 (dk_at dksX13_hideAsked_2 10 rfl rfl)
theorem dX13_hideAsked_60 : decode cX13_hideAsked 60 = .ok (.ireturn, 1) := dk_172 (dk_at dksX13_hideAsked_2 13 rfl rfl)
abbrev cX13_cover : ByteArray := prog_27_method_91_code
def yX13_cover : MethodName := ⟨RX13, "cover", "(III)I"⟩
def dkwX13_cover_3 : List UInt8 := [42, 21, 5, 182, 0, 49, 172, 132, 5, 1, 167, 255, 224, 42, 16, 254, 182, 0, 49, 172]
abbrev dktX13_cover_3 : List UInt8 := dkwX13_cover_3 ++ []
def dkwX13_cover_2 : List UInt8 := [54, 5, 21, 5, 16, 30, 163, 0, 31, 42, 42, 180, 0, 21, 27, 28, 21, 5, 182, 1, 151, 154, 0, 10]
abbrev dktX13_cover_2 : List UInt8 := dkwX13_cover_2 ++ dktX13_cover_3
def dkwX13_cover_1 : List UInt8 := [167, 0, 4, 3, 29, 182, 1, 173, 54, 4, 21, 4, 158, 0, 10, 42, 21, 4, 182, 0, 45, 172, 3]
abbrev dktX13_cover_1 : List UInt8 := dkwX13_cover_1 ++ dktX13_cover_2
def dkwX13_cover_0 : List UInt8 := [42, 3, 181, 0, 39, 42, 42, 27, 182, 1, 161, 153, 0, 15, 42, 28, 182, 1, 167, 153, 0, 7, 4]
abbrev dktX13_cover_0 : List UInt8 := dkwX13_cover_0 ++ dktX13_cover_1
theorem dksX13_cover_0 : cX13_cover.data.toList.drop 0 = dktX13_cover_0 := by decide +kernel
theorem dksX13_cover_1 : cX13_cover.data.toList.drop 23 = dktX13_cover_1 := dk_seg dksX13_cover_0 23 rfl rfl
theorem dksX13_cover_2 : cX13_cover.data.toList.drop 46 = dktX13_cover_2 := dk_seg dksX13_cover_1 23 rfl rfl
theorem dksX13_cover_3 : cX13_cover.data.toList.drop 70 = dktX13_cover_3 := dk_seg dksX13_cover_2 24 rfl rfl
theorem dX13_cover_0 : decode cX13_cover 0 = .ok (.aload_n 0, 1) := dk_42 (dk_at dksX13_cover_0 0 rfl rfl)
theorem dX13_cover_1 : decode cX13_cover 1 = .ok (.iconst 0, 1) := dk_3 (dk_at dksX13_cover_0 1 rfl rfl)
theorem dX13_cover_2 : decode cX13_cover 2 = .ok (.putfield 39, 3) := dk_181 0 39 (dk_at dksX13_cover_0 2 rfl rfl)
theorem dX13_cover_5 : decode cX13_cover 5 = .ok (.aload_n 0, 1) := dk_42 (dk_at dksX13_cover_0 5 rfl rfl)
theorem dX13_cover_6 : decode cX13_cover 6 = .ok (.aload_n 0, 1) := dk_42 (dk_at dksX13_cover_0 6 rfl rfl)
theorem dX13_cover_7 : decode cX13_cover 7 = .ok (.iload_n 1, 1) := dk_27 (dk_at dksX13_cover_0 7 rfl rfl)
theorem dX13_cover_8 : decode cX13_cover 8 = .ok (.invokevirtual 417, 3) := dk_182 1 161 (dk_at dksX13_cover_0 8 rfl rfl)
theorem dX13_cover_11 : decode cX13_cover 11 = .ok (.ifCond .eq 15, 3) := dk_153 0 15 (dk_at dksX13_cover_0 11 rfl rfl)
theorem dX13_cover_14 : decode cX13_cover 14 = .ok (.aload_n 0, 1) := dk_42 (dk_at dksX13_cover_0 14 rfl rfl)
theorem dX13_cover_15 : decode cX13_cover 15 = .ok (.iload_n 2, 1) := dk_28 (dk_at dksX13_cover_0 15 rfl rfl)
theorem dX13_cover_16 : decode cX13_cover 16 = .ok (.invokevirtual 423, 3) := dk_182 1 167 (dk_at dksX13_cover_0 16 rfl rfl)
theorem dX13_cover_19 : decode cX13_cover 19 = .ok (.ifCond .eq 7, 3) := dk_153 0 7 (dk_at dksX13_cover_0 19 rfl rfl)
theorem dX13_cover_22 : decode cX13_cover 22 = .ok (.iconst 1, 1) := dk_4 (dk_at dksX13_cover_0 22 rfl rfl)
theorem dX13_cover_23 : decode cX13_cover 23 = .ok (.goto 4, 3) := dk_167 0 4 (dk_at dksX13_cover_1 0 rfl rfl)
theorem dX13_cover_26 : decode cX13_cover 26 = .ok (.iconst 0, 1) := dk_3 (dk_at dksX13_cover_1 3 rfl rfl)
theorem dX13_cover_27 : decode cX13_cover 27 = .ok (.iload_n 3, 1) := dk_29 (dk_at dksX13_cover_1 4 rfl rfl)
theorem dX13_cover_28 : decode cX13_cover 28 = .ok (.invokevirtual 429, 3) := dk_182 1 173 (dk_at dksX13_cover_1 5 rfl rfl)
theorem dX13_cover_31 : decode cX13_cover 31 = .ok (.istore 4, 2) := dk_54 4 (dk_at dksX13_cover_1 8 rfl rfl)
theorem dX13_cover_33 : decode cX13_cover 33 = .ok (.iload 4, 2) := dk_21 4 (dk_at dksX13_cover_1 10 rfl rfl)
theorem dX13_cover_35 : decode cX13_cover 35 = .ok (.ifCond .le 10, 3) := dk_158 0 10 (dk_at dksX13_cover_1 12 rfl rfl)
theorem dX13_cover_38 : decode cX13_cover 38 = .ok (.aload_n 0, 1) := dk_42 (dk_at dksX13_cover_1 15 rfl rfl)
theorem dX13_cover_39 : decode cX13_cover 39 = .ok (.iload 4, 2) := dk_21 4 (dk_at dksX13_cover_1 16 rfl rfl)
theorem dX13_cover_41 : decode cX13_cover 41 = .ok (.invokevirtual 45, 3) := dk_182 0 45 (dk_at dksX13_cover_1 18 rfl rfl)
theorem dX13_cover_44 : decode cX13_cover 44 = .ok (.ireturn, 1) := dk_172 (dk_at dksX13_cover_1 21 rfl rfl)
theorem dX13_cover_45 : decode cX13_cover 45 = .ok (.iconst 0, 1) := dk_3 (dk_at dksX13_cover_1 22 rfl rfl)
theorem dX13_cover_46 : decode cX13_cover 46 = .ok (.istore 5, 2) := dk_54 5 (dk_at dksX13_cover_2 0 rfl rfl)
theorem dX13_cover_48 : decode cX13_cover 48 = .ok (.iload 5, 2) := dk_21 5 (dk_at dksX13_cover_2 2 rfl rfl)
theorem dX13_cover_50 : decode cX13_cover 50 = .ok (.bipush 30, 2) := dk_16 30 (dk_at dksX13_cover_2 4 rfl rfl)
theorem dX13_cover_52 : decode cX13_cover 52 = .ok (.if_icmp .gt 31, 3) := dk_163 0 31 (dk_at dksX13_cover_2 6 rfl rfl)
theorem dX13_cover_55 : decode cX13_cover 55 = .ok (.aload_n 0, 1) := dk_42 (dk_at dksX13_cover_2 9 rfl rfl)
theorem dX13_cover_56 : decode cX13_cover 56 = .ok (.aload_n 0, 1) := dk_42 (dk_at dksX13_cover_2 10 rfl rfl)
theorem dX13_cover_57 : decode cX13_cover 57 = .ok (.getfield 21, 3) := dk_180 0 21 (dk_at dksX13_cover_2 11 rfl rfl)
theorem dX13_cover_60 : decode cX13_cover 60 = .ok (.iload_n 1, 1) := dk_27 (dk_at dksX13_cover_2 14 rfl rfl)
theorem dX13_cover_61 : decode cX13_cover 61 = .ok (.iload_n 2, 1) := dk_28 (dk_at dksX13_cover_2 15 rfl rfl)
theorem dX13_cover_62 : decode cX13_cover 62 = .ok (.iload 5, 2) := dk_21 5 (dk_at dksX13_cover_2 16 rfl rfl)
theorem dX13_cover_64 : decode cX13_cover 64 = .ok (.invokevirtual 407, 3) := dk_182 1 151 (dk_at dksX13_cover_2 18 rfl rfl)
theorem dX13_cover_67 : decode cX13_cover 67 = .ok (.ifCond .ne 10, 3) := dk_154 0 10 (dk_at dksX13_cover_2 21 rfl rfl)
theorem dX13_cover_70 : decode cX13_cover 70 = .ok (.aload_n 0, 1) := dk_42 (dk_at dksX13_cover_3 0 rfl rfl)
theorem dX13_cover_71 : decode cX13_cover 71 = .ok (.iload 5, 2) := dk_21 5 (dk_at dksX13_cover_3 1 rfl rfl)
theorem dX13_cover_73 : decode cX13_cover 73 = .ok (.invokevirtual 49, 3) := dk_182 0 49 (dk_at dksX13_cover_3 3 rfl rfl)
theorem dX13_cover_76 : decode cX13_cover 76 = .ok (.ireturn, 1) := dk_172 (dk_at dksX13_cover_3 6 rfl rfl)
theorem dX13_cover_77 : decode cX13_cover 77 = .ok (.iinc 5 1, 3) := dk_132 5 1 (dk_at dksX13_cover_3 7 rfl rfl)
theorem dX13_cover_80 : decode cX13_cover 80 = .ok (.goto (-32), 3) := dk_167 255 224 (dk_at dksX13_cover_3 10 rfl rfl)
theorem dX13_cover_83 : decode cX13_cover 83 = .ok (.aload_n 0, 1) := dk_42 (dk_at dksX13_cover_3 13 rfl rfl)
theorem dX13_cover_84 : decode cX13_cover 84 = .ok (.bipush (-2), 2) := dk_16 254 (dk_at dksX13_cover_3 14 rfl rfl)
theorem dX13_cover_86 : decode cX13_cover 86 = .ok (.invokevirtual 49, 3) := dk_182 0 49 (dk_at dksX13_cover_3 16 rfl rfl)
theorem dX13_cover_89 : decode cX13_cover 89 = .ok (.ireturn, 1) := dk_172 (dk_at dksX13_cover_3 19 rfl rfl)
abbrev cX13_hold : ByteArray := prog_27_method_93_code
def yX13_hold : MethodName := ⟨RX13, "hold", "(I)I"⟩
def dkwX13_hold_1 : List UInt8 := [42, 42, 180, 1, 214, 182, 0, 49, 172]
abbrev dktX13_hold_1 : List UInt8 := dkwX13_hold_1 ++ []
def dkwX13_hold_0 : List UInt8 := [42, 3, 181, 0, 39, 42, 27, 182, 1, 158, 154, 0, 9, 42, 4, 182, 0, 45, 172, 42, 27, 182, 1, 217]
abbrev dktX13_hold_0 : List UInt8 := dkwX13_hold_0 ++ dktX13_hold_1
theorem dksX13_hold_0 : cX13_hold.data.toList.drop 0 = dktX13_hold_0 := by decide +kernel
theorem dksX13_hold_1 : cX13_hold.data.toList.drop 24 = dktX13_hold_1 := dk_seg dksX13_hold_0 24 rfl rfl
theorem dX13_hold_0 : decode cX13_hold 0 = .ok (.aload_n 0, 1) := dk_42 (dk_at dksX13_hold_0 0 rfl rfl)
theorem dX13_hold_1 : decode cX13_hold 1 = .ok (.iconst 0, 1) := dk_3 (dk_at dksX13_hold_0 1 rfl rfl)
theorem dX13_hold_2 : decode cX13_hold 2 = .ok (.putfield 39, 3) := dk_181 0 39 (dk_at dksX13_hold_0 2 rfl rfl)
theorem dX13_hold_5 : decode cX13_hold 5 = .ok (.aload_n 0, 1) := dk_42 (dk_at dksX13_hold_0 5 rfl rfl)
theorem dX13_hold_6 : decode cX13_hold 6 = .ok (.iload_n 1, 1) := dk_27 (dk_at dksX13_hold_0 6 rfl rfl)
theorem dX13_hold_7 : decode cX13_hold 7 = .ok (.invokevirtual 414, 3) := dk_182 1 158 (dk_at dksX13_hold_0 7 rfl rfl)
theorem dX13_hold_10 : decode cX13_hold 10 = .ok (.ifCond .ne 9, 3) := dk_154 0 9 (dk_at dksX13_hold_0 10 rfl rfl)
theorem dX13_hold_13 : decode cX13_hold 13 = .ok (.aload_n 0, 1) := dk_42 (dk_at dksX13_hold_0 13 rfl rfl)
theorem dX13_hold_14 : decode cX13_hold 14 = .ok (.iconst 1, 1) := dk_4 (dk_at dksX13_hold_0 14 rfl rfl)
theorem dX13_hold_15 : decode cX13_hold 15 = .ok (.invokevirtual 45, 3) := dk_182 0 45 (dk_at dksX13_hold_0 15 rfl rfl)
theorem dX13_hold_18 : decode cX13_hold 18 = .ok (.ireturn, 1) := dk_172 (dk_at dksX13_hold_0 18 rfl rfl)
theorem dX13_hold_19 : decode cX13_hold 19 = .ok (.aload_n 0, 1) := dk_42 (dk_at dksX13_hold_0 19 rfl rfl)
theorem dX13_hold_20 : decode cX13_hold 20 = .ok (.iload_n 1, 1) := dk_27 (dk_at dksX13_hold_0 20 rfl rfl)
theorem dX13_hold_21 : decode cX13_hold 21 = .ok (.invokevirtual 473, 3) := dk_182 1 217 (dk_at dksX13_hold_0 21 rfl rfl)
theorem dX13_hold_24 : decode cX13_hold 24 = .ok (.aload_n 0, 1) := dk_42 (dk_at dksX13_hold_1 0 rfl rfl)
theorem dX13_hold_25 : decode cX13_hold 25 = .ok (.aload_n 0, 1) := dk_42 (dk_at dksX13_hold_1 1 rfl rfl)
theorem dX13_hold_26 : decode cX13_hold 26 = .ok (.getfield 470, 3) := dk_180 1 214 (dk_at dksX13_hold_1 2 rfl rfl)
theorem dX13_hold_29 : decode cX13_hold 29 = .ok (.invokevirtual 49, 3) := dk_182 0 49 (dk_at dksX13_hold_1 5 rfl rfl)
theorem dX13_hold_32 : decode cX13_hold 32 = .ok (.ireturn, 1) := dk_172 (dk_at dksX13_hold_1 8 rfl rfl)
abbrev cX13_holds : ByteArray := prog_27_method_92_code
def yX13_holds : MethodName := ⟨RX13, "holds", "(I)V"⟩
def dkwX13_holds_3 : List UInt8 := [132, 2, 1, 167, 255, 184, 177]
abbrev dktX13_holds_3 : List UInt8 := dkwX13_holds_3 ++ []
def dkwX13_holds_2 : List UInt8 := [158, 0, 14, 29, 42, 180, 1, 211, 163, 0, 6, 167, 0, 13, 42, 29, 181, 1, 211, 42, 28, 181, 1, 214]
abbrev dktX13_holds_2 : List UInt8 := dkwX13_holds_2 ++ dktX13_holds_3
def dkwX13_holds_1 : List UInt8 := [42, 42, 180, 0, 21, 27, 3, 182, 1, 148, 100, 28, 42, 180, 1, 111, 180, 0, 156, 104, 100, 62, 28]
abbrev dktX13_holds_1 : List UInt8 := dkwX13_holds_1 ++ dktX13_holds_2
def dkwX13_holds_0 : List UInt8 := [3, 61, 28, 16, 60, 163, 0, 72, 42, 4, 28, 182, 1, 173, 87, 42, 42, 180, 0, 21, 27, 182, 1, 177]
abbrev dktX13_holds_0 : List UInt8 := dkwX13_holds_0 ++ dktX13_holds_1
theorem dksX13_holds_0 : cX13_holds.data.toList.drop 0 = dktX13_holds_0 := by decide +kernel
theorem dksX13_holds_1 : cX13_holds.data.toList.drop 24 = dktX13_holds_1 := dk_seg dksX13_holds_0 24 rfl rfl
theorem dksX13_holds_2 : cX13_holds.data.toList.drop 47 = dktX13_holds_2 := dk_seg dksX13_holds_1 23 rfl rfl
theorem dksX13_holds_3 : cX13_holds.data.toList.drop 71 = dktX13_holds_3 := dk_seg dksX13_holds_2 24 rfl rfl
theorem dX13_holds_0 : decode cX13_holds 0 = .ok (.iconst 0, 1) := dk_3 (dk_at dksX13_holds_0 0 rfl rfl)
theorem dX13_holds_1 : decode cX13_holds 1 = .ok (.istore_n 2, 1) := dk_61 (dk_at dksX13_holds_0 1 rfl rfl)
theorem dX13_holds_2 : decode cX13_holds 2 = .ok (.iload_n 2, 1) := dk_28 (dk_at dksX13_holds_0 2 rfl rfl)
theorem dX13_holds_3 : decode cX13_holds 3 = .ok (.bipush 60, 2) := dk_16 60 (dk_at dksX13_holds_0 3 rfl rfl)
theorem dX13_holds_5 : decode cX13_holds 5 = .ok (.if_icmp .gt 72, 3) := dk_163 0 72 (dk_at dksX13_holds_0 5 rfl rfl)
theorem dX13_holds_8 : decode cX13_holds 8 = .ok (.aload_n 0, 1) := dk_42 (dk_at dksX13_holds_0 8 rfl rfl)
theorem dX13_holds_9 : decode cX13_holds 9 = .ok (.iconst 1, 1) := dk_4 (dk_at dksX13_holds_0 9 rfl rfl)
theorem dX13_holds_10 : decode cX13_holds 10 = .ok (.iload_n 2, 1) := dk_28 (dk_at dksX13_holds_0 10 rfl rfl)
theorem dX13_holds_11 : decode cX13_holds 11 = .ok (.invokevirtual 429, 3) := dk_182 1 173 (dk_at dksX13_holds_0 11 rfl rfl)
theorem dX13_holds_14 : decode cX13_holds 14 = .ok (.pop, 1) := dk_87 (dk_at dksX13_holds_0 14 rfl rfl)
theorem dX13_holds_15 : decode cX13_holds 15 = .ok (.aload_n 0, 1) := dk_42 (dk_at dksX13_holds_0 15 rfl rfl)
theorem dX13_holds_16 : decode cX13_holds 16 = .ok (.aload_n 0, 1) := dk_42 (dk_at dksX13_holds_0 16 rfl rfl)
theorem dX13_holds_17 : decode cX13_holds 17 = .ok (.getfield 21, 3) := dk_180 0 21 (dk_at dksX13_holds_0 17 rfl rfl)
theorem dX13_holds_20 : decode cX13_holds 20 = .ok (.iload_n 1, 1) := dk_27 (dk_at dksX13_holds_0 20 rfl rfl)
theorem dX13_holds_21 : decode cX13_holds 21 = .ok (.invokevirtual 433, 3) := dk_182 1 177 (dk_at dksX13_holds_0 21 rfl rfl)
theorem dX13_holds_24 : decode cX13_holds 24 = .ok (.aload_n 0, 1) := dk_42 (dk_at dksX13_holds_1 0 rfl rfl)
theorem dX13_holds_25 : decode cX13_holds 25 = .ok (.aload_n 0, 1) := dk_42 (dk_at dksX13_holds_1 1 rfl rfl)
theorem dX13_holds_26 : decode cX13_holds 26 = .ok (.getfield 21, 3) := dk_180 0 21 (dk_at dksX13_holds_1 2 rfl rfl)
theorem dX13_holds_29 : decode cX13_holds 29 = .ok (.iload_n 1, 1) := dk_27 (dk_at dksX13_holds_1 5 rfl rfl)
theorem dX13_holds_30 : decode cX13_holds 30 = .ok (.iconst 0, 1) := dk_3 (dk_at dksX13_holds_1 6 rfl rfl)
theorem dX13_holds_31 : decode cX13_holds 31 = .ok (.invokevirtual 404, 3) := dk_182 1 148 (dk_at dksX13_holds_1 7 rfl rfl)
theorem dX13_holds_34 : decode cX13_holds 34 = .ok (.isub, 1) := dk_100 (dk_at dksX13_holds_1 10 rfl rfl)
theorem dX13_holds_35 : decode cX13_holds 35 = .ok (.iload_n 2, 1) := dk_28 (dk_at dksX13_holds_1 11 rfl rfl)
theorem dX13_holds_36 : decode cX13_holds 36 = .ok (.aload_n 0, 1) := dk_42 (dk_at dksX13_holds_1 12 rfl rfl)
theorem dX13_holds_37 : decode cX13_holds 37 = .ok (.getfield 367, 3) := dk_180 1 111 (dk_at dksX13_holds_1 13 rfl rfl)
theorem dX13_holds_40 : decode cX13_holds 40 = .ok (.getfield 156, 3) := dk_180 0 156 (dk_at dksX13_holds_1 16 rfl rfl)
theorem dX13_holds_43 : decode cX13_holds 43 = .ok (.imul, 1) := dk_104 (dk_at dksX13_holds_1 19 rfl rfl)
theorem dX13_holds_44 : decode cX13_holds 44 = .ok (.isub, 1) := dk_100 (dk_at dksX13_holds_1 20 rfl rfl)
theorem dX13_holds_45 : decode cX13_holds 45 = .ok (.istore_n 3, 1) := dk_62 (dk_at dksX13_holds_1 21 rfl rfl)
theorem dX13_holds_46 : decode cX13_holds 46 = .ok (.iload_n 2, 1) := dk_28 (dk_at dksX13_holds_1 22 rfl rfl)
theorem dX13_holds_47 : decode cX13_holds 47 = .ok (.ifCond .le 14, 3) := dk_158 0 14 (dk_at dksX13_holds_2 0 rfl rfl)
theorem dX13_holds_50 : decode cX13_holds 50 = .ok (.iload_n 3, 1) := dk_29 (dk_at dksX13_holds_2 3 rfl rfl)
theorem dX13_holds_51 : decode cX13_holds 51 = .ok (.aload_n 0, 1) := dk_42 (dk_at dksX13_holds_2 4 rfl rfl)
theorem dX13_holds_52 : decode cX13_holds 52 = .ok (.getfield 467, 3) := dk_180 1 211 (dk_at dksX13_holds_2 5 rfl rfl)
theorem dX13_holds_55 : decode cX13_holds 55 = .ok (.if_icmp .gt 6, 3) := dk_163 0 6 (dk_at dksX13_holds_2 8 rfl rfl)
theorem dX13_holds_58 : decode cX13_holds 58 = .ok (.goto 13, 3) := dk_167 0 13 (dk_at dksX13_holds_2 11 rfl rfl)
theorem dX13_holds_61 : decode cX13_holds 61 = .ok (.aload_n 0, 1) := dk_42 (dk_at dksX13_holds_2 14 rfl rfl)
theorem dX13_holds_62 : decode cX13_holds 62 = .ok (.iload_n 3, 1) := dk_29 (dk_at dksX13_holds_2 15 rfl rfl)
theorem dX13_holds_63 : decode cX13_holds 63 = .ok (.putfield 467, 3) := dk_181 1 211 (dk_at dksX13_holds_2 16 rfl rfl)
theorem dX13_holds_66 : decode cX13_holds 66 = .ok (.aload_n 0, 1) := dk_42 (dk_at dksX13_holds_2 19 rfl rfl)
theorem dX13_holds_67 : decode cX13_holds 67 = .ok (.iload_n 2, 1) := dk_28 (dk_at dksX13_holds_2 20 rfl rfl)
theorem dX13_holds_68 : decode cX13_holds 68 = .ok (.putfield 470, 3) := dk_181 1 214 (dk_at dksX13_holds_2 21 rfl rfl)
theorem dX13_holds_71 : decode cX13_holds 71 = .ok (.iinc 2 1, 3) := dk_132 2 1 (dk_at dksX13_holds_3 0 rfl rfl)
theorem dX13_holds_74 : decode cX13_holds 74 = .ok (.goto (-72), 3) := dk_167 255 184 (dk_at dksX13_holds_3 3 rfl rfl)
theorem dX13_holds_77 : decode cX13_holds 77 = .ok (.return_, 1) := dk_177 (dk_at dksX13_holds_3 6 rfl rfl)
abbrev cX13_holdGain : ByteArray := prog_27_method_94_code
def yX13_holdGain : MethodName := ⟨RX13, "holdGain", "(I)I"⟩
def dkwX13_holdGain_1 : List UInt8 := [42, 42, 180, 1, 211, 182, 0, 49, 172]
abbrev dktX13_holdGain_1 : List UInt8 := dkwX13_holdGain_1 ++ []
def dkwX13_holdGain_0 : List UInt8 := [42, 3, 181, 0, 39, 42, 27, 182, 1, 158, 154, 0, 9, 42, 4, 182, 1, 220, 172, 42, 27, 182, 1, 217]
abbrev dktX13_holdGain_0 : List UInt8 := dkwX13_holdGain_0 ++ dktX13_holdGain_1
theorem dksX13_holdGain_0 : cX13_holdGain.data.toList.drop 0 = dktX13_holdGain_0 := by decide +kernel
theorem dksX13_holdGain_1 : cX13_holdGain.data.toList.drop 24 = dktX13_holdGain_1 := dk_seg dksX13_holdGain_0 24 rfl rfl
theorem dX13_holdGain_0 : decode cX13_holdGain 0 = .ok (.aload_n 0, 1) := dk_42 (dk_at dksX13_holdGain_0 0 rfl rfl)
theorem dX13_holdGain_1 : decode cX13_holdGain 1 = .ok (.iconst 0, 1) := dk_3 (dk_at dksX13_holdGain_0 1 rfl rfl)
theorem dX13_holdGain_2 : decode cX13_holdGain 2 = .ok (.putfield 39, 3) := dk_181 0 39 (dk_at dksX13_holdGain_0 2 rfl rfl)
theorem dX13_holdGain_5 : decode cX13_holdGain 5 = .ok (.aload_n 0, 1) := dk_42 (dk_at dksX13_holdGain_0 5 rfl rfl)
theorem dX13_holdGain_6 : decode cX13_holdGain 6 = .ok (.iload_n 1, 1) := dk_27 (dk_at dksX13_holdGain_0 6 rfl rfl)
theorem dX13_holdGain_7 : decode cX13_holdGain 7 = .ok (.invokevirtual 414, 3) := dk_182 1 158 (dk_at dksX13_holdGain_0 7 rfl rfl)
theorem dX13_holdGain_10 : decode cX13_holdGain 10 = .ok (.ifCond .ne 9, 3) := dk_154 0 9 (dk_at dksX13_holdGain_0 10 rfl rfl)
theorem dX13_holdGain_13 : decode cX13_holdGain 13 = .ok (.aload_n 0, 1) := dk_42 (dk_at dksX13_holdGain_0 13 rfl rfl)
theorem dX13_holdGain_14 : decode cX13_holdGain 14 = .ok (.iconst 1, 1) := dk_4 (dk_at dksX13_holdGain_0 14 rfl rfl)
theorem dX13_holdGain_15 : decode cX13_holdGain 15 = .ok (.invokevirtual 476, 3) := dk_182 1 220 (dk_at dksX13_holdGain_0 15 rfl rfl)
theorem dX13_holdGain_18 : decode cX13_holdGain 18 = .ok (.ireturn, 1) := dk_172 (dk_at dksX13_holdGain_0 18 rfl rfl)
theorem dX13_holdGain_19 : decode cX13_holdGain 19 = .ok (.aload_n 0, 1) := dk_42 (dk_at dksX13_holdGain_0 19 rfl rfl)
theorem dX13_holdGain_20 : decode cX13_holdGain 20 = .ok (.iload_n 1, 1) := dk_27 (dk_at dksX13_holdGain_0 20 rfl rfl)
theorem dX13_holdGain_21 : decode cX13_holdGain 21 = .ok (.invokevirtual 473, 3) := dk_182 1 217 (dk_at dksX13_holdGain_0 21 rfl rfl)
theorem dX13_holdGain_24 : decode cX13_holdGain 24 = .ok (.aload_n 0, 1) := dk_42 (dk_at dksX13_holdGain_1 0 rfl rfl)
theorem dX13_holdGain_25 : decode cX13_holdGain 25 = .ok (.aload_n 0, 1) := dk_42 (dk_at dksX13_holdGain_1 1 rfl rfl)
theorem dX13_holdGain_26 : decode cX13_holdGain 26 = .ok (.getfield 467, 3) := dk_180 1 211 (dk_at dksX13_holdGain_1 2 rfl rfl)
theorem dX13_holdGain_29 : decode cX13_holdGain 29 = .ok (.invokevirtual 49, 3) := dk_182 0 49 (dk_at dksX13_holdGain_1 5 rfl rfl)
theorem dX13_holdGain_32 : decode cX13_holdGain 32 = .ok (.ireturn, 1) := dk_172 (dk_at dksX13_holdGain_1 8 rfl rfl)
abbrev cX13_lost : ByteArray := prog_27_method_4_code
def yX13_lost : MethodName := ⟨RX13, "lost", "(I)I"⟩
def dkwX13_lost_0 : List UInt8 := [42, 27, 182, 0, 45, 87, 17, 216, 240, 172]
abbrev dktX13_lost_0 : List UInt8 := dkwX13_lost_0 ++ []
theorem dksX13_lost_0 : cX13_lost.data.toList.drop 0 = dktX13_lost_0 := by decide +kernel
theorem dX13_lost_0 : decode cX13_lost 0 = .ok (.aload_n 0, 1) := dk_42 (dk_at dksX13_lost_0 0 rfl rfl)
theorem dX13_lost_1 : decode cX13_lost 1 = .ok (.iload_n 1, 1) := dk_27 (dk_at dksX13_lost_0 1 rfl rfl)
theorem dX13_lost_2 : decode cX13_lost 2 = .ok (.invokevirtual 45, 3) := dk_182 0 45 (dk_at dksX13_lost_0 2 rfl rfl)
theorem dX13_lost_5 : decode cX13_lost 5 = .ok (.pop, 1) := dk_87 (dk_at dksX13_lost_0 5 rfl rfl)
theorem dX13_lost_6 : decode cX13_lost 6 = .ok (.sipush (-10000), 3) := dk_17 216 240 (dk_at dksX13_lost_0 6 rfl rfl)
theorem dX13_lost_9 : decode cX13_lost 9 = .ok (.ireturn, 1) := dk_172 (dk_at dksX13_lost_0 9 rfl rfl)
abbrev cX13_gain : ByteArray := prog_27_method_96_code
def yX13_gain : MethodName := ⟨RX13, "gain", "(II)I"⟩
def dkwX13_gain_1 : List UInt8 := [182, 1, 220, 167, 0, 16, 42, 42, 42, 180, 0, 21, 27, 182, 1, 223, 182, 0, 49, 172]
abbrev dktX13_gain_1 : List UInt8 := dkwX13_gain_1 ++ []
def dkwX13_gain_0 : List UInt8 := [42, 3, 181, 0, 39, 42, 42, 27, 182, 1, 158, 28, 182, 1, 173, 62, 29, 158, 0, 11, 42, 29]
abbrev dktX13_gain_0 : List UInt8 := dkwX13_gain_0 ++ dktX13_gain_1
theorem dksX13_gain_0 : cX13_gain.data.toList.drop 0 = dktX13_gain_0 := by decide +kernel
theorem dksX13_gain_1 : cX13_gain.data.toList.drop 22 = dktX13_gain_1 := dk_seg dksX13_gain_0 22 rfl rfl
theorem dX13_gain_0 : decode cX13_gain 0 = .ok (.aload_n 0, 1) := dk_42 (dk_at dksX13_gain_0 0 rfl rfl)
theorem dX13_gain_1 : decode cX13_gain 1 = .ok (.iconst 0, 1) := dk_3 (dk_at dksX13_gain_0 1 rfl rfl)
theorem dX13_gain_2 : decode cX13_gain 2 = .ok (.putfield 39, 3) := dk_181 0 39 (dk_at dksX13_gain_0 2 rfl rfl)
theorem dX13_gain_5 : decode cX13_gain 5 = .ok (.aload_n 0, 1) := dk_42 (dk_at dksX13_gain_0 5 rfl rfl)
theorem dX13_gain_6 : decode cX13_gain 6 = .ok (.aload_n 0, 1) := dk_42 (dk_at dksX13_gain_0 6 rfl rfl)
theorem dX13_gain_7 : decode cX13_gain 7 = .ok (.iload_n 1, 1) := dk_27 (dk_at dksX13_gain_0 7 rfl rfl)
theorem dX13_gain_8 : decode cX13_gain 8 = .ok (.invokevirtual 414, 3) := dk_182 1 158 (dk_at dksX13_gain_0 8 rfl rfl)
theorem dX13_gain_11 : decode cX13_gain 11 = .ok (.iload_n 2, 1) := dk_28 (dk_at dksX13_gain_0 11 rfl rfl)
theorem dX13_gain_12 : decode cX13_gain 12 = .ok (.invokevirtual 429, 3) := dk_182 1 173 (dk_at dksX13_gain_0 12 rfl rfl)
theorem dX13_gain_15 : decode cX13_gain 15 = .ok (.istore_n 3, 1) := dk_62 (dk_at dksX13_gain_0 15 rfl rfl)
theorem dX13_gain_16 : decode cX13_gain 16 = .ok (.iload_n 3, 1) := dk_29 (dk_at dksX13_gain_0 16 rfl rfl)
theorem dX13_gain_17 : decode cX13_gain 17 = .ok (.ifCond .le 11, 3) := dk_158 0 11 (dk_at dksX13_gain_0 17 rfl rfl)
theorem dX13_gain_20 : decode cX13_gain 20 = .ok (.aload_n 0, 1) := dk_42 (dk_at dksX13_gain_0 20 rfl rfl)
theorem dX13_gain_21 : decode cX13_gain 21 = .ok (.iload_n 3, 1) := dk_29 (dk_at dksX13_gain_0 21 rfl rfl)
theorem dX13_gain_22 : decode cX13_gain 22 = .ok (.invokevirtual 476, 3) := dk_182 1 220 (dk_at dksX13_gain_1 0 rfl rfl)
theorem dX13_gain_25 : decode cX13_gain 25 = .ok (.goto 16, 3) := dk_167 0 16 (dk_at dksX13_gain_1 3 rfl rfl)
theorem dX13_gain_28 : decode cX13_gain 28 = .ok (.aload_n 0, 1) := dk_42 (dk_at dksX13_gain_1 6 rfl rfl)
theorem dX13_gain_29 : decode cX13_gain 29 = .ok (.aload_n 0, 1) := dk_42 (dk_at dksX13_gain_1 7 rfl rfl)
theorem dX13_gain_30 : decode cX13_gain 30 = .ok (.aload_n 0, 1) := dk_42 (dk_at dksX13_gain_1 8 rfl rfl)
theorem dX13_gain_31 : decode cX13_gain 31 = .ok (.getfield 21, 3) := dk_180 0 21 (dk_at dksX13_gain_1 9 rfl rfl)
theorem dX13_gain_34 : decode cX13_gain 34 = .ok (.iload_n 1, 1) := dk_27 (dk_at dksX13_gain_1 12 rfl rfl)
theorem dX13_gain_35 : decode cX13_gain 35 = .ok (.invokevirtual 479, 3) := dk_182 1 223 (dk_at dksX13_gain_1 13 rfl rfl)
theorem dX13_gain_38 : decode cX13_gain 38 = .ok (.invokevirtual 49, 3) := dk_182 0 49 (dk_at dksX13_gain_1 16 rfl rfl)
theorem dX13_gain_41 : decode cX13_gain 41 = .ok (.ireturn, 1) := dk_172 (dk_at dksX13_gain_1 19 rfl rfl)
abbrev cX13_gainIn : ByteArray := prog_27_method_95_code
def yX13_gainIn : MethodName := ⟨RX13, "gainIn", "([II)I"⟩
def dkwX13_gainIn_4 : List UInt8 := [42, 180, 1, 111, 180, 1, 0, 29, 46, 100, 104, 167, 0, 4, 3, 42, 43, 28, 3, 182, 1, 148, 100, 172]
abbrev dktX13_gainIn_4 : List UInt8 := dkwX13_gainIn_4 ++ []
def dkwX13_gainIn_3 : List UInt8 := [172, 21, 4, 153, 0, 35, 42, 180, 1, 111, 180, 1, 56, 28, 46, 42, 180, 1, 111, 180, 1, 90, 29, 46]
abbrev dktX13_gainIn_3 : List UInt8 := dkwX13_gainIn_3 ++ dktX13_gainIn_4
def dkwX13_gainIn_2 : List UInt8 := [42, 180, 1, 111, 180, 1, 56, 28, 46, 116, 42, 180, 1, 111, 180, 1, 0, 29, 46, 104, 167, 0, 4, 3]
abbrev dktX13_gainIn_2 : List UInt8 := dkwX13_gainIn_2 ++ dktX13_gainIn_3
def dkwX13_gainIn_1 : List UInt8 := [153, 0, 7, 4, 167, 0, 4, 3, 54, 4, 42, 43, 28, 182, 1, 130, 153, 0, 33, 21, 4, 153, 0, 26]
abbrev dktX13_gainIn_1 : List UInt8 := dkwX13_gainIn_1 ++ dktX13_gainIn_2
def dkwX13_gainIn_0 : List UInt8 := [42, 180, 1, 111, 180, 1, 52, 28, 46, 62, 29, 16, 254, 159, 0, 18, 42, 180, 1, 111, 29, 182, 1, 84]
abbrev dktX13_gainIn_0 : List UInt8 := dkwX13_gainIn_0 ++ dktX13_gainIn_1
theorem dksX13_gainIn_0 : cX13_gainIn.data.toList.drop 0 = dktX13_gainIn_0 := by decide +kernel
theorem dksX13_gainIn_1 : cX13_gainIn.data.toList.drop 24 = dktX13_gainIn_1 := dk_seg dksX13_gainIn_0 24 rfl rfl
theorem dksX13_gainIn_2 : cX13_gainIn.data.toList.drop 48 = dktX13_gainIn_2 := dk_seg dksX13_gainIn_1 24 rfl rfl
theorem dksX13_gainIn_3 : cX13_gainIn.data.toList.drop 72 = dktX13_gainIn_3 := dk_seg dksX13_gainIn_2 24 rfl rfl
theorem dksX13_gainIn_4 : cX13_gainIn.data.toList.drop 96 = dktX13_gainIn_4 := dk_seg dksX13_gainIn_3 24 rfl rfl
theorem dX13_gainIn_0 : decode cX13_gainIn 0 = .ok (.aload_n 0, 1) := dk_42 (dk_at dksX13_gainIn_0 0 rfl rfl)
theorem dX13_gainIn_1 : decode cX13_gainIn 1 = .ok (.getfield 367, 3) := dk_180 1 111 (dk_at dksX13_gainIn_0 1 rfl rfl)
theorem dX13_gainIn_4 : decode cX13_gainIn 4 = .ok (.getfield 308, 3) := dk_180 1 52 (dk_at dksX13_gainIn_0 4 rfl rfl)
theorem dX13_gainIn_7 : decode cX13_gainIn 7 = .ok (.iload_n 2, 1) := dk_28 (dk_at dksX13_gainIn_0 7 rfl rfl)
theorem dX13_gainIn_8 : decode cX13_gainIn 8 = .ok (.iaload, 1) := dk_46 (dk_at dksX13_gainIn_0 8 rfl rfl)
theorem dX13_gainIn_9 : decode cX13_gainIn 9 = .ok (.istore_n 3, 1) := dk_62 (dk_at dksX13_gainIn_0 9 rfl rfl)
theorem dX13_gainIn_10 : decode cX13_gainIn 10 = .ok (.iload_n 3, 1) := dk_29 (dk_at dksX13_gainIn_0 10 rfl rfl)
theorem dX13_gainIn_11 : decode cX13_gainIn 11 = .ok (.bipush (-2), 2) := dk_16 254 (dk_at dksX13_gainIn_0 11 rfl rfl)
theorem dX13_gainIn_13 : decode cX13_gainIn 13 = .ok (.if_icmp .eq 18, 3) := dk_159 0 18 (dk_at dksX13_gainIn_0 13 rfl rfl)
theorem dX13_gainIn_16 : decode cX13_gainIn 16 = .ok (.aload_n 0, 1) := dk_42 (dk_at dksX13_gainIn_0 16 rfl rfl)
theorem dX13_gainIn_17 : decode cX13_gainIn 17 = .ok (.getfield 367, 3) := dk_180 1 111 (dk_at dksX13_gainIn_0 17 rfl rfl)
theorem dX13_gainIn_20 : decode cX13_gainIn 20 = .ok (.iload_n 3, 1) := dk_29 (dk_at dksX13_gainIn_0 20 rfl rfl)
theorem dX13_gainIn_21 : decode cX13_gainIn 21 = .ok (.invokevirtual 340, 3) := dk_182 1 84 (dk_at dksX13_gainIn_0 21 rfl rfl)
theorem dX13_gainIn_24 : decode cX13_gainIn 24 = .ok (.ifCond .eq 7, 3) := dk_153 0 7 (dk_at dksX13_gainIn_1 0 rfl rfl)
theorem dX13_gainIn_27 : decode cX13_gainIn 27 = .ok (.iconst 1, 1) := dk_4 (dk_at dksX13_gainIn_1 3 rfl rfl)
theorem dX13_gainIn_28 : decode cX13_gainIn 28 = .ok (.goto 4, 3) := dk_167 0 4 (dk_at dksX13_gainIn_1 4 rfl rfl)
theorem dX13_gainIn_31 : decode cX13_gainIn 31 = .ok (.iconst 0, 1) := dk_3 (dk_at dksX13_gainIn_1 7 rfl rfl)
theorem dX13_gainIn_32 : decode cX13_gainIn 32 = .ok (.istore 4, 2) := dk_54 4 (dk_at dksX13_gainIn_1 8 rfl rfl)
theorem dX13_gainIn_34 : decode cX13_gainIn 34 = .ok (.aload_n 0, 1) := dk_42 (dk_at dksX13_gainIn_1 10 rfl rfl)
theorem dX13_gainIn_35 : decode cX13_gainIn 35 = .ok (.aload_n 1, 1) := dk_43 (dk_at dksX13_gainIn_1 11 rfl rfl)
theorem dX13_gainIn_36 : decode cX13_gainIn 36 = .ok (.iload_n 2, 1) := dk_28 (dk_at dksX13_gainIn_1 12 rfl rfl)
theorem dX13_gainIn_37 : decode cX13_gainIn 37 = .ok (.invokevirtual 386, 3) := dk_182 1 130 (dk_at dksX13_gainIn_1 13 rfl rfl)
theorem dX13_gainIn_40 : decode cX13_gainIn 40 = .ok (.ifCond .eq 33, 3) := dk_153 0 33 (dk_at dksX13_gainIn_1 16 rfl rfl)
theorem dX13_gainIn_43 : decode cX13_gainIn 43 = .ok (.iload 4, 2) := dk_21 4 (dk_at dksX13_gainIn_1 19 rfl rfl)
theorem dX13_gainIn_45 : decode cX13_gainIn 45 = .ok (.ifCond .eq 26, 3) := dk_153 0 26 (dk_at dksX13_gainIn_1 21 rfl rfl)
theorem dX13_gainIn_48 : decode cX13_gainIn 48 = .ok (.aload_n 0, 1) := dk_42 (dk_at dksX13_gainIn_2 0 rfl rfl)
theorem dX13_gainIn_49 : decode cX13_gainIn 49 = .ok (.getfield 367, 3) := dk_180 1 111 (dk_at dksX13_gainIn_2 1 rfl rfl)
theorem dX13_gainIn_52 : decode cX13_gainIn 52 = .ok (.getfield 312, 3) := dk_180 1 56 (dk_at dksX13_gainIn_2 4 rfl rfl)
theorem dX13_gainIn_55 : decode cX13_gainIn 55 = .ok (.iload_n 2, 1) := dk_28 (dk_at dksX13_gainIn_2 7 rfl rfl)
theorem dX13_gainIn_56 : decode cX13_gainIn 56 = .ok (.iaload, 1) := dk_46 (dk_at dksX13_gainIn_2 8 rfl rfl)
theorem dX13_gainIn_57 : decode cX13_gainIn 57 = .ok (.ineg, 1) := dk_116 (dk_at dksX13_gainIn_2 9 rfl rfl)
theorem dX13_gainIn_58 : decode cX13_gainIn 58 = .ok (.aload_n 0, 1) := dk_42 (dk_at dksX13_gainIn_2 10 rfl rfl)
theorem dX13_gainIn_59 : decode cX13_gainIn 59 = .ok (.getfield 367, 3) := dk_180 1 111 (dk_at dksX13_gainIn_2 11 rfl rfl)
theorem dX13_gainIn_62 : decode cX13_gainIn 62 = .ok (.getfield 256, 3) := dk_180 1 0 (dk_at dksX13_gainIn_2 14 rfl rfl)
theorem dX13_gainIn_65 : decode cX13_gainIn 65 = .ok (.iload_n 3, 1) := dk_29 (dk_at dksX13_gainIn_2 17 rfl rfl)
theorem dX13_gainIn_66 : decode cX13_gainIn 66 = .ok (.iaload, 1) := dk_46 (dk_at dksX13_gainIn_2 18 rfl rfl)
theorem dX13_gainIn_67 : decode cX13_gainIn 67 = .ok (.imul, 1) := dk_104 (dk_at dksX13_gainIn_2 19 rfl rfl)
theorem dX13_gainIn_68 : decode cX13_gainIn 68 = .ok (.goto 4, 3) := dk_167 0 4 (dk_at dksX13_gainIn_2 20 rfl rfl)
theorem dX13_gainIn_71 : decode cX13_gainIn 71 = .ok (.iconst 0, 1) := dk_3 (dk_at dksX13_gainIn_2 23 rfl rfl)
theorem dX13_gainIn_72 : decode cX13_gainIn 72 = .ok (.ireturn, 1) := dk_172 (dk_at dksX13_gainIn_3 0 rfl rfl)
theorem dX13_gainIn_73 : decode cX13_gainIn 73 = .ok (.iload 4, 2) := dk_21 4 (dk_at dksX13_gainIn_3 1 rfl rfl)
theorem dX13_gainIn_75 : decode cX13_gainIn 75 = .ok (.ifCond .eq 35, 3) := dk_153 0 35 (dk_at dksX13_gainIn_3 3 rfl rfl)
theorem dX13_gainIn_78 : decode cX13_gainIn 78 = .ok (.aload_n 0, 1) := dk_42 (dk_at dksX13_gainIn_3 6 rfl rfl)
theorem dX13_gainIn_79 : decode cX13_gainIn 79 = .ok (.getfield 367, 3) := dk_180 1 111 (dk_at dksX13_gainIn_3 7 rfl rfl)
theorem dX13_gainIn_82 : decode cX13_gainIn 82 = .ok (.getfield 312, 3) := dk_180 1 56 (dk_at dksX13_gainIn_3 10 rfl rfl)
theorem dX13_gainIn_85 : decode cX13_gainIn 85 = .ok (.iload_n 2, 1) := dk_28 (dk_at dksX13_gainIn_3 13 rfl rfl)
theorem dX13_gainIn_86 : decode cX13_gainIn 86 = .ok (.iaload, 1) := dk_46 (dk_at dksX13_gainIn_3 14 rfl rfl)
theorem dX13_gainIn_87 : decode cX13_gainIn 87 = .ok (.aload_n 0, 1) := dk_42 (dk_at dksX13_gainIn_3 15 rfl rfl)
theorem dX13_gainIn_88 : decode cX13_gainIn 88 = .ok (.getfield 367, 3) := dk_180 1 111 (dk_at dksX13_gainIn_3 16 rfl rfl)
theorem dX13_gainIn_91 : decode cX13_gainIn 91 = .ok (.getfield 346, 3) := dk_180 1 90 (dk_at dksX13_gainIn_3 19 rfl rfl)
theorem dX13_gainIn_94 : decode cX13_gainIn 94 = .ok (.iload_n 3, 1) := dk_29 (dk_at dksX13_gainIn_3 22 rfl rfl)
theorem dX13_gainIn_95 : decode cX13_gainIn 95 = .ok (.iaload, 1) := dk_46 (dk_at dksX13_gainIn_3 23 rfl rfl)
theorem dX13_gainIn_96 : decode cX13_gainIn 96 = .ok (.aload_n 0, 1) := dk_42 (dk_at dksX13_gainIn_4 0 rfl rfl)
theorem dX13_gainIn_97 : decode cX13_gainIn 97 = .ok (.getfield 367, 3) := dk_180 1 111 (dk_at dksX13_gainIn_4 1 rfl rfl)
theorem dX13_gainIn_100 : decode cX13_gainIn 100 = .ok (.getfield 256, 3) := dk_180 1 0 (dk_at dksX13_gainIn_4 4 rfl rfl)
theorem dX13_gainIn_103 : decode cX13_gainIn 103 = .ok (.iload_n 3, 1) := dk_29 (dk_at dksX13_gainIn_4 7 rfl rfl)
theorem dX13_gainIn_104 : decode cX13_gainIn 104 = .ok (.iaload, 1) := dk_46 (dk_at dksX13_gainIn_4 8 rfl rfl)
theorem dX13_gainIn_105 : decode cX13_gainIn 105 = .ok (.isub, 1) := dk_100 (dk_at dksX13_gainIn_4 9 rfl rfl)
theorem dX13_gainIn_106 : decode cX13_gainIn 106 = .ok (.imul, 1) := dk_104 (dk_at dksX13_gainIn_4 10 rfl rfl)
theorem dX13_gainIn_107 : decode cX13_gainIn 107 = .ok (.goto 4, 3) := dk_167 0 4 (dk_at dksX13_gainIn_4 11 rfl rfl)
theorem dX13_gainIn_110 : decode cX13_gainIn 110 = .ok (.iconst 0, 1) := dk_3 (dk_at dksX13_gainIn_4 14 rfl rfl)
theorem dX13_gainIn_111 : decode cX13_gainIn 111 = .ok (.aload_n 0, 1) := dk_42 (dk_at dksX13_gainIn_4 15 rfl rfl)
theorem dX13_gainIn_112 : decode cX13_gainIn 112 = .ok (.aload_n 1, 1) := dk_43 (dk_at dksX13_gainIn_4 16 rfl rfl)
theorem dX13_gainIn_113 : decode cX13_gainIn 113 = .ok (.iload_n 2, 1) := dk_28 (dk_at dksX13_gainIn_4 17 rfl rfl)
theorem dX13_gainIn_114 : decode cX13_gainIn 114 = .ok (.iconst 0, 1) := dk_3 (dk_at dksX13_gainIn_4 18 rfl rfl)
theorem dX13_gainIn_115 : decode cX13_gainIn 115 = .ok (.invokevirtual 404, 3) := dk_182 1 148 (dk_at dksX13_gainIn_4 19 rfl rfl)
theorem dX13_gainIn_118 : decode cX13_gainIn 118 = .ok (.isub, 1) := dk_100 (dk_at dksX13_gainIn_4 22 rfl rfl)
theorem dX13_gainIn_119 : decode cX13_gainIn 119 = .ok (.ireturn, 1) := dk_172 (dk_at dksX13_gainIn_4 23 rfl rfl)
abbrev cX13_bestGood : ByteArray := prog_27_method_97_code
def yX13_bestGood : MethodName := ⟨RX13, "bestGood", "()I"⟩
def dkwX13_bestGood_5 : List UInt8 := [167, 255, 164, 42, 27, 182, 0, 49, 172]
abbrev dktX13_bestGood_5 : List UInt8 := dkwX13_bestGood_5 ++ []
def dkwX13_bestGood_4 : List UInt8 := [29, 182, 1, 223, 61, 16, 100, 29, 104, 21, 4, 96, 60, 132, 4, 1, 167, 255, 198, 132, 3, 1]
abbrev dktX13_bestGood_4 : List UInt8 := dkwX13_bestGood_4 ++ dktX13_bestGood_5
def dkwX13_bestGood_3 : List UInt8 := [159, 0, 19, 42, 42, 180, 0, 21, 29, 182, 1, 223, 28, 163, 0, 6, 167, 0, 21, 42, 42, 180, 0, 21]
abbrev dktX13_bestGood_3 : List UInt8 := dkwX13_bestGood_3 ++ dktX13_bestGood_4
def dkwX13_bestGood_2 : List UInt8 := [167, 0, 67, 3, 54, 4, 21, 4, 16, 60, 163, 0, 57, 42, 4, 21, 4, 182, 1, 173, 87, 27, 16, 254]
abbrev dktX13_bestGood_2 : List UInt8 := dkwX13_bestGood_2 ++ dktX13_bestGood_3
def dkwX13_bestGood_1 : List UInt8 := [62, 29, 42, 180, 1, 111, 180, 1, 31, 162, 0, 87, 42, 180, 0, 17, 3, 29, 96, 46, 153, 0, 6]
abbrev dktX13_bestGood_1 : List UInt8 := dkwX13_bestGood_1 ++ dktX13_bestGood_2
def dkwX13_bestGood_0 : List UInt8 := [42, 3, 181, 0, 39, 42, 180, 1, 111, 199, 0, 9, 42, 4, 182, 0, 45, 172, 16, 254, 60, 3, 61, 3]
abbrev dktX13_bestGood_0 : List UInt8 := dkwX13_bestGood_0 ++ dktX13_bestGood_1
theorem dksX13_bestGood_0 : cX13_bestGood.data.toList.drop 0 = dktX13_bestGood_0 := by decide +kernel
theorem dksX13_bestGood_1 : cX13_bestGood.data.toList.drop 24 = dktX13_bestGood_1 := dk_seg dksX13_bestGood_0 24 rfl rfl
theorem dksX13_bestGood_2 : cX13_bestGood.data.toList.drop 47 = dktX13_bestGood_2 := dk_seg dksX13_bestGood_1 23 rfl rfl
theorem dksX13_bestGood_3 : cX13_bestGood.data.toList.drop 71 = dktX13_bestGood_3 := dk_seg dksX13_bestGood_2 24 rfl rfl
theorem dksX13_bestGood_4 : cX13_bestGood.data.toList.drop 95 = dktX13_bestGood_4 := dk_seg dksX13_bestGood_3 24 rfl rfl
theorem dksX13_bestGood_5 : cX13_bestGood.data.toList.drop 117 = dktX13_bestGood_5 := dk_seg dksX13_bestGood_4 22 rfl rfl
theorem dX13_bestGood_0 : decode cX13_bestGood 0 = .ok (.aload_n 0, 1) := dk_42 (dk_at dksX13_bestGood_0 0 rfl rfl)
theorem dX13_bestGood_1 : decode cX13_bestGood 1 = .ok (.iconst 0, 1) := dk_3 (dk_at dksX13_bestGood_0 1 rfl rfl)
theorem dX13_bestGood_2 : decode cX13_bestGood 2 = .ok (.putfield 39, 3) := dk_181 0 39 (dk_at dksX13_bestGood_0 2 rfl rfl)
theorem dX13_bestGood_5 : decode cX13_bestGood 5 = .ok (.aload_n 0, 1) := dk_42 (dk_at dksX13_bestGood_0 5 rfl rfl)
theorem dX13_bestGood_6 : decode cX13_bestGood 6 = .ok (.getfield 367, 3) := dk_180 1 111 (dk_at dksX13_bestGood_0 6 rfl rfl)
theorem dX13_bestGood_9 : decode cX13_bestGood 9 = .ok (.ifnonnull 9, 3) := dk_199 0 9 (dk_at dksX13_bestGood_0 9 rfl rfl)
theorem dX13_bestGood_12 : decode cX13_bestGood 12 = .ok (.aload_n 0, 1) := dk_42 (dk_at dksX13_bestGood_0 12 rfl rfl)
theorem dX13_bestGood_13 : decode cX13_bestGood 13 = .ok (.iconst 1, 1) := dk_4 (dk_at dksX13_bestGood_0 13 rfl rfl)
theorem dX13_bestGood_14 : decode cX13_bestGood 14 = .ok (.invokevirtual 45, 3) := dk_182 0 45 (dk_at dksX13_bestGood_0 14 rfl rfl)
theorem dX13_bestGood_17 : decode cX13_bestGood 17 = .ok (.ireturn, 1) := dk_172 (dk_at dksX13_bestGood_0 17 rfl rfl)
theorem dX13_bestGood_18 : decode cX13_bestGood 18 = .ok (.bipush (-2), 2) := dk_16 254 (dk_at dksX13_bestGood_0 18 rfl rfl)
theorem dX13_bestGood_20 : decode cX13_bestGood 20 = .ok (.istore_n 1, 1) := dk_60 (dk_at dksX13_bestGood_0 20 rfl rfl)
theorem dX13_bestGood_21 : decode cX13_bestGood 21 = .ok (.iconst 0, 1) := dk_3 (dk_at dksX13_bestGood_0 21 rfl rfl)
theorem dX13_bestGood_22 : decode cX13_bestGood 22 = .ok (.istore_n 2, 1) := dk_61 (dk_at dksX13_bestGood_0 22 rfl rfl)
theorem dX13_bestGood_23 : decode cX13_bestGood 23 = .ok (.iconst 0, 1) := dk_3 (dk_at dksX13_bestGood_0 23 rfl rfl)
theorem dX13_bestGood_24 : decode cX13_bestGood 24 = .ok (.istore_n 3, 1) := dk_62 (dk_at dksX13_bestGood_1 0 rfl rfl)
theorem dX13_bestGood_25 : decode cX13_bestGood 25 = .ok (.iload_n 3, 1) := dk_29 (dk_at dksX13_bestGood_1 1 rfl rfl)
theorem dX13_bestGood_26 : decode cX13_bestGood 26 = .ok (.aload_n 0, 1) := dk_42 (dk_at dksX13_bestGood_1 2 rfl rfl)
theorem dX13_bestGood_27 : decode cX13_bestGood 27 = .ok (.getfield 367, 3) := dk_180 1 111 (dk_at dksX13_bestGood_1 3 rfl rfl)
theorem dX13_bestGood_30 : decode cX13_bestGood 30 = .ok (.getfield 287, 3) := dk_180 1 31 (dk_at dksX13_bestGood_1 6 rfl rfl)
theorem dX13_bestGood_33 : decode cX13_bestGood 33 = .ok (.if_icmp .ge 87, 3) := dk_162 0 87 (dk_at dksX13_bestGood_1 9 rfl rfl)
theorem dX13_bestGood_36 : decode cX13_bestGood 36 = .ok (.aload_n 0, 1) := dk_42 (dk_at dksX13_bestGood_1 12 rfl rfl)
theorem dX13_bestGood_37 : decode cX13_bestGood 37 = .ok (.getfield 17, 3) := dk_180 0 17 (dk_at dksX13_bestGood_1 13 rfl rfl)
theorem dX13_bestGood_40 : decode cX13_bestGood 40 = .ok (.iconst 0, 1) := dk_3 (dk_at dksX13_bestGood_1 16 rfl rfl)
theorem dX13_bestGood_41 : decode cX13_bestGood 41 = .ok (.iload_n 3, 1) := dk_29 (dk_at dksX13_bestGood_1 17 rfl rfl)
theorem dX13_bestGood_42 : decode cX13_bestGood 42 = .ok (.iadd, 1) := dk_96 (dk_at dksX13_bestGood_1 18 rfl rfl)
theorem dX13_bestGood_43 : decode cX13_bestGood 43 = .ok (.iaload, 1) := dk_46 (dk_at dksX13_bestGood_1 19 rfl rfl)
theorem dX13_bestGood_44 : decode cX13_bestGood 44 = .ok (.ifCond .eq 6, 3) := dk_153 0 6 (dk_at dksX13_bestGood_1 20 rfl rfl)
theorem dX13_bestGood_47 : decode cX13_bestGood 47 = .ok (.goto 67, 3) := dk_167 0 67 (dk_at dksX13_bestGood_2 0 rfl rfl)
theorem dX13_bestGood_50 : decode cX13_bestGood 50 = .ok (.iconst 0, 1) := dk_3 (dk_at dksX13_bestGood_2 3 rfl rfl)
theorem dX13_bestGood_51 : decode cX13_bestGood 51 = .ok (.istore 4, 2) := dk_54 4 (dk_at dksX13_bestGood_2 4 rfl rfl)
theorem dX13_bestGood_53 : decode cX13_bestGood 53 = .ok (.iload 4, 2) := dk_21 4 (dk_at dksX13_bestGood_2 6 rfl rfl)
theorem dX13_bestGood_55 : decode cX13_bestGood 55 = .ok (.bipush 60, 2) := dk_16 60 (dk_at dksX13_bestGood_2 8 rfl rfl)
theorem dX13_bestGood_57 : decode cX13_bestGood 57 = .ok (.if_icmp .gt 57, 3) := dk_163 0 57 (dk_at dksX13_bestGood_2 10 rfl rfl)
theorem dX13_bestGood_60 : decode cX13_bestGood 60 = .ok (.aload_n 0, 1) := dk_42 (dk_at dksX13_bestGood_2 13 rfl rfl)
theorem dX13_bestGood_61 : decode cX13_bestGood 61 = .ok (.iconst 1, 1) := dk_4 (dk_at dksX13_bestGood_2 14 rfl rfl)
theorem dX13_bestGood_62 : decode cX13_bestGood 62 = .ok (.iload 4, 2) := dk_21 4 (dk_at dksX13_bestGood_2 15 rfl rfl)
theorem dX13_bestGood_64 : decode cX13_bestGood 64 = .ok (.invokevirtual 429, 3) := dk_182 1 173 (dk_at dksX13_bestGood_2 17 rfl rfl)
theorem dX13_bestGood_67 : decode cX13_bestGood 67 = .ok (.pop, 1) := dk_87 (dk_at dksX13_bestGood_2 20 rfl rfl)
theorem dX13_bestGood_68 : decode cX13_bestGood 68 = .ok (.iload_n 1, 1) := dk_27 (dk_at dksX13_bestGood_2 21 rfl rfl)
theorem dX13_bestGood_69 : decode cX13_bestGood 69 = .ok (.bipush (-2), 2) := dk_16 254 (dk_at dksX13_bestGood_2 22 rfl rfl)
theorem dX13_bestGood_71 : decode cX13_bestGood 71 = .ok (.if_icmp .eq 19, 3) := dk_159 0 19 (dk_at dksX13_bestGood_3 0 rfl rfl)
theorem dX13_bestGood_74 : decode cX13_bestGood 74 = .ok (.aload_n 0, 1) := dk_42 (dk_at dksX13_bestGood_3 3 rfl rfl)
theorem dX13_bestGood_75 : decode cX13_bestGood 75 = .ok (.aload_n 0, 1) := dk_42 (dk_at dksX13_bestGood_3 4 rfl rfl)
theorem dX13_bestGood_76 : decode cX13_bestGood 76 = .ok (.getfield 21, 3) := dk_180 0 21 (dk_at dksX13_bestGood_3 5 rfl rfl)
theorem dX13_bestGood_79 : decode cX13_bestGood 79 = .ok (.iload_n 3, 1) := dk_29 (dk_at dksX13_bestGood_3 8 rfl rfl)
theorem dX13_bestGood_80 : decode cX13_bestGood 80 = .ok (.invokevirtual 479, 3) := dk_182 1 223 (dk_at dksX13_bestGood_3 9 rfl rfl)
theorem dX13_bestGood_83 : decode cX13_bestGood 83 = .ok (.iload_n 2, 1) := dk_28 (dk_at dksX13_bestGood_3 12 rfl rfl)
theorem dX13_bestGood_84 : decode cX13_bestGood 84 = .ok (.if_icmp .gt 6, 3) := dk_163 0 6 (dk_at dksX13_bestGood_3 13 rfl rfl)
theorem dX13_bestGood_87 : decode cX13_bestGood 87 = .ok (.goto 21, 3) := dk_167 0 21 (dk_at dksX13_bestGood_3 16 rfl rfl)
theorem dX13_bestGood_90 : decode cX13_bestGood 90 = .ok (.aload_n 0, 1) := dk_42 (dk_at dksX13_bestGood_3 19 rfl rfl)
theorem dX13_bestGood_91 : decode cX13_bestGood 91 = .ok (.aload_n 0, 1) := dk_42 (dk_at dksX13_bestGood_3 20 rfl rfl)
theorem dX13_bestGood_92 : decode cX13_bestGood 92 = .ok (.getfield 21, 3) := dk_180 0 21 (dk_at dksX13_bestGood_3 21 rfl rfl)
theorem dX13_bestGood_95 : decode cX13_bestGood 95 = .ok (.iload_n 3, 1) := dk_29 (dk_at dksX13_bestGood_4 0 rfl rfl)
theorem dX13_bestGood_96 : decode cX13_bestGood 96 = .ok (.invokevirtual 479, 3) := dk_182 1 223 (dk_at dksX13_bestGood_4 1 rfl rfl)
theorem dX13_bestGood_99 : decode cX13_bestGood 99 = .ok (.istore_n 2, 1) := dk_61 (dk_at dksX13_bestGood_4 4 rfl rfl)
theorem dX13_bestGood_100 : decode cX13_bestGood 100 = .ok (.bipush 100, 2) := dk_16 100 (dk_at dksX13_bestGood_4 5 rfl rfl)
theorem dX13_bestGood_102 : decode cX13_bestGood 102 = .ok (.iload_n 3, 1) := dk_29 (dk_at dksX13_bestGood_4 7 rfl rfl)
theorem dX13_bestGood_103 : decode cX13_bestGood 103 = .ok (.imul, 1) := dk_104 (dk_at dksX13_bestGood_4 8 rfl rfl)
theorem dX13_bestGood_104 : decode cX13_bestGood 104 = .ok (.iload 4, 2) := dk_21 4 (dk_at dksX13_bestGood_4 9 rfl rfl)
theorem dX13_bestGood_106 : decode cX13_bestGood 106 = .ok (.iadd, 1) := dk_96 (dk_at dksX13_bestGood_4 11 rfl rfl)
theorem dX13_bestGood_107 : decode cX13_bestGood 107 = .ok (.istore_n 1, 1) := dk_60 (dk_at dksX13_bestGood_4 12 rfl rfl)
theorem dX13_bestGood_108 : decode cX13_bestGood 108 = .ok (.iinc 4 1, 3) := dk_132 4 1 (dk_at dksX13_bestGood_4 13 rfl rfl)
theorem dX13_bestGood_111 : decode cX13_bestGood 111 = .ok (.goto (-58), 3) := dk_167 255 198 (dk_at dksX13_bestGood_4 16 rfl rfl)
theorem dX13_bestGood_114 : decode cX13_bestGood 114 = .ok (.iinc 3 1, 3) := dk_132 3 1 (dk_at dksX13_bestGood_4 19 rfl rfl)
theorem dX13_bestGood_117 : decode cX13_bestGood 117 = .ok (.goto (-92), 3) := dk_167 255 164 (dk_at dksX13_bestGood_5 0 rfl rfl)
theorem dX13_bestGood_120 : decode cX13_bestGood 120 = .ok (.aload_n 0, 1) := dk_42 (dk_at dksX13_bestGood_5 3 rfl rfl)
theorem dX13_bestGood_121 : decode cX13_bestGood 121 = .ok (.iload_n 1, 1) := dk_27 (dk_at dksX13_bestGood_5 4 rfl rfl)
theorem dX13_bestGood_122 : decode cX13_bestGood 122 = .ok (.invokevirtual 49, 3) := dk_182 0 49 (dk_at dksX13_bestGood_5 5 rfl rfl)
theorem dX13_bestGood_125 : decode cX13_bestGood 125 = .ok (.ireturn, 1) := dk_172 (dk_at dksX13_bestGood_5 8 rfl rfl)
abbrev cX13_search : ByteArray := prog_27_method_99_code
def yX13_search : MethodName := ⟨RX13, "search", "(I)I"⟩
def dkwX13_search_4 : List UInt8 := [29, 182, 1, 226, 164, 0, 6, 21, 4, 62, 132, 4, 1, 167, 255, 208, 42, 29, 182, 0, 49, 172]
abbrev dktX13_search_4 : List UInt8 := dkwX13_search_4 ++ []
def dkwX13_search_3 : List UInt8 := [162, 0, 40, 21, 4, 184, 1, 195, 28, 160, 0, 25, 29, 2, 159, 0, 17, 42, 21, 4, 182, 1, 226, 42]
abbrev dktX13_search_3 : List UInt8 := dkwX13_search_3 ++ dktX13_search_4
def dkwX13_search_2 : List UInt8 := [42, 180, 1, 111, 180, 0, 191, 61, 2, 62, 3, 54, 4, 21, 4, 4, 42, 180, 1, 111, 180, 0, 191, 120]
abbrev dktX13_search_2 : List UInt8 := dkwX13_search_2 ++ dktX13_search_3
def dkwX13_search_1 : List UInt8 := [154, 0, 9, 42, 5, 182, 0, 45, 172, 27, 42, 180, 1, 111, 180, 0, 191, 162, 0, 7, 27, 167, 0, 10]
abbrev dktX13_search_1 : List UInt8 := dkwX13_search_1 ++ dktX13_search_2
def dkwX13_search_0 : List UInt8 := [42, 3, 181, 0, 39, 42, 180, 1, 111, 199, 0, 9, 42, 4, 182, 0, 45, 172, 27, 3, 7, 184, 0, 118]
abbrev dktX13_search_0 : List UInt8 := dkwX13_search_0 ++ dktX13_search_1
theorem dksX13_search_0 : cX13_search.data.toList.drop 0 = dktX13_search_0 := by decide +kernel
theorem dksX13_search_1 : cX13_search.data.toList.drop 24 = dktX13_search_1 := dk_seg dksX13_search_0 24 rfl rfl
theorem dksX13_search_2 : cX13_search.data.toList.drop 48 = dktX13_search_2 := dk_seg dksX13_search_1 24 rfl rfl
theorem dksX13_search_3 : cX13_search.data.toList.drop 72 = dktX13_search_3 := dk_seg dksX13_search_2 24 rfl rfl
theorem dksX13_search_4 : cX13_search.data.toList.drop 96 = dktX13_search_4 := dk_seg dksX13_search_3 24 rfl rfl
theorem dX13_search_0 : decode cX13_search 0 = .ok (.aload_n 0, 1) := dk_42 (dk_at dksX13_search_0 0 rfl rfl)
theorem dX13_search_1 : decode cX13_search 1 = .ok (.iconst 0, 1) := dk_3 (dk_at dksX13_search_0 1 rfl rfl)
theorem dX13_search_2 : decode cX13_search 2 = .ok (.putfield 39, 3) := dk_181 0 39 (dk_at dksX13_search_0 2 rfl rfl)
theorem dX13_search_5 : decode cX13_search 5 = .ok (.aload_n 0, 1) := dk_42 (dk_at dksX13_search_0 5 rfl rfl)
theorem dX13_search_6 : decode cX13_search 6 = .ok (.getfield 367, 3) := dk_180 1 111 (dk_at dksX13_search_0 6 rfl rfl)
theorem dX13_search_9 : decode cX13_search 9 = .ok (.ifnonnull 9, 3) := dk_199 0 9 (dk_at dksX13_search_0 9 rfl rfl)
theorem dX13_search_12 : decode cX13_search 12 = .ok (.aload_n 0, 1) := dk_42 (dk_at dksX13_search_0 12 rfl rfl)
theorem dX13_search_13 : decode cX13_search 13 = .ok (.iconst 1, 1) := dk_4 (dk_at dksX13_search_0 13 rfl rfl)
theorem dX13_search_14 : decode cX13_search 14 = .ok (.invokevirtual 45, 3) := dk_182 0 45 (dk_at dksX13_search_0 14 rfl rfl)
theorem dX13_search_17 : decode cX13_search 17 = .ok (.ireturn, 1) := dk_172 (dk_at dksX13_search_0 17 rfl rfl)
theorem dX13_search_18 : decode cX13_search 18 = .ok (.iload_n 1, 1) := dk_27 (dk_at dksX13_search_0 18 rfl rfl)
theorem dX13_search_19 : decode cX13_search 19 = .ok (.iconst 0, 1) := dk_3 (dk_at dksX13_search_0 19 rfl rfl)
theorem dX13_search_20 : decode cX13_search 20 = .ok (.iconst 4, 1) := dk_7 (dk_at dksX13_search_0 20 rfl rfl)
theorem dX13_search_21 : decode cX13_search 21 = .ok (.invokestatic 118, 3) := dk_184 0 118 (dk_at dksX13_search_0 21 rfl rfl)
theorem dX13_search_24 : decode cX13_search 24 = .ok (.ifCond .ne 9, 3) := dk_154 0 9 (dk_at dksX13_search_1 0 rfl rfl)
theorem dX13_search_27 : decode cX13_search 27 = .ok (.aload_n 0, 1) := dk_42 (dk_at dksX13_search_1 3 rfl rfl)
theorem dX13_search_28 : decode cX13_search 28 = .ok (.iconst 2, 1) := dk_5 (dk_at dksX13_search_1 4 rfl rfl)
theorem dX13_search_29 : decode cX13_search 29 = .ok (.invokevirtual 45, 3) := dk_182 0 45 (dk_at dksX13_search_1 5 rfl rfl)
theorem dX13_search_32 : decode cX13_search 32 = .ok (.ireturn, 1) := dk_172 (dk_at dksX13_search_1 8 rfl rfl)
theorem dX13_search_33 : decode cX13_search 33 = .ok (.iload_n 1, 1) := dk_27 (dk_at dksX13_search_1 9 rfl rfl)
theorem dX13_search_34 : decode cX13_search 34 = .ok (.aload_n 0, 1) := dk_42 (dk_at dksX13_search_1 10 rfl rfl)
theorem dX13_search_35 : decode cX13_search 35 = .ok (.getfield 367, 3) := dk_180 1 111 (dk_at dksX13_search_1 11 rfl rfl)
theorem dX13_search_38 : decode cX13_search 38 = .ok (.getfield 191, 3) := dk_180 0 191 (dk_at dksX13_search_1 14 rfl rfl)
theorem dX13_search_41 : decode cX13_search 41 = .ok (.if_icmp .ge 7, 3) := dk_162 0 7 (dk_at dksX13_search_1 17 rfl rfl)
theorem dX13_search_44 : decode cX13_search 44 = .ok (.iload_n 1, 1) := dk_27 (dk_at dksX13_search_1 20 rfl rfl)
theorem dX13_search_45 : decode cX13_search 45 = .ok (.goto 10, 3) := dk_167 0 10 (dk_at dksX13_search_1 21 rfl rfl)
theorem dX13_search_48 : decode cX13_search 48 = .ok (.aload_n 0, 1) := dk_42 (dk_at dksX13_search_2 0 rfl rfl)
theorem dX13_search_49 : decode cX13_search 49 = .ok (.getfield 367, 3) := dk_180 1 111 (dk_at dksX13_search_2 1 rfl rfl)
theorem dX13_search_52 : decode cX13_search 52 = .ok (.getfield 191, 3) := dk_180 0 191 (dk_at dksX13_search_2 4 rfl rfl)
theorem dX13_search_55 : decode cX13_search 55 = .ok (.istore_n 2, 1) := dk_61 (dk_at dksX13_search_2 7 rfl rfl)
theorem dX13_search_56 : decode cX13_search 56 = .ok (.iconst (-1), 1) := dk_2 (dk_at dksX13_search_2 8 rfl rfl)
theorem dX13_search_57 : decode cX13_search 57 = .ok (.istore_n 3, 1) := dk_62 (dk_at dksX13_search_2 9 rfl rfl)
theorem dX13_search_58 : decode cX13_search 58 = .ok (.iconst 0, 1) := dk_3 (dk_at dksX13_search_2 10 rfl rfl)
theorem dX13_search_59 : decode cX13_search 59 = .ok (.istore 4, 2) := dk_54 4 (dk_at dksX13_search_2 11 rfl rfl)
theorem dX13_search_61 : decode cX13_search 61 = .ok (.iload 4, 2) := dk_21 4 (dk_at dksX13_search_2 13 rfl rfl)
theorem dX13_search_63 : decode cX13_search 63 = .ok (.iconst 1, 1) := dk_4 (dk_at dksX13_search_2 15 rfl rfl)
theorem dX13_search_64 : decode cX13_search 64 = .ok (.aload_n 0, 1) := dk_42 (dk_at dksX13_search_2 16 rfl rfl)
theorem dX13_search_65 : decode cX13_search 65 = .ok (.getfield 367, 3) := dk_180 1 111 (dk_at dksX13_search_2 17 rfl rfl)
theorem dX13_search_68 : decode cX13_search 68 = .ok (.getfield 191, 3) := dk_180 0 191 (dk_at dksX13_search_2 20 rfl rfl)
theorem dX13_search_71 : decode cX13_search 71 = .ok (.ishl, 1) := dk_120 (dk_at dksX13_search_2 23 rfl rfl)
theorem dX13_search_72 : decode cX13_search 72 = .ok (.if_icmp .ge 40, 3) := dk_162 0 40 (dk_at dksX13_search_3 0 rfl rfl)
theorem dX13_search_75 : decode cX13_search 75 = .ok (.iload 4, 2) := dk_21 4 (dk_at dksX13_search_3 3 rfl rfl)
theorem dX13_search_77 : decode cX13_search 77 = .ok (.invokestatic 451, 3) := dk_184 1 195 (dk_at dksX13_search_3 5 rfl rfl)
theorem dX13_search_80 : decode cX13_search 80 = .ok (.iload_n 2, 1) := dk_28 (dk_at dksX13_search_3 8 rfl rfl)
theorem dX13_search_81 : decode cX13_search 81 = .ok (.if_icmp .ne 25, 3) := dk_160 0 25 (dk_at dksX13_search_3 9 rfl rfl)
theorem dX13_search_84 : decode cX13_search 84 = .ok (.iload_n 3, 1) := dk_29 (dk_at dksX13_search_3 12 rfl rfl)
theorem dX13_search_85 : decode cX13_search 85 = .ok (.iconst (-1), 1) := dk_2 (dk_at dksX13_search_3 13 rfl rfl)
theorem dX13_search_86 : decode cX13_search 86 = .ok (.if_icmp .eq 17, 3) := dk_159 0 17 (dk_at dksX13_search_3 14 rfl rfl)
theorem dX13_search_89 : decode cX13_search 89 = .ok (.aload_n 0, 1) := dk_42 (dk_at dksX13_search_3 17 rfl rfl)
theorem dX13_search_90 : decode cX13_search 90 = .ok (.iload 4, 2) := dk_21 4 (dk_at dksX13_search_3 18 rfl rfl)
theorem dX13_search_92 : decode cX13_search 92 = .ok (.invokevirtual 482, 3) := dk_182 1 226 (dk_at dksX13_search_3 20 rfl rfl)
theorem dX13_search_95 : decode cX13_search 95 = .ok (.aload_n 0, 1) := dk_42 (dk_at dksX13_search_3 23 rfl rfl)
theorem dX13_search_96 : decode cX13_search 96 = .ok (.iload_n 3, 1) := dk_29 (dk_at dksX13_search_4 0 rfl rfl)
theorem dX13_search_97 : decode cX13_search 97 = .ok (.invokevirtual 482, 3) := dk_182 1 226 (dk_at dksX13_search_4 1 rfl rfl)
theorem dX13_search_100 : decode cX13_search 100 = .ok (.if_icmp .le 6, 3) := dk_164 0 6 (dk_at dksX13_search_4 4 rfl rfl)
theorem dX13_search_103 : decode cX13_search 103 = .ok (.iload 4, 2) := dk_21 4 (dk_at dksX13_search_4 7 rfl rfl)
theorem dX13_search_105 : decode cX13_search 105 = .ok (.istore_n 3, 1) := dk_62 (dk_at dksX13_search_4 9 rfl rfl)
theorem dX13_search_106 : decode cX13_search 106 = .ok (.iinc 4 1, 3) := dk_132 4 1 (dk_at dksX13_search_4 10 rfl rfl)
theorem dX13_search_109 : decode cX13_search 109 = .ok (.goto (-48), 3) := dk_167 255 208 (dk_at dksX13_search_4 13 rfl rfl)
theorem dX13_search_112 : decode cX13_search 112 = .ok (.aload_n 0, 1) := dk_42 (dk_at dksX13_search_4 16 rfl rfl)
theorem dX13_search_113 : decode cX13_search 113 = .ok (.iload_n 3, 1) := dk_29 (dk_at dksX13_search_4 17 rfl rfl)
theorem dX13_search_114 : decode cX13_search 114 = .ok (.invokevirtual 49, 3) := dk_182 0 49 (dk_at dksX13_search_4 18 rfl rfl)
theorem dX13_search_117 : decode cX13_search 117 = .ok (.ireturn, 1) := dk_172 (dk_at dksX13_search_4 21 rfl rfl)
abbrev cX13_hiddenWorth : ByteArray := prog_27_method_98_code
def yX13_hiddenWorth : MethodName := ⟨RX13, "hiddenWorth", "(I)I"⟩
def dkwX13_hiddenWorth_3 : List UInt8 := [132, 3, 1, 167, 255, 187, 28, 172]
abbrev dktX13_hiddenWorth_3 : List UInt8 := dkwX13_hiddenWorth_3 ++ []
def dkwX13_hiddenWorth_2 : List UInt8 := [29, 182, 1, 141, 153, 0, 15, 42, 42, 180, 0, 17, 29, 182, 1, 177, 167, 0, 4, 3, 96, 61]
abbrev dktX13_hiddenWorth_2 : List UInt8 := dkwX13_hiddenWorth_2 ++ dktX13_hiddenWorth_3
def dkwX13_hiddenWorth_1 : List UInt8 := [29, 46, 184, 1, 63, 153, 0, 38, 42, 180, 0, 17, 3, 29, 96, 46, 154, 0, 27, 42, 42, 180, 0, 17]
abbrev dktX13_hiddenWorth_1 : List UInt8 := dkwX13_hiddenWorth_1 ++ dktX13_hiddenWorth_2
def dkwX13_hiddenWorth_0 : List UInt8 := [3, 61, 3, 62, 29, 42, 180, 1, 111, 180, 1, 31, 162, 0, 64, 28, 27, 42, 180, 1, 111, 180, 1, 49]
abbrev dktX13_hiddenWorth_0 : List UInt8 := dkwX13_hiddenWorth_0 ++ dktX13_hiddenWorth_1
theorem dksX13_hiddenWorth_0 : cX13_hiddenWorth.data.toList.drop 0 = dktX13_hiddenWorth_0 := by decide +kernel
theorem dksX13_hiddenWorth_1 : cX13_hiddenWorth.data.toList.drop 24 = dktX13_hiddenWorth_1 := dk_seg dksX13_hiddenWorth_0 24 rfl rfl
theorem dksX13_hiddenWorth_2 : cX13_hiddenWorth.data.toList.drop 48 = dktX13_hiddenWorth_2 := dk_seg dksX13_hiddenWorth_1 24 rfl rfl
theorem dksX13_hiddenWorth_3 : cX13_hiddenWorth.data.toList.drop 70 = dktX13_hiddenWorth_3 := dk_seg dksX13_hiddenWorth_2 22 rfl rfl
theorem dX13_hiddenWorth_0 : decode cX13_hiddenWorth 0 = .ok (.iconst 0, 1) := dk_3 (dk_at dksX13_hiddenWorth_0 0 rfl rfl)
theorem dX13_hiddenWorth_1 : decode cX13_hiddenWorth 1 = .ok (.istore_n 2, 1) := dk_61 (dk_at dksX13_hiddenWorth_0 1 rfl rfl)
theorem dX13_hiddenWorth_2 : decode cX13_hiddenWorth 2 = .ok (.iconst 0, 1) := dk_3 (dk_at dksX13_hiddenWorth_0 2 rfl rfl)
theorem dX13_hiddenWorth_3 : decode cX13_hiddenWorth 3 = .ok (.istore_n 3, 1) := dk_62 (dk_at dksX13_hiddenWorth_0 3 rfl rfl)
theorem dX13_hiddenWorth_4 : decode cX13_hiddenWorth 4 = .ok (.iload_n 3, 1) := dk_29 (dk_at dksX13_hiddenWorth_0 4 rfl rfl)
theorem dX13_hiddenWorth_5 : decode cX13_hiddenWorth 5 = .ok (.aload_n 0, 1) := dk_42 (dk_at dksX13_hiddenWorth_0 5 rfl rfl)
theorem dX13_hiddenWorth_6 : decode cX13_hiddenWorth 6 = .ok (.getfield 367, 3) := dk_180 1 111 (dk_at dksX13_hiddenWorth_0 6 rfl rfl)
theorem dX13_hiddenWorth_9 : decode cX13_hiddenWorth 9 = .ok (.getfield 287, 3) := dk_180 1 31 (dk_at dksX13_hiddenWorth_0 9 rfl rfl)
theorem dX13_hiddenWorth_12 : decode cX13_hiddenWorth 12 = .ok (.if_icmp .ge 64, 3) := dk_162 0 64 (dk_at dksX13_hiddenWorth_0 12 rfl rfl)
theorem dX13_hiddenWorth_15 : decode cX13_hiddenWorth 15 = .ok (.iload_n 2, 1) := dk_28 (dk_at dksX13_hiddenWorth_0 15 rfl rfl)
theorem dX13_hiddenWorth_16 : decode cX13_hiddenWorth 16 = .ok (.iload_n 1, 1) := dk_27 (dk_at dksX13_hiddenWorth_0 16 rfl rfl)
theorem dX13_hiddenWorth_17 : decode cX13_hiddenWorth 17 = .ok (.aload_n 0, 1) := dk_42 (dk_at dksX13_hiddenWorth_0 17 rfl rfl)
theorem dX13_hiddenWorth_18 : decode cX13_hiddenWorth 18 = .ok (.getfield 367, 3) := dk_180 1 111 (dk_at dksX13_hiddenWorth_0 18 rfl rfl)
theorem dX13_hiddenWorth_21 : decode cX13_hiddenWorth 21 = .ok (.getfield 305, 3) := dk_180 1 49 (dk_at dksX13_hiddenWorth_0 21 rfl rfl)
theorem dX13_hiddenWorth_24 : decode cX13_hiddenWorth 24 = .ok (.iload_n 3, 1) := dk_29 (dk_at dksX13_hiddenWorth_1 0 rfl rfl)
theorem dX13_hiddenWorth_25 : decode cX13_hiddenWorth 25 = .ok (.iaload, 1) := dk_46 (dk_at dksX13_hiddenWorth_1 1 rfl rfl)
theorem dX13_hiddenWorth_26 : decode cX13_hiddenWorth 26 = .ok (.invokestatic 319, 3) := dk_184 1 63 (dk_at dksX13_hiddenWorth_1 2 rfl rfl)
theorem dX13_hiddenWorth_29 : decode cX13_hiddenWorth 29 = .ok (.ifCond .eq 38, 3) := dk_153 0 38 (dk_at dksX13_hiddenWorth_1 5 rfl rfl)
theorem dX13_hiddenWorth_32 : decode cX13_hiddenWorth 32 = .ok (.aload_n 0, 1) := dk_42 (dk_at dksX13_hiddenWorth_1 8 rfl rfl)
theorem dX13_hiddenWorth_33 : decode cX13_hiddenWorth 33 = .ok (.getfield 17, 3) := dk_180 0 17 (dk_at dksX13_hiddenWorth_1 9 rfl rfl)
theorem dX13_hiddenWorth_36 : decode cX13_hiddenWorth 36 = .ok (.iconst 0, 1) := dk_3 (dk_at dksX13_hiddenWorth_1 12 rfl rfl)
theorem dX13_hiddenWorth_37 : decode cX13_hiddenWorth 37 = .ok (.iload_n 3, 1) := dk_29 (dk_at dksX13_hiddenWorth_1 13 rfl rfl)
theorem dX13_hiddenWorth_38 : decode cX13_hiddenWorth 38 = .ok (.iadd, 1) := dk_96 (dk_at dksX13_hiddenWorth_1 14 rfl rfl)
theorem dX13_hiddenWorth_39 : decode cX13_hiddenWorth 39 = .ok (.iaload, 1) := dk_46 (dk_at dksX13_hiddenWorth_1 15 rfl rfl)
theorem dX13_hiddenWorth_40 : decode cX13_hiddenWorth 40 = .ok (.ifCond .ne 27, 3) := dk_154 0 27 (dk_at dksX13_hiddenWorth_1 16 rfl rfl)
theorem dX13_hiddenWorth_43 : decode cX13_hiddenWorth 43 = .ok (.aload_n 0, 1) := dk_42 (dk_at dksX13_hiddenWorth_1 19 rfl rfl)
theorem dX13_hiddenWorth_44 : decode cX13_hiddenWorth 44 = .ok (.aload_n 0, 1) := dk_42 (dk_at dksX13_hiddenWorth_1 20 rfl rfl)
theorem dX13_hiddenWorth_45 : decode cX13_hiddenWorth 45 = .ok (.getfield 17, 3) := dk_180 0 17 (dk_at dksX13_hiddenWorth_1 21 rfl rfl)
theorem dX13_hiddenWorth_48 : decode cX13_hiddenWorth 48 = .ok (.iload_n 3, 1) := dk_29 (dk_at dksX13_hiddenWorth_2 0 rfl rfl)
theorem dX13_hiddenWorth_49 : decode cX13_hiddenWorth 49 = .ok (.invokevirtual 397, 3) := dk_182 1 141 (dk_at dksX13_hiddenWorth_2 1 rfl rfl)
theorem dX13_hiddenWorth_52 : decode cX13_hiddenWorth 52 = .ok (.ifCond .eq 15, 3) := dk_153 0 15 (dk_at dksX13_hiddenWorth_2 4 rfl rfl)
theorem dX13_hiddenWorth_55 : decode cX13_hiddenWorth 55 = .ok (.aload_n 0, 1) := dk_42 (dk_at dksX13_hiddenWorth_2 7 rfl rfl)
theorem dX13_hiddenWorth_56 : decode cX13_hiddenWorth 56 = .ok (.aload_n 0, 1) := dk_42 (dk_at dksX13_hiddenWorth_2 8 rfl rfl)
theorem dX13_hiddenWorth_57 : decode cX13_hiddenWorth 57 = .ok (.getfield 17, 3) := dk_180 0 17 (dk_at dksX13_hiddenWorth_2 9 rfl rfl)
theorem dX13_hiddenWorth_60 : decode cX13_hiddenWorth 60 = .ok (.iload_n 3, 1) := dk_29 (dk_at dksX13_hiddenWorth_2 12 rfl rfl)
theorem dX13_hiddenWorth_61 : decode cX13_hiddenWorth 61 = .ok (.invokevirtual 433, 3) := dk_182 1 177 (dk_at dksX13_hiddenWorth_2 13 rfl rfl)
theorem dX13_hiddenWorth_64 : decode cX13_hiddenWorth 64 = .ok (.goto 4, 3) := dk_167 0 4 (dk_at dksX13_hiddenWorth_2 16 rfl rfl)
theorem dX13_hiddenWorth_67 : decode cX13_hiddenWorth 67 = .ok (.iconst 0, 1) := dk_3 (dk_at dksX13_hiddenWorth_2 19 rfl rfl)
theorem dX13_hiddenWorth_68 : decode cX13_hiddenWorth 68 = .ok (.iadd, 1) := dk_96 (dk_at dksX13_hiddenWorth_2 20 rfl rfl)
theorem dX13_hiddenWorth_69 : decode cX13_hiddenWorth 69 = .ok (.istore_n 2, 1) := dk_61 (dk_at dksX13_hiddenWorth_2 21 rfl rfl)
theorem dX13_hiddenWorth_70 : decode cX13_hiddenWorth 70 = .ok (.iinc 3 1, 3) := dk_132 3 1 (dk_at dksX13_hiddenWorth_3 0 rfl rfl)
theorem dX13_hiddenWorth_73 : decode cX13_hiddenWorth 73 = .ok (.goto (-69), 3) := dk_167 255 187 (dk_at dksX13_hiddenWorth_3 3 rfl rfl)
theorem dX13_hiddenWorth_76 : decode cX13_hiddenWorth 76 = .ok (.iload_n 2, 1) := dk_28 (dk_at dksX13_hiddenWorth_3 6 rfl rfl)
theorem dX13_hiddenWorth_77 : decode cX13_hiddenWorth 77 = .ok (.ireturn, 1) := dk_172 (dk_at dksX13_hiddenWorth_3 7 rfl rfl)
abbrev cX13_planned : ByteArray := prog_27_method_103_code
def yX13_planned : MethodName := ⟨RX13, "planned", "(I)I"⟩
def dkwX13_planned_2 : List UInt8 := [182, 0, 49, 172]
abbrev dktX13_planned_2 : List UInt8 := dkwX13_planned_2 ++ []
def dkwX13_planned_1 : List UInt8 := [161, 0, 9, 42, 4, 182, 0, 45, 172, 42, 3, 182, 1, 246, 87, 42, 42, 180, 0, 30, 27, 46]
abbrev dktX13_planned_1 : List UInt8 := dkwX13_planned_1 ++ dktX13_planned_2
def dkwX13_planned_0 : List UInt8 := [42, 3, 181, 0, 39, 42, 180, 1, 111, 198, 0, 18, 27, 155, 0, 14, 27, 42, 180, 1, 111, 180, 1, 67]
abbrev dktX13_planned_0 : List UInt8 := dkwX13_planned_0 ++ dktX13_planned_1
theorem dksX13_planned_0 : cX13_planned.data.toList.drop 0 = dktX13_planned_0 := by decide +kernel
theorem dksX13_planned_1 : cX13_planned.data.toList.drop 24 = dktX13_planned_1 := dk_seg dksX13_planned_0 24 rfl rfl
theorem dksX13_planned_2 : cX13_planned.data.toList.drop 46 = dktX13_planned_2 := dk_seg dksX13_planned_1 22 rfl rfl
theorem dX13_planned_0 : decode cX13_planned 0 = .ok (.aload_n 0, 1) := dk_42 (dk_at dksX13_planned_0 0 rfl rfl)
theorem dX13_planned_1 : decode cX13_planned 1 = .ok (.iconst 0, 1) := dk_3 (dk_at dksX13_planned_0 1 rfl rfl)
theorem dX13_planned_2 : decode cX13_planned 2 = .ok (.putfield 39, 3) := dk_181 0 39 (dk_at dksX13_planned_0 2 rfl rfl)
theorem dX13_planned_5 : decode cX13_planned 5 = .ok (.aload_n 0, 1) := dk_42 (dk_at dksX13_planned_0 5 rfl rfl)
theorem dX13_planned_6 : decode cX13_planned 6 = .ok (.getfield 367, 3) := dk_180 1 111 (dk_at dksX13_planned_0 6 rfl rfl)
theorem dX13_planned_9 : decode cX13_planned 9 = .ok (.ifnull 18, 3) := dk_198 0 18 (dk_at dksX13_planned_0 9 rfl rfl)
theorem dX13_planned_12 : decode cX13_planned 12 = .ok (.iload_n 1, 1) := dk_27 (dk_at dksX13_planned_0 12 rfl rfl)
theorem dX13_planned_13 : decode cX13_planned 13 = .ok (.ifCond .lt 14, 3) := dk_155 0 14 (dk_at dksX13_planned_0 13 rfl rfl)
theorem dX13_planned_16 : decode cX13_planned 16 = .ok (.iload_n 1, 1) := dk_27 (dk_at dksX13_planned_0 16 rfl rfl)
theorem dX13_planned_17 : decode cX13_planned 17 = .ok (.aload_n 0, 1) := dk_42 (dk_at dksX13_planned_0 17 rfl rfl)
theorem dX13_planned_18 : decode cX13_planned 18 = .ok (.getfield 367, 3) := dk_180 1 111 (dk_at dksX13_planned_0 18 rfl rfl)
theorem dX13_planned_21 : decode cX13_planned 21 = .ok (.getfield 323, 3) := dk_180 1 67 (dk_at dksX13_planned_0 21 rfl rfl)
theorem dX13_planned_24 : decode cX13_planned 24 = .ok (.if_icmp .lt 9, 3) := dk_161 0 9 (dk_at dksX13_planned_1 0 rfl rfl)
theorem dX13_planned_27 : decode cX13_planned 27 = .ok (.aload_n 0, 1) := dk_42 (dk_at dksX13_planned_1 3 rfl rfl)
theorem dX13_planned_28 : decode cX13_planned 28 = .ok (.iconst 1, 1) := dk_4 (dk_at dksX13_planned_1 4 rfl rfl)
theorem dX13_planned_29 : decode cX13_planned 29 = .ok (.invokevirtual 45, 3) := dk_182 0 45 (dk_at dksX13_planned_1 5 rfl rfl)
theorem dX13_planned_32 : decode cX13_planned 32 = .ok (.ireturn, 1) := dk_172 (dk_at dksX13_planned_1 8 rfl rfl)
theorem dX13_planned_33 : decode cX13_planned 33 = .ok (.aload_n 0, 1) := dk_42 (dk_at dksX13_planned_1 9 rfl rfl)
theorem dX13_planned_34 : decode cX13_planned 34 = .ok (.iconst 0, 1) := dk_3 (dk_at dksX13_planned_1 10 rfl rfl)
theorem dX13_planned_35 : decode cX13_planned 35 = .ok (.invokevirtual 502, 3) := dk_182 1 246 (dk_at dksX13_planned_1 11 rfl rfl)
theorem dX13_planned_38 : decode cX13_planned 38 = .ok (.pop, 1) := dk_87 (dk_at dksX13_planned_1 14 rfl rfl)
theorem dX13_planned_39 : decode cX13_planned 39 = .ok (.aload_n 0, 1) := dk_42 (dk_at dksX13_planned_1 15 rfl rfl)
theorem dX13_planned_40 : decode cX13_planned 40 = .ok (.aload_n 0, 1) := dk_42 (dk_at dksX13_planned_1 16 rfl rfl)
theorem dX13_planned_41 : decode cX13_planned 41 = .ok (.getfield 30, 3) := dk_180 0 30 (dk_at dksX13_planned_1 17 rfl rfl)
theorem dX13_planned_44 : decode cX13_planned 44 = .ok (.iload_n 1, 1) := dk_27 (dk_at dksX13_planned_1 20 rfl rfl)
theorem dX13_planned_45 : decode cX13_planned 45 = .ok (.iaload, 1) := dk_46 (dk_at dksX13_planned_1 21 rfl rfl)
theorem dX13_planned_46 : decode cX13_planned 46 = .ok (.invokevirtual 49, 3) := dk_182 0 49 (dk_at dksX13_planned_2 0 rfl rfl)
theorem dX13_planned_49 : decode cX13_planned 49 = .ok (.ireturn, 1) := dk_172 (dk_at dksX13_planned_2 3 rfl rfl)
abbrev cX13_plans : ByteArray := prog_27_method_102_code
def yX13_plans : MethodName := ⟨RX13, "plans", "(Z)I"⟩
def dkwX13_plans_5 : List UInt8 := [28, 42, 180, 0, 30, 29, 46, 96, 61, 132, 3, 1, 167, 255, 138, 28, 172]
abbrev dktX13_plans_5 : List UInt8 := dkwX13_plans_5 ++ []
def dkwX13_plans_4 : List UInt8 := [42, 42, 180, 0, 21, 21, 4, 42, 180, 1, 111, 180, 1, 79, 29, 46, 3, 182, 1, 151, 182, 1, 244, 79]
abbrev dktX13_plans_4 : List UInt8 := dkwX13_plans_4 ++ dktX13_plans_5
def dkwX13_plans_3 : List UInt8 := [180, 0, 30, 29, 42, 42, 180, 0, 21, 21, 4, 27, 153, 0, 12, 42, 21, 4, 182, 1, 241, 167, 0, 23]
abbrev dktX13_plans_3 : List UInt8 := dkwX13_plans_3 ++ dktX13_plans_4
def dkwX13_plans_2 : List UInt8 := [180, 1, 76, 29, 46, 54, 4, 42, 180, 0, 21, 16, 17, 42, 180, 1, 111, 180, 1, 72, 29, 46, 79, 42]
abbrev dktX13_plans_2 : List UInt8 := dkwX13_plans_2 ++ dktX13_plans_3
def dkwX13_plans_1 : List UInt8 := [180, 0, 30, 29, 16, 254, 79, 42, 29, 182, 1, 238, 154, 0, 6, 167, 0, 88, 42, 180, 1, 111]
abbrev dktX13_plans_1 : List UInt8 := dkwX13_plans_1 ++ dktX13_plans_2
def dkwX13_plans_0 : List UInt8 := [3, 61, 42, 42, 180, 0, 21, 182, 1, 113, 3, 62, 29, 42, 180, 1, 111, 180, 1, 67, 162, 0, 113, 42]
abbrev dktX13_plans_0 : List UInt8 := dkwX13_plans_0 ++ dktX13_plans_1
theorem dksX13_plans_0 : cX13_plans.data.toList.drop 0 = dktX13_plans_0 := by decide +kernel
theorem dksX13_plans_1 : cX13_plans.data.toList.drop 24 = dktX13_plans_1 := dk_seg dksX13_plans_0 24 rfl rfl
theorem dksX13_plans_2 : cX13_plans.data.toList.drop 46 = dktX13_plans_2 := dk_seg dksX13_plans_1 22 rfl rfl
theorem dksX13_plans_3 : cX13_plans.data.toList.drop 70 = dktX13_plans_3 := dk_seg dksX13_plans_2 24 rfl rfl
theorem dksX13_plans_4 : cX13_plans.data.toList.drop 94 = dktX13_plans_4 := dk_seg dksX13_plans_3 24 rfl rfl
theorem dksX13_plans_5 : cX13_plans.data.toList.drop 118 = dktX13_plans_5 := dk_seg dksX13_plans_4 24 rfl rfl
theorem dX13_plans_0 : decode cX13_plans 0 = .ok (.iconst 0, 1) := dk_3 (dk_at dksX13_plans_0 0 rfl rfl)
theorem dX13_plans_1 : decode cX13_plans 1 = .ok (.istore_n 2, 1) := dk_61 (dk_at dksX13_plans_0 1 rfl rfl)
theorem dX13_plans_2 : decode cX13_plans 2 = .ok (.aload_n 0, 1) := dk_42 (dk_at dksX13_plans_0 2 rfl rfl)
theorem dX13_plans_3 : decode cX13_plans 3 = .ok (.aload_n 0, 1) := dk_42 (dk_at dksX13_plans_0 3 rfl rfl)
theorem dX13_plans_4 : decode cX13_plans 4 = .ok (.getfield 21, 3) := dk_180 0 21 (dk_at dksX13_plans_0 4 rfl rfl)
theorem dX13_plans_7 : decode cX13_plans 7 = .ok (.invokevirtual 369, 3) := dk_182 1 113 (dk_at dksX13_plans_0 7 rfl rfl)
theorem dX13_plans_10 : decode cX13_plans 10 = .ok (.iconst 0, 1) := dk_3 (dk_at dksX13_plans_0 10 rfl rfl)
theorem dX13_plans_11 : decode cX13_plans 11 = .ok (.istore_n 3, 1) := dk_62 (dk_at dksX13_plans_0 11 rfl rfl)
theorem dX13_plans_12 : decode cX13_plans 12 = .ok (.iload_n 3, 1) := dk_29 (dk_at dksX13_plans_0 12 rfl rfl)
theorem dX13_plans_13 : decode cX13_plans 13 = .ok (.aload_n 0, 1) := dk_42 (dk_at dksX13_plans_0 13 rfl rfl)
theorem dX13_plans_14 : decode cX13_plans 14 = .ok (.getfield 367, 3) := dk_180 1 111 (dk_at dksX13_plans_0 14 rfl rfl)
theorem dX13_plans_17 : decode cX13_plans 17 = .ok (.getfield 323, 3) := dk_180 1 67 (dk_at dksX13_plans_0 17 rfl rfl)
theorem dX13_plans_20 : decode cX13_plans 20 = .ok (.if_icmp .ge 113, 3) := dk_162 0 113 (dk_at dksX13_plans_0 20 rfl rfl)
theorem dX13_plans_23 : decode cX13_plans 23 = .ok (.aload_n 0, 1) := dk_42 (dk_at dksX13_plans_0 23 rfl rfl)
theorem dX13_plans_24 : decode cX13_plans 24 = .ok (.getfield 30, 3) := dk_180 0 30 (dk_at dksX13_plans_1 0 rfl rfl)
theorem dX13_plans_27 : decode cX13_plans 27 = .ok (.iload_n 3, 1) := dk_29 (dk_at dksX13_plans_1 3 rfl rfl)
theorem dX13_plans_28 : decode cX13_plans 28 = .ok (.bipush (-2), 2) := dk_16 254 (dk_at dksX13_plans_1 4 rfl rfl)
theorem dX13_plans_30 : decode cX13_plans 30 = .ok (.iastore, 1) := dk_79 (dk_at dksX13_plans_1 6 rfl rfl)
theorem dX13_plans_31 : decode cX13_plans 31 = .ok (.aload_n 0, 1) := dk_42 (dk_at dksX13_plans_1 7 rfl rfl)
theorem dX13_plans_32 : decode cX13_plans 32 = .ok (.iload_n 3, 1) := dk_29 (dk_at dksX13_plans_1 8 rfl rfl)
theorem dX13_plans_33 : decode cX13_plans 33 = .ok (.invokevirtual 494, 3) := dk_182 1 238 (dk_at dksX13_plans_1 9 rfl rfl)
theorem dX13_plans_36 : decode cX13_plans 36 = .ok (.ifCond .ne 6, 3) := dk_154 0 6 (dk_at dksX13_plans_1 12 rfl rfl)
theorem dX13_plans_39 : decode cX13_plans 39 = .ok (.goto 88, 3) := dk_167 0 88 (dk_at dksX13_plans_1 15 rfl rfl)
theorem dX13_plans_42 : decode cX13_plans 42 = .ok (.aload_n 0, 1) := dk_42 (dk_at dksX13_plans_1 18 rfl rfl)
theorem dX13_plans_43 : decode cX13_plans 43 = .ok (.getfield 367, 3) := dk_180 1 111 (dk_at dksX13_plans_1 19 rfl rfl)
theorem dX13_plans_46 : decode cX13_plans 46 = .ok (.getfield 332, 3) := dk_180 1 76 (dk_at dksX13_plans_2 0 rfl rfl)
theorem dX13_plans_49 : decode cX13_plans 49 = .ok (.iload_n 3, 1) := dk_29 (dk_at dksX13_plans_2 3 rfl rfl)
theorem dX13_plans_50 : decode cX13_plans 50 = .ok (.iaload, 1) := dk_46 (dk_at dksX13_plans_2 4 rfl rfl)
theorem dX13_plans_51 : decode cX13_plans 51 = .ok (.istore 4, 2) := dk_54 4 (dk_at dksX13_plans_2 5 rfl rfl)
theorem dX13_plans_53 : decode cX13_plans 53 = .ok (.aload_n 0, 1) := dk_42 (dk_at dksX13_plans_2 7 rfl rfl)
theorem dX13_plans_54 : decode cX13_plans 54 = .ok (.getfield 21, 3) := dk_180 0 21 (dk_at dksX13_plans_2 8 rfl rfl)
theorem dX13_plans_57 : decode cX13_plans 57 = .ok (.bipush 17, 2) := dk_16 17 (dk_at dksX13_plans_2 11 rfl rfl)
theorem dX13_plans_59 : decode cX13_plans 59 = .ok (.aload_n 0, 1) := dk_42 (dk_at dksX13_plans_2 13 rfl rfl)
theorem dX13_plans_60 : decode cX13_plans 60 = .ok (.getfield 367, 3) := dk_180 1 111 (dk_at dksX13_plans_2 14 rfl rfl)
theorem dX13_plans_63 : decode cX13_plans 63 = .ok (.getfield 328, 3) := dk_180 1 72 (dk_at dksX13_plans_2 17 rfl rfl)
theorem dX13_plans_66 : decode cX13_plans 66 = .ok (.iload_n 3, 1) := dk_29 (dk_at dksX13_plans_2 20 rfl rfl)
theorem dX13_plans_67 : decode cX13_plans 67 = .ok (.iaload, 1) := dk_46 (dk_at dksX13_plans_2 21 rfl rfl)
theorem dX13_plans_68 : decode cX13_plans 68 = .ok (.iastore, 1) := dk_79 (dk_at dksX13_plans_2 22 rfl rfl)
theorem dX13_plans_69 : decode cX13_plans 69 = .ok (.aload_n 0, 1) := dk_42 (dk_at dksX13_plans_2 23 rfl rfl)
theorem dX13_plans_70 : decode cX13_plans 70 = .ok (.getfield 30, 3) := dk_180 0 30 (dk_at dksX13_plans_3 0 rfl rfl)
theorem dX13_plans_73 : decode cX13_plans 73 = .ok (.iload_n 3, 1) := dk_29 (dk_at dksX13_plans_3 3 rfl rfl)
theorem dX13_plans_74 : decode cX13_plans 74 = .ok (.aload_n 0, 1) := dk_42 (dk_at dksX13_plans_3 4 rfl rfl)
theorem dX13_plans_75 : decode cX13_plans 75 = .ok (.aload_n 0, 1) := dk_42 (dk_at dksX13_plans_3 5 rfl rfl)
theorem dX13_plans_76 : decode cX13_plans 76 = .ok (.getfield 21, 3) := dk_180 0 21 (dk_at dksX13_plans_3 6 rfl rfl)
theorem dX13_plans_79 : decode cX13_plans 79 = .ok (.iload 4, 2) := dk_21 4 (dk_at dksX13_plans_3 9 rfl rfl)
theorem dX13_plans_81 : decode cX13_plans 81 = .ok (.iload_n 1, 1) := dk_27 (dk_at dksX13_plans_3 11 rfl rfl)
theorem dX13_plans_82 : decode cX13_plans 82 = .ok (.ifCond .eq 12, 3) := dk_153 0 12 (dk_at dksX13_plans_3 12 rfl rfl)
theorem dX13_plans_85 : decode cX13_plans 85 = .ok (.aload_n 0, 1) := dk_42 (dk_at dksX13_plans_3 15 rfl rfl)
theorem dX13_plans_86 : decode cX13_plans 86 = .ok (.iload 4, 2) := dk_21 4 (dk_at dksX13_plans_3 16 rfl rfl)
theorem dX13_plans_88 : decode cX13_plans 88 = .ok (.invokevirtual 497, 3) := dk_182 1 241 (dk_at dksX13_plans_3 18 rfl rfl)
theorem dX13_plans_91 : decode cX13_plans 91 = .ok (.goto 23, 3) := dk_167 0 23 (dk_at dksX13_plans_3 21 rfl rfl)
theorem dX13_plans_94 : decode cX13_plans 94 = .ok (.aload_n 0, 1) := dk_42 (dk_at dksX13_plans_4 0 rfl rfl)
theorem dX13_plans_95 : decode cX13_plans 95 = .ok (.aload_n 0, 1) := dk_42 (dk_at dksX13_plans_4 1 rfl rfl)
theorem dX13_plans_96 : decode cX13_plans 96 = .ok (.getfield 21, 3) := dk_180 0 21 (dk_at dksX13_plans_4 2 rfl rfl)
theorem dX13_plans_99 : decode cX13_plans 99 = .ok (.iload 4, 2) := dk_21 4 (dk_at dksX13_plans_4 5 rfl rfl)
theorem dX13_plans_101 : decode cX13_plans 101 = .ok (.aload_n 0, 1) := dk_42 (dk_at dksX13_plans_4 7 rfl rfl)
theorem dX13_plans_102 : decode cX13_plans 102 = .ok (.getfield 367, 3) := dk_180 1 111 (dk_at dksX13_plans_4 8 rfl rfl)
theorem dX13_plans_105 : decode cX13_plans 105 = .ok (.getfield 335, 3) := dk_180 1 79 (dk_at dksX13_plans_4 11 rfl rfl)
theorem dX13_plans_108 : decode cX13_plans 108 = .ok (.iload_n 3, 1) := dk_29 (dk_at dksX13_plans_4 14 rfl rfl)
theorem dX13_plans_109 : decode cX13_plans 109 = .ok (.iaload, 1) := dk_46 (dk_at dksX13_plans_4 15 rfl rfl)
theorem dX13_plans_110 : decode cX13_plans 110 = .ok (.iconst 0, 1) := dk_3 (dk_at dksX13_plans_4 16 rfl rfl)
theorem dX13_plans_111 : decode cX13_plans 111 = .ok (.invokevirtual 407, 3) := dk_182 1 151 (dk_at dksX13_plans_4 17 rfl rfl)
theorem dX13_plans_114 : decode cX13_plans 114 = .ok (.invokevirtual 500, 3) := dk_182 1 244 (dk_at dksX13_plans_4 20 rfl rfl)
theorem dX13_plans_117 : decode cX13_plans 117 = .ok (.iastore, 1) := dk_79 (dk_at dksX13_plans_4 23 rfl rfl)
theorem dX13_plans_118 : decode cX13_plans 118 = .ok (.iload_n 2, 1) := dk_28 (dk_at dksX13_plans_5 0 rfl rfl)
theorem dX13_plans_119 : decode cX13_plans 119 = .ok (.aload_n 0, 1) := dk_42 (dk_at dksX13_plans_5 1 rfl rfl)
theorem dX13_plans_120 : decode cX13_plans 120 = .ok (.getfield 30, 3) := dk_180 0 30 (dk_at dksX13_plans_5 2 rfl rfl)
theorem dX13_plans_123 : decode cX13_plans 123 = .ok (.iload_n 3, 1) := dk_29 (dk_at dksX13_plans_5 5 rfl rfl)
theorem dX13_plans_124 : decode cX13_plans 124 = .ok (.iaload, 1) := dk_46 (dk_at dksX13_plans_5 6 rfl rfl)
theorem dX13_plans_125 : decode cX13_plans 125 = .ok (.iadd, 1) := dk_96 (dk_at dksX13_plans_5 7 rfl rfl)
theorem dX13_plans_126 : decode cX13_plans 126 = .ok (.istore_n 2, 1) := dk_61 (dk_at dksX13_plans_5 8 rfl rfl)
theorem dX13_plans_127 : decode cX13_plans 127 = .ok (.iinc 3 1, 3) := dk_132 3 1 (dk_at dksX13_plans_5 9 rfl rfl)
theorem dX13_plans_130 : decode cX13_plans 130 = .ok (.goto (-118), 3) := dk_167 255 138 (dk_at dksX13_plans_5 12 rfl rfl)
theorem dX13_plans_133 : decode cX13_plans 133 = .ok (.iload_n 2, 1) := dk_28 (dk_at dksX13_plans_5 15 rfl rfl)
theorem dX13_plans_134 : decode cX13_plans 134 = .ok (.ireturn, 1) := dk_172 (dk_at dksX13_plans_5 16 rfl rfl)
abbrev cX13_isOpen : ByteArray := prog_27_method_100_code
def yX13_isOpen : MethodName := ⟨RX13, "isOpen", "(I)Z"⟩
def dkwX13_isOpen_1 : List UInt8 := [46, 46, 42, 180, 1, 111, 180, 1, 21, 42, 180, 1, 111, 180, 1, 79, 27, 46, 46, 184, 0, 118, 172]
abbrev dktX13_isOpen_1 : List UInt8 := dkwX13_isOpen_1 ++ []
def dkwX13_isOpen_0 : List UInt8 := [42, 180, 1, 111, 180, 1, 82, 27, 46, 42, 180, 1, 111, 180, 1, 19, 42, 180, 1, 111, 180, 1, 79, 27]
abbrev dktX13_isOpen_0 : List UInt8 := dkwX13_isOpen_0 ++ dktX13_isOpen_1
theorem dksX13_isOpen_0 : cX13_isOpen.data.toList.drop 0 = dktX13_isOpen_0 := by decide +kernel
theorem dksX13_isOpen_1 : cX13_isOpen.data.toList.drop 24 = dktX13_isOpen_1 := dk_seg dksX13_isOpen_0 24 rfl rfl
theorem dX13_isOpen_0 : decode cX13_isOpen 0 = .ok (.aload_n 0, 1) := dk_42 (dk_at dksX13_isOpen_0 0 rfl rfl)
theorem dX13_isOpen_1 : decode cX13_isOpen 1 = .ok (.getfield 367, 3) := dk_180 1 111 (dk_at dksX13_isOpen_0 1 rfl rfl)
theorem dX13_isOpen_4 : decode cX13_isOpen 4 = .ok (.getfield 338, 3) := dk_180 1 82 (dk_at dksX13_isOpen_0 4 rfl rfl)
theorem dX13_isOpen_7 : decode cX13_isOpen 7 = .ok (.iload_n 1, 1) := dk_27 (dk_at dksX13_isOpen_0 7 rfl rfl)
theorem dX13_isOpen_8 : decode cX13_isOpen 8 = .ok (.iaload, 1) := dk_46 (dk_at dksX13_isOpen_0 8 rfl rfl)
theorem dX13_isOpen_9 : decode cX13_isOpen 9 = .ok (.aload_n 0, 1) := dk_42 (dk_at dksX13_isOpen_0 9 rfl rfl)
theorem dX13_isOpen_10 : decode cX13_isOpen 10 = .ok (.getfield 367, 3) := dk_180 1 111 (dk_at dksX13_isOpen_0 10 rfl rfl)
theorem dX13_isOpen_13 : decode cX13_isOpen 13 = .ok (.getfield 275, 3) := dk_180 1 19 (dk_at dksX13_isOpen_0 13 rfl rfl)
theorem dX13_isOpen_16 : decode cX13_isOpen 16 = .ok (.aload_n 0, 1) := dk_42 (dk_at dksX13_isOpen_0 16 rfl rfl)
theorem dX13_isOpen_17 : decode cX13_isOpen 17 = .ok (.getfield 367, 3) := dk_180 1 111 (dk_at dksX13_isOpen_0 17 rfl rfl)
theorem dX13_isOpen_20 : decode cX13_isOpen 20 = .ok (.getfield 335, 3) := dk_180 1 79 (dk_at dksX13_isOpen_0 20 rfl rfl)
theorem dX13_isOpen_23 : decode cX13_isOpen 23 = .ok (.iload_n 1, 1) := dk_27 (dk_at dksX13_isOpen_0 23 rfl rfl)
theorem dX13_isOpen_24 : decode cX13_isOpen 24 = .ok (.iaload, 1) := dk_46 (dk_at dksX13_isOpen_1 0 rfl rfl)
theorem dX13_isOpen_25 : decode cX13_isOpen 25 = .ok (.iaload, 1) := dk_46 (dk_at dksX13_isOpen_1 1 rfl rfl)
theorem dX13_isOpen_26 : decode cX13_isOpen 26 = .ok (.aload_n 0, 1) := dk_42 (dk_at dksX13_isOpen_1 2 rfl rfl)
theorem dX13_isOpen_27 : decode cX13_isOpen 27 = .ok (.getfield 367, 3) := dk_180 1 111 (dk_at dksX13_isOpen_1 3 rfl rfl)
theorem dX13_isOpen_30 : decode cX13_isOpen 30 = .ok (.getfield 277, 3) := dk_180 1 21 (dk_at dksX13_isOpen_1 6 rfl rfl)
theorem dX13_isOpen_33 : decode cX13_isOpen 33 = .ok (.aload_n 0, 1) := dk_42 (dk_at dksX13_isOpen_1 9 rfl rfl)
theorem dX13_isOpen_34 : decode cX13_isOpen 34 = .ok (.getfield 367, 3) := dk_180 1 111 (dk_at dksX13_isOpen_1 10 rfl rfl)
theorem dX13_isOpen_37 : decode cX13_isOpen 37 = .ok (.getfield 335, 3) := dk_180 1 79 (dk_at dksX13_isOpen_1 13 rfl rfl)
theorem dX13_isOpen_40 : decode cX13_isOpen 40 = .ok (.iload_n 1, 1) := dk_27 (dk_at dksX13_isOpen_1 16 rfl rfl)
theorem dX13_isOpen_41 : decode cX13_isOpen 41 = .ok (.iaload, 1) := dk_46 (dk_at dksX13_isOpen_1 17 rfl rfl)
theorem dX13_isOpen_42 : decode cX13_isOpen 42 = .ok (.iaload, 1) := dk_46 (dk_at dksX13_isOpen_1 18 rfl rfl)
theorem dX13_isOpen_43 : decode cX13_isOpen 43 = .ok (.invokestatic 118, 3) := dk_184 0 118 (dk_at dksX13_isOpen_1 19 rfl rfl)
theorem dX13_isOpen_46 : decode cX13_isOpen 46 = .ok (.ireturn, 1) := dk_172 (dk_at dksX13_isOpen_1 22 rfl rfl)
abbrev cX13_drawnFound : ByteArray := prog_27_method_101_code
def yX13_drawnFound : MethodName := ⟨RX13, "drawnFound", "(I)I"⟩
def dkwX13_drawnFound_4 : List UInt8 := [167, 0, 4, 3, 128, 61, 132, 3, 1, 167, 255, 162, 28, 172]
abbrev dktX13_drawnFound_4 : List UInt8 := dkwX13_drawnFound_4 ++ []
def dkwX13_drawnFound_3 : List UInt8 := [180, 1, 231, 16, 100, 112, 42, 42, 180, 0, 21, 29, 3, 182, 1, 144, 162, 0, 9, 4, 29, 120]
abbrev dktX13_drawnFound_3 : List UInt8 := dkwX13_drawnFound_3 ++ dktX13_drawnFound_4
def dkwX13_drawnFound_2 : List UInt8 := [20, 1, 229, 42, 180, 1, 231, 133, 105, 20, 1, 234, 97, 20, 1, 236, 113, 136, 181, 1, 231, 28, 42]
abbrev dktX13_drawnFound_2 : List UInt8 := dkwX13_drawnFound_2 ++ dktX13_drawnFound_3
def dkwX13_drawnFound_1 : List UInt8 := [182, 1, 134, 153, 0, 70, 42, 42, 180, 0, 21, 29, 182, 1, 141, 154, 0, 6, 167, 0, 55, 42]
abbrev dktX13_drawnFound_1 : List UInt8 := dkwX13_drawnFound_1 ++ dktX13_drawnFound_2
def dkwX13_drawnFound_0 : List UInt8 := [3, 61, 3, 62, 29, 42, 180, 1, 111, 180, 1, 31, 162, 0, 89, 42, 42, 180, 0, 21, 27, 29]
abbrev dktX13_drawnFound_0 : List UInt8 := dkwX13_drawnFound_0 ++ dktX13_drawnFound_1
theorem dksX13_drawnFound_0 : cX13_drawnFound.data.toList.drop 0 = dktX13_drawnFound_0 := by decide +kernel
theorem dksX13_drawnFound_1 : cX13_drawnFound.data.toList.drop 22 = dktX13_drawnFound_1 := dk_seg dksX13_drawnFound_0 22 rfl rfl
theorem dksX13_drawnFound_2 : cX13_drawnFound.data.toList.drop 44 = dktX13_drawnFound_2 := dk_seg dksX13_drawnFound_1 22 rfl rfl
theorem dksX13_drawnFound_3 : cX13_drawnFound.data.toList.drop 67 = dktX13_drawnFound_3 := dk_seg dksX13_drawnFound_2 23 rfl rfl
theorem dksX13_drawnFound_4 : cX13_drawnFound.data.toList.drop 89 = dktX13_drawnFound_4 := dk_seg dksX13_drawnFound_3 22 rfl rfl
theorem dX13_drawnFound_0 : decode cX13_drawnFound 0 = .ok (.iconst 0, 1) := dk_3 (dk_at dksX13_drawnFound_0 0 rfl rfl)
theorem dX13_drawnFound_1 : decode cX13_drawnFound 1 = .ok (.istore_n 2, 1) := dk_61 (dk_at dksX13_drawnFound_0 1 rfl rfl)
theorem dX13_drawnFound_2 : decode cX13_drawnFound 2 = .ok (.iconst 0, 1) := dk_3 (dk_at dksX13_drawnFound_0 2 rfl rfl)
theorem dX13_drawnFound_3 : decode cX13_drawnFound 3 = .ok (.istore_n 3, 1) := dk_62 (dk_at dksX13_drawnFound_0 3 rfl rfl)
theorem dX13_drawnFound_4 : decode cX13_drawnFound 4 = .ok (.iload_n 3, 1) := dk_29 (dk_at dksX13_drawnFound_0 4 rfl rfl)
theorem dX13_drawnFound_5 : decode cX13_drawnFound 5 = .ok (.aload_n 0, 1) := dk_42 (dk_at dksX13_drawnFound_0 5 rfl rfl)
theorem dX13_drawnFound_6 : decode cX13_drawnFound 6 = .ok (.getfield 367, 3) := dk_180 1 111 (dk_at dksX13_drawnFound_0 6 rfl rfl)
theorem dX13_drawnFound_9 : decode cX13_drawnFound 9 = .ok (.getfield 287, 3) := dk_180 1 31 (dk_at dksX13_drawnFound_0 9 rfl rfl)
theorem dX13_drawnFound_12 : decode cX13_drawnFound 12 = .ok (.if_icmp .ge 89, 3) := dk_162 0 89 (dk_at dksX13_drawnFound_0 12 rfl rfl)
theorem dX13_drawnFound_15 : decode cX13_drawnFound 15 = .ok (.aload_n 0, 1) := dk_42 (dk_at dksX13_drawnFound_0 15 rfl rfl)
theorem dX13_drawnFound_16 : decode cX13_drawnFound 16 = .ok (.aload_n 0, 1) := dk_42 (dk_at dksX13_drawnFound_0 16 rfl rfl)
theorem dX13_drawnFound_17 : decode cX13_drawnFound 17 = .ok (.getfield 21, 3) := dk_180 0 21 (dk_at dksX13_drawnFound_0 17 rfl rfl)
theorem dX13_drawnFound_20 : decode cX13_drawnFound 20 = .ok (.iload_n 1, 1) := dk_27 (dk_at dksX13_drawnFound_0 20 rfl rfl)
theorem dX13_drawnFound_21 : decode cX13_drawnFound 21 = .ok (.iload_n 3, 1) := dk_29 (dk_at dksX13_drawnFound_0 21 rfl rfl)
theorem dX13_drawnFound_22 : decode cX13_drawnFound 22 = .ok (.invokevirtual 390, 3) := dk_182 1 134 (dk_at dksX13_drawnFound_1 0 rfl rfl)
theorem dX13_drawnFound_25 : decode cX13_drawnFound 25 = .ok (.ifCond .eq 70, 3) := dk_153 0 70 (dk_at dksX13_drawnFound_1 3 rfl rfl)
theorem dX13_drawnFound_28 : decode cX13_drawnFound 28 = .ok (.aload_n 0, 1) := dk_42 (dk_at dksX13_drawnFound_1 6 rfl rfl)
theorem dX13_drawnFound_29 : decode cX13_drawnFound 29 = .ok (.aload_n 0, 1) := dk_42 (dk_at dksX13_drawnFound_1 7 rfl rfl)
theorem dX13_drawnFound_30 : decode cX13_drawnFound 30 = .ok (.getfield 21, 3) := dk_180 0 21 (dk_at dksX13_drawnFound_1 8 rfl rfl)
theorem dX13_drawnFound_33 : decode cX13_drawnFound 33 = .ok (.iload_n 3, 1) := dk_29 (dk_at dksX13_drawnFound_1 11 rfl rfl)
theorem dX13_drawnFound_34 : decode cX13_drawnFound 34 = .ok (.invokevirtual 397, 3) := dk_182 1 141 (dk_at dksX13_drawnFound_1 12 rfl rfl)
theorem dX13_drawnFound_37 : decode cX13_drawnFound 37 = .ok (.ifCond .ne 6, 3) := dk_154 0 6 (dk_at dksX13_drawnFound_1 15 rfl rfl)
theorem dX13_drawnFound_40 : decode cX13_drawnFound 40 = .ok (.goto 55, 3) := dk_167 0 55 (dk_at dksX13_drawnFound_1 18 rfl rfl)
theorem dX13_drawnFound_43 : decode cX13_drawnFound 43 = .ok (.aload_n 0, 1) := dk_42 (dk_at dksX13_drawnFound_1 21 rfl rfl)
theorem dX13_drawnFound_44 : decode cX13_drawnFound 44 = .ok (.ldc2_w 485, 3) := dk_20 1 229 (dk_at dksX13_drawnFound_2 0 rfl rfl)
theorem dX13_drawnFound_47 : decode cX13_drawnFound 47 = .ok (.aload_n 0, 1) := dk_42 (dk_at dksX13_drawnFound_2 3 rfl rfl)
theorem dX13_drawnFound_48 : decode cX13_drawnFound 48 = .ok (.getfield 487, 3) := dk_180 1 231 (dk_at dksX13_drawnFound_2 4 rfl rfl)
theorem dX13_drawnFound_51 : decode cX13_drawnFound 51 = .ok (.i2l, 1) := dk_133 (dk_at dksX13_drawnFound_2 7 rfl rfl)
theorem dX13_drawnFound_52 : decode cX13_drawnFound 52 = .ok (.lmul, 1) := dk_105 (dk_at dksX13_drawnFound_2 8 rfl rfl)
theorem dX13_drawnFound_53 : decode cX13_drawnFound 53 = .ok (.ldc2_w 490, 3) := dk_20 1 234 (dk_at dksX13_drawnFound_2 9 rfl rfl)
theorem dX13_drawnFound_56 : decode cX13_drawnFound 56 = .ok (.ladd, 1) := dk_97 (dk_at dksX13_drawnFound_2 12 rfl rfl)
theorem dX13_drawnFound_57 : decode cX13_drawnFound 57 = .ok (.ldc2_w 492, 3) := dk_20 1 236 (dk_at dksX13_drawnFound_2 13 rfl rfl)
theorem dX13_drawnFound_60 : decode cX13_drawnFound 60 = .ok (.lrem, 1) := dk_113 (dk_at dksX13_drawnFound_2 16 rfl rfl)
theorem dX13_drawnFound_61 : decode cX13_drawnFound 61 = .ok (.l2i, 1) := dk_136 (dk_at dksX13_drawnFound_2 17 rfl rfl)
theorem dX13_drawnFound_62 : decode cX13_drawnFound 62 = .ok (.putfield 487, 3) := dk_181 1 231 (dk_at dksX13_drawnFound_2 18 rfl rfl)
theorem dX13_drawnFound_65 : decode cX13_drawnFound 65 = .ok (.iload_n 2, 1) := dk_28 (dk_at dksX13_drawnFound_2 21 rfl rfl)
theorem dX13_drawnFound_66 : decode cX13_drawnFound 66 = .ok (.aload_n 0, 1) := dk_42 (dk_at dksX13_drawnFound_2 22 rfl rfl)
theorem dX13_drawnFound_67 : decode cX13_drawnFound 67 = .ok (.getfield 487, 3) := dk_180 1 231 (dk_at dksX13_drawnFound_3 0 rfl rfl)
theorem dX13_drawnFound_70 : decode cX13_drawnFound 70 = .ok (.bipush 100, 2) := dk_16 100 (dk_at dksX13_drawnFound_3 3 rfl rfl)
theorem dX13_drawnFound_72 : decode cX13_drawnFound 72 = .ok (.irem, 1) := dk_112 (dk_at dksX13_drawnFound_3 5 rfl rfl)
theorem dX13_drawnFound_73 : decode cX13_drawnFound 73 = .ok (.aload_n 0, 1) := dk_42 (dk_at dksX13_drawnFound_3 6 rfl rfl)
theorem dX13_drawnFound_74 : decode cX13_drawnFound 74 = .ok (.aload_n 0, 1) := dk_42 (dk_at dksX13_drawnFound_3 7 rfl rfl)
theorem dX13_drawnFound_75 : decode cX13_drawnFound 75 = .ok (.getfield 21, 3) := dk_180 0 21 (dk_at dksX13_drawnFound_3 8 rfl rfl)
theorem dX13_drawnFound_78 : decode cX13_drawnFound 78 = .ok (.iload_n 3, 1) := dk_29 (dk_at dksX13_drawnFound_3 11 rfl rfl)
theorem dX13_drawnFound_79 : decode cX13_drawnFound 79 = .ok (.iconst 0, 1) := dk_3 (dk_at dksX13_drawnFound_3 12 rfl rfl)
theorem dX13_drawnFound_80 : decode cX13_drawnFound 80 = .ok (.invokevirtual 400, 3) := dk_182 1 144 (dk_at dksX13_drawnFound_3 13 rfl rfl)
theorem dX13_drawnFound_83 : decode cX13_drawnFound 83 = .ok (.if_icmp .ge 9, 3) := dk_162 0 9 (dk_at dksX13_drawnFound_3 16 rfl rfl)
theorem dX13_drawnFound_86 : decode cX13_drawnFound 86 = .ok (.iconst 1, 1) := dk_4 (dk_at dksX13_drawnFound_3 19 rfl rfl)
theorem dX13_drawnFound_87 : decode cX13_drawnFound 87 = .ok (.iload_n 3, 1) := dk_29 (dk_at dksX13_drawnFound_3 20 rfl rfl)
theorem dX13_drawnFound_88 : decode cX13_drawnFound 88 = .ok (.ishl, 1) := dk_120 (dk_at dksX13_drawnFound_3 21 rfl rfl)
theorem dX13_drawnFound_89 : decode cX13_drawnFound 89 = .ok (.goto 4, 3) := dk_167 0 4 (dk_at dksX13_drawnFound_4 0 rfl rfl)
theorem dX13_drawnFound_92 : decode cX13_drawnFound 92 = .ok (.iconst 0, 1) := dk_3 (dk_at dksX13_drawnFound_4 3 rfl rfl)
theorem dX13_drawnFound_93 : decode cX13_drawnFound 93 = .ok (.ior, 1) := dk_128 (dk_at dksX13_drawnFound_4 4 rfl rfl)
theorem dX13_drawnFound_94 : decode cX13_drawnFound 94 = .ok (.istore_n 2, 1) := dk_61 (dk_at dksX13_drawnFound_4 5 rfl rfl)
theorem dX13_drawnFound_95 : decode cX13_drawnFound 95 = .ok (.iinc 3 1, 3) := dk_132 3 1 (dk_at dksX13_drawnFound_4 6 rfl rfl)
theorem dX13_drawnFound_98 : decode cX13_drawnFound 98 = .ok (.goto (-94), 3) := dk_167 255 162 (dk_at dksX13_drawnFound_4 9 rfl rfl)
theorem dX13_drawnFound_101 : decode cX13_drawnFound 101 = .ok (.iload_n 2, 1) := dk_28 (dk_at dksX13_drawnFound_4 12 rfl rfl)
theorem dX13_drawnFound_102 : decode cX13_drawnFound 102 = .ok (.ireturn, 1) := dk_172 (dk_at dksX13_drawnFound_4 13 rfl rfl)
abbrev cX13_crosses : ByteArray := prog_27_method_63_code
def yX13_crosses : MethodName := ⟨RX13, "crosses", "([III)I"⟩
def dkwX13_crosses_3 : List UInt8 := [46, 21, 4, 96, 79, 21, 4, 172]
abbrev dktX13_crosses_3 : List UInt8 := dkwX13_crosses_3 ++ []
def dkwX13_crosses_2 : List UInt8 := [184, 1, 63, 153, 0, 7, 6, 167, 0, 4, 5, 79, 132, 5, 1, 167, 255, 210, 43, 16, 12, 28, 96, 92]
abbrev dktX13_crosses_2 : List UInt8 := dkwX13_crosses_2 ++ dktX13_crosses_3
def dkwX13_crosses_1 : List UInt8 := [162, 0, 40, 42, 43, 28, 21, 5, 182, 1, 134, 153, 0, 23, 43, 3, 21, 5, 96, 29, 21, 5]
abbrev dktX13_crosses_1 : List UInt8 := dkwX13_crosses_1 ++ dktX13_crosses_2
def dkwX13_crosses_0 : List UInt8 := [42, 43, 28, 29, 3, 182, 1, 155, 54, 4, 3, 54, 5, 21, 5, 42, 180, 1, 111, 180, 1, 31]
abbrev dktX13_crosses_0 : List UInt8 := dkwX13_crosses_0 ++ dktX13_crosses_1
theorem dksX13_crosses_0 : cX13_crosses.data.toList.drop 0 = dktX13_crosses_0 := by decide +kernel
theorem dksX13_crosses_1 : cX13_crosses.data.toList.drop 22 = dktX13_crosses_1 := dk_seg dksX13_crosses_0 22 rfl rfl
theorem dksX13_crosses_2 : cX13_crosses.data.toList.drop 44 = dktX13_crosses_2 := dk_seg dksX13_crosses_1 22 rfl rfl
theorem dksX13_crosses_3 : cX13_crosses.data.toList.drop 68 = dktX13_crosses_3 := dk_seg dksX13_crosses_2 24 rfl rfl
theorem dX13_crosses_0 : decode cX13_crosses 0 = .ok (.aload_n 0, 1) := dk_42 (dk_at dksX13_crosses_0 0 rfl rfl)
theorem dX13_crosses_1 : decode cX13_crosses 1 = .ok (.aload_n 1, 1) := dk_43 (dk_at dksX13_crosses_0 1 rfl rfl)
theorem dX13_crosses_2 : decode cX13_crosses 2 = .ok (.iload_n 2, 1) := dk_28 (dk_at dksX13_crosses_0 2 rfl rfl)
theorem dX13_crosses_3 : decode cX13_crosses 3 = .ok (.iload_n 3, 1) := dk_29 (dk_at dksX13_crosses_0 3 rfl rfl)
theorem dX13_crosses_4 : decode cX13_crosses 4 = .ok (.iconst 0, 1) := dk_3 (dk_at dksX13_crosses_0 4 rfl rfl)
theorem dX13_crosses_5 : decode cX13_crosses 5 = .ok (.invokevirtual 411, 3) := dk_182 1 155 (dk_at dksX13_crosses_0 5 rfl rfl)
theorem dX13_crosses_8 : decode cX13_crosses 8 = .ok (.istore 4, 2) := dk_54 4 (dk_at dksX13_crosses_0 8 rfl rfl)
theorem dX13_crosses_10 : decode cX13_crosses 10 = .ok (.iconst 0, 1) := dk_3 (dk_at dksX13_crosses_0 10 rfl rfl)
theorem dX13_crosses_11 : decode cX13_crosses 11 = .ok (.istore 5, 2) := dk_54 5 (dk_at dksX13_crosses_0 11 rfl rfl)
theorem dX13_crosses_13 : decode cX13_crosses 13 = .ok (.iload 5, 2) := dk_21 5 (dk_at dksX13_crosses_0 13 rfl rfl)
theorem dX13_crosses_15 : decode cX13_crosses 15 = .ok (.aload_n 0, 1) := dk_42 (dk_at dksX13_crosses_0 15 rfl rfl)
theorem dX13_crosses_16 : decode cX13_crosses 16 = .ok (.getfield 367, 3) := dk_180 1 111 (dk_at dksX13_crosses_0 16 rfl rfl)
theorem dX13_crosses_19 : decode cX13_crosses 19 = .ok (.getfield 287, 3) := dk_180 1 31 (dk_at dksX13_crosses_0 19 rfl rfl)
theorem dX13_crosses_22 : decode cX13_crosses 22 = .ok (.if_icmp .ge 40, 3) := dk_162 0 40 (dk_at dksX13_crosses_1 0 rfl rfl)
theorem dX13_crosses_25 : decode cX13_crosses 25 = .ok (.aload_n 0, 1) := dk_42 (dk_at dksX13_crosses_1 3 rfl rfl)
theorem dX13_crosses_26 : decode cX13_crosses 26 = .ok (.aload_n 1, 1) := dk_43 (dk_at dksX13_crosses_1 4 rfl rfl)
theorem dX13_crosses_27 : decode cX13_crosses 27 = .ok (.iload_n 2, 1) := dk_28 (dk_at dksX13_crosses_1 5 rfl rfl)
theorem dX13_crosses_28 : decode cX13_crosses 28 = .ok (.iload 5, 2) := dk_21 5 (dk_at dksX13_crosses_1 6 rfl rfl)
theorem dX13_crosses_30 : decode cX13_crosses 30 = .ok (.invokevirtual 390, 3) := dk_182 1 134 (dk_at dksX13_crosses_1 8 rfl rfl)
theorem dX13_crosses_33 : decode cX13_crosses 33 = .ok (.ifCond .eq 23, 3) := dk_153 0 23 (dk_at dksX13_crosses_1 11 rfl rfl)
theorem dX13_crosses_36 : decode cX13_crosses 36 = .ok (.aload_n 1, 1) := dk_43 (dk_at dksX13_crosses_1 14 rfl rfl)
theorem dX13_crosses_37 : decode cX13_crosses 37 = .ok (.iconst 0, 1) := dk_3 (dk_at dksX13_crosses_1 15 rfl rfl)
theorem dX13_crosses_38 : decode cX13_crosses 38 = .ok (.iload 5, 2) := dk_21 5 (dk_at dksX13_crosses_1 16 rfl rfl)
theorem dX13_crosses_40 : decode cX13_crosses 40 = .ok (.iadd, 1) := dk_96 (dk_at dksX13_crosses_1 18 rfl rfl)
theorem dX13_crosses_41 : decode cX13_crosses 41 = .ok (.iload_n 3, 1) := dk_29 (dk_at dksX13_crosses_1 19 rfl rfl)
theorem dX13_crosses_42 : decode cX13_crosses 42 = .ok (.iload 5, 2) := dk_21 5 (dk_at dksX13_crosses_1 20 rfl rfl)
theorem dX13_crosses_44 : decode cX13_crosses 44 = .ok (.invokestatic 319, 3) := dk_184 1 63 (dk_at dksX13_crosses_2 0 rfl rfl)
theorem dX13_crosses_47 : decode cX13_crosses 47 = .ok (.ifCond .eq 7, 3) := dk_153 0 7 (dk_at dksX13_crosses_2 3 rfl rfl)
theorem dX13_crosses_50 : decode cX13_crosses 50 = .ok (.iconst 3, 1) := dk_6 (dk_at dksX13_crosses_2 6 rfl rfl)
theorem dX13_crosses_51 : decode cX13_crosses 51 = .ok (.goto 4, 3) := dk_167 0 4 (dk_at dksX13_crosses_2 7 rfl rfl)
theorem dX13_crosses_54 : decode cX13_crosses 54 = .ok (.iconst 2, 1) := dk_5 (dk_at dksX13_crosses_2 10 rfl rfl)
theorem dX13_crosses_55 : decode cX13_crosses 55 = .ok (.iastore, 1) := dk_79 (dk_at dksX13_crosses_2 11 rfl rfl)
theorem dX13_crosses_56 : decode cX13_crosses 56 = .ok (.iinc 5 1, 3) := dk_132 5 1 (dk_at dksX13_crosses_2 12 rfl rfl)
theorem dX13_crosses_59 : decode cX13_crosses 59 = .ok (.goto (-46), 3) := dk_167 255 210 (dk_at dksX13_crosses_2 15 rfl rfl)
theorem dX13_crosses_62 : decode cX13_crosses 62 = .ok (.aload_n 1, 1) := dk_43 (dk_at dksX13_crosses_2 18 rfl rfl)
theorem dX13_crosses_63 : decode cX13_crosses 63 = .ok (.bipush 12, 2) := dk_16 12 (dk_at dksX13_crosses_2 19 rfl rfl)
theorem dX13_crosses_65 : decode cX13_crosses 65 = .ok (.iload_n 2, 1) := dk_28 (dk_at dksX13_crosses_2 21 rfl rfl)
theorem dX13_crosses_66 : decode cX13_crosses 66 = .ok (.iadd, 1) := dk_96 (dk_at dksX13_crosses_2 22 rfl rfl)
theorem dX13_crosses_67 : decode cX13_crosses 67 = .ok (.dup2, 1) := dk_92 (dk_at dksX13_crosses_2 23 rfl rfl)
theorem dX13_crosses_68 : decode cX13_crosses 68 = .ok (.iaload, 1) := dk_46 (dk_at dksX13_crosses_3 0 rfl rfl)
theorem dX13_crosses_69 : decode cX13_crosses 69 = .ok (.iload 4, 2) := dk_21 4 (dk_at dksX13_crosses_3 1 rfl rfl)
theorem dX13_crosses_71 : decode cX13_crosses 71 = .ok (.iadd, 1) := dk_96 (dk_at dksX13_crosses_3 3 rfl rfl)
theorem dX13_crosses_72 : decode cX13_crosses 72 = .ok (.iastore, 1) := dk_79 (dk_at dksX13_crosses_3 4 rfl rfl)
theorem dX13_crosses_73 : decode cX13_crosses 73 = .ok (.iload 4, 2) := dk_21 4 (dk_at dksX13_crosses_3 5 rfl rfl)
theorem dX13_crosses_75 : decode cX13_crosses 75 = .ok (.ireturn, 1) := dk_172 (dk_at dksX13_crosses_3 7 rfl rfl)
abbrev cX13_judge : ByteArray := prog_27_method_104_code
def yX13_judge : MethodName := ⟨RX13, "judge", "()I"⟩
def dkwX13_judge_2 : List UInt8 := [132, 1, 1, 167, 255, 228, 42, 16, 254, 182, 0, 49, 172]
abbrev dktX13_judge_2 : List UInt8 := dkwX13_judge_2 ++ []
def dkwX13_judge_1 : List UInt8 := [180, 1, 111, 180, 1, 67, 162, 0, 23, 42, 27, 182, 1, 238, 154, 0, 9, 42, 27, 182, 0, 49, 172]
abbrev dktX13_judge_1 : List UInt8 := dkwX13_judge_1 ++ dktX13_judge_2
def dkwX13_judge_0 : List UInt8 := [42, 3, 181, 0, 39, 42, 180, 1, 111, 199, 0, 9, 42, 4, 182, 0, 45, 172, 3, 60, 27, 42]
abbrev dktX13_judge_0 : List UInt8 := dkwX13_judge_0 ++ dktX13_judge_1
theorem dksX13_judge_0 : cX13_judge.data.toList.drop 0 = dktX13_judge_0 := by decide +kernel
theorem dksX13_judge_1 : cX13_judge.data.toList.drop 22 = dktX13_judge_1 := dk_seg dksX13_judge_0 22 rfl rfl
theorem dksX13_judge_2 : cX13_judge.data.toList.drop 45 = dktX13_judge_2 := dk_seg dksX13_judge_1 23 rfl rfl
theorem dX13_judge_0 : decode cX13_judge 0 = .ok (.aload_n 0, 1) := dk_42 (dk_at dksX13_judge_0 0 rfl rfl)
theorem dX13_judge_1 : decode cX13_judge 1 = .ok (.iconst 0, 1) := dk_3 (dk_at dksX13_judge_0 1 rfl rfl)
theorem dX13_judge_2 : decode cX13_judge 2 = .ok (.putfield 39, 3) := dk_181 0 39 (dk_at dksX13_judge_0 2 rfl rfl)
theorem dX13_judge_5 : decode cX13_judge 5 = .ok (.aload_n 0, 1) := dk_42 (dk_at dksX13_judge_0 5 rfl rfl)
theorem dX13_judge_6 : decode cX13_judge 6 = .ok (.getfield 367, 3) := dk_180 1 111 (dk_at dksX13_judge_0 6 rfl rfl)
theorem dX13_judge_9 : decode cX13_judge 9 = .ok (.ifnonnull 9, 3) := dk_199 0 9 (dk_at dksX13_judge_0 9 rfl rfl)
theorem dX13_judge_12 : decode cX13_judge 12 = .ok (.aload_n 0, 1) := dk_42 (dk_at dksX13_judge_0 12 rfl rfl)
theorem dX13_judge_13 : decode cX13_judge 13 = .ok (.iconst 1, 1) := dk_4 (dk_at dksX13_judge_0 13 rfl rfl)
theorem dX13_judge_14 : decode cX13_judge 14 = .ok (.invokevirtual 45, 3) := dk_182 0 45 (dk_at dksX13_judge_0 14 rfl rfl)
theorem dX13_judge_17 : decode cX13_judge 17 = .ok (.ireturn, 1) := dk_172 (dk_at dksX13_judge_0 17 rfl rfl)
theorem dX13_judge_18 : decode cX13_judge 18 = .ok (.iconst 0, 1) := dk_3 (dk_at dksX13_judge_0 18 rfl rfl)
theorem dX13_judge_19 : decode cX13_judge 19 = .ok (.istore_n 1, 1) := dk_60 (dk_at dksX13_judge_0 19 rfl rfl)
theorem dX13_judge_20 : decode cX13_judge 20 = .ok (.iload_n 1, 1) := dk_27 (dk_at dksX13_judge_0 20 rfl rfl)
theorem dX13_judge_21 : decode cX13_judge 21 = .ok (.aload_n 0, 1) := dk_42 (dk_at dksX13_judge_0 21 rfl rfl)
theorem dX13_judge_22 : decode cX13_judge 22 = .ok (.getfield 367, 3) := dk_180 1 111 (dk_at dksX13_judge_1 0 rfl rfl)
theorem dX13_judge_25 : decode cX13_judge 25 = .ok (.getfield 323, 3) := dk_180 1 67 (dk_at dksX13_judge_1 3 rfl rfl)
theorem dX13_judge_28 : decode cX13_judge 28 = .ok (.if_icmp .ge 23, 3) := dk_162 0 23 (dk_at dksX13_judge_1 6 rfl rfl)
theorem dX13_judge_31 : decode cX13_judge 31 = .ok (.aload_n 0, 1) := dk_42 (dk_at dksX13_judge_1 9 rfl rfl)
theorem dX13_judge_32 : decode cX13_judge 32 = .ok (.iload_n 1, 1) := dk_27 (dk_at dksX13_judge_1 10 rfl rfl)
theorem dX13_judge_33 : decode cX13_judge 33 = .ok (.invokevirtual 494, 3) := dk_182 1 238 (dk_at dksX13_judge_1 11 rfl rfl)
theorem dX13_judge_36 : decode cX13_judge 36 = .ok (.ifCond .ne 9, 3) := dk_154 0 9 (dk_at dksX13_judge_1 14 rfl rfl)
theorem dX13_judge_39 : decode cX13_judge 39 = .ok (.aload_n 0, 1) := dk_42 (dk_at dksX13_judge_1 17 rfl rfl)
theorem dX13_judge_40 : decode cX13_judge 40 = .ok (.iload_n 1, 1) := dk_27 (dk_at dksX13_judge_1 18 rfl rfl)
theorem dX13_judge_41 : decode cX13_judge 41 = .ok (.invokevirtual 49, 3) := dk_182 0 49 (dk_at dksX13_judge_1 19 rfl rfl)
theorem dX13_judge_44 : decode cX13_judge 44 = .ok (.ireturn, 1) := dk_172 (dk_at dksX13_judge_1 22 rfl rfl)
theorem dX13_judge_45 : decode cX13_judge 45 = .ok (.iinc 1 1, 3) := dk_132 1 1 (dk_at dksX13_judge_2 0 rfl rfl)
theorem dX13_judge_48 : decode cX13_judge 48 = .ok (.goto (-28), 3) := dk_167 255 228 (dk_at dksX13_judge_2 3 rfl rfl)
theorem dX13_judge_51 : decode cX13_judge 51 = .ok (.aload_n 0, 1) := dk_42 (dk_at dksX13_judge_2 6 rfl rfl)
theorem dX13_judge_52 : decode cX13_judge 52 = .ok (.bipush (-2), 2) := dk_16 254 (dk_at dksX13_judge_2 7 rfl rfl)
theorem dX13_judge_54 : decode cX13_judge 54 = .ok (.invokevirtual 49, 3) := dk_182 0 49 (dk_at dksX13_judge_2 9 rfl rfl)
theorem dX13_judge_57 : decode cX13_judge 57 = .ok (.ireturn, 1) := dk_172 (dk_at dksX13_judge_2 12 rfl rfl)
abbrev cX13_planOver : ByteArray := prog_27_method_105_code
def yX13_planOver : MethodName := ⟨RX13, "planOver", "(Z)I"⟩
def dkwX13_planOver_3 : List UInt8 := [167, 255, 212, 42, 28, 182, 0, 49, 172]
abbrev dktX13_planOver_3 : List UInt8 := dkwX13_planOver_3 ++ []
def dkwX13_planOver_2 : List UInt8 := [27, 153, 0, 7, 6, 167, 0, 4, 5, 160, 0, 9, 4, 29, 120, 167, 0, 4, 3, 128, 61, 132, 3, 1]
abbrev dktX13_planOver_2 : List UInt8 := dkwX13_planOver_2 ++ dktX13_planOver_3
def dkwX13_planOver_1 : List UInt8 := [3, 61, 3, 62, 29, 42, 180, 1, 111, 180, 1, 31, 162, 0, 39, 28, 42, 180, 0, 21, 3, 29, 96, 46]
abbrev dktX13_planOver_1 : List UInt8 := dkwX13_planOver_1 ++ dktX13_planOver_2
def dkwX13_planOver_0 : List UInt8 := [42, 3, 181, 0, 39, 42, 180, 1, 111, 199, 0, 9, 42, 4, 182, 0, 45, 172, 42, 3, 182, 1, 246, 87]
abbrev dktX13_planOver_0 : List UInt8 := dkwX13_planOver_0 ++ dktX13_planOver_1
theorem dksX13_planOver_0 : cX13_planOver.data.toList.drop 0 = dktX13_planOver_0 := by decide +kernel
theorem dksX13_planOver_1 : cX13_planOver.data.toList.drop 24 = dktX13_planOver_1 := dk_seg dksX13_planOver_0 24 rfl rfl
theorem dksX13_planOver_2 : cX13_planOver.data.toList.drop 48 = dktX13_planOver_2 := dk_seg dksX13_planOver_1 24 rfl rfl
theorem dksX13_planOver_3 : cX13_planOver.data.toList.drop 72 = dktX13_planOver_3 := dk_seg dksX13_planOver_2 24 rfl rfl
theorem dX13_planOver_0 : decode cX13_planOver 0 = .ok (.aload_n 0, 1) := dk_42 (dk_at dksX13_planOver_0 0 rfl rfl)
theorem dX13_planOver_1 : decode cX13_planOver 1 = .ok (.iconst 0, 1) := dk_3 (dk_at dksX13_planOver_0 1 rfl rfl)
theorem dX13_planOver_2 : decode cX13_planOver 2 = .ok (.putfield 39, 3) := dk_181 0 39 (dk_at dksX13_planOver_0 2 rfl rfl)
theorem dX13_planOver_5 : decode cX13_planOver 5 = .ok (.aload_n 0, 1) := dk_42 (dk_at dksX13_planOver_0 5 rfl rfl)
theorem dX13_planOver_6 : decode cX13_planOver 6 = .ok (.getfield 367, 3) := dk_180 1 111 (dk_at dksX13_planOver_0 6 rfl rfl)
theorem dX13_planOver_9 : decode cX13_planOver 9 = .ok (.ifnonnull 9, 3) := dk_199 0 9 (dk_at dksX13_planOver_0 9 rfl rfl)
theorem dX13_planOver_12 : decode cX13_planOver 12 = .ok (.aload_n 0, 1) := dk_42 (dk_at dksX13_planOver_0 12 rfl rfl)
theorem dX13_planOver_13 : decode cX13_planOver 13 = .ok (.iconst 1, 1) := dk_4 (dk_at dksX13_planOver_0 13 rfl rfl)
theorem dX13_planOver_14 : decode cX13_planOver 14 = .ok (.invokevirtual 45, 3) := dk_182 0 45 (dk_at dksX13_planOver_0 14 rfl rfl)
theorem dX13_planOver_17 : decode cX13_planOver 17 = .ok (.ireturn, 1) := dk_172 (dk_at dksX13_planOver_0 17 rfl rfl)
theorem dX13_planOver_18 : decode cX13_planOver 18 = .ok (.aload_n 0, 1) := dk_42 (dk_at dksX13_planOver_0 18 rfl rfl)
theorem dX13_planOver_19 : decode cX13_planOver 19 = .ok (.iconst 0, 1) := dk_3 (dk_at dksX13_planOver_0 19 rfl rfl)
theorem dX13_planOver_20 : decode cX13_planOver 20 = .ok (.invokevirtual 502, 3) := dk_182 1 246 (dk_at dksX13_planOver_0 20 rfl rfl)
theorem dX13_planOver_23 : decode cX13_planOver 23 = .ok (.pop, 1) := dk_87 (dk_at dksX13_planOver_0 23 rfl rfl)
theorem dX13_planOver_24 : decode cX13_planOver 24 = .ok (.iconst 0, 1) := dk_3 (dk_at dksX13_planOver_1 0 rfl rfl)
theorem dX13_planOver_25 : decode cX13_planOver 25 = .ok (.istore_n 2, 1) := dk_61 (dk_at dksX13_planOver_1 1 rfl rfl)
theorem dX13_planOver_26 : decode cX13_planOver 26 = .ok (.iconst 0, 1) := dk_3 (dk_at dksX13_planOver_1 2 rfl rfl)
theorem dX13_planOver_27 : decode cX13_planOver 27 = .ok (.istore_n 3, 1) := dk_62 (dk_at dksX13_planOver_1 3 rfl rfl)
theorem dX13_planOver_28 : decode cX13_planOver 28 = .ok (.iload_n 3, 1) := dk_29 (dk_at dksX13_planOver_1 4 rfl rfl)
theorem dX13_planOver_29 : decode cX13_planOver 29 = .ok (.aload_n 0, 1) := dk_42 (dk_at dksX13_planOver_1 5 rfl rfl)
theorem dX13_planOver_30 : decode cX13_planOver 30 = .ok (.getfield 367, 3) := dk_180 1 111 (dk_at dksX13_planOver_1 6 rfl rfl)
theorem dX13_planOver_33 : decode cX13_planOver 33 = .ok (.getfield 287, 3) := dk_180 1 31 (dk_at dksX13_planOver_1 9 rfl rfl)
theorem dX13_planOver_36 : decode cX13_planOver 36 = .ok (.if_icmp .ge 39, 3) := dk_162 0 39 (dk_at dksX13_planOver_1 12 rfl rfl)
theorem dX13_planOver_39 : decode cX13_planOver 39 = .ok (.iload_n 2, 1) := dk_28 (dk_at dksX13_planOver_1 15 rfl rfl)
theorem dX13_planOver_40 : decode cX13_planOver 40 = .ok (.aload_n 0, 1) := dk_42 (dk_at dksX13_planOver_1 16 rfl rfl)
theorem dX13_planOver_41 : decode cX13_planOver 41 = .ok (.getfield 21, 3) := dk_180 0 21 (dk_at dksX13_planOver_1 17 rfl rfl)
theorem dX13_planOver_44 : decode cX13_planOver 44 = .ok (.iconst 0, 1) := dk_3 (dk_at dksX13_planOver_1 20 rfl rfl)
theorem dX13_planOver_45 : decode cX13_planOver 45 = .ok (.iload_n 3, 1) := dk_29 (dk_at dksX13_planOver_1 21 rfl rfl)
theorem dX13_planOver_46 : decode cX13_planOver 46 = .ok (.iadd, 1) := dk_96 (dk_at dksX13_planOver_1 22 rfl rfl)
theorem dX13_planOver_47 : decode cX13_planOver 47 = .ok (.iaload, 1) := dk_46 (dk_at dksX13_planOver_1 23 rfl rfl)
theorem dX13_planOver_48 : decode cX13_planOver 48 = .ok (.iload_n 1, 1) := dk_27 (dk_at dksX13_planOver_2 0 rfl rfl)
theorem dX13_planOver_49 : decode cX13_planOver 49 = .ok (.ifCond .eq 7, 3) := dk_153 0 7 (dk_at dksX13_planOver_2 1 rfl rfl)
theorem dX13_planOver_52 : decode cX13_planOver 52 = .ok (.iconst 3, 1) := dk_6 (dk_at dksX13_planOver_2 4 rfl rfl)
theorem dX13_planOver_53 : decode cX13_planOver 53 = .ok (.goto 4, 3) := dk_167 0 4 (dk_at dksX13_planOver_2 5 rfl rfl)
theorem dX13_planOver_56 : decode cX13_planOver 56 = .ok (.iconst 2, 1) := dk_5 (dk_at dksX13_planOver_2 8 rfl rfl)
theorem dX13_planOver_57 : decode cX13_planOver 57 = .ok (.if_icmp .ne 9, 3) := dk_160 0 9 (dk_at dksX13_planOver_2 9 rfl rfl)
theorem dX13_planOver_60 : decode cX13_planOver 60 = .ok (.iconst 1, 1) := dk_4 (dk_at dksX13_planOver_2 12 rfl rfl)
theorem dX13_planOver_61 : decode cX13_planOver 61 = .ok (.iload_n 3, 1) := dk_29 (dk_at dksX13_planOver_2 13 rfl rfl)
theorem dX13_planOver_62 : decode cX13_planOver 62 = .ok (.ishl, 1) := dk_120 (dk_at dksX13_planOver_2 14 rfl rfl)
theorem dX13_planOver_63 : decode cX13_planOver 63 = .ok (.goto 4, 3) := dk_167 0 4 (dk_at dksX13_planOver_2 15 rfl rfl)
theorem dX13_planOver_66 : decode cX13_planOver 66 = .ok (.iconst 0, 1) := dk_3 (dk_at dksX13_planOver_2 18 rfl rfl)
theorem dX13_planOver_67 : decode cX13_planOver 67 = .ok (.ior, 1) := dk_128 (dk_at dksX13_planOver_2 19 rfl rfl)
theorem dX13_planOver_68 : decode cX13_planOver 68 = .ok (.istore_n 2, 1) := dk_61 (dk_at dksX13_planOver_2 20 rfl rfl)
theorem dX13_planOver_69 : decode cX13_planOver 69 = .ok (.iinc 3 1, 3) := dk_132 3 1 (dk_at dksX13_planOver_2 21 rfl rfl)
theorem dX13_planOver_72 : decode cX13_planOver 72 = .ok (.goto (-44), 3) := dk_167 255 212 (dk_at dksX13_planOver_3 0 rfl rfl)
theorem dX13_planOver_75 : decode cX13_planOver 75 = .ok (.aload_n 0, 1) := dk_42 (dk_at dksX13_planOver_3 3 rfl rfl)
theorem dX13_planOver_76 : decode cX13_planOver 76 = .ok (.iload_n 2, 1) := dk_28 (dk_at dksX13_planOver_3 4 rfl rfl)
theorem dX13_planOver_77 : decode cX13_planOver 77 = .ok (.invokevirtual 49, 3) := dk_182 0 49 (dk_at dksX13_planOver_3 5 rfl rfl)
theorem dX13_planOver_80 : decode cX13_planOver 80 = .ok (.ireturn, 1) := dk_172 (dk_at dksX13_planOver_3 8 rfl rfl)
abbrev cX13_fits : ByteArray := prog_27_method_109_code
def yX13_fits : MethodName := ⟨RX13, "fits", "()I"⟩
def dkwX13_fits_2 : List UInt8 := [182, 0, 49, 172]
abbrev dktX13_fits_2 : List UInt8 := dkwX13_fits_2 ++ []
def dkwX13_fits_1 : List UInt8 := [180, 1, 95, 154, 0, 10, 42, 16, 6, 182, 0, 45, 172, 42, 182, 2, 3, 42, 42, 180, 1, 253]
abbrev dktX13_fits_1 : List UInt8 := dkwX13_fits_1 ++ dktX13_fits_2
def dkwX13_fits_0 : List UInt8 := [42, 3, 181, 0, 39, 42, 180, 1, 111, 199, 0, 9, 42, 4, 182, 0, 45, 172, 42, 180, 1, 111]
abbrev dktX13_fits_0 : List UInt8 := dkwX13_fits_0 ++ dktX13_fits_1
theorem dksX13_fits_0 : cX13_fits.data.toList.drop 0 = dktX13_fits_0 := by decide +kernel
theorem dksX13_fits_1 : cX13_fits.data.toList.drop 22 = dktX13_fits_1 := dk_seg dksX13_fits_0 22 rfl rfl
theorem dksX13_fits_2 : cX13_fits.data.toList.drop 44 = dktX13_fits_2 := dk_seg dksX13_fits_1 22 rfl rfl
theorem dX13_fits_0 : decode cX13_fits 0 = .ok (.aload_n 0, 1) := dk_42 (dk_at dksX13_fits_0 0 rfl rfl)
theorem dX13_fits_1 : decode cX13_fits 1 = .ok (.iconst 0, 1) := dk_3 (dk_at dksX13_fits_0 1 rfl rfl)
theorem dX13_fits_2 : decode cX13_fits 2 = .ok (.putfield 39, 3) := dk_181 0 39 (dk_at dksX13_fits_0 2 rfl rfl)
theorem dX13_fits_5 : decode cX13_fits 5 = .ok (.aload_n 0, 1) := dk_42 (dk_at dksX13_fits_0 5 rfl rfl)
theorem dX13_fits_6 : decode cX13_fits 6 = .ok (.getfield 367, 3) := dk_180 1 111 (dk_at dksX13_fits_0 6 rfl rfl)
theorem dX13_fits_9 : decode cX13_fits 9 = .ok (.ifnonnull 9, 3) := dk_199 0 9 (dk_at dksX13_fits_0 9 rfl rfl)
theorem dX13_fits_12 : decode cX13_fits 12 = .ok (.aload_n 0, 1) := dk_42 (dk_at dksX13_fits_0 12 rfl rfl)
theorem dX13_fits_13 : decode cX13_fits 13 = .ok (.iconst 1, 1) := dk_4 (dk_at dksX13_fits_0 13 rfl rfl)
theorem dX13_fits_14 : decode cX13_fits 14 = .ok (.invokevirtual 45, 3) := dk_182 0 45 (dk_at dksX13_fits_0 14 rfl rfl)
theorem dX13_fits_17 : decode cX13_fits 17 = .ok (.ireturn, 1) := dk_172 (dk_at dksX13_fits_0 17 rfl rfl)
theorem dX13_fits_18 : decode cX13_fits 18 = .ok (.aload_n 0, 1) := dk_42 (dk_at dksX13_fits_0 18 rfl rfl)
theorem dX13_fits_19 : decode cX13_fits 19 = .ok (.getfield 367, 3) := dk_180 1 111 (dk_at dksX13_fits_0 19 rfl rfl)
theorem dX13_fits_22 : decode cX13_fits 22 = .ok (.getfield 351, 3) := dk_180 1 95 (dk_at dksX13_fits_1 0 rfl rfl)
theorem dX13_fits_25 : decode cX13_fits 25 = .ok (.ifCond .ne 10, 3) := dk_154 0 10 (dk_at dksX13_fits_1 3 rfl rfl)
theorem dX13_fits_28 : decode cX13_fits 28 = .ok (.aload_n 0, 1) := dk_42 (dk_at dksX13_fits_1 6 rfl rfl)
theorem dX13_fits_29 : decode cX13_fits 29 = .ok (.bipush 6, 2) := dk_16 6 (dk_at dksX13_fits_1 7 rfl rfl)
theorem dX13_fits_31 : decode cX13_fits 31 = .ok (.invokevirtual 45, 3) := dk_182 0 45 (dk_at dksX13_fits_1 9 rfl rfl)
theorem dX13_fits_34 : decode cX13_fits 34 = .ok (.ireturn, 1) := dk_172 (dk_at dksX13_fits_1 12 rfl rfl)
theorem dX13_fits_35 : decode cX13_fits 35 = .ok (.aload_n 0, 1) := dk_42 (dk_at dksX13_fits_1 13 rfl rfl)
theorem dX13_fits_36 : decode cX13_fits 36 = .ok (.invokevirtual 515, 3) := dk_182 2 3 (dk_at dksX13_fits_1 14 rfl rfl)
theorem dX13_fits_39 : decode cX13_fits 39 = .ok (.aload_n 0, 1) := dk_42 (dk_at dksX13_fits_1 17 rfl rfl)
theorem dX13_fits_40 : decode cX13_fits 40 = .ok (.aload_n 0, 1) := dk_42 (dk_at dksX13_fits_1 18 rfl rfl)
theorem dX13_fits_41 : decode cX13_fits 41 = .ok (.getfield 509, 3) := dk_180 1 253 (dk_at dksX13_fits_1 19 rfl rfl)
theorem dX13_fits_44 : decode cX13_fits 44 = .ok (.invokevirtual 49, 3) := dk_182 0 49 (dk_at dksX13_fits_2 0 rfl rfl)
theorem dX13_fits_47 : decode cX13_fits 47 = .ok (.ireturn, 1) := dk_172 (dk_at dksX13_fits_2 3 rfl rfl)
abbrev cX13_fitting : ByteArray := prog_27_method_108_code
def yX13_fitting : MethodName := ⟨RX13, "fitting", "()V"⟩
def dkwX13_fitting_7 : List UInt8 := [46, 4, 42, 180, 0, 33, 28, 46, 120, 128, 79, 132, 2, 1, 167, 255, 225, 167, 255, 111, 177]
abbrev dktX13_fitting_7 : List UInt8 := dkwX13_fitting_7 ++ []
def dkwX13_fitting_6 : List UInt8 := [4, 96, 181, 1, 253, 3, 61, 28, 42, 180, 1, 111, 180, 1, 95, 162, 0, 26, 42, 180, 0, 36, 28, 92]
abbrev dktX13_fitting_6 : List UInt8 := dkwX13_fitting_6 ++ dktX13_fitting_7
def dkwX13_fitting_5 : List UInt8 := [180, 1, 95, 162, 0, 16, 132, 1, 1, 42, 180, 0, 33, 27, 2, 79, 167, 255, 160, 42, 89, 180, 1, 253]
abbrev dktX13_fitting_5 : List UInt8 := dkwX13_fitting_5 ++ dktX13_fitting_6
def dkwX13_fitting_4 : List UInt8 := [180, 1, 111, 180, 0, 191, 161, 0, 9, 132, 1, 255, 167, 255, 186, 27, 4, 96, 42, 180, 1, 111]
abbrev dktX13_fitting_4 : List UInt8 := dkwX13_fitting_4 ++ dktX13_fitting_5
def dkwX13_fitting_3 : List UInt8 := [154, 0, 16, 42, 180, 0, 33, 27, 92, 46, 4, 96, 79, 167, 255, 222, 42, 180, 0, 33, 27, 46, 42]
abbrev dktX13_fitting_3 : List UInt8 := dkwX13_fitting_3 ++ dktX13_fitting_4
def dkwX13_fitting_2 : List UInt8 := [96, 79, 42, 180, 0, 33, 27, 46, 42, 180, 1, 111, 180, 0, 191, 162, 0, 24, 42, 27, 182, 2, 0]
abbrev dktX13_fitting_2 : List UInt8 := dkwX13_fitting_2 ++ dktX13_fitting_3
def dkwX13_fitting_1 : List UInt8 := [167, 255, 241, 3, 60, 42, 180, 0, 33, 3, 2, 79, 27, 155, 0, 147, 42, 180, 0, 33, 27, 92, 46, 4]
abbrev dktX13_fitting_1 : List UInt8 := dkwX13_fitting_1 ++ dktX13_fitting_2
def dkwX13_fitting_0 : List UInt8 := [42, 3, 181, 1, 253, 3, 60, 27, 8, 162, 0, 16, 42, 180, 0, 36, 27, 3, 79, 132, 1, 1]
abbrev dktX13_fitting_0 : List UInt8 := dkwX13_fitting_0 ++ dktX13_fitting_1
theorem dksX13_fitting_0 : cX13_fitting.data.toList.drop 0 = dktX13_fitting_0 := by decide +kernel
theorem dksX13_fitting_1 : cX13_fitting.data.toList.drop 22 = dktX13_fitting_1 := dk_seg dksX13_fitting_0 22 rfl rfl
theorem dksX13_fitting_2 : cX13_fitting.data.toList.drop 46 = dktX13_fitting_2 := dk_seg dksX13_fitting_1 24 rfl rfl
theorem dksX13_fitting_3 : cX13_fitting.data.toList.drop 69 = dktX13_fitting_3 := dk_seg dksX13_fitting_2 23 rfl rfl
theorem dksX13_fitting_4 : cX13_fitting.data.toList.drop 92 = dktX13_fitting_4 := dk_seg dksX13_fitting_3 23 rfl rfl
theorem dksX13_fitting_5 : cX13_fitting.data.toList.drop 114 = dktX13_fitting_5 := dk_seg dksX13_fitting_4 22 rfl rfl
theorem dksX13_fitting_6 : cX13_fitting.data.toList.drop 138 = dktX13_fitting_6 := dk_seg dksX13_fitting_5 24 rfl rfl
theorem dksX13_fitting_7 : cX13_fitting.data.toList.drop 162 = dktX13_fitting_7 := dk_seg dksX13_fitting_6 24 rfl rfl
theorem dX13_fitting_0 : decode cX13_fitting 0 = .ok (.aload_n 0, 1) := dk_42 (dk_at dksX13_fitting_0 0 rfl rfl)
theorem dX13_fitting_1 : decode cX13_fitting 1 = .ok (.iconst 0, 1) := dk_3 (dk_at dksX13_fitting_0 1 rfl rfl)
theorem dX13_fitting_2 : decode cX13_fitting 2 = .ok (.putfield 509, 3) := dk_181 1 253 (dk_at dksX13_fitting_0 2 rfl rfl)
theorem dX13_fitting_5 : decode cX13_fitting 5 = .ok (.iconst 0, 1) := dk_3 (dk_at dksX13_fitting_0 5 rfl rfl)
theorem dX13_fitting_6 : decode cX13_fitting 6 = .ok (.istore_n 1, 1) := dk_60 (dk_at dksX13_fitting_0 6 rfl rfl)
theorem dX13_fitting_7 : decode cX13_fitting 7 = .ok (.iload_n 1, 1) := dk_27 (dk_at dksX13_fitting_0 7 rfl rfl)
theorem dX13_fitting_8 : decode cX13_fitting 8 = .ok (.iconst 5, 1) := dk_8 (dk_at dksX13_fitting_0 8 rfl rfl)
theorem dX13_fitting_9 : decode cX13_fitting 9 = .ok (.if_icmp .ge 16, 3) := dk_162 0 16 (dk_at dksX13_fitting_0 9 rfl rfl)
theorem dX13_fitting_12 : decode cX13_fitting 12 = .ok (.aload_n 0, 1) := dk_42 (dk_at dksX13_fitting_0 12 rfl rfl)
theorem dX13_fitting_13 : decode cX13_fitting 13 = .ok (.getfield 36, 3) := dk_180 0 36 (dk_at dksX13_fitting_0 13 rfl rfl)
theorem dX13_fitting_16 : decode cX13_fitting 16 = .ok (.iload_n 1, 1) := dk_27 (dk_at dksX13_fitting_0 16 rfl rfl)
theorem dX13_fitting_17 : decode cX13_fitting 17 = .ok (.iconst 0, 1) := dk_3 (dk_at dksX13_fitting_0 17 rfl rfl)
theorem dX13_fitting_18 : decode cX13_fitting 18 = .ok (.iastore, 1) := dk_79 (dk_at dksX13_fitting_0 18 rfl rfl)
theorem dX13_fitting_19 : decode cX13_fitting 19 = .ok (.iinc 1 1, 3) := dk_132 1 1 (dk_at dksX13_fitting_0 19 rfl rfl)
theorem dX13_fitting_22 : decode cX13_fitting 22 = .ok (.goto (-15), 3) := dk_167 255 241 (dk_at dksX13_fitting_1 0 rfl rfl)
theorem dX13_fitting_25 : decode cX13_fitting 25 = .ok (.iconst 0, 1) := dk_3 (dk_at dksX13_fitting_1 3 rfl rfl)
theorem dX13_fitting_26 : decode cX13_fitting 26 = .ok (.istore_n 1, 1) := dk_60 (dk_at dksX13_fitting_1 4 rfl rfl)
theorem dX13_fitting_27 : decode cX13_fitting 27 = .ok (.aload_n 0, 1) := dk_42 (dk_at dksX13_fitting_1 5 rfl rfl)
theorem dX13_fitting_28 : decode cX13_fitting 28 = .ok (.getfield 33, 3) := dk_180 0 33 (dk_at dksX13_fitting_1 6 rfl rfl)
theorem dX13_fitting_31 : decode cX13_fitting 31 = .ok (.iconst 0, 1) := dk_3 (dk_at dksX13_fitting_1 9 rfl rfl)
theorem dX13_fitting_32 : decode cX13_fitting 32 = .ok (.iconst (-1), 1) := dk_2 (dk_at dksX13_fitting_1 10 rfl rfl)
theorem dX13_fitting_33 : decode cX13_fitting 33 = .ok (.iastore, 1) := dk_79 (dk_at dksX13_fitting_1 11 rfl rfl)
theorem dX13_fitting_34 : decode cX13_fitting 34 = .ok (.iload_n 1, 1) := dk_27 (dk_at dksX13_fitting_1 12 rfl rfl)
theorem dX13_fitting_35 : decode cX13_fitting 35 = .ok (.ifCond .lt 147, 3) := dk_155 0 147 (dk_at dksX13_fitting_1 13 rfl rfl)
theorem dX13_fitting_38 : decode cX13_fitting 38 = .ok (.aload_n 0, 1) := dk_42 (dk_at dksX13_fitting_1 16 rfl rfl)
theorem dX13_fitting_39 : decode cX13_fitting 39 = .ok (.getfield 33, 3) := dk_180 0 33 (dk_at dksX13_fitting_1 17 rfl rfl)
theorem dX13_fitting_42 : decode cX13_fitting 42 = .ok (.iload_n 1, 1) := dk_27 (dk_at dksX13_fitting_1 20 rfl rfl)
theorem dX13_fitting_43 : decode cX13_fitting 43 = .ok (.dup2, 1) := dk_92 (dk_at dksX13_fitting_1 21 rfl rfl)
theorem dX13_fitting_44 : decode cX13_fitting 44 = .ok (.iaload, 1) := dk_46 (dk_at dksX13_fitting_1 22 rfl rfl)
theorem dX13_fitting_45 : decode cX13_fitting 45 = .ok (.iconst 1, 1) := dk_4 (dk_at dksX13_fitting_1 23 rfl rfl)
theorem dX13_fitting_46 : decode cX13_fitting 46 = .ok (.iadd, 1) := dk_96 (dk_at dksX13_fitting_2 0 rfl rfl)
theorem dX13_fitting_47 : decode cX13_fitting 47 = .ok (.iastore, 1) := dk_79 (dk_at dksX13_fitting_2 1 rfl rfl)
theorem dX13_fitting_48 : decode cX13_fitting 48 = .ok (.aload_n 0, 1) := dk_42 (dk_at dksX13_fitting_2 2 rfl rfl)
theorem dX13_fitting_49 : decode cX13_fitting 49 = .ok (.getfield 33, 3) := dk_180 0 33 (dk_at dksX13_fitting_2 3 rfl rfl)
theorem dX13_fitting_52 : decode cX13_fitting 52 = .ok (.iload_n 1, 1) := dk_27 (dk_at dksX13_fitting_2 6 rfl rfl)
theorem dX13_fitting_53 : decode cX13_fitting 53 = .ok (.iaload, 1) := dk_46 (dk_at dksX13_fitting_2 7 rfl rfl)
theorem dX13_fitting_54 : decode cX13_fitting 54 = .ok (.aload_n 0, 1) := dk_42 (dk_at dksX13_fitting_2 8 rfl rfl)
theorem dX13_fitting_55 : decode cX13_fitting 55 = .ok (.getfield 367, 3) := dk_180 1 111 (dk_at dksX13_fitting_2 9 rfl rfl)
theorem dX13_fitting_58 : decode cX13_fitting 58 = .ok (.getfield 191, 3) := dk_180 0 191 (dk_at dksX13_fitting_2 12 rfl rfl)
theorem dX13_fitting_61 : decode cX13_fitting 61 = .ok (.if_icmp .ge 24, 3) := dk_162 0 24 (dk_at dksX13_fitting_2 15 rfl rfl)
theorem dX13_fitting_64 : decode cX13_fitting 64 = .ok (.aload_n 0, 1) := dk_42 (dk_at dksX13_fitting_2 18 rfl rfl)
theorem dX13_fitting_65 : decode cX13_fitting 65 = .ok (.iload_n 1, 1) := dk_27 (dk_at dksX13_fitting_2 19 rfl rfl)
theorem dX13_fitting_66 : decode cX13_fitting 66 = .ok (.invokevirtual 512, 3) := dk_182 2 0 (dk_at dksX13_fitting_2 20 rfl rfl)
theorem dX13_fitting_69 : decode cX13_fitting 69 = .ok (.ifCond .ne 16, 3) := dk_154 0 16 (dk_at dksX13_fitting_3 0 rfl rfl)
theorem dX13_fitting_72 : decode cX13_fitting 72 = .ok (.aload_n 0, 1) := dk_42 (dk_at dksX13_fitting_3 3 rfl rfl)
theorem dX13_fitting_73 : decode cX13_fitting 73 = .ok (.getfield 33, 3) := dk_180 0 33 (dk_at dksX13_fitting_3 4 rfl rfl)
theorem dX13_fitting_76 : decode cX13_fitting 76 = .ok (.iload_n 1, 1) := dk_27 (dk_at dksX13_fitting_3 7 rfl rfl)
theorem dX13_fitting_77 : decode cX13_fitting 77 = .ok (.dup2, 1) := dk_92 (dk_at dksX13_fitting_3 8 rfl rfl)
theorem dX13_fitting_78 : decode cX13_fitting 78 = .ok (.iaload, 1) := dk_46 (dk_at dksX13_fitting_3 9 rfl rfl)
theorem dX13_fitting_79 : decode cX13_fitting 79 = .ok (.iconst 1, 1) := dk_4 (dk_at dksX13_fitting_3 10 rfl rfl)
theorem dX13_fitting_80 : decode cX13_fitting 80 = .ok (.iadd, 1) := dk_96 (dk_at dksX13_fitting_3 11 rfl rfl)
theorem dX13_fitting_81 : decode cX13_fitting 81 = .ok (.iastore, 1) := dk_79 (dk_at dksX13_fitting_3 12 rfl rfl)
theorem dX13_fitting_82 : decode cX13_fitting 82 = .ok (.goto (-34), 3) := dk_167 255 222 (dk_at dksX13_fitting_3 13 rfl rfl)
theorem dX13_fitting_85 : decode cX13_fitting 85 = .ok (.aload_n 0, 1) := dk_42 (dk_at dksX13_fitting_3 16 rfl rfl)
theorem dX13_fitting_86 : decode cX13_fitting 86 = .ok (.getfield 33, 3) := dk_180 0 33 (dk_at dksX13_fitting_3 17 rfl rfl)
theorem dX13_fitting_89 : decode cX13_fitting 89 = .ok (.iload_n 1, 1) := dk_27 (dk_at dksX13_fitting_3 20 rfl rfl)
theorem dX13_fitting_90 : decode cX13_fitting 90 = .ok (.iaload, 1) := dk_46 (dk_at dksX13_fitting_3 21 rfl rfl)
theorem dX13_fitting_91 : decode cX13_fitting 91 = .ok (.aload_n 0, 1) := dk_42 (dk_at dksX13_fitting_3 22 rfl rfl)
theorem dX13_fitting_92 : decode cX13_fitting 92 = .ok (.getfield 367, 3) := dk_180 1 111 (dk_at dksX13_fitting_4 0 rfl rfl)
theorem dX13_fitting_95 : decode cX13_fitting 95 = .ok (.getfield 191, 3) := dk_180 0 191 (dk_at dksX13_fitting_4 3 rfl rfl)
theorem dX13_fitting_98 : decode cX13_fitting 98 = .ok (.if_icmp .lt 9, 3) := dk_161 0 9 (dk_at dksX13_fitting_4 6 rfl rfl)
theorem dX13_fitting_101 : decode cX13_fitting 101 = .ok (.iinc 1 (-1), 3) := dk_132 1 255 (dk_at dksX13_fitting_4 9 rfl rfl)
theorem dX13_fitting_104 : decode cX13_fitting 104 = .ok (.goto (-70), 3) := dk_167 255 186 (dk_at dksX13_fitting_4 12 rfl rfl)
theorem dX13_fitting_107 : decode cX13_fitting 107 = .ok (.iload_n 1, 1) := dk_27 (dk_at dksX13_fitting_4 15 rfl rfl)
theorem dX13_fitting_108 : decode cX13_fitting 108 = .ok (.iconst 1, 1) := dk_4 (dk_at dksX13_fitting_4 16 rfl rfl)
theorem dX13_fitting_109 : decode cX13_fitting 109 = .ok (.iadd, 1) := dk_96 (dk_at dksX13_fitting_4 17 rfl rfl)
theorem dX13_fitting_110 : decode cX13_fitting 110 = .ok (.aload_n 0, 1) := dk_42 (dk_at dksX13_fitting_4 18 rfl rfl)
theorem dX13_fitting_111 : decode cX13_fitting 111 = .ok (.getfield 367, 3) := dk_180 1 111 (dk_at dksX13_fitting_4 19 rfl rfl)
theorem dX13_fitting_114 : decode cX13_fitting 114 = .ok (.getfield 351, 3) := dk_180 1 95 (dk_at dksX13_fitting_5 0 rfl rfl)
theorem dX13_fitting_117 : decode cX13_fitting 117 = .ok (.if_icmp .ge 16, 3) := dk_162 0 16 (dk_at dksX13_fitting_5 3 rfl rfl)
theorem dX13_fitting_120 : decode cX13_fitting 120 = .ok (.iinc 1 1, 3) := dk_132 1 1 (dk_at dksX13_fitting_5 6 rfl rfl)
theorem dX13_fitting_123 : decode cX13_fitting 123 = .ok (.aload_n 0, 1) := dk_42 (dk_at dksX13_fitting_5 9 rfl rfl)
theorem dX13_fitting_124 : decode cX13_fitting 124 = .ok (.getfield 33, 3) := dk_180 0 33 (dk_at dksX13_fitting_5 10 rfl rfl)
theorem dX13_fitting_127 : decode cX13_fitting 127 = .ok (.iload_n 1, 1) := dk_27 (dk_at dksX13_fitting_5 13 rfl rfl)
theorem dX13_fitting_128 : decode cX13_fitting 128 = .ok (.iconst (-1), 1) := dk_2 (dk_at dksX13_fitting_5 14 rfl rfl)
theorem dX13_fitting_129 : decode cX13_fitting 129 = .ok (.iastore, 1) := dk_79 (dk_at dksX13_fitting_5 15 rfl rfl)
theorem dX13_fitting_130 : decode cX13_fitting 130 = .ok (.goto (-96), 3) := dk_167 255 160 (dk_at dksX13_fitting_5 16 rfl rfl)
theorem dX13_fitting_133 : decode cX13_fitting 133 = .ok (.aload_n 0, 1) := dk_42 (dk_at dksX13_fitting_5 19 rfl rfl)
theorem dX13_fitting_134 : decode cX13_fitting 134 = .ok (.dup, 1) := dk_89 (dk_at dksX13_fitting_5 20 rfl rfl)
theorem dX13_fitting_135 : decode cX13_fitting 135 = .ok (.getfield 509, 3) := dk_180 1 253 (dk_at dksX13_fitting_5 21 rfl rfl)
theorem dX13_fitting_138 : decode cX13_fitting 138 = .ok (.iconst 1, 1) := dk_4 (dk_at dksX13_fitting_6 0 rfl rfl)
theorem dX13_fitting_139 : decode cX13_fitting 139 = .ok (.iadd, 1) := dk_96 (dk_at dksX13_fitting_6 1 rfl rfl)
theorem dX13_fitting_140 : decode cX13_fitting 140 = .ok (.putfield 509, 3) := dk_181 1 253 (dk_at dksX13_fitting_6 2 rfl rfl)
theorem dX13_fitting_143 : decode cX13_fitting 143 = .ok (.iconst 0, 1) := dk_3 (dk_at dksX13_fitting_6 5 rfl rfl)
theorem dX13_fitting_144 : decode cX13_fitting 144 = .ok (.istore_n 2, 1) := dk_61 (dk_at dksX13_fitting_6 6 rfl rfl)
theorem dX13_fitting_145 : decode cX13_fitting 145 = .ok (.iload_n 2, 1) := dk_28 (dk_at dksX13_fitting_6 7 rfl rfl)
theorem dX13_fitting_146 : decode cX13_fitting 146 = .ok (.aload_n 0, 1) := dk_42 (dk_at dksX13_fitting_6 8 rfl rfl)
theorem dX13_fitting_147 : decode cX13_fitting 147 = .ok (.getfield 367, 3) := dk_180 1 111 (dk_at dksX13_fitting_6 9 rfl rfl)
theorem dX13_fitting_150 : decode cX13_fitting 150 = .ok (.getfield 351, 3) := dk_180 1 95 (dk_at dksX13_fitting_6 12 rfl rfl)
theorem dX13_fitting_153 : decode cX13_fitting 153 = .ok (.if_icmp .ge 26, 3) := dk_162 0 26 (dk_at dksX13_fitting_6 15 rfl rfl)
theorem dX13_fitting_156 : decode cX13_fitting 156 = .ok (.aload_n 0, 1) := dk_42 (dk_at dksX13_fitting_6 18 rfl rfl)
theorem dX13_fitting_157 : decode cX13_fitting 157 = .ok (.getfield 36, 3) := dk_180 0 36 (dk_at dksX13_fitting_6 19 rfl rfl)
theorem dX13_fitting_160 : decode cX13_fitting 160 = .ok (.iload_n 2, 1) := dk_28 (dk_at dksX13_fitting_6 22 rfl rfl)
theorem dX13_fitting_161 : decode cX13_fitting 161 = .ok (.dup2, 1) := dk_92 (dk_at dksX13_fitting_6 23 rfl rfl)
theorem dX13_fitting_162 : decode cX13_fitting 162 = .ok (.iaload, 1) := dk_46 (dk_at dksX13_fitting_7 0 rfl rfl)
theorem dX13_fitting_163 : decode cX13_fitting 163 = .ok (.iconst 1, 1) := dk_4 (dk_at dksX13_fitting_7 1 rfl rfl)
theorem dX13_fitting_164 : decode cX13_fitting 164 = .ok (.aload_n 0, 1) := dk_42 (dk_at dksX13_fitting_7 2 rfl rfl)
theorem dX13_fitting_165 : decode cX13_fitting 165 = .ok (.getfield 33, 3) := dk_180 0 33 (dk_at dksX13_fitting_7 3 rfl rfl)
theorem dX13_fitting_168 : decode cX13_fitting 168 = .ok (.iload_n 2, 1) := dk_28 (dk_at dksX13_fitting_7 6 rfl rfl)
theorem dX13_fitting_169 : decode cX13_fitting 169 = .ok (.iaload, 1) := dk_46 (dk_at dksX13_fitting_7 7 rfl rfl)
theorem dX13_fitting_170 : decode cX13_fitting 170 = .ok (.ishl, 1) := dk_120 (dk_at dksX13_fitting_7 8 rfl rfl)
theorem dX13_fitting_171 : decode cX13_fitting 171 = .ok (.ior, 1) := dk_128 (dk_at dksX13_fitting_7 9 rfl rfl)
theorem dX13_fitting_172 : decode cX13_fitting 172 = .ok (.iastore, 1) := dk_79 (dk_at dksX13_fitting_7 10 rfl rfl)
theorem dX13_fitting_173 : decode cX13_fitting 173 = .ok (.iinc 2 1, 3) := dk_132 2 1 (dk_at dksX13_fitting_7 11 rfl rfl)
theorem dX13_fitting_176 : decode cX13_fitting 176 = .ok (.goto (-31), 3) := dk_167 255 225 (dk_at dksX13_fitting_7 14 rfl rfl)
theorem dX13_fitting_179 : decode cX13_fitting 179 = .ok (.goto (-145), 3) := dk_167 255 111 (dk_at dksX13_fitting_7 17 rfl rfl)
theorem dX13_fitting_182 : decode cX13_fitting 182 = .ok (.return_, 1) := dk_177 (dk_at dksX13_fitting_7 20 rfl rfl)
abbrev cX13_isRow : ByteArray := prog_27_method_107_code
def yX13_isRow : MethodName := ⟨RX13, "isRow", "(I)Z"⟩
def dkwX13_isRow_2 : List UInt8 := [180, 1, 111, 180, 1, 101, 27, 46, 160, 0, 5, 3, 172, 132, 2, 1, 167, 255, 210, 4, 172]
abbrev dktX13_isRow_2 : List UInt8 := dkwX13_isRow_2 ++ []
def dkwX13_isRow_1 : List UInt8 := [180, 0, 33, 28, 46, 42, 180, 0, 33, 27, 46, 160, 0, 26, 42, 180, 1, 111, 180, 1, 101, 28, 46, 42]
abbrev dktX13_isRow_1 : List UInt8 := dkwX13_isRow_1 ++ dktX13_isRow_2
def dkwX13_isRow_0 : List UInt8 := [42, 27, 42, 180, 0, 33, 27, 46, 182, 1, 250, 154, 0, 5, 3, 172, 3, 61, 28, 27, 162, 0, 47, 42]
abbrev dktX13_isRow_0 : List UInt8 := dkwX13_isRow_0 ++ dktX13_isRow_1
theorem dksX13_isRow_0 : cX13_isRow.data.toList.drop 0 = dktX13_isRow_0 := by decide +kernel
theorem dksX13_isRow_1 : cX13_isRow.data.toList.drop 24 = dktX13_isRow_1 := dk_seg dksX13_isRow_0 24 rfl rfl
theorem dksX13_isRow_2 : cX13_isRow.data.toList.drop 48 = dktX13_isRow_2 := dk_seg dksX13_isRow_1 24 rfl rfl
theorem dX13_isRow_0 : decode cX13_isRow 0 = .ok (.aload_n 0, 1) := dk_42 (dk_at dksX13_isRow_0 0 rfl rfl)
theorem dX13_isRow_1 : decode cX13_isRow 1 = .ok (.iload_n 1, 1) := dk_27 (dk_at dksX13_isRow_0 1 rfl rfl)
theorem dX13_isRow_2 : decode cX13_isRow 2 = .ok (.aload_n 0, 1) := dk_42 (dk_at dksX13_isRow_0 2 rfl rfl)
theorem dX13_isRow_3 : decode cX13_isRow 3 = .ok (.getfield 33, 3) := dk_180 0 33 (dk_at dksX13_isRow_0 3 rfl rfl)
theorem dX13_isRow_6 : decode cX13_isRow 6 = .ok (.iload_n 1, 1) := dk_27 (dk_at dksX13_isRow_0 6 rfl rfl)
theorem dX13_isRow_7 : decode cX13_isRow 7 = .ok (.iaload, 1) := dk_46 (dk_at dksX13_isRow_0 7 rfl rfl)
theorem dX13_isRow_8 : decode cX13_isRow 8 = .ok (.invokevirtual 506, 3) := dk_182 1 250 (dk_at dksX13_isRow_0 8 rfl rfl)
theorem dX13_isRow_11 : decode cX13_isRow 11 = .ok (.ifCond .ne 5, 3) := dk_154 0 5 (dk_at dksX13_isRow_0 11 rfl rfl)
theorem dX13_isRow_14 : decode cX13_isRow 14 = .ok (.iconst 0, 1) := dk_3 (dk_at dksX13_isRow_0 14 rfl rfl)
theorem dX13_isRow_15 : decode cX13_isRow 15 = .ok (.ireturn, 1) := dk_172 (dk_at dksX13_isRow_0 15 rfl rfl)
theorem dX13_isRow_16 : decode cX13_isRow 16 = .ok (.iconst 0, 1) := dk_3 (dk_at dksX13_isRow_0 16 rfl rfl)
theorem dX13_isRow_17 : decode cX13_isRow 17 = .ok (.istore_n 2, 1) := dk_61 (dk_at dksX13_isRow_0 17 rfl rfl)
theorem dX13_isRow_18 : decode cX13_isRow 18 = .ok (.iload_n 2, 1) := dk_28 (dk_at dksX13_isRow_0 18 rfl rfl)
theorem dX13_isRow_19 : decode cX13_isRow 19 = .ok (.iload_n 1, 1) := dk_27 (dk_at dksX13_isRow_0 19 rfl rfl)
theorem dX13_isRow_20 : decode cX13_isRow 20 = .ok (.if_icmp .ge 47, 3) := dk_162 0 47 (dk_at dksX13_isRow_0 20 rfl rfl)
theorem dX13_isRow_23 : decode cX13_isRow 23 = .ok (.aload_n 0, 1) := dk_42 (dk_at dksX13_isRow_0 23 rfl rfl)
theorem dX13_isRow_24 : decode cX13_isRow 24 = .ok (.getfield 33, 3) := dk_180 0 33 (dk_at dksX13_isRow_1 0 rfl rfl)
theorem dX13_isRow_27 : decode cX13_isRow 27 = .ok (.iload_n 2, 1) := dk_28 (dk_at dksX13_isRow_1 3 rfl rfl)
theorem dX13_isRow_28 : decode cX13_isRow 28 = .ok (.iaload, 1) := dk_46 (dk_at dksX13_isRow_1 4 rfl rfl)
theorem dX13_isRow_29 : decode cX13_isRow 29 = .ok (.aload_n 0, 1) := dk_42 (dk_at dksX13_isRow_1 5 rfl rfl)
theorem dX13_isRow_30 : decode cX13_isRow 30 = .ok (.getfield 33, 3) := dk_180 0 33 (dk_at dksX13_isRow_1 6 rfl rfl)
theorem dX13_isRow_33 : decode cX13_isRow 33 = .ok (.iload_n 1, 1) := dk_27 (dk_at dksX13_isRow_1 9 rfl rfl)
theorem dX13_isRow_34 : decode cX13_isRow 34 = .ok (.iaload, 1) := dk_46 (dk_at dksX13_isRow_1 10 rfl rfl)
theorem dX13_isRow_35 : decode cX13_isRow 35 = .ok (.if_icmp .ne 26, 3) := dk_160 0 26 (dk_at dksX13_isRow_1 11 rfl rfl)
theorem dX13_isRow_38 : decode cX13_isRow 38 = .ok (.aload_n 0, 1) := dk_42 (dk_at dksX13_isRow_1 14 rfl rfl)
theorem dX13_isRow_39 : decode cX13_isRow 39 = .ok (.getfield 367, 3) := dk_180 1 111 (dk_at dksX13_isRow_1 15 rfl rfl)
theorem dX13_isRow_42 : decode cX13_isRow 42 = .ok (.getfield 357, 3) := dk_180 1 101 (dk_at dksX13_isRow_1 18 rfl rfl)
theorem dX13_isRow_45 : decode cX13_isRow 45 = .ok (.iload_n 2, 1) := dk_28 (dk_at dksX13_isRow_1 21 rfl rfl)
theorem dX13_isRow_46 : decode cX13_isRow 46 = .ok (.iaload, 1) := dk_46 (dk_at dksX13_isRow_1 22 rfl rfl)
theorem dX13_isRow_47 : decode cX13_isRow 47 = .ok (.aload_n 0, 1) := dk_42 (dk_at dksX13_isRow_1 23 rfl rfl)
theorem dX13_isRow_48 : decode cX13_isRow 48 = .ok (.getfield 367, 3) := dk_180 1 111 (dk_at dksX13_isRow_2 0 rfl rfl)
theorem dX13_isRow_51 : decode cX13_isRow 51 = .ok (.getfield 357, 3) := dk_180 1 101 (dk_at dksX13_isRow_2 3 rfl rfl)
theorem dX13_isRow_54 : decode cX13_isRow 54 = .ok (.iload_n 1, 1) := dk_27 (dk_at dksX13_isRow_2 6 rfl rfl)
theorem dX13_isRow_55 : decode cX13_isRow 55 = .ok (.iaload, 1) := dk_46 (dk_at dksX13_isRow_2 7 rfl rfl)
theorem dX13_isRow_56 : decode cX13_isRow 56 = .ok (.if_icmp .ne 5, 3) := dk_160 0 5 (dk_at dksX13_isRow_2 8 rfl rfl)
theorem dX13_isRow_59 : decode cX13_isRow 59 = .ok (.iconst 0, 1) := dk_3 (dk_at dksX13_isRow_2 11 rfl rfl)
theorem dX13_isRow_60 : decode cX13_isRow 60 = .ok (.ireturn, 1) := dk_172 (dk_at dksX13_isRow_2 12 rfl rfl)
theorem dX13_isRow_61 : decode cX13_isRow 61 = .ok (.iinc 2 1, 3) := dk_132 2 1 (dk_at dksX13_isRow_2 13 rfl rfl)
theorem dX13_isRow_64 : decode cX13_isRow 64 = .ok (.goto (-46), 3) := dk_167 255 210 (dk_at dksX13_isRow_2 16 rfl rfl)
theorem dX13_isRow_67 : decode cX13_isRow 67 = .ok (.iconst 1, 1) := dk_4 (dk_at dksX13_isRow_2 19 rfl rfl)
theorem dX13_isRow_68 : decode cX13_isRow 68 = .ok (.ireturn, 1) := dk_172 (dk_at dksX13_isRow_2 20 rfl rfl)
abbrev cX13_isLeftBy : ByteArray := prog_27_method_106_code
def yX13_isLeftBy : MethodName := ⟨RX13, "isLeftBy", "(II)Z"⟩
def dkwX13_isLeftBy_3 : List UInt8 := [27, 46, 96, 182, 1, 127, 154, 0, 5, 4, 172, 132, 3, 1, 167, 255, 173, 3, 172]
abbrev dktX13_isLeftBy_3 : List UInt8 := dkwX13_isLeftBy_3 ++ []
def dkwX13_isLeftBy_2 : List UInt8 := [167, 0, 35, 42, 180, 1, 111, 29, 42, 180, 1, 111, 180, 1, 54, 29, 46, 42, 180, 1, 111, 180, 1, 101]
abbrev dktX13_isLeftBy_2 : List UInt8 := dkwX13_isLeftBy_2 ++ dktX13_isLeftBy_3
def dkwX13_isLeftBy_1 : List UInt8 := [160, 0, 59, 42, 180, 1, 111, 180, 1, 52, 29, 46, 42, 180, 1, 111, 180, 1, 98, 27, 46, 159, 0, 6]
abbrev dktX13_isLeftBy_1 : List UInt8 := dkwX13_isLeftBy_1 ++ dktX13_isLeftBy_2
def dkwX13_isLeftBy_0 : List UInt8 := [3, 62, 29, 42, 180, 1, 111, 180, 1, 31, 162, 0, 78, 42, 180, 1, 111, 180, 1, 49, 29, 46, 28]
abbrev dktX13_isLeftBy_0 : List UInt8 := dkwX13_isLeftBy_0 ++ dktX13_isLeftBy_1
theorem dksX13_isLeftBy_0 : cX13_isLeftBy.data.toList.drop 0 = dktX13_isLeftBy_0 := by decide +kernel
theorem dksX13_isLeftBy_1 : cX13_isLeftBy.data.toList.drop 23 = dktX13_isLeftBy_1 := dk_seg dksX13_isLeftBy_0 23 rfl rfl
theorem dksX13_isLeftBy_2 : cX13_isLeftBy.data.toList.drop 47 = dktX13_isLeftBy_2 := dk_seg dksX13_isLeftBy_1 24 rfl rfl
theorem dksX13_isLeftBy_3 : cX13_isLeftBy.data.toList.drop 71 = dktX13_isLeftBy_3 := dk_seg dksX13_isLeftBy_2 24 rfl rfl
theorem dX13_isLeftBy_0 : decode cX13_isLeftBy 0 = .ok (.iconst 0, 1) := dk_3 (dk_at dksX13_isLeftBy_0 0 rfl rfl)
theorem dX13_isLeftBy_1 : decode cX13_isLeftBy 1 = .ok (.istore_n 3, 1) := dk_62 (dk_at dksX13_isLeftBy_0 1 rfl rfl)
theorem dX13_isLeftBy_2 : decode cX13_isLeftBy 2 = .ok (.iload_n 3, 1) := dk_29 (dk_at dksX13_isLeftBy_0 2 rfl rfl)
theorem dX13_isLeftBy_3 : decode cX13_isLeftBy 3 = .ok (.aload_n 0, 1) := dk_42 (dk_at dksX13_isLeftBy_0 3 rfl rfl)
theorem dX13_isLeftBy_4 : decode cX13_isLeftBy 4 = .ok (.getfield 367, 3) := dk_180 1 111 (dk_at dksX13_isLeftBy_0 4 rfl rfl)
theorem dX13_isLeftBy_7 : decode cX13_isLeftBy 7 = .ok (.getfield 287, 3) := dk_180 1 31 (dk_at dksX13_isLeftBy_0 7 rfl rfl)
theorem dX13_isLeftBy_10 : decode cX13_isLeftBy 10 = .ok (.if_icmp .ge 78, 3) := dk_162 0 78 (dk_at dksX13_isLeftBy_0 10 rfl rfl)
theorem dX13_isLeftBy_13 : decode cX13_isLeftBy 13 = .ok (.aload_n 0, 1) := dk_42 (dk_at dksX13_isLeftBy_0 13 rfl rfl)
theorem dX13_isLeftBy_14 : decode cX13_isLeftBy 14 = .ok (.getfield 367, 3) := dk_180 1 111 (dk_at dksX13_isLeftBy_0 14 rfl rfl)
theorem dX13_isLeftBy_17 : decode cX13_isLeftBy 17 = .ok (.getfield 305, 3) := dk_180 1 49 (dk_at dksX13_isLeftBy_0 17 rfl rfl)
theorem dX13_isLeftBy_20 : decode cX13_isLeftBy 20 = .ok (.iload_n 3, 1) := dk_29 (dk_at dksX13_isLeftBy_0 20 rfl rfl)
theorem dX13_isLeftBy_21 : decode cX13_isLeftBy 21 = .ok (.iaload, 1) := dk_46 (dk_at dksX13_isLeftBy_0 21 rfl rfl)
theorem dX13_isLeftBy_22 : decode cX13_isLeftBy 22 = .ok (.iload_n 2, 1) := dk_28 (dk_at dksX13_isLeftBy_0 22 rfl rfl)
theorem dX13_isLeftBy_23 : decode cX13_isLeftBy 23 = .ok (.if_icmp .ne 59, 3) := dk_160 0 59 (dk_at dksX13_isLeftBy_1 0 rfl rfl)
theorem dX13_isLeftBy_26 : decode cX13_isLeftBy 26 = .ok (.aload_n 0, 1) := dk_42 (dk_at dksX13_isLeftBy_1 3 rfl rfl)
theorem dX13_isLeftBy_27 : decode cX13_isLeftBy 27 = .ok (.getfield 367, 3) := dk_180 1 111 (dk_at dksX13_isLeftBy_1 4 rfl rfl)
theorem dX13_isLeftBy_30 : decode cX13_isLeftBy 30 = .ok (.getfield 308, 3) := dk_180 1 52 (dk_at dksX13_isLeftBy_1 7 rfl rfl)
theorem dX13_isLeftBy_33 : decode cX13_isLeftBy 33 = .ok (.iload_n 3, 1) := dk_29 (dk_at dksX13_isLeftBy_1 10 rfl rfl)
theorem dX13_isLeftBy_34 : decode cX13_isLeftBy 34 = .ok (.iaload, 1) := dk_46 (dk_at dksX13_isLeftBy_1 11 rfl rfl)
theorem dX13_isLeftBy_35 : decode cX13_isLeftBy 35 = .ok (.aload_n 0, 1) := dk_42 (dk_at dksX13_isLeftBy_1 12 rfl rfl)
theorem dX13_isLeftBy_36 : decode cX13_isLeftBy 36 = .ok (.getfield 367, 3) := dk_180 1 111 (dk_at dksX13_isLeftBy_1 13 rfl rfl)
theorem dX13_isLeftBy_39 : decode cX13_isLeftBy 39 = .ok (.getfield 354, 3) := dk_180 1 98 (dk_at dksX13_isLeftBy_1 16 rfl rfl)
theorem dX13_isLeftBy_42 : decode cX13_isLeftBy 42 = .ok (.iload_n 1, 1) := dk_27 (dk_at dksX13_isLeftBy_1 19 rfl rfl)
theorem dX13_isLeftBy_43 : decode cX13_isLeftBy 43 = .ok (.iaload, 1) := dk_46 (dk_at dksX13_isLeftBy_1 20 rfl rfl)
theorem dX13_isLeftBy_44 : decode cX13_isLeftBy 44 = .ok (.if_icmp .eq 6, 3) := dk_159 0 6 (dk_at dksX13_isLeftBy_1 21 rfl rfl)
theorem dX13_isLeftBy_47 : decode cX13_isLeftBy 47 = .ok (.goto 35, 3) := dk_167 0 35 (dk_at dksX13_isLeftBy_2 0 rfl rfl)
theorem dX13_isLeftBy_50 : decode cX13_isLeftBy 50 = .ok (.aload_n 0, 1) := dk_42 (dk_at dksX13_isLeftBy_2 3 rfl rfl)
theorem dX13_isLeftBy_51 : decode cX13_isLeftBy 51 = .ok (.getfield 367, 3) := dk_180 1 111 (dk_at dksX13_isLeftBy_2 4 rfl rfl)
theorem dX13_isLeftBy_54 : decode cX13_isLeftBy 54 = .ok (.iload_n 3, 1) := dk_29 (dk_at dksX13_isLeftBy_2 7 rfl rfl)
theorem dX13_isLeftBy_55 : decode cX13_isLeftBy 55 = .ok (.aload_n 0, 1) := dk_42 (dk_at dksX13_isLeftBy_2 8 rfl rfl)
theorem dX13_isLeftBy_56 : decode cX13_isLeftBy 56 = .ok (.getfield 367, 3) := dk_180 1 111 (dk_at dksX13_isLeftBy_2 9 rfl rfl)
theorem dX13_isLeftBy_59 : decode cX13_isLeftBy 59 = .ok (.getfield 310, 3) := dk_180 1 54 (dk_at dksX13_isLeftBy_2 12 rfl rfl)
theorem dX13_isLeftBy_62 : decode cX13_isLeftBy 62 = .ok (.iload_n 3, 1) := dk_29 (dk_at dksX13_isLeftBy_2 15 rfl rfl)
theorem dX13_isLeftBy_63 : decode cX13_isLeftBy 63 = .ok (.iaload, 1) := dk_46 (dk_at dksX13_isLeftBy_2 16 rfl rfl)
theorem dX13_isLeftBy_64 : decode cX13_isLeftBy 64 = .ok (.aload_n 0, 1) := dk_42 (dk_at dksX13_isLeftBy_2 17 rfl rfl)
theorem dX13_isLeftBy_65 : decode cX13_isLeftBy 65 = .ok (.getfield 367, 3) := dk_180 1 111 (dk_at dksX13_isLeftBy_2 18 rfl rfl)
theorem dX13_isLeftBy_68 : decode cX13_isLeftBy 68 = .ok (.getfield 357, 3) := dk_180 1 101 (dk_at dksX13_isLeftBy_2 21 rfl rfl)
theorem dX13_isLeftBy_71 : decode cX13_isLeftBy 71 = .ok (.iload_n 1, 1) := dk_27 (dk_at dksX13_isLeftBy_3 0 rfl rfl)
theorem dX13_isLeftBy_72 : decode cX13_isLeftBy 72 = .ok (.iaload, 1) := dk_46 (dk_at dksX13_isLeftBy_3 1 rfl rfl)
theorem dX13_isLeftBy_73 : decode cX13_isLeftBy 73 = .ok (.iadd, 1) := dk_96 (dk_at dksX13_isLeftBy_3 2 rfl rfl)
theorem dX13_isLeftBy_74 : decode cX13_isLeftBy 74 = .ok (.invokevirtual 383, 3) := dk_182 1 127 (dk_at dksX13_isLeftBy_3 3 rfl rfl)
theorem dX13_isLeftBy_77 : decode cX13_isLeftBy 77 = .ok (.ifCond .ne 5, 3) := dk_154 0 5 (dk_at dksX13_isLeftBy_3 6 rfl rfl)
theorem dX13_isLeftBy_80 : decode cX13_isLeftBy 80 = .ok (.iconst 1, 1) := dk_4 (dk_at dksX13_isLeftBy_3 9 rfl rfl)
theorem dX13_isLeftBy_81 : decode cX13_isLeftBy 81 = .ok (.ireturn, 1) := dk_172 (dk_at dksX13_isLeftBy_3 10 rfl rfl)
theorem dX13_isLeftBy_82 : decode cX13_isLeftBy 82 = .ok (.iinc 3 1, 3) := dk_132 3 1 (dk_at dksX13_isLeftBy_3 11 rfl rfl)
theorem dX13_isLeftBy_85 : decode cX13_isLeftBy 85 = .ok (.goto (-83), 3) := dk_167 255 173 (dk_at dksX13_isLeftBy_3 14 rfl rfl)
theorem dX13_isLeftBy_88 : decode cX13_isLeftBy 88 = .ok (.iconst 0, 1) := dk_3 (dk_at dksX13_isLeftBy_3 17 rfl rfl)
theorem dX13_isLeftBy_89 : decode cX13_isLeftBy 89 = .ok (.ireturn, 1) := dk_172 (dk_at dksX13_isLeftBy_3 18 rfl rfl)
abbrev cX13_could : ByteArray := prog_27_method_111_code
def yX13_could : MethodName := ⟨RX13, "could", "(I)I"⟩
def dkwX13_could_1 : List UInt8 := [42, 180, 0, 36, 27, 46, 182, 0, 49, 172]
abbrev dktX13_could_1 : List UInt8 := dkwX13_could_1 ++ []
def dkwX13_could_0 : List UInt8 := [42, 3, 181, 0, 39, 42, 27, 182, 2, 6, 154, 0, 9, 42, 4, 182, 0, 45, 172, 42, 182, 2, 3, 42]
abbrev dktX13_could_0 : List UInt8 := dkwX13_could_0 ++ dktX13_could_1
theorem dksX13_could_0 : cX13_could.data.toList.drop 0 = dktX13_could_0 := by decide +kernel
theorem dksX13_could_1 : cX13_could.data.toList.drop 24 = dktX13_could_1 := dk_seg dksX13_could_0 24 rfl rfl
theorem dX13_could_0 : decode cX13_could 0 = .ok (.aload_n 0, 1) := dk_42 (dk_at dksX13_could_0 0 rfl rfl)
theorem dX13_could_1 : decode cX13_could 1 = .ok (.iconst 0, 1) := dk_3 (dk_at dksX13_could_0 1 rfl rfl)
theorem dX13_could_2 : decode cX13_could 2 = .ok (.putfield 39, 3) := dk_181 0 39 (dk_at dksX13_could_0 2 rfl rfl)
theorem dX13_could_5 : decode cX13_could 5 = .ok (.aload_n 0, 1) := dk_42 (dk_at dksX13_could_0 5 rfl rfl)
theorem dX13_could_6 : decode cX13_could 6 = .ok (.iload_n 1, 1) := dk_27 (dk_at dksX13_could_0 6 rfl rfl)
theorem dX13_could_7 : decode cX13_could 7 = .ok (.invokevirtual 518, 3) := dk_182 2 6 (dk_at dksX13_could_0 7 rfl rfl)
theorem dX13_could_10 : decode cX13_could 10 = .ok (.ifCond .ne 9, 3) := dk_154 0 9 (dk_at dksX13_could_0 10 rfl rfl)
theorem dX13_could_13 : decode cX13_could 13 = .ok (.aload_n 0, 1) := dk_42 (dk_at dksX13_could_0 13 rfl rfl)
theorem dX13_could_14 : decode cX13_could 14 = .ok (.iconst 1, 1) := dk_4 (dk_at dksX13_could_0 14 rfl rfl)
theorem dX13_could_15 : decode cX13_could 15 = .ok (.invokevirtual 45, 3) := dk_182 0 45 (dk_at dksX13_could_0 15 rfl rfl)
theorem dX13_could_18 : decode cX13_could 18 = .ok (.ireturn, 1) := dk_172 (dk_at dksX13_could_0 18 rfl rfl)
theorem dX13_could_19 : decode cX13_could 19 = .ok (.aload_n 0, 1) := dk_42 (dk_at dksX13_could_0 19 rfl rfl)
theorem dX13_could_20 : decode cX13_could 20 = .ok (.invokevirtual 515, 3) := dk_182 2 3 (dk_at dksX13_could_0 20 rfl rfl)
theorem dX13_could_23 : decode cX13_could 23 = .ok (.aload_n 0, 1) := dk_42 (dk_at dksX13_could_0 23 rfl rfl)
theorem dX13_could_24 : decode cX13_could 24 = .ok (.aload_n 0, 1) := dk_42 (dk_at dksX13_could_1 0 rfl rfl)
theorem dX13_could_25 : decode cX13_could 25 = .ok (.getfield 36, 3) := dk_180 0 36 (dk_at dksX13_could_1 1 rfl rfl)
theorem dX13_could_28 : decode cX13_could 28 = .ok (.iload_n 1, 1) := dk_27 (dk_at dksX13_could_1 4 rfl rfl)
theorem dX13_could_29 : decode cX13_could 29 = .ok (.iaload, 1) := dk_46 (dk_at dksX13_could_1 5 rfl rfl)
theorem dX13_could_30 : decode cX13_could 30 = .ok (.invokevirtual 49, 3) := dk_182 0 49 (dk_at dksX13_could_1 6 rfl rfl)
theorem dX13_could_33 : decode cX13_could 33 = .ok (.ireturn, 1) := dk_172 (dk_at dksX13_could_1 9 rfl rfl)
abbrev cX13_isCrumb : ByteArray := prog_27_method_110_code
def yX13_isCrumb : MethodName := ⟨RX13, "isCrumb", "(I)Z"⟩
def dkwX13_isCrumb_1 : List UInt8 := [167, 0, 4, 3, 172]
abbrev dktX13_isCrumb_1 : List UInt8 := dkwX13_isCrumb_1 ++ []
def dkwX13_isCrumb_0 : List UInt8 := [42, 180, 1, 111, 198, 0, 22, 27, 155, 0, 18, 27, 42, 180, 1, 111, 180, 1, 95, 162, 0, 7, 4]
abbrev dktX13_isCrumb_0 : List UInt8 := dkwX13_isCrumb_0 ++ dktX13_isCrumb_1
theorem dksX13_isCrumb_0 : cX13_isCrumb.data.toList.drop 0 = dktX13_isCrumb_0 := by decide +kernel
theorem dksX13_isCrumb_1 : cX13_isCrumb.data.toList.drop 23 = dktX13_isCrumb_1 := dk_seg dksX13_isCrumb_0 23 rfl rfl
theorem dX13_isCrumb_0 : decode cX13_isCrumb 0 = .ok (.aload_n 0, 1) := dk_42 (dk_at dksX13_isCrumb_0 0 rfl rfl)
theorem dX13_isCrumb_1 : decode cX13_isCrumb 1 = .ok (.getfield 367, 3) := dk_180 1 111 (dk_at dksX13_isCrumb_0 1 rfl rfl)
theorem dX13_isCrumb_4 : decode cX13_isCrumb 4 = .ok (.ifnull 22, 3) := dk_198 0 22 (dk_at dksX13_isCrumb_0 4 rfl rfl)
theorem dX13_isCrumb_7 : decode cX13_isCrumb 7 = .ok (.iload_n 1, 1) := dk_27 (dk_at dksX13_isCrumb_0 7 rfl rfl)
theorem dX13_isCrumb_8 : decode cX13_isCrumb 8 = .ok (.ifCond .lt 18, 3) := dk_155 0 18 (dk_at dksX13_isCrumb_0 8 rfl rfl)
theorem dX13_isCrumb_11 : decode cX13_isCrumb 11 = .ok (.iload_n 1, 1) := dk_27 (dk_at dksX13_isCrumb_0 11 rfl rfl)
theorem dX13_isCrumb_12 : decode cX13_isCrumb 12 = .ok (.aload_n 0, 1) := dk_42 (dk_at dksX13_isCrumb_0 12 rfl rfl)
theorem dX13_isCrumb_13 : decode cX13_isCrumb 13 = .ok (.getfield 367, 3) := dk_180 1 111 (dk_at dksX13_isCrumb_0 13 rfl rfl)
theorem dX13_isCrumb_16 : decode cX13_isCrumb 16 = .ok (.getfield 351, 3) := dk_180 1 95 (dk_at dksX13_isCrumb_0 16 rfl rfl)
theorem dX13_isCrumb_19 : decode cX13_isCrumb 19 = .ok (.if_icmp .ge 7, 3) := dk_162 0 7 (dk_at dksX13_isCrumb_0 19 rfl rfl)
theorem dX13_isCrumb_22 : decode cX13_isCrumb 22 = .ok (.iconst 1, 1) := dk_4 (dk_at dksX13_isCrumb_0 22 rfl rfl)
theorem dX13_isCrumb_23 : decode cX13_isCrumb 23 = .ok (.goto 4, 3) := dk_167 0 4 (dk_at dksX13_isCrumb_1 0 rfl rfl)
theorem dX13_isCrumb_26 : decode cX13_isCrumb 26 = .ok (.iconst 0, 1) := dk_3 (dk_at dksX13_isCrumb_1 3 rfl rfl)
theorem dX13_isCrumb_27 : decode cX13_isCrumb 27 = .ok (.ireturn, 1) := dk_172 (dk_at dksX13_isCrumb_1 4 rfl rfl)
abbrev cX13_surely : ByteArray := prog_27_method_112_code
def yX13_surely : MethodName := ⟨RX13, "surely", "(I)I"⟩
def dkwX13_surely_2 : List UInt8 := [42, 28, 182, 0, 49, 172, 132, 2, 1, 167, 255, 224, 42, 16, 254, 182, 0, 49, 172]
abbrev dktX13_surely_2 : List UInt8 := dkwX13_surely_2 ++ []
def dkwX13_surely_1 : List UInt8 := [61, 28, 42, 180, 1, 111, 180, 0, 191, 162, 0, 27, 42, 180, 0, 36, 27, 46, 4, 28, 120, 160, 0, 9]
abbrev dktX13_surely_1 : List UInt8 := dkwX13_surely_1 ++ dktX13_surely_2
def dkwX13_surely_0 : List UInt8 := [42, 3, 181, 0, 39, 42, 27, 182, 2, 6, 154, 0, 9, 42, 4, 182, 0, 45, 172, 42, 182, 2, 3, 3]
abbrev dktX13_surely_0 : List UInt8 := dkwX13_surely_0 ++ dktX13_surely_1
theorem dksX13_surely_0 : cX13_surely.data.toList.drop 0 = dktX13_surely_0 := by decide +kernel
theorem dksX13_surely_1 : cX13_surely.data.toList.drop 24 = dktX13_surely_1 := dk_seg dksX13_surely_0 24 rfl rfl
theorem dksX13_surely_2 : cX13_surely.data.toList.drop 48 = dktX13_surely_2 := dk_seg dksX13_surely_1 24 rfl rfl
theorem dX13_surely_0 : decode cX13_surely 0 = .ok (.aload_n 0, 1) := dk_42 (dk_at dksX13_surely_0 0 rfl rfl)
theorem dX13_surely_1 : decode cX13_surely 1 = .ok (.iconst 0, 1) := dk_3 (dk_at dksX13_surely_0 1 rfl rfl)
theorem dX13_surely_2 : decode cX13_surely 2 = .ok (.putfield 39, 3) := dk_181 0 39 (dk_at dksX13_surely_0 2 rfl rfl)
theorem dX13_surely_5 : decode cX13_surely 5 = .ok (.aload_n 0, 1) := dk_42 (dk_at dksX13_surely_0 5 rfl rfl)
theorem dX13_surely_6 : decode cX13_surely 6 = .ok (.iload_n 1, 1) := dk_27 (dk_at dksX13_surely_0 6 rfl rfl)
theorem dX13_surely_7 : decode cX13_surely 7 = .ok (.invokevirtual 518, 3) := dk_182 2 6 (dk_at dksX13_surely_0 7 rfl rfl)
theorem dX13_surely_10 : decode cX13_surely 10 = .ok (.ifCond .ne 9, 3) := dk_154 0 9 (dk_at dksX13_surely_0 10 rfl rfl)
theorem dX13_surely_13 : decode cX13_surely 13 = .ok (.aload_n 0, 1) := dk_42 (dk_at dksX13_surely_0 13 rfl rfl)
theorem dX13_surely_14 : decode cX13_surely 14 = .ok (.iconst 1, 1) := dk_4 (dk_at dksX13_surely_0 14 rfl rfl)
theorem dX13_surely_15 : decode cX13_surely 15 = .ok (.invokevirtual 45, 3) := dk_182 0 45 (dk_at dksX13_surely_0 15 rfl rfl)
theorem dX13_surely_18 : decode cX13_surely 18 = .ok (.ireturn, 1) := dk_172 (dk_at dksX13_surely_0 18 rfl rfl)
theorem dX13_surely_19 : decode cX13_surely 19 = .ok (.aload_n 0, 1) := dk_42 (dk_at dksX13_surely_0 19 rfl rfl)
theorem dX13_surely_20 : decode cX13_surely 20 = .ok (.invokevirtual 515, 3) := dk_182 2 3 (dk_at dksX13_surely_0 20 rfl rfl)
theorem dX13_surely_23 : decode cX13_surely 23 = .ok (.iconst 0, 1) := dk_3 (dk_at dksX13_surely_0 23 rfl rfl)
theorem dX13_surely_24 : decode cX13_surely 24 = .ok (.istore_n 2, 1) := dk_61 (dk_at dksX13_surely_1 0 rfl rfl)
theorem dX13_surely_25 : decode cX13_surely 25 = .ok (.iload_n 2, 1) := dk_28 (dk_at dksX13_surely_1 1 rfl rfl)
theorem dX13_surely_26 : decode cX13_surely 26 = .ok (.aload_n 0, 1) := dk_42 (dk_at dksX13_surely_1 2 rfl rfl)
theorem dX13_surely_27 : decode cX13_surely 27 = .ok (.getfield 367, 3) := dk_180 1 111 (dk_at dksX13_surely_1 3 rfl rfl)
theorem dX13_surely_30 : decode cX13_surely 30 = .ok (.getfield 191, 3) := dk_180 0 191 (dk_at dksX13_surely_1 6 rfl rfl)
theorem dX13_surely_33 : decode cX13_surely 33 = .ok (.if_icmp .ge 27, 3) := dk_162 0 27 (dk_at dksX13_surely_1 9 rfl rfl)
theorem dX13_surely_36 : decode cX13_surely 36 = .ok (.aload_n 0, 1) := dk_42 (dk_at dksX13_surely_1 12 rfl rfl)
theorem dX13_surely_37 : decode cX13_surely 37 = .ok (.getfield 36, 3) := dk_180 0 36 (dk_at dksX13_surely_1 13 rfl rfl)
theorem dX13_surely_40 : decode cX13_surely 40 = .ok (.iload_n 1, 1) := dk_27 (dk_at dksX13_surely_1 16 rfl rfl)
theorem dX13_surely_41 : decode cX13_surely 41 = .ok (.iaload, 1) := dk_46 (dk_at dksX13_surely_1 17 rfl rfl)
theorem dX13_surely_42 : decode cX13_surely 42 = .ok (.iconst 1, 1) := dk_4 (dk_at dksX13_surely_1 18 rfl rfl)
theorem dX13_surely_43 : decode cX13_surely 43 = .ok (.iload_n 2, 1) := dk_28 (dk_at dksX13_surely_1 19 rfl rfl)
theorem dX13_surely_44 : decode cX13_surely 44 = .ok (.ishl, 1) := dk_120 (dk_at dksX13_surely_1 20 rfl rfl)
theorem dX13_surely_45 : decode cX13_surely 45 = .ok (.if_icmp .ne 9, 3) := dk_160 0 9 (dk_at dksX13_surely_1 21 rfl rfl)
theorem dX13_surely_48 : decode cX13_surely 48 = .ok (.aload_n 0, 1) := dk_42 (dk_at dksX13_surely_2 0 rfl rfl)
theorem dX13_surely_49 : decode cX13_surely 49 = .ok (.iload_n 2, 1) := dk_28 (dk_at dksX13_surely_2 1 rfl rfl)
theorem dX13_surely_50 : decode cX13_surely 50 = .ok (.invokevirtual 49, 3) := dk_182 0 49 (dk_at dksX13_surely_2 2 rfl rfl)
theorem dX13_surely_53 : decode cX13_surely 53 = .ok (.ireturn, 1) := dk_172 (dk_at dksX13_surely_2 5 rfl rfl)
theorem dX13_surely_54 : decode cX13_surely 54 = .ok (.iinc 2 1, 3) := dk_132 2 1 (dk_at dksX13_surely_2 6 rfl rfl)
theorem dX13_surely_57 : decode cX13_surely 57 = .ok (.goto (-32), 3) := dk_167 255 224 (dk_at dksX13_surely_2 9 rfl rfl)
theorem dX13_surely_60 : decode cX13_surely 60 = .ok (.aload_n 0, 1) := dk_42 (dk_at dksX13_surely_2 12 rfl rfl)
theorem dX13_surely_61 : decode cX13_surely 61 = .ok (.bipush (-2), 2) := dk_16 254 (dk_at dksX13_surely_2 13 rfl rfl)
theorem dX13_surely_63 : decode cX13_surely 63 = .ok (.invokevirtual 49, 3) := dk_182 0 49 (dk_at dksX13_surely_2 15 rfl rfl)
theorem dX13_surely_66 : decode cX13_surely 66 = .ok (.ireturn, 1) := dk_172 (dk_at dksX13_surely_2 18 rfl rfl)
abbrev cX13_owed : ByteArray := prog_27_method_113_code
def yX13_owed : MethodName := ⟨RX13, "owed", "(IIZ)J"⟩
def dkwX13_owed_4 : List UInt8 := [22, 4, 22, 6, 29, 182, 2, 11, 173]
abbrev dktX13_owed_4 : List UInt8 := dkwX13_owed_4 ++ []
def dkwX13_owed_3 : List UInt8 := [180, 0, 231, 96, 133, 105, 55, 4, 22, 6, 20, 2, 9, 105, 55, 6, 132, 8, 1, 167, 255, 223, 42]
abbrev dktX13_owed_3 : List UInt8 := dkwX13_owed_3 ++ dktX13_owed_4
def dkwX13_owed_2 : List UInt8 := [55, 4, 10, 55, 6, 3, 54, 8, 21, 8, 28, 162, 0, 33, 22, 4, 16, 100, 42, 180, 1, 111]
abbrev dktX13_owed_2 : List UInt8 := dkwX13_owed_2 ++ dktX13_owed_3
def dkwX13_owed_1 : List UInt8 := [184, 0, 118, 153, 0, 12, 28, 3, 8, 184, 0, 118, 154, 0, 10, 42, 5, 182, 0, 45, 133, 173, 27, 133]
abbrev dktX13_owed_1 : List UInt8 := dkwX13_owed_1 ++ dktX13_owed_2
def dkwX13_owed_0 : List UInt8 := [42, 3, 181, 0, 39, 42, 180, 1, 111, 199, 0, 10, 42, 4, 182, 0, 45, 133, 173, 27, 3, 17, 3, 231]
abbrev dktX13_owed_0 : List UInt8 := dkwX13_owed_0 ++ dktX13_owed_1
theorem dksX13_owed_0 : cX13_owed.data.toList.drop 0 = dktX13_owed_0 := by decide +kernel
theorem dksX13_owed_1 : cX13_owed.data.toList.drop 24 = dktX13_owed_1 := dk_seg dksX13_owed_0 24 rfl rfl
theorem dksX13_owed_2 : cX13_owed.data.toList.drop 48 = dktX13_owed_2 := dk_seg dksX13_owed_1 24 rfl rfl
theorem dksX13_owed_3 : cX13_owed.data.toList.drop 70 = dktX13_owed_3 := dk_seg dksX13_owed_2 22 rfl rfl
theorem dksX13_owed_4 : cX13_owed.data.toList.drop 93 = dktX13_owed_4 := dk_seg dksX13_owed_3 23 rfl rfl
theorem dX13_owed_0 : decode cX13_owed 0 = .ok (.aload_n 0, 1) := dk_42 (dk_at dksX13_owed_0 0 rfl rfl)
theorem dX13_owed_1 : decode cX13_owed 1 = .ok (.iconst 0, 1) := dk_3 (dk_at dksX13_owed_0 1 rfl rfl)
theorem dX13_owed_2 : decode cX13_owed 2 = .ok (.putfield 39, 3) := dk_181 0 39 (dk_at dksX13_owed_0 2 rfl rfl)
theorem dX13_owed_5 : decode cX13_owed 5 = .ok (.aload_n 0, 1) := dk_42 (dk_at dksX13_owed_0 5 rfl rfl)
theorem dX13_owed_6 : decode cX13_owed 6 = .ok (.getfield 367, 3) := dk_180 1 111 (dk_at dksX13_owed_0 6 rfl rfl)
theorem dX13_owed_9 : decode cX13_owed 9 = .ok (.ifnonnull 10, 3) := dk_199 0 10 (dk_at dksX13_owed_0 9 rfl rfl)
theorem dX13_owed_12 : decode cX13_owed 12 = .ok (.aload_n 0, 1) := dk_42 (dk_at dksX13_owed_0 12 rfl rfl)
theorem dX13_owed_13 : decode cX13_owed 13 = .ok (.iconst 1, 1) := dk_4 (dk_at dksX13_owed_0 13 rfl rfl)
theorem dX13_owed_14 : decode cX13_owed 14 = .ok (.invokevirtual 45, 3) := dk_182 0 45 (dk_at dksX13_owed_0 14 rfl rfl)
theorem dX13_owed_17 : decode cX13_owed 17 = .ok (.i2l, 1) := dk_133 (dk_at dksX13_owed_0 17 rfl rfl)
theorem dX13_owed_18 : decode cX13_owed 18 = .ok (.lreturn, 1) := dk_173 (dk_at dksX13_owed_0 18 rfl rfl)
theorem dX13_owed_19 : decode cX13_owed 19 = .ok (.iload_n 1, 1) := dk_27 (dk_at dksX13_owed_0 19 rfl rfl)
theorem dX13_owed_20 : decode cX13_owed 20 = .ok (.iconst 0, 1) := dk_3 (dk_at dksX13_owed_0 20 rfl rfl)
theorem dX13_owed_21 : decode cX13_owed 21 = .ok (.sipush 999, 3) := dk_17 3 231 (dk_at dksX13_owed_0 21 rfl rfl)
theorem dX13_owed_24 : decode cX13_owed 24 = .ok (.invokestatic 118, 3) := dk_184 0 118 (dk_at dksX13_owed_1 0 rfl rfl)
theorem dX13_owed_27 : decode cX13_owed 27 = .ok (.ifCond .eq 12, 3) := dk_153 0 12 (dk_at dksX13_owed_1 3 rfl rfl)
theorem dX13_owed_30 : decode cX13_owed 30 = .ok (.iload_n 2, 1) := dk_28 (dk_at dksX13_owed_1 6 rfl rfl)
theorem dX13_owed_31 : decode cX13_owed 31 = .ok (.iconst 0, 1) := dk_3 (dk_at dksX13_owed_1 7 rfl rfl)
theorem dX13_owed_32 : decode cX13_owed 32 = .ok (.iconst 5, 1) := dk_8 (dk_at dksX13_owed_1 8 rfl rfl)
theorem dX13_owed_33 : decode cX13_owed 33 = .ok (.invokestatic 118, 3) := dk_184 0 118 (dk_at dksX13_owed_1 9 rfl rfl)
theorem dX13_owed_36 : decode cX13_owed 36 = .ok (.ifCond .ne 10, 3) := dk_154 0 10 (dk_at dksX13_owed_1 12 rfl rfl)
theorem dX13_owed_39 : decode cX13_owed 39 = .ok (.aload_n 0, 1) := dk_42 (dk_at dksX13_owed_1 15 rfl rfl)
theorem dX13_owed_40 : decode cX13_owed 40 = .ok (.iconst 2, 1) := dk_5 (dk_at dksX13_owed_1 16 rfl rfl)
theorem dX13_owed_41 : decode cX13_owed 41 = .ok (.invokevirtual 45, 3) := dk_182 0 45 (dk_at dksX13_owed_1 17 rfl rfl)
theorem dX13_owed_44 : decode cX13_owed 44 = .ok (.i2l, 1) := dk_133 (dk_at dksX13_owed_1 20 rfl rfl)
theorem dX13_owed_45 : decode cX13_owed 45 = .ok (.lreturn, 1) := dk_173 (dk_at dksX13_owed_1 21 rfl rfl)
theorem dX13_owed_46 : decode cX13_owed 46 = .ok (.iload_n 1, 1) := dk_27 (dk_at dksX13_owed_1 22 rfl rfl)
theorem dX13_owed_47 : decode cX13_owed 47 = .ok (.i2l, 1) := dk_133 (dk_at dksX13_owed_1 23 rfl rfl)
theorem dX13_owed_48 : decode cX13_owed 48 = .ok (.lstore 4, 2) := dk_55 4 (dk_at dksX13_owed_2 0 rfl rfl)
theorem dX13_owed_50 : decode cX13_owed 50 = .ok (.lconst 1, 1) := dk_10 (dk_at dksX13_owed_2 2 rfl rfl)
theorem dX13_owed_51 : decode cX13_owed 51 = .ok (.lstore 6, 2) := dk_55 6 (dk_at dksX13_owed_2 3 rfl rfl)
theorem dX13_owed_53 : decode cX13_owed 53 = .ok (.iconst 0, 1) := dk_3 (dk_at dksX13_owed_2 5 rfl rfl)
theorem dX13_owed_54 : decode cX13_owed 54 = .ok (.istore 8, 2) := dk_54 8 (dk_at dksX13_owed_2 6 rfl rfl)
theorem dX13_owed_56 : decode cX13_owed 56 = .ok (.iload 8, 2) := dk_21 8 (dk_at dksX13_owed_2 8 rfl rfl)
theorem dX13_owed_58 : decode cX13_owed 58 = .ok (.iload_n 2, 1) := dk_28 (dk_at dksX13_owed_2 10 rfl rfl)
theorem dX13_owed_59 : decode cX13_owed 59 = .ok (.if_icmp .ge 33, 3) := dk_162 0 33 (dk_at dksX13_owed_2 11 rfl rfl)
theorem dX13_owed_62 : decode cX13_owed 62 = .ok (.lload 4, 2) := dk_22 4 (dk_at dksX13_owed_2 14 rfl rfl)
theorem dX13_owed_64 : decode cX13_owed 64 = .ok (.bipush 100, 2) := dk_16 100 (dk_at dksX13_owed_2 16 rfl rfl)
theorem dX13_owed_66 : decode cX13_owed 66 = .ok (.aload_n 0, 1) := dk_42 (dk_at dksX13_owed_2 18 rfl rfl)
theorem dX13_owed_67 : decode cX13_owed 67 = .ok (.getfield 367, 3) := dk_180 1 111 (dk_at dksX13_owed_2 19 rfl rfl)
theorem dX13_owed_70 : decode cX13_owed 70 = .ok (.getfield 231, 3) := dk_180 0 231 (dk_at dksX13_owed_3 0 rfl rfl)
theorem dX13_owed_73 : decode cX13_owed 73 = .ok (.iadd, 1) := dk_96 (dk_at dksX13_owed_3 3 rfl rfl)
theorem dX13_owed_74 : decode cX13_owed 74 = .ok (.i2l, 1) := dk_133 (dk_at dksX13_owed_3 4 rfl rfl)
theorem dX13_owed_75 : decode cX13_owed 75 = .ok (.lmul, 1) := dk_105 (dk_at dksX13_owed_3 5 rfl rfl)
theorem dX13_owed_76 : decode cX13_owed 76 = .ok (.lstore 4, 2) := dk_55 4 (dk_at dksX13_owed_3 6 rfl rfl)
theorem dX13_owed_78 : decode cX13_owed 78 = .ok (.lload 6, 2) := dk_22 6 (dk_at dksX13_owed_3 8 rfl rfl)
theorem dX13_owed_80 : decode cX13_owed 80 = .ok (.ldc2_w 521, 3) := dk_20 2 9 (dk_at dksX13_owed_3 10 rfl rfl)
theorem dX13_owed_83 : decode cX13_owed 83 = .ok (.lmul, 1) := dk_105 (dk_at dksX13_owed_3 13 rfl rfl)
theorem dX13_owed_84 : decode cX13_owed 84 = .ok (.lstore 6, 2) := dk_55 6 (dk_at dksX13_owed_3 14 rfl rfl)
theorem dX13_owed_86 : decode cX13_owed 86 = .ok (.iinc 8 1, 3) := dk_132 8 1 (dk_at dksX13_owed_3 16 rfl rfl)
theorem dX13_owed_89 : decode cX13_owed 89 = .ok (.goto (-33), 3) := dk_167 255 223 (dk_at dksX13_owed_3 19 rfl rfl)
theorem dX13_owed_92 : decode cX13_owed 92 = .ok (.aload_n 0, 1) := dk_42 (dk_at dksX13_owed_3 22 rfl rfl)
theorem dX13_owed_93 : decode cX13_owed 93 = .ok (.lload 4, 2) := dk_22 4 (dk_at dksX13_owed_4 0 rfl rfl)
theorem dX13_owed_95 : decode cX13_owed 95 = .ok (.lload 6, 2) := dk_22 6 (dk_at dksX13_owed_4 2 rfl rfl)
theorem dX13_owed_97 : decode cX13_owed 97 = .ok (.iload_n 3, 1) := dk_29 (dk_at dksX13_owed_4 4 rfl rfl)
theorem dX13_owed_98 : decode cX13_owed 98 = .ok (.invokevirtual 523, 3) := dk_182 2 11 (dk_at dksX13_owed_4 5 rfl rfl)
theorem dX13_owed_101 : decode cX13_owed 101 = .ok (.lreturn, 1) := dk_173 (dk_at dksX13_owed_4 8 rfl rfl)
abbrev cX13_fraction : ByteArray := prog_27_method_12_code
def yX13_fraction : MethodName := ⟨RX13, "fraction", "(JJZ)J"⟩
def dkwX13_fraction_0 : List UInt8 := [42, 3, 182, 0, 49, 87, 21, 5, 153, 0, 7, 33, 167, 0, 4, 31, 31, 33, 184, 0, 52, 109, 173]
abbrev dktX13_fraction_0 : List UInt8 := dkwX13_fraction_0 ++ []
theorem dksX13_fraction_0 : cX13_fraction.data.toList.drop 0 = dktX13_fraction_0 := by decide +kernel
theorem dX13_fraction_0 : decode cX13_fraction 0 = .ok (.aload_n 0, 1) := dk_42 (dk_at dksX13_fraction_0 0 rfl rfl)
theorem dX13_fraction_1 : decode cX13_fraction 1 = .ok (.iconst 0, 1) := dk_3 (dk_at dksX13_fraction_0 1 rfl rfl)
theorem dX13_fraction_2 : decode cX13_fraction 2 = .ok (.invokevirtual 49, 3) := dk_182 0 49 (dk_at dksX13_fraction_0 2 rfl rfl)
theorem dX13_fraction_5 : decode cX13_fraction 5 = .ok (.pop, 1) := dk_87 (dk_at dksX13_fraction_0 5 rfl rfl)
theorem dX13_fraction_6 : decode cX13_fraction 6 = .ok (.iload 5, 2) := dk_21 5 (dk_at dksX13_fraction_0 6 rfl rfl)
theorem dX13_fraction_8 : decode cX13_fraction 8 = .ok (.ifCond .eq 7, 3) := dk_153 0 7 (dk_at dksX13_fraction_0 8 rfl rfl)
theorem dX13_fraction_11 : decode cX13_fraction 11 = .ok (.lload_n 3, 1) := dk_33 (dk_at dksX13_fraction_0 11 rfl rfl)
theorem dX13_fraction_12 : decode cX13_fraction 12 = .ok (.goto 4, 3) := dk_167 0 4 (dk_at dksX13_fraction_0 12 rfl rfl)
theorem dX13_fraction_15 : decode cX13_fraction 15 = .ok (.lload_n 1, 1) := dk_31 (dk_at dksX13_fraction_0 15 rfl rfl)
theorem dX13_fraction_16 : decode cX13_fraction 16 = .ok (.lload_n 1, 1) := dk_31 (dk_at dksX13_fraction_0 16 rfl rfl)
theorem dX13_fraction_17 : decode cX13_fraction 17 = .ok (.lload_n 3, 1) := dk_33 (dk_at dksX13_fraction_0 17 rfl rfl)
theorem dX13_fraction_18 : decode cX13_fraction 18 = .ok (.invokestatic 52, 3) := dk_184 0 52 (dk_at dksX13_fraction_0 18 rfl rfl)
theorem dX13_fraction_21 : decode cX13_fraction 21 = .ok (.ldiv, 1) := dk_109 (dk_at dksX13_fraction_0 21 rfl rfl)
theorem dX13_fraction_22 : decode cX13_fraction 22 = .ok (.lreturn, 1) := dk_173 (dk_at dksX13_fraction_0 22 rfl rfl)
abbrev cX13_common : ByteArray := prog_27_method_11_code
def yX13_common : MethodName := ⟨RX13, "common", "(JJ)J"⟩
def dkwX13_common_1 : List UInt8 := [22, 8, 55, 6, 167, 255, 234, 22, 4, 173]
abbrev dktX13_common_1 : List UInt8 := dkwX13_common_1 ++ []
def dkwX13_common_0 : List UInt8 := [30, 55, 4, 32, 55, 6, 22, 6, 9, 148, 153, 0, 21, 22, 4, 22, 6, 113, 55, 8, 22, 6, 55, 4]
abbrev dktX13_common_0 : List UInt8 := dkwX13_common_0 ++ dktX13_common_1
theorem dksX13_common_0 : cX13_common.data.toList.drop 0 = dktX13_common_0 := by decide +kernel
theorem dksX13_common_1 : cX13_common.data.toList.drop 24 = dktX13_common_1 := dk_seg dksX13_common_0 24 rfl rfl
theorem dX13_common_0 : decode cX13_common 0 = .ok (.lload_n 0, 1) := dk_30 (dk_at dksX13_common_0 0 rfl rfl)
theorem dX13_common_1 : decode cX13_common 1 = .ok (.lstore 4, 2) := dk_55 4 (dk_at dksX13_common_0 1 rfl rfl)
theorem dX13_common_3 : decode cX13_common 3 = .ok (.lload_n 2, 1) := dk_32 (dk_at dksX13_common_0 3 rfl rfl)
theorem dX13_common_4 : decode cX13_common 4 = .ok (.lstore 6, 2) := dk_55 6 (dk_at dksX13_common_0 4 rfl rfl)
theorem dX13_common_6 : decode cX13_common 6 = .ok (.lload 6, 2) := dk_22 6 (dk_at dksX13_common_0 6 rfl rfl)
theorem dX13_common_8 : decode cX13_common 8 = .ok (.lconst 0, 1) := dk_9 (dk_at dksX13_common_0 8 rfl rfl)
theorem dX13_common_9 : decode cX13_common 9 = .ok (.lcmp, 1) := dk_148 (dk_at dksX13_common_0 9 rfl rfl)
theorem dX13_common_10 : decode cX13_common 10 = .ok (.ifCond .eq 21, 3) := dk_153 0 21 (dk_at dksX13_common_0 10 rfl rfl)
theorem dX13_common_13 : decode cX13_common 13 = .ok (.lload 4, 2) := dk_22 4 (dk_at dksX13_common_0 13 rfl rfl)
theorem dX13_common_15 : decode cX13_common 15 = .ok (.lload 6, 2) := dk_22 6 (dk_at dksX13_common_0 15 rfl rfl)
theorem dX13_common_17 : decode cX13_common 17 = .ok (.lrem, 1) := dk_113 (dk_at dksX13_common_0 17 rfl rfl)
theorem dX13_common_18 : decode cX13_common 18 = .ok (.lstore 8, 2) := dk_55 8 (dk_at dksX13_common_0 18 rfl rfl)
theorem dX13_common_20 : decode cX13_common 20 = .ok (.lload 6, 2) := dk_22 6 (dk_at dksX13_common_0 20 rfl rfl)
theorem dX13_common_22 : decode cX13_common 22 = .ok (.lstore 4, 2) := dk_55 4 (dk_at dksX13_common_0 22 rfl rfl)
theorem dX13_common_24 : decode cX13_common 24 = .ok (.lload 8, 2) := dk_22 8 (dk_at dksX13_common_1 0 rfl rfl)
theorem dX13_common_26 : decode cX13_common 26 = .ok (.lstore 6, 2) := dk_55 6 (dk_at dksX13_common_1 2 rfl rfl)
theorem dX13_common_28 : decode cX13_common 28 = .ok (.goto (-22), 3) := dk_167 255 234 (dk_at dksX13_common_1 4 rfl rfl)
theorem dX13_common_31 : decode cX13_common 31 = .ok (.lload 4, 2) := dk_22 4 (dk_at dksX13_common_1 7 rfl rfl)
theorem dX13_common_33 : decode cX13_common 33 = .ok (.lreturn, 1) := dk_173 (dk_at dksX13_common_1 9 rfl rfl)
abbrev cX13_season : ByteArray := prog_27_method_114_code
def yX13_season : MethodName := ⟨RX13, "season", "(I)I"⟩
def dkwX13_season_2 : List UInt8 := [182, 0, 49, 172]
abbrev dktX13_season_2 : List UInt8 := dkwX13_season_2 ++ []
def dkwX13_season_1 : List UInt8 := [184, 0, 118, 154, 0, 9, 42, 5, 182, 0, 45, 172, 42, 27, 181, 1, 231, 42, 42, 4, 182, 1, 246]
abbrev dktX13_season_1 : List UInt8 := dkwX13_season_1 ++ dktX13_season_2
def dkwX13_season_0 : List UInt8 := [42, 3, 181, 0, 39, 42, 180, 1, 111, 199, 0, 9, 42, 4, 182, 0, 45, 172, 27, 3, 19, 2, 15]
abbrev dktX13_season_0 : List UInt8 := dkwX13_season_0 ++ dktX13_season_1
theorem dksX13_season_0 : cX13_season.data.toList.drop 0 = dktX13_season_0 := by decide +kernel
theorem dksX13_season_1 : cX13_season.data.toList.drop 23 = dktX13_season_1 := dk_seg dksX13_season_0 23 rfl rfl
theorem dksX13_season_2 : cX13_season.data.toList.drop 46 = dktX13_season_2 := dk_seg dksX13_season_1 23 rfl rfl
theorem dX13_season_0 : decode cX13_season 0 = .ok (.aload_n 0, 1) := dk_42 (dk_at dksX13_season_0 0 rfl rfl)
theorem dX13_season_1 : decode cX13_season 1 = .ok (.iconst 0, 1) := dk_3 (dk_at dksX13_season_0 1 rfl rfl)
theorem dX13_season_2 : decode cX13_season 2 = .ok (.putfield 39, 3) := dk_181 0 39 (dk_at dksX13_season_0 2 rfl rfl)
theorem dX13_season_5 : decode cX13_season 5 = .ok (.aload_n 0, 1) := dk_42 (dk_at dksX13_season_0 5 rfl rfl)
theorem dX13_season_6 : decode cX13_season 6 = .ok (.getfield 367, 3) := dk_180 1 111 (dk_at dksX13_season_0 6 rfl rfl)
theorem dX13_season_9 : decode cX13_season 9 = .ok (.ifnonnull 9, 3) := dk_199 0 9 (dk_at dksX13_season_0 9 rfl rfl)
theorem dX13_season_12 : decode cX13_season 12 = .ok (.aload_n 0, 1) := dk_42 (dk_at dksX13_season_0 12 rfl rfl)
theorem dX13_season_13 : decode cX13_season 13 = .ok (.iconst 1, 1) := dk_4 (dk_at dksX13_season_0 13 rfl rfl)
theorem dX13_season_14 : decode cX13_season 14 = .ok (.invokevirtual 45, 3) := dk_182 0 45 (dk_at dksX13_season_0 14 rfl rfl)
theorem dX13_season_17 : decode cX13_season 17 = .ok (.ireturn, 1) := dk_172 (dk_at dksX13_season_0 17 rfl rfl)
theorem dX13_season_18 : decode cX13_season 18 = .ok (.iload_n 1, 1) := dk_27 (dk_at dksX13_season_0 18 rfl rfl)
theorem dX13_season_19 : decode cX13_season 19 = .ok (.iconst 0, 1) := dk_3 (dk_at dksX13_season_0 19 rfl rfl)
theorem dX13_season_20 : decode cX13_season 20 = .ok (.ldc_w 527, 3) := dk_19 2 15 (dk_at dksX13_season_0 20 rfl rfl)
theorem dX13_season_23 : decode cX13_season 23 = .ok (.invokestatic 118, 3) := dk_184 0 118 (dk_at dksX13_season_1 0 rfl rfl)
theorem dX13_season_26 : decode cX13_season 26 = .ok (.ifCond .ne 9, 3) := dk_154 0 9 (dk_at dksX13_season_1 3 rfl rfl)
theorem dX13_season_29 : decode cX13_season 29 = .ok (.aload_n 0, 1) := dk_42 (dk_at dksX13_season_1 6 rfl rfl)
theorem dX13_season_30 : decode cX13_season 30 = .ok (.iconst 2, 1) := dk_5 (dk_at dksX13_season_1 7 rfl rfl)
theorem dX13_season_31 : decode cX13_season 31 = .ok (.invokevirtual 45, 3) := dk_182 0 45 (dk_at dksX13_season_1 8 rfl rfl)
theorem dX13_season_34 : decode cX13_season 34 = .ok (.ireturn, 1) := dk_172 (dk_at dksX13_season_1 11 rfl rfl)
theorem dX13_season_35 : decode cX13_season 35 = .ok (.aload_n 0, 1) := dk_42 (dk_at dksX13_season_1 12 rfl rfl)
theorem dX13_season_36 : decode cX13_season 36 = .ok (.iload_n 1, 1) := dk_27 (dk_at dksX13_season_1 13 rfl rfl)
theorem dX13_season_37 : decode cX13_season 37 = .ok (.putfield 487, 3) := dk_181 1 231 (dk_at dksX13_season_1 14 rfl rfl)
theorem dX13_season_40 : decode cX13_season 40 = .ok (.aload_n 0, 1) := dk_42 (dk_at dksX13_season_1 17 rfl rfl)
theorem dX13_season_41 : decode cX13_season 41 = .ok (.aload_n 0, 1) := dk_42 (dk_at dksX13_season_1 18 rfl rfl)
theorem dX13_season_42 : decode cX13_season 42 = .ok (.iconst 1, 1) := dk_4 (dk_at dksX13_season_1 19 rfl rfl)
theorem dX13_season_43 : decode cX13_season 43 = .ok (.invokevirtual 502, 3) := dk_182 1 246 (dk_at dksX13_season_1 20 rfl rfl)
theorem dX13_season_46 : decode cX13_season 46 = .ok (.invokevirtual 49, 3) := dk_182 0 49 (dk_at dksX13_season_2 0 rfl rfl)
theorem dX13_season_49 : decode cX13_season 49 = .ok (.ireturn, 1) := dk_172 (dk_at dksX13_season_2 3 rfl rfl)
abbrev cX13_seizedIn : ByteArray := prog_27_method_115_code
def yX13_seizedIn : MethodName := ⟨RX13, "seizedIn", "(III)I"⟩
def dkwX13_seizedIn_4 : List UInt8 := [167, 255, 219, 42, 21, 4, 182, 0, 49, 172]
abbrev dktX13_seizedIn_4 : List UInt8 := dkwX13_seizedIn_4 ++ []
def dkwX13_seizedIn_3 : List UInt8 := [180, 0, 21, 3, 27, 96, 46, 6, 160, 0, 7, 4, 167, 0, 4, 3, 96, 54, 4, 132, 5, 1]
abbrev dktX13_seizedIn_3 : List UInt8 := dkwX13_seizedIn_3 ++ dktX13_seizedIn_4
def dkwX13_seizedIn_2 : List UInt8 := [181, 1, 231, 3, 54, 4, 3, 54, 5, 21, 5, 29, 162, 0, 37, 42, 4, 182, 1, 246, 87, 21, 4, 42]
abbrev dktX13_seizedIn_2 : List UInt8 := dkwX13_seizedIn_2 ++ dktX13_seizedIn_3
def dkwX13_seizedIn_1 : List UInt8 := [184, 0, 118, 153, 0, 13, 29, 4, 16, 50, 184, 0, 118, 154, 0, 9, 42, 5, 182, 0, 45, 172, 42, 28]
abbrev dktX13_seizedIn_1 : List UInt8 := dkwX13_seizedIn_1 ++ dktX13_seizedIn_2
def dkwX13_seizedIn_0 : List UInt8 := [42, 3, 181, 0, 39, 42, 27, 182, 1, 158, 154, 0, 9, 42, 4, 182, 0, 45, 172, 28, 3, 19, 2, 15]
abbrev dktX13_seizedIn_0 : List UInt8 := dkwX13_seizedIn_0 ++ dktX13_seizedIn_1
theorem dksX13_seizedIn_0 : cX13_seizedIn.data.toList.drop 0 = dktX13_seizedIn_0 := by decide +kernel
theorem dksX13_seizedIn_1 : cX13_seizedIn.data.toList.drop 24 = dktX13_seizedIn_1 := dk_seg dksX13_seizedIn_0 24 rfl rfl
theorem dksX13_seizedIn_2 : cX13_seizedIn.data.toList.drop 48 = dktX13_seizedIn_2 := dk_seg dksX13_seizedIn_1 24 rfl rfl
theorem dksX13_seizedIn_3 : cX13_seizedIn.data.toList.drop 72 = dktX13_seizedIn_3 := dk_seg dksX13_seizedIn_2 24 rfl rfl
theorem dksX13_seizedIn_4 : cX13_seizedIn.data.toList.drop 94 = dktX13_seizedIn_4 := dk_seg dksX13_seizedIn_3 22 rfl rfl
theorem dX13_seizedIn_0 : decode cX13_seizedIn 0 = .ok (.aload_n 0, 1) := dk_42 (dk_at dksX13_seizedIn_0 0 rfl rfl)
theorem dX13_seizedIn_1 : decode cX13_seizedIn 1 = .ok (.iconst 0, 1) := dk_3 (dk_at dksX13_seizedIn_0 1 rfl rfl)
theorem dX13_seizedIn_2 : decode cX13_seizedIn 2 = .ok (.putfield 39, 3) := dk_181 0 39 (dk_at dksX13_seizedIn_0 2 rfl rfl)
theorem dX13_seizedIn_5 : decode cX13_seizedIn 5 = .ok (.aload_n 0, 1) := dk_42 (dk_at dksX13_seizedIn_0 5 rfl rfl)
theorem dX13_seizedIn_6 : decode cX13_seizedIn 6 = .ok (.iload_n 1, 1) := dk_27 (dk_at dksX13_seizedIn_0 6 rfl rfl)
theorem dX13_seizedIn_7 : decode cX13_seizedIn 7 = .ok (.invokevirtual 414, 3) := dk_182 1 158 (dk_at dksX13_seizedIn_0 7 rfl rfl)
theorem dX13_seizedIn_10 : decode cX13_seizedIn 10 = .ok (.ifCond .ne 9, 3) := dk_154 0 9 (dk_at dksX13_seizedIn_0 10 rfl rfl)
theorem dX13_seizedIn_13 : decode cX13_seizedIn 13 = .ok (.aload_n 0, 1) := dk_42 (dk_at dksX13_seizedIn_0 13 rfl rfl)
theorem dX13_seizedIn_14 : decode cX13_seizedIn 14 = .ok (.iconst 1, 1) := dk_4 (dk_at dksX13_seizedIn_0 14 rfl rfl)
theorem dX13_seizedIn_15 : decode cX13_seizedIn 15 = .ok (.invokevirtual 45, 3) := dk_182 0 45 (dk_at dksX13_seizedIn_0 15 rfl rfl)
theorem dX13_seizedIn_18 : decode cX13_seizedIn 18 = .ok (.ireturn, 1) := dk_172 (dk_at dksX13_seizedIn_0 18 rfl rfl)
theorem dX13_seizedIn_19 : decode cX13_seizedIn 19 = .ok (.iload_n 2, 1) := dk_28 (dk_at dksX13_seizedIn_0 19 rfl rfl)
theorem dX13_seizedIn_20 : decode cX13_seizedIn 20 = .ok (.iconst 0, 1) := dk_3 (dk_at dksX13_seizedIn_0 20 rfl rfl)
theorem dX13_seizedIn_21 : decode cX13_seizedIn 21 = .ok (.ldc_w 527, 3) := dk_19 2 15 (dk_at dksX13_seizedIn_0 21 rfl rfl)
theorem dX13_seizedIn_24 : decode cX13_seizedIn 24 = .ok (.invokestatic 118, 3) := dk_184 0 118 (dk_at dksX13_seizedIn_1 0 rfl rfl)
theorem dX13_seizedIn_27 : decode cX13_seizedIn 27 = .ok (.ifCond .eq 13, 3) := dk_153 0 13 (dk_at dksX13_seizedIn_1 3 rfl rfl)
theorem dX13_seizedIn_30 : decode cX13_seizedIn 30 = .ok (.iload_n 3, 1) := dk_29 (dk_at dksX13_seizedIn_1 6 rfl rfl)
theorem dX13_seizedIn_31 : decode cX13_seizedIn 31 = .ok (.iconst 1, 1) := dk_4 (dk_at dksX13_seizedIn_1 7 rfl rfl)
theorem dX13_seizedIn_32 : decode cX13_seizedIn 32 = .ok (.bipush 50, 2) := dk_16 50 (dk_at dksX13_seizedIn_1 8 rfl rfl)
theorem dX13_seizedIn_34 : decode cX13_seizedIn 34 = .ok (.invokestatic 118, 3) := dk_184 0 118 (dk_at dksX13_seizedIn_1 10 rfl rfl)
theorem dX13_seizedIn_37 : decode cX13_seizedIn 37 = .ok (.ifCond .ne 9, 3) := dk_154 0 9 (dk_at dksX13_seizedIn_1 13 rfl rfl)
theorem dX13_seizedIn_40 : decode cX13_seizedIn 40 = .ok (.aload_n 0, 1) := dk_42 (dk_at dksX13_seizedIn_1 16 rfl rfl)
theorem dX13_seizedIn_41 : decode cX13_seizedIn 41 = .ok (.iconst 2, 1) := dk_5 (dk_at dksX13_seizedIn_1 17 rfl rfl)
theorem dX13_seizedIn_42 : decode cX13_seizedIn 42 = .ok (.invokevirtual 45, 3) := dk_182 0 45 (dk_at dksX13_seizedIn_1 18 rfl rfl)
theorem dX13_seizedIn_45 : decode cX13_seizedIn 45 = .ok (.ireturn, 1) := dk_172 (dk_at dksX13_seizedIn_1 21 rfl rfl)
theorem dX13_seizedIn_46 : decode cX13_seizedIn 46 = .ok (.aload_n 0, 1) := dk_42 (dk_at dksX13_seizedIn_1 22 rfl rfl)
theorem dX13_seizedIn_47 : decode cX13_seizedIn 47 = .ok (.iload_n 2, 1) := dk_28 (dk_at dksX13_seizedIn_1 23 rfl rfl)
theorem dX13_seizedIn_48 : decode cX13_seizedIn 48 = .ok (.putfield 487, 3) := dk_181 1 231 (dk_at dksX13_seizedIn_2 0 rfl rfl)
theorem dX13_seizedIn_51 : decode cX13_seizedIn 51 = .ok (.iconst 0, 1) := dk_3 (dk_at dksX13_seizedIn_2 3 rfl rfl)
theorem dX13_seizedIn_52 : decode cX13_seizedIn 52 = .ok (.istore 4, 2) := dk_54 4 (dk_at dksX13_seizedIn_2 4 rfl rfl)
theorem dX13_seizedIn_54 : decode cX13_seizedIn 54 = .ok (.iconst 0, 1) := dk_3 (dk_at dksX13_seizedIn_2 6 rfl rfl)
theorem dX13_seizedIn_55 : decode cX13_seizedIn 55 = .ok (.istore 5, 2) := dk_54 5 (dk_at dksX13_seizedIn_2 7 rfl rfl)
theorem dX13_seizedIn_57 : decode cX13_seizedIn 57 = .ok (.iload 5, 2) := dk_21 5 (dk_at dksX13_seizedIn_2 9 rfl rfl)
theorem dX13_seizedIn_59 : decode cX13_seizedIn 59 = .ok (.iload_n 3, 1) := dk_29 (dk_at dksX13_seizedIn_2 11 rfl rfl)
theorem dX13_seizedIn_60 : decode cX13_seizedIn 60 = .ok (.if_icmp .ge 37, 3) := dk_162 0 37 (dk_at dksX13_seizedIn_2 12 rfl rfl)
theorem dX13_seizedIn_63 : decode cX13_seizedIn 63 = .ok (.aload_n 0, 1) := dk_42 (dk_at dksX13_seizedIn_2 15 rfl rfl)
theorem dX13_seizedIn_64 : decode cX13_seizedIn 64 = .ok (.iconst 1, 1) := dk_4 (dk_at dksX13_seizedIn_2 16 rfl rfl)
theorem dX13_seizedIn_65 : decode cX13_seizedIn 65 = .ok (.invokevirtual 502, 3) := dk_182 1 246 (dk_at dksX13_seizedIn_2 17 rfl rfl)
theorem dX13_seizedIn_68 : decode cX13_seizedIn 68 = .ok (.pop, 1) := dk_87 (dk_at dksX13_seizedIn_2 20 rfl rfl)
theorem dX13_seizedIn_69 : decode cX13_seizedIn 69 = .ok (.iload 4, 2) := dk_21 4 (dk_at dksX13_seizedIn_2 21 rfl rfl)
theorem dX13_seizedIn_71 : decode cX13_seizedIn 71 = .ok (.aload_n 0, 1) := dk_42 (dk_at dksX13_seizedIn_2 23 rfl rfl)
theorem dX13_seizedIn_72 : decode cX13_seizedIn 72 = .ok (.getfield 21, 3) := dk_180 0 21 (dk_at dksX13_seizedIn_3 0 rfl rfl)
theorem dX13_seizedIn_75 : decode cX13_seizedIn 75 = .ok (.iconst 0, 1) := dk_3 (dk_at dksX13_seizedIn_3 3 rfl rfl)
theorem dX13_seizedIn_76 : decode cX13_seizedIn 76 = .ok (.iload_n 1, 1) := dk_27 (dk_at dksX13_seizedIn_3 4 rfl rfl)
theorem dX13_seizedIn_77 : decode cX13_seizedIn 77 = .ok (.iadd, 1) := dk_96 (dk_at dksX13_seizedIn_3 5 rfl rfl)
theorem dX13_seizedIn_78 : decode cX13_seizedIn 78 = .ok (.iaload, 1) := dk_46 (dk_at dksX13_seizedIn_3 6 rfl rfl)
theorem dX13_seizedIn_79 : decode cX13_seizedIn 79 = .ok (.iconst 3, 1) := dk_6 (dk_at dksX13_seizedIn_3 7 rfl rfl)
theorem dX13_seizedIn_80 : decode cX13_seizedIn 80 = .ok (.if_icmp .ne 7, 3) := dk_160 0 7 (dk_at dksX13_seizedIn_3 8 rfl rfl)
theorem dX13_seizedIn_83 : decode cX13_seizedIn 83 = .ok (.iconst 1, 1) := dk_4 (dk_at dksX13_seizedIn_3 11 rfl rfl)
theorem dX13_seizedIn_84 : decode cX13_seizedIn 84 = .ok (.goto 4, 3) := dk_167 0 4 (dk_at dksX13_seizedIn_3 12 rfl rfl)
theorem dX13_seizedIn_87 : decode cX13_seizedIn 87 = .ok (.iconst 0, 1) := dk_3 (dk_at dksX13_seizedIn_3 15 rfl rfl)
theorem dX13_seizedIn_88 : decode cX13_seizedIn 88 = .ok (.iadd, 1) := dk_96 (dk_at dksX13_seizedIn_3 16 rfl rfl)
theorem dX13_seizedIn_89 : decode cX13_seizedIn 89 = .ok (.istore 4, 2) := dk_54 4 (dk_at dksX13_seizedIn_3 17 rfl rfl)
theorem dX13_seizedIn_91 : decode cX13_seizedIn 91 = .ok (.iinc 5 1, 3) := dk_132 5 1 (dk_at dksX13_seizedIn_3 19 rfl rfl)
theorem dX13_seizedIn_94 : decode cX13_seizedIn 94 = .ok (.goto (-37), 3) := dk_167 255 219 (dk_at dksX13_seizedIn_4 0 rfl rfl)
theorem dX13_seizedIn_97 : decode cX13_seizedIn 97 = .ok (.aload_n 0, 1) := dk_42 (dk_at dksX13_seizedIn_4 3 rfl rfl)
theorem dX13_seizedIn_98 : decode cX13_seizedIn 98 = .ok (.iload 4, 2) := dk_21 4 (dk_at dksX13_seizedIn_4 4 rfl rfl)
theorem dX13_seizedIn_100 : decode cX13_seizedIn 100 = .ok (.invokevirtual 49, 3) := dk_182 0 49 (dk_at dksX13_seizedIn_4 6 rfl rfl)
theorem dX13_seizedIn_103 : decode cX13_seizedIn 103 = .ok (.ireturn, 1) := dk_172 (dk_at dksX13_seizedIn_4 9 rfl rfl)
abbrev cX13_eat : ByteArray := prog_27_method_117_code
def yX13_eat : MethodName := ⟨RX13, "eat", "(I)Z"⟩
def dkwX13_eat_4 : List UInt8 := [172]
abbrev dktX13_eat_4 : List UInt8 := dkwX13_eat_4 ++ []
def dkwX13_eat_3 : List UInt8 := [180, 0, 17, 16, 8, 42, 180, 1, 111, 180, 1, 49, 27, 46, 96, 92, 46, 4, 100, 79, 42, 182, 2, 22]
abbrev dktX13_eat_3 : List UInt8 := dkwX13_eat_3 ++ dktX13_eat_4
def dkwX13_eat_2 : List UInt8 := [154, 0, 9, 42, 8, 182, 2, 16, 172, 42, 182, 2, 19, 42, 180, 0, 17, 3, 27, 96, 4, 79, 42]
abbrev dktX13_eat_2 : List UInt8 := dkwX13_eat_2 ++ dktX13_eat_3
def dkwX13_eat_1 : List UInt8 := [27, 96, 46, 154, 0, 23, 42, 180, 0, 17, 16, 8, 42, 180, 1, 111, 180, 1, 49, 27, 46, 96, 46]
abbrev dktX13_eat_1 : List UInt8 := dkwX13_eat_1 ++ dktX13_eat_2
def dkwX13_eat_0 : List UInt8 := [42, 3, 181, 0, 39, 42, 27, 182, 1, 158, 154, 0, 9, 42, 4, 182, 2, 16, 172, 42, 180, 0, 17, 3]
abbrev dktX13_eat_0 : List UInt8 := dkwX13_eat_0 ++ dktX13_eat_1
theorem dksX13_eat_0 : cX13_eat.data.toList.drop 0 = dktX13_eat_0 := by decide +kernel
theorem dksX13_eat_1 : cX13_eat.data.toList.drop 24 = dktX13_eat_1 := dk_seg dksX13_eat_0 24 rfl rfl
theorem dksX13_eat_2 : cX13_eat.data.toList.drop 47 = dktX13_eat_2 := dk_seg dksX13_eat_1 23 rfl rfl
theorem dksX13_eat_3 : cX13_eat.data.toList.drop 70 = dktX13_eat_3 := dk_seg dksX13_eat_2 23 rfl rfl
theorem dksX13_eat_4 : cX13_eat.data.toList.drop 94 = dktX13_eat_4 := dk_seg dksX13_eat_3 24 rfl rfl
theorem dX13_eat_0 : decode cX13_eat 0 = .ok (.aload_n 0, 1) := dk_42 (dk_at dksX13_eat_0 0 rfl rfl)
theorem dX13_eat_1 : decode cX13_eat 1 = .ok (.iconst 0, 1) := dk_3 (dk_at dksX13_eat_0 1 rfl rfl)
theorem dX13_eat_2 : decode cX13_eat 2 = .ok (.putfield 39, 3) := dk_181 0 39 (dk_at dksX13_eat_0 2 rfl rfl)
theorem dX13_eat_5 : decode cX13_eat 5 = .ok (.aload_n 0, 1) := dk_42 (dk_at dksX13_eat_0 5 rfl rfl)
theorem dX13_eat_6 : decode cX13_eat 6 = .ok (.iload_n 1, 1) := dk_27 (dk_at dksX13_eat_0 6 rfl rfl)
theorem dX13_eat_7 : decode cX13_eat 7 = .ok (.invokevirtual 414, 3) := dk_182 1 158 (dk_at dksX13_eat_0 7 rfl rfl)
theorem dX13_eat_10 : decode cX13_eat 10 = .ok (.ifCond .ne 9, 3) := dk_154 0 9 (dk_at dksX13_eat_0 10 rfl rfl)
theorem dX13_eat_13 : decode cX13_eat 13 = .ok (.aload_n 0, 1) := dk_42 (dk_at dksX13_eat_0 13 rfl rfl)
theorem dX13_eat_14 : decode cX13_eat 14 = .ok (.iconst 1, 1) := dk_4 (dk_at dksX13_eat_0 14 rfl rfl)
theorem dX13_eat_15 : decode cX13_eat 15 = .ok (.invokevirtual 528, 3) := dk_182 2 16 (dk_at dksX13_eat_0 15 rfl rfl)
theorem dX13_eat_18 : decode cX13_eat 18 = .ok (.ireturn, 1) := dk_172 (dk_at dksX13_eat_0 18 rfl rfl)
theorem dX13_eat_19 : decode cX13_eat 19 = .ok (.aload_n 0, 1) := dk_42 (dk_at dksX13_eat_0 19 rfl rfl)
theorem dX13_eat_20 : decode cX13_eat 20 = .ok (.getfield 17, 3) := dk_180 0 17 (dk_at dksX13_eat_0 20 rfl rfl)
theorem dX13_eat_23 : decode cX13_eat 23 = .ok (.iconst 0, 1) := dk_3 (dk_at dksX13_eat_0 23 rfl rfl)
theorem dX13_eat_24 : decode cX13_eat 24 = .ok (.iload_n 1, 1) := dk_27 (dk_at dksX13_eat_1 0 rfl rfl)
theorem dX13_eat_25 : decode cX13_eat 25 = .ok (.iadd, 1) := dk_96 (dk_at dksX13_eat_1 1 rfl rfl)
theorem dX13_eat_26 : decode cX13_eat 26 = .ok (.iaload, 1) := dk_46 (dk_at dksX13_eat_1 2 rfl rfl)
theorem dX13_eat_27 : decode cX13_eat 27 = .ok (.ifCond .ne 23, 3) := dk_154 0 23 (dk_at dksX13_eat_1 3 rfl rfl)
theorem dX13_eat_30 : decode cX13_eat 30 = .ok (.aload_n 0, 1) := dk_42 (dk_at dksX13_eat_1 6 rfl rfl)
theorem dX13_eat_31 : decode cX13_eat 31 = .ok (.getfield 17, 3) := dk_180 0 17 (dk_at dksX13_eat_1 7 rfl rfl)
theorem dX13_eat_34 : decode cX13_eat 34 = .ok (.bipush 8, 2) := dk_16 8 (dk_at dksX13_eat_1 10 rfl rfl)
theorem dX13_eat_36 : decode cX13_eat 36 = .ok (.aload_n 0, 1) := dk_42 (dk_at dksX13_eat_1 12 rfl rfl)
theorem dX13_eat_37 : decode cX13_eat 37 = .ok (.getfield 367, 3) := dk_180 1 111 (dk_at dksX13_eat_1 13 rfl rfl)
theorem dX13_eat_40 : decode cX13_eat 40 = .ok (.getfield 305, 3) := dk_180 1 49 (dk_at dksX13_eat_1 16 rfl rfl)
theorem dX13_eat_43 : decode cX13_eat 43 = .ok (.iload_n 1, 1) := dk_27 (dk_at dksX13_eat_1 19 rfl rfl)
theorem dX13_eat_44 : decode cX13_eat 44 = .ok (.iaload, 1) := dk_46 (dk_at dksX13_eat_1 20 rfl rfl)
theorem dX13_eat_45 : decode cX13_eat 45 = .ok (.iadd, 1) := dk_96 (dk_at dksX13_eat_1 21 rfl rfl)
theorem dX13_eat_46 : decode cX13_eat 46 = .ok (.iaload, 1) := dk_46 (dk_at dksX13_eat_1 22 rfl rfl)
theorem dX13_eat_47 : decode cX13_eat 47 = .ok (.ifCond .ne 9, 3) := dk_154 0 9 (dk_at dksX13_eat_2 0 rfl rfl)
theorem dX13_eat_50 : decode cX13_eat 50 = .ok (.aload_n 0, 1) := dk_42 (dk_at dksX13_eat_2 3 rfl rfl)
theorem dX13_eat_51 : decode cX13_eat 51 = .ok (.iconst 5, 1) := dk_8 (dk_at dksX13_eat_2 4 rfl rfl)
theorem dX13_eat_52 : decode cX13_eat 52 = .ok (.invokevirtual 528, 3) := dk_182 2 16 (dk_at dksX13_eat_2 5 rfl rfl)
theorem dX13_eat_55 : decode cX13_eat 55 = .ok (.ireturn, 1) := dk_172 (dk_at dksX13_eat_2 8 rfl rfl)
theorem dX13_eat_56 : decode cX13_eat 56 = .ok (.aload_n 0, 1) := dk_42 (dk_at dksX13_eat_2 9 rfl rfl)
theorem dX13_eat_57 : decode cX13_eat 57 = .ok (.invokevirtual 531, 3) := dk_182 2 19 (dk_at dksX13_eat_2 10 rfl rfl)
theorem dX13_eat_60 : decode cX13_eat 60 = .ok (.aload_n 0, 1) := dk_42 (dk_at dksX13_eat_2 13 rfl rfl)
theorem dX13_eat_61 : decode cX13_eat 61 = .ok (.getfield 17, 3) := dk_180 0 17 (dk_at dksX13_eat_2 14 rfl rfl)
theorem dX13_eat_64 : decode cX13_eat 64 = .ok (.iconst 0, 1) := dk_3 (dk_at dksX13_eat_2 17 rfl rfl)
theorem dX13_eat_65 : decode cX13_eat 65 = .ok (.iload_n 1, 1) := dk_27 (dk_at dksX13_eat_2 18 rfl rfl)
theorem dX13_eat_66 : decode cX13_eat 66 = .ok (.iadd, 1) := dk_96 (dk_at dksX13_eat_2 19 rfl rfl)
theorem dX13_eat_67 : decode cX13_eat 67 = .ok (.iconst 1, 1) := dk_4 (dk_at dksX13_eat_2 20 rfl rfl)
theorem dX13_eat_68 : decode cX13_eat 68 = .ok (.iastore, 1) := dk_79 (dk_at dksX13_eat_2 21 rfl rfl)
theorem dX13_eat_69 : decode cX13_eat 69 = .ok (.aload_n 0, 1) := dk_42 (dk_at dksX13_eat_2 22 rfl rfl)
theorem dX13_eat_70 : decode cX13_eat 70 = .ok (.getfield 17, 3) := dk_180 0 17 (dk_at dksX13_eat_3 0 rfl rfl)
theorem dX13_eat_73 : decode cX13_eat 73 = .ok (.bipush 8, 2) := dk_16 8 (dk_at dksX13_eat_3 3 rfl rfl)
theorem dX13_eat_75 : decode cX13_eat 75 = .ok (.aload_n 0, 1) := dk_42 (dk_at dksX13_eat_3 5 rfl rfl)
theorem dX13_eat_76 : decode cX13_eat 76 = .ok (.getfield 367, 3) := dk_180 1 111 (dk_at dksX13_eat_3 6 rfl rfl)
theorem dX13_eat_79 : decode cX13_eat 79 = .ok (.getfield 305, 3) := dk_180 1 49 (dk_at dksX13_eat_3 9 rfl rfl)
theorem dX13_eat_82 : decode cX13_eat 82 = .ok (.iload_n 1, 1) := dk_27 (dk_at dksX13_eat_3 12 rfl rfl)
theorem dX13_eat_83 : decode cX13_eat 83 = .ok (.iaload, 1) := dk_46 (dk_at dksX13_eat_3 13 rfl rfl)
theorem dX13_eat_84 : decode cX13_eat 84 = .ok (.iadd, 1) := dk_96 (dk_at dksX13_eat_3 14 rfl rfl)
theorem dX13_eat_85 : decode cX13_eat 85 = .ok (.dup2, 1) := dk_92 (dk_at dksX13_eat_3 15 rfl rfl)
theorem dX13_eat_86 : decode cX13_eat 86 = .ok (.iaload, 1) := dk_46 (dk_at dksX13_eat_3 16 rfl rfl)
theorem dX13_eat_87 : decode cX13_eat 87 = .ok (.iconst 1, 1) := dk_4 (dk_at dksX13_eat_3 17 rfl rfl)
theorem dX13_eat_88 : decode cX13_eat 88 = .ok (.isub, 1) := dk_100 (dk_at dksX13_eat_3 18 rfl rfl)
theorem dX13_eat_89 : decode cX13_eat 89 = .ok (.iastore, 1) := dk_79 (dk_at dksX13_eat_3 19 rfl rfl)
theorem dX13_eat_90 : decode cX13_eat 90 = .ok (.aload_n 0, 1) := dk_42 (dk_at dksX13_eat_3 20 rfl rfl)
theorem dX13_eat_91 : decode cX13_eat 91 = .ok (.invokevirtual 534, 3) := dk_182 2 22 (dk_at dksX13_eat_3 21 rfl rfl)
theorem dX13_eat_94 : decode cX13_eat 94 = .ok (.ireturn, 1) := dk_172 (dk_at dksX13_eat_4 0 rfl rfl)
abbrev cX13_denied : ByteArray := prog_27_method_5_code
def yX13_denied : MethodName := ⟨RX13, "denied", "(I)Z"⟩
def dkwX13_denied_0 : List UInt8 := [42, 27, 182, 0, 45, 87, 3, 172]
abbrev dktX13_denied_0 : List UInt8 := dkwX13_denied_0 ++ []
theorem dksX13_denied_0 : cX13_denied.data.toList.drop 0 = dktX13_denied_0 := by decide +kernel
theorem dX13_denied_0 : decode cX13_denied 0 = .ok (.aload_n 0, 1) := dk_42 (dk_at dksX13_denied_0 0 rfl rfl)
theorem dX13_denied_1 : decode cX13_denied 1 = .ok (.iload_n 1, 1) := dk_27 (dk_at dksX13_denied_0 1 rfl rfl)
theorem dX13_denied_2 : decode cX13_denied 2 = .ok (.invokevirtual 45, 3) := dk_182 0 45 (dk_at dksX13_denied_0 2 rfl rfl)
theorem dX13_denied_5 : decode cX13_denied 5 = .ok (.pop, 1) := dk_87 (dk_at dksX13_denied_0 5 rfl rfl)
theorem dX13_denied_6 : decode cX13_denied 6 = .ok (.iconst 0, 1) := dk_3 (dk_at dksX13_denied_0 6 rfl rfl)
theorem dX13_denied_7 : decode cX13_denied 7 = .ok (.ireturn, 1) := dk_172 (dk_at dksX13_denied_0 7 rfl rfl)
abbrev cX13_remembers : ByteArray := prog_27_method_116_code
def yX13_remembers : MethodName := ⟨RX13, "remembers", "()V"⟩
def dkwX13_remembers_3 : List UInt8 := [42, 180, 0, 17, 27, 46, 79, 132, 1, 1, 167, 255, 227, 42, 89, 180, 1, 117, 4, 96, 181, 1, 117, 177]
abbrev dktX13_remembers_3 : List UInt8 := dkwX13_remembers_3 ++ []
def dkwX13_remembers_2 : List UInt8 := [181, 1, 117, 3, 60, 27, 16, 18, 162, 0, 29, 42, 180, 0, 24, 16, 18, 42, 180, 1, 117, 104, 27, 96]
abbrev dktX13_remembers_2 : List UInt8 := dkwX13_remembers_2 ++ dktX13_remembers_3
def dkwX13_remembers_1 : List UInt8 := [180, 0, 24, 27, 16, 18, 96, 46, 79, 132, 1, 1, 167, 255, 231, 42, 89, 180, 1, 117, 4, 100]
abbrev dktX13_remembers_1 : List UInt8 := dkwX13_remembers_1 ++ dktX13_remembers_2
def dkwX13_remembers_0 : List UInt8 := [42, 180, 1, 117, 16, 16, 160, 0, 43, 3, 60, 27, 17, 1, 14, 162, 0, 24, 42, 180, 0, 24, 27, 42]
abbrev dktX13_remembers_0 : List UInt8 := dkwX13_remembers_0 ++ dktX13_remembers_1
theorem dksX13_remembers_0 : cX13_remembers.data.toList.drop 0 = dktX13_remembers_0 := by decide +kernel
theorem dksX13_remembers_1 : cX13_remembers.data.toList.drop 24 = dktX13_remembers_1 := dk_seg dksX13_remembers_0 24 rfl rfl
theorem dksX13_remembers_2 : cX13_remembers.data.toList.drop 46 = dktX13_remembers_2 := dk_seg dksX13_remembers_1 22 rfl rfl
theorem dksX13_remembers_3 : cX13_remembers.data.toList.drop 70 = dktX13_remembers_3 := dk_seg dksX13_remembers_2 24 rfl rfl
theorem dX13_remembers_0 : decode cX13_remembers 0 = .ok (.aload_n 0, 1) := dk_42 (dk_at dksX13_remembers_0 0 rfl rfl)
theorem dX13_remembers_1 : decode cX13_remembers 1 = .ok (.getfield 373, 3) := dk_180 1 117 (dk_at dksX13_remembers_0 1 rfl rfl)
theorem dX13_remembers_4 : decode cX13_remembers 4 = .ok (.bipush 16, 2) := dk_16 16 (dk_at dksX13_remembers_0 4 rfl rfl)
theorem dX13_remembers_6 : decode cX13_remembers 6 = .ok (.if_icmp .ne 43, 3) := dk_160 0 43 (dk_at dksX13_remembers_0 6 rfl rfl)
theorem dX13_remembers_9 : decode cX13_remembers 9 = .ok (.iconst 0, 1) := dk_3 (dk_at dksX13_remembers_0 9 rfl rfl)
theorem dX13_remembers_10 : decode cX13_remembers 10 = .ok (.istore_n 1, 1) := dk_60 (dk_at dksX13_remembers_0 10 rfl rfl)
theorem dX13_remembers_11 : decode cX13_remembers 11 = .ok (.iload_n 1, 1) := dk_27 (dk_at dksX13_remembers_0 11 rfl rfl)
theorem dX13_remembers_12 : decode cX13_remembers 12 = .ok (.sipush 270, 3) := dk_17 1 14 (dk_at dksX13_remembers_0 12 rfl rfl)
theorem dX13_remembers_15 : decode cX13_remembers 15 = .ok (.if_icmp .ge 24, 3) := dk_162 0 24 (dk_at dksX13_remembers_0 15 rfl rfl)
theorem dX13_remembers_18 : decode cX13_remembers 18 = .ok (.aload_n 0, 1) := dk_42 (dk_at dksX13_remembers_0 18 rfl rfl)
theorem dX13_remembers_19 : decode cX13_remembers 19 = .ok (.getfield 24, 3) := dk_180 0 24 (dk_at dksX13_remembers_0 19 rfl rfl)
theorem dX13_remembers_22 : decode cX13_remembers 22 = .ok (.iload_n 1, 1) := dk_27 (dk_at dksX13_remembers_0 22 rfl rfl)
theorem dX13_remembers_23 : decode cX13_remembers 23 = .ok (.aload_n 0, 1) := dk_42 (dk_at dksX13_remembers_0 23 rfl rfl)
theorem dX13_remembers_24 : decode cX13_remembers 24 = .ok (.getfield 24, 3) := dk_180 0 24 (dk_at dksX13_remembers_1 0 rfl rfl)
theorem dX13_remembers_27 : decode cX13_remembers 27 = .ok (.iload_n 1, 1) := dk_27 (dk_at dksX13_remembers_1 3 rfl rfl)
theorem dX13_remembers_28 : decode cX13_remembers 28 = .ok (.bipush 18, 2) := dk_16 18 (dk_at dksX13_remembers_1 4 rfl rfl)
theorem dX13_remembers_30 : decode cX13_remembers 30 = .ok (.iadd, 1) := dk_96 (dk_at dksX13_remembers_1 6 rfl rfl)
theorem dX13_remembers_31 : decode cX13_remembers 31 = .ok (.iaload, 1) := dk_46 (dk_at dksX13_remembers_1 7 rfl rfl)
theorem dX13_remembers_32 : decode cX13_remembers 32 = .ok (.iastore, 1) := dk_79 (dk_at dksX13_remembers_1 8 rfl rfl)
theorem dX13_remembers_33 : decode cX13_remembers 33 = .ok (.iinc 1 1, 3) := dk_132 1 1 (dk_at dksX13_remembers_1 9 rfl rfl)
theorem dX13_remembers_36 : decode cX13_remembers 36 = .ok (.goto (-25), 3) := dk_167 255 231 (dk_at dksX13_remembers_1 12 rfl rfl)
theorem dX13_remembers_39 : decode cX13_remembers 39 = .ok (.aload_n 0, 1) := dk_42 (dk_at dksX13_remembers_1 15 rfl rfl)
theorem dX13_remembers_40 : decode cX13_remembers 40 = .ok (.dup, 1) := dk_89 (dk_at dksX13_remembers_1 16 rfl rfl)
theorem dX13_remembers_41 : decode cX13_remembers 41 = .ok (.getfield 373, 3) := dk_180 1 117 (dk_at dksX13_remembers_1 17 rfl rfl)
theorem dX13_remembers_44 : decode cX13_remembers 44 = .ok (.iconst 1, 1) := dk_4 (dk_at dksX13_remembers_1 20 rfl rfl)
theorem dX13_remembers_45 : decode cX13_remembers 45 = .ok (.isub, 1) := dk_100 (dk_at dksX13_remembers_1 21 rfl rfl)
theorem dX13_remembers_46 : decode cX13_remembers 46 = .ok (.putfield 373, 3) := dk_181 1 117 (dk_at dksX13_remembers_2 0 rfl rfl)
theorem dX13_remembers_49 : decode cX13_remembers 49 = .ok (.iconst 0, 1) := dk_3 (dk_at dksX13_remembers_2 3 rfl rfl)
theorem dX13_remembers_50 : decode cX13_remembers 50 = .ok (.istore_n 1, 1) := dk_60 (dk_at dksX13_remembers_2 4 rfl rfl)
theorem dX13_remembers_51 : decode cX13_remembers 51 = .ok (.iload_n 1, 1) := dk_27 (dk_at dksX13_remembers_2 5 rfl rfl)
theorem dX13_remembers_52 : decode cX13_remembers 52 = .ok (.bipush 18, 2) := dk_16 18 (dk_at dksX13_remembers_2 6 rfl rfl)
theorem dX13_remembers_54 : decode cX13_remembers 54 = .ok (.if_icmp .ge 29, 3) := dk_162 0 29 (dk_at dksX13_remembers_2 8 rfl rfl)
theorem dX13_remembers_57 : decode cX13_remembers 57 = .ok (.aload_n 0, 1) := dk_42 (dk_at dksX13_remembers_2 11 rfl rfl)
theorem dX13_remembers_58 : decode cX13_remembers 58 = .ok (.getfield 24, 3) := dk_180 0 24 (dk_at dksX13_remembers_2 12 rfl rfl)
theorem dX13_remembers_61 : decode cX13_remembers 61 = .ok (.bipush 18, 2) := dk_16 18 (dk_at dksX13_remembers_2 15 rfl rfl)
theorem dX13_remembers_63 : decode cX13_remembers 63 = .ok (.aload_n 0, 1) := dk_42 (dk_at dksX13_remembers_2 17 rfl rfl)
theorem dX13_remembers_64 : decode cX13_remembers 64 = .ok (.getfield 373, 3) := dk_180 1 117 (dk_at dksX13_remembers_2 18 rfl rfl)
theorem dX13_remembers_67 : decode cX13_remembers 67 = .ok (.imul, 1) := dk_104 (dk_at dksX13_remembers_2 21 rfl rfl)
theorem dX13_remembers_68 : decode cX13_remembers 68 = .ok (.iload_n 1, 1) := dk_27 (dk_at dksX13_remembers_2 22 rfl rfl)
theorem dX13_remembers_69 : decode cX13_remembers 69 = .ok (.iadd, 1) := dk_96 (dk_at dksX13_remembers_2 23 rfl rfl)
theorem dX13_remembers_70 : decode cX13_remembers 70 = .ok (.aload_n 0, 1) := dk_42 (dk_at dksX13_remembers_3 0 rfl rfl)
theorem dX13_remembers_71 : decode cX13_remembers 71 = .ok (.getfield 17, 3) := dk_180 0 17 (dk_at dksX13_remembers_3 1 rfl rfl)
theorem dX13_remembers_74 : decode cX13_remembers 74 = .ok (.iload_n 1, 1) := dk_27 (dk_at dksX13_remembers_3 4 rfl rfl)
theorem dX13_remembers_75 : decode cX13_remembers 75 = .ok (.iaload, 1) := dk_46 (dk_at dksX13_remembers_3 5 rfl rfl)
theorem dX13_remembers_76 : decode cX13_remembers 76 = .ok (.iastore, 1) := dk_79 (dk_at dksX13_remembers_3 6 rfl rfl)
theorem dX13_remembers_77 : decode cX13_remembers 77 = .ok (.iinc 1 1, 3) := dk_132 1 1 (dk_at dksX13_remembers_3 7 rfl rfl)
theorem dX13_remembers_80 : decode cX13_remembers 80 = .ok (.goto (-29), 3) := dk_167 255 227 (dk_at dksX13_remembers_3 10 rfl rfl)
theorem dX13_remembers_83 : decode cX13_remembers 83 = .ok (.aload_n 0, 1) := dk_42 (dk_at dksX13_remembers_3 13 rfl rfl)
theorem dX13_remembers_84 : decode cX13_remembers 84 = .ok (.dup, 1) := dk_89 (dk_at dksX13_remembers_3 14 rfl rfl)
theorem dX13_remembers_85 : decode cX13_remembers 85 = .ok (.getfield 373, 3) := dk_180 1 117 (dk_at dksX13_remembers_3 15 rfl rfl)
theorem dX13_remembers_88 : decode cX13_remembers 88 = .ok (.iconst 1, 1) := dk_4 (dk_at dksX13_remembers_3 18 rfl rfl)
theorem dX13_remembers_89 : decode cX13_remembers 89 = .ok (.iadd, 1) := dk_96 (dk_at dksX13_remembers_3 19 rfl rfl)
theorem dX13_remembers_90 : decode cX13_remembers 90 = .ok (.putfield 373, 3) := dk_181 1 117 (dk_at dksX13_remembers_3 20 rfl rfl)
theorem dX13_remembers_93 : decode cX13_remembers 93 = .ok (.return_, 1) := dk_177 (dk_at dksX13_remembers_3 23 rfl rfl)
abbrev cX13_granted : ByteArray := prog_27_method_7_code
def yX13_granted : MethodName := ⟨RX13, "granted", "()Z"⟩
def dkwX13_granted_0 : List UInt8 := [42, 3, 182, 0, 49, 87, 4, 172]
abbrev dktX13_granted_0 : List UInt8 := dkwX13_granted_0 ++ []
theorem dksX13_granted_0 : cX13_granted.data.toList.drop 0 = dktX13_granted_0 := by decide +kernel
theorem dX13_granted_0 : decode cX13_granted 0 = .ok (.aload_n 0, 1) := dk_42 (dk_at dksX13_granted_0 0 rfl rfl)
theorem dX13_granted_1 : decode cX13_granted 1 = .ok (.iconst 0, 1) := dk_3 (dk_at dksX13_granted_0 1 rfl rfl)
theorem dX13_granted_2 : decode cX13_granted 2 = .ok (.invokevirtual 49, 3) := dk_182 0 49 (dk_at dksX13_granted_0 2 rfl rfl)
theorem dX13_granted_5 : decode cX13_granted 5 = .ok (.pop, 1) := dk_87 (dk_at dksX13_granted_0 5 rfl rfl)
theorem dX13_granted_6 : decode cX13_granted 6 = .ok (.iconst 1, 1) := dk_4 (dk_at dksX13_granted_0 6 rfl rfl)
theorem dX13_granted_7 : decode cX13_granted 7 = .ok (.ireturn, 1) := dk_172 (dk_at dksX13_granted_0 7 rfl rfl)
abbrev cX13_hide : ByteArray := prog_27_method_118_code
def yX13_hide : MethodName := ⟨RX13, "hide", "(IZ)Z"⟩
def dkwX13_hide_2 : List UInt8 := [172, 42, 182, 2, 19, 42, 180, 0, 17, 16, 16, 92, 46, 4, 27, 120, 130, 79, 42, 182, 2, 22, 172]
abbrev dktX13_hide_2 : List UInt8 := dkwX13_hide_2 ++ []
def dkwX13_hide_1 : List UInt8 := [27, 96, 46, 154, 0, 16, 42, 42, 180, 0, 17, 27, 182, 1, 141, 28, 160, 0, 9, 42, 8, 182, 2, 16]
abbrev dktX13_hide_1 : List UInt8 := dkwX13_hide_1 ++ dktX13_hide_2
def dkwX13_hide_0 : List UInt8 := [42, 3, 181, 0, 39, 42, 27, 182, 1, 158, 154, 0, 9, 42, 4, 182, 2, 16, 172, 42, 180, 0, 17, 3]
abbrev dktX13_hide_0 : List UInt8 := dkwX13_hide_0 ++ dktX13_hide_1
theorem dksX13_hide_0 : cX13_hide.data.toList.drop 0 = dktX13_hide_0 := by decide +kernel
theorem dksX13_hide_1 : cX13_hide.data.toList.drop 24 = dktX13_hide_1 := dk_seg dksX13_hide_0 24 rfl rfl
theorem dksX13_hide_2 : cX13_hide.data.toList.drop 48 = dktX13_hide_2 := dk_seg dksX13_hide_1 24 rfl rfl
theorem dX13_hide_0 : decode cX13_hide 0 = .ok (.aload_n 0, 1) := dk_42 (dk_at dksX13_hide_0 0 rfl rfl)
theorem dX13_hide_1 : decode cX13_hide 1 = .ok (.iconst 0, 1) := dk_3 (dk_at dksX13_hide_0 1 rfl rfl)
theorem dX13_hide_2 : decode cX13_hide 2 = .ok (.putfield 39, 3) := dk_181 0 39 (dk_at dksX13_hide_0 2 rfl rfl)
theorem dX13_hide_5 : decode cX13_hide 5 = .ok (.aload_n 0, 1) := dk_42 (dk_at dksX13_hide_0 5 rfl rfl)
theorem dX13_hide_6 : decode cX13_hide 6 = .ok (.iload_n 1, 1) := dk_27 (dk_at dksX13_hide_0 6 rfl rfl)
theorem dX13_hide_7 : decode cX13_hide 7 = .ok (.invokevirtual 414, 3) := dk_182 1 158 (dk_at dksX13_hide_0 7 rfl rfl)
theorem dX13_hide_10 : decode cX13_hide 10 = .ok (.ifCond .ne 9, 3) := dk_154 0 9 (dk_at dksX13_hide_0 10 rfl rfl)
theorem dX13_hide_13 : decode cX13_hide 13 = .ok (.aload_n 0, 1) := dk_42 (dk_at dksX13_hide_0 13 rfl rfl)
theorem dX13_hide_14 : decode cX13_hide 14 = .ok (.iconst 1, 1) := dk_4 (dk_at dksX13_hide_0 14 rfl rfl)
theorem dX13_hide_15 : decode cX13_hide 15 = .ok (.invokevirtual 528, 3) := dk_182 2 16 (dk_at dksX13_hide_0 15 rfl rfl)
theorem dX13_hide_18 : decode cX13_hide 18 = .ok (.ireturn, 1) := dk_172 (dk_at dksX13_hide_0 18 rfl rfl)
theorem dX13_hide_19 : decode cX13_hide 19 = .ok (.aload_n 0, 1) := dk_42 (dk_at dksX13_hide_0 19 rfl rfl)
theorem dX13_hide_20 : decode cX13_hide 20 = .ok (.getfield 17, 3) := dk_180 0 17 (dk_at dksX13_hide_0 20 rfl rfl)
theorem dX13_hide_23 : decode cX13_hide 23 = .ok (.iconst 0, 1) := dk_3 (dk_at dksX13_hide_0 23 rfl rfl)
theorem dX13_hide_24 : decode cX13_hide 24 = .ok (.iload_n 1, 1) := dk_27 (dk_at dksX13_hide_1 0 rfl rfl)
theorem dX13_hide_25 : decode cX13_hide 25 = .ok (.iadd, 1) := dk_96 (dk_at dksX13_hide_1 1 rfl rfl)
theorem dX13_hide_26 : decode cX13_hide 26 = .ok (.iaload, 1) := dk_46 (dk_at dksX13_hide_1 2 rfl rfl)
theorem dX13_hide_27 : decode cX13_hide 27 = .ok (.ifCond .ne 16, 3) := dk_154 0 16 (dk_at dksX13_hide_1 3 rfl rfl)
theorem dX13_hide_30 : decode cX13_hide 30 = .ok (.aload_n 0, 1) := dk_42 (dk_at dksX13_hide_1 6 rfl rfl)
theorem dX13_hide_31 : decode cX13_hide 31 = .ok (.aload_n 0, 1) := dk_42 (dk_at dksX13_hide_1 7 rfl rfl)
theorem dX13_hide_32 : decode cX13_hide 32 = .ok (.getfield 17, 3) := dk_180 0 17 (dk_at dksX13_hide_1 8 rfl rfl)
theorem dX13_hide_35 : decode cX13_hide 35 = .ok (.iload_n 1, 1) := dk_27 (dk_at dksX13_hide_1 11 rfl rfl)
theorem dX13_hide_36 : decode cX13_hide 36 = .ok (.invokevirtual 397, 3) := dk_182 1 141 (dk_at dksX13_hide_1 12 rfl rfl)
theorem dX13_hide_39 : decode cX13_hide 39 = .ok (.iload_n 2, 1) := dk_28 (dk_at dksX13_hide_1 15 rfl rfl)
theorem dX13_hide_40 : decode cX13_hide 40 = .ok (.if_icmp .ne 9, 3) := dk_160 0 9 (dk_at dksX13_hide_1 16 rfl rfl)
theorem dX13_hide_43 : decode cX13_hide 43 = .ok (.aload_n 0, 1) := dk_42 (dk_at dksX13_hide_1 19 rfl rfl)
theorem dX13_hide_44 : decode cX13_hide 44 = .ok (.iconst 5, 1) := dk_8 (dk_at dksX13_hide_1 20 rfl rfl)
theorem dX13_hide_45 : decode cX13_hide 45 = .ok (.invokevirtual 528, 3) := dk_182 2 16 (dk_at dksX13_hide_1 21 rfl rfl)
theorem dX13_hide_48 : decode cX13_hide 48 = .ok (.ireturn, 1) := dk_172 (dk_at dksX13_hide_2 0 rfl rfl)
theorem dX13_hide_49 : decode cX13_hide 49 = .ok (.aload_n 0, 1) := dk_42 (dk_at dksX13_hide_2 1 rfl rfl)
theorem dX13_hide_50 : decode cX13_hide 50 = .ok (.invokevirtual 531, 3) := dk_182 2 19 (dk_at dksX13_hide_2 2 rfl rfl)
theorem dX13_hide_53 : decode cX13_hide 53 = .ok (.aload_n 0, 1) := dk_42 (dk_at dksX13_hide_2 5 rfl rfl)
theorem dX13_hide_54 : decode cX13_hide 54 = .ok (.getfield 17, 3) := dk_180 0 17 (dk_at dksX13_hide_2 6 rfl rfl)
theorem dX13_hide_57 : decode cX13_hide 57 = .ok (.bipush 16, 2) := dk_16 16 (dk_at dksX13_hide_2 9 rfl rfl)
theorem dX13_hide_59 : decode cX13_hide 59 = .ok (.dup2, 1) := dk_92 (dk_at dksX13_hide_2 11 rfl rfl)
theorem dX13_hide_60 : decode cX13_hide 60 = .ok (.iaload, 1) := dk_46 (dk_at dksX13_hide_2 12 rfl rfl)
theorem dX13_hide_61 : decode cX13_hide 61 = .ok (.iconst 1, 1) := dk_4 (dk_at dksX13_hide_2 13 rfl rfl)
theorem dX13_hide_62 : decode cX13_hide 62 = .ok (.iload_n 1, 1) := dk_27 (dk_at dksX13_hide_2 14 rfl rfl)
theorem dX13_hide_63 : decode cX13_hide 63 = .ok (.ishl, 1) := dk_120 (dk_at dksX13_hide_2 15 rfl rfl)
theorem dX13_hide_64 : decode cX13_hide 64 = .ok (.ixor, 1) := dk_130 (dk_at dksX13_hide_2 16 rfl rfl)
theorem dX13_hide_65 : decode cX13_hide 65 = .ok (.iastore, 1) := dk_79 (dk_at dksX13_hide_2 17 rfl rfl)
theorem dX13_hide_66 : decode cX13_hide 66 = .ok (.aload_n 0, 1) := dk_42 (dk_at dksX13_hide_2 18 rfl rfl)
theorem dX13_hide_67 : decode cX13_hide 67 = .ok (.invokevirtual 534, 3) := dk_182 2 22 (dk_at dksX13_hide_2 19 rfl rfl)
theorem dX13_hide_70 : decode cX13_hide 70 = .ok (.ireturn, 1) := dk_172 (dk_at dksX13_hide_2 22 rfl rfl)
abbrev cX13_cross : ByteArray := prog_27_method_119_code
def yX13_cross : MethodName := ⟨RX13, "cross", "(II)I"⟩
def dkwX13_cross_2 : List UInt8 := [42, 180, 0, 17, 27, 42, 42, 180, 0, 17, 27, 28, 3, 182, 1, 151, 182, 1, 244, 182, 0, 49, 172]
abbrev dktX13_cross_2 : List UInt8 := dkwX13_cross_2 ++ []
def dkwX13_cross_1 : List UInt8 := [182, 0, 45, 172, 42, 27, 182, 1, 164, 154, 0, 9, 42, 8, 182, 0, 45, 172, 42, 182, 2, 19, 42, 42]
abbrev dktX13_cross_1 : List UInt8 := dkwX13_cross_1 ++ dktX13_cross_2
def dkwX13_cross_0 : List UInt8 := [42, 3, 181, 0, 39, 42, 27, 182, 1, 161, 153, 0, 11, 42, 28, 182, 1, 167, 154, 0, 9, 42, 4]
abbrev dktX13_cross_0 : List UInt8 := dkwX13_cross_0 ++ dktX13_cross_1
theorem dksX13_cross_0 : cX13_cross.data.toList.drop 0 = dktX13_cross_0 := by decide +kernel
theorem dksX13_cross_1 : cX13_cross.data.toList.drop 23 = dktX13_cross_1 := dk_seg dksX13_cross_0 23 rfl rfl
theorem dksX13_cross_2 : cX13_cross.data.toList.drop 47 = dktX13_cross_2 := dk_seg dksX13_cross_1 24 rfl rfl
theorem dX13_cross_0 : decode cX13_cross 0 = .ok (.aload_n 0, 1) := dk_42 (dk_at dksX13_cross_0 0 rfl rfl)
theorem dX13_cross_1 : decode cX13_cross 1 = .ok (.iconst 0, 1) := dk_3 (dk_at dksX13_cross_0 1 rfl rfl)
theorem dX13_cross_2 : decode cX13_cross 2 = .ok (.putfield 39, 3) := dk_181 0 39 (dk_at dksX13_cross_0 2 rfl rfl)
theorem dX13_cross_5 : decode cX13_cross 5 = .ok (.aload_n 0, 1) := dk_42 (dk_at dksX13_cross_0 5 rfl rfl)
theorem dX13_cross_6 : decode cX13_cross 6 = .ok (.iload_n 1, 1) := dk_27 (dk_at dksX13_cross_0 6 rfl rfl)
theorem dX13_cross_7 : decode cX13_cross 7 = .ok (.invokevirtual 417, 3) := dk_182 1 161 (dk_at dksX13_cross_0 7 rfl rfl)
theorem dX13_cross_10 : decode cX13_cross 10 = .ok (.ifCond .eq 11, 3) := dk_153 0 11 (dk_at dksX13_cross_0 10 rfl rfl)
theorem dX13_cross_13 : decode cX13_cross 13 = .ok (.aload_n 0, 1) := dk_42 (dk_at dksX13_cross_0 13 rfl rfl)
theorem dX13_cross_14 : decode cX13_cross 14 = .ok (.iload_n 2, 1) := dk_28 (dk_at dksX13_cross_0 14 rfl rfl)
theorem dX13_cross_15 : decode cX13_cross 15 = .ok (.invokevirtual 423, 3) := dk_182 1 167 (dk_at dksX13_cross_0 15 rfl rfl)
theorem dX13_cross_18 : decode cX13_cross 18 = .ok (.ifCond .ne 9, 3) := dk_154 0 9 (dk_at dksX13_cross_0 18 rfl rfl)
theorem dX13_cross_21 : decode cX13_cross 21 = .ok (.aload_n 0, 1) := dk_42 (dk_at dksX13_cross_0 21 rfl rfl)
theorem dX13_cross_22 : decode cX13_cross 22 = .ok (.iconst 1, 1) := dk_4 (dk_at dksX13_cross_0 22 rfl rfl)
theorem dX13_cross_23 : decode cX13_cross 23 = .ok (.invokevirtual 45, 3) := dk_182 0 45 (dk_at dksX13_cross_1 0 rfl rfl)
theorem dX13_cross_26 : decode cX13_cross 26 = .ok (.ireturn, 1) := dk_172 (dk_at dksX13_cross_1 3 rfl rfl)
theorem dX13_cross_27 : decode cX13_cross 27 = .ok (.aload_n 0, 1) := dk_42 (dk_at dksX13_cross_1 4 rfl rfl)
theorem dX13_cross_28 : decode cX13_cross 28 = .ok (.iload_n 1, 1) := dk_27 (dk_at dksX13_cross_1 5 rfl rfl)
theorem dX13_cross_29 : decode cX13_cross 29 = .ok (.invokevirtual 420, 3) := dk_182 1 164 (dk_at dksX13_cross_1 6 rfl rfl)
theorem dX13_cross_32 : decode cX13_cross 32 = .ok (.ifCond .ne 9, 3) := dk_154 0 9 (dk_at dksX13_cross_1 9 rfl rfl)
theorem dX13_cross_35 : decode cX13_cross 35 = .ok (.aload_n 0, 1) := dk_42 (dk_at dksX13_cross_1 12 rfl rfl)
theorem dX13_cross_36 : decode cX13_cross 36 = .ok (.iconst 5, 1) := dk_8 (dk_at dksX13_cross_1 13 rfl rfl)
theorem dX13_cross_37 : decode cX13_cross 37 = .ok (.invokevirtual 45, 3) := dk_182 0 45 (dk_at dksX13_cross_1 14 rfl rfl)
theorem dX13_cross_40 : decode cX13_cross 40 = .ok (.ireturn, 1) := dk_172 (dk_at dksX13_cross_1 17 rfl rfl)
theorem dX13_cross_41 : decode cX13_cross 41 = .ok (.aload_n 0, 1) := dk_42 (dk_at dksX13_cross_1 18 rfl rfl)
theorem dX13_cross_42 : decode cX13_cross 42 = .ok (.invokevirtual 531, 3) := dk_182 2 19 (dk_at dksX13_cross_1 19 rfl rfl)
theorem dX13_cross_45 : decode cX13_cross 45 = .ok (.aload_n 0, 1) := dk_42 (dk_at dksX13_cross_1 22 rfl rfl)
theorem dX13_cross_46 : decode cX13_cross 46 = .ok (.aload_n 0, 1) := dk_42 (dk_at dksX13_cross_1 23 rfl rfl)
theorem dX13_cross_47 : decode cX13_cross 47 = .ok (.aload_n 0, 1) := dk_42 (dk_at dksX13_cross_2 0 rfl rfl)
theorem dX13_cross_48 : decode cX13_cross 48 = .ok (.getfield 17, 3) := dk_180 0 17 (dk_at dksX13_cross_2 1 rfl rfl)
theorem dX13_cross_51 : decode cX13_cross 51 = .ok (.iload_n 1, 1) := dk_27 (dk_at dksX13_cross_2 4 rfl rfl)
theorem dX13_cross_52 : decode cX13_cross 52 = .ok (.aload_n 0, 1) := dk_42 (dk_at dksX13_cross_2 5 rfl rfl)
theorem dX13_cross_53 : decode cX13_cross 53 = .ok (.aload_n 0, 1) := dk_42 (dk_at dksX13_cross_2 6 rfl rfl)
theorem dX13_cross_54 : decode cX13_cross 54 = .ok (.getfield 17, 3) := dk_180 0 17 (dk_at dksX13_cross_2 7 rfl rfl)
theorem dX13_cross_57 : decode cX13_cross 57 = .ok (.iload_n 1, 1) := dk_27 (dk_at dksX13_cross_2 10 rfl rfl)
theorem dX13_cross_58 : decode cX13_cross 58 = .ok (.iload_n 2, 1) := dk_28 (dk_at dksX13_cross_2 11 rfl rfl)
theorem dX13_cross_59 : decode cX13_cross 59 = .ok (.iconst 0, 1) := dk_3 (dk_at dksX13_cross_2 12 rfl rfl)
theorem dX13_cross_60 : decode cX13_cross 60 = .ok (.invokevirtual 407, 3) := dk_182 1 151 (dk_at dksX13_cross_2 13 rfl rfl)
theorem dX13_cross_63 : decode cX13_cross 63 = .ok (.invokevirtual 500, 3) := dk_182 1 244 (dk_at dksX13_cross_2 16 rfl rfl)
theorem dX13_cross_66 : decode cX13_cross 66 = .ok (.invokevirtual 49, 3) := dk_182 0 49 (dk_at dksX13_cross_2 19 rfl rfl)
theorem dX13_cross_69 : decode cX13_cross 69 = .ok (.ireturn, 1) := dk_172 (dk_at dksX13_cross_2 22 rfl rfl)
abbrev cX13_days : ByteArray := prog_27_method_120_code
def yX13_days : MethodName := ⟨RX13, "days", "(I)I"⟩
def dkwX13_days_3 : List UInt8 := [42, 42, 180, 0, 17, 16, 17, 46, 182, 0, 49, 172]
abbrev dktX13_days_3 : List UInt8 := dkwX13_days_3 ++ []
def dkwX13_days_2 : List UInt8 := [164, 0, 9, 42, 6, 182, 0, 45, 172, 42, 182, 2, 19, 42, 180, 0, 17, 16, 17, 92, 46, 27, 96, 79]
abbrev dktX13_days_2 : List UInt8 := dkwX13_days_2 ++ dktX13_days_3
def dkwX13_days_1 : List UInt8 := [184, 0, 118, 154, 0, 9, 42, 5, 182, 0, 45, 172, 42, 180, 0, 17, 16, 17, 46, 27, 96, 17, 1, 44]
abbrev dktX13_days_1 : List UInt8 := dkwX13_days_1 ++ dktX13_days_2
def dkwX13_days_0 : List UInt8 := [42, 3, 181, 0, 39, 42, 180, 1, 111, 199, 0, 9, 42, 4, 182, 0, 45, 172, 27, 4, 16, 60]
abbrev dktX13_days_0 : List UInt8 := dkwX13_days_0 ++ dktX13_days_1
theorem dksX13_days_0 : cX13_days.data.toList.drop 0 = dktX13_days_0 := by decide +kernel
theorem dksX13_days_1 : cX13_days.data.toList.drop 22 = dktX13_days_1 := dk_seg dksX13_days_0 22 rfl rfl
theorem dksX13_days_2 : cX13_days.data.toList.drop 46 = dktX13_days_2 := dk_seg dksX13_days_1 24 rfl rfl
theorem dksX13_days_3 : cX13_days.data.toList.drop 70 = dktX13_days_3 := dk_seg dksX13_days_2 24 rfl rfl
theorem dX13_days_0 : decode cX13_days 0 = .ok (.aload_n 0, 1) := dk_42 (dk_at dksX13_days_0 0 rfl rfl)
theorem dX13_days_1 : decode cX13_days 1 = .ok (.iconst 0, 1) := dk_3 (dk_at dksX13_days_0 1 rfl rfl)
theorem dX13_days_2 : decode cX13_days 2 = .ok (.putfield 39, 3) := dk_181 0 39 (dk_at dksX13_days_0 2 rfl rfl)
theorem dX13_days_5 : decode cX13_days 5 = .ok (.aload_n 0, 1) := dk_42 (dk_at dksX13_days_0 5 rfl rfl)
theorem dX13_days_6 : decode cX13_days 6 = .ok (.getfield 367, 3) := dk_180 1 111 (dk_at dksX13_days_0 6 rfl rfl)
theorem dX13_days_9 : decode cX13_days 9 = .ok (.ifnonnull 9, 3) := dk_199 0 9 (dk_at dksX13_days_0 9 rfl rfl)
theorem dX13_days_12 : decode cX13_days 12 = .ok (.aload_n 0, 1) := dk_42 (dk_at dksX13_days_0 12 rfl rfl)
theorem dX13_days_13 : decode cX13_days 13 = .ok (.iconst 1, 1) := dk_4 (dk_at dksX13_days_0 13 rfl rfl)
theorem dX13_days_14 : decode cX13_days 14 = .ok (.invokevirtual 45, 3) := dk_182 0 45 (dk_at dksX13_days_0 14 rfl rfl)
theorem dX13_days_17 : decode cX13_days 17 = .ok (.ireturn, 1) := dk_172 (dk_at dksX13_days_0 17 rfl rfl)
theorem dX13_days_18 : decode cX13_days 18 = .ok (.iload_n 1, 1) := dk_27 (dk_at dksX13_days_0 18 rfl rfl)
theorem dX13_days_19 : decode cX13_days 19 = .ok (.iconst 1, 1) := dk_4 (dk_at dksX13_days_0 19 rfl rfl)
theorem dX13_days_20 : decode cX13_days 20 = .ok (.bipush 60, 2) := dk_16 60 (dk_at dksX13_days_0 20 rfl rfl)
theorem dX13_days_22 : decode cX13_days 22 = .ok (.invokestatic 118, 3) := dk_184 0 118 (dk_at dksX13_days_1 0 rfl rfl)
theorem dX13_days_25 : decode cX13_days 25 = .ok (.ifCond .ne 9, 3) := dk_154 0 9 (dk_at dksX13_days_1 3 rfl rfl)
theorem dX13_days_28 : decode cX13_days 28 = .ok (.aload_n 0, 1) := dk_42 (dk_at dksX13_days_1 6 rfl rfl)
theorem dX13_days_29 : decode cX13_days 29 = .ok (.iconst 2, 1) := dk_5 (dk_at dksX13_days_1 7 rfl rfl)
theorem dX13_days_30 : decode cX13_days 30 = .ok (.invokevirtual 45, 3) := dk_182 0 45 (dk_at dksX13_days_1 8 rfl rfl)
theorem dX13_days_33 : decode cX13_days 33 = .ok (.ireturn, 1) := dk_172 (dk_at dksX13_days_1 11 rfl rfl)
theorem dX13_days_34 : decode cX13_days 34 = .ok (.aload_n 0, 1) := dk_42 (dk_at dksX13_days_1 12 rfl rfl)
theorem dX13_days_35 : decode cX13_days 35 = .ok (.getfield 17, 3) := dk_180 0 17 (dk_at dksX13_days_1 13 rfl rfl)
theorem dX13_days_38 : decode cX13_days 38 = .ok (.bipush 17, 2) := dk_16 17 (dk_at dksX13_days_1 16 rfl rfl)
theorem dX13_days_40 : decode cX13_days 40 = .ok (.iaload, 1) := dk_46 (dk_at dksX13_days_1 18 rfl rfl)
theorem dX13_days_41 : decode cX13_days 41 = .ok (.iload_n 1, 1) := dk_27 (dk_at dksX13_days_1 19 rfl rfl)
theorem dX13_days_42 : decode cX13_days 42 = .ok (.iadd, 1) := dk_96 (dk_at dksX13_days_1 20 rfl rfl)
theorem dX13_days_43 : decode cX13_days 43 = .ok (.sipush 300, 3) := dk_17 1 44 (dk_at dksX13_days_1 21 rfl rfl)
theorem dX13_days_46 : decode cX13_days 46 = .ok (.if_icmp .le 9, 3) := dk_164 0 9 (dk_at dksX13_days_2 0 rfl rfl)
theorem dX13_days_49 : decode cX13_days 49 = .ok (.aload_n 0, 1) := dk_42 (dk_at dksX13_days_2 3 rfl rfl)
theorem dX13_days_50 : decode cX13_days 50 = .ok (.iconst 3, 1) := dk_6 (dk_at dksX13_days_2 4 rfl rfl)
theorem dX13_days_51 : decode cX13_days 51 = .ok (.invokevirtual 45, 3) := dk_182 0 45 (dk_at dksX13_days_2 5 rfl rfl)
theorem dX13_days_54 : decode cX13_days 54 = .ok (.ireturn, 1) := dk_172 (dk_at dksX13_days_2 8 rfl rfl)
theorem dX13_days_55 : decode cX13_days 55 = .ok (.aload_n 0, 1) := dk_42 (dk_at dksX13_days_2 9 rfl rfl)
theorem dX13_days_56 : decode cX13_days 56 = .ok (.invokevirtual 531, 3) := dk_182 2 19 (dk_at dksX13_days_2 10 rfl rfl)
theorem dX13_days_59 : decode cX13_days 59 = .ok (.aload_n 0, 1) := dk_42 (dk_at dksX13_days_2 13 rfl rfl)
theorem dX13_days_60 : decode cX13_days 60 = .ok (.getfield 17, 3) := dk_180 0 17 (dk_at dksX13_days_2 14 rfl rfl)
theorem dX13_days_63 : decode cX13_days 63 = .ok (.bipush 17, 2) := dk_16 17 (dk_at dksX13_days_2 17 rfl rfl)
theorem dX13_days_65 : decode cX13_days 65 = .ok (.dup2, 1) := dk_92 (dk_at dksX13_days_2 19 rfl rfl)
theorem dX13_days_66 : decode cX13_days 66 = .ok (.iaload, 1) := dk_46 (dk_at dksX13_days_2 20 rfl rfl)
theorem dX13_days_67 : decode cX13_days 67 = .ok (.iload_n 1, 1) := dk_27 (dk_at dksX13_days_2 21 rfl rfl)
theorem dX13_days_68 : decode cX13_days 68 = .ok (.iadd, 1) := dk_96 (dk_at dksX13_days_2 22 rfl rfl)
theorem dX13_days_69 : decode cX13_days 69 = .ok (.iastore, 1) := dk_79 (dk_at dksX13_days_2 23 rfl rfl)
theorem dX13_days_70 : decode cX13_days 70 = .ok (.aload_n 0, 1) := dk_42 (dk_at dksX13_days_3 0 rfl rfl)
theorem dX13_days_71 : decode cX13_days 71 = .ok (.aload_n 0, 1) := dk_42 (dk_at dksX13_days_3 1 rfl rfl)
theorem dX13_days_72 : decode cX13_days 72 = .ok (.getfield 17, 3) := dk_180 0 17 (dk_at dksX13_days_3 2 rfl rfl)
theorem dX13_days_75 : decode cX13_days 75 = .ok (.bipush 17, 2) := dk_16 17 (dk_at dksX13_days_3 5 rfl rfl)
theorem dX13_days_77 : decode cX13_days 77 = .ok (.iaload, 1) := dk_46 (dk_at dksX13_days_3 7 rfl rfl)
theorem dX13_days_78 : decode cX13_days 78 = .ok (.invokevirtual 49, 3) := dk_182 0 49 (dk_at dksX13_days_3 8 rfl rfl)
theorem dX13_days_81 : decode cX13_days 81 = .ok (.ireturn, 1) := dk_172 (dk_at dksX13_days_3 11 rfl rfl)
abbrev cX13_undo : ByteArray := prog_27_method_121_code
def yX13_undo : MethodName := ⟨RX13, "undo", "()Z"⟩
def dkwX13_undo_3 : List UInt8 := [167, 255, 227, 42, 182, 2, 22, 172]
abbrev dktX13_undo_3 : List UInt8 := dkwX13_undo_3 ++ []
def dkwX13_undo_2 : List UInt8 := [180, 0, 17, 27, 42, 180, 0, 24, 16, 18, 42, 180, 1, 117, 104, 27, 96, 46, 79, 132, 1, 1]
abbrev dktX13_undo_2 : List UInt8 := dkwX13_undo_2 ++ dktX13_undo_3
def dkwX13_undo_1 : List UInt8 := [182, 2, 16, 172, 42, 89, 180, 1, 117, 4, 100, 181, 1, 117, 3, 60, 27, 16, 18, 162, 0, 29, 42]
abbrev dktX13_undo_1 : List UInt8 := dkwX13_undo_1 ++ dktX13_undo_2
def dkwX13_undo_0 : List UInt8 := [42, 3, 181, 0, 39, 42, 180, 1, 111, 198, 0, 10, 42, 180, 1, 117, 154, 0, 10, 42, 16, 6]
abbrev dktX13_undo_0 : List UInt8 := dkwX13_undo_0 ++ dktX13_undo_1
theorem dksX13_undo_0 : cX13_undo.data.toList.drop 0 = dktX13_undo_0 := by decide +kernel
theorem dksX13_undo_1 : cX13_undo.data.toList.drop 22 = dktX13_undo_1 := dk_seg dksX13_undo_0 22 rfl rfl
theorem dksX13_undo_2 : cX13_undo.data.toList.drop 45 = dktX13_undo_2 := dk_seg dksX13_undo_1 23 rfl rfl
theorem dksX13_undo_3 : cX13_undo.data.toList.drop 67 = dktX13_undo_3 := dk_seg dksX13_undo_2 22 rfl rfl
theorem dX13_undo_0 : decode cX13_undo 0 = .ok (.aload_n 0, 1) := dk_42 (dk_at dksX13_undo_0 0 rfl rfl)
theorem dX13_undo_1 : decode cX13_undo 1 = .ok (.iconst 0, 1) := dk_3 (dk_at dksX13_undo_0 1 rfl rfl)
theorem dX13_undo_2 : decode cX13_undo 2 = .ok (.putfield 39, 3) := dk_181 0 39 (dk_at dksX13_undo_0 2 rfl rfl)
theorem dX13_undo_5 : decode cX13_undo 5 = .ok (.aload_n 0, 1) := dk_42 (dk_at dksX13_undo_0 5 rfl rfl)
theorem dX13_undo_6 : decode cX13_undo 6 = .ok (.getfield 367, 3) := dk_180 1 111 (dk_at dksX13_undo_0 6 rfl rfl)
theorem dX13_undo_9 : decode cX13_undo 9 = .ok (.ifnull 10, 3) := dk_198 0 10 (dk_at dksX13_undo_0 9 rfl rfl)
theorem dX13_undo_12 : decode cX13_undo 12 = .ok (.aload_n 0, 1) := dk_42 (dk_at dksX13_undo_0 12 rfl rfl)
theorem dX13_undo_13 : decode cX13_undo 13 = .ok (.getfield 373, 3) := dk_180 1 117 (dk_at dksX13_undo_0 13 rfl rfl)
theorem dX13_undo_16 : decode cX13_undo 16 = .ok (.ifCond .ne 10, 3) := dk_154 0 10 (dk_at dksX13_undo_0 16 rfl rfl)
theorem dX13_undo_19 : decode cX13_undo 19 = .ok (.aload_n 0, 1) := dk_42 (dk_at dksX13_undo_0 19 rfl rfl)
theorem dX13_undo_20 : decode cX13_undo 20 = .ok (.bipush 6, 2) := dk_16 6 (dk_at dksX13_undo_0 20 rfl rfl)
theorem dX13_undo_22 : decode cX13_undo 22 = .ok (.invokevirtual 528, 3) := dk_182 2 16 (dk_at dksX13_undo_1 0 rfl rfl)
theorem dX13_undo_25 : decode cX13_undo 25 = .ok (.ireturn, 1) := dk_172 (dk_at dksX13_undo_1 3 rfl rfl)
theorem dX13_undo_26 : decode cX13_undo 26 = .ok (.aload_n 0, 1) := dk_42 (dk_at dksX13_undo_1 4 rfl rfl)
theorem dX13_undo_27 : decode cX13_undo 27 = .ok (.dup, 1) := dk_89 (dk_at dksX13_undo_1 5 rfl rfl)
theorem dX13_undo_28 : decode cX13_undo 28 = .ok (.getfield 373, 3) := dk_180 1 117 (dk_at dksX13_undo_1 6 rfl rfl)
theorem dX13_undo_31 : decode cX13_undo 31 = .ok (.iconst 1, 1) := dk_4 (dk_at dksX13_undo_1 9 rfl rfl)
theorem dX13_undo_32 : decode cX13_undo 32 = .ok (.isub, 1) := dk_100 (dk_at dksX13_undo_1 10 rfl rfl)
theorem dX13_undo_33 : decode cX13_undo 33 = .ok (.putfield 373, 3) := dk_181 1 117 (dk_at dksX13_undo_1 11 rfl rfl)
theorem dX13_undo_36 : decode cX13_undo 36 = .ok (.iconst 0, 1) := dk_3 (dk_at dksX13_undo_1 14 rfl rfl)
theorem dX13_undo_37 : decode cX13_undo 37 = .ok (.istore_n 1, 1) := dk_60 (dk_at dksX13_undo_1 15 rfl rfl)
theorem dX13_undo_38 : decode cX13_undo 38 = .ok (.iload_n 1, 1) := dk_27 (dk_at dksX13_undo_1 16 rfl rfl)
theorem dX13_undo_39 : decode cX13_undo 39 = .ok (.bipush 18, 2) := dk_16 18 (dk_at dksX13_undo_1 17 rfl rfl)
theorem dX13_undo_41 : decode cX13_undo 41 = .ok (.if_icmp .ge 29, 3) := dk_162 0 29 (dk_at dksX13_undo_1 19 rfl rfl)
theorem dX13_undo_44 : decode cX13_undo 44 = .ok (.aload_n 0, 1) := dk_42 (dk_at dksX13_undo_1 22 rfl rfl)
theorem dX13_undo_45 : decode cX13_undo 45 = .ok (.getfield 17, 3) := dk_180 0 17 (dk_at dksX13_undo_2 0 rfl rfl)
theorem dX13_undo_48 : decode cX13_undo 48 = .ok (.iload_n 1, 1) := dk_27 (dk_at dksX13_undo_2 3 rfl rfl)
theorem dX13_undo_49 : decode cX13_undo 49 = .ok (.aload_n 0, 1) := dk_42 (dk_at dksX13_undo_2 4 rfl rfl)
theorem dX13_undo_50 : decode cX13_undo 50 = .ok (.getfield 24, 3) := dk_180 0 24 (dk_at dksX13_undo_2 5 rfl rfl)
theorem dX13_undo_53 : decode cX13_undo 53 = .ok (.bipush 18, 2) := dk_16 18 (dk_at dksX13_undo_2 8 rfl rfl)
theorem dX13_undo_55 : decode cX13_undo 55 = .ok (.aload_n 0, 1) := dk_42 (dk_at dksX13_undo_2 10 rfl rfl)
theorem dX13_undo_56 : decode cX13_undo 56 = .ok (.getfield 373, 3) := dk_180 1 117 (dk_at dksX13_undo_2 11 rfl rfl)
theorem dX13_undo_59 : decode cX13_undo 59 = .ok (.imul, 1) := dk_104 (dk_at dksX13_undo_2 14 rfl rfl)
theorem dX13_undo_60 : decode cX13_undo 60 = .ok (.iload_n 1, 1) := dk_27 (dk_at dksX13_undo_2 15 rfl rfl)
theorem dX13_undo_61 : decode cX13_undo 61 = .ok (.iadd, 1) := dk_96 (dk_at dksX13_undo_2 16 rfl rfl)
theorem dX13_undo_62 : decode cX13_undo 62 = .ok (.iaload, 1) := dk_46 (dk_at dksX13_undo_2 17 rfl rfl)
theorem dX13_undo_63 : decode cX13_undo 63 = .ok (.iastore, 1) := dk_79 (dk_at dksX13_undo_2 18 rfl rfl)
theorem dX13_undo_64 : decode cX13_undo 64 = .ok (.iinc 1 1, 3) := dk_132 1 1 (dk_at dksX13_undo_2 19 rfl rfl)
theorem dX13_undo_67 : decode cX13_undo 67 = .ok (.goto (-29), 3) := dk_167 255 227 (dk_at dksX13_undo_3 0 rfl rfl)
theorem dX13_undo_70 : decode cX13_undo 70 = .ok (.aload_n 0, 1) := dk_42 (dk_at dksX13_undo_3 3 rfl rfl)
theorem dX13_undo_71 : decode cX13_undo 71 = .ok (.invokevirtual 534, 3) := dk_182 2 22 (dk_at dksX13_undo_3 4 rfl rfl)
theorem dX13_undo_74 : decode cX13_undo 74 = .ok (.ireturn, 1) := dk_172 (dk_at dksX13_undo_3 7 rfl rfl)
abbrev cX13_mark : ByteArray := prog_27_method_122_code
def yX13_mark : MethodName := ⟨RX13, "mark", "()I"⟩
def dkwX13_mark_3 : List UInt8 := [4, 96, 181, 1, 120, 42, 42, 180, 1, 120, 4, 100, 182, 0, 49, 172]
abbrev dktX13_mark_3 : List UInt8 := dkwX13_mark_3 ++ []
def dkwX13_mark_2 : List UInt8 := [180, 1, 120, 104, 27, 96, 42, 180, 0, 17, 27, 46, 79, 132, 1, 1, 167, 255, 227, 42, 89, 180, 1, 120]
abbrev dktX13_mark_2 : List UInt8 := dkwX13_mark_2 ++ dktX13_mark_3
def dkwX13_mark_1 : List UInt8 := [160, 0, 9, 42, 6, 182, 0, 45, 172, 3, 60, 27, 16, 18, 162, 0, 29, 42, 180, 0, 27, 16, 18, 42]
abbrev dktX13_mark_1 : List UInt8 := dkwX13_mark_1 ++ dktX13_mark_2
def dkwX13_mark_0 : List UInt8 := [42, 3, 181, 0, 39, 42, 180, 1, 111, 199, 0, 9, 42, 4, 182, 0, 45, 172, 42, 180, 1, 120, 6]
abbrev dktX13_mark_0 : List UInt8 := dkwX13_mark_0 ++ dktX13_mark_1
theorem dksX13_mark_0 : cX13_mark.data.toList.drop 0 = dktX13_mark_0 := by decide +kernel
theorem dksX13_mark_1 : cX13_mark.data.toList.drop 23 = dktX13_mark_1 := dk_seg dksX13_mark_0 23 rfl rfl
theorem dksX13_mark_2 : cX13_mark.data.toList.drop 47 = dktX13_mark_2 := dk_seg dksX13_mark_1 24 rfl rfl
theorem dksX13_mark_3 : cX13_mark.data.toList.drop 71 = dktX13_mark_3 := dk_seg dksX13_mark_2 24 rfl rfl
theorem dX13_mark_0 : decode cX13_mark 0 = .ok (.aload_n 0, 1) := dk_42 (dk_at dksX13_mark_0 0 rfl rfl)
theorem dX13_mark_1 : decode cX13_mark 1 = .ok (.iconst 0, 1) := dk_3 (dk_at dksX13_mark_0 1 rfl rfl)
theorem dX13_mark_2 : decode cX13_mark 2 = .ok (.putfield 39, 3) := dk_181 0 39 (dk_at dksX13_mark_0 2 rfl rfl)
theorem dX13_mark_5 : decode cX13_mark 5 = .ok (.aload_n 0, 1) := dk_42 (dk_at dksX13_mark_0 5 rfl rfl)
theorem dX13_mark_6 : decode cX13_mark 6 = .ok (.getfield 367, 3) := dk_180 1 111 (dk_at dksX13_mark_0 6 rfl rfl)
theorem dX13_mark_9 : decode cX13_mark 9 = .ok (.ifnonnull 9, 3) := dk_199 0 9 (dk_at dksX13_mark_0 9 rfl rfl)
theorem dX13_mark_12 : decode cX13_mark 12 = .ok (.aload_n 0, 1) := dk_42 (dk_at dksX13_mark_0 12 rfl rfl)
theorem dX13_mark_13 : decode cX13_mark 13 = .ok (.iconst 1, 1) := dk_4 (dk_at dksX13_mark_0 13 rfl rfl)
theorem dX13_mark_14 : decode cX13_mark 14 = .ok (.invokevirtual 45, 3) := dk_182 0 45 (dk_at dksX13_mark_0 14 rfl rfl)
theorem dX13_mark_17 : decode cX13_mark 17 = .ok (.ireturn, 1) := dk_172 (dk_at dksX13_mark_0 17 rfl rfl)
theorem dX13_mark_18 : decode cX13_mark 18 = .ok (.aload_n 0, 1) := dk_42 (dk_at dksX13_mark_0 18 rfl rfl)
theorem dX13_mark_19 : decode cX13_mark 19 = .ok (.getfield 376, 3) := dk_180 1 120 (dk_at dksX13_mark_0 19 rfl rfl)
theorem dX13_mark_22 : decode cX13_mark 22 = .ok (.iconst 3, 1) := dk_6 (dk_at dksX13_mark_0 22 rfl rfl)
theorem dX13_mark_23 : decode cX13_mark 23 = .ok (.if_icmp .ne 9, 3) := dk_160 0 9 (dk_at dksX13_mark_1 0 rfl rfl)
theorem dX13_mark_26 : decode cX13_mark 26 = .ok (.aload_n 0, 1) := dk_42 (dk_at dksX13_mark_1 3 rfl rfl)
theorem dX13_mark_27 : decode cX13_mark 27 = .ok (.iconst 3, 1) := dk_6 (dk_at dksX13_mark_1 4 rfl rfl)
theorem dX13_mark_28 : decode cX13_mark 28 = .ok (.invokevirtual 45, 3) := dk_182 0 45 (dk_at dksX13_mark_1 5 rfl rfl)
theorem dX13_mark_31 : decode cX13_mark 31 = .ok (.ireturn, 1) := dk_172 (dk_at dksX13_mark_1 8 rfl rfl)
theorem dX13_mark_32 : decode cX13_mark 32 = .ok (.iconst 0, 1) := dk_3 (dk_at dksX13_mark_1 9 rfl rfl)
theorem dX13_mark_33 : decode cX13_mark 33 = .ok (.istore_n 1, 1) := dk_60 (dk_at dksX13_mark_1 10 rfl rfl)
theorem dX13_mark_34 : decode cX13_mark 34 = .ok (.iload_n 1, 1) := dk_27 (dk_at dksX13_mark_1 11 rfl rfl)
theorem dX13_mark_35 : decode cX13_mark 35 = .ok (.bipush 18, 2) := dk_16 18 (dk_at dksX13_mark_1 12 rfl rfl)
theorem dX13_mark_37 : decode cX13_mark 37 = .ok (.if_icmp .ge 29, 3) := dk_162 0 29 (dk_at dksX13_mark_1 14 rfl rfl)
theorem dX13_mark_40 : decode cX13_mark 40 = .ok (.aload_n 0, 1) := dk_42 (dk_at dksX13_mark_1 17 rfl rfl)
theorem dX13_mark_41 : decode cX13_mark 41 = .ok (.getfield 27, 3) := dk_180 0 27 (dk_at dksX13_mark_1 18 rfl rfl)
theorem dX13_mark_44 : decode cX13_mark 44 = .ok (.bipush 18, 2) := dk_16 18 (dk_at dksX13_mark_1 21 rfl rfl)
theorem dX13_mark_46 : decode cX13_mark 46 = .ok (.aload_n 0, 1) := dk_42 (dk_at dksX13_mark_1 23 rfl rfl)
theorem dX13_mark_47 : decode cX13_mark 47 = .ok (.getfield 376, 3) := dk_180 1 120 (dk_at dksX13_mark_2 0 rfl rfl)
theorem dX13_mark_50 : decode cX13_mark 50 = .ok (.imul, 1) := dk_104 (dk_at dksX13_mark_2 3 rfl rfl)
theorem dX13_mark_51 : decode cX13_mark 51 = .ok (.iload_n 1, 1) := dk_27 (dk_at dksX13_mark_2 4 rfl rfl)
theorem dX13_mark_52 : decode cX13_mark 52 = .ok (.iadd, 1) := dk_96 (dk_at dksX13_mark_2 5 rfl rfl)
theorem dX13_mark_53 : decode cX13_mark 53 = .ok (.aload_n 0, 1) := dk_42 (dk_at dksX13_mark_2 6 rfl rfl)
theorem dX13_mark_54 : decode cX13_mark 54 = .ok (.getfield 17, 3) := dk_180 0 17 (dk_at dksX13_mark_2 7 rfl rfl)
theorem dX13_mark_57 : decode cX13_mark 57 = .ok (.iload_n 1, 1) := dk_27 (dk_at dksX13_mark_2 10 rfl rfl)
theorem dX13_mark_58 : decode cX13_mark 58 = .ok (.iaload, 1) := dk_46 (dk_at dksX13_mark_2 11 rfl rfl)
theorem dX13_mark_59 : decode cX13_mark 59 = .ok (.iastore, 1) := dk_79 (dk_at dksX13_mark_2 12 rfl rfl)
theorem dX13_mark_60 : decode cX13_mark 60 = .ok (.iinc 1 1, 3) := dk_132 1 1 (dk_at dksX13_mark_2 13 rfl rfl)
theorem dX13_mark_63 : decode cX13_mark 63 = .ok (.goto (-29), 3) := dk_167 255 227 (dk_at dksX13_mark_2 16 rfl rfl)
theorem dX13_mark_66 : decode cX13_mark 66 = .ok (.aload_n 0, 1) := dk_42 (dk_at dksX13_mark_2 19 rfl rfl)
theorem dX13_mark_67 : decode cX13_mark 67 = .ok (.dup, 1) := dk_89 (dk_at dksX13_mark_2 20 rfl rfl)
theorem dX13_mark_68 : decode cX13_mark 68 = .ok (.getfield 376, 3) := dk_180 1 120 (dk_at dksX13_mark_2 21 rfl rfl)
theorem dX13_mark_71 : decode cX13_mark 71 = .ok (.iconst 1, 1) := dk_4 (dk_at dksX13_mark_3 0 rfl rfl)
theorem dX13_mark_72 : decode cX13_mark 72 = .ok (.iadd, 1) := dk_96 (dk_at dksX13_mark_3 1 rfl rfl)
theorem dX13_mark_73 : decode cX13_mark 73 = .ok (.putfield 376, 3) := dk_181 1 120 (dk_at dksX13_mark_3 2 rfl rfl)
theorem dX13_mark_76 : decode cX13_mark 76 = .ok (.aload_n 0, 1) := dk_42 (dk_at dksX13_mark_3 5 rfl rfl)
theorem dX13_mark_77 : decode cX13_mark 77 = .ok (.aload_n 0, 1) := dk_42 (dk_at dksX13_mark_3 6 rfl rfl)
theorem dX13_mark_78 : decode cX13_mark 78 = .ok (.getfield 376, 3) := dk_180 1 120 (dk_at dksX13_mark_3 7 rfl rfl)
theorem dX13_mark_81 : decode cX13_mark 81 = .ok (.iconst 1, 1) := dk_4 (dk_at dksX13_mark_3 10 rfl rfl)
theorem dX13_mark_82 : decode cX13_mark 82 = .ok (.isub, 1) := dk_100 (dk_at dksX13_mark_3 11 rfl rfl)
theorem dX13_mark_83 : decode cX13_mark 83 = .ok (.invokevirtual 49, 3) := dk_182 0 49 (dk_at dksX13_mark_3 12 rfl rfl)
theorem dX13_mark_86 : decode cX13_mark 86 = .ok (.ireturn, 1) := dk_172 (dk_at dksX13_mark_3 15 rfl rfl)
abbrev cX13_back : ByteArray := prog_27_method_123_code
def yX13_back : MethodName := ⟨RX13, "back", "(I)Z"⟩
def dkwX13_back_2 : List UInt8 := [16, 18, 27, 104, 28, 96, 46, 79, 132, 2, 1, 167, 255, 230, 42, 3, 181, 1, 117, 42, 182, 2, 22, 172]
abbrev dktX13_back_2 : List UInt8 := dkwX13_back_2 ++ []
def dkwX13_back_1 : List UInt8 := [42, 4, 182, 2, 16, 172, 3, 61, 28, 16, 18, 162, 0, 26, 42, 180, 0, 17, 28, 42, 180, 0, 27]
abbrev dktX13_back_1 : List UInt8 := dkwX13_back_1 ++ dktX13_back_2
def dkwX13_back_0 : List UInt8 := [42, 3, 181, 0, 39, 42, 180, 1, 111, 198, 0, 15, 27, 155, 0, 11, 27, 42, 180, 1, 120, 161, 0, 9]
abbrev dktX13_back_0 : List UInt8 := dkwX13_back_0 ++ dktX13_back_1
theorem dksX13_back_0 : cX13_back.data.toList.drop 0 = dktX13_back_0 := by decide +kernel
theorem dksX13_back_1 : cX13_back.data.toList.drop 24 = dktX13_back_1 := dk_seg dksX13_back_0 24 rfl rfl
theorem dksX13_back_2 : cX13_back.data.toList.drop 47 = dktX13_back_2 := dk_seg dksX13_back_1 23 rfl rfl
theorem dX13_back_0 : decode cX13_back 0 = .ok (.aload_n 0, 1) := dk_42 (dk_at dksX13_back_0 0 rfl rfl)
theorem dX13_back_1 : decode cX13_back 1 = .ok (.iconst 0, 1) := dk_3 (dk_at dksX13_back_0 1 rfl rfl)
theorem dX13_back_2 : decode cX13_back 2 = .ok (.putfield 39, 3) := dk_181 0 39 (dk_at dksX13_back_0 2 rfl rfl)
theorem dX13_back_5 : decode cX13_back 5 = .ok (.aload_n 0, 1) := dk_42 (dk_at dksX13_back_0 5 rfl rfl)
theorem dX13_back_6 : decode cX13_back 6 = .ok (.getfield 367, 3) := dk_180 1 111 (dk_at dksX13_back_0 6 rfl rfl)
theorem dX13_back_9 : decode cX13_back 9 = .ok (.ifnull 15, 3) := dk_198 0 15 (dk_at dksX13_back_0 9 rfl rfl)
theorem dX13_back_12 : decode cX13_back 12 = .ok (.iload_n 1, 1) := dk_27 (dk_at dksX13_back_0 12 rfl rfl)
theorem dX13_back_13 : decode cX13_back 13 = .ok (.ifCond .lt 11, 3) := dk_155 0 11 (dk_at dksX13_back_0 13 rfl rfl)
theorem dX13_back_16 : decode cX13_back 16 = .ok (.iload_n 1, 1) := dk_27 (dk_at dksX13_back_0 16 rfl rfl)
theorem dX13_back_17 : decode cX13_back 17 = .ok (.aload_n 0, 1) := dk_42 (dk_at dksX13_back_0 17 rfl rfl)
theorem dX13_back_18 : decode cX13_back 18 = .ok (.getfield 376, 3) := dk_180 1 120 (dk_at dksX13_back_0 18 rfl rfl)
theorem dX13_back_21 : decode cX13_back 21 = .ok (.if_icmp .lt 9, 3) := dk_161 0 9 (dk_at dksX13_back_0 21 rfl rfl)
theorem dX13_back_24 : decode cX13_back 24 = .ok (.aload_n 0, 1) := dk_42 (dk_at dksX13_back_1 0 rfl rfl)
theorem dX13_back_25 : decode cX13_back 25 = .ok (.iconst 1, 1) := dk_4 (dk_at dksX13_back_1 1 rfl rfl)
theorem dX13_back_26 : decode cX13_back 26 = .ok (.invokevirtual 528, 3) := dk_182 2 16 (dk_at dksX13_back_1 2 rfl rfl)
theorem dX13_back_29 : decode cX13_back 29 = .ok (.ireturn, 1) := dk_172 (dk_at dksX13_back_1 5 rfl rfl)
theorem dX13_back_30 : decode cX13_back 30 = .ok (.iconst 0, 1) := dk_3 (dk_at dksX13_back_1 6 rfl rfl)
theorem dX13_back_31 : decode cX13_back 31 = .ok (.istore_n 2, 1) := dk_61 (dk_at dksX13_back_1 7 rfl rfl)
theorem dX13_back_32 : decode cX13_back 32 = .ok (.iload_n 2, 1) := dk_28 (dk_at dksX13_back_1 8 rfl rfl)
theorem dX13_back_33 : decode cX13_back 33 = .ok (.bipush 18, 2) := dk_16 18 (dk_at dksX13_back_1 9 rfl rfl)
theorem dX13_back_35 : decode cX13_back 35 = .ok (.if_icmp .ge 26, 3) := dk_162 0 26 (dk_at dksX13_back_1 11 rfl rfl)
theorem dX13_back_38 : decode cX13_back 38 = .ok (.aload_n 0, 1) := dk_42 (dk_at dksX13_back_1 14 rfl rfl)
theorem dX13_back_39 : decode cX13_back 39 = .ok (.getfield 17, 3) := dk_180 0 17 (dk_at dksX13_back_1 15 rfl rfl)
theorem dX13_back_42 : decode cX13_back 42 = .ok (.iload_n 2, 1) := dk_28 (dk_at dksX13_back_1 18 rfl rfl)
theorem dX13_back_43 : decode cX13_back 43 = .ok (.aload_n 0, 1) := dk_42 (dk_at dksX13_back_1 19 rfl rfl)
theorem dX13_back_44 : decode cX13_back 44 = .ok (.getfield 27, 3) := dk_180 0 27 (dk_at dksX13_back_1 20 rfl rfl)
theorem dX13_back_47 : decode cX13_back 47 = .ok (.bipush 18, 2) := dk_16 18 (dk_at dksX13_back_2 0 rfl rfl)
theorem dX13_back_49 : decode cX13_back 49 = .ok (.iload_n 1, 1) := dk_27 (dk_at dksX13_back_2 2 rfl rfl)
theorem dX13_back_50 : decode cX13_back 50 = .ok (.imul, 1) := dk_104 (dk_at dksX13_back_2 3 rfl rfl)
theorem dX13_back_51 : decode cX13_back 51 = .ok (.iload_n 2, 1) := dk_28 (dk_at dksX13_back_2 4 rfl rfl)
theorem dX13_back_52 : decode cX13_back 52 = .ok (.iadd, 1) := dk_96 (dk_at dksX13_back_2 5 rfl rfl)
theorem dX13_back_53 : decode cX13_back 53 = .ok (.iaload, 1) := dk_46 (dk_at dksX13_back_2 6 rfl rfl)
theorem dX13_back_54 : decode cX13_back 54 = .ok (.iastore, 1) := dk_79 (dk_at dksX13_back_2 7 rfl rfl)
theorem dX13_back_55 : decode cX13_back 55 = .ok (.iinc 2 1, 3) := dk_132 2 1 (dk_at dksX13_back_2 8 rfl rfl)
theorem dX13_back_58 : decode cX13_back 58 = .ok (.goto (-26), 3) := dk_167 255 230 (dk_at dksX13_back_2 11 rfl rfl)
theorem dX13_back_61 : decode cX13_back 61 = .ok (.aload_n 0, 1) := dk_42 (dk_at dksX13_back_2 14 rfl rfl)
theorem dX13_back_62 : decode cX13_back 62 = .ok (.iconst 0, 1) := dk_3 (dk_at dksX13_back_2 15 rfl rfl)
theorem dX13_back_63 : decode cX13_back 63 = .ok (.putfield 373, 3) := dk_181 1 117 (dk_at dksX13_back_2 16 rfl rfl)
theorem dX13_back_66 : decode cX13_back 66 = .ok (.aload_n 0, 1) := dk_42 (dk_at dksX13_back_2 19 rfl rfl)
theorem dX13_back_67 : decode cX13_back 67 = .ok (.invokevirtual 534, 3) := dk_182 2 22 (dk_at dksX13_back_2 20 rfl rfl)
theorem dX13_back_70 : decode cX13_back 70 = .ok (.ireturn, 1) := dk_172 (dk_at dksX13_back_2 23 rfl rfl)
abbrev cX13_led : ByteArray := prog_27_method_124_code
def yX13_led : MethodName := ⟨RX13, "led", "(I)I"⟩
def dkwX13_led_2 : List UInt8 := [172, 132, 2, 1, 132, 3, 1, 167, 255, 210, 42, 4, 181, 0, 39, 3, 172]
abbrev dktX13_led_2 : List UInt8 := dkwX13_led_2 ++ []
def dkwX13_led_1 : List UInt8 := [162, 0, 34, 42, 42, 180, 0, 17, 29, 182, 1, 130, 154, 0, 6, 167, 0, 13, 28, 27, 160, 0, 5, 29]
abbrev dktX13_led_1 : List UInt8 := dkwX13_led_1 ++ dktX13_led_2
def dkwX13_led_0 : List UInt8 := [42, 3, 181, 0, 39, 3, 61, 3, 62, 42, 180, 1, 111, 198, 0, 45, 29, 42, 180, 1, 111, 180, 1, 31]
abbrev dktX13_led_0 : List UInt8 := dkwX13_led_0 ++ dktX13_led_1
theorem dksX13_led_0 : cX13_led.data.toList.drop 0 = dktX13_led_0 := by decide +kernel
theorem dksX13_led_1 : cX13_led.data.toList.drop 24 = dktX13_led_1 := dk_seg dksX13_led_0 24 rfl rfl
theorem dksX13_led_2 : cX13_led.data.toList.drop 48 = dktX13_led_2 := dk_seg dksX13_led_1 24 rfl rfl
theorem dX13_led_0 : decode cX13_led 0 = .ok (.aload_n 0, 1) := dk_42 (dk_at dksX13_led_0 0 rfl rfl)
theorem dX13_led_1 : decode cX13_led 1 = .ok (.iconst 0, 1) := dk_3 (dk_at dksX13_led_0 1 rfl rfl)
theorem dX13_led_2 : decode cX13_led 2 = .ok (.putfield 39, 3) := dk_181 0 39 (dk_at dksX13_led_0 2 rfl rfl)
theorem dX13_led_5 : decode cX13_led 5 = .ok (.iconst 0, 1) := dk_3 (dk_at dksX13_led_0 5 rfl rfl)
theorem dX13_led_6 : decode cX13_led 6 = .ok (.istore_n 2, 1) := dk_61 (dk_at dksX13_led_0 6 rfl rfl)
theorem dX13_led_7 : decode cX13_led 7 = .ok (.iconst 0, 1) := dk_3 (dk_at dksX13_led_0 7 rfl rfl)
theorem dX13_led_8 : decode cX13_led 8 = .ok (.istore_n 3, 1) := dk_62 (dk_at dksX13_led_0 8 rfl rfl)
theorem dX13_led_9 : decode cX13_led 9 = .ok (.aload_n 0, 1) := dk_42 (dk_at dksX13_led_0 9 rfl rfl)
theorem dX13_led_10 : decode cX13_led 10 = .ok (.getfield 367, 3) := dk_180 1 111 (dk_at dksX13_led_0 10 rfl rfl)
theorem dX13_led_13 : decode cX13_led 13 = .ok (.ifnull 45, 3) := dk_198 0 45 (dk_at dksX13_led_0 13 rfl rfl)
theorem dX13_led_16 : decode cX13_led 16 = .ok (.iload_n 3, 1) := dk_29 (dk_at dksX13_led_0 16 rfl rfl)
theorem dX13_led_17 : decode cX13_led 17 = .ok (.aload_n 0, 1) := dk_42 (dk_at dksX13_led_0 17 rfl rfl)
theorem dX13_led_18 : decode cX13_led 18 = .ok (.getfield 367, 3) := dk_180 1 111 (dk_at dksX13_led_0 18 rfl rfl)
theorem dX13_led_21 : decode cX13_led 21 = .ok (.getfield 287, 3) := dk_180 1 31 (dk_at dksX13_led_0 21 rfl rfl)
theorem dX13_led_24 : decode cX13_led 24 = .ok (.if_icmp .ge 34, 3) := dk_162 0 34 (dk_at dksX13_led_1 0 rfl rfl)
theorem dX13_led_27 : decode cX13_led 27 = .ok (.aload_n 0, 1) := dk_42 (dk_at dksX13_led_1 3 rfl rfl)
theorem dX13_led_28 : decode cX13_led 28 = .ok (.aload_n 0, 1) := dk_42 (dk_at dksX13_led_1 4 rfl rfl)
theorem dX13_led_29 : decode cX13_led 29 = .ok (.getfield 17, 3) := dk_180 0 17 (dk_at dksX13_led_1 5 rfl rfl)
theorem dX13_led_32 : decode cX13_led 32 = .ok (.iload_n 3, 1) := dk_29 (dk_at dksX13_led_1 8 rfl rfl)
theorem dX13_led_33 : decode cX13_led 33 = .ok (.invokevirtual 386, 3) := dk_182 1 130 (dk_at dksX13_led_1 9 rfl rfl)
theorem dX13_led_36 : decode cX13_led 36 = .ok (.ifCond .ne 6, 3) := dk_154 0 6 (dk_at dksX13_led_1 12 rfl rfl)
theorem dX13_led_39 : decode cX13_led 39 = .ok (.goto 13, 3) := dk_167 0 13 (dk_at dksX13_led_1 15 rfl rfl)
theorem dX13_led_42 : decode cX13_led 42 = .ok (.iload_n 2, 1) := dk_28 (dk_at dksX13_led_1 18 rfl rfl)
theorem dX13_led_43 : decode cX13_led 43 = .ok (.iload_n 1, 1) := dk_27 (dk_at dksX13_led_1 19 rfl rfl)
theorem dX13_led_44 : decode cX13_led 44 = .ok (.if_icmp .ne 5, 3) := dk_160 0 5 (dk_at dksX13_led_1 20 rfl rfl)
theorem dX13_led_47 : decode cX13_led 47 = .ok (.iload_n 3, 1) := dk_29 (dk_at dksX13_led_1 23 rfl rfl)
theorem dX13_led_48 : decode cX13_led 48 = .ok (.ireturn, 1) := dk_172 (dk_at dksX13_led_2 0 rfl rfl)
theorem dX13_led_49 : decode cX13_led 49 = .ok (.iinc 2 1, 3) := dk_132 2 1 (dk_at dksX13_led_2 1 rfl rfl)
theorem dX13_led_52 : decode cX13_led 52 = .ok (.iinc 3 1, 3) := dk_132 3 1 (dk_at dksX13_led_2 4 rfl rfl)
theorem dX13_led_55 : decode cX13_led 55 = .ok (.goto (-46), 3) := dk_167 255 210 (dk_at dksX13_led_2 7 rfl rfl)
theorem dX13_led_58 : decode cX13_led 58 = .ok (.aload_n 0, 1) := dk_42 (dk_at dksX13_led_2 10 rfl rfl)
theorem dX13_led_59 : decode cX13_led 59 = .ok (.iconst 1, 1) := dk_4 (dk_at dksX13_led_2 11 rfl rfl)
theorem dX13_led_60 : decode cX13_led 60 = .ok (.putfield 39, 3) := dk_181 0 39 (dk_at dksX13_led_2 12 rfl rfl)
theorem dX13_led_63 : decode cX13_led 63 = .ok (.iconst 0, 1) := dk_3 (dk_at dksX13_led_2 15 rfl rfl)
theorem dX13_led_64 : decode cX13_led 64 = .ok (.ireturn, 1) := dk_172 (dk_at dksX13_led_2 16 rfl rfl)
abbrev cX13_size : ByteArray := prog_27_method_125_code
def yX13_size : MethodName := ⟨RX13, "size", "(I)I"⟩
def dkwX13_size_6 : List UInt8 := [42, 180, 0, 17, 16, 17, 46, 172, 42, 180, 1, 117, 172, 42, 180, 1, 120, 172]
abbrev dktX13_size_6 : List UInt8 := dkwX13_size_6 ++ []
def dkwX13_size_5 : List UInt8 := [42, 180, 1, 111, 180, 1, 67, 172, 42, 180, 1, 111, 180, 1, 92, 172, 42, 180, 1, 111, 180, 1, 95, 172]
abbrev dktX13_size_5 : List UInt8 := dkwX13_size_5 ++ dktX13_size_6
def dkwX13_size_4 : List UInt8 := [42, 180, 1, 111, 180, 0, 191, 172, 42, 180, 1, 111, 180, 0, 194, 172, 42, 180, 1, 111, 180, 1, 31, 172]
abbrev dktX13_size_4 : List UInt8 := dkwX13_size_4 ++ dktX13_size_5
def dkwX13_size_3 : List UInt8 := [42, 180, 1, 111, 180, 0, 156, 172, 42, 180, 1, 111, 180, 0, 231, 172, 42, 180, 1, 111, 180, 0, 233, 172]
abbrev dktX13_size_3 : List UInt8 := dkwX13_size_3 ++ dktX13_size_4
def dkwX13_size_2 : List UInt8 := [170, 0, 0, 0, 0, 143, 0, 0, 0, 0, 0, 0, 0, 10, 0, 0, 0, 58, 0, 0, 0, 66, 0, 0, 0, 74, 0, 0, 0, 82, 0, 0, 0, 90, 0, 0, 0, 98, 0, 0, 0, 106, 0, 0, 0, 114, 0, 0, 0, 122, 0, 0, 0, 130, 0, 0, 0, 138]
abbrev dktX13_size_2 : List UInt8 := dkwX13_size_2 ++ dktX13_size_3
def dkwX13_size_1 : List UInt8 := [154, 0, 5, 2, 172, 42, 180, 1, 111, 199, 0, 5, 3, 172, 27]
abbrev dktX13_size_1 : List UInt8 := dkwX13_size_1 ++ dktX13_size_2
def dkwX13_size_0 : List UInt8 := [42, 3, 181, 0, 39, 27, 16, 12, 160, 0, 8, 42, 180, 1, 104, 172, 27, 3, 16, 11, 184, 0, 118]
abbrev dktX13_size_0 : List UInt8 := dkwX13_size_0 ++ dktX13_size_1
theorem dksX13_size_0 : cX13_size.data.toList.drop 0 = dktX13_size_0 := by decide +kernel
theorem dksX13_size_1 : cX13_size.data.toList.drop 23 = dktX13_size_1 := dk_seg dksX13_size_0 23 rfl rfl
theorem dksX13_size_2 : cX13_size.data.toList.drop 38 = dktX13_size_2 := dk_seg dksX13_size_1 15 rfl rfl
theorem dksX13_size_3 : cX13_size.data.toList.drop 96 = dktX13_size_3 := dk_seg dksX13_size_2 58 rfl rfl
theorem dksX13_size_4 : cX13_size.data.toList.drop 120 = dktX13_size_4 := dk_seg dksX13_size_3 24 rfl rfl
theorem dksX13_size_5 : cX13_size.data.toList.drop 144 = dktX13_size_5 := dk_seg dksX13_size_4 24 rfl rfl
theorem dksX13_size_6 : cX13_size.data.toList.drop 168 = dktX13_size_6 := dk_seg dksX13_size_5 24 rfl rfl
theorem dX13_size_0 : decode cX13_size 0 = .ok (.aload_n 0, 1) := dk_42 (dk_at dksX13_size_0 0 rfl rfl)
theorem dX13_size_1 : decode cX13_size 1 = .ok (.iconst 0, 1) := dk_3 (dk_at dksX13_size_0 1 rfl rfl)
theorem dX13_size_2 : decode cX13_size 2 = .ok (.putfield 39, 3) := dk_181 0 39 (dk_at dksX13_size_0 2 rfl rfl)
theorem dX13_size_5 : decode cX13_size 5 = .ok (.iload_n 1, 1) := dk_27 (dk_at dksX13_size_0 5 rfl rfl)
theorem dX13_size_6 : decode cX13_size 6 = .ok (.bipush 12, 2) := dk_16 12 (dk_at dksX13_size_0 6 rfl rfl)
theorem dX13_size_8 : decode cX13_size 8 = .ok (.if_icmp .ne 8, 3) := dk_160 0 8 (dk_at dksX13_size_0 8 rfl rfl)
theorem dX13_size_11 : decode cX13_size 11 = .ok (.aload_n 0, 1) := dk_42 (dk_at dksX13_size_0 11 rfl rfl)
theorem dX13_size_12 : decode cX13_size 12 = .ok (.getfield 360, 3) := dk_180 1 104 (dk_at dksX13_size_0 12 rfl rfl)
theorem dX13_size_15 : decode cX13_size 15 = .ok (.ireturn, 1) := dk_172 (dk_at dksX13_size_0 15 rfl rfl)
theorem dX13_size_16 : decode cX13_size 16 = .ok (.iload_n 1, 1) := dk_27 (dk_at dksX13_size_0 16 rfl rfl)
theorem dX13_size_17 : decode cX13_size 17 = .ok (.iconst 0, 1) := dk_3 (dk_at dksX13_size_0 17 rfl rfl)
theorem dX13_size_18 : decode cX13_size 18 = .ok (.bipush 11, 2) := dk_16 11 (dk_at dksX13_size_0 18 rfl rfl)
theorem dX13_size_20 : decode cX13_size 20 = .ok (.invokestatic 118, 3) := dk_184 0 118 (dk_at dksX13_size_0 20 rfl rfl)
theorem dX13_size_23 : decode cX13_size 23 = .ok (.ifCond .ne 5, 3) := dk_154 0 5 (dk_at dksX13_size_1 0 rfl rfl)
theorem dX13_size_26 : decode cX13_size 26 = .ok (.iconst (-1), 1) := dk_2 (dk_at dksX13_size_1 3 rfl rfl)
theorem dX13_size_27 : decode cX13_size 27 = .ok (.ireturn, 1) := dk_172 (dk_at dksX13_size_1 4 rfl rfl)
theorem dX13_size_28 : decode cX13_size 28 = .ok (.aload_n 0, 1) := dk_42 (dk_at dksX13_size_1 5 rfl rfl)
theorem dX13_size_29 : decode cX13_size 29 = .ok (.getfield 367, 3) := dk_180 1 111 (dk_at dksX13_size_1 6 rfl rfl)
theorem dX13_size_32 : decode cX13_size 32 = .ok (.ifnonnull 5, 3) := dk_199 0 5 (dk_at dksX13_size_1 9 rfl rfl)
theorem dX13_size_35 : decode cX13_size 35 = .ok (.iconst 0, 1) := dk_3 (dk_at dksX13_size_1 12 rfl rfl)
theorem dX13_size_36 : decode cX13_size 36 = .ok (.ireturn, 1) := dk_172 (dk_at dksX13_size_1 13 rfl rfl)
theorem dX13_size_37 : decode cX13_size 37 = .ok (.iload_n 1, 1) := dk_27 (dk_at dksX13_size_1 14 rfl rfl)
theorem dX13_size_38 : decode cX13_size 38 = .ok (.tableswitch 143 0 10 #[58, 66, 74, 82, 90, 98, 106, 114, 122, 130, 138], 58) := by decide +kernel
theorem dX13_size_96 : decode cX13_size 96 = .ok (.aload_n 0, 1) := dk_42 (dk_at dksX13_size_3 0 rfl rfl)
theorem dX13_size_97 : decode cX13_size 97 = .ok (.getfield 367, 3) := dk_180 1 111 (dk_at dksX13_size_3 1 rfl rfl)
theorem dX13_size_100 : decode cX13_size 100 = .ok (.getfield 156, 3) := dk_180 0 156 (dk_at dksX13_size_3 4 rfl rfl)
theorem dX13_size_103 : decode cX13_size 103 = .ok (.ireturn, 1) := dk_172 (dk_at dksX13_size_3 7 rfl rfl)
theorem dX13_size_104 : decode cX13_size 104 = .ok (.aload_n 0, 1) := dk_42 (dk_at dksX13_size_3 8 rfl rfl)
theorem dX13_size_105 : decode cX13_size 105 = .ok (.getfield 367, 3) := dk_180 1 111 (dk_at dksX13_size_3 9 rfl rfl)
theorem dX13_size_108 : decode cX13_size 108 = .ok (.getfield 231, 3) := dk_180 0 231 (dk_at dksX13_size_3 12 rfl rfl)
theorem dX13_size_111 : decode cX13_size 111 = .ok (.ireturn, 1) := dk_172 (dk_at dksX13_size_3 15 rfl rfl)
theorem dX13_size_112 : decode cX13_size 112 = .ok (.aload_n 0, 1) := dk_42 (dk_at dksX13_size_3 16 rfl rfl)
theorem dX13_size_113 : decode cX13_size 113 = .ok (.getfield 367, 3) := dk_180 1 111 (dk_at dksX13_size_3 17 rfl rfl)
theorem dX13_size_116 : decode cX13_size 116 = .ok (.getfield 233, 3) := dk_180 0 233 (dk_at dksX13_size_3 20 rfl rfl)
theorem dX13_size_119 : decode cX13_size 119 = .ok (.ireturn, 1) := dk_172 (dk_at dksX13_size_3 23 rfl rfl)
theorem dX13_size_120 : decode cX13_size 120 = .ok (.aload_n 0, 1) := dk_42 (dk_at dksX13_size_4 0 rfl rfl)
theorem dX13_size_121 : decode cX13_size 121 = .ok (.getfield 367, 3) := dk_180 1 111 (dk_at dksX13_size_4 1 rfl rfl)
theorem dX13_size_124 : decode cX13_size 124 = .ok (.getfield 191, 3) := dk_180 0 191 (dk_at dksX13_size_4 4 rfl rfl)
theorem dX13_size_127 : decode cX13_size 127 = .ok (.ireturn, 1) := dk_172 (dk_at dksX13_size_4 7 rfl rfl)
theorem dX13_size_128 : decode cX13_size 128 = .ok (.aload_n 0, 1) := dk_42 (dk_at dksX13_size_4 8 rfl rfl)
theorem dX13_size_129 : decode cX13_size 129 = .ok (.getfield 367, 3) := dk_180 1 111 (dk_at dksX13_size_4 9 rfl rfl)
theorem dX13_size_132 : decode cX13_size 132 = .ok (.getfield 194, 3) := dk_180 0 194 (dk_at dksX13_size_4 12 rfl rfl)
theorem dX13_size_135 : decode cX13_size 135 = .ok (.ireturn, 1) := dk_172 (dk_at dksX13_size_4 15 rfl rfl)
theorem dX13_size_136 : decode cX13_size 136 = .ok (.aload_n 0, 1) := dk_42 (dk_at dksX13_size_4 16 rfl rfl)
theorem dX13_size_137 : decode cX13_size 137 = .ok (.getfield 367, 3) := dk_180 1 111 (dk_at dksX13_size_4 17 rfl rfl)
theorem dX13_size_140 : decode cX13_size 140 = .ok (.getfield 287, 3) := dk_180 1 31 (dk_at dksX13_size_4 20 rfl rfl)
theorem dX13_size_143 : decode cX13_size 143 = .ok (.ireturn, 1) := dk_172 (dk_at dksX13_size_4 23 rfl rfl)
theorem dX13_size_144 : decode cX13_size 144 = .ok (.aload_n 0, 1) := dk_42 (dk_at dksX13_size_5 0 rfl rfl)
theorem dX13_size_145 : decode cX13_size 145 = .ok (.getfield 367, 3) := dk_180 1 111 (dk_at dksX13_size_5 1 rfl rfl)
theorem dX13_size_148 : decode cX13_size 148 = .ok (.getfield 323, 3) := dk_180 1 67 (dk_at dksX13_size_5 4 rfl rfl)
theorem dX13_size_151 : decode cX13_size 151 = .ok (.ireturn, 1) := dk_172 (dk_at dksX13_size_5 7 rfl rfl)
theorem dX13_size_152 : decode cX13_size 152 = .ok (.aload_n 0, 1) := dk_42 (dk_at dksX13_size_5 8 rfl rfl)
theorem dX13_size_153 : decode cX13_size 153 = .ok (.getfield 367, 3) := dk_180 1 111 (dk_at dksX13_size_5 9 rfl rfl)
theorem dX13_size_156 : decode cX13_size 156 = .ok (.getfield 348, 3) := dk_180 1 92 (dk_at dksX13_size_5 12 rfl rfl)
theorem dX13_size_159 : decode cX13_size 159 = .ok (.ireturn, 1) := dk_172 (dk_at dksX13_size_5 15 rfl rfl)
theorem dX13_size_160 : decode cX13_size 160 = .ok (.aload_n 0, 1) := dk_42 (dk_at dksX13_size_5 16 rfl rfl)
theorem dX13_size_161 : decode cX13_size 161 = .ok (.getfield 367, 3) := dk_180 1 111 (dk_at dksX13_size_5 17 rfl rfl)
theorem dX13_size_164 : decode cX13_size 164 = .ok (.getfield 351, 3) := dk_180 1 95 (dk_at dksX13_size_5 20 rfl rfl)
theorem dX13_size_167 : decode cX13_size 167 = .ok (.ireturn, 1) := dk_172 (dk_at dksX13_size_5 23 rfl rfl)
theorem dX13_size_168 : decode cX13_size 168 = .ok (.aload_n 0, 1) := dk_42 (dk_at dksX13_size_6 0 rfl rfl)
theorem dX13_size_169 : decode cX13_size 169 = .ok (.getfield 17, 3) := dk_180 0 17 (dk_at dksX13_size_6 1 rfl rfl)
theorem dX13_size_172 : decode cX13_size 172 = .ok (.bipush 17, 2) := dk_16 17 (dk_at dksX13_size_6 4 rfl rfl)
theorem dX13_size_174 : decode cX13_size 174 = .ok (.iaload, 1) := dk_46 (dk_at dksX13_size_6 6 rfl rfl)
theorem dX13_size_175 : decode cX13_size 175 = .ok (.ireturn, 1) := dk_172 (dk_at dksX13_size_6 7 rfl rfl)
theorem dX13_size_176 : decode cX13_size 176 = .ok (.aload_n 0, 1) := dk_42 (dk_at dksX13_size_6 8 rfl rfl)
theorem dX13_size_177 : decode cX13_size 177 = .ok (.getfield 373, 3) := dk_180 1 117 (dk_at dksX13_size_6 9 rfl rfl)
theorem dX13_size_180 : decode cX13_size 180 = .ok (.ireturn, 1) := dk_172 (dk_at dksX13_size_6 12 rfl rfl)
theorem dX13_size_181 : decode cX13_size 181 = .ok (.aload_n 0, 1) := dk_42 (dk_at dksX13_size_6 13 rfl rfl)
theorem dX13_size_182 : decode cX13_size 182 = .ok (.getfield 376, 3) := dk_180 1 120 (dk_at dksX13_size_6 14 rfl rfl)
theorem dX13_size_185 : decode cX13_size 185 = .ok (.ireturn, 1) := dk_172 (dk_at dksX13_size_6 17 rfl rfl)
abbrev cX13_trouble : ByteArray := prog_27_method_126_code
def yX13_trouble : MethodName := ⟨RX13, "trouble", "()I"⟩
def dkwX13_trouble_0 : List UInt8 := [42, 3, 181, 0, 39, 42, 180, 0, 42, 172]
abbrev dktX13_trouble_0 : List UInt8 := dkwX13_trouble_0 ++ []
theorem dksX13_trouble_0 : cX13_trouble.data.toList.drop 0 = dktX13_trouble_0 := by decide +kernel
theorem dX13_trouble_0 : decode cX13_trouble 0 = .ok (.aload_n 0, 1) := dk_42 (dk_at dksX13_trouble_0 0 rfl rfl)
theorem dX13_trouble_1 : decode cX13_trouble 1 = .ok (.iconst 0, 1) := dk_3 (dk_at dksX13_trouble_0 1 rfl rfl)
theorem dX13_trouble_2 : decode cX13_trouble 2 = .ok (.putfield 39, 3) := dk_181 0 39 (dk_at dksX13_trouble_0 2 rfl rfl)
theorem dX13_trouble_5 : decode cX13_trouble 5 = .ok (.aload_n 0, 1) := dk_42 (dk_at dksX13_trouble_0 5 rfl rfl)
theorem dX13_trouble_6 : decode cX13_trouble 6 = .ok (.getfield 42, 3) := dk_180 0 42 (dk_at dksX13_trouble_0 6 rfl rfl)
theorem dX13_trouble_9 : decode cX13_trouble 9 = .ok (.ireturn, 1) := dk_172 (dk_at dksX13_trouble_0 9 rfl rfl)
theorem q135 : (Jvm.Cond.initialized "SaltedGateModel") ∈ lw_all := lw_g (lw_at lw_m1 16 rfl) rfl
theorem q1735 : (Jvm.Cond.instantiable "SaltedGateModel" (31 : Nat)) ∈ lw_all := lw_g (lw_at lw_m7 176 rfl) rfl
theorem q1737 : (Jvm.Cond.instanceMethod ({ cls := "SaltedGateModel", name := "<init>", desc := "()V" } : Jvm.MethodName)) ∈ lw_all := lw_g (lw_at lw_m7 178 rfl) rfl
theorem q1738 : (Jvm.Cond.code ({ cls := "SaltedGateModel", name := "<init>", desc := "()V" } : Jvm.MethodName) prog_27_method_1_code (1 : Nat) (Option.none : Option Jvm.ClassFile.FieldType)) ∈ lw_all := lw_g (lw_at lw_m7 179 rfl) rfl
theorem q1739 : (Jvm.Cond.methodLink "SaltedGateModel" (3 : Nat) ({ cls := "java/lang/Object", name := "<init>", desc := "()V" } : Jvm.MethodName)) ∈ lw_all := lw_g (lw_at lw_m7 180 rfl) rfl
theorem q1740 : (Jvm.Cond.fieldLink "SaltedGateModel" (39 : Nat) "SaltedGateModel" "thrown" "I") ∈ lw_all := lw_g (lw_at lw_m7 181 rfl) rfl
theorem q1741 : (Jvm.Cond.fieldLink "SaltedGateModel" (42 : Nat) "SaltedGateModel" "trouble" "I") ∈ lw_all := lw_g (lw_at lw_m7 182 rfl) rfl
theorem q1742 : (Jvm.Cond.fieldLink "SaltedGateModel" (9 : Nat) "SaltedGateModel" "where" "I") ∈ lw_all := lw_g (lw_at lw_m7 183 rfl) rfl
theorem q1743 : (Jvm.Cond.fieldLink "SaltedGateModel" (367 : Nat) "SaltedGateModel" "barrier" "LSaltedGateModel$Barrier;") ∈ lw_all := lw_g (lw_at lw_m7 184 rfl) rfl
theorem q1744 : (Jvm.Cond.fieldLink "SaltedGateModel" (152 : Nat) "SaltedGateModel" "read" "LSaltedGateModel$Barrier;") ∈ lw_all := lw_g (lw_at lw_m7 185 rfl) rfl
theorem q1745 : (Jvm.Cond.fieldLink "SaltedGateModel" (13 : Nat) "SaltedGateModel" "tape" "[B") ∈ lw_all := lw_g (lw_at lw_m7 186 rfl) rfl
theorem q1746 : (Jvm.Cond.fieldLink "SaltedGateModel" (360 : Nat) "SaltedGateModel" "taped" "I") ∈ lw_all := lw_g (lw_at lw_m7 187 rfl) rfl
theorem q1747 : (Jvm.Cond.fieldLink "SaltedGateModel" (56 : Nat) "SaltedGateModel" "size" "I") ∈ lw_all := lw_g (lw_at lw_m7 188 rfl) rfl
theorem q1748 : (Jvm.Cond.fieldLink "SaltedGateModel" (74 : Nat) "SaltedGateModel" "spot" "I") ∈ lw_all := lw_g (lw_at lw_m7 189 rfl) rfl
theorem q1749 : (Jvm.Cond.fieldLink "SaltedGateModel" (71 : Nat) "SaltedGateModel" "sort" "I") ∈ lw_all := lw_g (lw_at lw_m7 190 rfl) rfl
theorem q1750 : (Jvm.Cond.fieldLink "SaltedGateModel" (80 : Nat) "SaltedGateModel" "place" "I") ∈ lw_all := lw_g (lw_at lw_m7 191 rfl) rfl
theorem q1751 : (Jvm.Cond.fieldLink "SaltedGateModel" (94 : Nat) "SaltedGateModel" "number" "I") ∈ lw_all := lw_g (lw_at lw_m7 192 rfl) rfl
theorem q1752 : (Jvm.Cond.fieldLink "SaltedGateModel" (97 : Nat) "SaltedGateModel" "fault" "I") ∈ lw_all := lw_g (lw_at lw_m7 193 rfl) rfl
theorem q1753 : (Jvm.Cond.fieldLink "SaltedGateModel" (100 : Nat) "SaltedGateModel" "wrongAt" "I") ∈ lw_all := lw_g (lw_at lw_m7 194 rfl) rfl
theorem q1754 : (Jvm.Cond.fieldLink "SaltedGateModel" (87 : Nat) "SaltedGateModel" "word" "J") ∈ lw_all := lw_g (lw_at lw_m7 195 rfl) rfl
theorem q1755 : (Jvm.Cond.fieldLink "SaltedGateModel" (17 : Nat) "SaltedGateModel" "v" "[I") ∈ lw_all := lw_g (lw_at lw_m7 196 rfl) rfl
theorem q1756 : (Jvm.Cond.fieldLink "SaltedGateModel" (21 : Nat) "SaltedGateModel" "x" "[I") ∈ lw_all := lw_g (lw_at lw_m7 197 rfl) rfl
theorem q1757 : (Jvm.Cond.fieldLink "SaltedGateModel" (24 : Nat) "SaltedGateModel" "past" "[I") ∈ lw_all := lw_g (lw_at lw_m7 198 rfl) rfl
theorem q1758 : (Jvm.Cond.fieldLink "SaltedGateModel" (27 : Nat) "SaltedGateModel" "kept" "[I") ∈ lw_all := lw_g (lw_at lw_m7 199 rfl) rfl
theorem q1759 : (Jvm.Cond.fieldLink "SaltedGateModel" (373 : Nat) "SaltedGateModel" "acts" "I") ∈ lw_all := lw_g (lw_at lw_m7 200 rfl) rfl
theorem q1760 : (Jvm.Cond.fieldLink "SaltedGateModel" (376 : Nat) "SaltedGateModel" "marks" "I") ∈ lw_all := lw_g (lw_at lw_m7 201 rfl) rfl
theorem q1761 : (Jvm.Cond.fieldLink "SaltedGateModel" (445 : Nat) "SaltedGateModel" "bestDay" "I") ∈ lw_all := lw_g (lw_at lw_m7 202 rfl) rfl
theorem q1762 : (Jvm.Cond.fieldLink "SaltedGateModel" (442 : Nat) "SaltedGateModel" "bestAsked" "I") ∈ lw_all := lw_g (lw_at lw_m7 203 rfl) rfl
theorem q1763 : (Jvm.Cond.fieldLink "SaltedGateModel" (454 : Nat) "SaltedGateModel" "bestSet" "I") ∈ lw_all := lw_g (lw_at lw_m7 204 rfl) rfl
theorem q1764 : (Jvm.Cond.fieldLink "SaltedGateModel" (470 : Nat) "SaltedGateModel" "heldBest" "I") ∈ lw_all := lw_g (lw_at lw_m7 205 rfl) rfl
theorem q1765 : (Jvm.Cond.fieldLink "SaltedGateModel" (467 : Nat) "SaltedGateModel" "heldGain" "I") ∈ lw_all := lw_g (lw_at lw_m7 206 rfl) rfl
theorem q1766 : (Jvm.Cond.fieldLink "SaltedGateModel" (30 : Nat) "SaltedGateModel" "result" "[I") ∈ lw_all := lw_g (lw_at lw_m7 207 rfl) rfl
theorem q1767 : (Jvm.Cond.fieldLink "SaltedGateModel" (487 : Nat) "SaltedGateModel" "seedNow" "I") ∈ lw_all := lw_g (lw_at lw_m7 208 rfl) rfl
theorem q1768 : (Jvm.Cond.fieldLink "SaltedGateModel" (33 : Nat) "SaltedGateModel" "row" "[I") ∈ lw_all := lw_g (lw_at lw_m7 209 rfl) rfl
theorem q1769 : (Jvm.Cond.fieldLink "SaltedGateModel" (36 : Nat) "SaltedGateModel" "could" "[I") ∈ lw_all := lw_g (lw_at lw_m7 210 rfl) rfl
theorem q1770 : (Jvm.Cond.fieldLink "SaltedGateModel" (509 : Nat) "SaltedGateModel" "rows" "I") ∈ lw_all := lw_g (lw_at lw_m7 211 rfl) rfl
theorem q1771 : (Jvm.Cond.lays "SaltedGateModel" "SaltedGateModel" "thrown" "I") ∈ lw_all := lw_g (lw_at lw_m7 212 rfl) rfl
theorem q1772 : (Jvm.Cond.soleField "SaltedGateModel" "thrown") ∈ lw_all := lw_g (lw_at lw_m7 213 rfl) rfl
theorem q1773 : (Jvm.Cond.lays "SaltedGateModel" "SaltedGateModel" "trouble" "I") ∈ lw_all := lw_g (lw_at lw_m7 214 rfl) rfl
theorem q1774 : (Jvm.Cond.soleField "SaltedGateModel" "trouble") ∈ lw_all := lw_g (lw_at lw_m7 215 rfl) rfl
theorem q1775 : (Jvm.Cond.lays "SaltedGateModel" "SaltedGateModel" "where" "I") ∈ lw_all := lw_g (lw_at lw_m7 216 rfl) rfl
theorem q1776 : (Jvm.Cond.soleField "SaltedGateModel" "where") ∈ lw_all := lw_g (lw_at lw_m7 217 rfl) rfl
theorem q1777 : (Jvm.Cond.lays "SaltedGateModel" "SaltedGateModel" "barrier" "LSaltedGateModel$Barrier;") ∈ lw_all := lw_g (lw_at lw_m7 218 rfl) rfl
theorem q1778 : (Jvm.Cond.soleField "SaltedGateModel" "barrier") ∈ lw_all := lw_g (lw_at lw_m7 219 rfl) rfl
theorem q1779 : (Jvm.Cond.lays "SaltedGateModel" "SaltedGateModel" "read" "LSaltedGateModel$Barrier;") ∈ lw_all := lw_g (lw_at lw_m7 220 rfl) rfl
theorem q1780 : (Jvm.Cond.soleField "SaltedGateModel" "read") ∈ lw_all := lw_g (lw_at lw_m7 221 rfl) rfl
theorem q1781 : (Jvm.Cond.laysFinal "SaltedGateModel" "SaltedGateModel" "tape" "[B") ∈ lw_all := lw_g (lw_at lw_m7 222 rfl) rfl
theorem q1782 : (Jvm.Cond.soleField "SaltedGateModel" "tape") ∈ lw_all := lw_g (lw_at lw_m7 223 rfl) rfl
theorem q1783 : (Jvm.Cond.lays "SaltedGateModel" "SaltedGateModel" "taped" "I") ∈ lw_all := lw_g (lw_at lw_m7 224 rfl) rfl
theorem q1784 : (Jvm.Cond.soleField "SaltedGateModel" "taped") ∈ lw_all := lw_g (lw_at lw_m7 225 rfl) rfl
theorem q1785 : (Jvm.Cond.lays "SaltedGateModel" "SaltedGateModel" "size" "I") ∈ lw_all := lw_g (lw_at lw_m7 226 rfl) rfl
theorem q1786 : (Jvm.Cond.soleField "SaltedGateModel" "size") ∈ lw_all := lw_g (lw_at lw_m7 227 rfl) rfl
theorem q1787 : (Jvm.Cond.lays "SaltedGateModel" "SaltedGateModel" "spot" "I") ∈ lw_all := lw_g (lw_at lw_m7 228 rfl) rfl
theorem q1788 : (Jvm.Cond.soleField "SaltedGateModel" "spot") ∈ lw_all := lw_g (lw_at lw_m7 229 rfl) rfl
theorem q1789 : (Jvm.Cond.lays "SaltedGateModel" "SaltedGateModel" "sort" "I") ∈ lw_all := lw_g (lw_at lw_m7 230 rfl) rfl
theorem q1790 : (Jvm.Cond.soleField "SaltedGateModel" "sort") ∈ lw_all := lw_g (lw_at lw_m7 231 rfl) rfl
theorem q1791 : (Jvm.Cond.lays "SaltedGateModel" "SaltedGateModel" "place" "I") ∈ lw_all := lw_g (lw_at lw_m7 232 rfl) rfl
theorem q1792 : (Jvm.Cond.soleField "SaltedGateModel" "place") ∈ lw_all := lw_g (lw_at lw_m7 233 rfl) rfl
theorem q1793 : (Jvm.Cond.lays "SaltedGateModel" "SaltedGateModel" "number" "I") ∈ lw_all := lw_g (lw_at lw_m7 234 rfl) rfl
theorem q1794 : (Jvm.Cond.soleField "SaltedGateModel" "number") ∈ lw_all := lw_g (lw_at lw_m7 235 rfl) rfl
theorem q1795 : (Jvm.Cond.lays "SaltedGateModel" "SaltedGateModel" "fault" "I") ∈ lw_all := lw_g (lw_at lw_m7 236 rfl) rfl
theorem q1796 : (Jvm.Cond.soleField "SaltedGateModel" "fault") ∈ lw_all := lw_g (lw_at lw_m7 237 rfl) rfl
theorem q1797 : (Jvm.Cond.lays "SaltedGateModel" "SaltedGateModel" "wrongAt" "I") ∈ lw_all := lw_g (lw_at lw_m7 238 rfl) rfl
theorem q1798 : (Jvm.Cond.soleField "SaltedGateModel" "wrongAt") ∈ lw_all := lw_g (lw_at lw_m7 239 rfl) rfl
theorem q1799 : (Jvm.Cond.lays "SaltedGateModel" "SaltedGateModel" "word" "J") ∈ lw_all := lw_g (lw_at lw_m8 0 rfl) rfl
theorem q1800 : (Jvm.Cond.soleField "SaltedGateModel" "word") ∈ lw_all := lw_g (lw_at lw_m8 1 rfl) rfl
theorem q1801 : (Jvm.Cond.laysFinal "SaltedGateModel" "SaltedGateModel" "v" "[I") ∈ lw_all := lw_g (lw_at lw_m8 2 rfl) rfl
theorem q1802 : (Jvm.Cond.soleField "SaltedGateModel" "v") ∈ lw_all := lw_g (lw_at lw_m8 3 rfl) rfl
theorem q1803 : (Jvm.Cond.laysFinal "SaltedGateModel" "SaltedGateModel" "x" "[I") ∈ lw_all := lw_g (lw_at lw_m8 4 rfl) rfl
theorem q1804 : (Jvm.Cond.soleField "SaltedGateModel" "x") ∈ lw_all := lw_g (lw_at lw_m8 5 rfl) rfl
theorem q1805 : (Jvm.Cond.laysFinal "SaltedGateModel" "SaltedGateModel" "past" "[I") ∈ lw_all := lw_g (lw_at lw_m8 6 rfl) rfl
theorem q1806 : (Jvm.Cond.soleField "SaltedGateModel" "past") ∈ lw_all := lw_g (lw_at lw_m8 7 rfl) rfl
theorem q1807 : (Jvm.Cond.laysFinal "SaltedGateModel" "SaltedGateModel" "kept" "[I") ∈ lw_all := lw_g (lw_at lw_m8 8 rfl) rfl
theorem q1808 : (Jvm.Cond.soleField "SaltedGateModel" "kept") ∈ lw_all := lw_g (lw_at lw_m8 9 rfl) rfl
theorem q1809 : (Jvm.Cond.lays "SaltedGateModel" "SaltedGateModel" "acts" "I") ∈ lw_all := lw_g (lw_at lw_m8 10 rfl) rfl
theorem q1810 : (Jvm.Cond.soleField "SaltedGateModel" "acts") ∈ lw_all := lw_g (lw_at lw_m8 11 rfl) rfl
theorem q1811 : (Jvm.Cond.lays "SaltedGateModel" "SaltedGateModel" "marks" "I") ∈ lw_all := lw_g (lw_at lw_m8 12 rfl) rfl
theorem q1812 : (Jvm.Cond.soleField "SaltedGateModel" "marks") ∈ lw_all := lw_g (lw_at lw_m8 13 rfl) rfl
theorem q1813 : (Jvm.Cond.lays "SaltedGateModel" "SaltedGateModel" "bestDay" "I") ∈ lw_all := lw_g (lw_at lw_m8 14 rfl) rfl
theorem q1814 : (Jvm.Cond.soleField "SaltedGateModel" "bestDay") ∈ lw_all := lw_g (lw_at lw_m8 15 rfl) rfl
theorem q1815 : (Jvm.Cond.lays "SaltedGateModel" "SaltedGateModel" "bestAsked" "I") ∈ lw_all := lw_g (lw_at lw_m8 16 rfl) rfl
theorem q1816 : (Jvm.Cond.soleField "SaltedGateModel" "bestAsked") ∈ lw_all := lw_g (lw_at lw_m8 17 rfl) rfl
theorem q1817 : (Jvm.Cond.lays "SaltedGateModel" "SaltedGateModel" "bestSet" "I") ∈ lw_all := lw_g (lw_at lw_m8 18 rfl) rfl
theorem q1818 : (Jvm.Cond.soleField "SaltedGateModel" "bestSet") ∈ lw_all := lw_g (lw_at lw_m8 19 rfl) rfl
theorem q1819 : (Jvm.Cond.lays "SaltedGateModel" "SaltedGateModel" "heldBest" "I") ∈ lw_all := lw_g (lw_at lw_m8 20 rfl) rfl
theorem q1820 : (Jvm.Cond.soleField "SaltedGateModel" "heldBest") ∈ lw_all := lw_g (lw_at lw_m8 21 rfl) rfl
theorem q1821 : (Jvm.Cond.lays "SaltedGateModel" "SaltedGateModel" "heldGain" "I") ∈ lw_all := lw_g (lw_at lw_m8 22 rfl) rfl
theorem q1822 : (Jvm.Cond.soleField "SaltedGateModel" "heldGain") ∈ lw_all := lw_g (lw_at lw_m8 23 rfl) rfl
theorem q1823 : (Jvm.Cond.laysFinal "SaltedGateModel" "SaltedGateModel" "result" "[I") ∈ lw_all := lw_g (lw_at lw_m8 24 rfl) rfl
theorem q1824 : (Jvm.Cond.soleField "SaltedGateModel" "result") ∈ lw_all := lw_g (lw_at lw_m8 25 rfl) rfl
theorem q1825 : (Jvm.Cond.lays "SaltedGateModel" "SaltedGateModel" "seedNow" "I") ∈ lw_all := lw_g (lw_at lw_m8 26 rfl) rfl
theorem q1826 : (Jvm.Cond.soleField "SaltedGateModel" "seedNow") ∈ lw_all := lw_g (lw_at lw_m8 27 rfl) rfl
theorem q1827 : (Jvm.Cond.laysFinal "SaltedGateModel" "SaltedGateModel" "row" "[I") ∈ lw_all := lw_g (lw_at lw_m8 28 rfl) rfl
theorem q1828 : (Jvm.Cond.soleField "SaltedGateModel" "row") ∈ lw_all := lw_g (lw_at lw_m8 29 rfl) rfl
theorem q1829 : (Jvm.Cond.laysFinal "SaltedGateModel" "SaltedGateModel" "could" "[I") ∈ lw_all := lw_g (lw_at lw_m8 30 rfl) rfl
theorem q1830 : (Jvm.Cond.soleField "SaltedGateModel" "could") ∈ lw_all := lw_g (lw_at lw_m8 31 rfl) rfl
theorem q1831 : (Jvm.Cond.lays "SaltedGateModel" "SaltedGateModel" "rows" "I") ∈ lw_all := lw_g (lw_at lw_m8 32 rfl) rfl
theorem q1832 : (Jvm.Cond.soleField "SaltedGateModel" "rows") ∈ lw_all := lw_g (lw_at lw_m8 33 rfl) rfl
theorem q1833 : (Jvm.Cond.superclass "SaltedGateModel" "java/lang/Object") ∈ lw_all := lw_g (lw_at lw_m8 34 rfl) rfl
theorem q1835 : (Jvm.Cond.instanceMethod ({ cls := "SaltedGateModel", name := "thrown", desc := "()I" } : Jvm.MethodName)) ∈ lw_all := lw_g (lw_at lw_m8 36 rfl) rfl
theorem q1836 : (Jvm.Cond.selects "SaltedGateModel" ({ cls := "SaltedGateModel", name := "thrown", desc := "()I" } : Jvm.MethodName) ({ cls := "SaltedGateModel", name := "thrown", desc := "()I" } : Jvm.MethodName)) ∈ lw_all := lw_g (lw_at lw_m8 37 rfl) rfl
theorem q1837 : (Jvm.Cond.code ({ cls := "SaltedGateModel", name := "thrown", desc := "()I" } : Jvm.MethodName) prog_27_method_2_code (1 : Nat) (Option.some Jvm.ClassFile.FieldType.int)) ∈ lw_all := lw_g (lw_at lw_m8 38 rfl) rfl
theorem q1839 : (Jvm.Cond.instanceMethod ({ cls := "SaltedGateModel", name := "feed", desc := "(IIIII)I" } : Jvm.MethodName)) ∈ lw_all := lw_g (lw_at lw_m8 40 rfl) rfl
theorem q1840 : (Jvm.Cond.selects "SaltedGateModel" ({ cls := "SaltedGateModel", name := "feed", desc := "(IIIII)I" } : Jvm.MethodName) ({ cls := "SaltedGateModel", name := "feed", desc := "(IIIII)I" } : Jvm.MethodName)) ∈ lw_all := lw_g (lw_at lw_m8 41 rfl) rfl
theorem q1841 : (Jvm.Cond.code ({ cls := "SaltedGateModel", name := "feed", desc := "(IIIII)I" } : Jvm.MethodName) prog_27_method_42_code (8 : Nat) (Option.some Jvm.ClassFile.FieldType.int)) ∈ lw_all := lw_g (lw_at lw_m8 42 rfl) rfl
theorem q1843 : (Jvm.Cond.instanceMethod ({ cls := "SaltedGateModel", name := "barrier", desc := "(I)I" } : Jvm.MethodName)) ∈ lw_all := lw_g (lw_at lw_m8 44 rfl) rfl
theorem q1844 : (Jvm.Cond.selects "SaltedGateModel" ({ cls := "SaltedGateModel", name := "barrier", desc := "(I)I" } : Jvm.MethodName) ({ cls := "SaltedGateModel", name := "barrier", desc := "(I)I" } : Jvm.MethodName)) ∈ lw_all := lw_g (lw_at lw_m8 45 rfl) rfl
theorem q1845 : (Jvm.Cond.code ({ cls := "SaltedGateModel", name := "barrier", desc := "(I)I" } : Jvm.MethodName) prog_27_method_43_code (2 : Nat) (Option.some Jvm.ClassFile.FieldType.int)) ∈ lw_all := lw_g (lw_at lw_m8 46 rfl) rfl
theorem q1846 : (Jvm.Cond.methodLink "SaltedGateModel" (45 : Nat) ({ cls := "SaltedGateModel", name := "refused", desc := "(I)I" } : Jvm.MethodName)) ∈ lw_all := lw_g (lw_at lw_m8 47 rfl) rfl
theorem q1847 : (Jvm.Cond.privateMethod ({ cls := "SaltedGateModel", name := "refused", desc := "(I)I" } : Jvm.MethodName)) ∈ lw_tbl := lw_at lw_m8 48 rfl
theorem q1848 : (Jvm.Cond.instanceMethod ({ cls := "SaltedGateModel", name := "refused", desc := "(I)I" } : Jvm.MethodName)) ∈ lw_all := lw_g (lw_at lw_m8 49 rfl) rfl
theorem q1849 : (Jvm.Cond.code ({ cls := "SaltedGateModel", name := "refused", desc := "(I)I" } : Jvm.MethodName) prog_27_method_3_code (2 : Nat) (Option.some Jvm.ClassFile.FieldType.int)) ∈ lw_all := lw_g (lw_at lw_m8 50 rfl) rfl
theorem q1850 : (Jvm.Cond.classLink "SaltedGateModel" (157 : Nat) "SaltedGateModel$Barrier") ∈ lw_all := lw_g (lw_at lw_m8 51 rfl) rfl
theorem q1852 : (Jvm.Cond.methodLinkNest "SaltedGateModel" (363 : Nat) ({ cls := "SaltedGateModel$Barrier", name := "<init>", desc := "()V" } : Jvm.MethodName) "SaltedGateModel") ∈ lw_tbl := lw_at lw_m8 53 rfl
theorem q1857 : (Jvm.Cond.fieldLinkNest "SaltedGateModel" (156 : Nat) "SaltedGateModel$Barrier" "fee" "I" "SaltedGateModel") ∈ lw_tbl := lw_at lw_m8 58 rfl
theorem q1858 : (Jvm.Cond.fieldLinkNest "SaltedGateModel" (231 : Nat) "SaltedGateModel$Barrier" "interest" "I" "SaltedGateModel") ∈ lw_tbl := lw_at lw_m8 59 rfl
theorem q1859 : (Jvm.Cond.fieldLinkNest "SaltedGateModel" (233 : Nat) "SaltedGateModel$Barrier" "means" "I" "SaltedGateModel") ∈ lw_tbl := lw_at lw_m8 60 rfl
theorem q1860 : (Jvm.Cond.fieldLinkNest "SaltedGateModel" (191 : Nat) "SaltedGateModel$Barrier" "travellers" "I" "SaltedGateModel") ∈ lw_tbl := lw_at lw_m8 61 rfl
theorem q1861 : (Jvm.Cond.fieldLinkNest "SaltedGateModel" (194 : Nat) "SaltedGateModel$Barrier" "gates" "I" "SaltedGateModel") ∈ lw_tbl := lw_at lw_m8 62 rfl
theorem q1862 : (Jvm.Cond.fieldLinkNest "SaltedGateModel" (287 : Nat) "SaltedGateModel$Barrier" "goods" "I" "SaltedGateModel") ∈ lw_tbl := lw_at lw_m8 63 rfl
theorem q1863 : (Jvm.Cond.fieldLinkNest "SaltedGateModel" (323 : Nat) "SaltedGateModel$Barrier" "crossings" "I" "SaltedGateModel") ∈ lw_tbl := lw_at lw_m8 64 rfl
theorem q1864 : (Jvm.Cond.fieldLinkNest "SaltedGateModel" (348 : Nat) "SaltedGateModel$Barrier" "prices" "I" "SaltedGateModel") ∈ lw_tbl := lw_at lw_m8 65 rfl
theorem q1865 : (Jvm.Cond.fieldLinkNest "SaltedGateModel" (351 : Nat) "SaltedGateModel$Barrier" "crumbs" "I" "SaltedGateModel") ∈ lw_tbl := lw_at lw_m8 66 rfl
theorem q1866 : (Jvm.Cond.fieldLinkNest "SaltedGateModel" (316 : Nat) "SaltedGateModel$Barrier" "hidden" "I" "SaltedGateModel") ∈ lw_tbl := lw_at lw_m8 67 rfl
theorem q1868 : (Jvm.Cond.fieldLinkNest "SaltedGateModel" (173 : Nat) "SaltedGateModel$Barrier" "names" "I" "SaltedGateModel") ∈ lw_tbl := lw_at lw_m8 69 rfl
theorem q1870 : (Jvm.Cond.fieldLinkNest "SaltedGateModel" (252 : Nat) "SaltedGateModel$Barrier" "rate" "[I" "SaltedGateModel") ∈ lw_tbl := lw_at lw_m8 71 rfl
theorem q1872 : (Jvm.Cond.fieldLinkNest "SaltedGateModel" (254 : Nat) "SaltedGateModel$Barrier" "keeps" "[I" "SaltedGateModel") ∈ lw_tbl := lw_at lw_m8 73 rfl
theorem q1874 : (Jvm.Cond.fieldLinkNest "SaltedGateModel" (256 : Nat) "SaltedGateModel$Barrier" "here" "[I" "SaltedGateModel") ∈ lw_tbl := lw_at lw_m8 75 rfl
theorem q1876 : (Jvm.Cond.fieldLinkNest "SaltedGateModel" (346 : Nat) "SaltedGateModel$Barrier" "there" "[I" "SaltedGateModel") ∈ lw_tbl := lw_at lw_m8 77 rfl
theorem q1878 : (Jvm.Cond.fieldLinkNest "SaltedGateModel" (263 : Nat) "SaltedGateModel$Barrier" "allow" "[I" "SaltedGateModel") ∈ lw_tbl := lw_at lw_m8 79 rfl
theorem q1880 : (Jvm.Cond.fieldLinkNest "SaltedGateModel" (265 : Nat) "SaltedGateModel$Barrier" "hunger" "[I" "SaltedGateModel") ∈ lw_tbl := lw_at lw_m8 81 rfl
theorem q1882 : (Jvm.Cond.fieldLinkNest "SaltedGateModel" (273 : Nat) "SaltedGateModel$Barrier" "nose" "[I" "SaltedGateModel") ∈ lw_tbl := lw_at lw_m8 83 rfl
theorem q1884 : (Jvm.Cond.fieldLinkNest "SaltedGateModel" (275 : Nat) "SaltedGateModel$Barrier" "opens" "[I" "SaltedGateModel") ∈ lw_tbl := lw_at lw_m8 85 rfl
theorem q1886 : (Jvm.Cond.fieldLinkNest "SaltedGateModel" (277 : Nat) "SaltedGateModel$Barrier" "shuts" "[I" "SaltedGateModel") ∈ lw_tbl := lw_at lw_m8 87 rfl
theorem q1888 : (Jvm.Cond.fieldLinkNest "SaltedGateModel" (302 : Nat) "SaltedGateModel$Barrier" "kind" "[I" "SaltedGateModel") ∈ lw_tbl := lw_at lw_m8 89 rfl
theorem q1890 : (Jvm.Cond.fieldLinkNest "SaltedGateModel" (308 : Nat) "SaltedGateModel$Barrier" "by" "[I" "SaltedGateModel") ∈ lw_tbl := lw_at lw_m8 91 rfl
theorem q1892 : (Jvm.Cond.fieldLinkNest "SaltedGateModel" (305 : Nat) "SaltedGateModel$Barrier" "owner" "[I" "SaltedGateModel") ∈ lw_tbl := lw_at lw_m8 93 rfl
theorem q1894 : (Jvm.Cond.fieldLinkNest "SaltedGateModel" (310 : Nat) "SaltedGateModel$Barrier" "age" "[I" "SaltedGateModel") ∈ lw_tbl := lw_at lw_m8 95 rfl
theorem q1896 : (Jvm.Cond.fieldLinkNest "SaltedGateModel" (312 : Nat) "SaltedGateModel$Barrier" "weighs" "[I" "SaltedGateModel") ∈ lw_tbl := lw_at lw_m8 97 rfl
theorem q1898 : (Jvm.Cond.fieldLinkNest "SaltedGateModel" (314 : Nat) "SaltedGateModel$Barrier" "worth" "[I" "SaltedGateModel") ∈ lw_tbl := lw_at lw_m8 99 rfl
theorem q1900 : (Jvm.Cond.fieldLinkNest "SaltedGateModel" (332 : Nat) "SaltedGateModel$Barrier" "crosser" "[I" "SaltedGateModel") ∈ lw_tbl := lw_at lw_m8 101 rfl
theorem q1902 : (Jvm.Cond.fieldLinkNest "SaltedGateModel" (335 : Nat) "SaltedGateModel$Barrier" "gateOf" "[I" "SaltedGateModel") ∈ lw_tbl := lw_at lw_m8 103 rfl
theorem q1904 : (Jvm.Cond.fieldLinkNest "SaltedGateModel" (328 : Nat) "SaltedGateModel$Barrier" "day" "[I" "SaltedGateModel") ∈ lw_tbl := lw_at lw_m8 105 rfl
theorem q1906 : (Jvm.Cond.fieldLinkNest "SaltedGateModel" (338 : Nat) "SaltedGateModel$Barrier" "hour" "[I" "SaltedGateModel") ∈ lw_tbl := lw_at lw_m8 107 rfl
theorem q1908 : (Jvm.Cond.fieldLinkNest "SaltedGateModel" (354 : Nat) "SaltedGateModel$Barrier" "crumbOf" "[I" "SaltedGateModel") ∈ lw_tbl := lw_at lw_m8 109 rfl
theorem q1910 : (Jvm.Cond.fieldLinkNest "SaltedGateModel" (357 : Nat) "SaltedGateModel$Barrier" "crumbDay" "[I" "SaltedGateModel") ∈ lw_tbl := lw_at lw_m8 111 rfl
theorem q1912 : (Jvm.Cond.fieldLinkNest "SaltedGateModel" (169 : Nat) "SaltedGateModel$Barrier" "name" "[J" "SaltedGateModel") ∈ lw_tbl := lw_at lw_m8 113 rfl
theorem q1914 : (Jvm.Cond.fieldLinkNest "SaltedGateModel" (176 : Nat) "SaltedGateModel$Barrier" "nameSort" "[I" "SaltedGateModel") ∈ lw_tbl := lw_at lw_m8 115 rfl
theorem q1916 : (Jvm.Cond.fieldLinkNest "SaltedGateModel" (179 : Nat) "SaltedGateModel$Barrier" "numberOf" "[I" "SaltedGateModel") ∈ lw_tbl := lw_at lw_m8 117 rfl
theorem q1989 : (Jvm.Cond.methodLink "SaltedGateModel" (107 : Nat) ({ cls := "SaltedGateModel", name := "goesOn", desc := "()V" } : Jvm.MethodName)) ∈ lw_all := lw_g (lw_at lw_m8 190 rfl) rfl
theorem q1990 : (Jvm.Cond.privateMethod ({ cls := "SaltedGateModel", name := "goesOn", desc := "()V" } : Jvm.MethodName)) ∈ lw_tbl := lw_at lw_m8 191 rfl
theorem q1991 : (Jvm.Cond.instanceMethod ({ cls := "SaltedGateModel", name := "goesOn", desc := "()V" } : Jvm.MethodName)) ∈ lw_all := lw_g (lw_at lw_m8 192 rfl) rfl
theorem q1992 : (Jvm.Cond.code ({ cls := "SaltedGateModel", name := "goesOn", desc := "()V" } : Jvm.MethodName) prog_27_method_17_code (3 : Nat) (Option.none : Option Jvm.ClassFile.FieldType)) ∈ lw_all := lw_g (lw_at lw_m8 193 rfl) rfl
theorem q1993 : (Jvm.Cond.methodLink "SaltedGateModel" (77 : Nat) ({ cls := "SaltedGateModel", name := "byteAt", desc := "(I)I" } : Jvm.MethodName)) ∈ lw_all := lw_g (lw_at lw_m8 194 rfl) rfl
theorem q1994 : (Jvm.Cond.privateMethod ({ cls := "SaltedGateModel", name := "byteAt", desc := "(I)I" } : Jvm.MethodName)) ∈ lw_tbl := lw_at lw_m8 195 rfl
theorem q1995 : (Jvm.Cond.instanceMethod ({ cls := "SaltedGateModel", name := "byteAt", desc := "(I)I" } : Jvm.MethodName)) ∈ lw_all := lw_g (lw_at lw_m8 196 rfl) rfl
theorem q1996 : (Jvm.Cond.code ({ cls := "SaltedGateModel", name := "byteAt", desc := "(I)I" } : Jvm.MethodName) prog_27_method_13_code (2 : Nat) (Option.some Jvm.ClassFile.FieldType.int)) ∈ lw_all := lw_g (lw_at lw_m8 197 rfl) rfl
theorem q1997 : (Jvm.Cond.methodLink "SaltedGateModel" (83 : Nat) ({ cls := "SaltedGateModel", name := "isLetter", desc := "(I)Z" } : Jvm.MethodName)) ∈ lw_all := lw_g (lw_at lw_m8 198 rfl) rfl
theorem q1998 : (Jvm.Cond.static ({ cls := "SaltedGateModel", name := "isLetter", desc := "(I)Z" } : Jvm.MethodName)) ∈ lw_all := lw_g (lw_at lw_m8 199 rfl) rfl
theorem q1999 : (Jvm.Cond.code ({ cls := "SaltedGateModel", name := "isLetter", desc := "(I)Z" } : Jvm.MethodName) prog_27_method_14_code (1 : Nat) (Option.some Jvm.ClassFile.FieldType.boolean)) ∈ lw_all := lw_g (lw_at lw_m8 200 rfl) rfl
theorem q2000 : (Jvm.Cond.constantLong "SaltedGateModel" (65 : Nat) (32 : Int64)) ∈ lw_all := lw_g (lw_at lw_m8 201 rfl) rfl
theorem q2001 : (Jvm.Cond.methodLink "SaltedGateModel" (91 : Nat) ({ cls := "SaltedGateModel", name := "isDigit", desc := "(I)Z" } : Jvm.MethodName)) ∈ lw_all := lw_g (lw_at lw_m8 202 rfl) rfl
theorem q2002 : (Jvm.Cond.static ({ cls := "SaltedGateModel", name := "isDigit", desc := "(I)Z" } : Jvm.MethodName)) ∈ lw_all := lw_g (lw_at lw_m8 203 rfl) rfl
theorem q2003 : (Jvm.Cond.code ({ cls := "SaltedGateModel", name := "isDigit", desc := "(I)Z" } : Jvm.MethodName) prog_27_method_15_code (1 : Nat) (Option.some Jvm.ClassFile.FieldType.boolean)) ∈ lw_all := lw_g (lw_at lw_m8 204 rfl) rfl
theorem q2004 : (Jvm.Cond.methodLink "SaltedGateModel" (364 : Nat) ({ cls := "SaltedGateModel", name := "readAll", desc := "()V" } : Jvm.MethodName)) ∈ lw_all := lw_g (lw_at lw_m8 205 rfl) rfl
theorem q2005 : (Jvm.Cond.privateMethod ({ cls := "SaltedGateModel", name := "readAll", desc := "()V" } : Jvm.MethodName)) ∈ lw_tbl := lw_at lw_m8 206 rfl
theorem q2006 : (Jvm.Cond.instanceMethod ({ cls := "SaltedGateModel", name := "readAll", desc := "()V" } : Jvm.MethodName)) ∈ lw_all := lw_g (lw_at lw_m8 207 rfl) rfl
theorem q2007 : (Jvm.Cond.code ({ cls := "SaltedGateModel", name := "readAll", desc := "()V" } : Jvm.MethodName) prog_27_method_30_code (2 : Nat) (Option.none : Option Jvm.ClassFile.FieldType)) ∈ lw_all := lw_g (lw_at lw_m8 208 rfl) rfl
theorem q2008 : (Jvm.Cond.methodLink "SaltedGateModel" (185 : Nat) ({ cls := "SaltedGateModel", name := "readLine", desc := "()V" } : Jvm.MethodName)) ∈ lw_all := lw_g (lw_at lw_m8 209 rfl) rfl
theorem q2009 : (Jvm.Cond.privateMethod ({ cls := "SaltedGateModel", name := "readLine", desc := "()V" } : Jvm.MethodName)) ∈ lw_tbl := lw_at lw_m8 210 rfl
theorem q2010 : (Jvm.Cond.instanceMethod ({ cls := "SaltedGateModel", name := "readLine", desc := "()V" } : Jvm.MethodName)) ∈ lw_all := lw_g (lw_at lw_m8 211 rfl) rfl
theorem q2011 : (Jvm.Cond.code ({ cls := "SaltedGateModel", name := "readLine", desc := "()V" } : Jvm.MethodName) prog_27_method_31_code (1 : Nat) (Option.none : Option Jvm.ClassFile.FieldType)) ∈ lw_all := lw_g (lw_at lw_m8 212 rfl) rfl
theorem q2012 : (Jvm.Cond.stringRef "SaltedGateModel" (130 : Nat) "barrier") ∈ lw_tbl := lw_at lw_m8 213 rfl
theorem q2013 : (Jvm.Cond.methodLink "SaltedGateModel" (110 : Nat) ({ cls := "SaltedGateModel", name := "isWord", desc := "(Ljava/lang/String;)Z" } : Jvm.MethodName)) ∈ lw_all := lw_g (lw_at lw_m8 214 rfl) rfl
theorem q2014 : (Jvm.Cond.privateMethod ({ cls := "SaltedGateModel", name := "isWord", desc := "(Ljava/lang/String;)Z" } : Jvm.MethodName)) ∈ lw_tbl := lw_at lw_m8 215 rfl
theorem q2015 : (Jvm.Cond.instanceMethod ({ cls := "SaltedGateModel", name := "isWord", desc := "(Ljava/lang/String;)Z" } : Jvm.MethodName)) ∈ lw_all := lw_g (lw_at lw_m8 216 rfl) rfl
theorem q2016 : (Jvm.Cond.code ({ cls := "SaltedGateModel", name := "isWord", desc := "(Ljava/lang/String;)Z" } : Jvm.MethodName) prog_27_method_19_code (2 : Nat) (Option.some Jvm.ClassFile.FieldType.boolean)) ∈ lw_all := lw_g (lw_at lw_m8 217 rfl) rfl
theorem q2017 : (Jvm.Cond.methodLink "SaltedGateModel" (103 : Nat) ({ cls := "SaltedGateModel", name := "packed", desc := "(Ljava/lang/String;)J" } : Jvm.MethodName)) ∈ lw_all := lw_g (lw_at lw_m8 218 rfl) rfl
theorem q2018 : (Jvm.Cond.static ({ cls := "SaltedGateModel", name := "packed", desc := "(Ljava/lang/String;)J" } : Jvm.MethodName)) ∈ lw_all := lw_g (lw_at lw_m8 219 rfl) rfl
theorem q2019 : (Jvm.Cond.code ({ cls := "SaltedGateModel", name := "packed", desc := "(Ljava/lang/String;)J" } : Jvm.MethodName) prog_27_method_16_code (4 : Nat) (Option.some Jvm.ClassFile.FieldType.long)) ∈ lw_all := lw_g (lw_at lw_m8 220 rfl) rfl
theorem q2020 : (Jvm.Cond.methodLink "SaltedGateModel" (59 : Nat) ({ cls := "java/lang/String", name := "length", desc := "()I" } : Jvm.MethodName)) ∈ lw_all := lw_g (lw_at lw_m8 221 rfl) rfl
theorem q2028 : (Jvm.Cond.methodLink "SaltedGateModel" (67 : Nat) ({ cls := "java/lang/String", name := "charAt", desc := "(I)C" } : Jvm.MethodName)) ∈ lw_all := lw_g (lw_at lw_m8 229 rfl) rfl
theorem q2048 : (Jvm.Cond.methodLink "SaltedGateModel" (197 : Nat) ({ cls := "SaltedGateModel", name := "readBarrier", desc := "()V" } : Jvm.MethodName)) ∈ lw_all := lw_g (lw_at lw_m9 9 rfl) rfl
theorem q2049 : (Jvm.Cond.privateMethod ({ cls := "SaltedGateModel", name := "readBarrier", desc := "()V" } : Jvm.MethodName)) ∈ lw_tbl := lw_at lw_m9 10 rfl
theorem q2050 : (Jvm.Cond.instanceMethod ({ cls := "SaltedGateModel", name := "readBarrier", desc := "()V" } : Jvm.MethodName)) ∈ lw_all := lw_g (lw_at lw_m9 11 rfl) rfl
theorem q2051 : (Jvm.Cond.code ({ cls := "SaltedGateModel", name := "readBarrier", desc := "()V" } : Jvm.MethodName) prog_27_method_32_code (3 : Nat) (Option.none : Option Jvm.ClassFile.FieldType)) ∈ lw_all := lw_g (lw_at lw_m9 12 rfl) rfl
theorem q2052 : (Jvm.Cond.methodLink "SaltedGateModel" (114 : Nat) ({ cls := "SaltedGateModel", name := "flaw", desc := "(I)V" } : Jvm.MethodName)) ∈ lw_all := lw_g (lw_at lw_m9 13 rfl) rfl
theorem q2053 : (Jvm.Cond.privateMethod ({ cls := "SaltedGateModel", name := "flaw", desc := "(I)V" } : Jvm.MethodName)) ∈ lw_tbl := lw_at lw_m9 14 rfl
theorem q2054 : (Jvm.Cond.instanceMethod ({ cls := "SaltedGateModel", name := "flaw", desc := "(I)V" } : Jvm.MethodName)) ∈ lw_all := lw_g (lw_at lw_m9 15 rfl) rfl
theorem q2055 : (Jvm.Cond.code ({ cls := "SaltedGateModel", name := "flaw", desc := "(I)V" } : Jvm.MethodName) prog_27_method_18_code (2 : Nat) (Option.none : Option Jvm.ClassFile.FieldType)) ∈ lw_all := lw_g (lw_at lw_m9 16 rfl) rfl
theorem q2056 : (Jvm.Cond.stringRef "SaltedGateModel" (224 : Nat) "fee") ∈ lw_tbl := lw_at lw_m9 17 rfl
theorem q2057 : (Jvm.Cond.methodLink "SaltedGateModel" (225 : Nat) ({ cls := "SaltedGateModel", name := "readPart", desc := "(Ljava/lang/String;II)I" } : Jvm.MethodName)) ∈ lw_all := lw_g (lw_at lw_m9 18 rfl) rfl
theorem q2058 : (Jvm.Cond.privateMethod ({ cls := "SaltedGateModel", name := "readPart", desc := "(Ljava/lang/String;II)I" } : Jvm.MethodName)) ∈ lw_tbl := lw_at lw_m9 19 rfl
theorem q2059 : (Jvm.Cond.instanceMethod ({ cls := "SaltedGateModel", name := "readPart", desc := "(Ljava/lang/String;II)I" } : Jvm.MethodName)) ∈ lw_all := lw_g (lw_at lw_m9 20 rfl) rfl
theorem q2060 : (Jvm.Cond.code ({ cls := "SaltedGateModel", name := "readPart", desc := "(Ljava/lang/String;II)I" } : Jvm.MethodName) prog_27_method_23_code (4 : Nat) (Option.some Jvm.ClassFile.FieldType.int)) ∈ lw_all := lw_g (lw_at lw_m9 21 rfl) rfl
theorem q2061 : (Jvm.Cond.methodLink "SaltedGateModel" (122 : Nat) ({ cls := "SaltedGateModel", name := "needs", desc := "(Ljava/lang/String;)V" } : Jvm.MethodName)) ∈ lw_all := lw_g (lw_at lw_m9 22 rfl) rfl
theorem q2062 : (Jvm.Cond.privateMethod ({ cls := "SaltedGateModel", name := "needs", desc := "(Ljava/lang/String;)V" } : Jvm.MethodName)) ∈ lw_tbl := lw_at lw_m9 23 rfl
theorem q2063 : (Jvm.Cond.instanceMethod ({ cls := "SaltedGateModel", name := "needs", desc := "(Ljava/lang/String;)V" } : Jvm.MethodName)) ∈ lw_all := lw_g (lw_at lw_m9 24 rfl) rfl
theorem q2064 : (Jvm.Cond.code ({ cls := "SaltedGateModel", name := "needs", desc := "(Ljava/lang/String;)V" } : Jvm.MethodName) prog_27_method_21_code (2 : Nat) (Option.none : Option Jvm.ClassFile.FieldType)) ∈ lw_all := lw_g (lw_at lw_m9 25 rfl) rfl
theorem q2065 : (Jvm.Cond.methodLink "SaltedGateModel" (126 : Nat) ({ cls := "SaltedGateModel", name := "readWhole", desc := "(II)I" } : Jvm.MethodName)) ∈ lw_all := lw_g (lw_at lw_m9 26 rfl) rfl
theorem q2066 : (Jvm.Cond.privateMethod ({ cls := "SaltedGateModel", name := "readWhole", desc := "(II)I" } : Jvm.MethodName)) ∈ lw_tbl := lw_at lw_m9 27 rfl
theorem q2067 : (Jvm.Cond.instanceMethod ({ cls := "SaltedGateModel", name := "readWhole", desc := "(II)I" } : Jvm.MethodName)) ∈ lw_all := lw_g (lw_at lw_m9 28 rfl) rfl
theorem q2068 : (Jvm.Cond.code ({ cls := "SaltedGateModel", name := "readWhole", desc := "(II)I" } : Jvm.MethodName) prog_27_method_22_code (4 : Nat) (Option.some Jvm.ClassFile.FieldType.int)) ∈ lw_all := lw_g (lw_at lw_m9 29 rfl) rfl
theorem q2069 : (Jvm.Cond.methodLink "SaltedGateModel" (118 : Nat) ({ cls := "SaltedGateModel", name := "in", desc := "(III)Z" } : Jvm.MethodName)) ∈ lw_all := lw_g (lw_at lw_m9 30 rfl) rfl
theorem q2070 : (Jvm.Cond.static ({ cls := "SaltedGateModel", name := "in", desc := "(III)Z" } : Jvm.MethodName)) ∈ lw_all := lw_g (lw_at lw_m9 31 rfl) rfl
theorem q2071 : (Jvm.Cond.code ({ cls := "SaltedGateModel", name := "in", desc := "(III)Z" } : Jvm.MethodName) prog_27_method_8_code (3 : Nat) (Option.some Jvm.ClassFile.FieldType.boolean)) ∈ lw_all := lw_g (lw_at lw_m9 32 rfl) rfl
theorem q2072 : (Jvm.Cond.stringRef "SaltedGateModel" (229 : Nat) "interest") ∈ lw_tbl := lw_at lw_m9 33 rfl
theorem q2073 : (Jvm.Cond.stringRef "SaltedGateModel" (132 : Nat) "means") ∈ lw_tbl := lw_at lw_m9 34 rfl
theorem q2074 : (Jvm.Cond.methodLink "SaltedGateModel" (200 : Nat) ({ cls := "SaltedGateModel", name := "readMeans", desc := "()V" } : Jvm.MethodName)) ∈ lw_all := lw_g (lw_at lw_m9 35 rfl) rfl
theorem q2075 : (Jvm.Cond.privateMethod ({ cls := "SaltedGateModel", name := "readMeans", desc := "()V" } : Jvm.MethodName)) ∈ lw_tbl := lw_at lw_m9 36 rfl
theorem q2076 : (Jvm.Cond.instanceMethod ({ cls := "SaltedGateModel", name := "readMeans", desc := "()V" } : Jvm.MethodName)) ∈ lw_all := lw_g (lw_at lw_m9 37 rfl) rfl
theorem q2077 : (Jvm.Cond.code ({ cls := "SaltedGateModel", name := "readMeans", desc := "()V" } : Jvm.MethodName) prog_27_method_33_code (6 : Nat) (Option.none : Option Jvm.ClassFile.FieldType)) ∈ lw_all := lw_g (lw_at lw_m9 38 rfl) rfl
theorem q2078 : (Jvm.Cond.methodLink "SaltedGateModel" (235 : Nat) ({ cls := "SaltedGateModel", name := "begins", desc := "(II)V" } : Jvm.MethodName)) ∈ lw_all := lw_g (lw_at lw_m9 39 rfl) rfl
theorem q2079 : (Jvm.Cond.privateMethod ({ cls := "SaltedGateModel", name := "begins", desc := "(II)V" } : Jvm.MethodName)) ∈ lw_tbl := lw_at lw_m9 40 rfl
theorem q2080 : (Jvm.Cond.instanceMethod ({ cls := "SaltedGateModel", name := "begins", desc := "(II)V" } : Jvm.MethodName)) ∈ lw_all := lw_g (lw_at lw_m9 41 rfl) rfl
theorem q2081 : (Jvm.Cond.code ({ cls := "SaltedGateModel", name := "begins", desc := "(II)V" } : Jvm.MethodName) prog_27_method_25_code (3 : Nat) (Option.none : Option Jvm.ClassFile.FieldType)) ∈ lw_all := lw_g (lw_at lw_m9 42 rfl) rfl
theorem q2082 : (Jvm.Cond.methodLink "SaltedGateModel" (239 : Nat) ({ cls := "SaltedGateModel", name := "readFresh", desc := "()J" } : Jvm.MethodName)) ∈ lw_all := lw_g (lw_at lw_m9 43 rfl) rfl
theorem q2083 : (Jvm.Cond.privateMethod ({ cls := "SaltedGateModel", name := "readFresh", desc := "()J" } : Jvm.MethodName)) ∈ lw_tbl := lw_at lw_m9 44 rfl
theorem q2084 : (Jvm.Cond.instanceMethod ({ cls := "SaltedGateModel", name := "readFresh", desc := "()J" } : Jvm.MethodName)) ∈ lw_all := lw_g (lw_at lw_m9 45 rfl) rfl
theorem q2085 : (Jvm.Cond.code ({ cls := "SaltedGateModel", name := "readFresh", desc := "()J" } : Jvm.MethodName) prog_27_method_26_code (3 : Nat) (Option.some Jvm.ClassFile.FieldType.long)) ∈ lw_all := lw_g (lw_at lw_m9 46 rfl) rfl
theorem q2086 : (Jvm.Cond.methodLink "SaltedGateModel" (161 : Nat) ({ cls := "SaltedGateModel", name := "isName", desc := "()Z" } : Jvm.MethodName)) ∈ lw_all := lw_g (lw_at lw_m9 47 rfl) rfl
theorem q2087 : (Jvm.Cond.privateMethod ({ cls := "SaltedGateModel", name := "isName", desc := "()Z" } : Jvm.MethodName)) ∈ lw_tbl := lw_at lw_m9 48 rfl
theorem q2088 : (Jvm.Cond.instanceMethod ({ cls := "SaltedGateModel", name := "isName", desc := "()Z" } : Jvm.MethodName)) ∈ lw_all := lw_g (lw_at lw_m9 49 rfl) rfl
theorem q2089 : (Jvm.Cond.code ({ cls := "SaltedGateModel", name := "isName", desc := "()Z" } : Jvm.MethodName) prog_27_method_24_code (1 : Nat) (Option.some Jvm.ClassFile.FieldType.boolean)) ∈ lw_all := lw_g (lw_at lw_m9 50 rfl) rfl
theorem q2090 : (Jvm.Cond.stringRef "SaltedGateModel" (134 : Nat) "traveller") ∈ lw_tbl := lw_at lw_m9 51 rfl
theorem q2091 : (Jvm.Cond.stringRef "SaltedGateModel" (136 : Nat) "gate") ∈ lw_tbl := lw_at lw_m9 52 rfl
theorem q2092 : (Jvm.Cond.stringRef "SaltedGateModel" (138 : Nat) "good") ∈ lw_tbl := lw_at lw_m9 53 rfl
theorem q2093 : (Jvm.Cond.stringRef "SaltedGateModel" (140 : Nat) "hides") ∈ lw_tbl := lw_at lw_m9 54 rfl
theorem q2094 : (Jvm.Cond.stringRef "SaltedGateModel" (142 : Nat) "crosses") ∈ lw_tbl := lw_at lw_m9 55 rfl
theorem q2095 : (Jvm.Cond.stringRef "SaltedGateModel" (144 : Nat) "price") ∈ lw_tbl := lw_at lw_m9 56 rfl
theorem q2096 : (Jvm.Cond.stringRef "SaltedGateModel" (146 : Nat) "crumb") ∈ lw_tbl := lw_at lw_m9 57 rfl
theorem q2097 : (Jvm.Cond.stringRef "SaltedGateModel" (148 : Nat) "fresh") ∈ lw_tbl := lw_at lw_m9 58 rfl
theorem q2098 : (Jvm.Cond.stringRef "SaltedGateModel" (150 : Nat) "by") ∈ lw_tbl := lw_at lw_m9 59 rfl
theorem q2099 : (Jvm.Cond.methodLink "SaltedGateModel" (165 : Nat) ({ cls := "SaltedGateModel$Barrier", name := "find", desc := "(J)I" } : Jvm.MethodName)) ∈ lw_all := lw_g (lw_at lw_m9 60 rfl) rfl
theorem q2103 : (Jvm.Cond.stringRef "SaltedGateModel" (243 : Nat) "rate") ∈ lw_tbl := lw_at lw_m9 64 rfl
theorem q2104 : (Jvm.Cond.stringRef "SaltedGateModel" (245 : Nat) "or") ∈ lw_tbl := lw_at lw_m9 65 rfl
theorem q2105 : (Jvm.Cond.stringRef "SaltedGateModel" (247 : Nat) "keeps") ∈ lw_tbl := lw_at lw_m9 66 rfl
theorem q2106 : (Jvm.Cond.methodLink "SaltedGateModel" (249 : Nat) ({ cls := "SaltedGateModel", name := "names", desc := "(JII)V" } : Jvm.MethodName)) ∈ lw_all := lw_g (lw_at lw_m9 67 rfl) rfl
theorem q2107 : (Jvm.Cond.privateMethod ({ cls := "SaltedGateModel", name := "names", desc := "(JII)V" } : Jvm.MethodName)) ∈ lw_tbl := lw_at lw_m9 68 rfl
theorem q2108 : (Jvm.Cond.instanceMethod ({ cls := "SaltedGateModel", name := "names", desc := "(JII)V" } : Jvm.MethodName)) ∈ lw_all := lw_g (lw_at lw_m9 69 rfl) rfl
theorem q2109 : (Jvm.Cond.code ({ cls := "SaltedGateModel", name := "names", desc := "(JII)V" } : Jvm.MethodName) prog_27_method_27_code (5 : Nat) (Option.none : Option Jvm.ClassFile.FieldType)) ∈ lw_all := lw_g (lw_at lw_m9 70 rfl) rfl
theorem q2110 : (Jvm.Cond.methodLink "SaltedGateModel" (203 : Nat) ({ cls := "SaltedGateModel", name := "readTraveller", desc := "()V" } : Jvm.MethodName)) ∈ lw_all := lw_g (lw_at lw_m9 71 rfl) rfl
theorem q2111 : (Jvm.Cond.privateMethod ({ cls := "SaltedGateModel", name := "readTraveller", desc := "()V" } : Jvm.MethodName)) ∈ lw_tbl := lw_at lw_m9 72 rfl
theorem q2112 : (Jvm.Cond.instanceMethod ({ cls := "SaltedGateModel", name := "readTraveller", desc := "()V" } : Jvm.MethodName)) ∈ lw_all := lw_g (lw_at lw_m9 73 rfl) rfl
theorem q2113 : (Jvm.Cond.code ({ cls := "SaltedGateModel", name := "readTraveller", desc := "()V" } : Jvm.MethodName) prog_27_method_34_code (5 : Nat) (Option.none : Option Jvm.ClassFile.FieldType)) ∈ lw_all := lw_g (lw_at lw_m9 74 rfl) rfl
theorem q2114 : (Jvm.Cond.stringRef "SaltedGateModel" (259 : Nat) "allow") ∈ lw_tbl := lw_at lw_m9 75 rfl
theorem q2115 : (Jvm.Cond.stringRef "SaltedGateModel" (261 : Nat) "hunger") ∈ lw_tbl := lw_at lw_m9 76 rfl
theorem q2116 : (Jvm.Cond.methodLink "SaltedGateModel" (206 : Nat) ({ cls := "SaltedGateModel", name := "readGate", desc := "()V" } : Jvm.MethodName)) ∈ lw_all := lw_g (lw_at lw_m9 77 rfl) rfl
theorem q2117 : (Jvm.Cond.privateMethod ({ cls := "SaltedGateModel", name := "readGate", desc := "()V" } : Jvm.MethodName)) ∈ lw_tbl := lw_at lw_m9 78 rfl
theorem q2118 : (Jvm.Cond.instanceMethod ({ cls := "SaltedGateModel", name := "readGate", desc := "()V" } : Jvm.MethodName)) ∈ lw_all := lw_g (lw_at lw_m9 79 rfl) rfl
theorem q2119 : (Jvm.Cond.code ({ cls := "SaltedGateModel", name := "readGate", desc := "()V" } : Jvm.MethodName) prog_27_method_35_code (6 : Nat) (Option.none : Option Jvm.ClassFile.FieldType)) ∈ lw_all := lw_g (lw_at lw_m9 80 rfl) rfl
theorem q2120 : (Jvm.Cond.stringRef "SaltedGateModel" (267 : Nat) "nose") ∈ lw_tbl := lw_at lw_m9 81 rfl
theorem q2121 : (Jvm.Cond.stringRef "SaltedGateModel" (269 : Nat) "opens") ∈ lw_tbl := lw_at lw_m9 82 rfl
theorem q2122 : (Jvm.Cond.stringRef "SaltedGateModel" (271 : Nat) "shuts") ∈ lw_tbl := lw_at lw_m9 83 rfl
theorem q2123 : (Jvm.Cond.methodLink "SaltedGateModel" (209 : Nat) ({ cls := "SaltedGateModel", name := "readGood", desc := "()V" } : Jvm.MethodName)) ∈ lw_all := lw_g (lw_at lw_m9 84 rfl) rfl
theorem q2124 : (Jvm.Cond.privateMethod ({ cls := "SaltedGateModel", name := "readGood", desc := "()V" } : Jvm.MethodName)) ∈ lw_tbl := lw_at lw_m9 85 rfl
theorem q2125 : (Jvm.Cond.instanceMethod ({ cls := "SaltedGateModel", name := "readGood", desc := "()V" } : Jvm.MethodName)) ∈ lw_all := lw_g (lw_at lw_m9 86 rfl) rfl
theorem q2126 : (Jvm.Cond.code ({ cls := "SaltedGateModel", name := "readGood", desc := "()V" } : Jvm.MethodName) prog_27_method_37_code (10 : Nat) (Option.none : Option Jvm.ClassFile.FieldType)) ∈ lw_all := lw_g (lw_at lw_m9 87 rfl) rfl
theorem q2127 : (Jvm.Cond.methodLink "SaltedGateModel" (290 : Nat) ({ cls := "SaltedGateModel", name := "kindOfGood", desc := "()I" } : Jvm.MethodName)) ∈ lw_all := lw_g (lw_at lw_m9 88 rfl) rfl
theorem q2128 : (Jvm.Cond.privateMethod ({ cls := "SaltedGateModel", name := "kindOfGood", desc := "()I" } : Jvm.MethodName)) ∈ lw_tbl := lw_at lw_m9 89 rfl
theorem q2129 : (Jvm.Cond.instanceMethod ({ cls := "SaltedGateModel", name := "kindOfGood", desc := "()I" } : Jvm.MethodName)) ∈ lw_all := lw_g (lw_at lw_m9 90 rfl) rfl
theorem q2130 : (Jvm.Cond.code ({ cls := "SaltedGateModel", name := "kindOfGood", desc := "()I" } : Jvm.MethodName) prog_27_method_36_code (1 : Nat) (Option.some Jvm.ClassFile.FieldType.int)) ∈ lw_all := lw_g (lw_at lw_m9 91 rfl) rfl
theorem q2131 : (Jvm.Cond.stringRef "SaltedGateModel" (279 : Nat) "plain") ∈ lw_tbl := lw_at lw_m9 92 rfl
theorem q2132 : (Jvm.Cond.stringRef "SaltedGateModel" (281 : Nat) "wine") ∈ lw_tbl := lw_at lw_m9 93 rfl
theorem q2133 : (Jvm.Cond.stringRef "SaltedGateModel" (283 : Nat) "old") ∈ lw_tbl := lw_at lw_m9 94 rfl
theorem q2134 : (Jvm.Cond.stringRef "SaltedGateModel" (285 : Nat) "oath") ∈ lw_tbl := lw_at lw_m9 95 rfl
theorem q2135 : (Jvm.Cond.methodLink "SaltedGateModel" (293 : Nat) ({ cls := "SaltedGateModel", name := "readKnown", desc := "(I)I" } : Jvm.MethodName)) ∈ lw_all := lw_g (lw_at lw_m9 96 rfl) rfl
theorem q2136 : (Jvm.Cond.privateMethod ({ cls := "SaltedGateModel", name := "readKnown", desc := "(I)I" } : Jvm.MethodName)) ∈ lw_tbl := lw_at lw_m9 97 rfl
theorem q2137 : (Jvm.Cond.instanceMethod ({ cls := "SaltedGateModel", name := "readKnown", desc := "(I)I" } : Jvm.MethodName)) ∈ lw_all := lw_g (lw_at lw_m9 98 rfl) rfl
theorem q2138 : (Jvm.Cond.code ({ cls := "SaltedGateModel", name := "readKnown", desc := "(I)I" } : Jvm.MethodName) prog_27_method_29_code (3 : Nat) (Option.some Jvm.ClassFile.FieldType.int)) ∈ lw_all := lw_g (lw_at lw_m9 99 rfl) rfl
theorem q2139 : (Jvm.Cond.methodLink "SaltedGateModel" (182 : Nat) ({ cls := "SaltedGateModel", name := "knownOne", desc := "(I)I" } : Jvm.MethodName)) ∈ lw_all := lw_g (lw_at lw_m9 100 rfl) rfl
theorem q2140 : (Jvm.Cond.privateMethod ({ cls := "SaltedGateModel", name := "knownOne", desc := "(I)I" } : Jvm.MethodName)) ∈ lw_tbl := lw_at lw_m9 101 rfl
theorem q2141 : (Jvm.Cond.instanceMethod ({ cls := "SaltedGateModel", name := "knownOne", desc := "(I)I" } : Jvm.MethodName)) ∈ lw_all := lw_g (lw_at lw_m9 102 rfl) rfl
theorem q2142 : (Jvm.Cond.code ({ cls := "SaltedGateModel", name := "knownOne", desc := "(I)I" } : Jvm.MethodName) prog_27_method_28_code (3 : Nat) (Option.some Jvm.ClassFile.FieldType.int)) ∈ lw_all := lw_g (lw_at lw_m9 103 rfl) rfl
theorem q2143 : (Jvm.Cond.stringRef "SaltedGateModel" (296 : Nat) "age") ∈ lw_tbl := lw_at lw_m9 104 rfl
theorem q2144 : (Jvm.Cond.stringRef "SaltedGateModel" (298 : Nat) "weighs") ∈ lw_tbl := lw_at lw_m9 105 rfl
theorem q2145 : (Jvm.Cond.stringRef "SaltedGateModel" (300 : Nat) "worth") ∈ lw_tbl := lw_at lw_m9 106 rfl
theorem q2146 : (Jvm.Cond.methodLink "SaltedGateModel" (212 : Nat) ({ cls := "SaltedGateModel", name := "readHides", desc := "()V" } : Jvm.MethodName)) ∈ lw_all := lw_g (lw_at lw_m9 107 rfl) rfl
theorem q2147 : (Jvm.Cond.privateMethod ({ cls := "SaltedGateModel", name := "readHides", desc := "()V" } : Jvm.MethodName)) ∈ lw_tbl := lw_at lw_m9 108 rfl
theorem q2148 : (Jvm.Cond.instanceMethod ({ cls := "SaltedGateModel", name := "readHides", desc := "()V" } : Jvm.MethodName)) ∈ lw_all := lw_g (lw_at lw_m9 109 rfl) rfl
theorem q2149 : (Jvm.Cond.code ({ cls := "SaltedGateModel", name := "readHides", desc := "()V" } : Jvm.MethodName) prog_27_method_38_code (2 : Nat) (Option.none : Option Jvm.ClassFile.FieldType)) ∈ lw_all := lw_g (lw_at lw_m9 110 rfl) rfl
theorem q2150 : (Jvm.Cond.methodLink "SaltedGateModel" (319 : Nat) ({ cls := "SaltedGateModel", name := "bit", desc := "(II)Z" } : Jvm.MethodName)) ∈ lw_all := lw_g (lw_at lw_m9 111 rfl) rfl
theorem q2151 : (Jvm.Cond.static ({ cls := "SaltedGateModel", name := "bit", desc := "(II)Z" } : Jvm.MethodName)) ∈ lw_all := lw_g (lw_at lw_m9 112 rfl) rfl
theorem q2152 : (Jvm.Cond.code ({ cls := "SaltedGateModel", name := "bit", desc := "(II)Z" } : Jvm.MethodName) prog_27_method_9_code (2 : Nat) (Option.some Jvm.ClassFile.FieldType.boolean)) ∈ lw_all := lw_g (lw_at lw_m9 113 rfl) rfl
theorem q2153 : (Jvm.Cond.methodLink "SaltedGateModel" (215 : Nat) ({ cls := "SaltedGateModel", name := "readCrosses", desc := "()V" } : Jvm.MethodName)) ∈ lw_all := lw_g (lw_at lw_m9 114 rfl) rfl
theorem q2154 : (Jvm.Cond.privateMethod ({ cls := "SaltedGateModel", name := "readCrosses", desc := "()V" } : Jvm.MethodName)) ∈ lw_tbl := lw_at lw_m9 115 rfl
theorem q2155 : (Jvm.Cond.instanceMethod ({ cls := "SaltedGateModel", name := "readCrosses", desc := "()V" } : Jvm.MethodName)) ∈ lw_all := lw_g (lw_at lw_m9 116 rfl) rfl
theorem q2156 : (Jvm.Cond.code ({ cls := "SaltedGateModel", name := "readCrosses", desc := "()V" } : Jvm.MethodName) prog_27_method_39_code (5 : Nat) (Option.none : Option Jvm.ClassFile.FieldType)) ∈ lw_all := lw_g (lw_at lw_m9 117 rfl) rfl
theorem q2157 : (Jvm.Cond.stringRef "SaltedGateModel" (326 : Nat) "day") ∈ lw_tbl := lw_at lw_m9 118 rfl
theorem q2158 : (Jvm.Cond.stringRef "SaltedGateModel" (330 : Nat) "hour") ∈ lw_tbl := lw_at lw_m9 119 rfl
theorem q2159 : (Jvm.Cond.methodLink "SaltedGateModel" (218 : Nat) ({ cls := "SaltedGateModel", name := "readPrice", desc := "()V" } : Jvm.MethodName)) ∈ lw_all := lw_g (lw_at lw_m9 120 rfl) rfl
theorem q2160 : (Jvm.Cond.privateMethod ({ cls := "SaltedGateModel", name := "readPrice", desc := "()V" } : Jvm.MethodName)) ∈ lw_tbl := lw_at lw_m9 121 rfl
theorem q2161 : (Jvm.Cond.instanceMethod ({ cls := "SaltedGateModel", name := "readPrice", desc := "()V" } : Jvm.MethodName)) ∈ lw_all := lw_g (lw_at lw_m9 122 rfl) rfl
theorem q2162 : (Jvm.Cond.code ({ cls := "SaltedGateModel", name := "readPrice", desc := "()V" } : Jvm.MethodName) prog_27_method_40_code (4 : Nat) (Option.none : Option Jvm.ClassFile.FieldType)) ∈ lw_all := lw_g (lw_at lw_m9 123 rfl) rfl
theorem q2163 : (Jvm.Cond.methodLink "SaltedGateModel" (340 : Nat) ({ cls := "SaltedGateModel$Barrier", name := "isPriced", desc := "(I)Z" } : Jvm.MethodName)) ∈ lw_all := lw_g (lw_at lw_m9 124 rfl) rfl
theorem q2167 : (Jvm.Cond.stringRef "SaltedGateModel" (343 : Nat) "here") ∈ lw_tbl := lw_at lw_m9 128 rfl
theorem q2168 : (Jvm.Cond.stringRef "SaltedGateModel" (344 : Nat) "there") ∈ lw_tbl := lw_at lw_m9 129 rfl
theorem q2169 : (Jvm.Cond.methodLink "SaltedGateModel" (221 : Nat) ({ cls := "SaltedGateModel", name := "readCrumb", desc := "()V" } : Jvm.MethodName)) ∈ lw_all := lw_g (lw_at lw_m9 130 rfl) rfl
theorem q2170 : (Jvm.Cond.privateMethod ({ cls := "SaltedGateModel", name := "readCrumb", desc := "()V" } : Jvm.MethodName)) ∈ lw_tbl := lw_at lw_m9 131 rfl
theorem q2171 : (Jvm.Cond.instanceMethod ({ cls := "SaltedGateModel", name := "readCrumb", desc := "()V" } : Jvm.MethodName)) ∈ lw_all := lw_g (lw_at lw_m9 132 rfl) rfl
theorem q2172 : (Jvm.Cond.code ({ cls := "SaltedGateModel", name := "readCrumb", desc := "()V" } : Jvm.MethodName) prog_27_method_41_code (3 : Nat) (Option.none : Option Jvm.ClassFile.FieldType)) ∈ lw_all := lw_g (lw_at lw_m9 133 rfl) rfl
theorem q2173 : (Jvm.Cond.methodLink "SaltedGateModel" (188 : Nat) ({ cls := "SaltedGateModel", name := "eatsSemicolon", desc := "()Z" } : Jvm.MethodName)) ∈ lw_all := lw_g (lw_at lw_m9 134 rfl) rfl
theorem q2174 : (Jvm.Cond.privateMethod ({ cls := "SaltedGateModel", name := "eatsSemicolon", desc := "()Z" } : Jvm.MethodName)) ∈ lw_tbl := lw_at lw_m9 135 rfl
theorem q2175 : (Jvm.Cond.instanceMethod ({ cls := "SaltedGateModel", name := "eatsSemicolon", desc := "()Z" } : Jvm.MethodName)) ∈ lw_all := lw_g (lw_at lw_m9 136 rfl) rfl
theorem q2176 : (Jvm.Cond.code ({ cls := "SaltedGateModel", name := "eatsSemicolon", desc := "()Z" } : Jvm.MethodName) prog_27_method_20_code (2 : Nat) (Option.some Jvm.ClassFile.FieldType.boolean)) ∈ lw_all := lw_g (lw_at lw_m9 137 rfl) rfl
theorem q2177 : (Jvm.Cond.methodLink "SaltedGateModel" (369 : Nat) ({ cls := "SaltedGateModel", name := "starts", desc := "([I)V" } : Jvm.MethodName)) ∈ lw_all := lw_g (lw_at lw_m9 138 rfl) rfl
theorem q2178 : (Jvm.Cond.privateMethod ({ cls := "SaltedGateModel", name := "starts", desc := "([I)V" } : Jvm.MethodName)) ∈ lw_tbl := lw_at lw_m9 139 rfl
theorem q2179 : (Jvm.Cond.instanceMethod ({ cls := "SaltedGateModel", name := "starts", desc := "([I)V" } : Jvm.MethodName)) ∈ lw_all := lw_g (lw_at lw_m9 140 rfl) rfl
theorem q2180 : (Jvm.Cond.code ({ cls := "SaltedGateModel", name := "starts", desc := "([I)V" } : Jvm.MethodName) prog_27_method_46_code (3 : Nat) (Option.none : Option Jvm.ClassFile.FieldType)) ∈ lw_all := lw_g (lw_at lw_m9 141 rfl) rfl
theorem q2181 : (Jvm.Cond.methodLink "SaltedGateModel" (49 : Nat) ({ cls := "SaltedGateModel", name := "fine", desc := "(I)I" } : Jvm.MethodName)) ∈ lw_all := lw_g (lw_at lw_m9 142 rfl) rfl
theorem q2182 : (Jvm.Cond.privateMethod ({ cls := "SaltedGateModel", name := "fine", desc := "(I)I" } : Jvm.MethodName)) ∈ lw_tbl := lw_at lw_m9 143 rfl
theorem q2183 : (Jvm.Cond.instanceMethod ({ cls := "SaltedGateModel", name := "fine", desc := "(I)I" } : Jvm.MethodName)) ∈ lw_all := lw_g (lw_at lw_m9 144 rfl) rfl
theorem q2184 : (Jvm.Cond.code ({ cls := "SaltedGateModel", name := "fine", desc := "(I)I" } : Jvm.MethodName) prog_27_method_6_code (2 : Nat) (Option.some Jvm.ClassFile.FieldType.int)) ∈ lw_all := lw_g (lw_at lw_m9 145 rfl) rfl
theorem q2186 : (Jvm.Cond.instanceMethod ({ cls := "SaltedGateModel", name := "fault", desc := "()I" } : Jvm.MethodName)) ∈ lw_all := lw_g (lw_at lw_m9 147 rfl) rfl
theorem q2187 : (Jvm.Cond.selects "SaltedGateModel" ({ cls := "SaltedGateModel", name := "fault", desc := "()I" } : Jvm.MethodName) ({ cls := "SaltedGateModel", name := "fault", desc := "()I" } : Jvm.MethodName)) ∈ lw_all := lw_g (lw_at lw_m9 148 rfl) rfl
theorem q2188 : (Jvm.Cond.code ({ cls := "SaltedGateModel", name := "fault", desc := "()I" } : Jvm.MethodName) prog_27_method_44_code (1 : Nat) (Option.some Jvm.ClassFile.FieldType.int)) ∈ lw_all := lw_g (lw_at lw_m9 149 rfl) rfl
theorem q2190 : (Jvm.Cond.instanceMethod ({ cls := "SaltedGateModel", name := "where", desc := "()I" } : Jvm.MethodName)) ∈ lw_all := lw_g (lw_at lw_m9 151 rfl) rfl
theorem q2191 : (Jvm.Cond.selects "SaltedGateModel" ({ cls := "SaltedGateModel", name := "where", desc := "()I" } : Jvm.MethodName) ({ cls := "SaltedGateModel", name := "where", desc := "()I" } : Jvm.MethodName)) ∈ lw_all := lw_g (lw_at lw_m9 152 rfl) rfl
theorem q2192 : (Jvm.Cond.code ({ cls := "SaltedGateModel", name := "where", desc := "()I" } : Jvm.MethodName) prog_27_method_45_code (1 : Nat) (Option.some Jvm.ClassFile.FieldType.int)) ∈ lw_all := lw_g (lw_at lw_m9 153 rfl) rfl
theorem q2194 : (Jvm.Cond.instanceMethod ({ cls := "SaltedGateModel", name := "good", desc := "(II)I" } : Jvm.MethodName)) ∈ lw_all := lw_g (lw_at lw_m9 155 rfl) rfl
theorem q2195 : (Jvm.Cond.selects "SaltedGateModel" ({ cls := "SaltedGateModel", name := "good", desc := "(II)I" } : Jvm.MethodName) ({ cls := "SaltedGateModel", name := "good", desc := "(II)I" } : Jvm.MethodName)) ∈ lw_all := lw_g (lw_at lw_m9 156 rfl) rfl
theorem q2196 : (Jvm.Cond.code ({ cls := "SaltedGateModel", name := "good", desc := "(II)I" } : Jvm.MethodName) prog_27_method_64_code (3 : Nat) (Option.some Jvm.ClassFile.FieldType.int)) ∈ lw_all := lw_g (lw_at lw_m9 157 rfl) rfl
theorem q2197 : (Jvm.Cond.methodLink "SaltedGateModel" (414 : Nat) ({ cls := "SaltedGateModel", name := "isGood", desc := "(I)Z" } : Jvm.MethodName)) ∈ lw_all := lw_g (lw_at lw_m9 158 rfl) rfl
theorem q2198 : (Jvm.Cond.privateMethod ({ cls := "SaltedGateModel", name := "isGood", desc := "(I)Z" } : Jvm.MethodName)) ∈ lw_tbl := lw_at lw_m9 159 rfl
theorem q2199 : (Jvm.Cond.instanceMethod ({ cls := "SaltedGateModel", name := "isGood", desc := "(I)Z" } : Jvm.MethodName)) ∈ lw_all := lw_g (lw_at lw_m9 160 rfl) rfl
theorem q2200 : (Jvm.Cond.code ({ cls := "SaltedGateModel", name := "isGood", desc := "(I)Z" } : Jvm.MethodName) prog_27_method_48_code (2 : Nat) (Option.some Jvm.ClassFile.FieldType.boolean)) ∈ lw_all := lw_g (lw_at lw_m9 161 rfl) rfl
theorem q2201 : (Jvm.Cond.methodLink "SaltedGateModel" (397 : Nat) ({ cls := "SaltedGateModel", name := "isHiddenIn", desc := "([II)Z" } : Jvm.MethodName)) ∈ lw_all := lw_g (lw_at lw_m9 162 rfl) rfl
theorem q2202 : (Jvm.Cond.privateMethod ({ cls := "SaltedGateModel", name := "isHiddenIn", desc := "([II)Z" } : Jvm.MethodName)) ∈ lw_tbl := lw_at lw_m9 163 rfl
theorem q2203 : (Jvm.Cond.instanceMethod ({ cls := "SaltedGateModel", name := "isHiddenIn", desc := "([II)Z" } : Jvm.MethodName)) ∈ lw_all := lw_g (lw_at lw_m9 164 rfl) rfl
theorem q2204 : (Jvm.Cond.code ({ cls := "SaltedGateModel", name := "isHiddenIn", desc := "([II)Z" } : Jvm.MethodName) prog_27_method_59_code (3 : Nat) (Option.some Jvm.ClassFile.FieldType.boolean)) ∈ lw_all := lw_g (lw_at lw_m9 165 rfl) rfl
theorem q2206 : (Jvm.Cond.instanceMethod ({ cls := "SaltedGateModel", name := "traveller", desc := "(II)I" } : Jvm.MethodName)) ∈ lw_all := lw_g (lw_at lw_m9 167 rfl) rfl
theorem q2207 : (Jvm.Cond.selects "SaltedGateModel" ({ cls := "SaltedGateModel", name := "traveller", desc := "(II)I" } : Jvm.MethodName) ({ cls := "SaltedGateModel", name := "traveller", desc := "(II)I" } : Jvm.MethodName)) ∈ lw_all := lw_g (lw_at lw_m9 168 rfl) rfl
theorem q2208 : (Jvm.Cond.code ({ cls := "SaltedGateModel", name := "traveller", desc := "(II)I" } : Jvm.MethodName) prog_27_method_66_code (3 : Nat) (Option.some Jvm.ClassFile.FieldType.int)) ∈ lw_all := lw_g (lw_at lw_m9 169 rfl) rfl
theorem q2209 : (Jvm.Cond.methodLink "SaltedGateModel" (417 : Nat) ({ cls := "SaltedGateModel", name := "isTraveller", desc := "(I)Z" } : Jvm.MethodName)) ∈ lw_all := lw_g (lw_at lw_m9 170 rfl) rfl
theorem q2210 : (Jvm.Cond.privateMethod ({ cls := "SaltedGateModel", name := "isTraveller", desc := "(I)Z" } : Jvm.MethodName)) ∈ lw_tbl := lw_at lw_m9 171 rfl
theorem q2211 : (Jvm.Cond.instanceMethod ({ cls := "SaltedGateModel", name := "isTraveller", desc := "(I)Z" } : Jvm.MethodName)) ∈ lw_all := lw_g (lw_at lw_m9 172 rfl) rfl
theorem q2212 : (Jvm.Cond.code ({ cls := "SaltedGateModel", name := "isTraveller", desc := "(I)Z" } : Jvm.MethodName) prog_27_method_49_code (2 : Nat) (Option.some Jvm.ClassFile.FieldType.boolean)) ∈ lw_all := lw_g (lw_at lw_m9 173 rfl) rfl
theorem q2213 : (Jvm.Cond.methodLink "SaltedGateModel" (420 : Nat) ({ cls := "SaltedGateModel", name := "setOf", desc := "(I)I" } : Jvm.MethodName)) ∈ lw_all := lw_g (lw_at lw_m9 174 rfl) rfl
theorem q2214 : (Jvm.Cond.privateMethod ({ cls := "SaltedGateModel", name := "setOf", desc := "(I)I" } : Jvm.MethodName)) ∈ lw_tbl := lw_at lw_m9 175 rfl
theorem q2215 : (Jvm.Cond.instanceMethod ({ cls := "SaltedGateModel", name := "setOf", desc := "(I)I" } : Jvm.MethodName)) ∈ lw_all := lw_g (lw_at lw_m9 176 rfl) rfl
theorem q2216 : (Jvm.Cond.code ({ cls := "SaltedGateModel", name := "setOf", desc := "(I)I" } : Jvm.MethodName) prog_27_method_65_code (4 : Nat) (Option.some Jvm.ClassFile.FieldType.int)) ∈ lw_all := lw_g (lw_at lw_m9 177 rfl) rfl
theorem q2217 : (Jvm.Cond.methodLink "SaltedGateModel" (390 : Nat) ({ cls := "SaltedGateModel", name := "hasIn", desc := "([III)Z" } : Jvm.MethodName)) ∈ lw_all := lw_g (lw_at lw_m9 178 rfl) rfl
theorem q2218 : (Jvm.Cond.privateMethod ({ cls := "SaltedGateModel", name := "hasIn", desc := "([III)Z" } : Jvm.MethodName)) ∈ lw_tbl := lw_at lw_m9 179 rfl
theorem q2219 : (Jvm.Cond.instanceMethod ({ cls := "SaltedGateModel", name := "hasIn", desc := "([III)Z" } : Jvm.MethodName)) ∈ lw_all := lw_g (lw_at lw_m9 180 rfl) rfl
theorem q2220 : (Jvm.Cond.code ({ cls := "SaltedGateModel", name := "hasIn", desc := "([III)Z" } : Jvm.MethodName) prog_27_method_54_code (4 : Nat) (Option.some Jvm.ClassFile.FieldType.boolean)) ∈ lw_all := lw_g (lw_at lw_m9 181 rfl) rfl
theorem q2222 : (Jvm.Cond.instanceMethod ({ cls := "SaltedGateModel", name := "gate", desc := "(II)I" } : Jvm.MethodName)) ∈ lw_all := lw_g (lw_at lw_m9 183 rfl) rfl
theorem q2223 : (Jvm.Cond.selects "SaltedGateModel" ({ cls := "SaltedGateModel", name := "gate", desc := "(II)I" } : Jvm.MethodName) ({ cls := "SaltedGateModel", name := "gate", desc := "(II)I" } : Jvm.MethodName)) ∈ lw_all := lw_g (lw_at lw_m9 184 rfl) rfl
theorem q2224 : (Jvm.Cond.code ({ cls := "SaltedGateModel", name := "gate", desc := "(II)I" } : Jvm.MethodName) prog_27_method_67_code (3 : Nat) (Option.some Jvm.ClassFile.FieldType.int)) ∈ lw_all := lw_g (lw_at lw_m9 185 rfl) rfl
theorem q2225 : (Jvm.Cond.methodLink "SaltedGateModel" (423 : Nat) ({ cls := "SaltedGateModel", name := "isGate", desc := "(I)Z" } : Jvm.MethodName)) ∈ lw_all := lw_g (lw_at lw_m9 186 rfl) rfl
theorem q2226 : (Jvm.Cond.privateMethod ({ cls := "SaltedGateModel", name := "isGate", desc := "(I)Z" } : Jvm.MethodName)) ∈ lw_tbl := lw_at lw_m9 187 rfl
theorem q2227 : (Jvm.Cond.instanceMethod ({ cls := "SaltedGateModel", name := "isGate", desc := "(I)Z" } : Jvm.MethodName)) ∈ lw_all := lw_g (lw_at lw_m9 188 rfl) rfl
theorem q2228 : (Jvm.Cond.code ({ cls := "SaltedGateModel", name := "isGate", desc := "(I)Z" } : Jvm.MethodName) prog_27_method_51_code (2 : Nat) (Option.some Jvm.ClassFile.FieldType.boolean)) ∈ lw_all := lw_g (lw_at lw_m9 189 rfl) rfl
theorem q2230 : (Jvm.Cond.instanceMethod ({ cls := "SaltedGateModel", name := "age", desc := "(II)I" } : Jvm.MethodName)) ∈ lw_all := lw_g (lw_at lw_m9 191 rfl) rfl
theorem q2231 : (Jvm.Cond.selects "SaltedGateModel" ({ cls := "SaltedGateModel", name := "age", desc := "(II)I" } : Jvm.MethodName) ({ cls := "SaltedGateModel", name := "age", desc := "(II)I" } : Jvm.MethodName)) ∈ lw_all := lw_g (lw_at lw_m9 192 rfl) rfl
theorem q2232 : (Jvm.Cond.code ({ cls := "SaltedGateModel", name := "age", desc := "(II)I" } : Jvm.MethodName) prog_27_method_69_code (4 : Nat) (Option.some Jvm.ClassFile.FieldType.int)) ∈ lw_all := lw_g (lw_at lw_m9 193 rfl) rfl
theorem q2233 : (Jvm.Cond.methodLink "SaltedGateModel" (429 : Nat) ({ cls := "SaltedGateModel", name := "asks", desc := "(ZI)I" } : Jvm.MethodName)) ∈ lw_all := lw_g (lw_at lw_m9 194 rfl) rfl
theorem q2234 : (Jvm.Cond.privateMethod ({ cls := "SaltedGateModel", name := "asks", desc := "(ZI)I" } : Jvm.MethodName)) ∈ lw_tbl := lw_at lw_m9 195 rfl
theorem q2235 : (Jvm.Cond.instanceMethod ({ cls := "SaltedGateModel", name := "asks", desc := "(ZI)I" } : Jvm.MethodName)) ∈ lw_all := lw_g (lw_at lw_m9 196 rfl) rfl
theorem q2236 : (Jvm.Cond.code ({ cls := "SaltedGateModel", name := "asks", desc := "(ZI)I" } : Jvm.MethodName) prog_27_method_68_code (3 : Nat) (Option.some Jvm.ClassFile.FieldType.int)) ∈ lw_all := lw_g (lw_at lw_m9 197 rfl) rfl
theorem q2237 : (Jvm.Cond.methodLink "SaltedGateModel" (426 : Nat) ({ cls := "SaltedGateModel", name := "tries", desc := "()V" } : Jvm.MethodName)) ∈ lw_all := lw_g (lw_at lw_m9 198 rfl) rfl
theorem q2238 : (Jvm.Cond.privateMethod ({ cls := "SaltedGateModel", name := "tries", desc := "()V" } : Jvm.MethodName)) ∈ lw_tbl := lw_at lw_m9 199 rfl
theorem q2239 : (Jvm.Cond.instanceMethod ({ cls := "SaltedGateModel", name := "tries", desc := "()V" } : Jvm.MethodName)) ∈ lw_all := lw_g (lw_at lw_m9 200 rfl) rfl
theorem q2240 : (Jvm.Cond.code ({ cls := "SaltedGateModel", name := "tries", desc := "()V" } : Jvm.MethodName) prog_27_method_47_code (2 : Nat) (Option.none : Option Jvm.ClassFile.FieldType)) ∈ lw_all := lw_g (lw_at lw_m9 201 rfl) rfl
theorem q2241 : (Jvm.Cond.methodLink "SaltedGateModel" (379 : Nat) ({ cls := "SaltedGateModel", name := "ageIn", desc := "([II)I" } : Jvm.MethodName)) ∈ lw_all := lw_g (lw_at lw_m9 202 rfl) rfl
theorem q2242 : (Jvm.Cond.privateMethod ({ cls := "SaltedGateModel", name := "ageIn", desc := "([II)I" } : Jvm.MethodName)) ∈ lw_tbl := lw_at lw_m9 203 rfl
theorem q2243 : (Jvm.Cond.instanceMethod ({ cls := "SaltedGateModel", name := "ageIn", desc := "([II)I" } : Jvm.MethodName)) ∈ lw_all := lw_g (lw_at lw_m9 204 rfl) rfl
theorem q2244 : (Jvm.Cond.code ({ cls := "SaltedGateModel", name := "ageIn", desc := "([II)I" } : Jvm.MethodName) prog_27_method_52_code (3 : Nat) (Option.some Jvm.ClassFile.FieldType.int)) ∈ lw_all := lw_g (lw_at lw_m9 205 rfl) rfl
theorem q2246 : (Jvm.Cond.instanceMethod ({ cls := "SaltedGateModel", name := "worth", desc := "(II)I" } : Jvm.MethodName)) ∈ lw_all := lw_g (lw_at lw_m9 207 rfl) rfl
theorem q2247 : (Jvm.Cond.selects "SaltedGateModel" ({ cls := "SaltedGateModel", name := "worth", desc := "(II)I" } : Jvm.MethodName) ({ cls := "SaltedGateModel", name := "worth", desc := "(II)I" } : Jvm.MethodName)) ∈ lw_all := lw_g (lw_at lw_m9 208 rfl) rfl
theorem q2248 : (Jvm.Cond.code ({ cls := "SaltedGateModel", name := "worth", desc := "(II)I" } : Jvm.MethodName) prog_27_method_70_code (4 : Nat) (Option.some Jvm.ClassFile.FieldType.int)) ∈ lw_all := lw_g (lw_at lw_m9 209 rfl) rfl
theorem q2249 : (Jvm.Cond.methodLink "SaltedGateModel" (433 : Nat) ({ cls := "SaltedGateModel", name := "worthIn", desc := "([II)I" } : Jvm.MethodName)) ∈ lw_all := lw_g (lw_at lw_m9 210 rfl) rfl
theorem q2250 : (Jvm.Cond.privateMethod ({ cls := "SaltedGateModel", name := "worthIn", desc := "([II)I" } : Jvm.MethodName)) ∈ lw_tbl := lw_at lw_m9 211 rfl
theorem q2251 : (Jvm.Cond.instanceMethod ({ cls := "SaltedGateModel", name := "worthIn", desc := "([II)I" } : Jvm.MethodName)) ∈ lw_all := lw_g (lw_at lw_m9 212 rfl) rfl
theorem q2252 : (Jvm.Cond.code ({ cls := "SaltedGateModel", name := "worthIn", desc := "([II)I" } : Jvm.MethodName) prog_27_method_55_code (3 : Nat) (Option.some Jvm.ClassFile.FieldType.int)) ∈ lw_all := lw_g (lw_at lw_m9 213 rfl) rfl
theorem q2253 : (Jvm.Cond.methodLink "SaltedGateModel" (386 : Nat) ({ cls := "SaltedGateModel", name := "isTurnedIn", desc := "([II)Z" } : Jvm.MethodName)) ∈ lw_all := lw_g (lw_at lw_m9 214 rfl) rfl
theorem q2254 : (Jvm.Cond.privateMethod ({ cls := "SaltedGateModel", name := "isTurnedIn", desc := "([II)Z" } : Jvm.MethodName)) ∈ lw_tbl := lw_at lw_m9 215 rfl
theorem q2255 : (Jvm.Cond.instanceMethod ({ cls := "SaltedGateModel", name := "isTurnedIn", desc := "([II)Z" } : Jvm.MethodName)) ∈ lw_all := lw_g (lw_at lw_m9 216 rfl) rfl
theorem q2256 : (Jvm.Cond.code ({ cls := "SaltedGateModel", name := "isTurnedIn", desc := "([II)Z" } : Jvm.MethodName) prog_27_method_53_code (3 : Nat) (Option.some Jvm.ClassFile.FieldType.boolean)) ∈ lw_all := lw_g (lw_at lw_m9 217 rfl) rfl
theorem q2257 : (Jvm.Cond.methodLink "SaltedGateModel" (383 : Nat) ({ cls := "SaltedGateModel$Barrier", name := "isTurned", desc := "(II)Z" } : Jvm.MethodName)) ∈ lw_all := lw_g (lw_at lw_m9 218 rfl) rfl
theorem q2262 : (Jvm.Cond.instanceMethod ({ cls := "SaltedGateModel", name := "duty", desc := "(II)I" } : Jvm.MethodName)) ∈ lw_all := lw_g (lw_at lw_m9 223 rfl) rfl
theorem q2263 : (Jvm.Cond.selects "SaltedGateModel" ({ cls := "SaltedGateModel", name := "duty", desc := "(II)I" } : Jvm.MethodName) ({ cls := "SaltedGateModel", name := "duty", desc := "(II)I" } : Jvm.MethodName)) ∈ lw_all := lw_g (lw_at lw_m9 224 rfl) rfl
theorem q2264 : (Jvm.Cond.code ({ cls := "SaltedGateModel", name := "duty", desc := "(II)I" } : Jvm.MethodName) prog_27_method_71_code (4 : Nat) (Option.some Jvm.ClassFile.FieldType.int)) ∈ lw_all := lw_g (lw_at lw_m9 225 rfl) rfl
theorem q2265 : (Jvm.Cond.methodLink "SaltedGateModel" (404 : Nat) ({ cls := "SaltedGateModel", name := "dutyIn", desc := "([III)I" } : Jvm.MethodName)) ∈ lw_all := lw_g (lw_at lw_m9 226 rfl) rfl
theorem q2266 : (Jvm.Cond.privateMethod ({ cls := "SaltedGateModel", name := "dutyIn", desc := "([III)I" } : Jvm.MethodName)) ∈ lw_tbl := lw_at lw_m9 227 rfl
theorem q2267 : (Jvm.Cond.instanceMethod ({ cls := "SaltedGateModel", name := "dutyIn", desc := "([III)I" } : Jvm.MethodName)) ∈ lw_all := lw_g (lw_at lw_m9 228 rfl) rfl
theorem q2268 : (Jvm.Cond.code ({ cls := "SaltedGateModel", name := "dutyIn", desc := "([III)I" } : Jvm.MethodName) prog_27_method_56_code (4 : Nat) (Option.some Jvm.ClassFile.FieldType.int)) ∈ lw_all := lw_g (lw_at lw_m9 229 rfl) rfl
theorem q2270 : (Jvm.Cond.instanceMethod ({ cls := "SaltedGateModel", name := "smell", desc := "(II)I" } : Jvm.MethodName)) ∈ lw_all := lw_g (lw_at lw_m9 231 rfl) rfl
theorem q2271 : (Jvm.Cond.selects "SaltedGateModel" ({ cls := "SaltedGateModel", name := "smell", desc := "(II)I" } : Jvm.MethodName) ({ cls := "SaltedGateModel", name := "smell", desc := "(II)I" } : Jvm.MethodName)) ∈ lw_all := lw_g (lw_at lw_m9 232 rfl) rfl
theorem q2272 : (Jvm.Cond.code ({ cls := "SaltedGateModel", name := "smell", desc := "(II)I" } : Jvm.MethodName) prog_27_method_72_code (4 : Nat) (Option.some Jvm.ClassFile.FieldType.int)) ∈ lw_all := lw_g (lw_at lw_m9 233 rfl) rfl
theorem q2273 : (Jvm.Cond.methodLink "SaltedGateModel" (400 : Nat) ({ cls := "SaltedGateModel", name := "smellIn", desc := "([III)I" } : Jvm.MethodName)) ∈ lw_all := lw_g (lw_at lw_m9 234 rfl) rfl
theorem q2274 : (Jvm.Cond.privateMethod ({ cls := "SaltedGateModel", name := "smellIn", desc := "([III)I" } : Jvm.MethodName)) ∈ lw_tbl := lw_at lw_m9 235 rfl
theorem q2275 : (Jvm.Cond.instanceMethod ({ cls := "SaltedGateModel", name := "smellIn", desc := "([III)I" } : Jvm.MethodName)) ∈ lw_all := lw_g (lw_at lw_m9 236 rfl) rfl
theorem q2276 : (Jvm.Cond.code ({ cls := "SaltedGateModel", name := "smellIn", desc := "([III)I" } : Jvm.MethodName) prog_27_method_58_code (5 : Nat) (Option.some Jvm.ClassFile.FieldType.int)) ∈ lw_all := lw_g (lw_at lw_m9 237 rfl) rfl
theorem q2277 : (Jvm.Cond.methodLink "SaltedGateModel" (394 : Nat) ({ cls := "SaltedGateModel", name := "freshIn", desc := "([II)I" } : Jvm.MethodName)) ∈ lw_all := lw_g (lw_at lw_m9 238 rfl) rfl
theorem q2278 : (Jvm.Cond.privateMethod ({ cls := "SaltedGateModel", name := "freshIn", desc := "([II)I" } : Jvm.MethodName)) ∈ lw_tbl := lw_at lw_m9 239 rfl
theorem q2279 : (Jvm.Cond.instanceMethod ({ cls := "SaltedGateModel", name := "freshIn", desc := "([II)I" } : Jvm.MethodName)) ∈ lw_all := lw_g (lw_at lw_m10 0 rfl) rfl
theorem q2280 : (Jvm.Cond.code ({ cls := "SaltedGateModel", name := "freshIn", desc := "([II)I" } : Jvm.MethodName) prog_27_method_57_code (5 : Nat) (Option.some Jvm.ClassFile.FieldType.int)) ∈ lw_all := lw_g (lw_at lw_m10 1 rfl) rfl
theorem q2282 : (Jvm.Cond.instanceMethod ({ cls := "SaltedGateModel", name := "turned", desc := "(I)I" } : Jvm.MethodName)) ∈ lw_all := lw_g (lw_at lw_m10 3 rfl) rfl
theorem q2283 : (Jvm.Cond.selects "SaltedGateModel" ({ cls := "SaltedGateModel", name := "turned", desc := "(I)I" } : Jvm.MethodName) ({ cls := "SaltedGateModel", name := "turned", desc := "(I)I" } : Jvm.MethodName)) ∈ lw_all := lw_g (lw_at lw_m10 4 rfl) rfl
theorem q2284 : (Jvm.Cond.code ({ cls := "SaltedGateModel", name := "turned", desc := "(I)I" } : Jvm.MethodName) prog_27_method_73_code (3 : Nat) (Option.some Jvm.ClassFile.FieldType.int)) ∈ lw_all := lw_g (lw_at lw_m10 5 rfl) rfl
theorem q2286 : (Jvm.Cond.instanceMethod ({ cls := "SaltedGateModel", name := "asked", desc := "(III)I" } : Jvm.MethodName)) ∈ lw_all := lw_g (lw_at lw_m10 7 rfl) rfl
theorem q2287 : (Jvm.Cond.selects "SaltedGateModel" ({ cls := "SaltedGateModel", name := "asked", desc := "(III)I" } : Jvm.MethodName) ({ cls := "SaltedGateModel", name := "asked", desc := "(III)I" } : Jvm.MethodName)) ∈ lw_all := lw_g (lw_at lw_m10 8 rfl) rfl
theorem q2288 : (Jvm.Cond.code ({ cls := "SaltedGateModel", name := "asked", desc := "(III)I" } : Jvm.MethodName) prog_27_method_74_code (5 : Nat) (Option.some Jvm.ClassFile.FieldType.int)) ∈ lw_all := lw_g (lw_at lw_m10 9 rfl) rfl
theorem q2289 : (Jvm.Cond.methodLink "SaltedGateModel" (436 : Nat) ({ cls := "SaltedGateModel", name := "askedIn", desc := "([III)I" } : Jvm.MethodName)) ∈ lw_all := lw_g (lw_at lw_m10 10 rfl) rfl
theorem q2290 : (Jvm.Cond.privateMethod ({ cls := "SaltedGateModel", name := "askedIn", desc := "([III)I" } : Jvm.MethodName)) ∈ lw_tbl := lw_at lw_m10 11 rfl
theorem q2291 : (Jvm.Cond.instanceMethod ({ cls := "SaltedGateModel", name := "askedIn", desc := "([III)I" } : Jvm.MethodName)) ∈ lw_all := lw_g (lw_at lw_m10 12 rfl) rfl
theorem q2292 : (Jvm.Cond.code ({ cls := "SaltedGateModel", name := "askedIn", desc := "([III)I" } : Jvm.MethodName) prog_27_method_62_code (4 : Nat) (Option.some Jvm.ClassFile.FieldType.int)) ∈ lw_all := lw_g (lw_at lw_m10 13 rfl) rfl
theorem q2293 : (Jvm.Cond.methodLink "SaltedGateModel" (407 : Nat) ({ cls := "SaltedGateModel", name := "foundIn", desc := "([IIII)I" } : Jvm.MethodName)) ∈ lw_all := lw_g (lw_at lw_m10 14 rfl) rfl
theorem q2294 : (Jvm.Cond.privateMethod ({ cls := "SaltedGateModel", name := "foundIn", desc := "([IIII)I" } : Jvm.MethodName)) ∈ lw_tbl := lw_at lw_m10 15 rfl
theorem q2295 : (Jvm.Cond.instanceMethod ({ cls := "SaltedGateModel", name := "foundIn", desc := "([IIII)I" } : Jvm.MethodName)) ∈ lw_all := lw_g (lw_at lw_m10 16 rfl) rfl
theorem q2296 : (Jvm.Cond.code ({ cls := "SaltedGateModel", name := "foundIn", desc := "([IIII)I" } : Jvm.MethodName) prog_27_method_60_code (7 : Nat) (Option.some Jvm.ClassFile.FieldType.int)) ∈ lw_all := lw_g (lw_at lw_m10 17 rfl) rfl
theorem q2297 : (Jvm.Cond.methodLink "SaltedGateModel" (411 : Nat) ({ cls := "SaltedGateModel", name := "askedBy", desc := "([IIII)I" } : Jvm.MethodName)) ∈ lw_all := lw_g (lw_at lw_m10 18 rfl) rfl
theorem q2298 : (Jvm.Cond.privateMethod ({ cls := "SaltedGateModel", name := "askedBy", desc := "([IIII)I" } : Jvm.MethodName)) ∈ lw_tbl := lw_at lw_m10 19 rfl
theorem q2299 : (Jvm.Cond.instanceMethod ({ cls := "SaltedGateModel", name := "askedBy", desc := "([IIII)I" } : Jvm.MethodName)) ∈ lw_all := lw_g (lw_at lw_m10 20 rfl) rfl
theorem q2300 : (Jvm.Cond.code ({ cls := "SaltedGateModel", name := "askedBy", desc := "([IIII)I" } : Jvm.MethodName) prog_27_method_61_code (8 : Nat) (Option.some Jvm.ClassFile.FieldType.int)) ∈ lw_all := lw_g (lw_at lw_m10 21 rfl) rfl
theorem q2302 : (Jvm.Cond.instanceMethod ({ cls := "SaltedGateModel", name := "found", desc := "(III)I" } : Jvm.MethodName)) ∈ lw_all := lw_g (lw_at lw_m10 23 rfl) rfl
theorem q2303 : (Jvm.Cond.selects "SaltedGateModel" ({ cls := "SaltedGateModel", name := "found", desc := "(III)I" } : Jvm.MethodName) ({ cls := "SaltedGateModel", name := "found", desc := "(III)I" } : Jvm.MethodName)) ∈ lw_all := lw_g (lw_at lw_m10 24 rfl) rfl
theorem q2304 : (Jvm.Cond.code ({ cls := "SaltedGateModel", name := "found", desc := "(III)I" } : Jvm.MethodName) prog_27_method_75_code (5 : Nat) (Option.some Jvm.ClassFile.FieldType.int)) ∈ lw_all := lw_g (lw_at lw_m10 25 rfl) rfl
theorem q2306 : (Jvm.Cond.instanceMethod ({ cls := "SaltedGateModel", name := "otherLaw", desc := "(III)I" } : Jvm.MethodName)) ∈ lw_all := lw_g (lw_at lw_m10 27 rfl) rfl
theorem q2307 : (Jvm.Cond.selects "SaltedGateModel" ({ cls := "SaltedGateModel", name := "otherLaw", desc := "(III)I" } : Jvm.MethodName) ({ cls := "SaltedGateModel", name := "otherLaw", desc := "(III)I" } : Jvm.MethodName)) ∈ lw_all := lw_g (lw_at lw_m10 28 rfl) rfl
theorem q2308 : (Jvm.Cond.code ({ cls := "SaltedGateModel", name := "otherLaw", desc := "(III)I" } : Jvm.MethodName) prog_27_method_76_code (5 : Nat) (Option.some Jvm.ClassFile.FieldType.int)) ∈ lw_all := lw_g (lw_at lw_m10 29 rfl) rfl
theorem q2310 : (Jvm.Cond.instanceMethod ({ cls := "SaltedGateModel", name := "carries", desc := "(II)I" } : Jvm.MethodName)) ∈ lw_all := lw_g (lw_at lw_m10 31 rfl) rfl
theorem q2311 : (Jvm.Cond.selects "SaltedGateModel" ({ cls := "SaltedGateModel", name := "carries", desc := "(II)I" } : Jvm.MethodName) ({ cls := "SaltedGateModel", name := "carries", desc := "(II)I" } : Jvm.MethodName)) ∈ lw_all := lw_g (lw_at lw_m10 32 rfl) rfl
theorem q2312 : (Jvm.Cond.code ({ cls := "SaltedGateModel", name := "carries", desc := "(II)I" } : Jvm.MethodName) prog_27_method_77_code (6 : Nat) (Option.some Jvm.ClassFile.FieldType.int)) ∈ lw_all := lw_g (lw_at lw_m10 33 rfl) rfl
theorem q2314 : (Jvm.Cond.instanceMethod ({ cls := "SaltedGateModel", name := "dutyBy", desc := "(II)I" } : Jvm.MethodName)) ∈ lw_all := lw_g (lw_at lw_m10 35 rfl) rfl
theorem q2315 : (Jvm.Cond.selects "SaltedGateModel" ({ cls := "SaltedGateModel", name := "dutyBy", desc := "(II)I" } : Jvm.MethodName) ({ cls := "SaltedGateModel", name := "dutyBy", desc := "(II)I" } : Jvm.MethodName)) ∈ lw_all := lw_g (lw_at lw_m10 36 rfl) rfl
theorem q2316 : (Jvm.Cond.code ({ cls := "SaltedGateModel", name := "dutyBy", desc := "(II)I" } : Jvm.MethodName) prog_27_method_78_code (6 : Nat) (Option.some Jvm.ClassFile.FieldType.int)) ∈ lw_all := lw_g (lw_at lw_m10 37 rfl) rfl
theorem q2317 : (Jvm.Cond.methodLink "SaltedGateModel" (439 : Nat) ({ cls := "SaltedGateModel", name := "isMeans", desc := "(I)Z" } : Jvm.MethodName)) ∈ lw_all := lw_g (lw_at lw_m10 38 rfl) rfl
theorem q2318 : (Jvm.Cond.privateMethod ({ cls := "SaltedGateModel", name := "isMeans", desc := "(I)Z" } : Jvm.MethodName)) ∈ lw_tbl := lw_at lw_m10 39 rfl
theorem q2319 : (Jvm.Cond.instanceMethod ({ cls := "SaltedGateModel", name := "isMeans", desc := "(I)Z" } : Jvm.MethodName)) ∈ lw_all := lw_g (lw_at lw_m10 40 rfl) rfl
theorem q2320 : (Jvm.Cond.code ({ cls := "SaltedGateModel", name := "isMeans", desc := "(I)Z" } : Jvm.MethodName) prog_27_method_50_code (2 : Nat) (Option.some Jvm.ClassFile.FieldType.boolean)) ∈ lw_all := lw_g (lw_at lw_m10 41 rfl) rfl
theorem q2322 : (Jvm.Cond.instanceMethod ({ cls := "SaltedGateModel", name := "nearest", desc := "(III)I" } : Jvm.MethodName)) ∈ lw_all := lw_g (lw_at lw_m10 43 rfl) rfl
theorem q2323 : (Jvm.Cond.selects "SaltedGateModel" ({ cls := "SaltedGateModel", name := "nearest", desc := "(III)I" } : Jvm.MethodName) ({ cls := "SaltedGateModel", name := "nearest", desc := "(III)I" } : Jvm.MethodName)) ∈ lw_all := lw_g (lw_at lw_m10 44 rfl) rfl
theorem q2324 : (Jvm.Cond.code ({ cls := "SaltedGateModel", name := "nearest", desc := "(III)I" } : Jvm.MethodName) prog_27_method_79_code (8 : Nat) (Option.some Jvm.ClassFile.FieldType.int)) ∈ lw_all := lw_g (lw_at lw_m10 45 rfl) rfl
theorem q2326 : (Jvm.Cond.instanceMethod ({ cls := "SaltedGateModel", name := "bestGate", desc := "(II)I" } : Jvm.MethodName)) ∈ lw_all := lw_g (lw_at lw_m10 47 rfl) rfl
theorem q2327 : (Jvm.Cond.selects "SaltedGateModel" ({ cls := "SaltedGateModel", name := "bestGate", desc := "(II)I" } : Jvm.MethodName) ({ cls := "SaltedGateModel", name := "bestGate", desc := "(II)I" } : Jvm.MethodName)) ∈ lw_all := lw_g (lw_at lw_m10 48 rfl) rfl
theorem q2328 : (Jvm.Cond.code ({ cls := "SaltedGateModel", name := "bestGate", desc := "(II)I" } : Jvm.MethodName) prog_27_method_80_code (6 : Nat) (Option.some Jvm.ClassFile.FieldType.int)) ∈ lw_all := lw_g (lw_at lw_m10 49 rfl) rfl
theorem q2330 : (Jvm.Cond.instanceMethod ({ cls := "SaltedGateModel", name := "cheapestDay", desc := "(II)I" } : Jvm.MethodName)) ∈ lw_all := lw_g (lw_at lw_m10 51 rfl) rfl
theorem q2331 : (Jvm.Cond.selects "SaltedGateModel" ({ cls := "SaltedGateModel", name := "cheapestDay", desc := "(II)I" } : Jvm.MethodName) ({ cls := "SaltedGateModel", name := "cheapestDay", desc := "(II)I" } : Jvm.MethodName)) ∈ lw_all := lw_g (lw_at lw_m10 52 rfl) rfl
theorem q2332 : (Jvm.Cond.code ({ cls := "SaltedGateModel", name := "cheapestDay", desc := "(II)I" } : Jvm.MethodName) prog_27_method_82_code (3 : Nat) (Option.some Jvm.ClassFile.FieldType.int)) ∈ lw_all := lw_g (lw_at lw_m10 53 rfl) rfl
theorem q2333 : (Jvm.Cond.methodLink "SaltedGateModel" (448 : Nat) ({ cls := "SaltedGateModel", name := "cheapests", desc := "(II)V" } : Jvm.MethodName)) ∈ lw_all := lw_g (lw_at lw_m10 54 rfl) rfl
theorem q2334 : (Jvm.Cond.privateMethod ({ cls := "SaltedGateModel", name := "cheapests", desc := "(II)V" } : Jvm.MethodName)) ∈ lw_tbl := lw_at lw_m10 55 rfl
theorem q2335 : (Jvm.Cond.instanceMethod ({ cls := "SaltedGateModel", name := "cheapests", desc := "(II)V" } : Jvm.MethodName)) ∈ lw_all := lw_g (lw_at lw_m10 56 rfl) rfl
theorem q2336 : (Jvm.Cond.code ({ cls := "SaltedGateModel", name := "cheapests", desc := "(II)V" } : Jvm.MethodName) prog_27_method_81_code (5 : Nat) (Option.none : Option Jvm.ClassFile.FieldType)) ∈ lw_all := lw_g (lw_at lw_m10 57 rfl) rfl
theorem q2338 : (Jvm.Cond.instanceMethod ({ cls := "SaltedGateModel", name := "cheapest", desc := "(II)I" } : Jvm.MethodName)) ∈ lw_all := lw_g (lw_at lw_m10 59 rfl) rfl
theorem q2339 : (Jvm.Cond.selects "SaltedGateModel" ({ cls := "SaltedGateModel", name := "cheapest", desc := "(II)I" } : Jvm.MethodName) ({ cls := "SaltedGateModel", name := "cheapest", desc := "(II)I" } : Jvm.MethodName)) ∈ lw_all := lw_g (lw_at lw_m10 60 rfl) rfl
theorem q2340 : (Jvm.Cond.code ({ cls := "SaltedGateModel", name := "cheapest", desc := "(II)I" } : Jvm.MethodName) prog_27_method_83_code (3 : Nat) (Option.some Jvm.ClassFile.FieldType.int)) ∈ lw_all := lw_g (lw_at lw_m10 61 rfl) rfl
theorem q2342 : (Jvm.Cond.instanceMethod ({ cls := "SaltedGateModel", name := "eats", desc := "(III)I" } : Jvm.MethodName)) ∈ lw_all := lw_g (lw_at lw_m10 63 rfl) rfl
theorem q2343 : (Jvm.Cond.selects "SaltedGateModel" ({ cls := "SaltedGateModel", name := "eats", desc := "(III)I" } : Jvm.MethodName) ({ cls := "SaltedGateModel", name := "eats", desc := "(III)I" } : Jvm.MethodName)) ∈ lw_all := lw_g (lw_at lw_m10 64 rfl) rfl
theorem q2344 : (Jvm.Cond.code ({ cls := "SaltedGateModel", name := "eats", desc := "(III)I" } : Jvm.MethodName) prog_27_method_86_code (5 : Nat) (Option.some Jvm.ClassFile.FieldType.int)) ∈ lw_all := lw_g (lw_at lw_m10 65 rfl) rfl
theorem q2345 : (Jvm.Cond.methodLink "SaltedGateModel" (460 : Nat) ({ cls := "SaltedGateModel", name := "eatsBest", desc := "(III)V" } : Jvm.MethodName)) ∈ lw_all := lw_g (lw_at lw_m10 66 rfl) rfl
theorem q2346 : (Jvm.Cond.privateMethod ({ cls := "SaltedGateModel", name := "eatsBest", desc := "(III)V" } : Jvm.MethodName)) ∈ lw_tbl := lw_at lw_m10 67 rfl
theorem q2347 : (Jvm.Cond.instanceMethod ({ cls := "SaltedGateModel", name := "eatsBest", desc := "(III)V" } : Jvm.MethodName)) ∈ lw_all := lw_g (lw_at lw_m10 68 rfl) rfl
theorem q2348 : (Jvm.Cond.code ({ cls := "SaltedGateModel", name := "eatsBest", desc := "(III)V" } : Jvm.MethodName) prog_27_method_85_code (7 : Nat) (Option.none : Option Jvm.ClassFile.FieldType)) ∈ lw_all := lw_g (lw_at lw_m10 69 rfl) rfl
theorem q2349 : (Jvm.Cond.methodLink "SaltedGateModel" (451 : Nat) ({ cls := "SaltedGateModel", name := "bits", desc := "(I)I" } : Jvm.MethodName)) ∈ lw_all := lw_g (lw_at lw_m10 70 rfl) rfl
theorem q2350 : (Jvm.Cond.static ({ cls := "SaltedGateModel", name := "bits", desc := "(I)I" } : Jvm.MethodName)) ∈ lw_all := lw_g (lw_at lw_m10 71 rfl) rfl
theorem q2351 : (Jvm.Cond.code ({ cls := "SaltedGateModel", name := "bits", desc := "(I)I" } : Jvm.MethodName) prog_27_method_10_code (3 : Nat) (Option.some Jvm.ClassFile.FieldType.int)) ∈ lw_all := lw_g (lw_at lw_m10 72 rfl) rfl
theorem q2352 : (Jvm.Cond.methodLink "SaltedGateModel" (457 : Nat) ({ cls := "SaltedGateModel", name := "takesSet", desc := "(II)V" } : Jvm.MethodName)) ∈ lw_all := lw_g (lw_at lw_m10 73 rfl) rfl
theorem q2353 : (Jvm.Cond.privateMethod ({ cls := "SaltedGateModel", name := "takesSet", desc := "(II)V" } : Jvm.MethodName)) ∈ lw_tbl := lw_at lw_m10 74 rfl
theorem q2354 : (Jvm.Cond.instanceMethod ({ cls := "SaltedGateModel", name := "takesSet", desc := "(II)V" } : Jvm.MethodName)) ∈ lw_all := lw_g (lw_at lw_m10 75 rfl) rfl
theorem q2355 : (Jvm.Cond.code ({ cls := "SaltedGateModel", name := "takesSet", desc := "(II)V" } : Jvm.MethodName) prog_27_method_84_code (3 : Nat) (Option.none : Option Jvm.ClassFile.FieldType)) ∈ lw_all := lw_g (lw_at lw_m10 76 rfl) rfl
theorem q2357 : (Jvm.Cond.instanceMethod ({ cls := "SaltedGateModel", name := "eatsAsked", desc := "(III)I" } : Jvm.MethodName)) ∈ lw_all := lw_g (lw_at lw_m10 78 rfl) rfl
theorem q2358 : (Jvm.Cond.selects "SaltedGateModel" ({ cls := "SaltedGateModel", name := "eatsAsked", desc := "(III)I" } : Jvm.MethodName) ({ cls := "SaltedGateModel", name := "eatsAsked", desc := "(III)I" } : Jvm.MethodName)) ∈ lw_all := lw_g (lw_at lw_m10 79 rfl) rfl
theorem q2359 : (Jvm.Cond.code ({ cls := "SaltedGateModel", name := "eatsAsked", desc := "(III)I" } : Jvm.MethodName) prog_27_method_87_code (5 : Nat) (Option.some Jvm.ClassFile.FieldType.int)) ∈ lw_all := lw_g (lw_at lw_m10 80 rfl) rfl
theorem q2361 : (Jvm.Cond.instanceMethod ({ cls := "SaltedGateModel", name := "hideBest", desc := "(III)I" } : Jvm.MethodName)) ∈ lw_all := lw_g (lw_at lw_m10 82 rfl) rfl
theorem q2362 : (Jvm.Cond.selects "SaltedGateModel" ({ cls := "SaltedGateModel", name := "hideBest", desc := "(III)I" } : Jvm.MethodName) ({ cls := "SaltedGateModel", name := "hideBest", desc := "(III)I" } : Jvm.MethodName)) ∈ lw_all := lw_g (lw_at lw_m10 83 rfl) rfl
theorem q2363 : (Jvm.Cond.code ({ cls := "SaltedGateModel", name := "hideBest", desc := "(III)I" } : Jvm.MethodName) prog_27_method_89_code (5 : Nat) (Option.some Jvm.ClassFile.FieldType.int)) ∈ lw_all := lw_g (lw_at lw_m10 84 rfl) rfl
theorem q2364 : (Jvm.Cond.methodLink "SaltedGateModel" (464 : Nat) ({ cls := "SaltedGateModel", name := "hidesBest", desc := "(III)V" } : Jvm.MethodName)) ∈ lw_all := lw_g (lw_at lw_m10 85 rfl) rfl
theorem q2365 : (Jvm.Cond.privateMethod ({ cls := "SaltedGateModel", name := "hidesBest", desc := "(III)V" } : Jvm.MethodName)) ∈ lw_tbl := lw_at lw_m10 86 rfl
theorem q2366 : (Jvm.Cond.instanceMethod ({ cls := "SaltedGateModel", name := "hidesBest", desc := "(III)V" } : Jvm.MethodName)) ∈ lw_all := lw_g (lw_at lw_m10 87 rfl) rfl
theorem q2367 : (Jvm.Cond.code ({ cls := "SaltedGateModel", name := "hidesBest", desc := "(III)V" } : Jvm.MethodName) prog_27_method_88_code (6 : Nat) (Option.none : Option Jvm.ClassFile.FieldType)) ∈ lw_all := lw_g (lw_at lw_m10 88 rfl) rfl
theorem q2369 : (Jvm.Cond.instanceMethod ({ cls := "SaltedGateModel", name := "hideAsked", desc := "(III)I" } : Jvm.MethodName)) ∈ lw_all := lw_g (lw_at lw_m10 90 rfl) rfl
theorem q2370 : (Jvm.Cond.selects "SaltedGateModel" ({ cls := "SaltedGateModel", name := "hideAsked", desc := "(III)I" } : Jvm.MethodName) ({ cls := "SaltedGateModel", name := "hideAsked", desc := "(III)I" } : Jvm.MethodName)) ∈ lw_all := lw_g (lw_at lw_m10 91 rfl) rfl
theorem q2371 : (Jvm.Cond.code ({ cls := "SaltedGateModel", name := "hideAsked", desc := "(III)I" } : Jvm.MethodName) prog_27_method_90_code (5 : Nat) (Option.some Jvm.ClassFile.FieldType.int)) ∈ lw_all := lw_g (lw_at lw_m10 92 rfl) rfl
theorem q2373 : (Jvm.Cond.instanceMethod ({ cls := "SaltedGateModel", name := "cover", desc := "(III)I" } : Jvm.MethodName)) ∈ lw_all := lw_g (lw_at lw_m10 94 rfl) rfl
theorem q2374 : (Jvm.Cond.selects "SaltedGateModel" ({ cls := "SaltedGateModel", name := "cover", desc := "(III)I" } : Jvm.MethodName) ({ cls := "SaltedGateModel", name := "cover", desc := "(III)I" } : Jvm.MethodName)) ∈ lw_all := lw_g (lw_at lw_m10 95 rfl) rfl
theorem q2375 : (Jvm.Cond.code ({ cls := "SaltedGateModel", name := "cover", desc := "(III)I" } : Jvm.MethodName) prog_27_method_91_code (6 : Nat) (Option.some Jvm.ClassFile.FieldType.int)) ∈ lw_all := lw_g (lw_at lw_m10 96 rfl) rfl
theorem q2377 : (Jvm.Cond.instanceMethod ({ cls := "SaltedGateModel", name := "hold", desc := "(I)I" } : Jvm.MethodName)) ∈ lw_all := lw_g (lw_at lw_m10 98 rfl) rfl
theorem q2378 : (Jvm.Cond.selects "SaltedGateModel" ({ cls := "SaltedGateModel", name := "hold", desc := "(I)I" } : Jvm.MethodName) ({ cls := "SaltedGateModel", name := "hold", desc := "(I)I" } : Jvm.MethodName)) ∈ lw_all := lw_g (lw_at lw_m10 99 rfl) rfl
theorem q2379 : (Jvm.Cond.code ({ cls := "SaltedGateModel", name := "hold", desc := "(I)I" } : Jvm.MethodName) prog_27_method_93_code (2 : Nat) (Option.some Jvm.ClassFile.FieldType.int)) ∈ lw_all := lw_g (lw_at lw_m10 100 rfl) rfl
theorem q2380 : (Jvm.Cond.methodLink "SaltedGateModel" (473 : Nat) ({ cls := "SaltedGateModel", name := "holds", desc := "(I)V" } : Jvm.MethodName)) ∈ lw_all := lw_g (lw_at lw_m10 101 rfl) rfl
theorem q2381 : (Jvm.Cond.privateMethod ({ cls := "SaltedGateModel", name := "holds", desc := "(I)V" } : Jvm.MethodName)) ∈ lw_tbl := lw_at lw_m10 102 rfl
theorem q2382 : (Jvm.Cond.instanceMethod ({ cls := "SaltedGateModel", name := "holds", desc := "(I)V" } : Jvm.MethodName)) ∈ lw_all := lw_g (lw_at lw_m10 103 rfl) rfl
theorem q2383 : (Jvm.Cond.code ({ cls := "SaltedGateModel", name := "holds", desc := "(I)V" } : Jvm.MethodName) prog_27_method_92_code (4 : Nat) (Option.none : Option Jvm.ClassFile.FieldType)) ∈ lw_all := lw_g (lw_at lw_m10 104 rfl) rfl
theorem q2385 : (Jvm.Cond.instanceMethod ({ cls := "SaltedGateModel", name := "holdGain", desc := "(I)I" } : Jvm.MethodName)) ∈ lw_all := lw_g (lw_at lw_m10 106 rfl) rfl
theorem q2386 : (Jvm.Cond.selects "SaltedGateModel" ({ cls := "SaltedGateModel", name := "holdGain", desc := "(I)I" } : Jvm.MethodName) ({ cls := "SaltedGateModel", name := "holdGain", desc := "(I)I" } : Jvm.MethodName)) ∈ lw_all := lw_g (lw_at lw_m10 107 rfl) rfl
theorem q2387 : (Jvm.Cond.code ({ cls := "SaltedGateModel", name := "holdGain", desc := "(I)I" } : Jvm.MethodName) prog_27_method_94_code (2 : Nat) (Option.some Jvm.ClassFile.FieldType.int)) ∈ lw_all := lw_g (lw_at lw_m10 108 rfl) rfl
theorem q2388 : (Jvm.Cond.methodLink "SaltedGateModel" (476 : Nat) ({ cls := "SaltedGateModel", name := "lost", desc := "(I)I" } : Jvm.MethodName)) ∈ lw_all := lw_g (lw_at lw_m10 109 rfl) rfl
theorem q2389 : (Jvm.Cond.privateMethod ({ cls := "SaltedGateModel", name := "lost", desc := "(I)I" } : Jvm.MethodName)) ∈ lw_tbl := lw_at lw_m10 110 rfl
theorem q2390 : (Jvm.Cond.instanceMethod ({ cls := "SaltedGateModel", name := "lost", desc := "(I)I" } : Jvm.MethodName)) ∈ lw_all := lw_g (lw_at lw_m10 111 rfl) rfl
theorem q2391 : (Jvm.Cond.code ({ cls := "SaltedGateModel", name := "lost", desc := "(I)I" } : Jvm.MethodName) prog_27_method_4_code (2 : Nat) (Option.some Jvm.ClassFile.FieldType.int)) ∈ lw_all := lw_g (lw_at lw_m10 112 rfl) rfl
theorem q2393 : (Jvm.Cond.instanceMethod ({ cls := "SaltedGateModel", name := "gain", desc := "(II)I" } : Jvm.MethodName)) ∈ lw_all := lw_g (lw_at lw_m10 114 rfl) rfl
theorem q2394 : (Jvm.Cond.selects "SaltedGateModel" ({ cls := "SaltedGateModel", name := "gain", desc := "(II)I" } : Jvm.MethodName) ({ cls := "SaltedGateModel", name := "gain", desc := "(II)I" } : Jvm.MethodName)) ∈ lw_all := lw_g (lw_at lw_m10 115 rfl) rfl
theorem q2395 : (Jvm.Cond.code ({ cls := "SaltedGateModel", name := "gain", desc := "(II)I" } : Jvm.MethodName) prog_27_method_96_code (4 : Nat) (Option.some Jvm.ClassFile.FieldType.int)) ∈ lw_all := lw_g (lw_at lw_m10 116 rfl) rfl
theorem q2396 : (Jvm.Cond.methodLink "SaltedGateModel" (479 : Nat) ({ cls := "SaltedGateModel", name := "gainIn", desc := "([II)I" } : Jvm.MethodName)) ∈ lw_all := lw_g (lw_at lw_m10 117 rfl) rfl
theorem q2397 : (Jvm.Cond.privateMethod ({ cls := "SaltedGateModel", name := "gainIn", desc := "([II)I" } : Jvm.MethodName)) ∈ lw_tbl := lw_at lw_m10 118 rfl
theorem q2398 : (Jvm.Cond.instanceMethod ({ cls := "SaltedGateModel", name := "gainIn", desc := "([II)I" } : Jvm.MethodName)) ∈ lw_all := lw_g (lw_at lw_m10 119 rfl) rfl
theorem q2399 : (Jvm.Cond.code ({ cls := "SaltedGateModel", name := "gainIn", desc := "([II)I" } : Jvm.MethodName) prog_27_method_95_code (5 : Nat) (Option.some Jvm.ClassFile.FieldType.int)) ∈ lw_all := lw_g (lw_at lw_m10 120 rfl) rfl
theorem q2401 : (Jvm.Cond.instanceMethod ({ cls := "SaltedGateModel", name := "bestGood", desc := "()I" } : Jvm.MethodName)) ∈ lw_all := lw_g (lw_at lw_m10 122 rfl) rfl
theorem q2402 : (Jvm.Cond.selects "SaltedGateModel" ({ cls := "SaltedGateModel", name := "bestGood", desc := "()I" } : Jvm.MethodName) ({ cls := "SaltedGateModel", name := "bestGood", desc := "()I" } : Jvm.MethodName)) ∈ lw_all := lw_g (lw_at lw_m10 123 rfl) rfl
theorem q2403 : (Jvm.Cond.code ({ cls := "SaltedGateModel", name := "bestGood", desc := "()I" } : Jvm.MethodName) prog_27_method_97_code (5 : Nat) (Option.some Jvm.ClassFile.FieldType.int)) ∈ lw_all := lw_g (lw_at lw_m10 124 rfl) rfl
theorem q2405 : (Jvm.Cond.instanceMethod ({ cls := "SaltedGateModel", name := "search", desc := "(I)I" } : Jvm.MethodName)) ∈ lw_all := lw_g (lw_at lw_m10 126 rfl) rfl
theorem q2406 : (Jvm.Cond.selects "SaltedGateModel" ({ cls := "SaltedGateModel", name := "search", desc := "(I)I" } : Jvm.MethodName) ({ cls := "SaltedGateModel", name := "search", desc := "(I)I" } : Jvm.MethodName)) ∈ lw_all := lw_g (lw_at lw_m10 127 rfl) rfl
theorem q2407 : (Jvm.Cond.code ({ cls := "SaltedGateModel", name := "search", desc := "(I)I" } : Jvm.MethodName) prog_27_method_99_code (5 : Nat) (Option.some Jvm.ClassFile.FieldType.int)) ∈ lw_all := lw_g (lw_at lw_m10 128 rfl) rfl
theorem q2408 : (Jvm.Cond.methodLink "SaltedGateModel" (482 : Nat) ({ cls := "SaltedGateModel", name := "hiddenWorth", desc := "(I)I" } : Jvm.MethodName)) ∈ lw_all := lw_g (lw_at lw_m10 129 rfl) rfl
theorem q2409 : (Jvm.Cond.privateMethod ({ cls := "SaltedGateModel", name := "hiddenWorth", desc := "(I)I" } : Jvm.MethodName)) ∈ lw_tbl := lw_at lw_m10 130 rfl
theorem q2410 : (Jvm.Cond.instanceMethod ({ cls := "SaltedGateModel", name := "hiddenWorth", desc := "(I)I" } : Jvm.MethodName)) ∈ lw_all := lw_g (lw_at lw_m10 131 rfl) rfl
theorem q2411 : (Jvm.Cond.code ({ cls := "SaltedGateModel", name := "hiddenWorth", desc := "(I)I" } : Jvm.MethodName) prog_27_method_98_code (4 : Nat) (Option.some Jvm.ClassFile.FieldType.int)) ∈ lw_all := lw_g (lw_at lw_m10 132 rfl) rfl
theorem q2413 : (Jvm.Cond.instanceMethod ({ cls := "SaltedGateModel", name := "planned", desc := "(I)I" } : Jvm.MethodName)) ∈ lw_all := lw_g (lw_at lw_m10 134 rfl) rfl
theorem q2414 : (Jvm.Cond.selects "SaltedGateModel" ({ cls := "SaltedGateModel", name := "planned", desc := "(I)I" } : Jvm.MethodName) ({ cls := "SaltedGateModel", name := "planned", desc := "(I)I" } : Jvm.MethodName)) ∈ lw_all := lw_g (lw_at lw_m10 135 rfl) rfl
theorem q2415 : (Jvm.Cond.code ({ cls := "SaltedGateModel", name := "planned", desc := "(I)I" } : Jvm.MethodName) prog_27_method_103_code (2 : Nat) (Option.some Jvm.ClassFile.FieldType.int)) ∈ lw_all := lw_g (lw_at lw_m10 136 rfl) rfl
theorem q2416 : (Jvm.Cond.methodLink "SaltedGateModel" (502 : Nat) ({ cls := "SaltedGateModel", name := "plans", desc := "(Z)I" } : Jvm.MethodName)) ∈ lw_all := lw_g (lw_at lw_m10 137 rfl) rfl
theorem q2417 : (Jvm.Cond.privateMethod ({ cls := "SaltedGateModel", name := "plans", desc := "(Z)I" } : Jvm.MethodName)) ∈ lw_tbl := lw_at lw_m10 138 rfl
theorem q2418 : (Jvm.Cond.instanceMethod ({ cls := "SaltedGateModel", name := "plans", desc := "(Z)I" } : Jvm.MethodName)) ∈ lw_all := lw_g (lw_at lw_m10 139 rfl) rfl
theorem q2419 : (Jvm.Cond.code ({ cls := "SaltedGateModel", name := "plans", desc := "(Z)I" } : Jvm.MethodName) prog_27_method_102_code (5 : Nat) (Option.some Jvm.ClassFile.FieldType.int)) ∈ lw_all := lw_g (lw_at lw_m10 140 rfl) rfl
theorem q2420 : (Jvm.Cond.methodLink "SaltedGateModel" (494 : Nat) ({ cls := "SaltedGateModel", name := "isOpen", desc := "(I)Z" } : Jvm.MethodName)) ∈ lw_all := lw_g (lw_at lw_m10 141 rfl) rfl
theorem q2421 : (Jvm.Cond.privateMethod ({ cls := "SaltedGateModel", name := "isOpen", desc := "(I)Z" } : Jvm.MethodName)) ∈ lw_tbl := lw_at lw_m10 142 rfl
theorem q2422 : (Jvm.Cond.instanceMethod ({ cls := "SaltedGateModel", name := "isOpen", desc := "(I)Z" } : Jvm.MethodName)) ∈ lw_all := lw_g (lw_at lw_m10 143 rfl) rfl
theorem q2423 : (Jvm.Cond.code ({ cls := "SaltedGateModel", name := "isOpen", desc := "(I)Z" } : Jvm.MethodName) prog_27_method_100_code (2 : Nat) (Option.some Jvm.ClassFile.FieldType.boolean)) ∈ lw_all := lw_g (lw_at lw_m10 144 rfl) rfl
theorem q2424 : (Jvm.Cond.methodLink "SaltedGateModel" (497 : Nat) ({ cls := "SaltedGateModel", name := "drawnFound", desc := "(I)I" } : Jvm.MethodName)) ∈ lw_all := lw_g (lw_at lw_m10 145 rfl) rfl
theorem q2425 : (Jvm.Cond.privateMethod ({ cls := "SaltedGateModel", name := "drawnFound", desc := "(I)I" } : Jvm.MethodName)) ∈ lw_tbl := lw_at lw_m10 146 rfl
theorem q2426 : (Jvm.Cond.instanceMethod ({ cls := "SaltedGateModel", name := "drawnFound", desc := "(I)I" } : Jvm.MethodName)) ∈ lw_all := lw_g (lw_at lw_m10 147 rfl) rfl
theorem q2427 : (Jvm.Cond.code ({ cls := "SaltedGateModel", name := "drawnFound", desc := "(I)I" } : Jvm.MethodName) prog_27_method_101_code (4 : Nat) (Option.some Jvm.ClassFile.FieldType.int)) ∈ lw_all := lw_g (lw_at lw_m10 148 rfl) rfl
theorem q2428 : (Jvm.Cond.constantLong "SaltedGateModel" (485 : Nat) (75 : Int64)) ∈ lw_all := lw_g (lw_at lw_m10 149 rfl) rfl
theorem q2429 : (Jvm.Cond.constantLong "SaltedGateModel" (490 : Nat) (74 : Int64)) ∈ lw_all := lw_g (lw_at lw_m10 150 rfl) rfl
theorem q2430 : (Jvm.Cond.constantLong "SaltedGateModel" (492 : Nat) (65537 : Int64)) ∈ lw_all := lw_g (lw_at lw_m10 151 rfl) rfl
theorem q2431 : (Jvm.Cond.methodLink "SaltedGateModel" (500 : Nat) ({ cls := "SaltedGateModel", name := "crosses", desc := "([III)I" } : Jvm.MethodName)) ∈ lw_all := lw_g (lw_at lw_m10 152 rfl) rfl
theorem q2432 : (Jvm.Cond.privateMethod ({ cls := "SaltedGateModel", name := "crosses", desc := "([III)I" } : Jvm.MethodName)) ∈ lw_tbl := lw_at lw_m10 153 rfl
theorem q2433 : (Jvm.Cond.instanceMethod ({ cls := "SaltedGateModel", name := "crosses", desc := "([III)I" } : Jvm.MethodName)) ∈ lw_all := lw_g (lw_at lw_m10 154 rfl) rfl
theorem q2434 : (Jvm.Cond.code ({ cls := "SaltedGateModel", name := "crosses", desc := "([III)I" } : Jvm.MethodName) prog_27_method_63_code (6 : Nat) (Option.some Jvm.ClassFile.FieldType.int)) ∈ lw_all := lw_g (lw_at lw_m10 155 rfl) rfl
theorem q2436 : (Jvm.Cond.instanceMethod ({ cls := "SaltedGateModel", name := "judge", desc := "()I" } : Jvm.MethodName)) ∈ lw_all := lw_g (lw_at lw_m10 157 rfl) rfl
theorem q2437 : (Jvm.Cond.selects "SaltedGateModel" ({ cls := "SaltedGateModel", name := "judge", desc := "()I" } : Jvm.MethodName) ({ cls := "SaltedGateModel", name := "judge", desc := "()I" } : Jvm.MethodName)) ∈ lw_all := lw_g (lw_at lw_m10 158 rfl) rfl
theorem q2438 : (Jvm.Cond.code ({ cls := "SaltedGateModel", name := "judge", desc := "()I" } : Jvm.MethodName) prog_27_method_104_code (2 : Nat) (Option.some Jvm.ClassFile.FieldType.int)) ∈ lw_all := lw_g (lw_at lw_m10 159 rfl) rfl
theorem q2440 : (Jvm.Cond.instanceMethod ({ cls := "SaltedGateModel", name := "planOver", desc := "(Z)I" } : Jvm.MethodName)) ∈ lw_all := lw_g (lw_at lw_m10 161 rfl) rfl
theorem q2441 : (Jvm.Cond.selects "SaltedGateModel" ({ cls := "SaltedGateModel", name := "planOver", desc := "(Z)I" } : Jvm.MethodName) ({ cls := "SaltedGateModel", name := "planOver", desc := "(Z)I" } : Jvm.MethodName)) ∈ lw_all := lw_g (lw_at lw_m10 162 rfl) rfl
theorem q2442 : (Jvm.Cond.code ({ cls := "SaltedGateModel", name := "planOver", desc := "(Z)I" } : Jvm.MethodName) prog_27_method_105_code (4 : Nat) (Option.some Jvm.ClassFile.FieldType.int)) ∈ lw_all := lw_g (lw_at lw_m10 163 rfl) rfl
theorem q2444 : (Jvm.Cond.instanceMethod ({ cls := "SaltedGateModel", name := "fits", desc := "()I" } : Jvm.MethodName)) ∈ lw_all := lw_g (lw_at lw_m10 165 rfl) rfl
theorem q2445 : (Jvm.Cond.selects "SaltedGateModel" ({ cls := "SaltedGateModel", name := "fits", desc := "()I" } : Jvm.MethodName) ({ cls := "SaltedGateModel", name := "fits", desc := "()I" } : Jvm.MethodName)) ∈ lw_all := lw_g (lw_at lw_m10 166 rfl) rfl
theorem q2446 : (Jvm.Cond.code ({ cls := "SaltedGateModel", name := "fits", desc := "()I" } : Jvm.MethodName) prog_27_method_109_code (1 : Nat) (Option.some Jvm.ClassFile.FieldType.int)) ∈ lw_all := lw_g (lw_at lw_m10 167 rfl) rfl
theorem q2447 : (Jvm.Cond.methodLink "SaltedGateModel" (515 : Nat) ({ cls := "SaltedGateModel", name := "fitting", desc := "()V" } : Jvm.MethodName)) ∈ lw_all := lw_g (lw_at lw_m10 168 rfl) rfl
theorem q2448 : (Jvm.Cond.privateMethod ({ cls := "SaltedGateModel", name := "fitting", desc := "()V" } : Jvm.MethodName)) ∈ lw_tbl := lw_at lw_m10 169 rfl
theorem q2449 : (Jvm.Cond.instanceMethod ({ cls := "SaltedGateModel", name := "fitting", desc := "()V" } : Jvm.MethodName)) ∈ lw_all := lw_g (lw_at lw_m10 170 rfl) rfl
theorem q2450 : (Jvm.Cond.code ({ cls := "SaltedGateModel", name := "fitting", desc := "()V" } : Jvm.MethodName) prog_27_method_108_code (3 : Nat) (Option.none : Option Jvm.ClassFile.FieldType)) ∈ lw_all := lw_g (lw_at lw_m10 171 rfl) rfl
theorem q2451 : (Jvm.Cond.methodLink "SaltedGateModel" (512 : Nat) ({ cls := "SaltedGateModel", name := "isRow", desc := "(I)Z" } : Jvm.MethodName)) ∈ lw_all := lw_g (lw_at lw_m10 172 rfl) rfl
theorem q2452 : (Jvm.Cond.privateMethod ({ cls := "SaltedGateModel", name := "isRow", desc := "(I)Z" } : Jvm.MethodName)) ∈ lw_tbl := lw_at lw_m10 173 rfl
theorem q2453 : (Jvm.Cond.instanceMethod ({ cls := "SaltedGateModel", name := "isRow", desc := "(I)Z" } : Jvm.MethodName)) ∈ lw_all := lw_g (lw_at lw_m10 174 rfl) rfl
theorem q2454 : (Jvm.Cond.code ({ cls := "SaltedGateModel", name := "isRow", desc := "(I)Z" } : Jvm.MethodName) prog_27_method_107_code (3 : Nat) (Option.some Jvm.ClassFile.FieldType.boolean)) ∈ lw_all := lw_g (lw_at lw_m10 175 rfl) rfl
theorem q2455 : (Jvm.Cond.methodLink "SaltedGateModel" (506 : Nat) ({ cls := "SaltedGateModel", name := "isLeftBy", desc := "(II)Z" } : Jvm.MethodName)) ∈ lw_all := lw_g (lw_at lw_m10 176 rfl) rfl
theorem q2456 : (Jvm.Cond.privateMethod ({ cls := "SaltedGateModel", name := "isLeftBy", desc := "(II)Z" } : Jvm.MethodName)) ∈ lw_tbl := lw_at lw_m10 177 rfl
theorem q2457 : (Jvm.Cond.instanceMethod ({ cls := "SaltedGateModel", name := "isLeftBy", desc := "(II)Z" } : Jvm.MethodName)) ∈ lw_all := lw_g (lw_at lw_m10 178 rfl) rfl
theorem q2458 : (Jvm.Cond.code ({ cls := "SaltedGateModel", name := "isLeftBy", desc := "(II)Z" } : Jvm.MethodName) prog_27_method_106_code (4 : Nat) (Option.some Jvm.ClassFile.FieldType.boolean)) ∈ lw_all := lw_g (lw_at lw_m10 179 rfl) rfl
theorem q2460 : (Jvm.Cond.instanceMethod ({ cls := "SaltedGateModel", name := "could", desc := "(I)I" } : Jvm.MethodName)) ∈ lw_all := lw_g (lw_at lw_m10 181 rfl) rfl
theorem q2461 : (Jvm.Cond.selects "SaltedGateModel" ({ cls := "SaltedGateModel", name := "could", desc := "(I)I" } : Jvm.MethodName) ({ cls := "SaltedGateModel", name := "could", desc := "(I)I" } : Jvm.MethodName)) ∈ lw_all := lw_g (lw_at lw_m10 182 rfl) rfl
theorem q2462 : (Jvm.Cond.code ({ cls := "SaltedGateModel", name := "could", desc := "(I)I" } : Jvm.MethodName) prog_27_method_111_code (2 : Nat) (Option.some Jvm.ClassFile.FieldType.int)) ∈ lw_all := lw_g (lw_at lw_m10 183 rfl) rfl
theorem q2463 : (Jvm.Cond.methodLink "SaltedGateModel" (518 : Nat) ({ cls := "SaltedGateModel", name := "isCrumb", desc := "(I)Z" } : Jvm.MethodName)) ∈ lw_all := lw_g (lw_at lw_m10 184 rfl) rfl
theorem q2464 : (Jvm.Cond.privateMethod ({ cls := "SaltedGateModel", name := "isCrumb", desc := "(I)Z" } : Jvm.MethodName)) ∈ lw_tbl := lw_at lw_m10 185 rfl
theorem q2465 : (Jvm.Cond.instanceMethod ({ cls := "SaltedGateModel", name := "isCrumb", desc := "(I)Z" } : Jvm.MethodName)) ∈ lw_all := lw_g (lw_at lw_m10 186 rfl) rfl
theorem q2466 : (Jvm.Cond.code ({ cls := "SaltedGateModel", name := "isCrumb", desc := "(I)Z" } : Jvm.MethodName) prog_27_method_110_code (2 : Nat) (Option.some Jvm.ClassFile.FieldType.boolean)) ∈ lw_all := lw_g (lw_at lw_m10 187 rfl) rfl
theorem q2468 : (Jvm.Cond.instanceMethod ({ cls := "SaltedGateModel", name := "surely", desc := "(I)I" } : Jvm.MethodName)) ∈ lw_all := lw_g (lw_at lw_m10 189 rfl) rfl
theorem q2469 : (Jvm.Cond.selects "SaltedGateModel" ({ cls := "SaltedGateModel", name := "surely", desc := "(I)I" } : Jvm.MethodName) ({ cls := "SaltedGateModel", name := "surely", desc := "(I)I" } : Jvm.MethodName)) ∈ lw_all := lw_g (lw_at lw_m10 190 rfl) rfl
theorem q2470 : (Jvm.Cond.code ({ cls := "SaltedGateModel", name := "surely", desc := "(I)I" } : Jvm.MethodName) prog_27_method_112_code (3 : Nat) (Option.some Jvm.ClassFile.FieldType.int)) ∈ lw_all := lw_g (lw_at lw_m10 191 rfl) rfl
theorem q2472 : (Jvm.Cond.instanceMethod ({ cls := "SaltedGateModel", name := "owed", desc := "(IIZ)J" } : Jvm.MethodName)) ∈ lw_all := lw_g (lw_at lw_m10 193 rfl) rfl
theorem q2473 : (Jvm.Cond.selects "SaltedGateModel" ({ cls := "SaltedGateModel", name := "owed", desc := "(IIZ)J" } : Jvm.MethodName) ({ cls := "SaltedGateModel", name := "owed", desc := "(IIZ)J" } : Jvm.MethodName)) ∈ lw_all := lw_g (lw_at lw_m10 194 rfl) rfl
theorem q2474 : (Jvm.Cond.code ({ cls := "SaltedGateModel", name := "owed", desc := "(IIZ)J" } : Jvm.MethodName) prog_27_method_113_code (9 : Nat) (Option.some Jvm.ClassFile.FieldType.long)) ∈ lw_all := lw_g (lw_at lw_m10 195 rfl) rfl
theorem q2475 : (Jvm.Cond.constantLong "SaltedGateModel" (521 : Nat) (100 : Int64)) ∈ lw_all := lw_g (lw_at lw_m10 196 rfl) rfl
theorem q2476 : (Jvm.Cond.methodLink "SaltedGateModel" (523 : Nat) ({ cls := "SaltedGateModel", name := "fraction", desc := "(JJZ)J" } : Jvm.MethodName)) ∈ lw_all := lw_g (lw_at lw_m10 197 rfl) rfl
theorem q2477 : (Jvm.Cond.privateMethod ({ cls := "SaltedGateModel", name := "fraction", desc := "(JJZ)J" } : Jvm.MethodName)) ∈ lw_tbl := lw_at lw_m10 198 rfl
theorem q2478 : (Jvm.Cond.instanceMethod ({ cls := "SaltedGateModel", name := "fraction", desc := "(JJZ)J" } : Jvm.MethodName)) ∈ lw_all := lw_g (lw_at lw_m10 199 rfl) rfl
theorem q2479 : (Jvm.Cond.code ({ cls := "SaltedGateModel", name := "fraction", desc := "(JJZ)J" } : Jvm.MethodName) prog_27_method_12_code (6 : Nat) (Option.some Jvm.ClassFile.FieldType.long)) ∈ lw_all := lw_g (lw_at lw_m10 200 rfl) rfl
theorem q2480 : (Jvm.Cond.methodLink "SaltedGateModel" (52 : Nat) ({ cls := "SaltedGateModel", name := "common", desc := "(JJ)J" } : Jvm.MethodName)) ∈ lw_all := lw_g (lw_at lw_m10 201 rfl) rfl
theorem q2481 : (Jvm.Cond.static ({ cls := "SaltedGateModel", name := "common", desc := "(JJ)J" } : Jvm.MethodName)) ∈ lw_all := lw_g (lw_at lw_m10 202 rfl) rfl
theorem q2482 : (Jvm.Cond.code ({ cls := "SaltedGateModel", name := "common", desc := "(JJ)J" } : Jvm.MethodName) prog_27_method_11_code (10 : Nat) (Option.some Jvm.ClassFile.FieldType.long)) ∈ lw_all := lw_g (lw_at lw_m10 203 rfl) rfl
theorem q2484 : (Jvm.Cond.instanceMethod ({ cls := "SaltedGateModel", name := "season", desc := "(I)I" } : Jvm.MethodName)) ∈ lw_all := lw_g (lw_at lw_m10 205 rfl) rfl
theorem q2485 : (Jvm.Cond.selects "SaltedGateModel" ({ cls := "SaltedGateModel", name := "season", desc := "(I)I" } : Jvm.MethodName) ({ cls := "SaltedGateModel", name := "season", desc := "(I)I" } : Jvm.MethodName)) ∈ lw_all := lw_g (lw_at lw_m10 206 rfl) rfl
theorem q2486 : (Jvm.Cond.code ({ cls := "SaltedGateModel", name := "season", desc := "(I)I" } : Jvm.MethodName) prog_27_method_114_code (2 : Nat) (Option.some Jvm.ClassFile.FieldType.int)) ∈ lw_all := lw_g (lw_at lw_m10 207 rfl) rfl
theorem q2487 : (Jvm.Cond.constant "SaltedGateModel" (527 : Nat) (65536 : Int32)) ∈ lw_all := lw_g (lw_at lw_m10 208 rfl) rfl
theorem q2489 : (Jvm.Cond.instanceMethod ({ cls := "SaltedGateModel", name := "seizedIn", desc := "(III)I" } : Jvm.MethodName)) ∈ lw_all := lw_g (lw_at lw_m10 210 rfl) rfl
theorem q2490 : (Jvm.Cond.selects "SaltedGateModel" ({ cls := "SaltedGateModel", name := "seizedIn", desc := "(III)I" } : Jvm.MethodName) ({ cls := "SaltedGateModel", name := "seizedIn", desc := "(III)I" } : Jvm.MethodName)) ∈ lw_all := lw_g (lw_at lw_m10 211 rfl) rfl
theorem q2491 : (Jvm.Cond.code ({ cls := "SaltedGateModel", name := "seizedIn", desc := "(III)I" } : Jvm.MethodName) prog_27_method_115_code (6 : Nat) (Option.some Jvm.ClassFile.FieldType.int)) ∈ lw_all := lw_g (lw_at lw_m10 212 rfl) rfl
theorem q2493 : (Jvm.Cond.instanceMethod ({ cls := "SaltedGateModel", name := "eat", desc := "(I)Z" } : Jvm.MethodName)) ∈ lw_all := lw_g (lw_at lw_m10 214 rfl) rfl
theorem q2494 : (Jvm.Cond.selects "SaltedGateModel" ({ cls := "SaltedGateModel", name := "eat", desc := "(I)Z" } : Jvm.MethodName) ({ cls := "SaltedGateModel", name := "eat", desc := "(I)Z" } : Jvm.MethodName)) ∈ lw_all := lw_g (lw_at lw_m10 215 rfl) rfl
theorem q2495 : (Jvm.Cond.code ({ cls := "SaltedGateModel", name := "eat", desc := "(I)Z" } : Jvm.MethodName) prog_27_method_117_code (2 : Nat) (Option.some Jvm.ClassFile.FieldType.boolean)) ∈ lw_all := lw_g (lw_at lw_m10 216 rfl) rfl
theorem q2496 : (Jvm.Cond.methodLink "SaltedGateModel" (528 : Nat) ({ cls := "SaltedGateModel", name := "denied", desc := "(I)Z" } : Jvm.MethodName)) ∈ lw_all := lw_g (lw_at lw_m10 217 rfl) rfl
theorem q2497 : (Jvm.Cond.privateMethod ({ cls := "SaltedGateModel", name := "denied", desc := "(I)Z" } : Jvm.MethodName)) ∈ lw_tbl := lw_at lw_m10 218 rfl
theorem q2498 : (Jvm.Cond.instanceMethod ({ cls := "SaltedGateModel", name := "denied", desc := "(I)Z" } : Jvm.MethodName)) ∈ lw_all := lw_g (lw_at lw_m10 219 rfl) rfl
theorem q2499 : (Jvm.Cond.code ({ cls := "SaltedGateModel", name := "denied", desc := "(I)Z" } : Jvm.MethodName) prog_27_method_5_code (2 : Nat) (Option.some Jvm.ClassFile.FieldType.boolean)) ∈ lw_all := lw_g (lw_at lw_m10 220 rfl) rfl
theorem q2500 : (Jvm.Cond.methodLink "SaltedGateModel" (531 : Nat) ({ cls := "SaltedGateModel", name := "remembers", desc := "()V" } : Jvm.MethodName)) ∈ lw_all := lw_g (lw_at lw_m10 221 rfl) rfl
theorem q2501 : (Jvm.Cond.privateMethod ({ cls := "SaltedGateModel", name := "remembers", desc := "()V" } : Jvm.MethodName)) ∈ lw_tbl := lw_at lw_m10 222 rfl
theorem q2502 : (Jvm.Cond.instanceMethod ({ cls := "SaltedGateModel", name := "remembers", desc := "()V" } : Jvm.MethodName)) ∈ lw_all := lw_g (lw_at lw_m10 223 rfl) rfl
theorem q2503 : (Jvm.Cond.code ({ cls := "SaltedGateModel", name := "remembers", desc := "()V" } : Jvm.MethodName) prog_27_method_116_code (2 : Nat) (Option.none : Option Jvm.ClassFile.FieldType)) ∈ lw_all := lw_g (lw_at lw_m10 224 rfl) rfl
theorem q2504 : (Jvm.Cond.methodLink "SaltedGateModel" (534 : Nat) ({ cls := "SaltedGateModel", name := "granted", desc := "()Z" } : Jvm.MethodName)) ∈ lw_all := lw_g (lw_at lw_m10 225 rfl) rfl
theorem q2505 : (Jvm.Cond.privateMethod ({ cls := "SaltedGateModel", name := "granted", desc := "()Z" } : Jvm.MethodName)) ∈ lw_tbl := lw_at lw_m10 226 rfl
theorem q2506 : (Jvm.Cond.instanceMethod ({ cls := "SaltedGateModel", name := "granted", desc := "()Z" } : Jvm.MethodName)) ∈ lw_all := lw_g (lw_at lw_m10 227 rfl) rfl
theorem q2507 : (Jvm.Cond.code ({ cls := "SaltedGateModel", name := "granted", desc := "()Z" } : Jvm.MethodName) prog_27_method_7_code (1 : Nat) (Option.some Jvm.ClassFile.FieldType.boolean)) ∈ lw_all := lw_g (lw_at lw_m10 228 rfl) rfl
theorem q2509 : (Jvm.Cond.instanceMethod ({ cls := "SaltedGateModel", name := "hide", desc := "(IZ)Z" } : Jvm.MethodName)) ∈ lw_all := lw_g (lw_at lw_m10 230 rfl) rfl
theorem q2510 : (Jvm.Cond.selects "SaltedGateModel" ({ cls := "SaltedGateModel", name := "hide", desc := "(IZ)Z" } : Jvm.MethodName) ({ cls := "SaltedGateModel", name := "hide", desc := "(IZ)Z" } : Jvm.MethodName)) ∈ lw_all := lw_g (lw_at lw_m10 231 rfl) rfl
theorem q2511 : (Jvm.Cond.code ({ cls := "SaltedGateModel", name := "hide", desc := "(IZ)Z" } : Jvm.MethodName) prog_27_method_118_code (3 : Nat) (Option.some Jvm.ClassFile.FieldType.boolean)) ∈ lw_all := lw_g (lw_at lw_m10 232 rfl) rfl
theorem q2513 : (Jvm.Cond.instanceMethod ({ cls := "SaltedGateModel", name := "cross", desc := "(II)I" } : Jvm.MethodName)) ∈ lw_all := lw_g (lw_at lw_m10 234 rfl) rfl
theorem q2514 : (Jvm.Cond.selects "SaltedGateModel" ({ cls := "SaltedGateModel", name := "cross", desc := "(II)I" } : Jvm.MethodName) ({ cls := "SaltedGateModel", name := "cross", desc := "(II)I" } : Jvm.MethodName)) ∈ lw_all := lw_g (lw_at lw_m10 235 rfl) rfl
theorem q2515 : (Jvm.Cond.code ({ cls := "SaltedGateModel", name := "cross", desc := "(II)I" } : Jvm.MethodName) prog_27_method_119_code (3 : Nat) (Option.some Jvm.ClassFile.FieldType.int)) ∈ lw_all := lw_g (lw_at lw_m10 236 rfl) rfl
theorem q2517 : (Jvm.Cond.instanceMethod ({ cls := "SaltedGateModel", name := "days", desc := "(I)I" } : Jvm.MethodName)) ∈ lw_all := lw_g (lw_at lw_m10 238 rfl) rfl
theorem q2518 : (Jvm.Cond.selects "SaltedGateModel" ({ cls := "SaltedGateModel", name := "days", desc := "(I)I" } : Jvm.MethodName) ({ cls := "SaltedGateModel", name := "days", desc := "(I)I" } : Jvm.MethodName)) ∈ lw_all := lw_g (lw_at lw_m10 239 rfl) rfl
theorem q2519 : (Jvm.Cond.code ({ cls := "SaltedGateModel", name := "days", desc := "(I)I" } : Jvm.MethodName) prog_27_method_120_code (2 : Nat) (Option.some Jvm.ClassFile.FieldType.int)) ∈ lw_all := lw_g (lw_at lw_m11 0 rfl) rfl
theorem q2521 : (Jvm.Cond.instanceMethod ({ cls := "SaltedGateModel", name := "undo", desc := "()Z" } : Jvm.MethodName)) ∈ lw_all := lw_g (lw_at lw_m11 2 rfl) rfl
theorem q2522 : (Jvm.Cond.selects "SaltedGateModel" ({ cls := "SaltedGateModel", name := "undo", desc := "()Z" } : Jvm.MethodName) ({ cls := "SaltedGateModel", name := "undo", desc := "()Z" } : Jvm.MethodName)) ∈ lw_all := lw_g (lw_at lw_m11 3 rfl) rfl
theorem q2523 : (Jvm.Cond.code ({ cls := "SaltedGateModel", name := "undo", desc := "()Z" } : Jvm.MethodName) prog_27_method_121_code (2 : Nat) (Option.some Jvm.ClassFile.FieldType.boolean)) ∈ lw_all := lw_g (lw_at lw_m11 4 rfl) rfl
theorem q2525 : (Jvm.Cond.instanceMethod ({ cls := "SaltedGateModel", name := "mark", desc := "()I" } : Jvm.MethodName)) ∈ lw_all := lw_g (lw_at lw_m11 6 rfl) rfl
theorem q2526 : (Jvm.Cond.selects "SaltedGateModel" ({ cls := "SaltedGateModel", name := "mark", desc := "()I" } : Jvm.MethodName) ({ cls := "SaltedGateModel", name := "mark", desc := "()I" } : Jvm.MethodName)) ∈ lw_all := lw_g (lw_at lw_m11 7 rfl) rfl
theorem q2527 : (Jvm.Cond.code ({ cls := "SaltedGateModel", name := "mark", desc := "()I" } : Jvm.MethodName) prog_27_method_122_code (2 : Nat) (Option.some Jvm.ClassFile.FieldType.int)) ∈ lw_all := lw_g (lw_at lw_m11 8 rfl) rfl
theorem q2529 : (Jvm.Cond.instanceMethod ({ cls := "SaltedGateModel", name := "back", desc := "(I)Z" } : Jvm.MethodName)) ∈ lw_all := lw_g (lw_at lw_m11 10 rfl) rfl
theorem q2530 : (Jvm.Cond.selects "SaltedGateModel" ({ cls := "SaltedGateModel", name := "back", desc := "(I)Z" } : Jvm.MethodName) ({ cls := "SaltedGateModel", name := "back", desc := "(I)Z" } : Jvm.MethodName)) ∈ lw_all := lw_g (lw_at lw_m11 11 rfl) rfl
theorem q2531 : (Jvm.Cond.code ({ cls := "SaltedGateModel", name := "back", desc := "(I)Z" } : Jvm.MethodName) prog_27_method_123_code (3 : Nat) (Option.some Jvm.ClassFile.FieldType.boolean)) ∈ lw_all := lw_g (lw_at lw_m11 12 rfl) rfl
theorem q2533 : (Jvm.Cond.instanceMethod ({ cls := "SaltedGateModel", name := "led", desc := "(I)I" } : Jvm.MethodName)) ∈ lw_all := lw_g (lw_at lw_m11 14 rfl) rfl
theorem q2534 : (Jvm.Cond.selects "SaltedGateModel" ({ cls := "SaltedGateModel", name := "led", desc := "(I)I" } : Jvm.MethodName) ({ cls := "SaltedGateModel", name := "led", desc := "(I)I" } : Jvm.MethodName)) ∈ lw_all := lw_g (lw_at lw_m11 15 rfl) rfl
theorem q2535 : (Jvm.Cond.code ({ cls := "SaltedGateModel", name := "led", desc := "(I)I" } : Jvm.MethodName) prog_27_method_124_code (4 : Nat) (Option.some Jvm.ClassFile.FieldType.int)) ∈ lw_all := lw_g (lw_at lw_m11 16 rfl) rfl
theorem q2537 : (Jvm.Cond.instanceMethod ({ cls := "SaltedGateModel", name := "size", desc := "(I)I" } : Jvm.MethodName)) ∈ lw_all := lw_g (lw_at lw_m11 18 rfl) rfl
theorem q2538 : (Jvm.Cond.selects "SaltedGateModel" ({ cls := "SaltedGateModel", name := "size", desc := "(I)I" } : Jvm.MethodName) ({ cls := "SaltedGateModel", name := "size", desc := "(I)I" } : Jvm.MethodName)) ∈ lw_all := lw_g (lw_at lw_m11 19 rfl) rfl
theorem q2539 : (Jvm.Cond.code ({ cls := "SaltedGateModel", name := "size", desc := "(I)I" } : Jvm.MethodName) prog_27_method_125_code (2 : Nat) (Option.some Jvm.ClassFile.FieldType.int)) ∈ lw_all := lw_g (lw_at lw_m11 20 rfl) rfl
theorem q2541 : (Jvm.Cond.instanceMethod ({ cls := "SaltedGateModel", name := "trouble", desc := "()I" } : Jvm.MethodName)) ∈ lw_all := lw_g (lw_at lw_m11 22 rfl) rfl
theorem q2542 : (Jvm.Cond.selects "SaltedGateModel" ({ cls := "SaltedGateModel", name := "trouble", desc := "()I" } : Jvm.MethodName) ({ cls := "SaltedGateModel", name := "trouble", desc := "()I" } : Jvm.MethodName)) ∈ lw_all := lw_g (lw_at lw_m11 23 rfl) rfl
theorem q2543 : (Jvm.Cond.code ({ cls := "SaltedGateModel", name := "trouble", desc := "()I" } : Jvm.MethodName) prog_27_method_126_code (1 : Nat) (Option.some Jvm.ClassFile.FieldType.int)) ∈ lw_all := lw_g (lw_at lw_m11 24 rfl) rfl
theorem q2570 : (Jvm.Cond.castable "SaltedGateModel" "java/lang/Object") ∈ lw_tbl := lw_at lw_m11 51 rfl
theorem in_X13 : ∀ w ∈ wsX130, w ∈ lw_all := lw_in wsX130 [1771, 1773, 1775, 1777, 1779, 1781, 1783, 1785, 1787, 1789, 1791, 1793, 1795, 1797, 1799, 1801, 1803, 1805, 1807, 1809, 1811, 1813, 1815, 1817, 1819, 1821, 1823, 1825, 1827, 1829, 1831] (by decide +kernel) (by decide +kernel)
