/-! SaltedGate$Reader -/
set_option maxRecDepth 100000
def RX2 : String := "SaltedGate$Reader"
def TX2 : u_T := fun k => match k with
  | 0 => ("SaltedGate$Reader", "wrong", "LSaltedGate$Refused;", true)
  | 1 => ("SaltedGate$Reader", "text", "[B", true)
  | 2 => ("SaltedGate$Reader", "letters", "[C", true)
  | 3 => ("SaltedGate$Reader", "size", "I", false)
  | 4 => ("SaltedGate$Reader", "end", "I", false)
  | 5 => ("SaltedGate$Reader", "token", "I", false)
  | 6 => ("SaltedGate$Reader", "at", "I", false)
  | 7 => ("SaltedGate$Reader", "whole", "I", false)
  | 8 => ("SaltedGate$Reader", "word", "Ljava/lang/String;", false)
  | _ => ("SaltedGate$Reader", "barrier", "LSaltedGate$Barrier;", false)
def tyX2 : Nat → FieldType := fun k => match k with
  | 0 => .object "SaltedGate$Refused"
  | 1 => .array .byte
  | 2 => .array .char
  | 3 => .int
  | 4 => .int
  | 5 => .int
  | 6 => .int
  | 7 => .int
  | 8 => .object "java/lang/String"
  | _ => .object "SaltedGate$Barrier"
abbrev wsX20 : List Cond := u_ws RX2 TX2 10
theorem nmX2 : ∀ a, a < 10 → ∀ b, b < 10 → a ≠ b → (TX2 a).2.1 ≠ (TX2 b).2.1 := by decide +kernel
theorem tyX2_ok : ∀ k, k < 10 → parseFieldDescriptor (TX2 k).2.2.1 = some (tyX2 k) := by decide +kernel
abbrev cX2_init : ByteArray := prog_22_method_1_code
def yX2_init : MethodName := ⟨RX2, "<init>", "([B)V"⟩
def dkwX2_init_1 : List UInt8 := [43, 181, 0, 22, 177]
abbrev dktX2_init_1 : List UInt8 := dkwX2_init_1 ++ []
def dkwX2_init_0 : List UInt8 := [42, 183, 0, 3, 42, 187, 0, 9, 89, 183, 0, 11, 181, 0, 12, 42, 16, 9, 188, 5, 181, 0, 18, 42]
abbrev dktX2_init_0 : List UInt8 := dkwX2_init_0 ++ dktX2_init_1
theorem dksX2_init_0 : cX2_init.data.toList.drop 0 = dktX2_init_0 := by decide +kernel
theorem dksX2_init_1 : cX2_init.data.toList.drop 24 = dktX2_init_1 := dk_seg dksX2_init_0 24 rfl rfl
theorem dX2_init_0 : decode cX2_init 0 = .ok (.aload_n 0, 1) := dk_42 (dk_at dksX2_init_0 0 rfl rfl)
theorem dX2_init_1 : decode cX2_init 1 = .ok (.invokespecial 3, 3) := dk_183 0 3 (dk_at dksX2_init_0 1 rfl rfl)
theorem dX2_init_4 : decode cX2_init 4 = .ok (.aload_n 0, 1) := dk_42 (dk_at dksX2_init_0 4 rfl rfl)
theorem dX2_init_5 : decode cX2_init 5 = .ok (.new 9, 3) := dk_187 0 9 (dk_at dksX2_init_0 5 rfl rfl)
theorem dX2_init_8 : decode cX2_init 8 = .ok (.dup, 1) := dk_89 (dk_at dksX2_init_0 8 rfl rfl)
theorem dX2_init_9 : decode cX2_init 9 = .ok (.invokespecial 11, 3) := dk_183 0 11 (dk_at dksX2_init_0 9 rfl rfl)
theorem dX2_init_12 : decode cX2_init 12 = .ok (.putfield 12, 3) := dk_181 0 12 (dk_at dksX2_init_0 12 rfl rfl)
theorem dX2_init_15 : decode cX2_init 15 = .ok (.aload_n 0, 1) := dk_42 (dk_at dksX2_init_0 15 rfl rfl)
theorem dX2_init_16 : decode cX2_init 16 = .ok (.bipush 9, 2) := dk_16 9 (dk_at dksX2_init_0 16 rfl rfl)
theorem dX2_init_18 : decode cX2_init 18 = .ok (.newarray .char, 2) := dk_188_5 (dk_at dksX2_init_0 18 rfl rfl)
theorem dX2_init_20 : decode cX2_init 20 = .ok (.putfield 18, 3) := dk_181 0 18 (dk_at dksX2_init_0 20 rfl rfl)
theorem dX2_init_23 : decode cX2_init 23 = .ok (.aload_n 0, 1) := dk_42 (dk_at dksX2_init_0 23 rfl rfl)
theorem dX2_init_24 : decode cX2_init 24 = .ok (.aload_n 1, 1) := dk_43 (dk_at dksX2_init_1 0 rfl rfl)
theorem dX2_init_25 : decode cX2_init 25 = .ok (.putfield 22, 3) := dk_181 0 22 (dk_at dksX2_init_1 1 rfl rfl)
theorem dX2_init_28 : decode cX2_init 28 = .ok (.return_, 1) := dk_177 (dk_at dksX2_init_1 4 rfl rfl)
abbrev cX2_read : ByteArray := prog_22_method_19_code
def yX2_read : MethodName := ⟨RX2, "read", "(I)LSaltedGate$Barrier;"⟩
def dkwX2_read_4 : List UInt8 := [16, 6, 182, 0, 82, 191, 42, 180, 0, 115, 176]
abbrev dktX2_read_4 : List UInt8 := dkwX2_read_4 ++ []
def dkwX2_read_3 : List UInt8 := [153, 0, 23, 42, 180, 0, 115, 180, 0, 158, 153, 0, 13, 42, 180, 0, 115, 180, 0, 161, 154, 0, 10, 42]
abbrev dktX2_read_3 : List UInt8 := dkwX2_read_3 ++ dktX2_read_4
def dkwX2_read_2 : List UInt8 := [167, 255, 239, 42, 180, 0, 47, 153, 0, 9, 42, 4, 182, 0, 82, 191, 42, 180, 0, 115, 180, 0, 150]
abbrev dktX2_read_2 : List UInt8 := dkwX2_read_2 ++ dktX2_read_3
def dkwX2_read_1 : List UInt8 := [182, 0, 75, 42, 182, 0, 155, 42, 180, 0, 47, 16, 59, 160, 0, 14, 42, 182, 0, 75, 42, 182, 0, 155]
abbrev dktX2_read_1 : List UInt8 := dkwX2_read_1 ++ dktX2_read_2
def dkwX2_read_0 : List UInt8 := [42, 27, 181, 0, 33, 42, 3, 181, 0, 40, 42, 187, 0, 119, 89, 183, 0, 154, 181, 0, 115, 42]
abbrev dktX2_read_0 : List UInt8 := dkwX2_read_0 ++ dktX2_read_1
theorem dksX2_read_0 : cX2_read.data.toList.drop 0 = dktX2_read_0 := by decide +kernel
theorem dksX2_read_1 : cX2_read.data.toList.drop 22 = dktX2_read_1 := dk_seg dksX2_read_0 22 rfl rfl
theorem dksX2_read_2 : cX2_read.data.toList.drop 46 = dktX2_read_2 := dk_seg dksX2_read_1 24 rfl rfl
theorem dksX2_read_3 : cX2_read.data.toList.drop 69 = dktX2_read_3 := dk_seg dksX2_read_2 23 rfl rfl
theorem dksX2_read_4 : cX2_read.data.toList.drop 93 = dktX2_read_4 := dk_seg dksX2_read_3 24 rfl rfl
theorem dX2_read_0 : decode cX2_read 0 = .ok (.aload_n 0, 1) := dk_42 (dk_at dksX2_read_0 0 rfl rfl)
theorem dX2_read_1 : decode cX2_read 1 = .ok (.iload_n 1, 1) := dk_27 (dk_at dksX2_read_0 1 rfl rfl)
theorem dX2_read_2 : decode cX2_read 2 = .ok (.putfield 33, 3) := dk_181 0 33 (dk_at dksX2_read_0 2 rfl rfl)
theorem dX2_read_5 : decode cX2_read 5 = .ok (.aload_n 0, 1) := dk_42 (dk_at dksX2_read_0 5 rfl rfl)
theorem dX2_read_6 : decode cX2_read 6 = .ok (.iconst 0, 1) := dk_3 (dk_at dksX2_read_0 6 rfl rfl)
theorem dX2_read_7 : decode cX2_read 7 = .ok (.putfield 40, 3) := dk_181 0 40 (dk_at dksX2_read_0 7 rfl rfl)
theorem dX2_read_10 : decode cX2_read 10 = .ok (.aload_n 0, 1) := dk_42 (dk_at dksX2_read_0 10 rfl rfl)
theorem dX2_read_11 : decode cX2_read 11 = .ok (.new 119, 3) := dk_187 0 119 (dk_at dksX2_read_0 11 rfl rfl)
theorem dX2_read_14 : decode cX2_read 14 = .ok (.dup, 1) := dk_89 (dk_at dksX2_read_0 14 rfl rfl)
theorem dX2_read_15 : decode cX2_read 15 = .ok (.invokespecial 154, 3) := dk_183 0 154 (dk_at dksX2_read_0 15 rfl rfl)
theorem dX2_read_18 : decode cX2_read 18 = .ok (.putfield 115, 3) := dk_181 0 115 (dk_at dksX2_read_0 18 rfl rfl)
theorem dX2_read_21 : decode cX2_read 21 = .ok (.aload_n 0, 1) := dk_42 (dk_at dksX2_read_0 21 rfl rfl)
theorem dX2_read_22 : decode cX2_read 22 = .ok (.invokevirtual 75, 3) := dk_182 0 75 (dk_at dksX2_read_1 0 rfl rfl)
theorem dX2_read_25 : decode cX2_read 25 = .ok (.aload_n 0, 1) := dk_42 (dk_at dksX2_read_1 3 rfl rfl)
theorem dX2_read_26 : decode cX2_read 26 = .ok (.invokevirtual 155, 3) := dk_182 0 155 (dk_at dksX2_read_1 4 rfl rfl)
theorem dX2_read_29 : decode cX2_read 29 = .ok (.aload_n 0, 1) := dk_42 (dk_at dksX2_read_1 7 rfl rfl)
theorem dX2_read_30 : decode cX2_read 30 = .ok (.getfield 47, 3) := dk_180 0 47 (dk_at dksX2_read_1 8 rfl rfl)
theorem dX2_read_33 : decode cX2_read 33 = .ok (.bipush 59, 2) := dk_16 59 (dk_at dksX2_read_1 11 rfl rfl)
theorem dX2_read_35 : decode cX2_read 35 = .ok (.if_icmp .ne 14, 3) := dk_160 0 14 (dk_at dksX2_read_1 13 rfl rfl)
theorem dX2_read_38 : decode cX2_read 38 = .ok (.aload_n 0, 1) := dk_42 (dk_at dksX2_read_1 16 rfl rfl)
theorem dX2_read_39 : decode cX2_read 39 = .ok (.invokevirtual 75, 3) := dk_182 0 75 (dk_at dksX2_read_1 17 rfl rfl)
theorem dX2_read_42 : decode cX2_read 42 = .ok (.aload_n 0, 1) := dk_42 (dk_at dksX2_read_1 20 rfl rfl)
theorem dX2_read_43 : decode cX2_read 43 = .ok (.invokevirtual 155, 3) := dk_182 0 155 (dk_at dksX2_read_1 21 rfl rfl)
theorem dX2_read_46 : decode cX2_read 46 = .ok (.goto (-17), 3) := dk_167 255 239 (dk_at dksX2_read_2 0 rfl rfl)
theorem dX2_read_49 : decode cX2_read 49 = .ok (.aload_n 0, 1) := dk_42 (dk_at dksX2_read_2 3 rfl rfl)
theorem dX2_read_50 : decode cX2_read 50 = .ok (.getfield 47, 3) := dk_180 0 47 (dk_at dksX2_read_2 4 rfl rfl)
theorem dX2_read_53 : decode cX2_read 53 = .ok (.ifCond .eq 9, 3) := dk_153 0 9 (dk_at dksX2_read_2 7 rfl rfl)
theorem dX2_read_56 : decode cX2_read 56 = .ok (.aload_n 0, 1) := dk_42 (dk_at dksX2_read_2 10 rfl rfl)
theorem dX2_read_57 : decode cX2_read 57 = .ok (.iconst 1, 1) := dk_4 (dk_at dksX2_read_2 11 rfl rfl)
theorem dX2_read_58 : decode cX2_read 58 = .ok (.invokevirtual 82, 3) := dk_182 0 82 (dk_at dksX2_read_2 12 rfl rfl)
theorem dX2_read_61 : decode cX2_read 61 = .ok (.athrow, 1) := dk_191 (dk_at dksX2_read_2 15 rfl rfl)
theorem dX2_read_62 : decode cX2_read 62 = .ok (.aload_n 0, 1) := dk_42 (dk_at dksX2_read_2 16 rfl rfl)
theorem dX2_read_63 : decode cX2_read 63 = .ok (.getfield 115, 3) := dk_180 0 115 (dk_at dksX2_read_2 17 rfl rfl)
theorem dX2_read_66 : decode cX2_read 66 = .ok (.getfield 150, 3) := dk_180 0 150 (dk_at dksX2_read_2 20 rfl rfl)
theorem dX2_read_69 : decode cX2_read 69 = .ok (.ifCond .eq 23, 3) := dk_153 0 23 (dk_at dksX2_read_3 0 rfl rfl)
theorem dX2_read_72 : decode cX2_read 72 = .ok (.aload_n 0, 1) := dk_42 (dk_at dksX2_read_3 3 rfl rfl)
theorem dX2_read_73 : decode cX2_read 73 = .ok (.getfield 115, 3) := dk_180 0 115 (dk_at dksX2_read_3 4 rfl rfl)
theorem dX2_read_76 : decode cX2_read 76 = .ok (.getfield 158, 3) := dk_180 0 158 (dk_at dksX2_read_3 7 rfl rfl)
theorem dX2_read_79 : decode cX2_read 79 = .ok (.ifCond .eq 13, 3) := dk_153 0 13 (dk_at dksX2_read_3 10 rfl rfl)
theorem dX2_read_82 : decode cX2_read 82 = .ok (.aload_n 0, 1) := dk_42 (dk_at dksX2_read_3 13 rfl rfl)
theorem dX2_read_83 : decode cX2_read 83 = .ok (.getfield 115, 3) := dk_180 0 115 (dk_at dksX2_read_3 14 rfl rfl)
theorem dX2_read_86 : decode cX2_read 86 = .ok (.getfield 161, 3) := dk_180 0 161 (dk_at dksX2_read_3 17 rfl rfl)
theorem dX2_read_89 : decode cX2_read 89 = .ok (.ifCond .ne 10, 3) := dk_154 0 10 (dk_at dksX2_read_3 20 rfl rfl)
theorem dX2_read_92 : decode cX2_read 92 = .ok (.aload_n 0, 1) := dk_42 (dk_at dksX2_read_3 23 rfl rfl)
theorem dX2_read_93 : decode cX2_read 93 = .ok (.bipush 6, 2) := dk_16 6 (dk_at dksX2_read_4 0 rfl rfl)
theorem dX2_read_95 : decode cX2_read 95 = .ok (.invokevirtual 82, 3) := dk_182 0 82 (dk_at dksX2_read_4 2 rfl rfl)
theorem dX2_read_98 : decode cX2_read 98 = .ok (.athrow, 1) := dk_191 (dk_at dksX2_read_4 5 rfl rfl)
theorem dX2_read_99 : decode cX2_read 99 = .ok (.aload_n 0, 1) := dk_42 (dk_at dksX2_read_4 6 rfl rfl)
theorem dX2_read_100 : decode cX2_read 100 = .ok (.getfield 115, 3) := dk_180 0 115 (dk_at dksX2_read_4 7 rfl rfl)
theorem dX2_read_103 : decode cX2_read 103 = .ok (.areturn, 1) := dk_176 (dk_at dksX2_read_4 10 rfl rfl)
abbrev cX2_next : ByteArray := prog_22_method_6_code
def yX2_next : MethodName := ⟨RX2, "next", "()V"⟩
def dkwX2_next_12 : List UInt8 := [181, 0, 47, 167, 0, 18, 42, 28, 16, 59, 160, 0, 7, 28, 167, 0, 4, 4, 181, 0, 47, 177]
abbrev dktX2_next_12 : List UInt8 := dkwX2_next_12 ++ []
def dkwX2_next_11 : List UInt8 := [181, 0, 40, 167, 255, 199, 42, 42, 180, 0, 40, 27, 100, 6, 164, 0, 7, 4, 167, 0, 4, 6]
abbrev dktX2_next_11 : List UInt8 := dkwX2_next_11 ++ dktX2_next_12
def dkwX2_next_10 : List UInt8 := [42, 42, 180, 0, 40, 182, 0, 43, 96, 16, 48, 100, 181, 0, 68, 42, 89, 180, 0, 40, 4, 96]
abbrev dktX2_next_10 : List UInt8 := dkwX2_next_10 ++ dktX2_next_11
def dkwX2_next_9 : List UInt8 := [184, 0, 65, 153, 0, 49, 42, 180, 0, 40, 27, 100, 6, 162, 0, 26, 42, 16, 10, 42, 180, 0, 68, 104]
abbrev dktX2_next_9 : List UInt8 := dkwX2_next_9 ++ dktX2_next_10
def dkwX2_next_8 : List UInt8 := [184, 0, 65, 153, 0, 95, 42, 3, 181, 0, 68, 42, 27, 181, 0, 40, 42, 42, 180, 0, 40, 182, 0, 43]
abbrev dktX2_next_8 : List UInt8 := dkwX2_next_8 ++ dktX2_next_9
def dkwX2_next_7 : List UInt8 := [3, 42, 180, 0, 40, 27, 100, 183, 0, 56, 167, 0, 5, 18, 59, 181, 0, 61, 167, 0, 117, 28]
abbrev dktX2_next_7 : List UInt8 := dkwX2_next_7 ++ dktX2_next_8
def dkwX2_next_6 : List UInt8 := [167, 0, 4, 5, 181, 0, 47, 42, 42, 180, 0, 47, 5, 160, 0, 24, 187, 0, 54, 89, 42, 180, 0, 18]
abbrev dktX2_next_6 : List UInt8 := dkwX2_next_6 ++ dktX2_next_7
def dkwX2_next_5 : List UInt8 := [180, 0, 40, 4, 96, 181, 0, 40, 167, 255, 201, 42, 42, 180, 0, 40, 27, 100, 16, 9, 164, 0, 7, 4]
abbrev dktX2_next_5 : List UInt8 := dkwX2_next_5 ++ dktX2_next_6
def dkwX2_next_4 : List UInt8 := [42, 180, 0, 18, 42, 180, 0, 40, 27, 100, 42, 42, 180, 0, 40, 182, 0, 43, 146, 85, 42, 89]
abbrev dktX2_next_4 : List UInt8 := dkwX2_next_4 ++ dktX2_next_5
def dkwX2_next_3 : List UInt8 := [42, 180, 0, 40, 182, 0, 43, 184, 0, 50, 153, 0, 47, 42, 180, 0, 40, 27, 100, 16, 9, 162, 0, 23]
abbrev dktX2_next_3 : List UInt8 := dkwX2_next_3 ++ dktX2_next_4
def dkwX2_next_2 : List UInt8 := [181, 0, 47, 42, 27, 181, 0, 40, 167, 0, 245, 28, 184, 0, 50, 153, 0, 124, 42, 27, 181, 0, 40, 42]
abbrev dktX2_next_2 : List UInt8 := dkwX2_next_2 ++ dktX2_next_3
def dkwX2_next_1 : List UInt8 := [181, 0, 26, 42, 27, 4, 96, 181, 0, 40, 42, 27, 182, 0, 43, 61, 28, 2, 160, 0, 16, 42, 3]
abbrev dktX2_next_1 : List UInt8 := dkwX2_next_1 ++ dktX2_next_2
def dkwX2_next_0 : List UInt8 := [42, 180, 0, 40, 60, 42, 27, 182, 0, 43, 16, 32, 160, 0, 9, 132, 1, 1, 167, 255, 243, 42, 27]
abbrev dktX2_next_0 : List UInt8 := dkwX2_next_0 ++ dktX2_next_1
theorem dksX2_next_0 : cX2_next.data.toList.drop 0 = dktX2_next_0 := by decide +kernel
theorem dksX2_next_1 : cX2_next.data.toList.drop 23 = dktX2_next_1 := dk_seg dksX2_next_0 23 rfl rfl
theorem dksX2_next_2 : cX2_next.data.toList.drop 46 = dktX2_next_2 := dk_seg dksX2_next_1 23 rfl rfl
theorem dksX2_next_3 : cX2_next.data.toList.drop 70 = dktX2_next_3 := dk_seg dksX2_next_2 24 rfl rfl
theorem dksX2_next_4 : cX2_next.data.toList.drop 94 = dktX2_next_4 := dk_seg dksX2_next_3 24 rfl rfl
theorem dksX2_next_5 : cX2_next.data.toList.drop 116 = dktX2_next_5 := dk_seg dksX2_next_4 22 rfl rfl
theorem dksX2_next_6 : cX2_next.data.toList.drop 140 = dktX2_next_6 := dk_seg dksX2_next_5 24 rfl rfl
theorem dksX2_next_7 : cX2_next.data.toList.drop 164 = dktX2_next_7 := dk_seg dksX2_next_6 24 rfl rfl
theorem dksX2_next_8 : cX2_next.data.toList.drop 186 = dktX2_next_8 := dk_seg dksX2_next_7 22 rfl rfl
theorem dksX2_next_9 : cX2_next.data.toList.drop 210 = dktX2_next_9 := dk_seg dksX2_next_8 24 rfl rfl
theorem dksX2_next_10 : cX2_next.data.toList.drop 234 = dktX2_next_10 := dk_seg dksX2_next_9 24 rfl rfl
theorem dksX2_next_11 : cX2_next.data.toList.drop 256 = dktX2_next_11 := dk_seg dksX2_next_10 22 rfl rfl
theorem dksX2_next_12 : cX2_next.data.toList.drop 278 = dktX2_next_12 := dk_seg dksX2_next_11 22 rfl rfl
theorem dX2_next_0 : decode cX2_next 0 = .ok (.aload_n 0, 1) := dk_42 (dk_at dksX2_next_0 0 rfl rfl)
theorem dX2_next_1 : decode cX2_next 1 = .ok (.getfield 40, 3) := dk_180 0 40 (dk_at dksX2_next_0 1 rfl rfl)
theorem dX2_next_4 : decode cX2_next 4 = .ok (.istore_n 1, 1) := dk_60 (dk_at dksX2_next_0 4 rfl rfl)
theorem dX2_next_5 : decode cX2_next 5 = .ok (.aload_n 0, 1) := dk_42 (dk_at dksX2_next_0 5 rfl rfl)
theorem dX2_next_6 : decode cX2_next 6 = .ok (.iload_n 1, 1) := dk_27 (dk_at dksX2_next_0 6 rfl rfl)
theorem dX2_next_7 : decode cX2_next 7 = .ok (.invokevirtual 43, 3) := dk_182 0 43 (dk_at dksX2_next_0 7 rfl rfl)
theorem dX2_next_10 : decode cX2_next 10 = .ok (.bipush 32, 2) := dk_16 32 (dk_at dksX2_next_0 10 rfl rfl)
theorem dX2_next_12 : decode cX2_next 12 = .ok (.if_icmp .ne 9, 3) := dk_160 0 9 (dk_at dksX2_next_0 12 rfl rfl)
theorem dX2_next_15 : decode cX2_next 15 = .ok (.iinc 1 1, 3) := dk_132 1 1 (dk_at dksX2_next_0 15 rfl rfl)
theorem dX2_next_18 : decode cX2_next 18 = .ok (.goto (-13), 3) := dk_167 255 243 (dk_at dksX2_next_0 18 rfl rfl)
theorem dX2_next_21 : decode cX2_next 21 = .ok (.aload_n 0, 1) := dk_42 (dk_at dksX2_next_0 21 rfl rfl)
theorem dX2_next_22 : decode cX2_next 22 = .ok (.iload_n 1, 1) := dk_27 (dk_at dksX2_next_0 22 rfl rfl)
theorem dX2_next_23 : decode cX2_next 23 = .ok (.putfield 26, 3) := dk_181 0 26 (dk_at dksX2_next_1 0 rfl rfl)
theorem dX2_next_26 : decode cX2_next 26 = .ok (.aload_n 0, 1) := dk_42 (dk_at dksX2_next_1 3 rfl rfl)
theorem dX2_next_27 : decode cX2_next 27 = .ok (.iload_n 1, 1) := dk_27 (dk_at dksX2_next_1 4 rfl rfl)
theorem dX2_next_28 : decode cX2_next 28 = .ok (.iconst 1, 1) := dk_4 (dk_at dksX2_next_1 5 rfl rfl)
theorem dX2_next_29 : decode cX2_next 29 = .ok (.iadd, 1) := dk_96 (dk_at dksX2_next_1 6 rfl rfl)
theorem dX2_next_30 : decode cX2_next 30 = .ok (.putfield 40, 3) := dk_181 0 40 (dk_at dksX2_next_1 7 rfl rfl)
theorem dX2_next_33 : decode cX2_next 33 = .ok (.aload_n 0, 1) := dk_42 (dk_at dksX2_next_1 10 rfl rfl)
theorem dX2_next_34 : decode cX2_next 34 = .ok (.iload_n 1, 1) := dk_27 (dk_at dksX2_next_1 11 rfl rfl)
theorem dX2_next_35 : decode cX2_next 35 = .ok (.invokevirtual 43, 3) := dk_182 0 43 (dk_at dksX2_next_1 12 rfl rfl)
theorem dX2_next_38 : decode cX2_next 38 = .ok (.istore_n 2, 1) := dk_61 (dk_at dksX2_next_1 15 rfl rfl)
theorem dX2_next_39 : decode cX2_next 39 = .ok (.iload_n 2, 1) := dk_28 (dk_at dksX2_next_1 16 rfl rfl)
theorem dX2_next_40 : decode cX2_next 40 = .ok (.iconst (-1), 1) := dk_2 (dk_at dksX2_next_1 17 rfl rfl)
theorem dX2_next_41 : decode cX2_next 41 = .ok (.if_icmp .ne 16, 3) := dk_160 0 16 (dk_at dksX2_next_1 18 rfl rfl)
theorem dX2_next_44 : decode cX2_next 44 = .ok (.aload_n 0, 1) := dk_42 (dk_at dksX2_next_1 21 rfl rfl)
theorem dX2_next_45 : decode cX2_next 45 = .ok (.iconst 0, 1) := dk_3 (dk_at dksX2_next_1 22 rfl rfl)
theorem dX2_next_46 : decode cX2_next 46 = .ok (.putfield 47, 3) := dk_181 0 47 (dk_at dksX2_next_2 0 rfl rfl)
theorem dX2_next_49 : decode cX2_next 49 = .ok (.aload_n 0, 1) := dk_42 (dk_at dksX2_next_2 3 rfl rfl)
theorem dX2_next_50 : decode cX2_next 50 = .ok (.iload_n 1, 1) := dk_27 (dk_at dksX2_next_2 4 rfl rfl)
theorem dX2_next_51 : decode cX2_next 51 = .ok (.putfield 40, 3) := dk_181 0 40 (dk_at dksX2_next_2 5 rfl rfl)
theorem dX2_next_54 : decode cX2_next 54 = .ok (.goto 245, 3) := dk_167 0 245 (dk_at dksX2_next_2 8 rfl rfl)
theorem dX2_next_57 : decode cX2_next 57 = .ok (.iload_n 2, 1) := dk_28 (dk_at dksX2_next_2 11 rfl rfl)
theorem dX2_next_58 : decode cX2_next 58 = .ok (.invokestatic 50, 3) := dk_184 0 50 (dk_at dksX2_next_2 12 rfl rfl)
theorem dX2_next_61 : decode cX2_next 61 = .ok (.ifCond .eq 124, 3) := dk_153 0 124 (dk_at dksX2_next_2 15 rfl rfl)
theorem dX2_next_64 : decode cX2_next 64 = .ok (.aload_n 0, 1) := dk_42 (dk_at dksX2_next_2 18 rfl rfl)
theorem dX2_next_65 : decode cX2_next 65 = .ok (.iload_n 1, 1) := dk_27 (dk_at dksX2_next_2 19 rfl rfl)
theorem dX2_next_66 : decode cX2_next 66 = .ok (.putfield 40, 3) := dk_181 0 40 (dk_at dksX2_next_2 20 rfl rfl)
theorem dX2_next_69 : decode cX2_next 69 = .ok (.aload_n 0, 1) := dk_42 (dk_at dksX2_next_2 23 rfl rfl)
theorem dX2_next_70 : decode cX2_next 70 = .ok (.aload_n 0, 1) := dk_42 (dk_at dksX2_next_3 0 rfl rfl)
theorem dX2_next_71 : decode cX2_next 71 = .ok (.getfield 40, 3) := dk_180 0 40 (dk_at dksX2_next_3 1 rfl rfl)
theorem dX2_next_74 : decode cX2_next 74 = .ok (.invokevirtual 43, 3) := dk_182 0 43 (dk_at dksX2_next_3 4 rfl rfl)
theorem dX2_next_77 : decode cX2_next 77 = .ok (.invokestatic 50, 3) := dk_184 0 50 (dk_at dksX2_next_3 7 rfl rfl)
theorem dX2_next_80 : decode cX2_next 80 = .ok (.ifCond .eq 47, 3) := dk_153 0 47 (dk_at dksX2_next_3 10 rfl rfl)
theorem dX2_next_83 : decode cX2_next 83 = .ok (.aload_n 0, 1) := dk_42 (dk_at dksX2_next_3 13 rfl rfl)
theorem dX2_next_84 : decode cX2_next 84 = .ok (.getfield 40, 3) := dk_180 0 40 (dk_at dksX2_next_3 14 rfl rfl)
theorem dX2_next_87 : decode cX2_next 87 = .ok (.iload_n 1, 1) := dk_27 (dk_at dksX2_next_3 17 rfl rfl)
theorem dX2_next_88 : decode cX2_next 88 = .ok (.isub, 1) := dk_100 (dk_at dksX2_next_3 18 rfl rfl)
theorem dX2_next_89 : decode cX2_next 89 = .ok (.bipush 9, 2) := dk_16 9 (dk_at dksX2_next_3 19 rfl rfl)
theorem dX2_next_91 : decode cX2_next 91 = .ok (.if_icmp .ge 23, 3) := dk_162 0 23 (dk_at dksX2_next_3 21 rfl rfl)
theorem dX2_next_94 : decode cX2_next 94 = .ok (.aload_n 0, 1) := dk_42 (dk_at dksX2_next_4 0 rfl rfl)
theorem dX2_next_95 : decode cX2_next 95 = .ok (.getfield 18, 3) := dk_180 0 18 (dk_at dksX2_next_4 1 rfl rfl)
theorem dX2_next_98 : decode cX2_next 98 = .ok (.aload_n 0, 1) := dk_42 (dk_at dksX2_next_4 4 rfl rfl)
theorem dX2_next_99 : decode cX2_next 99 = .ok (.getfield 40, 3) := dk_180 0 40 (dk_at dksX2_next_4 5 rfl rfl)
theorem dX2_next_102 : decode cX2_next 102 = .ok (.iload_n 1, 1) := dk_27 (dk_at dksX2_next_4 8 rfl rfl)
theorem dX2_next_103 : decode cX2_next 103 = .ok (.isub, 1) := dk_100 (dk_at dksX2_next_4 9 rfl rfl)
theorem dX2_next_104 : decode cX2_next 104 = .ok (.aload_n 0, 1) := dk_42 (dk_at dksX2_next_4 10 rfl rfl)
theorem dX2_next_105 : decode cX2_next 105 = .ok (.aload_n 0, 1) := dk_42 (dk_at dksX2_next_4 11 rfl rfl)
theorem dX2_next_106 : decode cX2_next 106 = .ok (.getfield 40, 3) := dk_180 0 40 (dk_at dksX2_next_4 12 rfl rfl)
theorem dX2_next_109 : decode cX2_next 109 = .ok (.invokevirtual 43, 3) := dk_182 0 43 (dk_at dksX2_next_4 15 rfl rfl)
theorem dX2_next_112 : decode cX2_next 112 = .ok (.i2c, 1) := dk_146 (dk_at dksX2_next_4 18 rfl rfl)
theorem dX2_next_113 : decode cX2_next 113 = .ok (.castore, 1) := dk_85 (dk_at dksX2_next_4 19 rfl rfl)
theorem dX2_next_114 : decode cX2_next 114 = .ok (.aload_n 0, 1) := dk_42 (dk_at dksX2_next_4 20 rfl rfl)
theorem dX2_next_115 : decode cX2_next 115 = .ok (.dup, 1) := dk_89 (dk_at dksX2_next_4 21 rfl rfl)
theorem dX2_next_116 : decode cX2_next 116 = .ok (.getfield 40, 3) := dk_180 0 40 (dk_at dksX2_next_5 0 rfl rfl)
theorem dX2_next_119 : decode cX2_next 119 = .ok (.iconst 1, 1) := dk_4 (dk_at dksX2_next_5 3 rfl rfl)
theorem dX2_next_120 : decode cX2_next 120 = .ok (.iadd, 1) := dk_96 (dk_at dksX2_next_5 4 rfl rfl)
theorem dX2_next_121 : decode cX2_next 121 = .ok (.putfield 40, 3) := dk_181 0 40 (dk_at dksX2_next_5 5 rfl rfl)
theorem dX2_next_124 : decode cX2_next 124 = .ok (.goto (-55), 3) := dk_167 255 201 (dk_at dksX2_next_5 8 rfl rfl)
theorem dX2_next_127 : decode cX2_next 127 = .ok (.aload_n 0, 1) := dk_42 (dk_at dksX2_next_5 11 rfl rfl)
theorem dX2_next_128 : decode cX2_next 128 = .ok (.aload_n 0, 1) := dk_42 (dk_at dksX2_next_5 12 rfl rfl)
theorem dX2_next_129 : decode cX2_next 129 = .ok (.getfield 40, 3) := dk_180 0 40 (dk_at dksX2_next_5 13 rfl rfl)
theorem dX2_next_132 : decode cX2_next 132 = .ok (.iload_n 1, 1) := dk_27 (dk_at dksX2_next_5 16 rfl rfl)
theorem dX2_next_133 : decode cX2_next 133 = .ok (.isub, 1) := dk_100 (dk_at dksX2_next_5 17 rfl rfl)
theorem dX2_next_134 : decode cX2_next 134 = .ok (.bipush 9, 2) := dk_16 9 (dk_at dksX2_next_5 18 rfl rfl)
theorem dX2_next_136 : decode cX2_next 136 = .ok (.if_icmp .le 7, 3) := dk_164 0 7 (dk_at dksX2_next_5 20 rfl rfl)
theorem dX2_next_139 : decode cX2_next 139 = .ok (.iconst 1, 1) := dk_4 (dk_at dksX2_next_5 23 rfl rfl)
theorem dX2_next_140 : decode cX2_next 140 = .ok (.goto 4, 3) := dk_167 0 4 (dk_at dksX2_next_6 0 rfl rfl)
theorem dX2_next_143 : decode cX2_next 143 = .ok (.iconst 2, 1) := dk_5 (dk_at dksX2_next_6 3 rfl rfl)
theorem dX2_next_144 : decode cX2_next 144 = .ok (.putfield 47, 3) := dk_181 0 47 (dk_at dksX2_next_6 4 rfl rfl)
theorem dX2_next_147 : decode cX2_next 147 = .ok (.aload_n 0, 1) := dk_42 (dk_at dksX2_next_6 7 rfl rfl)
theorem dX2_next_148 : decode cX2_next 148 = .ok (.aload_n 0, 1) := dk_42 (dk_at dksX2_next_6 8 rfl rfl)
theorem dX2_next_149 : decode cX2_next 149 = .ok (.getfield 47, 3) := dk_180 0 47 (dk_at dksX2_next_6 9 rfl rfl)
theorem dX2_next_152 : decode cX2_next 152 = .ok (.iconst 2, 1) := dk_5 (dk_at dksX2_next_6 12 rfl rfl)
theorem dX2_next_153 : decode cX2_next 153 = .ok (.if_icmp .ne 24, 3) := dk_160 0 24 (dk_at dksX2_next_6 13 rfl rfl)
theorem dX2_next_156 : decode cX2_next 156 = .ok (.new 54, 3) := dk_187 0 54 (dk_at dksX2_next_6 16 rfl rfl)
theorem dX2_next_159 : decode cX2_next 159 = .ok (.dup, 1) := dk_89 (dk_at dksX2_next_6 19 rfl rfl)
theorem dX2_next_160 : decode cX2_next 160 = .ok (.aload_n 0, 1) := dk_42 (dk_at dksX2_next_6 20 rfl rfl)
theorem dX2_next_161 : decode cX2_next 161 = .ok (.getfield 18, 3) := dk_180 0 18 (dk_at dksX2_next_6 21 rfl rfl)
theorem dX2_next_164 : decode cX2_next 164 = .ok (.iconst 0, 1) := dk_3 (dk_at dksX2_next_7 0 rfl rfl)
theorem dX2_next_165 : decode cX2_next 165 = .ok (.aload_n 0, 1) := dk_42 (dk_at dksX2_next_7 1 rfl rfl)
theorem dX2_next_166 : decode cX2_next 166 = .ok (.getfield 40, 3) := dk_180 0 40 (dk_at dksX2_next_7 2 rfl rfl)
theorem dX2_next_169 : decode cX2_next 169 = .ok (.iload_n 1, 1) := dk_27 (dk_at dksX2_next_7 5 rfl rfl)
theorem dX2_next_170 : decode cX2_next 170 = .ok (.isub, 1) := dk_100 (dk_at dksX2_next_7 6 rfl rfl)
theorem dX2_next_171 : decode cX2_next 171 = .ok (.invokespecial 56, 3) := dk_183 0 56 (dk_at dksX2_next_7 7 rfl rfl)
theorem dX2_next_174 : decode cX2_next 174 = .ok (.goto 5, 3) := dk_167 0 5 (dk_at dksX2_next_7 10 rfl rfl)
theorem dX2_next_177 : decode cX2_next 177 = .ok (.ldc 59, 2) := dk_18 59 (dk_at dksX2_next_7 13 rfl rfl)
theorem dX2_next_179 : decode cX2_next 179 = .ok (.putfield 61, 3) := dk_181 0 61 (dk_at dksX2_next_7 15 rfl rfl)
theorem dX2_next_182 : decode cX2_next 182 = .ok (.goto 117, 3) := dk_167 0 117 (dk_at dksX2_next_7 18 rfl rfl)
theorem dX2_next_185 : decode cX2_next 185 = .ok (.iload_n 2, 1) := dk_28 (dk_at dksX2_next_7 21 rfl rfl)
theorem dX2_next_186 : decode cX2_next 186 = .ok (.invokestatic 65, 3) := dk_184 0 65 (dk_at dksX2_next_8 0 rfl rfl)
theorem dX2_next_189 : decode cX2_next 189 = .ok (.ifCond .eq 95, 3) := dk_153 0 95 (dk_at dksX2_next_8 3 rfl rfl)
theorem dX2_next_192 : decode cX2_next 192 = .ok (.aload_n 0, 1) := dk_42 (dk_at dksX2_next_8 6 rfl rfl)
theorem dX2_next_193 : decode cX2_next 193 = .ok (.iconst 0, 1) := dk_3 (dk_at dksX2_next_8 7 rfl rfl)
theorem dX2_next_194 : decode cX2_next 194 = .ok (.putfield 68, 3) := dk_181 0 68 (dk_at dksX2_next_8 8 rfl rfl)
theorem dX2_next_197 : decode cX2_next 197 = .ok (.aload_n 0, 1) := dk_42 (dk_at dksX2_next_8 11 rfl rfl)
theorem dX2_next_198 : decode cX2_next 198 = .ok (.iload_n 1, 1) := dk_27 (dk_at dksX2_next_8 12 rfl rfl)
theorem dX2_next_199 : decode cX2_next 199 = .ok (.putfield 40, 3) := dk_181 0 40 (dk_at dksX2_next_8 13 rfl rfl)
theorem dX2_next_202 : decode cX2_next 202 = .ok (.aload_n 0, 1) := dk_42 (dk_at dksX2_next_8 16 rfl rfl)
theorem dX2_next_203 : decode cX2_next 203 = .ok (.aload_n 0, 1) := dk_42 (dk_at dksX2_next_8 17 rfl rfl)
theorem dX2_next_204 : decode cX2_next 204 = .ok (.getfield 40, 3) := dk_180 0 40 (dk_at dksX2_next_8 18 rfl rfl)
theorem dX2_next_207 : decode cX2_next 207 = .ok (.invokevirtual 43, 3) := dk_182 0 43 (dk_at dksX2_next_8 21 rfl rfl)
theorem dX2_next_210 : decode cX2_next 210 = .ok (.invokestatic 65, 3) := dk_184 0 65 (dk_at dksX2_next_9 0 rfl rfl)
theorem dX2_next_213 : decode cX2_next 213 = .ok (.ifCond .eq 49, 3) := dk_153 0 49 (dk_at dksX2_next_9 3 rfl rfl)
theorem dX2_next_216 : decode cX2_next 216 = .ok (.aload_n 0, 1) := dk_42 (dk_at dksX2_next_9 6 rfl rfl)
theorem dX2_next_217 : decode cX2_next 217 = .ok (.getfield 40, 3) := dk_180 0 40 (dk_at dksX2_next_9 7 rfl rfl)
theorem dX2_next_220 : decode cX2_next 220 = .ok (.iload_n 1, 1) := dk_27 (dk_at dksX2_next_9 10 rfl rfl)
theorem dX2_next_221 : decode cX2_next 221 = .ok (.isub, 1) := dk_100 (dk_at dksX2_next_9 11 rfl rfl)
theorem dX2_next_222 : decode cX2_next 222 = .ok (.iconst 3, 1) := dk_6 (dk_at dksX2_next_9 12 rfl rfl)
theorem dX2_next_223 : decode cX2_next 223 = .ok (.if_icmp .ge 26, 3) := dk_162 0 26 (dk_at dksX2_next_9 13 rfl rfl)
theorem dX2_next_226 : decode cX2_next 226 = .ok (.aload_n 0, 1) := dk_42 (dk_at dksX2_next_9 16 rfl rfl)
theorem dX2_next_227 : decode cX2_next 227 = .ok (.bipush 10, 2) := dk_16 10 (dk_at dksX2_next_9 17 rfl rfl)
theorem dX2_next_229 : decode cX2_next 229 = .ok (.aload_n 0, 1) := dk_42 (dk_at dksX2_next_9 19 rfl rfl)
theorem dX2_next_230 : decode cX2_next 230 = .ok (.getfield 68, 3) := dk_180 0 68 (dk_at dksX2_next_9 20 rfl rfl)
theorem dX2_next_233 : decode cX2_next 233 = .ok (.imul, 1) := dk_104 (dk_at dksX2_next_9 23 rfl rfl)
theorem dX2_next_234 : decode cX2_next 234 = .ok (.aload_n 0, 1) := dk_42 (dk_at dksX2_next_10 0 rfl rfl)
theorem dX2_next_235 : decode cX2_next 235 = .ok (.aload_n 0, 1) := dk_42 (dk_at dksX2_next_10 1 rfl rfl)
theorem dX2_next_236 : decode cX2_next 236 = .ok (.getfield 40, 3) := dk_180 0 40 (dk_at dksX2_next_10 2 rfl rfl)
theorem dX2_next_239 : decode cX2_next 239 = .ok (.invokevirtual 43, 3) := dk_182 0 43 (dk_at dksX2_next_10 5 rfl rfl)
theorem dX2_next_242 : decode cX2_next 242 = .ok (.iadd, 1) := dk_96 (dk_at dksX2_next_10 8 rfl rfl)
theorem dX2_next_243 : decode cX2_next 243 = .ok (.bipush 48, 2) := dk_16 48 (dk_at dksX2_next_10 9 rfl rfl)
theorem dX2_next_245 : decode cX2_next 245 = .ok (.isub, 1) := dk_100 (dk_at dksX2_next_10 11 rfl rfl)
theorem dX2_next_246 : decode cX2_next 246 = .ok (.putfield 68, 3) := dk_181 0 68 (dk_at dksX2_next_10 12 rfl rfl)
theorem dX2_next_249 : decode cX2_next 249 = .ok (.aload_n 0, 1) := dk_42 (dk_at dksX2_next_10 15 rfl rfl)
theorem dX2_next_250 : decode cX2_next 250 = .ok (.dup, 1) := dk_89 (dk_at dksX2_next_10 16 rfl rfl)
theorem dX2_next_251 : decode cX2_next 251 = .ok (.getfield 40, 3) := dk_180 0 40 (dk_at dksX2_next_10 17 rfl rfl)
theorem dX2_next_254 : decode cX2_next 254 = .ok (.iconst 1, 1) := dk_4 (dk_at dksX2_next_10 20 rfl rfl)
theorem dX2_next_255 : decode cX2_next 255 = .ok (.iadd, 1) := dk_96 (dk_at dksX2_next_10 21 rfl rfl)
theorem dX2_next_256 : decode cX2_next 256 = .ok (.putfield 40, 3) := dk_181 0 40 (dk_at dksX2_next_11 0 rfl rfl)
theorem dX2_next_259 : decode cX2_next 259 = .ok (.goto (-57), 3) := dk_167 255 199 (dk_at dksX2_next_11 3 rfl rfl)
theorem dX2_next_262 : decode cX2_next 262 = .ok (.aload_n 0, 1) := dk_42 (dk_at dksX2_next_11 6 rfl rfl)
theorem dX2_next_263 : decode cX2_next 263 = .ok (.aload_n 0, 1) := dk_42 (dk_at dksX2_next_11 7 rfl rfl)
theorem dX2_next_264 : decode cX2_next 264 = .ok (.getfield 40, 3) := dk_180 0 40 (dk_at dksX2_next_11 8 rfl rfl)
theorem dX2_next_267 : decode cX2_next 267 = .ok (.iload_n 1, 1) := dk_27 (dk_at dksX2_next_11 11 rfl rfl)
theorem dX2_next_268 : decode cX2_next 268 = .ok (.isub, 1) := dk_100 (dk_at dksX2_next_11 12 rfl rfl)
theorem dX2_next_269 : decode cX2_next 269 = .ok (.iconst 3, 1) := dk_6 (dk_at dksX2_next_11 13 rfl rfl)
theorem dX2_next_270 : decode cX2_next 270 = .ok (.if_icmp .le 7, 3) := dk_164 0 7 (dk_at dksX2_next_11 14 rfl rfl)
theorem dX2_next_273 : decode cX2_next 273 = .ok (.iconst 1, 1) := dk_4 (dk_at dksX2_next_11 17 rfl rfl)
theorem dX2_next_274 : decode cX2_next 274 = .ok (.goto 4, 3) := dk_167 0 4 (dk_at dksX2_next_11 18 rfl rfl)
theorem dX2_next_277 : decode cX2_next 277 = .ok (.iconst 3, 1) := dk_6 (dk_at dksX2_next_11 21 rfl rfl)
theorem dX2_next_278 : decode cX2_next 278 = .ok (.putfield 47, 3) := dk_181 0 47 (dk_at dksX2_next_12 0 rfl rfl)
theorem dX2_next_281 : decode cX2_next 281 = .ok (.goto 18, 3) := dk_167 0 18 (dk_at dksX2_next_12 3 rfl rfl)
theorem dX2_next_284 : decode cX2_next 284 = .ok (.aload_n 0, 1) := dk_42 (dk_at dksX2_next_12 6 rfl rfl)
theorem dX2_next_285 : decode cX2_next 285 = .ok (.iload_n 2, 1) := dk_28 (dk_at dksX2_next_12 7 rfl rfl)
theorem dX2_next_286 : decode cX2_next 286 = .ok (.bipush 59, 2) := dk_16 59 (dk_at dksX2_next_12 8 rfl rfl)
theorem dX2_next_288 : decode cX2_next 288 = .ok (.if_icmp .ne 7, 3) := dk_160 0 7 (dk_at dksX2_next_12 10 rfl rfl)
theorem dX2_next_291 : decode cX2_next 291 = .ok (.iload_n 2, 1) := dk_28 (dk_at dksX2_next_12 13 rfl rfl)
theorem dX2_next_292 : decode cX2_next 292 = .ok (.goto 4, 3) := dk_167 0 4 (dk_at dksX2_next_12 14 rfl rfl)
theorem dX2_next_295 : decode cX2_next 295 = .ok (.iconst 1, 1) := dk_4 (dk_at dksX2_next_12 17 rfl rfl)
theorem dX2_next_296 : decode cX2_next 296 = .ok (.putfield 47, 3) := dk_181 0 47 (dk_at dksX2_next_12 18 rfl rfl)
theorem dX2_next_299 : decode cX2_next 299 = .ok (.return_, 1) := dk_177 (dk_at dksX2_next_12 21 rfl rfl)
abbrev cX2_see : ByteArray := prog_22_method_3_code
def yX2_see : MethodName := ⟨RX2, "see", "(I)I"⟩
def dkwX2_see_0 : List UInt8 := [27, 42, 180, 0, 33, 162, 0, 16, 42, 180, 0, 22, 27, 51, 17, 0, 255, 126, 167, 0, 4, 2, 172]
abbrev dktX2_see_0 : List UInt8 := dkwX2_see_0 ++ []
theorem dksX2_see_0 : cX2_see.data.toList.drop 0 = dktX2_see_0 := by decide +kernel
theorem dX2_see_0 : decode cX2_see 0 = .ok (.iload_n 1, 1) := dk_27 (dk_at dksX2_see_0 0 rfl rfl)
theorem dX2_see_1 : decode cX2_see 1 = .ok (.aload_n 0, 1) := dk_42 (dk_at dksX2_see_0 1 rfl rfl)
theorem dX2_see_2 : decode cX2_see 2 = .ok (.getfield 33, 3) := dk_180 0 33 (dk_at dksX2_see_0 2 rfl rfl)
theorem dX2_see_5 : decode cX2_see 5 = .ok (.if_icmp .ge 16, 3) := dk_162 0 16 (dk_at dksX2_see_0 5 rfl rfl)
theorem dX2_see_8 : decode cX2_see 8 = .ok (.aload_n 0, 1) := dk_42 (dk_at dksX2_see_0 8 rfl rfl)
theorem dX2_see_9 : decode cX2_see 9 = .ok (.getfield 22, 3) := dk_180 0 22 (dk_at dksX2_see_0 9 rfl rfl)
theorem dX2_see_12 : decode cX2_see 12 = .ok (.iload_n 1, 1) := dk_27 (dk_at dksX2_see_0 12 rfl rfl)
theorem dX2_see_13 : decode cX2_see 13 = .ok (.baload, 1) := dk_51 (dk_at dksX2_see_0 13 rfl rfl)
theorem dX2_see_14 : decode cX2_see 14 = .ok (.sipush 255, 3) := dk_17 0 255 (dk_at dksX2_see_0 14 rfl rfl)
theorem dX2_see_17 : decode cX2_see 17 = .ok (.iand, 1) := dk_126 (dk_at dksX2_see_0 17 rfl rfl)
theorem dX2_see_18 : decode cX2_see 18 = .ok (.goto 4, 3) := dk_167 0 4 (dk_at dksX2_see_0 18 rfl rfl)
theorem dX2_see_21 : decode cX2_see 21 = .ok (.iconst (-1), 1) := dk_2 (dk_at dksX2_see_0 21 rfl rfl)
theorem dX2_see_22 : decode cX2_see 22 = .ok (.ireturn, 1) := dk_172 (dk_at dksX2_see_0 22 rfl rfl)
abbrev cX2_isSmall : ByteArray := prog_22_method_4_code
def yX2_isSmall : MethodName := ⟨RX2, "isSmall", "(I)Z"⟩
def dkwX2_isSmall_0 : List UInt8 := [26, 16, 97, 16, 122, 184, 0, 36, 172]
abbrev dktX2_isSmall_0 : List UInt8 := dkwX2_isSmall_0 ++ []
theorem dksX2_isSmall_0 : cX2_isSmall.data.toList.drop 0 = dktX2_isSmall_0 := by decide +kernel
theorem dX2_isSmall_0 : decode cX2_isSmall 0 = .ok (.iload_n 0, 1) := dk_26 (dk_at dksX2_isSmall_0 0 rfl rfl)
theorem dX2_isSmall_1 : decode cX2_isSmall 1 = .ok (.bipush 97, 2) := dk_16 97 (dk_at dksX2_isSmall_0 1 rfl rfl)
theorem dX2_isSmall_3 : decode cX2_isSmall 3 = .ok (.bipush 122, 2) := dk_16 122 (dk_at dksX2_isSmall_0 3 rfl rfl)
theorem dX2_isSmall_5 : decode cX2_isSmall 5 = .ok (.invokestatic 36, 3) := dk_184 0 36 (dk_at dksX2_isSmall_0 5 rfl rfl)
theorem dX2_isSmall_8 : decode cX2_isSmall 8 = .ok (.ireturn, 1) := dk_172 (dk_at dksX2_isSmall_0 8 rfl rfl)
abbrev cX2_isDigit : ByteArray := prog_22_method_5_code
def yX2_isDigit : MethodName := ⟨RX2, "isDigit", "(I)Z"⟩
def dkwX2_isDigit_0 : List UInt8 := [26, 16, 48, 16, 57, 184, 0, 36, 172]
abbrev dktX2_isDigit_0 : List UInt8 := dkwX2_isDigit_0 ++ []
theorem dksX2_isDigit_0 : cX2_isDigit.data.toList.drop 0 = dktX2_isDigit_0 := by decide +kernel
theorem dX2_isDigit_0 : decode cX2_isDigit 0 = .ok (.iload_n 0, 1) := dk_26 (dk_at dksX2_isDigit_0 0 rfl rfl)
theorem dX2_isDigit_1 : decode cX2_isDigit 1 = .ok (.bipush 48, 2) := dk_16 48 (dk_at dksX2_isDigit_0 1 rfl rfl)
theorem dX2_isDigit_3 : decode cX2_isDigit 3 = .ok (.bipush 57, 2) := dk_16 57 (dk_at dksX2_isDigit_0 3 rfl rfl)
theorem dX2_isDigit_5 : decode cX2_isDigit 5 = .ok (.invokestatic 36, 3) := dk_184 0 36 (dk_at dksX2_isDigit_0 5 rfl rfl)
theorem dX2_isDigit_8 : decode cX2_isDigit 8 = .ok (.ireturn, 1) := dk_172 (dk_at dksX2_isDigit_0 8 rfl rfl)
abbrev cX2_line : ByteArray := prog_22_method_20_code
def yX2_line : MethodName := ⟨RX2, "line", "()V"⟩
def dkwX2_line_12 : List UInt8 := [167, 0, 23, 42, 182, 0, 182, 167, 0, 16, 42, 182, 0, 184, 167, 0, 9, 42, 4, 182, 0, 82, 191, 177]
abbrev dktX2_line_12 : List UInt8 := dkwX2_line_12 ++ []
def dkwX2_line_11 : List UInt8 := [182, 0, 173, 167, 0, 44, 42, 182, 0, 176, 167, 0, 37, 42, 182, 0, 178, 167, 0, 30, 42, 182, 0, 180]
abbrev dktX2_line_11 : List UInt8 := dkwX2_line_11 ++ dktX2_line_12
def dkwX2_line_10 : List UInt8 := [42, 182, 0, 164, 167, 0, 65, 42, 182, 0, 167, 167, 0, 58, 42, 182, 0, 170, 167, 0, 51, 42]
abbrev dktX2_line_10 : List UInt8 := dkwX2_line_10 ++ dktX2_line_11
def dkwX2_line_9 : List UInt8 := [170, 0, 0, 0, 112, 0, 0, 0, 0, 0, 0, 0, 8, 0, 0, 0, 49, 0, 0, 0, 56, 0, 0, 0, 63, 0, 0, 0, 70, 0, 0, 0, 77, 0, 0, 0, 84, 0, 0, 0, 91, 0, 0, 0, 98, 0, 0, 0, 105]
abbrev dktX2_line_9 : List UInt8 := dkwX2_line_9 ++ dktX2_line_10
def dkwX2_line_8 : List UInt8 := [182, 0, 71, 153, 0, 6, 16, 8, 61, 28]
abbrev dktX2_line_8 : List UInt8 := dkwX2_line_8 ++ dktX2_line_9
def dkwX2_line_7 : List UInt8 := [61, 167, 0, 30, 43, 18, 104, 182, 0, 71, 153, 0, 21, 16, 7, 61, 167, 0, 15, 43, 18, 106]
abbrev dktX2_line_7 : List UInt8 := dkwX2_line_7 ++ dktX2_line_8
def dkwX2_line_6 : List UInt8 := [18, 100, 182, 0, 71, 153, 0, 50, 8, 61, 167, 0, 45, 43, 18, 102, 182, 0, 71, 153, 0, 36, 16, 6]
abbrev dktX2_line_6 : List UInt8 := dkwX2_line_6 ++ dktX2_line_7
def dkwX2_line_5 : List UInt8 := [153, 0, 78, 6, 61, 167, 0, 73, 43, 18, 98, 182, 0, 71, 153, 0, 64, 7, 61, 167, 0, 59, 43]
abbrev dktX2_line_5 : List UInt8 := dkwX2_line_5 ++ dktX2_line_6
def dkwX2_line_4 : List UInt8 := [61, 167, 0, 101, 43, 18, 94, 182, 0, 71, 153, 0, 92, 5, 61, 167, 0, 87, 43, 18, 96, 182, 0, 71]
abbrev dktX2_line_4 : List UInt8 := dkwX2_line_4 ++ dktX2_line_5
def dkwX2_line_3 : List UInt8 := [43, 18, 90, 182, 0, 71, 153, 0, 120, 3, 61, 167, 0, 115, 43, 18, 92, 182, 0, 71, 153, 0, 106, 4]
abbrev dktX2_line_3 : List UInt8 := dkwX2_line_3 ++ dktX2_line_4
def dkwX2_line_2 : List UInt8 := [171, 0, 0, 0, 0, 0, 209, 0, 0, 0, 9, 236, 36, 163, 183, 0, 0, 0, 83, 0, 48, 76, 203, 0, 0, 0, 125, 0, 48, 128, 189, 0, 0, 0, 139, 5, 168, 173, 251, 0, 0, 0, 197, 5, 234, 203, 113, 0, 0, 0, 153, 6, 47, 101, 78, 0, 0, 0, 97, 6, 95, 177, 73, 0, 0, 0, 182, 61, 227, 148, 238, 0, 0, 0, 167, 75, 162, 148, 191, 0, 0, 0, 111]
abbrev dktX2_line_2 : List UInt8 := dkwX2_line_2 ++ dktX2_line_3
def dkwX2_line_1 : List UInt8 := [182, 0, 86]
abbrev dktX2_line_1 : List UInt8 := dkwX2_line_1 ++ dktX2_line_2
def dkwX2_line_0 : List UInt8 := [42, 180, 0, 47, 5, 159, 0, 9, 42, 4, 182, 0, 82, 191, 42, 180, 0, 61, 76, 2, 61, 43]
abbrev dktX2_line_0 : List UInt8 := dkwX2_line_0 ++ dktX2_line_1
theorem dksX2_line_0 : cX2_line.data.toList.drop 0 = dktX2_line_0 := by decide +kernel
theorem dksX2_line_1 : cX2_line.data.toList.drop 22 = dktX2_line_1 := dk_seg dksX2_line_0 22 rfl rfl
theorem dksX2_line_2 : cX2_line.data.toList.drop 25 = dktX2_line_2 := dk_seg dksX2_line_1 3 rfl rfl
theorem dksX2_line_3 : cX2_line.data.toList.drop 108 = dktX2_line_3 := dk_seg dksX2_line_2 83 rfl rfl
theorem dksX2_line_4 : cX2_line.data.toList.drop 132 = dktX2_line_4 := dk_seg dksX2_line_3 24 rfl rfl
theorem dksX2_line_5 : cX2_line.data.toList.drop 156 = dktX2_line_5 := dk_seg dksX2_line_4 24 rfl rfl
theorem dksX2_line_6 : cX2_line.data.toList.drop 179 = dktX2_line_6 := dk_seg dksX2_line_5 23 rfl rfl
theorem dksX2_line_7 : cX2_line.data.toList.drop 203 = dktX2_line_7 := dk_seg dksX2_line_6 24 rfl rfl
theorem dksX2_line_8 : cX2_line.data.toList.drop 225 = dktX2_line_8 := dk_seg dksX2_line_7 22 rfl rfl
theorem dksX2_line_9 : cX2_line.data.toList.drop 235 = dktX2_line_9 := dk_seg dksX2_line_8 10 rfl rfl
theorem dksX2_line_10 : cX2_line.data.toList.drop 284 = dktX2_line_10 := dk_seg dksX2_line_9 49 rfl rfl
theorem dksX2_line_11 : cX2_line.data.toList.drop 306 = dktX2_line_11 := dk_seg dksX2_line_10 22 rfl rfl
theorem dksX2_line_12 : cX2_line.data.toList.drop 330 = dktX2_line_12 := dk_seg dksX2_line_11 24 rfl rfl
theorem dX2_line_0 : decode cX2_line 0 = .ok (.aload_n 0, 1) := dk_42 (dk_at dksX2_line_0 0 rfl rfl)
theorem dX2_line_1 : decode cX2_line 1 = .ok (.getfield 47, 3) := dk_180 0 47 (dk_at dksX2_line_0 1 rfl rfl)
theorem dX2_line_4 : decode cX2_line 4 = .ok (.iconst 2, 1) := dk_5 (dk_at dksX2_line_0 4 rfl rfl)
theorem dX2_line_5 : decode cX2_line 5 = .ok (.if_icmp .eq 9, 3) := dk_159 0 9 (dk_at dksX2_line_0 5 rfl rfl)
theorem dX2_line_8 : decode cX2_line 8 = .ok (.aload_n 0, 1) := dk_42 (dk_at dksX2_line_0 8 rfl rfl)
theorem dX2_line_9 : decode cX2_line 9 = .ok (.iconst 1, 1) := dk_4 (dk_at dksX2_line_0 9 rfl rfl)
theorem dX2_line_10 : decode cX2_line 10 = .ok (.invokevirtual 82, 3) := dk_182 0 82 (dk_at dksX2_line_0 10 rfl rfl)
theorem dX2_line_13 : decode cX2_line 13 = .ok (.athrow, 1) := dk_191 (dk_at dksX2_line_0 13 rfl rfl)
theorem dX2_line_14 : decode cX2_line 14 = .ok (.aload_n 0, 1) := dk_42 (dk_at dksX2_line_0 14 rfl rfl)
theorem dX2_line_15 : decode cX2_line 15 = .ok (.getfield 61, 3) := dk_180 0 61 (dk_at dksX2_line_0 15 rfl rfl)
theorem dX2_line_18 : decode cX2_line 18 = .ok (.astore_n 1, 1) := dk_76 (dk_at dksX2_line_0 18 rfl rfl)
theorem dX2_line_19 : decode cX2_line 19 = .ok (.iconst (-1), 1) := dk_2 (dk_at dksX2_line_0 19 rfl rfl)
theorem dX2_line_20 : decode cX2_line 20 = .ok (.istore_n 2, 1) := dk_61 (dk_at dksX2_line_0 20 rfl rfl)
theorem dX2_line_21 : decode cX2_line 21 = .ok (.aload_n 1, 1) := dk_43 (dk_at dksX2_line_0 21 rfl rfl)
theorem dX2_line_22 : decode cX2_line 22 = .ok (.invokevirtual 86, 3) := dk_182 0 86 (dk_at dksX2_line_1 0 rfl rfl)
theorem dX2_line_25 : decode cX2_line 25 = .ok (.lookupswitch 209 #[(-333143113, 83), (3165387, 125), (3178685, 139), (94940667, 197), (99273585, 153), (103769422, 97), (106934601, 182), (1038324974, 167), (1268946111, 111)], 83) := by decide +kernel
theorem dX2_line_108 : decode cX2_line 108 = .ok (.aload_n 1, 1) := dk_43 (dk_at dksX2_line_3 0 rfl rfl)
theorem dX2_line_109 : decode cX2_line 109 = .ok (.ldc 90, 2) := dk_18 90 (dk_at dksX2_line_3 1 rfl rfl)
theorem dX2_line_111 : decode cX2_line 111 = .ok (.invokevirtual 71, 3) := dk_182 0 71 (dk_at dksX2_line_3 3 rfl rfl)
theorem dX2_line_114 : decode cX2_line 114 = .ok (.ifCond .eq 120, 3) := dk_153 0 120 (dk_at dksX2_line_3 6 rfl rfl)
theorem dX2_line_117 : decode cX2_line 117 = .ok (.iconst 0, 1) := dk_3 (dk_at dksX2_line_3 9 rfl rfl)
theorem dX2_line_118 : decode cX2_line 118 = .ok (.istore_n 2, 1) := dk_61 (dk_at dksX2_line_3 10 rfl rfl)
theorem dX2_line_119 : decode cX2_line 119 = .ok (.goto 115, 3) := dk_167 0 115 (dk_at dksX2_line_3 11 rfl rfl)
theorem dX2_line_122 : decode cX2_line 122 = .ok (.aload_n 1, 1) := dk_43 (dk_at dksX2_line_3 14 rfl rfl)
theorem dX2_line_123 : decode cX2_line 123 = .ok (.ldc 92, 2) := dk_18 92 (dk_at dksX2_line_3 15 rfl rfl)
theorem dX2_line_125 : decode cX2_line 125 = .ok (.invokevirtual 71, 3) := dk_182 0 71 (dk_at dksX2_line_3 17 rfl rfl)
theorem dX2_line_128 : decode cX2_line 128 = .ok (.ifCond .eq 106, 3) := dk_153 0 106 (dk_at dksX2_line_3 20 rfl rfl)
theorem dX2_line_131 : decode cX2_line 131 = .ok (.iconst 1, 1) := dk_4 (dk_at dksX2_line_3 23 rfl rfl)
theorem dX2_line_132 : decode cX2_line 132 = .ok (.istore_n 2, 1) := dk_61 (dk_at dksX2_line_4 0 rfl rfl)
theorem dX2_line_133 : decode cX2_line 133 = .ok (.goto 101, 3) := dk_167 0 101 (dk_at dksX2_line_4 1 rfl rfl)
theorem dX2_line_136 : decode cX2_line 136 = .ok (.aload_n 1, 1) := dk_43 (dk_at dksX2_line_4 4 rfl rfl)
theorem dX2_line_137 : decode cX2_line 137 = .ok (.ldc 94, 2) := dk_18 94 (dk_at dksX2_line_4 5 rfl rfl)
theorem dX2_line_139 : decode cX2_line 139 = .ok (.invokevirtual 71, 3) := dk_182 0 71 (dk_at dksX2_line_4 7 rfl rfl)
theorem dX2_line_142 : decode cX2_line 142 = .ok (.ifCond .eq 92, 3) := dk_153 0 92 (dk_at dksX2_line_4 10 rfl rfl)
theorem dX2_line_145 : decode cX2_line 145 = .ok (.iconst 2, 1) := dk_5 (dk_at dksX2_line_4 13 rfl rfl)
theorem dX2_line_146 : decode cX2_line 146 = .ok (.istore_n 2, 1) := dk_61 (dk_at dksX2_line_4 14 rfl rfl)
theorem dX2_line_147 : decode cX2_line 147 = .ok (.goto 87, 3) := dk_167 0 87 (dk_at dksX2_line_4 15 rfl rfl)
theorem dX2_line_150 : decode cX2_line 150 = .ok (.aload_n 1, 1) := dk_43 (dk_at dksX2_line_4 18 rfl rfl)
theorem dX2_line_151 : decode cX2_line 151 = .ok (.ldc 96, 2) := dk_18 96 (dk_at dksX2_line_4 19 rfl rfl)
theorem dX2_line_153 : decode cX2_line 153 = .ok (.invokevirtual 71, 3) := dk_182 0 71 (dk_at dksX2_line_4 21 rfl rfl)
theorem dX2_line_156 : decode cX2_line 156 = .ok (.ifCond .eq 78, 3) := dk_153 0 78 (dk_at dksX2_line_5 0 rfl rfl)
theorem dX2_line_159 : decode cX2_line 159 = .ok (.iconst 3, 1) := dk_6 (dk_at dksX2_line_5 3 rfl rfl)
theorem dX2_line_160 : decode cX2_line 160 = .ok (.istore_n 2, 1) := dk_61 (dk_at dksX2_line_5 4 rfl rfl)
theorem dX2_line_161 : decode cX2_line 161 = .ok (.goto 73, 3) := dk_167 0 73 (dk_at dksX2_line_5 5 rfl rfl)
theorem dX2_line_164 : decode cX2_line 164 = .ok (.aload_n 1, 1) := dk_43 (dk_at dksX2_line_5 8 rfl rfl)
theorem dX2_line_165 : decode cX2_line 165 = .ok (.ldc 98, 2) := dk_18 98 (dk_at dksX2_line_5 9 rfl rfl)
theorem dX2_line_167 : decode cX2_line 167 = .ok (.invokevirtual 71, 3) := dk_182 0 71 (dk_at dksX2_line_5 11 rfl rfl)
theorem dX2_line_170 : decode cX2_line 170 = .ok (.ifCond .eq 64, 3) := dk_153 0 64 (dk_at dksX2_line_5 14 rfl rfl)
theorem dX2_line_173 : decode cX2_line 173 = .ok (.iconst 4, 1) := dk_7 (dk_at dksX2_line_5 17 rfl rfl)
theorem dX2_line_174 : decode cX2_line 174 = .ok (.istore_n 2, 1) := dk_61 (dk_at dksX2_line_5 18 rfl rfl)
theorem dX2_line_175 : decode cX2_line 175 = .ok (.goto 59, 3) := dk_167 0 59 (dk_at dksX2_line_5 19 rfl rfl)
theorem dX2_line_178 : decode cX2_line 178 = .ok (.aload_n 1, 1) := dk_43 (dk_at dksX2_line_5 22 rfl rfl)
theorem dX2_line_179 : decode cX2_line 179 = .ok (.ldc 100, 2) := dk_18 100 (dk_at dksX2_line_6 0 rfl rfl)
theorem dX2_line_181 : decode cX2_line 181 = .ok (.invokevirtual 71, 3) := dk_182 0 71 (dk_at dksX2_line_6 2 rfl rfl)
theorem dX2_line_184 : decode cX2_line 184 = .ok (.ifCond .eq 50, 3) := dk_153 0 50 (dk_at dksX2_line_6 5 rfl rfl)
theorem dX2_line_187 : decode cX2_line 187 = .ok (.iconst 5, 1) := dk_8 (dk_at dksX2_line_6 8 rfl rfl)
theorem dX2_line_188 : decode cX2_line 188 = .ok (.istore_n 2, 1) := dk_61 (dk_at dksX2_line_6 9 rfl rfl)
theorem dX2_line_189 : decode cX2_line 189 = .ok (.goto 45, 3) := dk_167 0 45 (dk_at dksX2_line_6 10 rfl rfl)
theorem dX2_line_192 : decode cX2_line 192 = .ok (.aload_n 1, 1) := dk_43 (dk_at dksX2_line_6 13 rfl rfl)
theorem dX2_line_193 : decode cX2_line 193 = .ok (.ldc 102, 2) := dk_18 102 (dk_at dksX2_line_6 14 rfl rfl)
theorem dX2_line_195 : decode cX2_line 195 = .ok (.invokevirtual 71, 3) := dk_182 0 71 (dk_at dksX2_line_6 16 rfl rfl)
theorem dX2_line_198 : decode cX2_line 198 = .ok (.ifCond .eq 36, 3) := dk_153 0 36 (dk_at dksX2_line_6 19 rfl rfl)
theorem dX2_line_201 : decode cX2_line 201 = .ok (.bipush 6, 2) := dk_16 6 (dk_at dksX2_line_6 22 rfl rfl)
theorem dX2_line_203 : decode cX2_line 203 = .ok (.istore_n 2, 1) := dk_61 (dk_at dksX2_line_7 0 rfl rfl)
theorem dX2_line_204 : decode cX2_line 204 = .ok (.goto 30, 3) := dk_167 0 30 (dk_at dksX2_line_7 1 rfl rfl)
theorem dX2_line_207 : decode cX2_line 207 = .ok (.aload_n 1, 1) := dk_43 (dk_at dksX2_line_7 4 rfl rfl)
theorem dX2_line_208 : decode cX2_line 208 = .ok (.ldc 104, 2) := dk_18 104 (dk_at dksX2_line_7 5 rfl rfl)
theorem dX2_line_210 : decode cX2_line 210 = .ok (.invokevirtual 71, 3) := dk_182 0 71 (dk_at dksX2_line_7 7 rfl rfl)
theorem dX2_line_213 : decode cX2_line 213 = .ok (.ifCond .eq 21, 3) := dk_153 0 21 (dk_at dksX2_line_7 10 rfl rfl)
theorem dX2_line_216 : decode cX2_line 216 = .ok (.bipush 7, 2) := dk_16 7 (dk_at dksX2_line_7 13 rfl rfl)
theorem dX2_line_218 : decode cX2_line 218 = .ok (.istore_n 2, 1) := dk_61 (dk_at dksX2_line_7 15 rfl rfl)
theorem dX2_line_219 : decode cX2_line 219 = .ok (.goto 15, 3) := dk_167 0 15 (dk_at dksX2_line_7 16 rfl rfl)
theorem dX2_line_222 : decode cX2_line 222 = .ok (.aload_n 1, 1) := dk_43 (dk_at dksX2_line_7 19 rfl rfl)
theorem dX2_line_223 : decode cX2_line 223 = .ok (.ldc 106, 2) := dk_18 106 (dk_at dksX2_line_7 20 rfl rfl)
theorem dX2_line_225 : decode cX2_line 225 = .ok (.invokevirtual 71, 3) := dk_182 0 71 (dk_at dksX2_line_8 0 rfl rfl)
theorem dX2_line_228 : decode cX2_line 228 = .ok (.ifCond .eq 6, 3) := dk_153 0 6 (dk_at dksX2_line_8 3 rfl rfl)
theorem dX2_line_231 : decode cX2_line 231 = .ok (.bipush 8, 2) := dk_16 8 (dk_at dksX2_line_8 6 rfl rfl)
theorem dX2_line_233 : decode cX2_line 233 = .ok (.istore_n 2, 1) := dk_61 (dk_at dksX2_line_8 8 rfl rfl)
theorem dX2_line_234 : decode cX2_line 234 = .ok (.iload_n 2, 1) := dk_28 (dk_at dksX2_line_8 9 rfl rfl)
theorem dX2_line_235 : decode cX2_line 235 = .ok (.tableswitch 112 0 8 #[49, 56, 63, 70, 77, 84, 91, 98, 105], 49) := by decide +kernel
theorem dX2_line_284 : decode cX2_line 284 = .ok (.aload_n 0, 1) := dk_42 (dk_at dksX2_line_10 0 rfl rfl)
theorem dX2_line_285 : decode cX2_line 285 = .ok (.invokevirtual 164, 3) := dk_182 0 164 (dk_at dksX2_line_10 1 rfl rfl)
theorem dX2_line_288 : decode cX2_line 288 = .ok (.goto 65, 3) := dk_167 0 65 (dk_at dksX2_line_10 4 rfl rfl)
theorem dX2_line_291 : decode cX2_line 291 = .ok (.aload_n 0, 1) := dk_42 (dk_at dksX2_line_10 7 rfl rfl)
theorem dX2_line_292 : decode cX2_line 292 = .ok (.invokevirtual 167, 3) := dk_182 0 167 (dk_at dksX2_line_10 8 rfl rfl)
theorem dX2_line_295 : decode cX2_line 295 = .ok (.goto 58, 3) := dk_167 0 58 (dk_at dksX2_line_10 11 rfl rfl)
theorem dX2_line_298 : decode cX2_line 298 = .ok (.aload_n 0, 1) := dk_42 (dk_at dksX2_line_10 14 rfl rfl)
theorem dX2_line_299 : decode cX2_line 299 = .ok (.invokevirtual 170, 3) := dk_182 0 170 (dk_at dksX2_line_10 15 rfl rfl)
theorem dX2_line_302 : decode cX2_line 302 = .ok (.goto 51, 3) := dk_167 0 51 (dk_at dksX2_line_10 18 rfl rfl)
theorem dX2_line_305 : decode cX2_line 305 = .ok (.aload_n 0, 1) := dk_42 (dk_at dksX2_line_10 21 rfl rfl)
theorem dX2_line_306 : decode cX2_line 306 = .ok (.invokevirtual 173, 3) := dk_182 0 173 (dk_at dksX2_line_11 0 rfl rfl)
theorem dX2_line_309 : decode cX2_line 309 = .ok (.goto 44, 3) := dk_167 0 44 (dk_at dksX2_line_11 3 rfl rfl)
theorem dX2_line_312 : decode cX2_line 312 = .ok (.aload_n 0, 1) := dk_42 (dk_at dksX2_line_11 6 rfl rfl)
theorem dX2_line_313 : decode cX2_line 313 = .ok (.invokevirtual 176, 3) := dk_182 0 176 (dk_at dksX2_line_11 7 rfl rfl)
theorem dX2_line_316 : decode cX2_line 316 = .ok (.goto 37, 3) := dk_167 0 37 (dk_at dksX2_line_11 10 rfl rfl)
theorem dX2_line_319 : decode cX2_line 319 = .ok (.aload_n 0, 1) := dk_42 (dk_at dksX2_line_11 13 rfl rfl)
theorem dX2_line_320 : decode cX2_line 320 = .ok (.invokevirtual 178, 3) := dk_182 0 178 (dk_at dksX2_line_11 14 rfl rfl)
theorem dX2_line_323 : decode cX2_line 323 = .ok (.goto 30, 3) := dk_167 0 30 (dk_at dksX2_line_11 17 rfl rfl)
theorem dX2_line_326 : decode cX2_line 326 = .ok (.aload_n 0, 1) := dk_42 (dk_at dksX2_line_11 20 rfl rfl)
theorem dX2_line_327 : decode cX2_line 327 = .ok (.invokevirtual 180, 3) := dk_182 0 180 (dk_at dksX2_line_11 21 rfl rfl)
theorem dX2_line_330 : decode cX2_line 330 = .ok (.goto 23, 3) := dk_167 0 23 (dk_at dksX2_line_12 0 rfl rfl)
theorem dX2_line_333 : decode cX2_line 333 = .ok (.aload_n 0, 1) := dk_42 (dk_at dksX2_line_12 3 rfl rfl)
theorem dX2_line_334 : decode cX2_line 334 = .ok (.invokevirtual 182, 3) := dk_182 0 182 (dk_at dksX2_line_12 4 rfl rfl)
theorem dX2_line_337 : decode cX2_line 337 = .ok (.goto 16, 3) := dk_167 0 16 (dk_at dksX2_line_12 7 rfl rfl)
theorem dX2_line_340 : decode cX2_line 340 = .ok (.aload_n 0, 1) := dk_42 (dk_at dksX2_line_12 10 rfl rfl)
theorem dX2_line_341 : decode cX2_line 341 = .ok (.invokevirtual 184, 3) := dk_182 0 184 (dk_at dksX2_line_12 11 rfl rfl)
theorem dX2_line_344 : decode cX2_line 344 = .ok (.goto 9, 3) := dk_167 0 9 (dk_at dksX2_line_12 14 rfl rfl)
theorem dX2_line_347 : decode cX2_line 347 = .ok (.aload_n 0, 1) := dk_42 (dk_at dksX2_line_12 17 rfl rfl)
theorem dX2_line_348 : decode cX2_line 348 = .ok (.iconst 1, 1) := dk_4 (dk_at dksX2_line_12 18 rfl rfl)
theorem dX2_line_349 : decode cX2_line 349 = .ok (.invokevirtual 82, 3) := dk_182 0 82 (dk_at dksX2_line_12 19 rfl rfl)
theorem dX2_line_352 : decode cX2_line 352 = .ok (.athrow, 1) := dk_191 (dk_at dksX2_line_12 22 rfl rfl)
theorem dX2_line_353 : decode cX2_line 353 = .ok (.return_, 1) := dk_177 (dk_at dksX2_line_12 23 rfl rfl)
abbrev cX2_fail : ByteArray := prog_22_method_2_code
def yX2_fail : MethodName := ⟨RX2, "fail", "(I)LSaltedGate$Refused;"⟩
def dkwX2_fail_0 : List UInt8 := [42, 180, 0, 12, 27, 42, 180, 0, 26, 182, 0, 30, 176]
abbrev dktX2_fail_0 : List UInt8 := dkwX2_fail_0 ++ []
theorem dksX2_fail_0 : cX2_fail.data.toList.drop 0 = dktX2_fail_0 := by decide +kernel
theorem dX2_fail_0 : decode cX2_fail 0 = .ok (.aload_n 0, 1) := dk_42 (dk_at dksX2_fail_0 0 rfl rfl)
theorem dX2_fail_1 : decode cX2_fail 1 = .ok (.getfield 12, 3) := dk_180 0 12 (dk_at dksX2_fail_0 1 rfl rfl)
theorem dX2_fail_4 : decode cX2_fail 4 = .ok (.iload_n 1, 1) := dk_27 (dk_at dksX2_fail_0 4 rfl rfl)
theorem dX2_fail_5 : decode cX2_fail 5 = .ok (.aload_n 0, 1) := dk_42 (dk_at dksX2_fail_0 5 rfl rfl)
theorem dX2_fail_6 : decode cX2_fail 6 = .ok (.getfield 26, 3) := dk_180 0 26 (dk_at dksX2_fail_0 6 rfl rfl)
theorem dX2_fail_9 : decode cX2_fail 9 = .ok (.invokevirtual 30, 3) := dk_182 0 30 (dk_at dksX2_fail_0 9 rfl rfl)
theorem dX2_fail_12 : decode cX2_fail 12 = .ok (.areturn, 1) := dk_176 (dk_at dksX2_fail_0 12 rfl rfl)
abbrev cX2_barrierLine : ByteArray := prog_22_method_21_code
def yX2_barrierLine : MethodName := ⟨RX2, "barrierLine", "()V"⟩
def dkwX2_barrierLine_2 : List UInt8 := [182, 0, 188, 181, 0, 196, 42, 180, 0, 115, 4, 181, 0, 150, 177]
abbrev dktX2_barrierLine_2 : List UInt8 := dkwX2_barrierLine_2 ++ []
def dkwX2_barrierLine_1 : List UInt8 := [42, 18, 186, 3, 16, 9, 182, 0, 188, 181, 0, 192, 42, 180, 0, 115, 42, 18, 194, 3, 16, 50]
abbrev dktX2_barrierLine_1 : List UInt8 := dkwX2_barrierLine_1 ++ dktX2_barrierLine_2
def dkwX2_barrierLine_0 : List UInt8 := [42, 180, 0, 115, 180, 0, 150, 153, 0, 9, 42, 6, 182, 0, 82, 191, 42, 182, 0, 75, 42, 180, 0, 115]
abbrev dktX2_barrierLine_0 : List UInt8 := dkwX2_barrierLine_0 ++ dktX2_barrierLine_1
theorem dksX2_barrierLine_0 : cX2_barrierLine.data.toList.drop 0 = dktX2_barrierLine_0 := by decide +kernel
theorem dksX2_barrierLine_1 : cX2_barrierLine.data.toList.drop 24 = dktX2_barrierLine_1 := dk_seg dksX2_barrierLine_0 24 rfl rfl
theorem dksX2_barrierLine_2 : cX2_barrierLine.data.toList.drop 46 = dktX2_barrierLine_2 := dk_seg dksX2_barrierLine_1 22 rfl rfl
theorem dX2_barrierLine_0 : decode cX2_barrierLine 0 = .ok (.aload_n 0, 1) := dk_42 (dk_at dksX2_barrierLine_0 0 rfl rfl)
theorem dX2_barrierLine_1 : decode cX2_barrierLine 1 = .ok (.getfield 115, 3) := dk_180 0 115 (dk_at dksX2_barrierLine_0 1 rfl rfl)
theorem dX2_barrierLine_4 : decode cX2_barrierLine 4 = .ok (.getfield 150, 3) := dk_180 0 150 (dk_at dksX2_barrierLine_0 4 rfl rfl)
theorem dX2_barrierLine_7 : decode cX2_barrierLine 7 = .ok (.ifCond .eq 9, 3) := dk_153 0 9 (dk_at dksX2_barrierLine_0 7 rfl rfl)
theorem dX2_barrierLine_10 : decode cX2_barrierLine 10 = .ok (.aload_n 0, 1) := dk_42 (dk_at dksX2_barrierLine_0 10 rfl rfl)
theorem dX2_barrierLine_11 : decode cX2_barrierLine 11 = .ok (.iconst 3, 1) := dk_6 (dk_at dksX2_barrierLine_0 11 rfl rfl)
theorem dX2_barrierLine_12 : decode cX2_barrierLine 12 = .ok (.invokevirtual 82, 3) := dk_182 0 82 (dk_at dksX2_barrierLine_0 12 rfl rfl)
theorem dX2_barrierLine_15 : decode cX2_barrierLine 15 = .ok (.athrow, 1) := dk_191 (dk_at dksX2_barrierLine_0 15 rfl rfl)
theorem dX2_barrierLine_16 : decode cX2_barrierLine 16 = .ok (.aload_n 0, 1) := dk_42 (dk_at dksX2_barrierLine_0 16 rfl rfl)
theorem dX2_barrierLine_17 : decode cX2_barrierLine 17 = .ok (.invokevirtual 75, 3) := dk_182 0 75 (dk_at dksX2_barrierLine_0 17 rfl rfl)
theorem dX2_barrierLine_20 : decode cX2_barrierLine 20 = .ok (.aload_n 0, 1) := dk_42 (dk_at dksX2_barrierLine_0 20 rfl rfl)
theorem dX2_barrierLine_21 : decode cX2_barrierLine 21 = .ok (.getfield 115, 3) := dk_180 0 115 (dk_at dksX2_barrierLine_0 21 rfl rfl)
theorem dX2_barrierLine_24 : decode cX2_barrierLine 24 = .ok (.aload_n 0, 1) := dk_42 (dk_at dksX2_barrierLine_1 0 rfl rfl)
theorem dX2_barrierLine_25 : decode cX2_barrierLine 25 = .ok (.ldc 186, 2) := dk_18 186 (dk_at dksX2_barrierLine_1 1 rfl rfl)
theorem dX2_barrierLine_27 : decode cX2_barrierLine 27 = .ok (.iconst 0, 1) := dk_3 (dk_at dksX2_barrierLine_1 3 rfl rfl)
theorem dX2_barrierLine_28 : decode cX2_barrierLine 28 = .ok (.bipush 9, 2) := dk_16 9 (dk_at dksX2_barrierLine_1 4 rfl rfl)
theorem dX2_barrierLine_30 : decode cX2_barrierLine 30 = .ok (.invokevirtual 188, 3) := dk_182 0 188 (dk_at dksX2_barrierLine_1 6 rfl rfl)
theorem dX2_barrierLine_33 : decode cX2_barrierLine 33 = .ok (.putfield 192, 3) := dk_181 0 192 (dk_at dksX2_barrierLine_1 9 rfl rfl)
theorem dX2_barrierLine_36 : decode cX2_barrierLine 36 = .ok (.aload_n 0, 1) := dk_42 (dk_at dksX2_barrierLine_1 12 rfl rfl)
theorem dX2_barrierLine_37 : decode cX2_barrierLine 37 = .ok (.getfield 115, 3) := dk_180 0 115 (dk_at dksX2_barrierLine_1 13 rfl rfl)
theorem dX2_barrierLine_40 : decode cX2_barrierLine 40 = .ok (.aload_n 0, 1) := dk_42 (dk_at dksX2_barrierLine_1 16 rfl rfl)
theorem dX2_barrierLine_41 : decode cX2_barrierLine 41 = .ok (.ldc 194, 2) := dk_18 194 (dk_at dksX2_barrierLine_1 17 rfl rfl)
theorem dX2_barrierLine_43 : decode cX2_barrierLine 43 = .ok (.iconst 0, 1) := dk_3 (dk_at dksX2_barrierLine_1 19 rfl rfl)
theorem dX2_barrierLine_44 : decode cX2_barrierLine 44 = .ok (.bipush 50, 2) := dk_16 50 (dk_at dksX2_barrierLine_1 20 rfl rfl)
theorem dX2_barrierLine_46 : decode cX2_barrierLine 46 = .ok (.invokevirtual 188, 3) := dk_182 0 188 (dk_at dksX2_barrierLine_2 0 rfl rfl)
theorem dX2_barrierLine_49 : decode cX2_barrierLine 49 = .ok (.putfield 196, 3) := dk_181 0 196 (dk_at dksX2_barrierLine_2 3 rfl rfl)
theorem dX2_barrierLine_52 : decode cX2_barrierLine 52 = .ok (.aload_n 0, 1) := dk_42 (dk_at dksX2_barrierLine_2 6 rfl rfl)
theorem dX2_barrierLine_53 : decode cX2_barrierLine 53 = .ok (.getfield 115, 3) := dk_180 0 115 (dk_at dksX2_barrierLine_2 7 rfl rfl)
theorem dX2_barrierLine_56 : decode cX2_barrierLine 56 = .ok (.iconst 1, 1) := dk_4 (dk_at dksX2_barrierLine_2 10 rfl rfl)
theorem dX2_barrierLine_57 : decode cX2_barrierLine 57 = .ok (.putfield 150, 3) := dk_181 0 150 (dk_at dksX2_barrierLine_2 11 rfl rfl)
theorem dX2_barrierLine_60 : decode cX2_barrierLine 60 = .ok (.return_, 1) := dk_177 (dk_at dksX2_barrierLine_2 14 rfl rfl)
abbrev cX2_after : ByteArray := prog_22_method_17_code
def yX2_after : MethodName := ⟨RX2, "after", "(Ljava/lang/String;II)I"⟩
def dkwX2_after_0 : List UInt8 := [42, 43, 182, 0, 143, 42, 28, 29, 182, 0, 147, 172]
abbrev dktX2_after_0 : List UInt8 := dkwX2_after_0 ++ []
theorem dksX2_after_0 : cX2_after.data.toList.drop 0 = dktX2_after_0 := by decide +kernel
theorem dX2_after_0 : decode cX2_after 0 = .ok (.aload_n 0, 1) := dk_42 (dk_at dksX2_after_0 0 rfl rfl)
theorem dX2_after_1 : decode cX2_after 1 = .ok (.aload_n 1, 1) := dk_43 (dk_at dksX2_after_0 1 rfl rfl)
theorem dX2_after_2 : decode cX2_after 2 = .ok (.invokevirtual 143, 3) := dk_182 0 143 (dk_at dksX2_after_0 2 rfl rfl)
theorem dX2_after_5 : decode cX2_after 5 = .ok (.aload_n 0, 1) := dk_42 (dk_at dksX2_after_0 5 rfl rfl)
theorem dX2_after_6 : decode cX2_after 6 = .ok (.iload_n 2, 1) := dk_28 (dk_at dksX2_after_0 6 rfl rfl)
theorem dX2_after_7 : decode cX2_after 7 = .ok (.iload_n 3, 1) := dk_29 (dk_at dksX2_after_0 7 rfl rfl)
theorem dX2_after_8 : decode cX2_after 8 = .ok (.invokevirtual 147, 3) := dk_182 0 147 (dk_at dksX2_after_0 8 rfl rfl)
theorem dX2_after_11 : decode cX2_after 11 = .ok (.ireturn, 1) := dk_172 (dk_at dksX2_after_0 11 rfl rfl)
abbrev cX2_must : ByteArray := prog_22_method_8_code
def yX2_must : MethodName := ⟨RX2, "must", "(Ljava/lang/String;)V"⟩
def dkwX2_must_0 : List UInt8 := [42, 43, 182, 0, 78, 154, 0, 9, 42, 4, 182, 0, 82, 191, 177]
abbrev dktX2_must_0 : List UInt8 := dkwX2_must_0 ++ []
theorem dksX2_must_0 : cX2_must.data.toList.drop 0 = dktX2_must_0 := by decide +kernel
theorem dX2_must_0 : decode cX2_must 0 = .ok (.aload_n 0, 1) := dk_42 (dk_at dksX2_must_0 0 rfl rfl)
theorem dX2_must_1 : decode cX2_must 1 = .ok (.aload_n 1, 1) := dk_43 (dk_at dksX2_must_0 1 rfl rfl)
theorem dX2_must_2 : decode cX2_must 2 = .ok (.invokevirtual 78, 3) := dk_182 0 78 (dk_at dksX2_must_0 2 rfl rfl)
theorem dX2_must_5 : decode cX2_must 5 = .ok (.ifCond .ne 9, 3) := dk_154 0 9 (dk_at dksX2_must_0 5 rfl rfl)
theorem dX2_must_8 : decode cX2_must 8 = .ok (.aload_n 0, 1) := dk_42 (dk_at dksX2_must_0 8 rfl rfl)
theorem dX2_must_9 : decode cX2_must 9 = .ok (.iconst 1, 1) := dk_4 (dk_at dksX2_must_0 9 rfl rfl)
theorem dX2_must_10 : decode cX2_must 10 = .ok (.invokevirtual 82, 3) := dk_182 0 82 (dk_at dksX2_must_0 10 rfl rfl)
theorem dX2_must_13 : decode cX2_must 13 = .ok (.athrow, 1) := dk_191 (dk_at dksX2_must_0 13 rfl rfl)
theorem dX2_must_14 : decode cX2_must 14 = .ok (.return_, 1) := dk_177 (dk_at dksX2_must_0 14 rfl rfl)
abbrev cX2_takes : ByteArray := prog_22_method_7_code
def yX2_takes : MethodName := ⟨RX2, "takes", "(Ljava/lang/String;)Z"⟩
def dkwX2_takes_1 : List UInt8 := [182, 0, 75, 4, 172]
abbrev dktX2_takes_1 : List UInt8 := dkwX2_takes_1 ++ []
def dkwX2_takes_0 : List UInt8 := [42, 180, 0, 47, 5, 160, 0, 14, 42, 180, 0, 61, 43, 182, 0, 71, 154, 0, 5, 3, 172, 42]
abbrev dktX2_takes_0 : List UInt8 := dkwX2_takes_0 ++ dktX2_takes_1
theorem dksX2_takes_0 : cX2_takes.data.toList.drop 0 = dktX2_takes_0 := by decide +kernel
theorem dksX2_takes_1 : cX2_takes.data.toList.drop 22 = dktX2_takes_1 := dk_seg dksX2_takes_0 22 rfl rfl
theorem dX2_takes_0 : decode cX2_takes 0 = .ok (.aload_n 0, 1) := dk_42 (dk_at dksX2_takes_0 0 rfl rfl)
theorem dX2_takes_1 : decode cX2_takes 1 = .ok (.getfield 47, 3) := dk_180 0 47 (dk_at dksX2_takes_0 1 rfl rfl)
theorem dX2_takes_4 : decode cX2_takes 4 = .ok (.iconst 2, 1) := dk_5 (dk_at dksX2_takes_0 4 rfl rfl)
theorem dX2_takes_5 : decode cX2_takes 5 = .ok (.if_icmp .ne 14, 3) := dk_160 0 14 (dk_at dksX2_takes_0 5 rfl rfl)
theorem dX2_takes_8 : decode cX2_takes 8 = .ok (.aload_n 0, 1) := dk_42 (dk_at dksX2_takes_0 8 rfl rfl)
theorem dX2_takes_9 : decode cX2_takes 9 = .ok (.getfield 61, 3) := dk_180 0 61 (dk_at dksX2_takes_0 9 rfl rfl)
theorem dX2_takes_12 : decode cX2_takes 12 = .ok (.aload_n 1, 1) := dk_43 (dk_at dksX2_takes_0 12 rfl rfl)
theorem dX2_takes_13 : decode cX2_takes 13 = .ok (.invokevirtual 71, 3) := dk_182 0 71 (dk_at dksX2_takes_0 13 rfl rfl)
theorem dX2_takes_16 : decode cX2_takes 16 = .ok (.ifCond .ne 5, 3) := dk_154 0 5 (dk_at dksX2_takes_0 16 rfl rfl)
theorem dX2_takes_19 : decode cX2_takes 19 = .ok (.iconst 0, 1) := dk_3 (dk_at dksX2_takes_0 19 rfl rfl)
theorem dX2_takes_20 : decode cX2_takes 20 = .ok (.ireturn, 1) := dk_172 (dk_at dksX2_takes_0 20 rfl rfl)
theorem dX2_takes_21 : decode cX2_takes 21 = .ok (.aload_n 0, 1) := dk_42 (dk_at dksX2_takes_0 21 rfl rfl)
theorem dX2_takes_22 : decode cX2_takes 22 = .ok (.invokevirtual 75, 3) := dk_182 0 75 (dk_at dksX2_takes_1 0 rfl rfl)
theorem dX2_takes_25 : decode cX2_takes 25 = .ok (.iconst 1, 1) := dk_4 (dk_at dksX2_takes_1 3 rfl rfl)
theorem dX2_takes_26 : decode cX2_takes 26 = .ok (.ireturn, 1) := dk_172 (dk_at dksX2_takes_1 4 rfl rfl)
abbrev cX2_number : ByteArray := prog_22_method_16_code
def yX2_number : MethodName := ⟨RX2, "number", "(II)I"⟩
def dkwX2_number_1 : List UInt8 := [154, 0, 9, 42, 7, 182, 0, 82, 191, 42, 180, 0, 68, 62, 42, 182, 0, 75, 29, 172]
abbrev dktX2_number_1 : List UInt8 := dkwX2_number_1 ++ []
def dkwX2_number_0 : List UInt8 := [42, 180, 0, 47, 6, 159, 0, 9, 42, 4, 182, 0, 82, 191, 42, 180, 0, 68, 27, 28, 184, 0, 36]
abbrev dktX2_number_0 : List UInt8 := dkwX2_number_0 ++ dktX2_number_1
theorem dksX2_number_0 : cX2_number.data.toList.drop 0 = dktX2_number_0 := by decide +kernel
theorem dksX2_number_1 : cX2_number.data.toList.drop 23 = dktX2_number_1 := dk_seg dksX2_number_0 23 rfl rfl
theorem dX2_number_0 : decode cX2_number 0 = .ok (.aload_n 0, 1) := dk_42 (dk_at dksX2_number_0 0 rfl rfl)
theorem dX2_number_1 : decode cX2_number 1 = .ok (.getfield 47, 3) := dk_180 0 47 (dk_at dksX2_number_0 1 rfl rfl)
theorem dX2_number_4 : decode cX2_number 4 = .ok (.iconst 3, 1) := dk_6 (dk_at dksX2_number_0 4 rfl rfl)
theorem dX2_number_5 : decode cX2_number 5 = .ok (.if_icmp .eq 9, 3) := dk_159 0 9 (dk_at dksX2_number_0 5 rfl rfl)
theorem dX2_number_8 : decode cX2_number 8 = .ok (.aload_n 0, 1) := dk_42 (dk_at dksX2_number_0 8 rfl rfl)
theorem dX2_number_9 : decode cX2_number 9 = .ok (.iconst 1, 1) := dk_4 (dk_at dksX2_number_0 9 rfl rfl)
theorem dX2_number_10 : decode cX2_number 10 = .ok (.invokevirtual 82, 3) := dk_182 0 82 (dk_at dksX2_number_0 10 rfl rfl)
theorem dX2_number_13 : decode cX2_number 13 = .ok (.athrow, 1) := dk_191 (dk_at dksX2_number_0 13 rfl rfl)
theorem dX2_number_14 : decode cX2_number 14 = .ok (.aload_n 0, 1) := dk_42 (dk_at dksX2_number_0 14 rfl rfl)
theorem dX2_number_15 : decode cX2_number 15 = .ok (.getfield 68, 3) := dk_180 0 68 (dk_at dksX2_number_0 15 rfl rfl)
theorem dX2_number_18 : decode cX2_number 18 = .ok (.iload_n 1, 1) := dk_27 (dk_at dksX2_number_0 18 rfl rfl)
theorem dX2_number_19 : decode cX2_number 19 = .ok (.iload_n 2, 1) := dk_28 (dk_at dksX2_number_0 19 rfl rfl)
theorem dX2_number_20 : decode cX2_number 20 = .ok (.invokestatic 36, 3) := dk_184 0 36 (dk_at dksX2_number_0 20 rfl rfl)
theorem dX2_number_23 : decode cX2_number 23 = .ok (.ifCond .ne 9, 3) := dk_154 0 9 (dk_at dksX2_number_1 0 rfl rfl)
theorem dX2_number_26 : decode cX2_number 26 = .ok (.aload_n 0, 1) := dk_42 (dk_at dksX2_number_1 3 rfl rfl)
theorem dX2_number_27 : decode cX2_number 27 = .ok (.iconst 4, 1) := dk_7 (dk_at dksX2_number_1 4 rfl rfl)
theorem dX2_number_28 : decode cX2_number 28 = .ok (.invokevirtual 82, 3) := dk_182 0 82 (dk_at dksX2_number_1 5 rfl rfl)
theorem dX2_number_31 : decode cX2_number 31 = .ok (.athrow, 1) := dk_191 (dk_at dksX2_number_1 8 rfl rfl)
theorem dX2_number_32 : decode cX2_number 32 = .ok (.aload_n 0, 1) := dk_42 (dk_at dksX2_number_1 9 rfl rfl)
theorem dX2_number_33 : decode cX2_number 33 = .ok (.getfield 68, 3) := dk_180 0 68 (dk_at dksX2_number_1 10 rfl rfl)
theorem dX2_number_36 : decode cX2_number 36 = .ok (.istore_n 3, 1) := dk_62 (dk_at dksX2_number_1 13 rfl rfl)
theorem dX2_number_37 : decode cX2_number 37 = .ok (.aload_n 0, 1) := dk_42 (dk_at dksX2_number_1 14 rfl rfl)
theorem dX2_number_38 : decode cX2_number 38 = .ok (.invokevirtual 75, 3) := dk_182 0 75 (dk_at dksX2_number_1 15 rfl rfl)
theorem dX2_number_41 : decode cX2_number 41 = .ok (.iload_n 3, 1) := dk_29 (dk_at dksX2_number_1 18 rfl rfl)
theorem dX2_number_42 : decode cX2_number 42 = .ok (.ireturn, 1) := dk_172 (dk_at dksX2_number_1 19 rfl rfl)
abbrev cX2_meansLine : ByteArray := prog_22_method_22_code
def yX2_meansLine : MethodName := ⟨RX2, "meansLine", "()V"⟩
def dkwX2_meansLine_4 : List UInt8 := [83, 42, 180, 0, 115, 89, 180, 0, 198, 4, 96, 181, 0, 198, 177]
abbrev dktX2_meansLine_4 : List UInt8 := dkwX2_meansLine_4 ++ []
def dkwX2_meansLine_3 : List UInt8 := [17, 1, 44, 182, 0, 188, 181, 0, 223, 42, 180, 0, 115, 180, 0, 225, 42, 180, 0, 115, 180, 0, 198, 43]
abbrev dktX2_meansLine_3 : List UInt8 := dkwX2_meansLine_3 ++ dktX2_meansLine_4
def dkwX2_meansLine_2 : List UInt8 := [182, 0, 188, 181, 0, 214, 43, 42, 18, 216, 3, 16, 9, 182, 0, 188, 181, 0, 218, 43, 42, 18, 221, 4]
abbrev dktX2_meansLine_2 : List UInt8 := dkwX2_meansLine_2 ++ dktX2_meansLine_3
def dkwX2_meansLine_1 : List UInt8 := [42, 182, 0, 205, 42, 180, 0, 115, 180, 0, 198, 183, 0, 209, 76, 43, 42, 18, 212, 3, 16, 9]
abbrev dktX2_meansLine_1 : List UInt8 := dkwX2_meansLine_1 ++ dktX2_meansLine_2
def dkwX2_meansLine_0 : List UInt8 := [42, 42, 180, 0, 115, 180, 0, 198, 7, 162, 0, 7, 4, 167, 0, 4, 3, 182, 0, 201, 187, 0, 128, 89]
abbrev dktX2_meansLine_0 : List UInt8 := dkwX2_meansLine_0 ++ dktX2_meansLine_1
theorem dksX2_meansLine_0 : cX2_meansLine.data.toList.drop 0 = dktX2_meansLine_0 := by decide +kernel
theorem dksX2_meansLine_1 : cX2_meansLine.data.toList.drop 24 = dktX2_meansLine_1 := dk_seg dksX2_meansLine_0 24 rfl rfl
theorem dksX2_meansLine_2 : cX2_meansLine.data.toList.drop 46 = dktX2_meansLine_2 := dk_seg dksX2_meansLine_1 22 rfl rfl
theorem dksX2_meansLine_3 : cX2_meansLine.data.toList.drop 70 = dktX2_meansLine_3 := dk_seg dksX2_meansLine_2 24 rfl rfl
theorem dksX2_meansLine_4 : cX2_meansLine.data.toList.drop 94 = dktX2_meansLine_4 := dk_seg dksX2_meansLine_3 24 rfl rfl
theorem dX2_meansLine_0 : decode cX2_meansLine 0 = .ok (.aload_n 0, 1) := dk_42 (dk_at dksX2_meansLine_0 0 rfl rfl)
theorem dX2_meansLine_1 : decode cX2_meansLine 1 = .ok (.aload_n 0, 1) := dk_42 (dk_at dksX2_meansLine_0 1 rfl rfl)
theorem dX2_meansLine_2 : decode cX2_meansLine 2 = .ok (.getfield 115, 3) := dk_180 0 115 (dk_at dksX2_meansLine_0 2 rfl rfl)
theorem dX2_meansLine_5 : decode cX2_meansLine 5 = .ok (.getfield 198, 3) := dk_180 0 198 (dk_at dksX2_meansLine_0 5 rfl rfl)
theorem dX2_meansLine_8 : decode cX2_meansLine 8 = .ok (.iconst 4, 1) := dk_7 (dk_at dksX2_meansLine_0 8 rfl rfl)
theorem dX2_meansLine_9 : decode cX2_meansLine 9 = .ok (.if_icmp .ge 7, 3) := dk_162 0 7 (dk_at dksX2_meansLine_0 9 rfl rfl)
theorem dX2_meansLine_12 : decode cX2_meansLine 12 = .ok (.iconst 1, 1) := dk_4 (dk_at dksX2_meansLine_0 12 rfl rfl)
theorem dX2_meansLine_13 : decode cX2_meansLine 13 = .ok (.goto 4, 3) := dk_167 0 4 (dk_at dksX2_meansLine_0 13 rfl rfl)
theorem dX2_meansLine_16 : decode cX2_meansLine 16 = .ok (.iconst 0, 1) := dk_3 (dk_at dksX2_meansLine_0 16 rfl rfl)
theorem dX2_meansLine_17 : decode cX2_meansLine 17 = .ok (.invokevirtual 201, 3) := dk_182 0 201 (dk_at dksX2_meansLine_0 17 rfl rfl)
theorem dX2_meansLine_20 : decode cX2_meansLine 20 = .ok (.new 128, 3) := dk_187 0 128 (dk_at dksX2_meansLine_0 20 rfl rfl)
theorem dX2_meansLine_23 : decode cX2_meansLine 23 = .ok (.dup, 1) := dk_89 (dk_at dksX2_meansLine_0 23 rfl rfl)
theorem dX2_meansLine_24 : decode cX2_meansLine 24 = .ok (.aload_n 0, 1) := dk_42 (dk_at dksX2_meansLine_1 0 rfl rfl)
theorem dX2_meansLine_25 : decode cX2_meansLine 25 = .ok (.invokevirtual 205, 3) := dk_182 0 205 (dk_at dksX2_meansLine_1 1 rfl rfl)
theorem dX2_meansLine_28 : decode cX2_meansLine 28 = .ok (.aload_n 0, 1) := dk_42 (dk_at dksX2_meansLine_1 4 rfl rfl)
theorem dX2_meansLine_29 : decode cX2_meansLine 29 = .ok (.getfield 115, 3) := dk_180 0 115 (dk_at dksX2_meansLine_1 5 rfl rfl)
theorem dX2_meansLine_32 : decode cX2_meansLine 32 = .ok (.getfield 198, 3) := dk_180 0 198 (dk_at dksX2_meansLine_1 8 rfl rfl)
theorem dX2_meansLine_35 : decode cX2_meansLine 35 = .ok (.invokespecial 209, 3) := dk_183 0 209 (dk_at dksX2_meansLine_1 11 rfl rfl)
theorem dX2_meansLine_38 : decode cX2_meansLine 38 = .ok (.astore_n 1, 1) := dk_76 (dk_at dksX2_meansLine_1 14 rfl rfl)
theorem dX2_meansLine_39 : decode cX2_meansLine 39 = .ok (.aload_n 1, 1) := dk_43 (dk_at dksX2_meansLine_1 15 rfl rfl)
theorem dX2_meansLine_40 : decode cX2_meansLine 40 = .ok (.aload_n 0, 1) := dk_42 (dk_at dksX2_meansLine_1 16 rfl rfl)
theorem dX2_meansLine_41 : decode cX2_meansLine 41 = .ok (.ldc 212, 2) := dk_18 212 (dk_at dksX2_meansLine_1 17 rfl rfl)
theorem dX2_meansLine_43 : decode cX2_meansLine 43 = .ok (.iconst 0, 1) := dk_3 (dk_at dksX2_meansLine_1 19 rfl rfl)
theorem dX2_meansLine_44 : decode cX2_meansLine 44 = .ok (.bipush 9, 2) := dk_16 9 (dk_at dksX2_meansLine_1 20 rfl rfl)
theorem dX2_meansLine_46 : decode cX2_meansLine 46 = .ok (.invokevirtual 188, 3) := dk_182 0 188 (dk_at dksX2_meansLine_2 0 rfl rfl)
theorem dX2_meansLine_49 : decode cX2_meansLine 49 = .ok (.putfield 214, 3) := dk_181 0 214 (dk_at dksX2_meansLine_2 3 rfl rfl)
theorem dX2_meansLine_52 : decode cX2_meansLine 52 = .ok (.aload_n 1, 1) := dk_43 (dk_at dksX2_meansLine_2 6 rfl rfl)
theorem dX2_meansLine_53 : decode cX2_meansLine 53 = .ok (.aload_n 0, 1) := dk_42 (dk_at dksX2_meansLine_2 7 rfl rfl)
theorem dX2_meansLine_54 : decode cX2_meansLine 54 = .ok (.ldc 216, 2) := dk_18 216 (dk_at dksX2_meansLine_2 8 rfl rfl)
theorem dX2_meansLine_56 : decode cX2_meansLine 56 = .ok (.iconst 0, 1) := dk_3 (dk_at dksX2_meansLine_2 10 rfl rfl)
theorem dX2_meansLine_57 : decode cX2_meansLine 57 = .ok (.bipush 9, 2) := dk_16 9 (dk_at dksX2_meansLine_2 11 rfl rfl)
theorem dX2_meansLine_59 : decode cX2_meansLine 59 = .ok (.invokevirtual 188, 3) := dk_182 0 188 (dk_at dksX2_meansLine_2 13 rfl rfl)
theorem dX2_meansLine_62 : decode cX2_meansLine 62 = .ok (.putfield 218, 3) := dk_181 0 218 (dk_at dksX2_meansLine_2 16 rfl rfl)
theorem dX2_meansLine_65 : decode cX2_meansLine 65 = .ok (.aload_n 1, 1) := dk_43 (dk_at dksX2_meansLine_2 19 rfl rfl)
theorem dX2_meansLine_66 : decode cX2_meansLine 66 = .ok (.aload_n 0, 1) := dk_42 (dk_at dksX2_meansLine_2 20 rfl rfl)
theorem dX2_meansLine_67 : decode cX2_meansLine 67 = .ok (.ldc 221, 2) := dk_18 221 (dk_at dksX2_meansLine_2 21 rfl rfl)
theorem dX2_meansLine_69 : decode cX2_meansLine 69 = .ok (.iconst 1, 1) := dk_4 (dk_at dksX2_meansLine_2 23 rfl rfl)
theorem dX2_meansLine_70 : decode cX2_meansLine 70 = .ok (.sipush 300, 3) := dk_17 1 44 (dk_at dksX2_meansLine_3 0 rfl rfl)
theorem dX2_meansLine_73 : decode cX2_meansLine 73 = .ok (.invokevirtual 188, 3) := dk_182 0 188 (dk_at dksX2_meansLine_3 3 rfl rfl)
theorem dX2_meansLine_76 : decode cX2_meansLine 76 = .ok (.putfield 223, 3) := dk_181 0 223 (dk_at dksX2_meansLine_3 6 rfl rfl)
theorem dX2_meansLine_79 : decode cX2_meansLine 79 = .ok (.aload_n 0, 1) := dk_42 (dk_at dksX2_meansLine_3 9 rfl rfl)
theorem dX2_meansLine_80 : decode cX2_meansLine 80 = .ok (.getfield 115, 3) := dk_180 0 115 (dk_at dksX2_meansLine_3 10 rfl rfl)
theorem dX2_meansLine_83 : decode cX2_meansLine 83 = .ok (.getfield 225, 3) := dk_180 0 225 (dk_at dksX2_meansLine_3 13 rfl rfl)
theorem dX2_meansLine_86 : decode cX2_meansLine 86 = .ok (.aload_n 0, 1) := dk_42 (dk_at dksX2_meansLine_3 16 rfl rfl)
theorem dX2_meansLine_87 : decode cX2_meansLine 87 = .ok (.getfield 115, 3) := dk_180 0 115 (dk_at dksX2_meansLine_3 17 rfl rfl)
theorem dX2_meansLine_90 : decode cX2_meansLine 90 = .ok (.getfield 198, 3) := dk_180 0 198 (dk_at dksX2_meansLine_3 20 rfl rfl)
theorem dX2_meansLine_93 : decode cX2_meansLine 93 = .ok (.aload_n 1, 1) := dk_43 (dk_at dksX2_meansLine_3 23 rfl rfl)
theorem dX2_meansLine_94 : decode cX2_meansLine 94 = .ok (.aastore, 1) := dk_83 (dk_at dksX2_meansLine_4 0 rfl rfl)
theorem dX2_meansLine_95 : decode cX2_meansLine 95 = .ok (.aload_n 0, 1) := dk_42 (dk_at dksX2_meansLine_4 1 rfl rfl)
theorem dX2_meansLine_96 : decode cX2_meansLine 96 = .ok (.getfield 115, 3) := dk_180 0 115 (dk_at dksX2_meansLine_4 2 rfl rfl)
theorem dX2_meansLine_99 : decode cX2_meansLine 99 = .ok (.dup, 1) := dk_89 (dk_at dksX2_meansLine_4 5 rfl rfl)
theorem dX2_meansLine_100 : decode cX2_meansLine 100 = .ok (.getfield 198, 3) := dk_180 0 198 (dk_at dksX2_meansLine_4 6 rfl rfl)
theorem dX2_meansLine_103 : decode cX2_meansLine 103 = .ok (.iconst 1, 1) := dk_4 (dk_at dksX2_meansLine_4 9 rfl rfl)
theorem dX2_meansLine_104 : decode cX2_meansLine 104 = .ok (.iadd, 1) := dk_96 (dk_at dksX2_meansLine_4 10 rfl rfl)
theorem dX2_meansLine_105 : decode cX2_meansLine 105 = .ok (.putfield 198, 3) := dk_181 0 198 (dk_at dksX2_meansLine_4 11 rfl rfl)
theorem dX2_meansLine_108 : decode cX2_meansLine 108 = .ok (.return_, 1) := dk_177 (dk_at dksX2_meansLine_4 14 rfl rfl)
abbrev cX2_begins : ByteArray := prog_22_method_18_code
def yX2_begins : MethodName := ⟨RX2, "begins", "(Z)V"⟩
def dkwX2_begins_1 : List UInt8 := [182, 0, 82, 191, 42, 182, 0, 75, 177]
abbrev dktX2_begins_1 : List UInt8 := dkwX2_begins_1 ++ []
def dkwX2_begins_0 : List UInt8 := [27, 154, 0, 9, 42, 8, 182, 0, 82, 191, 42, 180, 0, 115, 180, 0, 150, 154, 0, 10, 42, 16, 6]
abbrev dktX2_begins_0 : List UInt8 := dkwX2_begins_0 ++ dktX2_begins_1
theorem dksX2_begins_0 : cX2_begins.data.toList.drop 0 = dktX2_begins_0 := by decide +kernel
theorem dksX2_begins_1 : cX2_begins.data.toList.drop 23 = dktX2_begins_1 := dk_seg dksX2_begins_0 23 rfl rfl
theorem dX2_begins_0 : decode cX2_begins 0 = .ok (.iload_n 1, 1) := dk_27 (dk_at dksX2_begins_0 0 rfl rfl)
theorem dX2_begins_1 : decode cX2_begins 1 = .ok (.ifCond .ne 9, 3) := dk_154 0 9 (dk_at dksX2_begins_0 1 rfl rfl)
theorem dX2_begins_4 : decode cX2_begins 4 = .ok (.aload_n 0, 1) := dk_42 (dk_at dksX2_begins_0 4 rfl rfl)
theorem dX2_begins_5 : decode cX2_begins 5 = .ok (.iconst 5, 1) := dk_8 (dk_at dksX2_begins_0 5 rfl rfl)
theorem dX2_begins_6 : decode cX2_begins 6 = .ok (.invokevirtual 82, 3) := dk_182 0 82 (dk_at dksX2_begins_0 6 rfl rfl)
theorem dX2_begins_9 : decode cX2_begins 9 = .ok (.athrow, 1) := dk_191 (dk_at dksX2_begins_0 9 rfl rfl)
theorem dX2_begins_10 : decode cX2_begins 10 = .ok (.aload_n 0, 1) := dk_42 (dk_at dksX2_begins_0 10 rfl rfl)
theorem dX2_begins_11 : decode cX2_begins 11 = .ok (.getfield 115, 3) := dk_180 0 115 (dk_at dksX2_begins_0 11 rfl rfl)
theorem dX2_begins_14 : decode cX2_begins 14 = .ok (.getfield 150, 3) := dk_180 0 150 (dk_at dksX2_begins_0 14 rfl rfl)
theorem dX2_begins_17 : decode cX2_begins 17 = .ok (.ifCond .ne 10, 3) := dk_154 0 10 (dk_at dksX2_begins_0 17 rfl rfl)
theorem dX2_begins_20 : decode cX2_begins 20 = .ok (.aload_n 0, 1) := dk_42 (dk_at dksX2_begins_0 20 rfl rfl)
theorem dX2_begins_21 : decode cX2_begins 21 = .ok (.bipush 6, 2) := dk_16 6 (dk_at dksX2_begins_0 21 rfl rfl)
theorem dX2_begins_23 : decode cX2_begins 23 = .ok (.invokevirtual 82, 3) := dk_182 0 82 (dk_at dksX2_begins_1 0 rfl rfl)
theorem dX2_begins_26 : decode cX2_begins 26 = .ok (.athrow, 1) := dk_191 (dk_at dksX2_begins_1 3 rfl rfl)
theorem dX2_begins_27 : decode cX2_begins 27 = .ok (.aload_n 0, 1) := dk_42 (dk_at dksX2_begins_1 4 rfl rfl)
theorem dX2_begins_28 : decode cX2_begins 28 = .ok (.invokevirtual 75, 3) := dk_182 0 75 (dk_at dksX2_begins_1 5 rfl rfl)
theorem dX2_begins_31 : decode cX2_begins 31 = .ok (.return_, 1) := dk_177 (dk_at dksX2_begins_1 8 rfl rfl)
abbrev cX2_newName : ByteArray := prog_22_method_10_code
def yX2_newName : MethodName := ⟨RX2, "newName", "()Ljava/lang/String;"⟩
def dkwX2_newName_1 : List UInt8 := [42, 180, 0, 61, 76, 42, 182, 0, 75, 43, 176]
abbrev dktX2_newName_1 : List UInt8 := dkwX2_newName_1 ++ []
def dkwX2_newName_0 : List UInt8 := [42, 182, 0, 112, 42, 180, 0, 115, 42, 180, 0, 61, 182, 0, 118, 198, 0, 9, 42, 6, 182, 0, 82, 191]
abbrev dktX2_newName_0 : List UInt8 := dkwX2_newName_0 ++ dktX2_newName_1
theorem dksX2_newName_0 : cX2_newName.data.toList.drop 0 = dktX2_newName_0 := by decide +kernel
theorem dksX2_newName_1 : cX2_newName.data.toList.drop 24 = dktX2_newName_1 := dk_seg dksX2_newName_0 24 rfl rfl
theorem dX2_newName_0 : decode cX2_newName 0 = .ok (.aload_n 0, 1) := dk_42 (dk_at dksX2_newName_0 0 rfl rfl)
theorem dX2_newName_1 : decode cX2_newName 1 = .ok (.invokevirtual 112, 3) := dk_182 0 112 (dk_at dksX2_newName_0 1 rfl rfl)
theorem dX2_newName_4 : decode cX2_newName 4 = .ok (.aload_n 0, 1) := dk_42 (dk_at dksX2_newName_0 4 rfl rfl)
theorem dX2_newName_5 : decode cX2_newName 5 = .ok (.getfield 115, 3) := dk_180 0 115 (dk_at dksX2_newName_0 5 rfl rfl)
theorem dX2_newName_8 : decode cX2_newName 8 = .ok (.aload_n 0, 1) := dk_42 (dk_at dksX2_newName_0 8 rfl rfl)
theorem dX2_newName_9 : decode cX2_newName 9 = .ok (.getfield 61, 3) := dk_180 0 61 (dk_at dksX2_newName_0 9 rfl rfl)
theorem dX2_newName_12 : decode cX2_newName 12 = .ok (.invokevirtual 118, 3) := dk_182 0 118 (dk_at dksX2_newName_0 12 rfl rfl)
theorem dX2_newName_15 : decode cX2_newName 15 = .ok (.ifnull 9, 3) := dk_198 0 9 (dk_at dksX2_newName_0 15 rfl rfl)
theorem dX2_newName_18 : decode cX2_newName 18 = .ok (.aload_n 0, 1) := dk_42 (dk_at dksX2_newName_0 18 rfl rfl)
theorem dX2_newName_19 : decode cX2_newName 19 = .ok (.iconst 3, 1) := dk_6 (dk_at dksX2_newName_0 19 rfl rfl)
theorem dX2_newName_20 : decode cX2_newName 20 = .ok (.invokevirtual 82, 3) := dk_182 0 82 (dk_at dksX2_newName_0 20 rfl rfl)
theorem dX2_newName_23 : decode cX2_newName 23 = .ok (.athrow, 1) := dk_191 (dk_at dksX2_newName_0 23 rfl rfl)
theorem dX2_newName_24 : decode cX2_newName 24 = .ok (.aload_n 0, 1) := dk_42 (dk_at dksX2_newName_1 0 rfl rfl)
theorem dX2_newName_25 : decode cX2_newName 25 = .ok (.getfield 61, 3) := dk_180 0 61 (dk_at dksX2_newName_1 1 rfl rfl)
theorem dX2_newName_28 : decode cX2_newName 28 = .ok (.astore_n 1, 1) := dk_76 (dk_at dksX2_newName_1 4 rfl rfl)
theorem dX2_newName_29 : decode cX2_newName 29 = .ok (.aload_n 0, 1) := dk_42 (dk_at dksX2_newName_1 5 rfl rfl)
theorem dX2_newName_30 : decode cX2_newName 30 = .ok (.invokevirtual 75, 3) := dk_182 0 75 (dk_at dksX2_newName_1 6 rfl rfl)
theorem dX2_newName_33 : decode cX2_newName 33 = .ok (.aload_n 1, 1) := dk_43 (dk_at dksX2_newName_1 9 rfl rfl)
theorem dX2_newName_34 : decode cX2_newName 34 = .ok (.areturn, 1) := dk_176 (dk_at dksX2_newName_1 10 rfl rfl)
abbrev cX2_mustName : ByteArray := prog_22_method_9_code
def yX2_mustName : MethodName := ⟨RX2, "mustName", "()V"⟩
def dkwX2_mustName_11 : List UInt8 := [42, 4, 182, 0, 82, 191, 177]
abbrev dktX2_mustName_11 : List UInt8 := dkwX2_mustName_11 ++ []
def dkwX2_mustName_10 : List UInt8 := [170, 0, 0, 0, 0, 0, 65, 0, 0, 0, 0, 0, 0, 0, 10, 0, 0, 0, 59, 0, 0, 0, 59, 0, 0, 0, 59, 0, 0, 0, 59, 0, 0, 0, 59, 0, 0, 0, 59, 0, 0, 0, 59, 0, 0, 0, 59, 0, 0, 0, 59, 0, 0, 0, 59, 0, 0, 0, 59]
abbrev dktX2_mustName_10 : List UInt8 := dkwX2_mustName_10 ++ dktX2_mustName_11
def dkwX2_mustName_9 : List UInt8 := [167, 0, 15, 43, 18, 110, 182, 0, 71, 153, 0, 6, 16, 10, 61, 28]
abbrev dktX2_mustName_9 : List UInt8 := dkwX2_mustName_9 ++ dktX2_mustName_10
def dkwX2_mustName_8 : List UInt8 := [182, 0, 71, 153, 0, 36, 16, 8, 61, 167, 0, 30, 43, 18, 108, 182, 0, 71, 153, 0, 21, 16, 9, 61]
abbrev dktX2_mustName_8 : List UInt8 := dkwX2_mustName_8 ++ dktX2_mustName_9
def dkwX2_mustName_7 : List UInt8 := [61, 167, 0, 60, 43, 18, 104, 182, 0, 71, 153, 0, 51, 16, 7, 61, 167, 0, 45, 43, 18, 106]
abbrev dktX2_mustName_7 : List UInt8 := dkwX2_mustName_7 ++ dktX2_mustName_8
def dkwX2_mustName_6 : List UInt8 := [18, 100, 182, 0, 71, 153, 0, 80, 8, 61, 167, 0, 75, 43, 18, 102, 182, 0, 71, 153, 0, 66, 16, 6]
abbrev dktX2_mustName_6 : List UInt8 := dkwX2_mustName_6 ++ dktX2_mustName_7
def dkwX2_mustName_5 : List UInt8 := [153, 0, 108, 6, 61, 167, 0, 103, 43, 18, 98, 182, 0, 71, 153, 0, 94, 7, 61, 167, 0, 89, 43]
abbrev dktX2_mustName_5 : List UInt8 := dkwX2_mustName_5 ++ dktX2_mustName_6
def dkwX2_mustName_4 : List UInt8 := [61, 167, 0, 131, 43, 18, 94, 182, 0, 71, 153, 0, 122, 5, 61, 167, 0, 117, 43, 18, 96, 182, 0, 71]
abbrev dktX2_mustName_4 : List UInt8 := dkwX2_mustName_4 ++ dktX2_mustName_5
def dkwX2_mustName_3 : List UInt8 := [43, 18, 90, 182, 0, 71, 153, 0, 150, 3, 61, 167, 0, 145, 43, 18, 92, 182, 0, 71, 153, 0, 136, 4]
abbrev dktX2_mustName_3 : List UInt8 := dkwX2_mustName_3 ++ dktX2_mustName_4
def dkwX2_mustName_2 : List UInt8 := [171, 0, 0, 0, 0, 0, 255, 0, 0, 0, 11, 236, 36, 163, 183, 0, 0, 0, 99, 0, 0, 12, 87, 0, 0, 0, 243, 0, 48, 76, 203, 0, 0, 0, 141, 0, 48, 128, 189, 0, 0, 0, 155, 5, 168, 173, 251, 0, 0, 0, 213, 5, 210, 185, 46, 0, 0, 0, 228, 5, 234, 203, 113, 0, 0, 0, 169, 6, 47, 101, 78, 0, 0, 0, 113, 6, 95, 177, 73, 0, 0, 0, 198, 61, 227, 148, 238, 0, 0, 0, 183, 75, 162, 148, 191, 0, 0, 0, 127]
abbrev dktX2_mustName_2 : List UInt8 := dkwX2_mustName_2 ++ dktX2_mustName_3
def dkwX2_mustName_1 : List UInt8 := [182, 0, 86]
abbrev dktX2_mustName_1 : List UInt8 := dkwX2_mustName_1 ++ dktX2_mustName_2
def dkwX2_mustName_0 : List UInt8 := [42, 180, 0, 47, 5, 159, 0, 9, 42, 4, 182, 0, 82, 191, 42, 180, 0, 61, 76, 2, 61, 43]
abbrev dktX2_mustName_0 : List UInt8 := dkwX2_mustName_0 ++ dktX2_mustName_1
theorem dksX2_mustName_0 : cX2_mustName.data.toList.drop 0 = dktX2_mustName_0 := by decide +kernel
theorem dksX2_mustName_1 : cX2_mustName.data.toList.drop 22 = dktX2_mustName_1 := dk_seg dksX2_mustName_0 22 rfl rfl
theorem dksX2_mustName_2 : cX2_mustName.data.toList.drop 25 = dktX2_mustName_2 := dk_seg dksX2_mustName_1 3 rfl rfl
theorem dksX2_mustName_3 : cX2_mustName.data.toList.drop 124 = dktX2_mustName_3 := dk_seg dksX2_mustName_2 99 rfl rfl
theorem dksX2_mustName_4 : cX2_mustName.data.toList.drop 148 = dktX2_mustName_4 := dk_seg dksX2_mustName_3 24 rfl rfl
theorem dksX2_mustName_5 : cX2_mustName.data.toList.drop 172 = dktX2_mustName_5 := dk_seg dksX2_mustName_4 24 rfl rfl
theorem dksX2_mustName_6 : cX2_mustName.data.toList.drop 195 = dktX2_mustName_6 := dk_seg dksX2_mustName_5 23 rfl rfl
theorem dksX2_mustName_7 : cX2_mustName.data.toList.drop 219 = dktX2_mustName_7 := dk_seg dksX2_mustName_6 24 rfl rfl
theorem dksX2_mustName_8 : cX2_mustName.data.toList.drop 241 = dktX2_mustName_8 := dk_seg dksX2_mustName_7 22 rfl rfl
theorem dksX2_mustName_9 : cX2_mustName.data.toList.drop 265 = dktX2_mustName_9 := dk_seg dksX2_mustName_8 24 rfl rfl
theorem dksX2_mustName_10 : cX2_mustName.data.toList.drop 281 = dktX2_mustName_10 := dk_seg dksX2_mustName_9 16 rfl rfl
theorem dksX2_mustName_11 : cX2_mustName.data.toList.drop 340 = dktX2_mustName_11 := dk_seg dksX2_mustName_10 59 rfl rfl
theorem dX2_mustName_0 : decode cX2_mustName 0 = .ok (.aload_n 0, 1) := dk_42 (dk_at dksX2_mustName_0 0 rfl rfl)
theorem dX2_mustName_1 : decode cX2_mustName 1 = .ok (.getfield 47, 3) := dk_180 0 47 (dk_at dksX2_mustName_0 1 rfl rfl)
theorem dX2_mustName_4 : decode cX2_mustName 4 = .ok (.iconst 2, 1) := dk_5 (dk_at dksX2_mustName_0 4 rfl rfl)
theorem dX2_mustName_5 : decode cX2_mustName 5 = .ok (.if_icmp .eq 9, 3) := dk_159 0 9 (dk_at dksX2_mustName_0 5 rfl rfl)
theorem dX2_mustName_8 : decode cX2_mustName 8 = .ok (.aload_n 0, 1) := dk_42 (dk_at dksX2_mustName_0 8 rfl rfl)
theorem dX2_mustName_9 : decode cX2_mustName 9 = .ok (.iconst 1, 1) := dk_4 (dk_at dksX2_mustName_0 9 rfl rfl)
theorem dX2_mustName_10 : decode cX2_mustName 10 = .ok (.invokevirtual 82, 3) := dk_182 0 82 (dk_at dksX2_mustName_0 10 rfl rfl)
theorem dX2_mustName_13 : decode cX2_mustName 13 = .ok (.athrow, 1) := dk_191 (dk_at dksX2_mustName_0 13 rfl rfl)
theorem dX2_mustName_14 : decode cX2_mustName 14 = .ok (.aload_n 0, 1) := dk_42 (dk_at dksX2_mustName_0 14 rfl rfl)
theorem dX2_mustName_15 : decode cX2_mustName 15 = .ok (.getfield 61, 3) := dk_180 0 61 (dk_at dksX2_mustName_0 15 rfl rfl)
theorem dX2_mustName_18 : decode cX2_mustName 18 = .ok (.astore_n 1, 1) := dk_76 (dk_at dksX2_mustName_0 18 rfl rfl)
theorem dX2_mustName_19 : decode cX2_mustName 19 = .ok (.iconst (-1), 1) := dk_2 (dk_at dksX2_mustName_0 19 rfl rfl)
theorem dX2_mustName_20 : decode cX2_mustName 20 = .ok (.istore_n 2, 1) := dk_61 (dk_at dksX2_mustName_0 20 rfl rfl)
theorem dX2_mustName_21 : decode cX2_mustName 21 = .ok (.aload_n 1, 1) := dk_43 (dk_at dksX2_mustName_0 21 rfl rfl)
theorem dX2_mustName_22 : decode cX2_mustName 22 = .ok (.invokevirtual 86, 3) := dk_182 0 86 (dk_at dksX2_mustName_1 0 rfl rfl)
theorem dX2_mustName_25 : decode cX2_mustName 25 = .ok (.lookupswitch 255 #[(-333143113, 99), (3159, 243), (3165387, 141), (3178685, 155), (94940667, 213), (97696046, 228), (99273585, 169), (103769422, 113), (106934601, 198), (1038324974, 183), (1268946111, 127)], 99) := by decide +kernel
theorem dX2_mustName_124 : decode cX2_mustName 124 = .ok (.aload_n 1, 1) := dk_43 (dk_at dksX2_mustName_3 0 rfl rfl)
theorem dX2_mustName_125 : decode cX2_mustName 125 = .ok (.ldc 90, 2) := dk_18 90 (dk_at dksX2_mustName_3 1 rfl rfl)
theorem dX2_mustName_127 : decode cX2_mustName 127 = .ok (.invokevirtual 71, 3) := dk_182 0 71 (dk_at dksX2_mustName_3 3 rfl rfl)
theorem dX2_mustName_130 : decode cX2_mustName 130 = .ok (.ifCond .eq 150, 3) := dk_153 0 150 (dk_at dksX2_mustName_3 6 rfl rfl)
theorem dX2_mustName_133 : decode cX2_mustName 133 = .ok (.iconst 0, 1) := dk_3 (dk_at dksX2_mustName_3 9 rfl rfl)
theorem dX2_mustName_134 : decode cX2_mustName 134 = .ok (.istore_n 2, 1) := dk_61 (dk_at dksX2_mustName_3 10 rfl rfl)
theorem dX2_mustName_135 : decode cX2_mustName 135 = .ok (.goto 145, 3) := dk_167 0 145 (dk_at dksX2_mustName_3 11 rfl rfl)
theorem dX2_mustName_138 : decode cX2_mustName 138 = .ok (.aload_n 1, 1) := dk_43 (dk_at dksX2_mustName_3 14 rfl rfl)
theorem dX2_mustName_139 : decode cX2_mustName 139 = .ok (.ldc 92, 2) := dk_18 92 (dk_at dksX2_mustName_3 15 rfl rfl)
theorem dX2_mustName_141 : decode cX2_mustName 141 = .ok (.invokevirtual 71, 3) := dk_182 0 71 (dk_at dksX2_mustName_3 17 rfl rfl)
theorem dX2_mustName_144 : decode cX2_mustName 144 = .ok (.ifCond .eq 136, 3) := dk_153 0 136 (dk_at dksX2_mustName_3 20 rfl rfl)
theorem dX2_mustName_147 : decode cX2_mustName 147 = .ok (.iconst 1, 1) := dk_4 (dk_at dksX2_mustName_3 23 rfl rfl)
theorem dX2_mustName_148 : decode cX2_mustName 148 = .ok (.istore_n 2, 1) := dk_61 (dk_at dksX2_mustName_4 0 rfl rfl)
theorem dX2_mustName_149 : decode cX2_mustName 149 = .ok (.goto 131, 3) := dk_167 0 131 (dk_at dksX2_mustName_4 1 rfl rfl)
theorem dX2_mustName_152 : decode cX2_mustName 152 = .ok (.aload_n 1, 1) := dk_43 (dk_at dksX2_mustName_4 4 rfl rfl)
theorem dX2_mustName_153 : decode cX2_mustName 153 = .ok (.ldc 94, 2) := dk_18 94 (dk_at dksX2_mustName_4 5 rfl rfl)
theorem dX2_mustName_155 : decode cX2_mustName 155 = .ok (.invokevirtual 71, 3) := dk_182 0 71 (dk_at dksX2_mustName_4 7 rfl rfl)
theorem dX2_mustName_158 : decode cX2_mustName 158 = .ok (.ifCond .eq 122, 3) := dk_153 0 122 (dk_at dksX2_mustName_4 10 rfl rfl)
theorem dX2_mustName_161 : decode cX2_mustName 161 = .ok (.iconst 2, 1) := dk_5 (dk_at dksX2_mustName_4 13 rfl rfl)
theorem dX2_mustName_162 : decode cX2_mustName 162 = .ok (.istore_n 2, 1) := dk_61 (dk_at dksX2_mustName_4 14 rfl rfl)
theorem dX2_mustName_163 : decode cX2_mustName 163 = .ok (.goto 117, 3) := dk_167 0 117 (dk_at dksX2_mustName_4 15 rfl rfl)
theorem dX2_mustName_166 : decode cX2_mustName 166 = .ok (.aload_n 1, 1) := dk_43 (dk_at dksX2_mustName_4 18 rfl rfl)
theorem dX2_mustName_167 : decode cX2_mustName 167 = .ok (.ldc 96, 2) := dk_18 96 (dk_at dksX2_mustName_4 19 rfl rfl)
theorem dX2_mustName_169 : decode cX2_mustName 169 = .ok (.invokevirtual 71, 3) := dk_182 0 71 (dk_at dksX2_mustName_4 21 rfl rfl)
theorem dX2_mustName_172 : decode cX2_mustName 172 = .ok (.ifCond .eq 108, 3) := dk_153 0 108 (dk_at dksX2_mustName_5 0 rfl rfl)
theorem dX2_mustName_175 : decode cX2_mustName 175 = .ok (.iconst 3, 1) := dk_6 (dk_at dksX2_mustName_5 3 rfl rfl)
theorem dX2_mustName_176 : decode cX2_mustName 176 = .ok (.istore_n 2, 1) := dk_61 (dk_at dksX2_mustName_5 4 rfl rfl)
theorem dX2_mustName_177 : decode cX2_mustName 177 = .ok (.goto 103, 3) := dk_167 0 103 (dk_at dksX2_mustName_5 5 rfl rfl)
theorem dX2_mustName_180 : decode cX2_mustName 180 = .ok (.aload_n 1, 1) := dk_43 (dk_at dksX2_mustName_5 8 rfl rfl)
theorem dX2_mustName_181 : decode cX2_mustName 181 = .ok (.ldc 98, 2) := dk_18 98 (dk_at dksX2_mustName_5 9 rfl rfl)
theorem dX2_mustName_183 : decode cX2_mustName 183 = .ok (.invokevirtual 71, 3) := dk_182 0 71 (dk_at dksX2_mustName_5 11 rfl rfl)
theorem dX2_mustName_186 : decode cX2_mustName 186 = .ok (.ifCond .eq 94, 3) := dk_153 0 94 (dk_at dksX2_mustName_5 14 rfl rfl)
theorem dX2_mustName_189 : decode cX2_mustName 189 = .ok (.iconst 4, 1) := dk_7 (dk_at dksX2_mustName_5 17 rfl rfl)
theorem dX2_mustName_190 : decode cX2_mustName 190 = .ok (.istore_n 2, 1) := dk_61 (dk_at dksX2_mustName_5 18 rfl rfl)
theorem dX2_mustName_191 : decode cX2_mustName 191 = .ok (.goto 89, 3) := dk_167 0 89 (dk_at dksX2_mustName_5 19 rfl rfl)
theorem dX2_mustName_194 : decode cX2_mustName 194 = .ok (.aload_n 1, 1) := dk_43 (dk_at dksX2_mustName_5 22 rfl rfl)
theorem dX2_mustName_195 : decode cX2_mustName 195 = .ok (.ldc 100, 2) := dk_18 100 (dk_at dksX2_mustName_6 0 rfl rfl)
theorem dX2_mustName_197 : decode cX2_mustName 197 = .ok (.invokevirtual 71, 3) := dk_182 0 71 (dk_at dksX2_mustName_6 2 rfl rfl)
theorem dX2_mustName_200 : decode cX2_mustName 200 = .ok (.ifCond .eq 80, 3) := dk_153 0 80 (dk_at dksX2_mustName_6 5 rfl rfl)
theorem dX2_mustName_203 : decode cX2_mustName 203 = .ok (.iconst 5, 1) := dk_8 (dk_at dksX2_mustName_6 8 rfl rfl)
theorem dX2_mustName_204 : decode cX2_mustName 204 = .ok (.istore_n 2, 1) := dk_61 (dk_at dksX2_mustName_6 9 rfl rfl)
theorem dX2_mustName_205 : decode cX2_mustName 205 = .ok (.goto 75, 3) := dk_167 0 75 (dk_at dksX2_mustName_6 10 rfl rfl)
theorem dX2_mustName_208 : decode cX2_mustName 208 = .ok (.aload_n 1, 1) := dk_43 (dk_at dksX2_mustName_6 13 rfl rfl)
theorem dX2_mustName_209 : decode cX2_mustName 209 = .ok (.ldc 102, 2) := dk_18 102 (dk_at dksX2_mustName_6 14 rfl rfl)
theorem dX2_mustName_211 : decode cX2_mustName 211 = .ok (.invokevirtual 71, 3) := dk_182 0 71 (dk_at dksX2_mustName_6 16 rfl rfl)
theorem dX2_mustName_214 : decode cX2_mustName 214 = .ok (.ifCond .eq 66, 3) := dk_153 0 66 (dk_at dksX2_mustName_6 19 rfl rfl)
theorem dX2_mustName_217 : decode cX2_mustName 217 = .ok (.bipush 6, 2) := dk_16 6 (dk_at dksX2_mustName_6 22 rfl rfl)
theorem dX2_mustName_219 : decode cX2_mustName 219 = .ok (.istore_n 2, 1) := dk_61 (dk_at dksX2_mustName_7 0 rfl rfl)
theorem dX2_mustName_220 : decode cX2_mustName 220 = .ok (.goto 60, 3) := dk_167 0 60 (dk_at dksX2_mustName_7 1 rfl rfl)
theorem dX2_mustName_223 : decode cX2_mustName 223 = .ok (.aload_n 1, 1) := dk_43 (dk_at dksX2_mustName_7 4 rfl rfl)
theorem dX2_mustName_224 : decode cX2_mustName 224 = .ok (.ldc 104, 2) := dk_18 104 (dk_at dksX2_mustName_7 5 rfl rfl)
theorem dX2_mustName_226 : decode cX2_mustName 226 = .ok (.invokevirtual 71, 3) := dk_182 0 71 (dk_at dksX2_mustName_7 7 rfl rfl)
theorem dX2_mustName_229 : decode cX2_mustName 229 = .ok (.ifCond .eq 51, 3) := dk_153 0 51 (dk_at dksX2_mustName_7 10 rfl rfl)
theorem dX2_mustName_232 : decode cX2_mustName 232 = .ok (.bipush 7, 2) := dk_16 7 (dk_at dksX2_mustName_7 13 rfl rfl)
theorem dX2_mustName_234 : decode cX2_mustName 234 = .ok (.istore_n 2, 1) := dk_61 (dk_at dksX2_mustName_7 15 rfl rfl)
theorem dX2_mustName_235 : decode cX2_mustName 235 = .ok (.goto 45, 3) := dk_167 0 45 (dk_at dksX2_mustName_7 16 rfl rfl)
theorem dX2_mustName_238 : decode cX2_mustName 238 = .ok (.aload_n 1, 1) := dk_43 (dk_at dksX2_mustName_7 19 rfl rfl)
theorem dX2_mustName_239 : decode cX2_mustName 239 = .ok (.ldc 106, 2) := dk_18 106 (dk_at dksX2_mustName_7 20 rfl rfl)
theorem dX2_mustName_241 : decode cX2_mustName 241 = .ok (.invokevirtual 71, 3) := dk_182 0 71 (dk_at dksX2_mustName_8 0 rfl rfl)
theorem dX2_mustName_244 : decode cX2_mustName 244 = .ok (.ifCond .eq 36, 3) := dk_153 0 36 (dk_at dksX2_mustName_8 3 rfl rfl)
theorem dX2_mustName_247 : decode cX2_mustName 247 = .ok (.bipush 8, 2) := dk_16 8 (dk_at dksX2_mustName_8 6 rfl rfl)
theorem dX2_mustName_249 : decode cX2_mustName 249 = .ok (.istore_n 2, 1) := dk_61 (dk_at dksX2_mustName_8 8 rfl rfl)
theorem dX2_mustName_250 : decode cX2_mustName 250 = .ok (.goto 30, 3) := dk_167 0 30 (dk_at dksX2_mustName_8 9 rfl rfl)
theorem dX2_mustName_253 : decode cX2_mustName 253 = .ok (.aload_n 1, 1) := dk_43 (dk_at dksX2_mustName_8 12 rfl rfl)
theorem dX2_mustName_254 : decode cX2_mustName 254 = .ok (.ldc 108, 2) := dk_18 108 (dk_at dksX2_mustName_8 13 rfl rfl)
theorem dX2_mustName_256 : decode cX2_mustName 256 = .ok (.invokevirtual 71, 3) := dk_182 0 71 (dk_at dksX2_mustName_8 15 rfl rfl)
theorem dX2_mustName_259 : decode cX2_mustName 259 = .ok (.ifCond .eq 21, 3) := dk_153 0 21 (dk_at dksX2_mustName_8 18 rfl rfl)
theorem dX2_mustName_262 : decode cX2_mustName 262 = .ok (.bipush 9, 2) := dk_16 9 (dk_at dksX2_mustName_8 21 rfl rfl)
theorem dX2_mustName_264 : decode cX2_mustName 264 = .ok (.istore_n 2, 1) := dk_61 (dk_at dksX2_mustName_8 23 rfl rfl)
theorem dX2_mustName_265 : decode cX2_mustName 265 = .ok (.goto 15, 3) := dk_167 0 15 (dk_at dksX2_mustName_9 0 rfl rfl)
theorem dX2_mustName_268 : decode cX2_mustName 268 = .ok (.aload_n 1, 1) := dk_43 (dk_at dksX2_mustName_9 3 rfl rfl)
theorem dX2_mustName_269 : decode cX2_mustName 269 = .ok (.ldc 110, 2) := dk_18 110 (dk_at dksX2_mustName_9 4 rfl rfl)
theorem dX2_mustName_271 : decode cX2_mustName 271 = .ok (.invokevirtual 71, 3) := dk_182 0 71 (dk_at dksX2_mustName_9 6 rfl rfl)
theorem dX2_mustName_274 : decode cX2_mustName 274 = .ok (.ifCond .eq 6, 3) := dk_153 0 6 (dk_at dksX2_mustName_9 9 rfl rfl)
theorem dX2_mustName_277 : decode cX2_mustName 277 = .ok (.bipush 10, 2) := dk_16 10 (dk_at dksX2_mustName_9 12 rfl rfl)
theorem dX2_mustName_279 : decode cX2_mustName 279 = .ok (.istore_n 2, 1) := dk_61 (dk_at dksX2_mustName_9 14 rfl rfl)
theorem dX2_mustName_280 : decode cX2_mustName 280 = .ok (.iload_n 2, 1) := dk_28 (dk_at dksX2_mustName_9 15 rfl rfl)
theorem dX2_mustName_281 : decode cX2_mustName 281 = .ok (.tableswitch 65 0 10 #[59, 59, 59, 59, 59, 59, 59, 59, 59, 59, 59], 59) := by decide +kernel
theorem dX2_mustName_340 : decode cX2_mustName 340 = .ok (.aload_n 0, 1) := dk_42 (dk_at dksX2_mustName_11 0 rfl rfl)
theorem dX2_mustName_341 : decode cX2_mustName 341 = .ok (.iconst 1, 1) := dk_4 (dk_at dksX2_mustName_11 1 rfl rfl)
theorem dX2_mustName_342 : decode cX2_mustName 342 = .ok (.invokevirtual 82, 3) := dk_182 0 82 (dk_at dksX2_mustName_11 2 rfl rfl)
theorem dX2_mustName_345 : decode cX2_mustName 345 = .ok (.athrow, 1) := dk_191 (dk_at dksX2_mustName_11 5 rfl rfl)
theorem dX2_mustName_346 : decode cX2_mustName 346 = .ok (.return_, 1) := dk_177 (dk_at dksX2_mustName_11 6 rfl rfl)
abbrev cX2_travellerLine : ByteArray := prog_22_method_23_code
def yX2_travellerLine : MethodName := ⟨RX2, "travellerLine", "()V"⟩
def dkwX2_travellerLine_4 : List UInt8 := [181, 0, 158, 177]
abbrev dktX2_travellerLine_4 : List UInt8 := dkwX2_travellerLine_4 ++ []
def dkwX2_travellerLine_3 : List UInt8 := [180, 0, 237, 42, 180, 0, 115, 180, 0, 158, 43, 83, 42, 180, 0, 115, 89, 180, 0, 158, 4, 96]
abbrev dktX2_travellerLine_3 : List UInt8 := dkwX2_travellerLine_3 ++ dktX2_travellerLine_4
def dkwX2_travellerLine_2 : List UInt8 := [182, 0, 188, 181, 0, 231, 43, 42, 18, 233, 3, 6, 182, 0, 188, 181, 0, 235, 42, 180, 0, 115]
abbrev dktX2_travellerLine_2 : List UInt8 := dkwX2_travellerLine_2 ++ dktX2_travellerLine_3
def dkwX2_travellerLine_1 : List UInt8 := [42, 182, 0, 205, 42, 180, 0, 115, 180, 0, 158, 183, 0, 228, 76, 43, 42, 18, 229, 3, 16, 99]
abbrev dktX2_travellerLine_1 : List UInt8 := dkwX2_travellerLine_1 ++ dktX2_travellerLine_2
def dkwX2_travellerLine_0 : List UInt8 := [42, 42, 180, 0, 115, 180, 0, 158, 7, 162, 0, 7, 4, 167, 0, 4, 3, 182, 0, 201, 187, 0, 134, 89]
abbrev dktX2_travellerLine_0 : List UInt8 := dkwX2_travellerLine_0 ++ dktX2_travellerLine_1
theorem dksX2_travellerLine_0 : cX2_travellerLine.data.toList.drop 0 = dktX2_travellerLine_0 := by decide +kernel
theorem dksX2_travellerLine_1 : cX2_travellerLine.data.toList.drop 24 = dktX2_travellerLine_1 := dk_seg dksX2_travellerLine_0 24 rfl rfl
theorem dksX2_travellerLine_2 : cX2_travellerLine.data.toList.drop 46 = dktX2_travellerLine_2 := dk_seg dksX2_travellerLine_1 22 rfl rfl
theorem dksX2_travellerLine_3 : cX2_travellerLine.data.toList.drop 68 = dktX2_travellerLine_3 := dk_seg dksX2_travellerLine_2 22 rfl rfl
theorem dksX2_travellerLine_4 : cX2_travellerLine.data.toList.drop 90 = dktX2_travellerLine_4 := dk_seg dksX2_travellerLine_3 22 rfl rfl
theorem dX2_travellerLine_0 : decode cX2_travellerLine 0 = .ok (.aload_n 0, 1) := dk_42 (dk_at dksX2_travellerLine_0 0 rfl rfl)
theorem dX2_travellerLine_1 : decode cX2_travellerLine 1 = .ok (.aload_n 0, 1) := dk_42 (dk_at dksX2_travellerLine_0 1 rfl rfl)
theorem dX2_travellerLine_2 : decode cX2_travellerLine 2 = .ok (.getfield 115, 3) := dk_180 0 115 (dk_at dksX2_travellerLine_0 2 rfl rfl)
theorem dX2_travellerLine_5 : decode cX2_travellerLine 5 = .ok (.getfield 158, 3) := dk_180 0 158 (dk_at dksX2_travellerLine_0 5 rfl rfl)
theorem dX2_travellerLine_8 : decode cX2_travellerLine 8 = .ok (.iconst 4, 1) := dk_7 (dk_at dksX2_travellerLine_0 8 rfl rfl)
theorem dX2_travellerLine_9 : decode cX2_travellerLine 9 = .ok (.if_icmp .ge 7, 3) := dk_162 0 7 (dk_at dksX2_travellerLine_0 9 rfl rfl)
theorem dX2_travellerLine_12 : decode cX2_travellerLine 12 = .ok (.iconst 1, 1) := dk_4 (dk_at dksX2_travellerLine_0 12 rfl rfl)
theorem dX2_travellerLine_13 : decode cX2_travellerLine 13 = .ok (.goto 4, 3) := dk_167 0 4 (dk_at dksX2_travellerLine_0 13 rfl rfl)
theorem dX2_travellerLine_16 : decode cX2_travellerLine 16 = .ok (.iconst 0, 1) := dk_3 (dk_at dksX2_travellerLine_0 16 rfl rfl)
theorem dX2_travellerLine_17 : decode cX2_travellerLine 17 = .ok (.invokevirtual 201, 3) := dk_182 0 201 (dk_at dksX2_travellerLine_0 17 rfl rfl)
theorem dX2_travellerLine_20 : decode cX2_travellerLine 20 = .ok (.new 134, 3) := dk_187 0 134 (dk_at dksX2_travellerLine_0 20 rfl rfl)
theorem dX2_travellerLine_23 : decode cX2_travellerLine 23 = .ok (.dup, 1) := dk_89 (dk_at dksX2_travellerLine_0 23 rfl rfl)
theorem dX2_travellerLine_24 : decode cX2_travellerLine 24 = .ok (.aload_n 0, 1) := dk_42 (dk_at dksX2_travellerLine_1 0 rfl rfl)
theorem dX2_travellerLine_25 : decode cX2_travellerLine 25 = .ok (.invokevirtual 205, 3) := dk_182 0 205 (dk_at dksX2_travellerLine_1 1 rfl rfl)
theorem dX2_travellerLine_28 : decode cX2_travellerLine 28 = .ok (.aload_n 0, 1) := dk_42 (dk_at dksX2_travellerLine_1 4 rfl rfl)
theorem dX2_travellerLine_29 : decode cX2_travellerLine 29 = .ok (.getfield 115, 3) := dk_180 0 115 (dk_at dksX2_travellerLine_1 5 rfl rfl)
theorem dX2_travellerLine_32 : decode cX2_travellerLine 32 = .ok (.getfield 158, 3) := dk_180 0 158 (dk_at dksX2_travellerLine_1 8 rfl rfl)
theorem dX2_travellerLine_35 : decode cX2_travellerLine 35 = .ok (.invokespecial 228, 3) := dk_183 0 228 (dk_at dksX2_travellerLine_1 11 rfl rfl)
theorem dX2_travellerLine_38 : decode cX2_travellerLine 38 = .ok (.astore_n 1, 1) := dk_76 (dk_at dksX2_travellerLine_1 14 rfl rfl)
theorem dX2_travellerLine_39 : decode cX2_travellerLine 39 = .ok (.aload_n 1, 1) := dk_43 (dk_at dksX2_travellerLine_1 15 rfl rfl)
theorem dX2_travellerLine_40 : decode cX2_travellerLine 40 = .ok (.aload_n 0, 1) := dk_42 (dk_at dksX2_travellerLine_1 16 rfl rfl)
theorem dX2_travellerLine_41 : decode cX2_travellerLine 41 = .ok (.ldc 229, 2) := dk_18 229 (dk_at dksX2_travellerLine_1 17 rfl rfl)
theorem dX2_travellerLine_43 : decode cX2_travellerLine 43 = .ok (.iconst 0, 1) := dk_3 (dk_at dksX2_travellerLine_1 19 rfl rfl)
theorem dX2_travellerLine_44 : decode cX2_travellerLine 44 = .ok (.bipush 99, 2) := dk_16 99 (dk_at dksX2_travellerLine_1 20 rfl rfl)
theorem dX2_travellerLine_46 : decode cX2_travellerLine 46 = .ok (.invokevirtual 188, 3) := dk_182 0 188 (dk_at dksX2_travellerLine_2 0 rfl rfl)
theorem dX2_travellerLine_49 : decode cX2_travellerLine 49 = .ok (.putfield 231, 3) := dk_181 0 231 (dk_at dksX2_travellerLine_2 3 rfl rfl)
theorem dX2_travellerLine_52 : decode cX2_travellerLine 52 = .ok (.aload_n 1, 1) := dk_43 (dk_at dksX2_travellerLine_2 6 rfl rfl)
theorem dX2_travellerLine_53 : decode cX2_travellerLine 53 = .ok (.aload_n 0, 1) := dk_42 (dk_at dksX2_travellerLine_2 7 rfl rfl)
theorem dX2_travellerLine_54 : decode cX2_travellerLine 54 = .ok (.ldc 233, 2) := dk_18 233 (dk_at dksX2_travellerLine_2 8 rfl rfl)
theorem dX2_travellerLine_56 : decode cX2_travellerLine 56 = .ok (.iconst 0, 1) := dk_3 (dk_at dksX2_travellerLine_2 10 rfl rfl)
theorem dX2_travellerLine_57 : decode cX2_travellerLine 57 = .ok (.iconst 3, 1) := dk_6 (dk_at dksX2_travellerLine_2 11 rfl rfl)
theorem dX2_travellerLine_58 : decode cX2_travellerLine 58 = .ok (.invokevirtual 188, 3) := dk_182 0 188 (dk_at dksX2_travellerLine_2 12 rfl rfl)
theorem dX2_travellerLine_61 : decode cX2_travellerLine 61 = .ok (.putfield 235, 3) := dk_181 0 235 (dk_at dksX2_travellerLine_2 15 rfl rfl)
theorem dX2_travellerLine_64 : decode cX2_travellerLine 64 = .ok (.aload_n 0, 1) := dk_42 (dk_at dksX2_travellerLine_2 18 rfl rfl)
theorem dX2_travellerLine_65 : decode cX2_travellerLine 65 = .ok (.getfield 115, 3) := dk_180 0 115 (dk_at dksX2_travellerLine_2 19 rfl rfl)
theorem dX2_travellerLine_68 : decode cX2_travellerLine 68 = .ok (.getfield 237, 3) := dk_180 0 237 (dk_at dksX2_travellerLine_3 0 rfl rfl)
theorem dX2_travellerLine_71 : decode cX2_travellerLine 71 = .ok (.aload_n 0, 1) := dk_42 (dk_at dksX2_travellerLine_3 3 rfl rfl)
theorem dX2_travellerLine_72 : decode cX2_travellerLine 72 = .ok (.getfield 115, 3) := dk_180 0 115 (dk_at dksX2_travellerLine_3 4 rfl rfl)
theorem dX2_travellerLine_75 : decode cX2_travellerLine 75 = .ok (.getfield 158, 3) := dk_180 0 158 (dk_at dksX2_travellerLine_3 7 rfl rfl)
theorem dX2_travellerLine_78 : decode cX2_travellerLine 78 = .ok (.aload_n 1, 1) := dk_43 (dk_at dksX2_travellerLine_3 10 rfl rfl)
theorem dX2_travellerLine_79 : decode cX2_travellerLine 79 = .ok (.aastore, 1) := dk_83 (dk_at dksX2_travellerLine_3 11 rfl rfl)
theorem dX2_travellerLine_80 : decode cX2_travellerLine 80 = .ok (.aload_n 0, 1) := dk_42 (dk_at dksX2_travellerLine_3 12 rfl rfl)
theorem dX2_travellerLine_81 : decode cX2_travellerLine 81 = .ok (.getfield 115, 3) := dk_180 0 115 (dk_at dksX2_travellerLine_3 13 rfl rfl)
theorem dX2_travellerLine_84 : decode cX2_travellerLine 84 = .ok (.dup, 1) := dk_89 (dk_at dksX2_travellerLine_3 16 rfl rfl)
theorem dX2_travellerLine_85 : decode cX2_travellerLine 85 = .ok (.getfield 158, 3) := dk_180 0 158 (dk_at dksX2_travellerLine_3 17 rfl rfl)
theorem dX2_travellerLine_88 : decode cX2_travellerLine 88 = .ok (.iconst 1, 1) := dk_4 (dk_at dksX2_travellerLine_3 20 rfl rfl)
theorem dX2_travellerLine_89 : decode cX2_travellerLine 89 = .ok (.iadd, 1) := dk_96 (dk_at dksX2_travellerLine_3 21 rfl rfl)
theorem dX2_travellerLine_90 : decode cX2_travellerLine 90 = .ok (.putfield 158, 3) := dk_181 0 158 (dk_at dksX2_travellerLine_4 0 rfl rfl)
theorem dX2_travellerLine_93 : decode cX2_travellerLine 93 = .ok (.return_, 1) := dk_177 (dk_at dksX2_travellerLine_4 3 rfl rfl)
abbrev cX2_gateLine : ByteArray := prog_22_method_24_code
def yX2_gateLine : MethodName := ⟨RX2, "gateLine", "()V"⟩
def dkwX2_gateLine_4 : List UInt8 := [180, 0, 161, 43, 83, 42, 180, 0, 115, 89, 180, 0, 161, 4, 96, 181, 0, 161, 177]
abbrev dktX2_gateLine_4 : List UInt8 := dkwX2_gateLine_4 ++ []
def dkwX2_gateLine_3 : List UInt8 := [180, 0, 248, 16, 23, 182, 0, 188, 181, 0, 252, 42, 180, 0, 115, 180, 0, 254, 42, 180, 0, 115]
abbrev dktX2_gateLine_3 : List UInt8 := dkwX2_gateLine_3 ++ dktX2_gateLine_4
def dkwX2_gateLine_2 : List UInt8 := [182, 0, 188, 181, 0, 244, 43, 42, 18, 246, 3, 16, 23, 182, 0, 188, 181, 0, 248, 43, 42, 18, 250, 43]
abbrev dktX2_gateLine_2 : List UInt8 := dkwX2_gateLine_2 ++ dktX2_gateLine_3
def dkwX2_gateLine_1 : List UInt8 := [42, 182, 0, 205, 42, 180, 0, 115, 180, 0, 161, 183, 0, 241, 76, 43, 42, 18, 242, 4, 16, 99]
abbrev dktX2_gateLine_1 : List UInt8 := dkwX2_gateLine_1 ++ dktX2_gateLine_2
def dkwX2_gateLine_0 : List UInt8 := [42, 42, 180, 0, 115, 180, 0, 161, 6, 162, 0, 7, 4, 167, 0, 4, 3, 182, 0, 201, 187, 0, 141, 89]
abbrev dktX2_gateLine_0 : List UInt8 := dkwX2_gateLine_0 ++ dktX2_gateLine_1
theorem dksX2_gateLine_0 : cX2_gateLine.data.toList.drop 0 = dktX2_gateLine_0 := by decide +kernel
theorem dksX2_gateLine_1 : cX2_gateLine.data.toList.drop 24 = dktX2_gateLine_1 := dk_seg dksX2_gateLine_0 24 rfl rfl
theorem dksX2_gateLine_2 : cX2_gateLine.data.toList.drop 46 = dktX2_gateLine_2 := dk_seg dksX2_gateLine_1 22 rfl rfl
theorem dksX2_gateLine_3 : cX2_gateLine.data.toList.drop 70 = dktX2_gateLine_3 := dk_seg dksX2_gateLine_2 24 rfl rfl
theorem dksX2_gateLine_4 : cX2_gateLine.data.toList.drop 92 = dktX2_gateLine_4 := dk_seg dksX2_gateLine_3 22 rfl rfl
theorem dX2_gateLine_0 : decode cX2_gateLine 0 = .ok (.aload_n 0, 1) := dk_42 (dk_at dksX2_gateLine_0 0 rfl rfl)
theorem dX2_gateLine_1 : decode cX2_gateLine 1 = .ok (.aload_n 0, 1) := dk_42 (dk_at dksX2_gateLine_0 1 rfl rfl)
theorem dX2_gateLine_2 : decode cX2_gateLine 2 = .ok (.getfield 115, 3) := dk_180 0 115 (dk_at dksX2_gateLine_0 2 rfl rfl)
theorem dX2_gateLine_5 : decode cX2_gateLine 5 = .ok (.getfield 161, 3) := dk_180 0 161 (dk_at dksX2_gateLine_0 5 rfl rfl)
theorem dX2_gateLine_8 : decode cX2_gateLine 8 = .ok (.iconst 3, 1) := dk_6 (dk_at dksX2_gateLine_0 8 rfl rfl)
theorem dX2_gateLine_9 : decode cX2_gateLine 9 = .ok (.if_icmp .ge 7, 3) := dk_162 0 7 (dk_at dksX2_gateLine_0 9 rfl rfl)
theorem dX2_gateLine_12 : decode cX2_gateLine 12 = .ok (.iconst 1, 1) := dk_4 (dk_at dksX2_gateLine_0 12 rfl rfl)
theorem dX2_gateLine_13 : decode cX2_gateLine 13 = .ok (.goto 4, 3) := dk_167 0 4 (dk_at dksX2_gateLine_0 13 rfl rfl)
theorem dX2_gateLine_16 : decode cX2_gateLine 16 = .ok (.iconst 0, 1) := dk_3 (dk_at dksX2_gateLine_0 16 rfl rfl)
theorem dX2_gateLine_17 : decode cX2_gateLine 17 = .ok (.invokevirtual 201, 3) := dk_182 0 201 (dk_at dksX2_gateLine_0 17 rfl rfl)
theorem dX2_gateLine_20 : decode cX2_gateLine 20 = .ok (.new 141, 3) := dk_187 0 141 (dk_at dksX2_gateLine_0 20 rfl rfl)
theorem dX2_gateLine_23 : decode cX2_gateLine 23 = .ok (.dup, 1) := dk_89 (dk_at dksX2_gateLine_0 23 rfl rfl)
theorem dX2_gateLine_24 : decode cX2_gateLine 24 = .ok (.aload_n 0, 1) := dk_42 (dk_at dksX2_gateLine_1 0 rfl rfl)
theorem dX2_gateLine_25 : decode cX2_gateLine 25 = .ok (.invokevirtual 205, 3) := dk_182 0 205 (dk_at dksX2_gateLine_1 1 rfl rfl)
theorem dX2_gateLine_28 : decode cX2_gateLine 28 = .ok (.aload_n 0, 1) := dk_42 (dk_at dksX2_gateLine_1 4 rfl rfl)
theorem dX2_gateLine_29 : decode cX2_gateLine 29 = .ok (.getfield 115, 3) := dk_180 0 115 (dk_at dksX2_gateLine_1 5 rfl rfl)
theorem dX2_gateLine_32 : decode cX2_gateLine 32 = .ok (.getfield 161, 3) := dk_180 0 161 (dk_at dksX2_gateLine_1 8 rfl rfl)
theorem dX2_gateLine_35 : decode cX2_gateLine 35 = .ok (.invokespecial 241, 3) := dk_183 0 241 (dk_at dksX2_gateLine_1 11 rfl rfl)
theorem dX2_gateLine_38 : decode cX2_gateLine 38 = .ok (.astore_n 1, 1) := dk_76 (dk_at dksX2_gateLine_1 14 rfl rfl)
theorem dX2_gateLine_39 : decode cX2_gateLine 39 = .ok (.aload_n 1, 1) := dk_43 (dk_at dksX2_gateLine_1 15 rfl rfl)
theorem dX2_gateLine_40 : decode cX2_gateLine 40 = .ok (.aload_n 0, 1) := dk_42 (dk_at dksX2_gateLine_1 16 rfl rfl)
theorem dX2_gateLine_41 : decode cX2_gateLine 41 = .ok (.ldc 242, 2) := dk_18 242 (dk_at dksX2_gateLine_1 17 rfl rfl)
theorem dX2_gateLine_43 : decode cX2_gateLine 43 = .ok (.iconst 1, 1) := dk_4 (dk_at dksX2_gateLine_1 19 rfl rfl)
theorem dX2_gateLine_44 : decode cX2_gateLine 44 = .ok (.bipush 99, 2) := dk_16 99 (dk_at dksX2_gateLine_1 20 rfl rfl)
theorem dX2_gateLine_46 : decode cX2_gateLine 46 = .ok (.invokevirtual 188, 3) := dk_182 0 188 (dk_at dksX2_gateLine_2 0 rfl rfl)
theorem dX2_gateLine_49 : decode cX2_gateLine 49 = .ok (.putfield 244, 3) := dk_181 0 244 (dk_at dksX2_gateLine_2 3 rfl rfl)
theorem dX2_gateLine_52 : decode cX2_gateLine 52 = .ok (.aload_n 1, 1) := dk_43 (dk_at dksX2_gateLine_2 6 rfl rfl)
theorem dX2_gateLine_53 : decode cX2_gateLine 53 = .ok (.aload_n 0, 1) := dk_42 (dk_at dksX2_gateLine_2 7 rfl rfl)
theorem dX2_gateLine_54 : decode cX2_gateLine 54 = .ok (.ldc 246, 2) := dk_18 246 (dk_at dksX2_gateLine_2 8 rfl rfl)
theorem dX2_gateLine_56 : decode cX2_gateLine 56 = .ok (.iconst 0, 1) := dk_3 (dk_at dksX2_gateLine_2 10 rfl rfl)
theorem dX2_gateLine_57 : decode cX2_gateLine 57 = .ok (.bipush 23, 2) := dk_16 23 (dk_at dksX2_gateLine_2 11 rfl rfl)
theorem dX2_gateLine_59 : decode cX2_gateLine 59 = .ok (.invokevirtual 188, 3) := dk_182 0 188 (dk_at dksX2_gateLine_2 13 rfl rfl)
theorem dX2_gateLine_62 : decode cX2_gateLine 62 = .ok (.putfield 248, 3) := dk_181 0 248 (dk_at dksX2_gateLine_2 16 rfl rfl)
theorem dX2_gateLine_65 : decode cX2_gateLine 65 = .ok (.aload_n 1, 1) := dk_43 (dk_at dksX2_gateLine_2 19 rfl rfl)
theorem dX2_gateLine_66 : decode cX2_gateLine 66 = .ok (.aload_n 0, 1) := dk_42 (dk_at dksX2_gateLine_2 20 rfl rfl)
theorem dX2_gateLine_67 : decode cX2_gateLine 67 = .ok (.ldc 250, 2) := dk_18 250 (dk_at dksX2_gateLine_2 21 rfl rfl)
theorem dX2_gateLine_69 : decode cX2_gateLine 69 = .ok (.aload_n 1, 1) := dk_43 (dk_at dksX2_gateLine_2 23 rfl rfl)
theorem dX2_gateLine_70 : decode cX2_gateLine 70 = .ok (.getfield 248, 3) := dk_180 0 248 (dk_at dksX2_gateLine_3 0 rfl rfl)
theorem dX2_gateLine_73 : decode cX2_gateLine 73 = .ok (.bipush 23, 2) := dk_16 23 (dk_at dksX2_gateLine_3 3 rfl rfl)
theorem dX2_gateLine_75 : decode cX2_gateLine 75 = .ok (.invokevirtual 188, 3) := dk_182 0 188 (dk_at dksX2_gateLine_3 5 rfl rfl)
theorem dX2_gateLine_78 : decode cX2_gateLine 78 = .ok (.putfield 252, 3) := dk_181 0 252 (dk_at dksX2_gateLine_3 8 rfl rfl)
theorem dX2_gateLine_81 : decode cX2_gateLine 81 = .ok (.aload_n 0, 1) := dk_42 (dk_at dksX2_gateLine_3 11 rfl rfl)
theorem dX2_gateLine_82 : decode cX2_gateLine 82 = .ok (.getfield 115, 3) := dk_180 0 115 (dk_at dksX2_gateLine_3 12 rfl rfl)
theorem dX2_gateLine_85 : decode cX2_gateLine 85 = .ok (.getfield 254, 3) := dk_180 0 254 (dk_at dksX2_gateLine_3 15 rfl rfl)
theorem dX2_gateLine_88 : decode cX2_gateLine 88 = .ok (.aload_n 0, 1) := dk_42 (dk_at dksX2_gateLine_3 18 rfl rfl)
theorem dX2_gateLine_89 : decode cX2_gateLine 89 = .ok (.getfield 115, 3) := dk_180 0 115 (dk_at dksX2_gateLine_3 19 rfl rfl)
theorem dX2_gateLine_92 : decode cX2_gateLine 92 = .ok (.getfield 161, 3) := dk_180 0 161 (dk_at dksX2_gateLine_4 0 rfl rfl)
theorem dX2_gateLine_95 : decode cX2_gateLine 95 = .ok (.aload_n 1, 1) := dk_43 (dk_at dksX2_gateLine_4 3 rfl rfl)
theorem dX2_gateLine_96 : decode cX2_gateLine 96 = .ok (.aastore, 1) := dk_83 (dk_at dksX2_gateLine_4 4 rfl rfl)
theorem dX2_gateLine_97 : decode cX2_gateLine 97 = .ok (.aload_n 0, 1) := dk_42 (dk_at dksX2_gateLine_4 5 rfl rfl)
theorem dX2_gateLine_98 : decode cX2_gateLine 98 = .ok (.getfield 115, 3) := dk_180 0 115 (dk_at dksX2_gateLine_4 6 rfl rfl)
theorem dX2_gateLine_101 : decode cX2_gateLine 101 = .ok (.dup, 1) := dk_89 (dk_at dksX2_gateLine_4 9 rfl rfl)
theorem dX2_gateLine_102 : decode cX2_gateLine 102 = .ok (.getfield 161, 3) := dk_180 0 161 (dk_at dksX2_gateLine_4 10 rfl rfl)
theorem dX2_gateLine_105 : decode cX2_gateLine 105 = .ok (.iconst 1, 1) := dk_4 (dk_at dksX2_gateLine_4 13 rfl rfl)
theorem dX2_gateLine_106 : decode cX2_gateLine 106 = .ok (.iadd, 1) := dk_96 (dk_at dksX2_gateLine_4 14 rfl rfl)
theorem dX2_gateLine_107 : decode cX2_gateLine 107 = .ok (.putfield 161, 3) := dk_181 0 161 (dk_at dksX2_gateLine_4 15 rfl rfl)
theorem dX2_gateLine_110 : decode cX2_gateLine 110 = .ok (.return_, 1) := dk_177 (dk_at dksX2_gateLine_4 18 rfl rfl)
abbrev cX2_good : ByteArray := prog_22_method_27_code
def yX2_good : MethodName := ⟨RX2, "good", "()V"⟩
def dkwX2_good_4 : List UInt8 := [180, 1, 42, 43, 83, 42, 180, 0, 115, 89, 180, 1, 42, 4, 96, 181, 1, 42, 177]
abbrev dktX2_good_4 : List UInt8 := dkwX2_good_4 ++ []
def dkwX2_good_3 : List UInt8 := [19, 1, 59, 3, 16, 99, 182, 0, 188, 181, 1, 61, 42, 180, 0, 115, 180, 1, 63, 42, 180, 0, 115]
abbrev dktX2_good_3 : List UInt8 := dkwX2_good_3 ++ dktX2_good_4
def dkwX2_good_2 : List UInt8 := [182, 0, 188, 181, 1, 51, 43, 42, 19, 1, 55, 4, 16, 9, 182, 0, 188, 181, 1, 57, 43, 42]
abbrev dktX2_good_2 : List UInt8 := dkwX2_good_2 ++ dktX2_good_3
def dkwX2_good_1 : List UInt8 := [182, 0, 205, 42, 180, 0, 115, 180, 1, 42, 182, 1, 45, 76, 43, 42, 19, 1, 49, 3, 17, 1, 44]
abbrev dktX2_good_1 : List UInt8 := dkwX2_good_1 ++ dktX2_good_2
def dkwX2_good_0 : List UInt8 := [42, 42, 180, 0, 115, 180, 1, 42, 16, 8, 162, 0, 7, 4, 167, 0, 4, 3, 182, 0, 201, 42, 42]
abbrev dktX2_good_0 : List UInt8 := dkwX2_good_0 ++ dktX2_good_1
theorem dksX2_good_0 : cX2_good.data.toList.drop 0 = dktX2_good_0 := by decide +kernel
theorem dksX2_good_1 : cX2_good.data.toList.drop 23 = dktX2_good_1 := dk_seg dksX2_good_0 23 rfl rfl
theorem dksX2_good_2 : cX2_good.data.toList.drop 46 = dktX2_good_2 := dk_seg dksX2_good_1 23 rfl rfl
theorem dksX2_good_3 : cX2_good.data.toList.drop 68 = dktX2_good_3 := dk_seg dksX2_good_2 22 rfl rfl
theorem dksX2_good_4 : cX2_good.data.toList.drop 91 = dktX2_good_4 := dk_seg dksX2_good_3 23 rfl rfl
theorem dX2_good_0 : decode cX2_good 0 = .ok (.aload_n 0, 1) := dk_42 (dk_at dksX2_good_0 0 rfl rfl)
theorem dX2_good_1 : decode cX2_good 1 = .ok (.aload_n 0, 1) := dk_42 (dk_at dksX2_good_0 1 rfl rfl)
theorem dX2_good_2 : decode cX2_good 2 = .ok (.getfield 115, 3) := dk_180 0 115 (dk_at dksX2_good_0 2 rfl rfl)
theorem dX2_good_5 : decode cX2_good 5 = .ok (.getfield 298, 3) := dk_180 1 42 (dk_at dksX2_good_0 5 rfl rfl)
theorem dX2_good_8 : decode cX2_good 8 = .ok (.bipush 8, 2) := dk_16 8 (dk_at dksX2_good_0 8 rfl rfl)
theorem dX2_good_10 : decode cX2_good 10 = .ok (.if_icmp .ge 7, 3) := dk_162 0 7 (dk_at dksX2_good_0 10 rfl rfl)
theorem dX2_good_13 : decode cX2_good 13 = .ok (.iconst 1, 1) := dk_4 (dk_at dksX2_good_0 13 rfl rfl)
theorem dX2_good_14 : decode cX2_good 14 = .ok (.goto 4, 3) := dk_167 0 4 (dk_at dksX2_good_0 14 rfl rfl)
theorem dX2_good_17 : decode cX2_good 17 = .ok (.iconst 0, 1) := dk_3 (dk_at dksX2_good_0 17 rfl rfl)
theorem dX2_good_18 : decode cX2_good 18 = .ok (.invokevirtual 201, 3) := dk_182 0 201 (dk_at dksX2_good_0 18 rfl rfl)
theorem dX2_good_21 : decode cX2_good 21 = .ok (.aload_n 0, 1) := dk_42 (dk_at dksX2_good_0 21 rfl rfl)
theorem dX2_good_22 : decode cX2_good 22 = .ok (.aload_n 0, 1) := dk_42 (dk_at dksX2_good_0 22 rfl rfl)
theorem dX2_good_23 : decode cX2_good 23 = .ok (.invokevirtual 205, 3) := dk_182 0 205 (dk_at dksX2_good_1 0 rfl rfl)
theorem dX2_good_26 : decode cX2_good 26 = .ok (.aload_n 0, 1) := dk_42 (dk_at dksX2_good_1 3 rfl rfl)
theorem dX2_good_27 : decode cX2_good 27 = .ok (.getfield 115, 3) := dk_180 0 115 (dk_at dksX2_good_1 4 rfl rfl)
theorem dX2_good_30 : decode cX2_good 30 = .ok (.getfield 298, 3) := dk_180 1 42 (dk_at dksX2_good_1 7 rfl rfl)
theorem dX2_good_33 : decode cX2_good 33 = .ok (.invokevirtual 301, 3) := dk_182 1 45 (dk_at dksX2_good_1 10 rfl rfl)
theorem dX2_good_36 : decode cX2_good 36 = .ok (.astore_n 1, 1) := dk_76 (dk_at dksX2_good_1 13 rfl rfl)
theorem dX2_good_37 : decode cX2_good 37 = .ok (.aload_n 1, 1) := dk_43 (dk_at dksX2_good_1 14 rfl rfl)
theorem dX2_good_38 : decode cX2_good 38 = .ok (.aload_n 0, 1) := dk_42 (dk_at dksX2_good_1 15 rfl rfl)
theorem dX2_good_39 : decode cX2_good 39 = .ok (.ldc_w 305, 3) := dk_19 1 49 (dk_at dksX2_good_1 16 rfl rfl)
theorem dX2_good_42 : decode cX2_good 42 = .ok (.iconst 0, 1) := dk_3 (dk_at dksX2_good_1 19 rfl rfl)
theorem dX2_good_43 : decode cX2_good 43 = .ok (.sipush 300, 3) := dk_17 1 44 (dk_at dksX2_good_1 20 rfl rfl)
theorem dX2_good_46 : decode cX2_good 46 = .ok (.invokevirtual 188, 3) := dk_182 0 188 (dk_at dksX2_good_2 0 rfl rfl)
theorem dX2_good_49 : decode cX2_good 49 = .ok (.putfield 307, 3) := dk_181 1 51 (dk_at dksX2_good_2 3 rfl rfl)
theorem dX2_good_52 : decode cX2_good 52 = .ok (.aload_n 1, 1) := dk_43 (dk_at dksX2_good_2 6 rfl rfl)
theorem dX2_good_53 : decode cX2_good 53 = .ok (.aload_n 0, 1) := dk_42 (dk_at dksX2_good_2 7 rfl rfl)
theorem dX2_good_54 : decode cX2_good 54 = .ok (.ldc_w 311, 3) := dk_19 1 55 (dk_at dksX2_good_2 8 rfl rfl)
theorem dX2_good_57 : decode cX2_good 57 = .ok (.iconst 1, 1) := dk_4 (dk_at dksX2_good_2 11 rfl rfl)
theorem dX2_good_58 : decode cX2_good 58 = .ok (.bipush 9, 2) := dk_16 9 (dk_at dksX2_good_2 12 rfl rfl)
theorem dX2_good_60 : decode cX2_good 60 = .ok (.invokevirtual 188, 3) := dk_182 0 188 (dk_at dksX2_good_2 14 rfl rfl)
theorem dX2_good_63 : decode cX2_good 63 = .ok (.putfield 313, 3) := dk_181 1 57 (dk_at dksX2_good_2 17 rfl rfl)
theorem dX2_good_66 : decode cX2_good 66 = .ok (.aload_n 1, 1) := dk_43 (dk_at dksX2_good_2 20 rfl rfl)
theorem dX2_good_67 : decode cX2_good 67 = .ok (.aload_n 0, 1) := dk_42 (dk_at dksX2_good_2 21 rfl rfl)
theorem dX2_good_68 : decode cX2_good 68 = .ok (.ldc_w 315, 3) := dk_19 1 59 (dk_at dksX2_good_3 0 rfl rfl)
theorem dX2_good_71 : decode cX2_good 71 = .ok (.iconst 0, 1) := dk_3 (dk_at dksX2_good_3 3 rfl rfl)
theorem dX2_good_72 : decode cX2_good 72 = .ok (.bipush 99, 2) := dk_16 99 (dk_at dksX2_good_3 4 rfl rfl)
theorem dX2_good_74 : decode cX2_good 74 = .ok (.invokevirtual 188, 3) := dk_182 0 188 (dk_at dksX2_good_3 6 rfl rfl)
theorem dX2_good_77 : decode cX2_good 77 = .ok (.putfield 317, 3) := dk_181 1 61 (dk_at dksX2_good_3 9 rfl rfl)
theorem dX2_good_80 : decode cX2_good 80 = .ok (.aload_n 0, 1) := dk_42 (dk_at dksX2_good_3 12 rfl rfl)
theorem dX2_good_81 : decode cX2_good 81 = .ok (.getfield 115, 3) := dk_180 0 115 (dk_at dksX2_good_3 13 rfl rfl)
theorem dX2_good_84 : decode cX2_good 84 = .ok (.getfield 319, 3) := dk_180 1 63 (dk_at dksX2_good_3 16 rfl rfl)
theorem dX2_good_87 : decode cX2_good 87 = .ok (.aload_n 0, 1) := dk_42 (dk_at dksX2_good_3 19 rfl rfl)
theorem dX2_good_88 : decode cX2_good 88 = .ok (.getfield 115, 3) := dk_180 0 115 (dk_at dksX2_good_3 20 rfl rfl)
theorem dX2_good_91 : decode cX2_good 91 = .ok (.getfield 298, 3) := dk_180 1 42 (dk_at dksX2_good_4 0 rfl rfl)
theorem dX2_good_94 : decode cX2_good 94 = .ok (.aload_n 1, 1) := dk_43 (dk_at dksX2_good_4 3 rfl rfl)
theorem dX2_good_95 : decode cX2_good 95 = .ok (.aastore, 1) := dk_83 (dk_at dksX2_good_4 4 rfl rfl)
theorem dX2_good_96 : decode cX2_good 96 = .ok (.aload_n 0, 1) := dk_42 (dk_at dksX2_good_4 5 rfl rfl)
theorem dX2_good_97 : decode cX2_good 97 = .ok (.getfield 115, 3) := dk_180 0 115 (dk_at dksX2_good_4 6 rfl rfl)
theorem dX2_good_100 : decode cX2_good 100 = .ok (.dup, 1) := dk_89 (dk_at dksX2_good_4 9 rfl rfl)
theorem dX2_good_101 : decode cX2_good 101 = .ok (.getfield 298, 3) := dk_180 1 42 (dk_at dksX2_good_4 10 rfl rfl)
theorem dX2_good_104 : decode cX2_good 104 = .ok (.iconst 1, 1) := dk_4 (dk_at dksX2_good_4 13 rfl rfl)
theorem dX2_good_105 : decode cX2_good 105 = .ok (.iadd, 1) := dk_96 (dk_at dksX2_good_4 14 rfl rfl)
theorem dX2_good_106 : decode cX2_good 106 = .ok (.putfield 298, 3) := dk_181 1 42 (dk_at dksX2_good_4 15 rfl rfl)
theorem dX2_good_109 : decode cX2_good 109 = .ok (.return_, 1) := dk_177 (dk_at dksX2_good_4 18 rfl rfl)
abbrev cX2_goodOf : ByteArray := prog_22_method_26_code
def yX2_goodOf : MethodName := ⟨RX2, "goodOf", "(Ljava/lang/String;I)LSaltedGate$Good;"⟩
def dkwX2_goodOf_2 : List UInt8 := [182, 0, 143, 45, 42, 182, 1, 37, 182, 1, 39, 176]
abbrev dktX2_goodOf_2 : List UInt8 := dkwX2_goodOf_2 ++ []
def dkwX2_goodOf_1 : List UInt8 := [181, 1, 27, 45, 176, 42, 43, 28, 182, 1, 30, 78, 45, 42, 182, 1, 25, 181, 1, 34, 42, 18, 110]
abbrev dktX2_goodOf_1 : List UInt8 := dkwX2_goodOf_1 ++ dktX2_goodOf_2
def dkwX2_goodOf_0 : List UInt8 := [42, 18, 108, 182, 0, 78, 153, 0, 23, 187, 1, 22, 89, 43, 28, 183, 1, 24, 78, 45, 42, 182, 1, 25]
abbrev dktX2_goodOf_0 : List UInt8 := dkwX2_goodOf_0 ++ dktX2_goodOf_1
theorem dksX2_goodOf_0 : cX2_goodOf.data.toList.drop 0 = dktX2_goodOf_0 := by decide +kernel
theorem dksX2_goodOf_1 : cX2_goodOf.data.toList.drop 24 = dktX2_goodOf_1 := dk_seg dksX2_goodOf_0 24 rfl rfl
theorem dksX2_goodOf_2 : cX2_goodOf.data.toList.drop 47 = dktX2_goodOf_2 := dk_seg dksX2_goodOf_1 23 rfl rfl
theorem dX2_goodOf_0 : decode cX2_goodOf 0 = .ok (.aload_n 0, 1) := dk_42 (dk_at dksX2_goodOf_0 0 rfl rfl)
theorem dX2_goodOf_1 : decode cX2_goodOf 1 = .ok (.ldc 108, 2) := dk_18 108 (dk_at dksX2_goodOf_0 1 rfl rfl)
theorem dX2_goodOf_3 : decode cX2_goodOf 3 = .ok (.invokevirtual 78, 3) := dk_182 0 78 (dk_at dksX2_goodOf_0 3 rfl rfl)
theorem dX2_goodOf_6 : decode cX2_goodOf 6 = .ok (.ifCond .eq 23, 3) := dk_153 0 23 (dk_at dksX2_goodOf_0 6 rfl rfl)
theorem dX2_goodOf_9 : decode cX2_goodOf 9 = .ok (.new 278, 3) := dk_187 1 22 (dk_at dksX2_goodOf_0 9 rfl rfl)
theorem dX2_goodOf_12 : decode cX2_goodOf 12 = .ok (.dup, 1) := dk_89 (dk_at dksX2_goodOf_0 12 rfl rfl)
theorem dX2_goodOf_13 : decode cX2_goodOf 13 = .ok (.aload_n 1, 1) := dk_43 (dk_at dksX2_goodOf_0 13 rfl rfl)
theorem dX2_goodOf_14 : decode cX2_goodOf 14 = .ok (.iload_n 2, 1) := dk_28 (dk_at dksX2_goodOf_0 14 rfl rfl)
theorem dX2_goodOf_15 : decode cX2_goodOf 15 = .ok (.invokespecial 280, 3) := dk_183 1 24 (dk_at dksX2_goodOf_0 15 rfl rfl)
theorem dX2_goodOf_18 : decode cX2_goodOf 18 = .ok (.astore_n 3, 1) := dk_78 (dk_at dksX2_goodOf_0 18 rfl rfl)
theorem dX2_goodOf_19 : decode cX2_goodOf 19 = .ok (.aload_n 3, 1) := dk_45 (dk_at dksX2_goodOf_0 19 rfl rfl)
theorem dX2_goodOf_20 : decode cX2_goodOf 20 = .ok (.aload_n 0, 1) := dk_42 (dk_at dksX2_goodOf_0 20 rfl rfl)
theorem dX2_goodOf_21 : decode cX2_goodOf 21 = .ok (.invokevirtual 281, 3) := dk_182 1 25 (dk_at dksX2_goodOf_0 21 rfl rfl)
theorem dX2_goodOf_24 : decode cX2_goodOf 24 = .ok (.putfield 283, 3) := dk_181 1 27 (dk_at dksX2_goodOf_1 0 rfl rfl)
theorem dX2_goodOf_27 : decode cX2_goodOf 27 = .ok (.aload_n 3, 1) := dk_45 (dk_at dksX2_goodOf_1 3 rfl rfl)
theorem dX2_goodOf_28 : decode cX2_goodOf 28 = .ok (.areturn, 1) := dk_176 (dk_at dksX2_goodOf_1 4 rfl rfl)
theorem dX2_goodOf_29 : decode cX2_goodOf 29 = .ok (.aload_n 0, 1) := dk_42 (dk_at dksX2_goodOf_1 5 rfl rfl)
theorem dX2_goodOf_30 : decode cX2_goodOf 30 = .ok (.aload_n 1, 1) := dk_43 (dk_at dksX2_goodOf_1 6 rfl rfl)
theorem dX2_goodOf_31 : decode cX2_goodOf 31 = .ok (.iload_n 2, 1) := dk_28 (dk_at dksX2_goodOf_1 7 rfl rfl)
theorem dX2_goodOf_32 : decode cX2_goodOf 32 = .ok (.invokevirtual 286, 3) := dk_182 1 30 (dk_at dksX2_goodOf_1 8 rfl rfl)
theorem dX2_goodOf_35 : decode cX2_goodOf 35 = .ok (.astore_n 3, 1) := dk_78 (dk_at dksX2_goodOf_1 11 rfl rfl)
theorem dX2_goodOf_36 : decode cX2_goodOf 36 = .ok (.aload_n 3, 1) := dk_45 (dk_at dksX2_goodOf_1 12 rfl rfl)
theorem dX2_goodOf_37 : decode cX2_goodOf 37 = .ok (.aload_n 0, 1) := dk_42 (dk_at dksX2_goodOf_1 13 rfl rfl)
theorem dX2_goodOf_38 : decode cX2_goodOf 38 = .ok (.invokevirtual 281, 3) := dk_182 1 25 (dk_at dksX2_goodOf_1 14 rfl rfl)
theorem dX2_goodOf_41 : decode cX2_goodOf 41 = .ok (.putfield 290, 3) := dk_181 1 34 (dk_at dksX2_goodOf_1 17 rfl rfl)
theorem dX2_goodOf_44 : decode cX2_goodOf 44 = .ok (.aload_n 0, 1) := dk_42 (dk_at dksX2_goodOf_1 20 rfl rfl)
theorem dX2_goodOf_45 : decode cX2_goodOf 45 = .ok (.ldc 110, 2) := dk_18 110 (dk_at dksX2_goodOf_1 21 rfl rfl)
theorem dX2_goodOf_47 : decode cX2_goodOf 47 = .ok (.invokevirtual 143, 3) := dk_182 0 143 (dk_at dksX2_goodOf_2 0 rfl rfl)
theorem dX2_goodOf_50 : decode cX2_goodOf 50 = .ok (.aload_n 3, 1) := dk_45 (dk_at dksX2_goodOf_2 3 rfl rfl)
theorem dX2_goodOf_51 : decode cX2_goodOf 51 = .ok (.aload_n 0, 1) := dk_42 (dk_at dksX2_goodOf_2 4 rfl rfl)
theorem dX2_goodOf_52 : decode cX2_goodOf 52 = .ok (.invokevirtual 293, 3) := dk_182 1 37 (dk_at dksX2_goodOf_2 5 rfl rfl)
theorem dX2_goodOf_55 : decode cX2_goodOf 55 = .ok (.invokevirtual 295, 3) := dk_182 1 39 (dk_at dksX2_goodOf_2 8 rfl rfl)
theorem dX2_goodOf_58 : decode cX2_goodOf 58 = .ok (.areturn, 1) := dk_176 (dk_at dksX2_goodOf_2 11 rfl rfl)
abbrev cX2_traveller : ByteArray := prog_22_method_14_code
def yX2_traveller : MethodName := ⟨RX2, "traveller", "()I"⟩
def dkwX2_traveller_1 : List UInt8 := [180, 0, 136, 172]
abbrev dktX2_traveller_1 : List UInt8 := dkwX2_traveller_1 ++ []
def dkwX2_traveller_0 : List UInt8 := [42, 182, 0, 124, 76, 43, 193, 0, 134, 154, 0, 9, 42, 5, 182, 0, 82, 191, 42, 182, 0, 75, 43]
abbrev dktX2_traveller_0 : List UInt8 := dkwX2_traveller_0 ++ dktX2_traveller_1
theorem dksX2_traveller_0 : cX2_traveller.data.toList.drop 0 = dktX2_traveller_0 := by decide +kernel
theorem dksX2_traveller_1 : cX2_traveller.data.toList.drop 23 = dktX2_traveller_1 := dk_seg dksX2_traveller_0 23 rfl rfl
theorem dX2_traveller_0 : decode cX2_traveller 0 = .ok (.aload_n 0, 1) := dk_42 (dk_at dksX2_traveller_0 0 rfl rfl)
theorem dX2_traveller_1 : decode cX2_traveller 1 = .ok (.invokevirtual 124, 3) := dk_182 0 124 (dk_at dksX2_traveller_0 1 rfl rfl)
theorem dX2_traveller_4 : decode cX2_traveller 4 = .ok (.astore_n 1, 1) := dk_76 (dk_at dksX2_traveller_0 4 rfl rfl)
theorem dX2_traveller_5 : decode cX2_traveller 5 = .ok (.aload_n 1, 1) := dk_43 (dk_at dksX2_traveller_0 5 rfl rfl)
theorem dX2_traveller_6 : decode cX2_traveller 6 = .ok (.instanceof 134, 3) := dk_193 0 134 (dk_at dksX2_traveller_0 6 rfl rfl)
theorem dX2_traveller_9 : decode cX2_traveller 9 = .ok (.ifCond .ne 9, 3) := dk_154 0 9 (dk_at dksX2_traveller_0 9 rfl rfl)
theorem dX2_traveller_12 : decode cX2_traveller 12 = .ok (.aload_n 0, 1) := dk_42 (dk_at dksX2_traveller_0 12 rfl rfl)
theorem dX2_traveller_13 : decode cX2_traveller 13 = .ok (.iconst 2, 1) := dk_5 (dk_at dksX2_traveller_0 13 rfl rfl)
theorem dX2_traveller_14 : decode cX2_traveller 14 = .ok (.invokevirtual 82, 3) := dk_182 0 82 (dk_at dksX2_traveller_0 14 rfl rfl)
theorem dX2_traveller_17 : decode cX2_traveller 17 = .ok (.athrow, 1) := dk_191 (dk_at dksX2_traveller_0 17 rfl rfl)
theorem dX2_traveller_18 : decode cX2_traveller 18 = .ok (.aload_n 0, 1) := dk_42 (dk_at dksX2_traveller_0 18 rfl rfl)
theorem dX2_traveller_19 : decode cX2_traveller 19 = .ok (.invokevirtual 75, 3) := dk_182 0 75 (dk_at dksX2_traveller_0 19 rfl rfl)
theorem dX2_traveller_22 : decode cX2_traveller 22 = .ok (.aload_n 1, 1) := dk_43 (dk_at dksX2_traveller_0 22 rfl rfl)
theorem dX2_traveller_23 : decode cX2_traveller 23 = .ok (.getfield 136, 3) := dk_180 0 136 (dk_at dksX2_traveller_1 0 rfl rfl)
theorem dX2_traveller_26 : decode cX2_traveller 26 = .ok (.ireturn, 1) := dk_172 (dk_at dksX2_traveller_1 3 rfl rfl)
abbrev cX2_named : ByteArray := prog_22_method_11_code
def yX2_named : MethodName := ⟨RX2, "named", "()LSaltedGate$Named;"⟩
def dkwX2_named_1 : List UInt8 := [182, 0, 82, 191, 43, 176]
abbrev dktX2_named_1 : List UInt8 := dkwX2_named_1 ++ []
def dkwX2_named_0 : List UInt8 := [42, 182, 0, 112, 42, 180, 0, 115, 42, 180, 0, 61, 182, 0, 118, 76, 43, 199, 0, 9, 42, 5]
abbrev dktX2_named_0 : List UInt8 := dkwX2_named_0 ++ dktX2_named_1
theorem dksX2_named_0 : cX2_named.data.toList.drop 0 = dktX2_named_0 := by decide +kernel
theorem dksX2_named_1 : cX2_named.data.toList.drop 22 = dktX2_named_1 := dk_seg dksX2_named_0 22 rfl rfl
theorem dX2_named_0 : decode cX2_named 0 = .ok (.aload_n 0, 1) := dk_42 (dk_at dksX2_named_0 0 rfl rfl)
theorem dX2_named_1 : decode cX2_named 1 = .ok (.invokevirtual 112, 3) := dk_182 0 112 (dk_at dksX2_named_0 1 rfl rfl)
theorem dX2_named_4 : decode cX2_named 4 = .ok (.aload_n 0, 1) := dk_42 (dk_at dksX2_named_0 4 rfl rfl)
theorem dX2_named_5 : decode cX2_named 5 = .ok (.getfield 115, 3) := dk_180 0 115 (dk_at dksX2_named_0 5 rfl rfl)
theorem dX2_named_8 : decode cX2_named 8 = .ok (.aload_n 0, 1) := dk_42 (dk_at dksX2_named_0 8 rfl rfl)
theorem dX2_named_9 : decode cX2_named 9 = .ok (.getfield 61, 3) := dk_180 0 61 (dk_at dksX2_named_0 9 rfl rfl)
theorem dX2_named_12 : decode cX2_named 12 = .ok (.invokevirtual 118, 3) := dk_182 0 118 (dk_at dksX2_named_0 12 rfl rfl)
theorem dX2_named_15 : decode cX2_named 15 = .ok (.astore_n 1, 1) := dk_76 (dk_at dksX2_named_0 15 rfl rfl)
theorem dX2_named_16 : decode cX2_named 16 = .ok (.aload_n 1, 1) := dk_43 (dk_at dksX2_named_0 16 rfl rfl)
theorem dX2_named_17 : decode cX2_named 17 = .ok (.ifnonnull 9, 3) := dk_199 0 9 (dk_at dksX2_named_0 17 rfl rfl)
theorem dX2_named_20 : decode cX2_named 20 = .ok (.aload_n 0, 1) := dk_42 (dk_at dksX2_named_0 20 rfl rfl)
theorem dX2_named_21 : decode cX2_named 21 = .ok (.iconst 2, 1) := dk_5 (dk_at dksX2_named_0 21 rfl rfl)
theorem dX2_named_22 : decode cX2_named 22 = .ok (.invokevirtual 82, 3) := dk_182 0 82 (dk_at dksX2_named_1 0 rfl rfl)
theorem dX2_named_25 : decode cX2_named 25 = .ok (.athrow, 1) := dk_191 (dk_at dksX2_named_1 3 rfl rfl)
theorem dX2_named_26 : decode cX2_named 26 = .ok (.aload_n 1, 1) := dk_43 (dk_at dksX2_named_1 4 rfl rfl)
theorem dX2_named_27 : decode cX2_named 27 = .ok (.areturn, 1) := dk_176 (dk_at dksX2_named_1 5 rfl rfl)
abbrev cX2_keptOf : ByteArray := prog_22_method_25_code
def yX2_keptOf : MethodName := ⟨RX2, "keptOf", "(Ljava/lang/String;I)LSaltedGate$Kept;"⟩
def dkwX2_keptOf_3 : List UInt8 := [43, 28, 183, 1, 21, 176]
abbrev dktX2_keptOf_3 : List UInt8 := dkwX2_keptOf_3 ++ []
def dkwX2_keptOf_2 : List UInt8 := [153, 0, 13, 187, 1, 14, 89, 43, 28, 183, 1, 16, 176, 42, 19, 1, 17, 182, 0, 143, 187, 1, 19, 89]
abbrev dktX2_keptOf_2 : List UInt8 := dkwX2_keptOf_2 ++ dktX2_keptOf_3
def dkwX2_keptOf_1 : List UInt8 := [182, 0, 78, 153, 0, 13, 187, 1, 9, 89, 43, 28, 183, 1, 11, 176, 42, 19, 1, 12, 182, 0, 78]
abbrev dktX2_keptOf_1 : List UInt8 := dkwX2_keptOf_1 ++ dktX2_keptOf_2
def dkwX2_keptOf_0 : List UInt8 := [42, 19, 1, 2, 182, 0, 78, 153, 0, 13, 187, 1, 4, 89, 43, 28, 183, 1, 6, 176, 42, 19, 1, 7]
abbrev dktX2_keptOf_0 : List UInt8 := dkwX2_keptOf_0 ++ dktX2_keptOf_1
theorem dksX2_keptOf_0 : cX2_keptOf.data.toList.drop 0 = dktX2_keptOf_0 := by decide +kernel
theorem dksX2_keptOf_1 : cX2_keptOf.data.toList.drop 24 = dktX2_keptOf_1 := dk_seg dksX2_keptOf_0 24 rfl rfl
theorem dksX2_keptOf_2 : cX2_keptOf.data.toList.drop 47 = dktX2_keptOf_2 := dk_seg dksX2_keptOf_1 23 rfl rfl
theorem dksX2_keptOf_3 : cX2_keptOf.data.toList.drop 71 = dktX2_keptOf_3 := dk_seg dksX2_keptOf_2 24 rfl rfl
theorem dX2_keptOf_0 : decode cX2_keptOf 0 = .ok (.aload_n 0, 1) := dk_42 (dk_at dksX2_keptOf_0 0 rfl rfl)
theorem dX2_keptOf_1 : decode cX2_keptOf 1 = .ok (.ldc_w 258, 3) := dk_19 1 2 (dk_at dksX2_keptOf_0 1 rfl rfl)
theorem dX2_keptOf_4 : decode cX2_keptOf 4 = .ok (.invokevirtual 78, 3) := dk_182 0 78 (dk_at dksX2_keptOf_0 4 rfl rfl)
theorem dX2_keptOf_7 : decode cX2_keptOf 7 = .ok (.ifCond .eq 13, 3) := dk_153 0 13 (dk_at dksX2_keptOf_0 7 rfl rfl)
theorem dX2_keptOf_10 : decode cX2_keptOf 10 = .ok (.new 260, 3) := dk_187 1 4 (dk_at dksX2_keptOf_0 10 rfl rfl)
theorem dX2_keptOf_13 : decode cX2_keptOf 13 = .ok (.dup, 1) := dk_89 (dk_at dksX2_keptOf_0 13 rfl rfl)
theorem dX2_keptOf_14 : decode cX2_keptOf 14 = .ok (.aload_n 1, 1) := dk_43 (dk_at dksX2_keptOf_0 14 rfl rfl)
theorem dX2_keptOf_15 : decode cX2_keptOf 15 = .ok (.iload_n 2, 1) := dk_28 (dk_at dksX2_keptOf_0 15 rfl rfl)
theorem dX2_keptOf_16 : decode cX2_keptOf 16 = .ok (.invokespecial 262, 3) := dk_183 1 6 (dk_at dksX2_keptOf_0 16 rfl rfl)
theorem dX2_keptOf_19 : decode cX2_keptOf 19 = .ok (.areturn, 1) := dk_176 (dk_at dksX2_keptOf_0 19 rfl rfl)
theorem dX2_keptOf_20 : decode cX2_keptOf 20 = .ok (.aload_n 0, 1) := dk_42 (dk_at dksX2_keptOf_0 20 rfl rfl)
theorem dX2_keptOf_21 : decode cX2_keptOf 21 = .ok (.ldc_w 263, 3) := dk_19 1 7 (dk_at dksX2_keptOf_0 21 rfl rfl)
theorem dX2_keptOf_24 : decode cX2_keptOf 24 = .ok (.invokevirtual 78, 3) := dk_182 0 78 (dk_at dksX2_keptOf_1 0 rfl rfl)
theorem dX2_keptOf_27 : decode cX2_keptOf 27 = .ok (.ifCond .eq 13, 3) := dk_153 0 13 (dk_at dksX2_keptOf_1 3 rfl rfl)
theorem dX2_keptOf_30 : decode cX2_keptOf 30 = .ok (.new 265, 3) := dk_187 1 9 (dk_at dksX2_keptOf_1 6 rfl rfl)
theorem dX2_keptOf_33 : decode cX2_keptOf 33 = .ok (.dup, 1) := dk_89 (dk_at dksX2_keptOf_1 9 rfl rfl)
theorem dX2_keptOf_34 : decode cX2_keptOf 34 = .ok (.aload_n 1, 1) := dk_43 (dk_at dksX2_keptOf_1 10 rfl rfl)
theorem dX2_keptOf_35 : decode cX2_keptOf 35 = .ok (.iload_n 2, 1) := dk_28 (dk_at dksX2_keptOf_1 11 rfl rfl)
theorem dX2_keptOf_36 : decode cX2_keptOf 36 = .ok (.invokespecial 267, 3) := dk_183 1 11 (dk_at dksX2_keptOf_1 12 rfl rfl)
theorem dX2_keptOf_39 : decode cX2_keptOf 39 = .ok (.areturn, 1) := dk_176 (dk_at dksX2_keptOf_1 15 rfl rfl)
theorem dX2_keptOf_40 : decode cX2_keptOf 40 = .ok (.aload_n 0, 1) := dk_42 (dk_at dksX2_keptOf_1 16 rfl rfl)
theorem dX2_keptOf_41 : decode cX2_keptOf 41 = .ok (.ldc_w 268, 3) := dk_19 1 12 (dk_at dksX2_keptOf_1 17 rfl rfl)
theorem dX2_keptOf_44 : decode cX2_keptOf 44 = .ok (.invokevirtual 78, 3) := dk_182 0 78 (dk_at dksX2_keptOf_1 20 rfl rfl)
theorem dX2_keptOf_47 : decode cX2_keptOf 47 = .ok (.ifCond .eq 13, 3) := dk_153 0 13 (dk_at dksX2_keptOf_2 0 rfl rfl)
theorem dX2_keptOf_50 : decode cX2_keptOf 50 = .ok (.new 270, 3) := dk_187 1 14 (dk_at dksX2_keptOf_2 3 rfl rfl)
theorem dX2_keptOf_53 : decode cX2_keptOf 53 = .ok (.dup, 1) := dk_89 (dk_at dksX2_keptOf_2 6 rfl rfl)
theorem dX2_keptOf_54 : decode cX2_keptOf 54 = .ok (.aload_n 1, 1) := dk_43 (dk_at dksX2_keptOf_2 7 rfl rfl)
theorem dX2_keptOf_55 : decode cX2_keptOf 55 = .ok (.iload_n 2, 1) := dk_28 (dk_at dksX2_keptOf_2 8 rfl rfl)
theorem dX2_keptOf_56 : decode cX2_keptOf 56 = .ok (.invokespecial 272, 3) := dk_183 1 16 (dk_at dksX2_keptOf_2 9 rfl rfl)
theorem dX2_keptOf_59 : decode cX2_keptOf 59 = .ok (.areturn, 1) := dk_176 (dk_at dksX2_keptOf_2 12 rfl rfl)
theorem dX2_keptOf_60 : decode cX2_keptOf 60 = .ok (.aload_n 0, 1) := dk_42 (dk_at dksX2_keptOf_2 13 rfl rfl)
theorem dX2_keptOf_61 : decode cX2_keptOf 61 = .ok (.ldc_w 273, 3) := dk_19 1 17 (dk_at dksX2_keptOf_2 14 rfl rfl)
theorem dX2_keptOf_64 : decode cX2_keptOf 64 = .ok (.invokevirtual 143, 3) := dk_182 0 143 (dk_at dksX2_keptOf_2 17 rfl rfl)
theorem dX2_keptOf_67 : decode cX2_keptOf 67 = .ok (.new 275, 3) := dk_187 1 19 (dk_at dksX2_keptOf_2 20 rfl rfl)
theorem dX2_keptOf_70 : decode cX2_keptOf 70 = .ok (.dup, 1) := dk_89 (dk_at dksX2_keptOf_2 23 rfl rfl)
theorem dX2_keptOf_71 : decode cX2_keptOf 71 = .ok (.aload_n 1, 1) := dk_43 (dk_at dksX2_keptOf_3 0 rfl rfl)
theorem dX2_keptOf_72 : decode cX2_keptOf 72 = .ok (.iload_n 2, 1) := dk_28 (dk_at dksX2_keptOf_3 1 rfl rfl)
theorem dX2_keptOf_73 : decode cX2_keptOf 73 = .ok (.invokespecial 277, 3) := dk_183 1 21 (dk_at dksX2_keptOf_3 2 rfl rfl)
theorem dX2_keptOf_76 : decode cX2_keptOf 76 = .ok (.areturn, 1) := dk_176 (dk_at dksX2_keptOf_3 5 rfl rfl)
abbrev cX2_means : ByteArray := prog_22_method_13_code
def yX2_means : MethodName := ⟨RX2, "means", "()LSaltedGate$Means;"⟩
def dkwX2_means_0 : List UInt8 := [42, 182, 0, 130, 76, 42, 182, 0, 75, 43, 176]
abbrev dktX2_means_0 : List UInt8 := dkwX2_means_0 ++ []
theorem dksX2_means_0 : cX2_means.data.toList.drop 0 = dktX2_means_0 := by decide +kernel
theorem dX2_means_0 : decode cX2_means 0 = .ok (.aload_n 0, 1) := dk_42 (dk_at dksX2_means_0 0 rfl rfl)
theorem dX2_means_1 : decode cX2_means 1 = .ok (.invokevirtual 130, 3) := dk_182 0 130 (dk_at dksX2_means_0 1 rfl rfl)
theorem dX2_means_4 : decode cX2_means 4 = .ok (.astore_n 1, 1) := dk_76 (dk_at dksX2_means_0 4 rfl rfl)
theorem dX2_means_5 : decode cX2_means 5 = .ok (.aload_n 0, 1) := dk_42 (dk_at dksX2_means_0 5 rfl rfl)
theorem dX2_means_6 : decode cX2_means 6 = .ok (.invokevirtual 75, 3) := dk_182 0 75 (dk_at dksX2_means_0 6 rfl rfl)
theorem dX2_means_9 : decode cX2_means 9 = .ok (.aload_n 1, 1) := dk_43 (dk_at dksX2_means_0 9 rfl rfl)
theorem dX2_means_10 : decode cX2_means 10 = .ok (.areturn, 1) := dk_176 (dk_at dksX2_means_0 10 rfl rfl)
abbrev cX2_meansHere : ByteArray := prog_22_method_12_code
def yX2_meansHere : MethodName := ⟨RX2, "meansHere", "()LSaltedGate$Means;"⟩
def dkwX2_meansHere_0 : List UInt8 := [42, 182, 0, 124, 76, 43, 193, 0, 128, 154, 0, 9, 42, 5, 182, 0, 82, 191, 43, 192, 0, 128, 176]
abbrev dktX2_meansHere_0 : List UInt8 := dkwX2_meansHere_0 ++ []
theorem dksX2_meansHere_0 : cX2_meansHere.data.toList.drop 0 = dktX2_meansHere_0 := by decide +kernel
theorem dX2_meansHere_0 : decode cX2_meansHere 0 = .ok (.aload_n 0, 1) := dk_42 (dk_at dksX2_meansHere_0 0 rfl rfl)
theorem dX2_meansHere_1 : decode cX2_meansHere 1 = .ok (.invokevirtual 124, 3) := dk_182 0 124 (dk_at dksX2_meansHere_0 1 rfl rfl)
theorem dX2_meansHere_4 : decode cX2_meansHere 4 = .ok (.astore_n 1, 1) := dk_76 (dk_at dksX2_meansHere_0 4 rfl rfl)
theorem dX2_meansHere_5 : decode cX2_meansHere 5 = .ok (.aload_n 1, 1) := dk_43 (dk_at dksX2_meansHere_0 5 rfl rfl)
theorem dX2_meansHere_6 : decode cX2_meansHere 6 = .ok (.instanceof 128, 3) := dk_193 0 128 (dk_at dksX2_meansHere_0 6 rfl rfl)
theorem dX2_meansHere_9 : decode cX2_meansHere 9 = .ok (.ifCond .ne 9, 3) := dk_154 0 9 (dk_at dksX2_meansHere_0 9 rfl rfl)
theorem dX2_meansHere_12 : decode cX2_meansHere 12 = .ok (.aload_n 0, 1) := dk_42 (dk_at dksX2_meansHere_0 12 rfl rfl)
theorem dX2_meansHere_13 : decode cX2_meansHere 13 = .ok (.iconst 2, 1) := dk_5 (dk_at dksX2_meansHere_0 13 rfl rfl)
theorem dX2_meansHere_14 : decode cX2_meansHere 14 = .ok (.invokevirtual 82, 3) := dk_182 0 82 (dk_at dksX2_meansHere_0 14 rfl rfl)
theorem dX2_meansHere_17 : decode cX2_meansHere 17 = .ok (.athrow, 1) := dk_191 (dk_at dksX2_meansHere_0 17 rfl rfl)
theorem dX2_meansHere_18 : decode cX2_meansHere 18 = .ok (.aload_n 1, 1) := dk_43 (dk_at dksX2_meansHere_0 18 rfl rfl)
theorem dX2_meansHere_19 : decode cX2_meansHere 19 = .ok (.checkcast 128, 3) := dk_192 0 128 (dk_at dksX2_meansHere_0 19 rfl rfl)
theorem dX2_meansHere_22 : decode cX2_meansHere 22 = .ok (.areturn, 1) := dk_176 (dk_at dksX2_meansHere_0 22 rfl rfl)
abbrev cX2_hides : ByteArray := prog_22_method_28_code
def yX2_hides : MethodName := ⟨RX2, "hides", "()V"⟩
def dkwX2_hides_2 : List UInt8 := [181, 1, 67, 177]
abbrev dktX2_hides_2 : List UInt8 := dkwX2_hides_2 ++ []
def dkwX2_hides_1 : List UInt8 := [192, 1, 52, 77, 44, 180, 1, 67, 153, 0, 9, 42, 6, 182, 0, 82, 191, 42, 182, 0, 75, 44, 4]
abbrev dktX2_hides_1 : List UInt8 := dkwX2_hides_1 ++ dktX2_hides_2
def dkwX2_hides_0 : List UInt8 := [42, 4, 182, 0, 201, 42, 182, 0, 124, 76, 43, 193, 1, 52, 154, 0, 9, 42, 5, 182, 0, 82, 191, 43]
abbrev dktX2_hides_0 : List UInt8 := dkwX2_hides_0 ++ dktX2_hides_1
theorem dksX2_hides_0 : cX2_hides.data.toList.drop 0 = dktX2_hides_0 := by decide +kernel
theorem dksX2_hides_1 : cX2_hides.data.toList.drop 24 = dktX2_hides_1 := dk_seg dksX2_hides_0 24 rfl rfl
theorem dksX2_hides_2 : cX2_hides.data.toList.drop 47 = dktX2_hides_2 := dk_seg dksX2_hides_1 23 rfl rfl
theorem dX2_hides_0 : decode cX2_hides 0 = .ok (.aload_n 0, 1) := dk_42 (dk_at dksX2_hides_0 0 rfl rfl)
theorem dX2_hides_1 : decode cX2_hides 1 = .ok (.iconst 1, 1) := dk_4 (dk_at dksX2_hides_0 1 rfl rfl)
theorem dX2_hides_2 : decode cX2_hides 2 = .ok (.invokevirtual 201, 3) := dk_182 0 201 (dk_at dksX2_hides_0 2 rfl rfl)
theorem dX2_hides_5 : decode cX2_hides 5 = .ok (.aload_n 0, 1) := dk_42 (dk_at dksX2_hides_0 5 rfl rfl)
theorem dX2_hides_6 : decode cX2_hides 6 = .ok (.invokevirtual 124, 3) := dk_182 0 124 (dk_at dksX2_hides_0 6 rfl rfl)
theorem dX2_hides_9 : decode cX2_hides 9 = .ok (.astore_n 1, 1) := dk_76 (dk_at dksX2_hides_0 9 rfl rfl)
theorem dX2_hides_10 : decode cX2_hides 10 = .ok (.aload_n 1, 1) := dk_43 (dk_at dksX2_hides_0 10 rfl rfl)
theorem dX2_hides_11 : decode cX2_hides 11 = .ok (.instanceof 308, 3) := dk_193 1 52 (dk_at dksX2_hides_0 11 rfl rfl)
theorem dX2_hides_14 : decode cX2_hides 14 = .ok (.ifCond .ne 9, 3) := dk_154 0 9 (dk_at dksX2_hides_0 14 rfl rfl)
theorem dX2_hides_17 : decode cX2_hides 17 = .ok (.aload_n 0, 1) := dk_42 (dk_at dksX2_hides_0 17 rfl rfl)
theorem dX2_hides_18 : decode cX2_hides 18 = .ok (.iconst 2, 1) := dk_5 (dk_at dksX2_hides_0 18 rfl rfl)
theorem dX2_hides_19 : decode cX2_hides 19 = .ok (.invokevirtual 82, 3) := dk_182 0 82 (dk_at dksX2_hides_0 19 rfl rfl)
theorem dX2_hides_22 : decode cX2_hides 22 = .ok (.athrow, 1) := dk_191 (dk_at dksX2_hides_0 22 rfl rfl)
theorem dX2_hides_23 : decode cX2_hides 23 = .ok (.aload_n 1, 1) := dk_43 (dk_at dksX2_hides_0 23 rfl rfl)
theorem dX2_hides_24 : decode cX2_hides 24 = .ok (.checkcast 308, 3) := dk_192 1 52 (dk_at dksX2_hides_1 0 rfl rfl)
theorem dX2_hides_27 : decode cX2_hides 27 = .ok (.astore_n 2, 1) := dk_77 (dk_at dksX2_hides_1 3 rfl rfl)
theorem dX2_hides_28 : decode cX2_hides 28 = .ok (.aload_n 2, 1) := dk_44 (dk_at dksX2_hides_1 4 rfl rfl)
theorem dX2_hides_29 : decode cX2_hides 29 = .ok (.getfield 323, 3) := dk_180 1 67 (dk_at dksX2_hides_1 5 rfl rfl)
theorem dX2_hides_32 : decode cX2_hides 32 = .ok (.ifCond .eq 9, 3) := dk_153 0 9 (dk_at dksX2_hides_1 8 rfl rfl)
theorem dX2_hides_35 : decode cX2_hides 35 = .ok (.aload_n 0, 1) := dk_42 (dk_at dksX2_hides_1 11 rfl rfl)
theorem dX2_hides_36 : decode cX2_hides 36 = .ok (.iconst 3, 1) := dk_6 (dk_at dksX2_hides_1 12 rfl rfl)
theorem dX2_hides_37 : decode cX2_hides 37 = .ok (.invokevirtual 82, 3) := dk_182 0 82 (dk_at dksX2_hides_1 13 rfl rfl)
theorem dX2_hides_40 : decode cX2_hides 40 = .ok (.athrow, 1) := dk_191 (dk_at dksX2_hides_1 16 rfl rfl)
theorem dX2_hides_41 : decode cX2_hides 41 = .ok (.aload_n 0, 1) := dk_42 (dk_at dksX2_hides_1 17 rfl rfl)
theorem dX2_hides_42 : decode cX2_hides 42 = .ok (.invokevirtual 75, 3) := dk_182 0 75 (dk_at dksX2_hides_1 18 rfl rfl)
theorem dX2_hides_45 : decode cX2_hides 45 = .ok (.aload_n 2, 1) := dk_44 (dk_at dksX2_hides_1 21 rfl rfl)
theorem dX2_hides_46 : decode cX2_hides 46 = .ok (.iconst 1, 1) := dk_4 (dk_at dksX2_hides_1 22 rfl rfl)
theorem dX2_hides_47 : decode cX2_hides 47 = .ok (.putfield 323, 3) := dk_181 1 67 (dk_at dksX2_hides_2 0 rfl rfl)
theorem dX2_hides_50 : decode cX2_hides 50 = .ok (.return_, 1) := dk_177 (dk_at dksX2_hides_2 3 rfl rfl)
abbrev cX2_crosses : ByteArray := prog_22_method_29_code
def yX2_crosses : MethodName := ⟨RX2, "crosses", "()V"⟩
def dkwX2_crosses_5 : List UInt8 := [180, 1, 70, 43, 83, 42, 180, 0, 115, 89, 180, 1, 70, 4, 96, 181, 1, 70, 177]
abbrev dktX2_crosses_5 : List UInt8 := dkwX2_crosses_5 ++ []
def dkwX2_crosses_4 : List UInt8 := [19, 1, 91, 3, 16, 23, 182, 0, 188, 181, 1, 93, 42, 180, 0, 115, 180, 1, 85, 42, 180, 0, 115]
abbrev dktX2_crosses_4 : List UInt8 := dkwX2_crosses_4 ++ dktX2_crosses_5
def dkwX2_crosses_3 : List UInt8 := [42, 180, 0, 115, 180, 1, 70, 4, 100, 50, 180, 1, 89, 16, 60, 182, 0, 188, 181, 1, 89, 43, 42]
abbrev dktX2_crosses_3 : List UInt8 := dkwX2_crosses_3 ++ dktX2_crosses_4
def dkwX2_crosses_2 : List UInt8 := [19, 1, 83, 42, 180, 0, 115, 180, 1, 70, 154, 0, 7, 3, 167, 0, 23, 42, 180, 0, 115, 180, 1, 85]
abbrev dktX2_crosses_2 : List UInt8 := dkwX2_crosses_2 ++ dktX2_crosses_3
def dkwX2_crosses_1 : List UInt8 := [89, 183, 1, 75, 76, 43, 42, 182, 1, 25, 181, 1, 76, 43, 42, 182, 1, 79, 181, 1, 81, 43, 42]
abbrev dktX2_crosses_1 : List UInt8 := dkwX2_crosses_1 ++ dktX2_crosses_2
def dkwX2_crosses_0 : List UInt8 := [42, 42, 180, 0, 115, 180, 1, 70, 16, 6, 162, 0, 7, 4, 167, 0, 4, 3, 182, 0, 201, 187, 1, 73]
abbrev dktX2_crosses_0 : List UInt8 := dkwX2_crosses_0 ++ dktX2_crosses_1
theorem dksX2_crosses_0 : cX2_crosses.data.toList.drop 0 = dktX2_crosses_0 := by decide +kernel
theorem dksX2_crosses_1 : cX2_crosses.data.toList.drop 24 = dktX2_crosses_1 := dk_seg dksX2_crosses_0 24 rfl rfl
theorem dksX2_crosses_2 : cX2_crosses.data.toList.drop 47 = dktX2_crosses_2 := dk_seg dksX2_crosses_1 23 rfl rfl
theorem dksX2_crosses_3 : cX2_crosses.data.toList.drop 71 = dktX2_crosses_3 := dk_seg dksX2_crosses_2 24 rfl rfl
theorem dksX2_crosses_4 : cX2_crosses.data.toList.drop 94 = dktX2_crosses_4 := dk_seg dksX2_crosses_3 23 rfl rfl
theorem dksX2_crosses_5 : cX2_crosses.data.toList.drop 117 = dktX2_crosses_5 := dk_seg dksX2_crosses_4 23 rfl rfl
theorem dX2_crosses_0 : decode cX2_crosses 0 = .ok (.aload_n 0, 1) := dk_42 (dk_at dksX2_crosses_0 0 rfl rfl)
theorem dX2_crosses_1 : decode cX2_crosses 1 = .ok (.aload_n 0, 1) := dk_42 (dk_at dksX2_crosses_0 1 rfl rfl)
theorem dX2_crosses_2 : decode cX2_crosses 2 = .ok (.getfield 115, 3) := dk_180 0 115 (dk_at dksX2_crosses_0 2 rfl rfl)
theorem dX2_crosses_5 : decode cX2_crosses 5 = .ok (.getfield 326, 3) := dk_180 1 70 (dk_at dksX2_crosses_0 5 rfl rfl)
theorem dX2_crosses_8 : decode cX2_crosses 8 = .ok (.bipush 6, 2) := dk_16 6 (dk_at dksX2_crosses_0 8 rfl rfl)
theorem dX2_crosses_10 : decode cX2_crosses 10 = .ok (.if_icmp .ge 7, 3) := dk_162 0 7 (dk_at dksX2_crosses_0 10 rfl rfl)
theorem dX2_crosses_13 : decode cX2_crosses 13 = .ok (.iconst 1, 1) := dk_4 (dk_at dksX2_crosses_0 13 rfl rfl)
theorem dX2_crosses_14 : decode cX2_crosses 14 = .ok (.goto 4, 3) := dk_167 0 4 (dk_at dksX2_crosses_0 14 rfl rfl)
theorem dX2_crosses_17 : decode cX2_crosses 17 = .ok (.iconst 0, 1) := dk_3 (dk_at dksX2_crosses_0 17 rfl rfl)
theorem dX2_crosses_18 : decode cX2_crosses 18 = .ok (.invokevirtual 201, 3) := dk_182 0 201 (dk_at dksX2_crosses_0 18 rfl rfl)
theorem dX2_crosses_21 : decode cX2_crosses 21 = .ok (.new 329, 3) := dk_187 1 73 (dk_at dksX2_crosses_0 21 rfl rfl)
theorem dX2_crosses_24 : decode cX2_crosses 24 = .ok (.dup, 1) := dk_89 (dk_at dksX2_crosses_1 0 rfl rfl)
theorem dX2_crosses_25 : decode cX2_crosses 25 = .ok (.invokespecial 331, 3) := dk_183 1 75 (dk_at dksX2_crosses_1 1 rfl rfl)
theorem dX2_crosses_28 : decode cX2_crosses 28 = .ok (.astore_n 1, 1) := dk_76 (dk_at dksX2_crosses_1 4 rfl rfl)
theorem dX2_crosses_29 : decode cX2_crosses 29 = .ok (.aload_n 1, 1) := dk_43 (dk_at dksX2_crosses_1 5 rfl rfl)
theorem dX2_crosses_30 : decode cX2_crosses 30 = .ok (.aload_n 0, 1) := dk_42 (dk_at dksX2_crosses_1 6 rfl rfl)
theorem dX2_crosses_31 : decode cX2_crosses 31 = .ok (.invokevirtual 281, 3) := dk_182 1 25 (dk_at dksX2_crosses_1 7 rfl rfl)
theorem dX2_crosses_34 : decode cX2_crosses 34 = .ok (.putfield 332, 3) := dk_181 1 76 (dk_at dksX2_crosses_1 10 rfl rfl)
theorem dX2_crosses_37 : decode cX2_crosses 37 = .ok (.aload_n 1, 1) := dk_43 (dk_at dksX2_crosses_1 13 rfl rfl)
theorem dX2_crosses_38 : decode cX2_crosses 38 = .ok (.aload_n 0, 1) := dk_42 (dk_at dksX2_crosses_1 14 rfl rfl)
theorem dX2_crosses_39 : decode cX2_crosses 39 = .ok (.invokevirtual 335, 3) := dk_182 1 79 (dk_at dksX2_crosses_1 15 rfl rfl)
theorem dX2_crosses_42 : decode cX2_crosses 42 = .ok (.putfield 337, 3) := dk_181 1 81 (dk_at dksX2_crosses_1 18 rfl rfl)
theorem dX2_crosses_45 : decode cX2_crosses 45 = .ok (.aload_n 1, 1) := dk_43 (dk_at dksX2_crosses_1 21 rfl rfl)
theorem dX2_crosses_46 : decode cX2_crosses 46 = .ok (.aload_n 0, 1) := dk_42 (dk_at dksX2_crosses_1 22 rfl rfl)
theorem dX2_crosses_47 : decode cX2_crosses 47 = .ok (.ldc_w 339, 3) := dk_19 1 83 (dk_at dksX2_crosses_2 0 rfl rfl)
theorem dX2_crosses_50 : decode cX2_crosses 50 = .ok (.aload_n 0, 1) := dk_42 (dk_at dksX2_crosses_2 3 rfl rfl)
theorem dX2_crosses_51 : decode cX2_crosses 51 = .ok (.getfield 115, 3) := dk_180 0 115 (dk_at dksX2_crosses_2 4 rfl rfl)
theorem dX2_crosses_54 : decode cX2_crosses 54 = .ok (.getfield 326, 3) := dk_180 1 70 (dk_at dksX2_crosses_2 7 rfl rfl)
theorem dX2_crosses_57 : decode cX2_crosses 57 = .ok (.ifCond .ne 7, 3) := dk_154 0 7 (dk_at dksX2_crosses_2 10 rfl rfl)
theorem dX2_crosses_60 : decode cX2_crosses 60 = .ok (.iconst 0, 1) := dk_3 (dk_at dksX2_crosses_2 13 rfl rfl)
theorem dX2_crosses_61 : decode cX2_crosses 61 = .ok (.goto 23, 3) := dk_167 0 23 (dk_at dksX2_crosses_2 14 rfl rfl)
theorem dX2_crosses_64 : decode cX2_crosses 64 = .ok (.aload_n 0, 1) := dk_42 (dk_at dksX2_crosses_2 17 rfl rfl)
theorem dX2_crosses_65 : decode cX2_crosses 65 = .ok (.getfield 115, 3) := dk_180 0 115 (dk_at dksX2_crosses_2 18 rfl rfl)
theorem dX2_crosses_68 : decode cX2_crosses 68 = .ok (.getfield 341, 3) := dk_180 1 85 (dk_at dksX2_crosses_2 21 rfl rfl)
theorem dX2_crosses_71 : decode cX2_crosses 71 = .ok (.aload_n 0, 1) := dk_42 (dk_at dksX2_crosses_3 0 rfl rfl)
theorem dX2_crosses_72 : decode cX2_crosses 72 = .ok (.getfield 115, 3) := dk_180 0 115 (dk_at dksX2_crosses_3 1 rfl rfl)
theorem dX2_crosses_75 : decode cX2_crosses 75 = .ok (.getfield 326, 3) := dk_180 1 70 (dk_at dksX2_crosses_3 4 rfl rfl)
theorem dX2_crosses_78 : decode cX2_crosses 78 = .ok (.iconst 1, 1) := dk_4 (dk_at dksX2_crosses_3 7 rfl rfl)
theorem dX2_crosses_79 : decode cX2_crosses 79 = .ok (.isub, 1) := dk_100 (dk_at dksX2_crosses_3 8 rfl rfl)
theorem dX2_crosses_80 : decode cX2_crosses 80 = .ok (.aaload, 1) := dk_50 (dk_at dksX2_crosses_3 9 rfl rfl)
theorem dX2_crosses_81 : decode cX2_crosses 81 = .ok (.getfield 345, 3) := dk_180 1 89 (dk_at dksX2_crosses_3 10 rfl rfl)
theorem dX2_crosses_84 : decode cX2_crosses 84 = .ok (.bipush 60, 2) := dk_16 60 (dk_at dksX2_crosses_3 13 rfl rfl)
theorem dX2_crosses_86 : decode cX2_crosses 86 = .ok (.invokevirtual 188, 3) := dk_182 0 188 (dk_at dksX2_crosses_3 15 rfl rfl)
theorem dX2_crosses_89 : decode cX2_crosses 89 = .ok (.putfield 345, 3) := dk_181 1 89 (dk_at dksX2_crosses_3 18 rfl rfl)
theorem dX2_crosses_92 : decode cX2_crosses 92 = .ok (.aload_n 1, 1) := dk_43 (dk_at dksX2_crosses_3 21 rfl rfl)
theorem dX2_crosses_93 : decode cX2_crosses 93 = .ok (.aload_n 0, 1) := dk_42 (dk_at dksX2_crosses_3 22 rfl rfl)
theorem dX2_crosses_94 : decode cX2_crosses 94 = .ok (.ldc_w 347, 3) := dk_19 1 91 (dk_at dksX2_crosses_4 0 rfl rfl)
theorem dX2_crosses_97 : decode cX2_crosses 97 = .ok (.iconst 0, 1) := dk_3 (dk_at dksX2_crosses_4 3 rfl rfl)
theorem dX2_crosses_98 : decode cX2_crosses 98 = .ok (.bipush 23, 2) := dk_16 23 (dk_at dksX2_crosses_4 4 rfl rfl)
theorem dX2_crosses_100 : decode cX2_crosses 100 = .ok (.invokevirtual 188, 3) := dk_182 0 188 (dk_at dksX2_crosses_4 6 rfl rfl)
theorem dX2_crosses_103 : decode cX2_crosses 103 = .ok (.putfield 349, 3) := dk_181 1 93 (dk_at dksX2_crosses_4 9 rfl rfl)
theorem dX2_crosses_106 : decode cX2_crosses 106 = .ok (.aload_n 0, 1) := dk_42 (dk_at dksX2_crosses_4 12 rfl rfl)
theorem dX2_crosses_107 : decode cX2_crosses 107 = .ok (.getfield 115, 3) := dk_180 0 115 (dk_at dksX2_crosses_4 13 rfl rfl)
theorem dX2_crosses_110 : decode cX2_crosses 110 = .ok (.getfield 341, 3) := dk_180 1 85 (dk_at dksX2_crosses_4 16 rfl rfl)
theorem dX2_crosses_113 : decode cX2_crosses 113 = .ok (.aload_n 0, 1) := dk_42 (dk_at dksX2_crosses_4 19 rfl rfl)
theorem dX2_crosses_114 : decode cX2_crosses 114 = .ok (.getfield 115, 3) := dk_180 0 115 (dk_at dksX2_crosses_4 20 rfl rfl)
theorem dX2_crosses_117 : decode cX2_crosses 117 = .ok (.getfield 326, 3) := dk_180 1 70 (dk_at dksX2_crosses_5 0 rfl rfl)
theorem dX2_crosses_120 : decode cX2_crosses 120 = .ok (.aload_n 1, 1) := dk_43 (dk_at dksX2_crosses_5 3 rfl rfl)
theorem dX2_crosses_121 : decode cX2_crosses 121 = .ok (.aastore, 1) := dk_83 (dk_at dksX2_crosses_5 4 rfl rfl)
theorem dX2_crosses_122 : decode cX2_crosses 122 = .ok (.aload_n 0, 1) := dk_42 (dk_at dksX2_crosses_5 5 rfl rfl)
theorem dX2_crosses_123 : decode cX2_crosses 123 = .ok (.getfield 115, 3) := dk_180 0 115 (dk_at dksX2_crosses_5 6 rfl rfl)
theorem dX2_crosses_126 : decode cX2_crosses 126 = .ok (.dup, 1) := dk_89 (dk_at dksX2_crosses_5 9 rfl rfl)
theorem dX2_crosses_127 : decode cX2_crosses 127 = .ok (.getfield 326, 3) := dk_180 1 70 (dk_at dksX2_crosses_5 10 rfl rfl)
theorem dX2_crosses_130 : decode cX2_crosses 130 = .ok (.iconst 1, 1) := dk_4 (dk_at dksX2_crosses_5 13 rfl rfl)
theorem dX2_crosses_131 : decode cX2_crosses 131 = .ok (.iadd, 1) := dk_96 (dk_at dksX2_crosses_5 14 rfl rfl)
theorem dX2_crosses_132 : decode cX2_crosses 132 = .ok (.putfield 326, 3) := dk_181 1 70 (dk_at dksX2_crosses_5 15 rfl rfl)
theorem dX2_crosses_135 : decode cX2_crosses 135 = .ok (.return_, 1) := dk_177 (dk_at dksX2_crosses_5 18 rfl rfl)
abbrev cX2_gate : ByteArray := prog_22_method_15_code
def yX2_gate : MethodName := ⟨RX2, "gate", "()I"⟩
def dkwX2_gate_1 : List UInt8 := [180, 0, 136, 172]
abbrev dktX2_gate_1 : List UInt8 := dkwX2_gate_1 ++ []
def dkwX2_gate_0 : List UInt8 := [42, 182, 0, 124, 76, 43, 193, 0, 141, 154, 0, 9, 42, 5, 182, 0, 82, 191, 42, 182, 0, 75, 43]
abbrev dktX2_gate_0 : List UInt8 := dkwX2_gate_0 ++ dktX2_gate_1
theorem dksX2_gate_0 : cX2_gate.data.toList.drop 0 = dktX2_gate_0 := by decide +kernel
theorem dksX2_gate_1 : cX2_gate.data.toList.drop 23 = dktX2_gate_1 := dk_seg dksX2_gate_0 23 rfl rfl
theorem dX2_gate_0 : decode cX2_gate 0 = .ok (.aload_n 0, 1) := dk_42 (dk_at dksX2_gate_0 0 rfl rfl)
theorem dX2_gate_1 : decode cX2_gate 1 = .ok (.invokevirtual 124, 3) := dk_182 0 124 (dk_at dksX2_gate_0 1 rfl rfl)
theorem dX2_gate_4 : decode cX2_gate 4 = .ok (.astore_n 1, 1) := dk_76 (dk_at dksX2_gate_0 4 rfl rfl)
theorem dX2_gate_5 : decode cX2_gate 5 = .ok (.aload_n 1, 1) := dk_43 (dk_at dksX2_gate_0 5 rfl rfl)
theorem dX2_gate_6 : decode cX2_gate 6 = .ok (.instanceof 141, 3) := dk_193 0 141 (dk_at dksX2_gate_0 6 rfl rfl)
theorem dX2_gate_9 : decode cX2_gate 9 = .ok (.ifCond .ne 9, 3) := dk_154 0 9 (dk_at dksX2_gate_0 9 rfl rfl)
theorem dX2_gate_12 : decode cX2_gate 12 = .ok (.aload_n 0, 1) := dk_42 (dk_at dksX2_gate_0 12 rfl rfl)
theorem dX2_gate_13 : decode cX2_gate 13 = .ok (.iconst 2, 1) := dk_5 (dk_at dksX2_gate_0 13 rfl rfl)
theorem dX2_gate_14 : decode cX2_gate 14 = .ok (.invokevirtual 82, 3) := dk_182 0 82 (dk_at dksX2_gate_0 14 rfl rfl)
theorem dX2_gate_17 : decode cX2_gate 17 = .ok (.athrow, 1) := dk_191 (dk_at dksX2_gate_0 17 rfl rfl)
theorem dX2_gate_18 : decode cX2_gate 18 = .ok (.aload_n 0, 1) := dk_42 (dk_at dksX2_gate_0 18 rfl rfl)
theorem dX2_gate_19 : decode cX2_gate 19 = .ok (.invokevirtual 75, 3) := dk_182 0 75 (dk_at dksX2_gate_0 19 rfl rfl)
theorem dX2_gate_22 : decode cX2_gate 22 = .ok (.aload_n 1, 1) := dk_43 (dk_at dksX2_gate_0 22 rfl rfl)
theorem dX2_gate_23 : decode cX2_gate 23 = .ok (.getfield 136, 3) := dk_180 0 136 (dk_at dksX2_gate_1 0 rfl rfl)
theorem dX2_gate_26 : decode cX2_gate 26 = .ok (.ireturn, 1) := dk_172 (dk_at dksX2_gate_1 3 rfl rfl)
abbrev cX2_price : ByteArray := prog_22_method_30_code
def yX2_price : MethodName := ⟨RX2, "price", "()V"⟩
def dkwX2_price_3 : List UInt8 := [181, 1, 106, 177]
abbrev dktX2_price_3 : List UInt8 := dkwX2_price_3 ++ []
def dkwX2_price_2 : List UInt8 := [16, 99, 182, 0, 188, 181, 1, 104, 43, 4, 181, 1, 95, 42, 180, 0, 115, 89, 180, 1, 106, 4, 96]
abbrev dktX2_price_2 : List UInt8 := dkwX2_price_2 ++ dktX2_price_3
def dkwX2_price_1 : List UInt8 := [182, 0, 75, 43, 42, 19, 1, 98, 3, 16, 99, 182, 0, 188, 181, 1, 100, 43, 42, 19, 1, 102, 3]
abbrev dktX2_price_1 : List UInt8 := dkwX2_price_1 ++ dktX2_price_2
def dkwX2_price_0 : List UInt8 := [42, 4, 182, 0, 201, 42, 182, 0, 130, 76, 43, 180, 1, 95, 153, 0, 9, 42, 6, 182, 0, 82, 191, 42]
abbrev dktX2_price_0 : List UInt8 := dkwX2_price_0 ++ dktX2_price_1
theorem dksX2_price_0 : cX2_price.data.toList.drop 0 = dktX2_price_0 := by decide +kernel
theorem dksX2_price_1 : cX2_price.data.toList.drop 24 = dktX2_price_1 := dk_seg dksX2_price_0 24 rfl rfl
theorem dksX2_price_2 : cX2_price.data.toList.drop 47 = dktX2_price_2 := dk_seg dksX2_price_1 23 rfl rfl
theorem dksX2_price_3 : cX2_price.data.toList.drop 70 = dktX2_price_3 := dk_seg dksX2_price_2 23 rfl rfl
theorem dX2_price_0 : decode cX2_price 0 = .ok (.aload_n 0, 1) := dk_42 (dk_at dksX2_price_0 0 rfl rfl)
theorem dX2_price_1 : decode cX2_price 1 = .ok (.iconst 1, 1) := dk_4 (dk_at dksX2_price_0 1 rfl rfl)
theorem dX2_price_2 : decode cX2_price 2 = .ok (.invokevirtual 201, 3) := dk_182 0 201 (dk_at dksX2_price_0 2 rfl rfl)
theorem dX2_price_5 : decode cX2_price 5 = .ok (.aload_n 0, 1) := dk_42 (dk_at dksX2_price_0 5 rfl rfl)
theorem dX2_price_6 : decode cX2_price 6 = .ok (.invokevirtual 130, 3) := dk_182 0 130 (dk_at dksX2_price_0 6 rfl rfl)
theorem dX2_price_9 : decode cX2_price 9 = .ok (.astore_n 1, 1) := dk_76 (dk_at dksX2_price_0 9 rfl rfl)
theorem dX2_price_10 : decode cX2_price 10 = .ok (.aload_n 1, 1) := dk_43 (dk_at dksX2_price_0 10 rfl rfl)
theorem dX2_price_11 : decode cX2_price 11 = .ok (.getfield 351, 3) := dk_180 1 95 (dk_at dksX2_price_0 11 rfl rfl)
theorem dX2_price_14 : decode cX2_price 14 = .ok (.ifCond .eq 9, 3) := dk_153 0 9 (dk_at dksX2_price_0 14 rfl rfl)
theorem dX2_price_17 : decode cX2_price 17 = .ok (.aload_n 0, 1) := dk_42 (dk_at dksX2_price_0 17 rfl rfl)
theorem dX2_price_18 : decode cX2_price 18 = .ok (.iconst 3, 1) := dk_6 (dk_at dksX2_price_0 18 rfl rfl)
theorem dX2_price_19 : decode cX2_price 19 = .ok (.invokevirtual 82, 3) := dk_182 0 82 (dk_at dksX2_price_0 19 rfl rfl)
theorem dX2_price_22 : decode cX2_price 22 = .ok (.athrow, 1) := dk_191 (dk_at dksX2_price_0 22 rfl rfl)
theorem dX2_price_23 : decode cX2_price 23 = .ok (.aload_n 0, 1) := dk_42 (dk_at dksX2_price_0 23 rfl rfl)
theorem dX2_price_24 : decode cX2_price 24 = .ok (.invokevirtual 75, 3) := dk_182 0 75 (dk_at dksX2_price_1 0 rfl rfl)
theorem dX2_price_27 : decode cX2_price 27 = .ok (.aload_n 1, 1) := dk_43 (dk_at dksX2_price_1 3 rfl rfl)
theorem dX2_price_28 : decode cX2_price 28 = .ok (.aload_n 0, 1) := dk_42 (dk_at dksX2_price_1 4 rfl rfl)
theorem dX2_price_29 : decode cX2_price 29 = .ok (.ldc_w 354, 3) := dk_19 1 98 (dk_at dksX2_price_1 5 rfl rfl)
theorem dX2_price_32 : decode cX2_price 32 = .ok (.iconst 0, 1) := dk_3 (dk_at dksX2_price_1 8 rfl rfl)
theorem dX2_price_33 : decode cX2_price 33 = .ok (.bipush 99, 2) := dk_16 99 (dk_at dksX2_price_1 9 rfl rfl)
theorem dX2_price_35 : decode cX2_price 35 = .ok (.invokevirtual 188, 3) := dk_182 0 188 (dk_at dksX2_price_1 11 rfl rfl)
theorem dX2_price_38 : decode cX2_price 38 = .ok (.putfield 356, 3) := dk_181 1 100 (dk_at dksX2_price_1 14 rfl rfl)
theorem dX2_price_41 : decode cX2_price 41 = .ok (.aload_n 1, 1) := dk_43 (dk_at dksX2_price_1 17 rfl rfl)
theorem dX2_price_42 : decode cX2_price 42 = .ok (.aload_n 0, 1) := dk_42 (dk_at dksX2_price_1 18 rfl rfl)
theorem dX2_price_43 : decode cX2_price 43 = .ok (.ldc_w 358, 3) := dk_19 1 102 (dk_at dksX2_price_1 19 rfl rfl)
theorem dX2_price_46 : decode cX2_price 46 = .ok (.iconst 0, 1) := dk_3 (dk_at dksX2_price_1 22 rfl rfl)
theorem dX2_price_47 : decode cX2_price 47 = .ok (.bipush 99, 2) := dk_16 99 (dk_at dksX2_price_2 0 rfl rfl)
theorem dX2_price_49 : decode cX2_price 49 = .ok (.invokevirtual 188, 3) := dk_182 0 188 (dk_at dksX2_price_2 2 rfl rfl)
theorem dX2_price_52 : decode cX2_price 52 = .ok (.putfield 360, 3) := dk_181 1 104 (dk_at dksX2_price_2 5 rfl rfl)
theorem dX2_price_55 : decode cX2_price 55 = .ok (.aload_n 1, 1) := dk_43 (dk_at dksX2_price_2 8 rfl rfl)
theorem dX2_price_56 : decode cX2_price 56 = .ok (.iconst 1, 1) := dk_4 (dk_at dksX2_price_2 9 rfl rfl)
theorem dX2_price_57 : decode cX2_price 57 = .ok (.putfield 351, 3) := dk_181 1 95 (dk_at dksX2_price_2 10 rfl rfl)
theorem dX2_price_60 : decode cX2_price 60 = .ok (.aload_n 0, 1) := dk_42 (dk_at dksX2_price_2 13 rfl rfl)
theorem dX2_price_61 : decode cX2_price 61 = .ok (.getfield 115, 3) := dk_180 0 115 (dk_at dksX2_price_2 14 rfl rfl)
theorem dX2_price_64 : decode cX2_price 64 = .ok (.dup, 1) := dk_89 (dk_at dksX2_price_2 17 rfl rfl)
theorem dX2_price_65 : decode cX2_price 65 = .ok (.getfield 362, 3) := dk_180 1 106 (dk_at dksX2_price_2 18 rfl rfl)
theorem dX2_price_68 : decode cX2_price 68 = .ok (.iconst 1, 1) := dk_4 (dk_at dksX2_price_2 21 rfl rfl)
theorem dX2_price_69 : decode cX2_price 69 = .ok (.iadd, 1) := dk_96 (dk_at dksX2_price_2 22 rfl rfl)
theorem dX2_price_70 : decode cX2_price 70 = .ok (.putfield 362, 3) := dk_181 1 106 (dk_at dksX2_price_3 0 rfl rfl)
theorem dX2_price_73 : decode cX2_price 73 = .ok (.return_, 1) := dk_177 (dk_at dksX2_price_3 3 rfl rfl)
abbrev cX2_crumb : ByteArray := prog_22_method_31_code
def yX2_crumb : MethodName := ⟨RX2, "crumb", "()V"⟩
def dkwX2_crumb_3 : List UInt8 := [180, 0, 115, 89, 180, 1, 109, 4, 96, 181, 1, 109, 177]
abbrev dktX2_crumb_3 : List UInt8 := dkwX2_crumb_3 ++ []
def dkwX2_crumb_2 : List UInt8 := [16, 60, 182, 0, 188, 79, 42, 180, 0, 115, 180, 1, 117, 42, 180, 0, 115, 180, 1, 109, 27, 79, 42]
abbrev dktX2_crumb_2 : List UInt8 := dkwX2_crumb_2 ++ dktX2_crumb_3
def dkwX2_crumb_1 : List UInt8 := [180, 1, 112, 60, 42, 180, 0, 115, 180, 1, 113, 42, 180, 0, 115, 180, 1, 109, 42, 19, 1, 83, 3]
abbrev dktX2_crumb_1 : List UInt8 := dkwX2_crumb_1 ++ dktX2_crumb_2
def dkwX2_crumb_0 : List UInt8 := [42, 42, 180, 0, 115, 180, 1, 109, 8, 162, 0, 7, 4, 167, 0, 4, 3, 182, 0, 201, 42, 182, 1, 37]
abbrev dktX2_crumb_0 : List UInt8 := dkwX2_crumb_0 ++ dktX2_crumb_1
theorem dksX2_crumb_0 : cX2_crumb.data.toList.drop 0 = dktX2_crumb_0 := by decide +kernel
theorem dksX2_crumb_1 : cX2_crumb.data.toList.drop 24 = dktX2_crumb_1 := dk_seg dksX2_crumb_0 24 rfl rfl
theorem dksX2_crumb_2 : cX2_crumb.data.toList.drop 47 = dktX2_crumb_2 := dk_seg dksX2_crumb_1 23 rfl rfl
theorem dksX2_crumb_3 : cX2_crumb.data.toList.drop 70 = dktX2_crumb_3 := dk_seg dksX2_crumb_2 23 rfl rfl
theorem dX2_crumb_0 : decode cX2_crumb 0 = .ok (.aload_n 0, 1) := dk_42 (dk_at dksX2_crumb_0 0 rfl rfl)
theorem dX2_crumb_1 : decode cX2_crumb 1 = .ok (.aload_n 0, 1) := dk_42 (dk_at dksX2_crumb_0 1 rfl rfl)
theorem dX2_crumb_2 : decode cX2_crumb 2 = .ok (.getfield 115, 3) := dk_180 0 115 (dk_at dksX2_crumb_0 2 rfl rfl)
theorem dX2_crumb_5 : decode cX2_crumb 5 = .ok (.getfield 365, 3) := dk_180 1 109 (dk_at dksX2_crumb_0 5 rfl rfl)
theorem dX2_crumb_8 : decode cX2_crumb 8 = .ok (.iconst 5, 1) := dk_8 (dk_at dksX2_crumb_0 8 rfl rfl)
theorem dX2_crumb_9 : decode cX2_crumb 9 = .ok (.if_icmp .ge 7, 3) := dk_162 0 7 (dk_at dksX2_crumb_0 9 rfl rfl)
theorem dX2_crumb_12 : decode cX2_crumb 12 = .ok (.iconst 1, 1) := dk_4 (dk_at dksX2_crumb_0 12 rfl rfl)
theorem dX2_crumb_13 : decode cX2_crumb 13 = .ok (.goto 4, 3) := dk_167 0 4 (dk_at dksX2_crumb_0 13 rfl rfl)
theorem dX2_crumb_16 : decode cX2_crumb 16 = .ok (.iconst 0, 1) := dk_3 (dk_at dksX2_crumb_0 16 rfl rfl)
theorem dX2_crumb_17 : decode cX2_crumb 17 = .ok (.invokevirtual 201, 3) := dk_182 0 201 (dk_at dksX2_crumb_0 17 rfl rfl)
theorem dX2_crumb_20 : decode cX2_crumb 20 = .ok (.aload_n 0, 1) := dk_42 (dk_at dksX2_crumb_0 20 rfl rfl)
theorem dX2_crumb_21 : decode cX2_crumb 21 = .ok (.invokevirtual 293, 3) := dk_182 1 37 (dk_at dksX2_crumb_0 21 rfl rfl)
theorem dX2_crumb_24 : decode cX2_crumb 24 = .ok (.getfield 368, 3) := dk_180 1 112 (dk_at dksX2_crumb_1 0 rfl rfl)
theorem dX2_crumb_27 : decode cX2_crumb 27 = .ok (.istore_n 1, 1) := dk_60 (dk_at dksX2_crumb_1 3 rfl rfl)
theorem dX2_crumb_28 : decode cX2_crumb 28 = .ok (.aload_n 0, 1) := dk_42 (dk_at dksX2_crumb_1 4 rfl rfl)
theorem dX2_crumb_29 : decode cX2_crumb 29 = .ok (.getfield 115, 3) := dk_180 0 115 (dk_at dksX2_crumb_1 5 rfl rfl)
theorem dX2_crumb_32 : decode cX2_crumb 32 = .ok (.getfield 369, 3) := dk_180 1 113 (dk_at dksX2_crumb_1 8 rfl rfl)
theorem dX2_crumb_35 : decode cX2_crumb 35 = .ok (.aload_n 0, 1) := dk_42 (dk_at dksX2_crumb_1 11 rfl rfl)
theorem dX2_crumb_36 : decode cX2_crumb 36 = .ok (.getfield 115, 3) := dk_180 0 115 (dk_at dksX2_crumb_1 12 rfl rfl)
theorem dX2_crumb_39 : decode cX2_crumb 39 = .ok (.getfield 365, 3) := dk_180 1 109 (dk_at dksX2_crumb_1 15 rfl rfl)
theorem dX2_crumb_42 : decode cX2_crumb 42 = .ok (.aload_n 0, 1) := dk_42 (dk_at dksX2_crumb_1 18 rfl rfl)
theorem dX2_crumb_43 : decode cX2_crumb 43 = .ok (.ldc_w 339, 3) := dk_19 1 83 (dk_at dksX2_crumb_1 19 rfl rfl)
theorem dX2_crumb_46 : decode cX2_crumb 46 = .ok (.iconst 0, 1) := dk_3 (dk_at dksX2_crumb_1 22 rfl rfl)
theorem dX2_crumb_47 : decode cX2_crumb 47 = .ok (.bipush 60, 2) := dk_16 60 (dk_at dksX2_crumb_2 0 rfl rfl)
theorem dX2_crumb_49 : decode cX2_crumb 49 = .ok (.invokevirtual 188, 3) := dk_182 0 188 (dk_at dksX2_crumb_2 2 rfl rfl)
theorem dX2_crumb_52 : decode cX2_crumb 52 = .ok (.iastore, 1) := dk_79 (dk_at dksX2_crumb_2 5 rfl rfl)
theorem dX2_crumb_53 : decode cX2_crumb 53 = .ok (.aload_n 0, 1) := dk_42 (dk_at dksX2_crumb_2 6 rfl rfl)
theorem dX2_crumb_54 : decode cX2_crumb 54 = .ok (.getfield 115, 3) := dk_180 0 115 (dk_at dksX2_crumb_2 7 rfl rfl)
theorem dX2_crumb_57 : decode cX2_crumb 57 = .ok (.getfield 373, 3) := dk_180 1 117 (dk_at dksX2_crumb_2 10 rfl rfl)
theorem dX2_crumb_60 : decode cX2_crumb 60 = .ok (.aload_n 0, 1) := dk_42 (dk_at dksX2_crumb_2 13 rfl rfl)
theorem dX2_crumb_61 : decode cX2_crumb 61 = .ok (.getfield 115, 3) := dk_180 0 115 (dk_at dksX2_crumb_2 14 rfl rfl)
theorem dX2_crumb_64 : decode cX2_crumb 64 = .ok (.getfield 365, 3) := dk_180 1 109 (dk_at dksX2_crumb_2 17 rfl rfl)
theorem dX2_crumb_67 : decode cX2_crumb 67 = .ok (.iload_n 1, 1) := dk_27 (dk_at dksX2_crumb_2 20 rfl rfl)
theorem dX2_crumb_68 : decode cX2_crumb 68 = .ok (.iastore, 1) := dk_79 (dk_at dksX2_crumb_2 21 rfl rfl)
theorem dX2_crumb_69 : decode cX2_crumb 69 = .ok (.aload_n 0, 1) := dk_42 (dk_at dksX2_crumb_2 22 rfl rfl)
theorem dX2_crumb_70 : decode cX2_crumb 70 = .ok (.getfield 115, 3) := dk_180 0 115 (dk_at dksX2_crumb_3 0 rfl rfl)
theorem dX2_crumb_73 : decode cX2_crumb 73 = .ok (.dup, 1) := dk_89 (dk_at dksX2_crumb_3 3 rfl rfl)
theorem dX2_crumb_74 : decode cX2_crumb 74 = .ok (.getfield 365, 3) := dk_180 1 109 (dk_at dksX2_crumb_3 4 rfl rfl)
theorem dX2_crumb_77 : decode cX2_crumb 77 = .ok (.iconst 1, 1) := dk_4 (dk_at dksX2_crumb_3 7 rfl rfl)
theorem dX2_crumb_78 : decode cX2_crumb 78 = .ok (.iadd, 1) := dk_96 (dk_at dksX2_crumb_3 8 rfl rfl)
theorem dX2_crumb_79 : decode cX2_crumb 79 = .ok (.putfield 365, 3) := dk_181 1 109 (dk_at dksX2_crumb_3 9 rfl rfl)
theorem dX2_crumb_82 : decode cX2_crumb 82 = .ok (.return_, 1) := dk_177 (dk_at dksX2_crumb_3 12 rfl rfl)
theorem q121 : (Jvm.Cond.initialized "SaltedGate$Reader") ∈ lw_all := lw_g (lw_at lw_m1 2 rfl) rfl
theorem q167 : (Jvm.Cond.instantiable "SaltedGate$Reader" (10 : Nat)) ∈ lw_all := lw_g (lw_at lw_m1 48 rfl) rfl
theorem q169 : (Jvm.Cond.instanceMethod ({ cls := "SaltedGate$Reader", name := "<init>", desc := "([B)V" } : Jvm.MethodName)) ∈ lw_all := lw_g (lw_at lw_m1 50 rfl) rfl
theorem q170 : (Jvm.Cond.code ({ cls := "SaltedGate$Reader", name := "<init>", desc := "([B)V" } : Jvm.MethodName) prog_22_method_1_code (2 : Nat) (Option.none : Option Jvm.ClassFile.FieldType)) ∈ lw_all := lw_g (lw_at lw_m1 51 rfl) rfl
theorem q171 : (Jvm.Cond.methodLink "SaltedGate$Reader" (3 : Nat) ({ cls := "java/lang/Object", name := "<init>", desc := "()V" } : Jvm.MethodName)) ∈ lw_all := lw_g (lw_at lw_m1 52 rfl) rfl
theorem q172 : (Jvm.Cond.classLink "SaltedGate$Reader" (9 : Nat) "SaltedGate$Refused") ∈ lw_all := lw_g (lw_at lw_m1 53 rfl) rfl
theorem q212 : (Jvm.Cond.methodLink "SaltedGate$Reader" (11 : Nat) ({ cls := "SaltedGate$Refused", name := "<init>", desc := "()V" } : Jvm.MethodName)) ∈ lw_all := lw_g (lw_at lw_m1 93 rfl) rfl
theorem q246 : (Jvm.Cond.fieldLink "SaltedGate$Reader" (12 : Nat) "SaltedGate$Reader" "wrong" "LSaltedGate$Refused;") ∈ lw_all := lw_g (lw_at lw_m1 127 rfl) rfl
theorem q247 : (Jvm.Cond.fieldLink "SaltedGate$Reader" (22 : Nat) "SaltedGate$Reader" "text" "[B") ∈ lw_all := lw_g (lw_at lw_m1 128 rfl) rfl
theorem q248 : (Jvm.Cond.fieldLink "SaltedGate$Reader" (18 : Nat) "SaltedGate$Reader" "letters" "[C") ∈ lw_all := lw_g (lw_at lw_m1 129 rfl) rfl
theorem q249 : (Jvm.Cond.fieldLink "SaltedGate$Reader" (33 : Nat) "SaltedGate$Reader" "size" "I") ∈ lw_all := lw_g (lw_at lw_m1 130 rfl) rfl
theorem q250 : (Jvm.Cond.fieldLink "SaltedGate$Reader" (40 : Nat) "SaltedGate$Reader" "end" "I") ∈ lw_all := lw_g (lw_at lw_m1 131 rfl) rfl
theorem q251 : (Jvm.Cond.fieldLink "SaltedGate$Reader" (47 : Nat) "SaltedGate$Reader" "token" "I") ∈ lw_all := lw_g (lw_at lw_m1 132 rfl) rfl
theorem q252 : (Jvm.Cond.fieldLink "SaltedGate$Reader" (26 : Nat) "SaltedGate$Reader" "at" "I") ∈ lw_all := lw_g (lw_at lw_m1 133 rfl) rfl
theorem q253 : (Jvm.Cond.fieldLink "SaltedGate$Reader" (68 : Nat) "SaltedGate$Reader" "whole" "I") ∈ lw_all := lw_g (lw_at lw_m1 134 rfl) rfl
theorem q254 : (Jvm.Cond.fieldLink "SaltedGate$Reader" (61 : Nat) "SaltedGate$Reader" "word" "Ljava/lang/String;") ∈ lw_all := lw_g (lw_at lw_m1 135 rfl) rfl
theorem q255 : (Jvm.Cond.fieldLink "SaltedGate$Reader" (115 : Nat) "SaltedGate$Reader" "barrier" "LSaltedGate$Barrier;") ∈ lw_all := lw_g (lw_at lw_m1 136 rfl) rfl
theorem q256 : (Jvm.Cond.laysFinal "SaltedGate$Reader" "SaltedGate$Reader" "wrong" "LSaltedGate$Refused;") ∈ lw_all := lw_g (lw_at lw_m1 137 rfl) rfl
theorem q257 : (Jvm.Cond.soleField "SaltedGate$Reader" "wrong") ∈ lw_all := lw_g (lw_at lw_m1 138 rfl) rfl
theorem q258 : (Jvm.Cond.laysFinal "SaltedGate$Reader" "SaltedGate$Reader" "text" "[B") ∈ lw_all := lw_g (lw_at lw_m1 139 rfl) rfl
theorem q259 : (Jvm.Cond.soleField "SaltedGate$Reader" "text") ∈ lw_all := lw_g (lw_at lw_m1 140 rfl) rfl
theorem q260 : (Jvm.Cond.laysFinal "SaltedGate$Reader" "SaltedGate$Reader" "letters" "[C") ∈ lw_all := lw_g (lw_at lw_m1 141 rfl) rfl
theorem q261 : (Jvm.Cond.soleField "SaltedGate$Reader" "letters") ∈ lw_all := lw_g (lw_at lw_m1 142 rfl) rfl
theorem q262 : (Jvm.Cond.lays "SaltedGate$Reader" "SaltedGate$Reader" "size" "I") ∈ lw_all := lw_g (lw_at lw_m1 143 rfl) rfl
theorem q263 : (Jvm.Cond.soleField "SaltedGate$Reader" "size") ∈ lw_all := lw_g (lw_at lw_m1 144 rfl) rfl
theorem q264 : (Jvm.Cond.lays "SaltedGate$Reader" "SaltedGate$Reader" "end" "I") ∈ lw_all := lw_g (lw_at lw_m1 145 rfl) rfl
theorem q265 : (Jvm.Cond.soleField "SaltedGate$Reader" "end") ∈ lw_all := lw_g (lw_at lw_m1 146 rfl) rfl
theorem q266 : (Jvm.Cond.lays "SaltedGate$Reader" "SaltedGate$Reader" "token" "I") ∈ lw_all := lw_g (lw_at lw_m1 147 rfl) rfl
theorem q267 : (Jvm.Cond.soleField "SaltedGate$Reader" "token") ∈ lw_all := lw_g (lw_at lw_m1 148 rfl) rfl
theorem q268 : (Jvm.Cond.lays "SaltedGate$Reader" "SaltedGate$Reader" "at" "I") ∈ lw_all := lw_g (lw_at lw_m1 149 rfl) rfl
theorem q269 : (Jvm.Cond.soleField "SaltedGate$Reader" "at") ∈ lw_all := lw_g (lw_at lw_m1 150 rfl) rfl
theorem q270 : (Jvm.Cond.lays "SaltedGate$Reader" "SaltedGate$Reader" "whole" "I") ∈ lw_all := lw_g (lw_at lw_m1 151 rfl) rfl
theorem q271 : (Jvm.Cond.soleField "SaltedGate$Reader" "whole") ∈ lw_all := lw_g (lw_at lw_m1 152 rfl) rfl
theorem q272 : (Jvm.Cond.lays "SaltedGate$Reader" "SaltedGate$Reader" "word" "Ljava/lang/String;") ∈ lw_all := lw_g (lw_at lw_m1 153 rfl) rfl
theorem q273 : (Jvm.Cond.soleField "SaltedGate$Reader" "word") ∈ lw_all := lw_g (lw_at lw_m1 154 rfl) rfl
theorem q274 : (Jvm.Cond.lays "SaltedGate$Reader" "SaltedGate$Reader" "barrier" "LSaltedGate$Barrier;") ∈ lw_all := lw_g (lw_at lw_m1 155 rfl) rfl
theorem q275 : (Jvm.Cond.soleField "SaltedGate$Reader" "barrier") ∈ lw_all := lw_g (lw_at lw_m1 156 rfl) rfl
theorem q276 : (Jvm.Cond.superclass "SaltedGate$Reader" "java/lang/Object") ∈ lw_all := lw_g (lw_at lw_m1 157 rfl) rfl
theorem q508 : (Jvm.Cond.instanceMethod ({ cls := "SaltedGate$Reader", name := "read", desc := "(I)LSaltedGate$Barrier;" } : Jvm.MethodName)) ∈ lw_all := lw_g (lw_at lw_m2 149 rfl) rfl
theorem q509 : (Jvm.Cond.selects "SaltedGate$Reader" ({ cls := "SaltedGate$Reader", name := "read", desc := "(I)LSaltedGate$Barrier;" } : Jvm.MethodName) ({ cls := "SaltedGate$Reader", name := "read", desc := "(I)LSaltedGate$Barrier;" } : Jvm.MethodName)) ∈ lw_all := lw_g (lw_at lw_m2 150 rfl) rfl
theorem q510 : (Jvm.Cond.code ({ cls := "SaltedGate$Reader", name := "read", desc := "(I)LSaltedGate$Barrier;" } : Jvm.MethodName) prog_22_method_19_code (2 : Nat) (Option.some (Jvm.ClassFile.FieldType.object "SaltedGate$Barrier"))) ∈ lw_all := lw_g (lw_at lw_m2 151 rfl) rfl
theorem q511 : (Jvm.Cond.classLink "SaltedGate$Reader" (119 : Nat) "SaltedGate$Barrier") ∈ lw_all := lw_g (lw_at lw_m2 152 rfl) rfl
theorem q513 : (Jvm.Cond.methodLinkNest "SaltedGate$Reader" (154 : Nat) ({ cls := "SaltedGate$Barrier", name := "<init>", desc := "()V" } : Jvm.MethodName) "SaltedGate") ∈ lw_tbl := lw_at lw_m2 154 rfl
theorem q528 : (Jvm.Cond.fieldLink "SaltedGate$Reader" (225 : Nat) "SaltedGate$Barrier" "means" "[LSaltedGate$Means;") ∈ lw_all := lw_g (lw_at lw_m2 169 rfl) rfl
theorem q533 : (Jvm.Cond.fieldLink "SaltedGate$Reader" (237 : Nat) "SaltedGate$Barrier" "people" "[LSaltedGate$Traveller;") ∈ lw_all := lw_g (lw_at lw_m2 174 rfl) rfl
theorem q538 : (Jvm.Cond.fieldLink "SaltedGate$Reader" (254 : Nat) "SaltedGate$Barrier" "gates" "[LSaltedGate$Gate;") ∈ lw_all := lw_g (lw_at lw_m2 179 rfl) rfl
theorem q543 : (Jvm.Cond.fieldLink "SaltedGate$Reader" (319 : Nat) "SaltedGate$Barrier" "goods" "[LSaltedGate$Good;") ∈ lw_all := lw_g (lw_at lw_m2 184 rfl) rfl
theorem q546 : (Jvm.Cond.fieldLink "SaltedGate$Reader" (341 : Nat) "SaltedGate$Barrier" "crossings" "[LSaltedGate$Crossing;") ∈ lw_all := lw_g (lw_at lw_m2 187 rfl) rfl
theorem q549 : (Jvm.Cond.fieldLink "SaltedGate$Reader" (373 : Nat) "SaltedGate$Barrier" "crumbs" "[I") ∈ lw_all := lw_g (lw_at lw_m2 190 rfl) rfl
theorem q552 : (Jvm.Cond.fieldLink "SaltedGate$Reader" (369 : Nat) "SaltedGate$Barrier" "crumbDays" "[I") ∈ lw_all := lw_g (lw_at lw_m2 193 rfl) rfl
theorem q553 : (Jvm.Cond.fieldLink "SaltedGate$Reader" (192 : Nat) "SaltedGate$Barrier" "fee" "I") ∈ lw_all := lw_g (lw_at lw_m2 194 rfl) rfl
theorem q555 : (Jvm.Cond.fieldLink "SaltedGate$Reader" (196 : Nat) "SaltedGate$Barrier" "interest" "I") ∈ lw_all := lw_g (lw_at lw_m2 196 rfl) rfl
theorem q558 : (Jvm.Cond.fieldLink "SaltedGate$Reader" (198 : Nat) "SaltedGate$Barrier" "meansMany" "I") ∈ lw_all := lw_g (lw_at lw_m2 199 rfl) rfl
theorem q563 : (Jvm.Cond.fieldLink "SaltedGate$Reader" (158 : Nat) "SaltedGate$Barrier" "personMany" "I") ∈ lw_all := lw_g (lw_at lw_m2 204 rfl) rfl
theorem q566 : (Jvm.Cond.fieldLink "SaltedGate$Reader" (161 : Nat) "SaltedGate$Barrier" "gateMany" "I") ∈ lw_all := lw_g (lw_at lw_m2 207 rfl) rfl
theorem q573 : (Jvm.Cond.fieldLink "SaltedGate$Reader" (298 : Nat) "SaltedGate$Barrier" "goodMany" "I") ∈ lw_all := lw_g (lw_at lw_m2 214 rfl) rfl
theorem q575 : (Jvm.Cond.fieldLink "SaltedGate$Reader" (326 : Nat) "SaltedGate$Barrier" "crossMany" "I") ∈ lw_all := lw_g (lw_at lw_m2 216 rfl) rfl
theorem q577 : (Jvm.Cond.fieldLink "SaltedGate$Reader" (362 : Nat) "SaltedGate$Barrier" "priceMany" "I") ∈ lw_all := lw_g (lw_at lw_m2 218 rfl) rfl
theorem q580 : (Jvm.Cond.fieldLink "SaltedGate$Reader" (365 : Nat) "SaltedGate$Barrier" "crumbMany" "I") ∈ lw_all := lw_g (lw_at lw_m2 221 rfl) rfl
theorem q582 : (Jvm.Cond.fieldLink "SaltedGate$Reader" (150 : Nat) "SaltedGate$Barrier" "told" "Z") ∈ lw_all := lw_g (lw_at lw_m2 223 rfl) rfl
theorem q618 : (Jvm.Cond.methodLink "SaltedGate$Reader" (75 : Nat) ({ cls := "SaltedGate$Reader", name := "next", desc := "()V" } : Jvm.MethodName)) ∈ lw_all := lw_g (lw_at lw_m3 19 rfl) rfl
theorem q619 : (Jvm.Cond.privateMethod ({ cls := "SaltedGate$Reader", name := "next", desc := "()V" } : Jvm.MethodName)) ∈ lw_tbl := lw_at lw_m3 20 rfl
theorem q620 : (Jvm.Cond.instanceMethod ({ cls := "SaltedGate$Reader", name := "next", desc := "()V" } : Jvm.MethodName)) ∈ lw_all := lw_g (lw_at lw_m3 21 rfl) rfl
theorem q621 : (Jvm.Cond.code ({ cls := "SaltedGate$Reader", name := "next", desc := "()V" } : Jvm.MethodName) prog_22_method_6_code (3 : Nat) (Option.none : Option Jvm.ClassFile.FieldType)) ∈ lw_all := lw_g (lw_at lw_m3 22 rfl) rfl
theorem q622 : (Jvm.Cond.methodLink "SaltedGate$Reader" (43 : Nat) ({ cls := "SaltedGate$Reader", name := "see", desc := "(I)I" } : Jvm.MethodName)) ∈ lw_all := lw_g (lw_at lw_m3 23 rfl) rfl
theorem q623 : (Jvm.Cond.privateMethod ({ cls := "SaltedGate$Reader", name := "see", desc := "(I)I" } : Jvm.MethodName)) ∈ lw_tbl := lw_at lw_m3 24 rfl
theorem q624 : (Jvm.Cond.instanceMethod ({ cls := "SaltedGate$Reader", name := "see", desc := "(I)I" } : Jvm.MethodName)) ∈ lw_all := lw_g (lw_at lw_m3 25 rfl) rfl
theorem q625 : (Jvm.Cond.code ({ cls := "SaltedGate$Reader", name := "see", desc := "(I)I" } : Jvm.MethodName) prog_22_method_3_code (2 : Nat) (Option.some Jvm.ClassFile.FieldType.int)) ∈ lw_all := lw_g (lw_at lw_m3 26 rfl) rfl
theorem q626 : (Jvm.Cond.methodLink "SaltedGate$Reader" (50 : Nat) ({ cls := "SaltedGate$Reader", name := "isSmall", desc := "(I)Z" } : Jvm.MethodName)) ∈ lw_all := lw_g (lw_at lw_m3 27 rfl) rfl
theorem q627 : (Jvm.Cond.static ({ cls := "SaltedGate$Reader", name := "isSmall", desc := "(I)Z" } : Jvm.MethodName)) ∈ lw_all := lw_g (lw_at lw_m3 28 rfl) rfl
theorem q628 : (Jvm.Cond.code ({ cls := "SaltedGate$Reader", name := "isSmall", desc := "(I)Z" } : Jvm.MethodName) prog_22_method_4_code (1 : Nat) (Option.some Jvm.ClassFile.FieldType.boolean)) ∈ lw_all := lw_g (lw_at lw_m3 29 rfl) rfl
theorem q629 : (Jvm.Cond.methodLinkNest "SaltedGate$Reader" (36 : Nat) ({ cls := "SaltedGate", name := "in", desc := "(III)Z" } : Jvm.MethodName) "SaltedGate") ∈ lw_tbl := lw_at lw_m3 30 rfl
theorem q630 : (Jvm.Cond.classLink "SaltedGate$Reader" (54 : Nat) "java/lang/String") ∈ lw_all := lw_g (lw_at lw_m3 31 rfl) rfl
theorem q632 : (Jvm.Cond.methodLink "SaltedGate$Reader" (56 : Nat) ({ cls := "java/lang/String", name := "<init>", desc := "([CII)V" } : Jvm.MethodName)) ∈ lw_all := lw_g (lw_at lw_m3 33 rfl) rfl
theorem q708 : (Jvm.Cond.stringRef "SaltedGate$Reader" (59 : Nat) "") ∈ lw_tbl := lw_at lw_m3 109 rfl
theorem q709 : (Jvm.Cond.methodLink "SaltedGate$Reader" (65 : Nat) ({ cls := "SaltedGate$Reader", name := "isDigit", desc := "(I)Z" } : Jvm.MethodName)) ∈ lw_all := lw_g (lw_at lw_m3 110 rfl) rfl
theorem q710 : (Jvm.Cond.static ({ cls := "SaltedGate$Reader", name := "isDigit", desc := "(I)Z" } : Jvm.MethodName)) ∈ lw_all := lw_g (lw_at lw_m3 111 rfl) rfl
theorem q711 : (Jvm.Cond.code ({ cls := "SaltedGate$Reader", name := "isDigit", desc := "(I)Z" } : Jvm.MethodName) prog_22_method_5_code (1 : Nat) (Option.some Jvm.ClassFile.FieldType.boolean)) ∈ lw_all := lw_g (lw_at lw_m3 112 rfl) rfl
theorem q712 : (Jvm.Cond.methodLink "SaltedGate$Reader" (155 : Nat) ({ cls := "SaltedGate$Reader", name := "line", desc := "()V" } : Jvm.MethodName)) ∈ lw_all := lw_g (lw_at lw_m3 113 rfl) rfl
theorem q713 : (Jvm.Cond.privateMethod ({ cls := "SaltedGate$Reader", name := "line", desc := "()V" } : Jvm.MethodName)) ∈ lw_tbl := lw_at lw_m3 114 rfl
theorem q714 : (Jvm.Cond.instanceMethod ({ cls := "SaltedGate$Reader", name := "line", desc := "()V" } : Jvm.MethodName)) ∈ lw_all := lw_g (lw_at lw_m3 115 rfl) rfl
theorem q715 : (Jvm.Cond.code ({ cls := "SaltedGate$Reader", name := "line", desc := "()V" } : Jvm.MethodName) prog_22_method_20_code (3 : Nat) (Option.none : Option Jvm.ClassFile.FieldType)) ∈ lw_all := lw_g (lw_at lw_m3 116 rfl) rfl
theorem q716 : (Jvm.Cond.methodLink "SaltedGate$Reader" (82 : Nat) ({ cls := "SaltedGate$Reader", name := "fail", desc := "(I)LSaltedGate$Refused;" } : Jvm.MethodName)) ∈ lw_all := lw_g (lw_at lw_m3 117 rfl) rfl
theorem q717 : (Jvm.Cond.privateMethod ({ cls := "SaltedGate$Reader", name := "fail", desc := "(I)LSaltedGate$Refused;" } : Jvm.MethodName)) ∈ lw_tbl := lw_at lw_m3 118 rfl
theorem q718 : (Jvm.Cond.instanceMethod ({ cls := "SaltedGate$Reader", name := "fail", desc := "(I)LSaltedGate$Refused;" } : Jvm.MethodName)) ∈ lw_all := lw_g (lw_at lw_m3 119 rfl) rfl
theorem q719 : (Jvm.Cond.code ({ cls := "SaltedGate$Reader", name := "fail", desc := "(I)LSaltedGate$Refused;" } : Jvm.MethodName) prog_22_method_2_code (2 : Nat) (Option.some (Jvm.ClassFile.FieldType.object "SaltedGate$Refused"))) ∈ lw_all := lw_g (lw_at lw_m3 120 rfl) rfl
theorem q720 : (Jvm.Cond.methodLink "SaltedGate$Reader" (30 : Nat) ({ cls := "SaltedGate$Refused", name := "at", desc := "(II)LSaltedGate$Refused;" } : Jvm.MethodName)) ∈ lw_all := lw_g (lw_at lw_m3 121 rfl) rfl
theorem q724 : (Jvm.Cond.methodLink "SaltedGate$Reader" (86 : Nat) ({ cls := "java/lang/String", name := "hashCode", desc := "()I" } : Jvm.MethodName)) ∈ lw_all := lw_g (lw_at lw_m3 125 rfl) rfl
theorem q777 : (Jvm.Cond.stringRef "SaltedGate$Reader" (90 : Nat) "barrier") ∈ lw_tbl := lw_at lw_m3 178 rfl
theorem q778 : (Jvm.Cond.methodLink "SaltedGate$Reader" (71 : Nat) ({ cls := "java/lang/String", name := "equals", desc := "(Ljava/lang/Object;)Z" } : Jvm.MethodName)) ∈ lw_all := lw_g (lw_at lw_m3 179 rfl) rfl
theorem q786 : (Jvm.Cond.stringRef "SaltedGate$Reader" (92 : Nat) "means") ∈ lw_tbl := lw_at lw_m3 187 rfl
theorem q787 : (Jvm.Cond.stringRef "SaltedGate$Reader" (94 : Nat) "traveller") ∈ lw_tbl := lw_at lw_m3 188 rfl
theorem q788 : (Jvm.Cond.stringRef "SaltedGate$Reader" (96 : Nat) "gate") ∈ lw_tbl := lw_at lw_m3 189 rfl
theorem q789 : (Jvm.Cond.stringRef "SaltedGate$Reader" (98 : Nat) "good") ∈ lw_tbl := lw_at lw_m3 190 rfl
theorem q790 : (Jvm.Cond.stringRef "SaltedGate$Reader" (100 : Nat) "hides") ∈ lw_tbl := lw_at lw_m3 191 rfl
theorem q791 : (Jvm.Cond.stringRef "SaltedGate$Reader" (102 : Nat) "crosses") ∈ lw_tbl := lw_at lw_m3 192 rfl
theorem q792 : (Jvm.Cond.stringRef "SaltedGate$Reader" (104 : Nat) "price") ∈ lw_tbl := lw_at lw_m3 193 rfl
theorem q793 : (Jvm.Cond.stringRef "SaltedGate$Reader" (106 : Nat) "crumb") ∈ lw_tbl := lw_at lw_m3 194 rfl
theorem q794 : (Jvm.Cond.methodLink "SaltedGate$Reader" (164 : Nat) ({ cls := "SaltedGate$Reader", name := "barrierLine", desc := "()V" } : Jvm.MethodName)) ∈ lw_all := lw_g (lw_at lw_m3 195 rfl) rfl
theorem q795 : (Jvm.Cond.privateMethod ({ cls := "SaltedGate$Reader", name := "barrierLine", desc := "()V" } : Jvm.MethodName)) ∈ lw_tbl := lw_at lw_m3 196 rfl
theorem q796 : (Jvm.Cond.instanceMethod ({ cls := "SaltedGate$Reader", name := "barrierLine", desc := "()V" } : Jvm.MethodName)) ∈ lw_all := lw_g (lw_at lw_m3 197 rfl) rfl
theorem q797 : (Jvm.Cond.code ({ cls := "SaltedGate$Reader", name := "barrierLine", desc := "()V" } : Jvm.MethodName) prog_22_method_21_code (1 : Nat) (Option.none : Option Jvm.ClassFile.FieldType)) ∈ lw_all := lw_g (lw_at lw_m3 198 rfl) rfl
theorem q798 : (Jvm.Cond.stringRef "SaltedGate$Reader" (186 : Nat) "fee") ∈ lw_tbl := lw_at lw_m3 199 rfl
theorem q799 : (Jvm.Cond.methodLink "SaltedGate$Reader" (188 : Nat) ({ cls := "SaltedGate$Reader", name := "after", desc := "(Ljava/lang/String;II)I" } : Jvm.MethodName)) ∈ lw_all := lw_g (lw_at lw_m3 200 rfl) rfl
theorem q800 : (Jvm.Cond.privateMethod ({ cls := "SaltedGate$Reader", name := "after", desc := "(Ljava/lang/String;II)I" } : Jvm.MethodName)) ∈ lw_tbl := lw_at lw_m3 201 rfl
theorem q801 : (Jvm.Cond.instanceMethod ({ cls := "SaltedGate$Reader", name := "after", desc := "(Ljava/lang/String;II)I" } : Jvm.MethodName)) ∈ lw_all := lw_g (lw_at lw_m3 202 rfl) rfl
theorem q802 : (Jvm.Cond.code ({ cls := "SaltedGate$Reader", name := "after", desc := "(Ljava/lang/String;II)I" } : Jvm.MethodName) prog_22_method_17_code (4 : Nat) (Option.some Jvm.ClassFile.FieldType.int)) ∈ lw_all := lw_g (lw_at lw_m3 203 rfl) rfl
theorem q803 : (Jvm.Cond.methodLink "SaltedGate$Reader" (143 : Nat) ({ cls := "SaltedGate$Reader", name := "must", desc := "(Ljava/lang/String;)V" } : Jvm.MethodName)) ∈ lw_all := lw_g (lw_at lw_m3 204 rfl) rfl
theorem q804 : (Jvm.Cond.privateMethod ({ cls := "SaltedGate$Reader", name := "must", desc := "(Ljava/lang/String;)V" } : Jvm.MethodName)) ∈ lw_tbl := lw_at lw_m3 205 rfl
theorem q805 : (Jvm.Cond.instanceMethod ({ cls := "SaltedGate$Reader", name := "must", desc := "(Ljava/lang/String;)V" } : Jvm.MethodName)) ∈ lw_all := lw_g (lw_at lw_m3 206 rfl) rfl
theorem q806 : (Jvm.Cond.code ({ cls := "SaltedGate$Reader", name := "must", desc := "(Ljava/lang/String;)V" } : Jvm.MethodName) prog_22_method_8_code (2 : Nat) (Option.none : Option Jvm.ClassFile.FieldType)) ∈ lw_all := lw_g (lw_at lw_m3 207 rfl) rfl
theorem q807 : (Jvm.Cond.methodLink "SaltedGate$Reader" (78 : Nat) ({ cls := "SaltedGate$Reader", name := "takes", desc := "(Ljava/lang/String;)Z" } : Jvm.MethodName)) ∈ lw_all := lw_g (lw_at lw_m3 208 rfl) rfl
theorem q808 : (Jvm.Cond.privateMethod ({ cls := "SaltedGate$Reader", name := "takes", desc := "(Ljava/lang/String;)Z" } : Jvm.MethodName)) ∈ lw_tbl := lw_at lw_m3 209 rfl
theorem q809 : (Jvm.Cond.instanceMethod ({ cls := "SaltedGate$Reader", name := "takes", desc := "(Ljava/lang/String;)Z" } : Jvm.MethodName)) ∈ lw_all := lw_g (lw_at lw_m3 210 rfl) rfl
theorem q810 : (Jvm.Cond.code ({ cls := "SaltedGate$Reader", name := "takes", desc := "(Ljava/lang/String;)Z" } : Jvm.MethodName) prog_22_method_7_code (2 : Nat) (Option.some Jvm.ClassFile.FieldType.boolean)) ∈ lw_all := lw_g (lw_at lw_m3 211 rfl) rfl
theorem q811 : (Jvm.Cond.methodLink "SaltedGate$Reader" (147 : Nat) ({ cls := "SaltedGate$Reader", name := "number", desc := "(II)I" } : Jvm.MethodName)) ∈ lw_all := lw_g (lw_at lw_m3 212 rfl) rfl
theorem q812 : (Jvm.Cond.privateMethod ({ cls := "SaltedGate$Reader", name := "number", desc := "(II)I" } : Jvm.MethodName)) ∈ lw_tbl := lw_at lw_m3 213 rfl
theorem q813 : (Jvm.Cond.instanceMethod ({ cls := "SaltedGate$Reader", name := "number", desc := "(II)I" } : Jvm.MethodName)) ∈ lw_all := lw_g (lw_at lw_m3 214 rfl) rfl
theorem q814 : (Jvm.Cond.code ({ cls := "SaltedGate$Reader", name := "number", desc := "(II)I" } : Jvm.MethodName) prog_22_method_16_code (4 : Nat) (Option.some Jvm.ClassFile.FieldType.int)) ∈ lw_all := lw_g (lw_at lw_m3 215 rfl) rfl
theorem q815 : (Jvm.Cond.stringRef "SaltedGate$Reader" (194 : Nat) "interest") ∈ lw_tbl := lw_at lw_m3 216 rfl
theorem q816 : (Jvm.Cond.methodLink "SaltedGate$Reader" (167 : Nat) ({ cls := "SaltedGate$Reader", name := "meansLine", desc := "()V" } : Jvm.MethodName)) ∈ lw_all := lw_g (lw_at lw_m3 217 rfl) rfl
theorem q817 : (Jvm.Cond.privateMethod ({ cls := "SaltedGate$Reader", name := "meansLine", desc := "()V" } : Jvm.MethodName)) ∈ lw_tbl := lw_at lw_m3 218 rfl
theorem q818 : (Jvm.Cond.instanceMethod ({ cls := "SaltedGate$Reader", name := "meansLine", desc := "()V" } : Jvm.MethodName)) ∈ lw_all := lw_g (lw_at lw_m3 219 rfl) rfl
theorem q819 : (Jvm.Cond.code ({ cls := "SaltedGate$Reader", name := "meansLine", desc := "()V" } : Jvm.MethodName) prog_22_method_22_code (2 : Nat) (Option.none : Option Jvm.ClassFile.FieldType)) ∈ lw_all := lw_g (lw_at lw_m3 220 rfl) rfl
theorem q820 : (Jvm.Cond.methodLink "SaltedGate$Reader" (201 : Nat) ({ cls := "SaltedGate$Reader", name := "begins", desc := "(Z)V" } : Jvm.MethodName)) ∈ lw_all := lw_g (lw_at lw_m3 221 rfl) rfl
theorem q821 : (Jvm.Cond.privateMethod ({ cls := "SaltedGate$Reader", name := "begins", desc := "(Z)V" } : Jvm.MethodName)) ∈ lw_tbl := lw_at lw_m3 222 rfl
theorem q822 : (Jvm.Cond.instanceMethod ({ cls := "SaltedGate$Reader", name := "begins", desc := "(Z)V" } : Jvm.MethodName)) ∈ lw_all := lw_g (lw_at lw_m3 223 rfl) rfl
theorem q823 : (Jvm.Cond.code ({ cls := "SaltedGate$Reader", name := "begins", desc := "(Z)V" } : Jvm.MethodName) prog_22_method_18_code (2 : Nat) (Option.none : Option Jvm.ClassFile.FieldType)) ∈ lw_all := lw_g (lw_at lw_m3 224 rfl) rfl
theorem q824 : (Jvm.Cond.classLink "SaltedGate$Reader" (128 : Nat) "SaltedGate$Means") ∈ lw_all := lw_g (lw_at lw_m3 225 rfl) rfl
theorem q826 : (Jvm.Cond.methodLink "SaltedGate$Reader" (205 : Nat) ({ cls := "SaltedGate$Reader", name := "newName", desc := "()Ljava/lang/String;" } : Jvm.MethodName)) ∈ lw_all := lw_g (lw_at lw_m3 227 rfl) rfl
theorem q827 : (Jvm.Cond.privateMethod ({ cls := "SaltedGate$Reader", name := "newName", desc := "()Ljava/lang/String;" } : Jvm.MethodName)) ∈ lw_tbl := lw_at lw_m3 228 rfl
theorem q828 : (Jvm.Cond.instanceMethod ({ cls := "SaltedGate$Reader", name := "newName", desc := "()Ljava/lang/String;" } : Jvm.MethodName)) ∈ lw_all := lw_g (lw_at lw_m3 229 rfl) rfl
theorem q829 : (Jvm.Cond.code ({ cls := "SaltedGate$Reader", name := "newName", desc := "()Ljava/lang/String;" } : Jvm.MethodName) prog_22_method_10_code (2 : Nat) (Option.some (Jvm.ClassFile.FieldType.object "java/lang/String"))) ∈ lw_all := lw_g (lw_at lw_m3 230 rfl) rfl
theorem q830 : (Jvm.Cond.methodLink "SaltedGate$Reader" (112 : Nat) ({ cls := "SaltedGate$Reader", name := "mustName", desc := "()V" } : Jvm.MethodName)) ∈ lw_all := lw_g (lw_at lw_m3 231 rfl) rfl
theorem q831 : (Jvm.Cond.privateMethod ({ cls := "SaltedGate$Reader", name := "mustName", desc := "()V" } : Jvm.MethodName)) ∈ lw_tbl := lw_at lw_m3 232 rfl
theorem q832 : (Jvm.Cond.instanceMethod ({ cls := "SaltedGate$Reader", name := "mustName", desc := "()V" } : Jvm.MethodName)) ∈ lw_all := lw_g (lw_at lw_m3 233 rfl) rfl
theorem q833 : (Jvm.Cond.code ({ cls := "SaltedGate$Reader", name := "mustName", desc := "()V" } : Jvm.MethodName) prog_22_method_9_code (3 : Nat) (Option.none : Option Jvm.ClassFile.FieldType)) ∈ lw_all := lw_g (lw_at lw_m3 234 rfl) rfl
theorem q834 : (Jvm.Cond.stringRef "SaltedGate$Reader" (108 : Nat) "fresh") ∈ lw_tbl := lw_at lw_m3 235 rfl
theorem q835 : (Jvm.Cond.stringRef "SaltedGate$Reader" (110 : Nat) "by") ∈ lw_tbl := lw_at lw_m3 236 rfl
theorem q836 : (Jvm.Cond.methodLink "SaltedGate$Reader" (118 : Nat) ({ cls := "SaltedGate$Barrier", name := "find", desc := "(Ljava/lang/String;)LSaltedGate$Named;" } : Jvm.MethodName)) ∈ lw_all := lw_g (lw_at lw_m3 237 rfl) rfl
theorem q844 : (Jvm.Cond.methodLink "SaltedGate$Reader" (209 : Nat) ({ cls := "SaltedGate$Means", name := "<init>", desc := "(Ljava/lang/String;I)V" } : Jvm.MethodName)) ∈ lw_all := lw_g (lw_at lw_m4 5 rfl) rfl
theorem q852 : (Jvm.Cond.fieldLink "SaltedGate$Reader" (214 : Nat) "SaltedGate$Means" "rate" "I") ∈ lw_all := lw_g (lw_at lw_m4 13 rfl) rfl
theorem q854 : (Jvm.Cond.fieldLink "SaltedGate$Reader" (218 : Nat) "SaltedGate$Means" "other" "I") ∈ lw_all := lw_g (lw_at lw_m4 15 rfl) rfl
theorem q856 : (Jvm.Cond.fieldLink "SaltedGate$Reader" (223 : Nat) "SaltedGate$Means" "keeps" "I") ∈ lw_all := lw_g (lw_at lw_m4 17 rfl) rfl
theorem q858 : (Jvm.Cond.fieldLink "SaltedGate$Reader" (356 : Nat) "SaltedGate$Means" "here" "I") ∈ lw_all := lw_g (lw_at lw_m4 19 rfl) rfl
theorem q860 : (Jvm.Cond.fieldLink "SaltedGate$Reader" (360 : Nat) "SaltedGate$Means" "there" "I") ∈ lw_all := lw_g (lw_at lw_m4 21 rfl) rfl
theorem q861 : (Jvm.Cond.fieldLink "SaltedGate$Reader" (351 : Nat) "SaltedGate$Means" "priced" "Z") ∈ lw_all := lw_g (lw_at lw_m4 22 rfl) rfl
theorem q867 : (Jvm.Cond.fieldLink "SaltedGate$Reader" (136 : Nat) "SaltedGate$Named" "number" "I") ∈ lw_all := lw_g (lw_at lw_m4 28 rfl) rfl
theorem q869 : (Jvm.Cond.fieldLink "SaltedGate$Reader" (368 : Nat) "SaltedGate$Means" "number" "I") ∈ lw_all := lw_g (lw_at lw_m4 30 rfl) rfl
theorem q887 : (Jvm.Cond.stringRef "SaltedGate$Reader" (212 : Nat) "rate") ∈ lw_tbl := lw_at lw_m4 48 rfl
theorem q888 : (Jvm.Cond.stringRef "SaltedGate$Reader" (216 : Nat) "or") ∈ lw_tbl := lw_at lw_m4 49 rfl
theorem q889 : (Jvm.Cond.stringRef "SaltedGate$Reader" (221 : Nat) "keeps") ∈ lw_tbl := lw_at lw_m4 50 rfl
theorem q890 : (Jvm.Cond.methodLink "SaltedGate$Reader" (170 : Nat) ({ cls := "SaltedGate$Reader", name := "travellerLine", desc := "()V" } : Jvm.MethodName)) ∈ lw_all := lw_g (lw_at lw_m4 51 rfl) rfl
theorem q891 : (Jvm.Cond.privateMethod ({ cls := "SaltedGate$Reader", name := "travellerLine", desc := "()V" } : Jvm.MethodName)) ∈ lw_tbl := lw_at lw_m4 52 rfl
theorem q892 : (Jvm.Cond.instanceMethod ({ cls := "SaltedGate$Reader", name := "travellerLine", desc := "()V" } : Jvm.MethodName)) ∈ lw_all := lw_g (lw_at lw_m4 53 rfl) rfl
theorem q893 : (Jvm.Cond.code ({ cls := "SaltedGate$Reader", name := "travellerLine", desc := "()V" } : Jvm.MethodName) prog_22_method_23_code (2 : Nat) (Option.none : Option Jvm.ClassFile.FieldType)) ∈ lw_all := lw_g (lw_at lw_m4 54 rfl) rfl
theorem q894 : (Jvm.Cond.classLink "SaltedGate$Reader" (134 : Nat) "SaltedGate$Traveller") ∈ lw_all := lw_g (lw_at lw_m4 55 rfl) rfl
theorem q896 : (Jvm.Cond.methodLink "SaltedGate$Reader" (228 : Nat) ({ cls := "SaltedGate$Traveller", name := "<init>", desc := "(Ljava/lang/String;I)V" } : Jvm.MethodName)) ∈ lw_all := lw_g (lw_at lw_m4 57 rfl) rfl
theorem q902 : (Jvm.Cond.fieldLink "SaltedGate$Reader" (231 : Nat) "SaltedGate$Traveller" "allow" "I") ∈ lw_all := lw_g (lw_at lw_m4 63 rfl) rfl
theorem q904 : (Jvm.Cond.fieldLink "SaltedGate$Reader" (235 : Nat) "SaltedGate$Traveller" "hunger" "I") ∈ lw_all := lw_g (lw_at lw_m4 65 rfl) rfl
theorem q912 : (Jvm.Cond.stringRef "SaltedGate$Reader" (229 : Nat) "allow") ∈ lw_tbl := lw_at lw_m4 73 rfl
theorem q913 : (Jvm.Cond.stringRef "SaltedGate$Reader" (233 : Nat) "hunger") ∈ lw_tbl := lw_at lw_m4 74 rfl
theorem q914 : (Jvm.Cond.methodLink "SaltedGate$Reader" (173 : Nat) ({ cls := "SaltedGate$Reader", name := "gateLine", desc := "()V" } : Jvm.MethodName)) ∈ lw_all := lw_g (lw_at lw_m4 75 rfl) rfl
theorem q915 : (Jvm.Cond.privateMethod ({ cls := "SaltedGate$Reader", name := "gateLine", desc := "()V" } : Jvm.MethodName)) ∈ lw_tbl := lw_at lw_m4 76 rfl
theorem q916 : (Jvm.Cond.instanceMethod ({ cls := "SaltedGate$Reader", name := "gateLine", desc := "()V" } : Jvm.MethodName)) ∈ lw_all := lw_g (lw_at lw_m4 77 rfl) rfl
theorem q917 : (Jvm.Cond.code ({ cls := "SaltedGate$Reader", name := "gateLine", desc := "()V" } : Jvm.MethodName) prog_22_method_24_code (2 : Nat) (Option.none : Option Jvm.ClassFile.FieldType)) ∈ lw_all := lw_g (lw_at lw_m4 78 rfl) rfl
theorem q918 : (Jvm.Cond.classLink "SaltedGate$Reader" (141 : Nat) "SaltedGate$Gate") ∈ lw_all := lw_g (lw_at lw_m4 79 rfl) rfl
theorem q920 : (Jvm.Cond.methodLink "SaltedGate$Reader" (241 : Nat) ({ cls := "SaltedGate$Gate", name := "<init>", desc := "(Ljava/lang/String;I)V" } : Jvm.MethodName)) ∈ lw_all := lw_g (lw_at lw_m4 81 rfl) rfl
theorem q926 : (Jvm.Cond.fieldLink "SaltedGate$Reader" (244 : Nat) "SaltedGate$Gate" "nose" "I") ∈ lw_all := lw_g (lw_at lw_m4 87 rfl) rfl
theorem q929 : (Jvm.Cond.fieldLink "SaltedGate$Reader" (248 : Nat) "SaltedGate$Gate" "opens" "I") ∈ lw_all := lw_g (lw_at lw_m4 90 rfl) rfl
theorem q932 : (Jvm.Cond.fieldLink "SaltedGate$Reader" (252 : Nat) "SaltedGate$Gate" "shuts" "I") ∈ lw_all := lw_g (lw_at lw_m4 93 rfl) rfl
theorem q942 : (Jvm.Cond.stringRef "SaltedGate$Reader" (242 : Nat) "nose") ∈ lw_tbl := lw_at lw_m4 103 rfl
theorem q943 : (Jvm.Cond.stringRef "SaltedGate$Reader" (246 : Nat) "opens") ∈ lw_tbl := lw_at lw_m4 104 rfl
theorem q944 : (Jvm.Cond.stringRef "SaltedGate$Reader" (250 : Nat) "shuts") ∈ lw_tbl := lw_at lw_m4 105 rfl
theorem q945 : (Jvm.Cond.methodLink "SaltedGate$Reader" (176 : Nat) ({ cls := "SaltedGate$Reader", name := "good", desc := "()V" } : Jvm.MethodName)) ∈ lw_all := lw_g (lw_at lw_m4 106 rfl) rfl
theorem q946 : (Jvm.Cond.privateMethod ({ cls := "SaltedGate$Reader", name := "good", desc := "()V" } : Jvm.MethodName)) ∈ lw_tbl := lw_at lw_m4 107 rfl
theorem q947 : (Jvm.Cond.instanceMethod ({ cls := "SaltedGate$Reader", name := "good", desc := "()V" } : Jvm.MethodName)) ∈ lw_all := lw_g (lw_at lw_m4 108 rfl) rfl
theorem q948 : (Jvm.Cond.code ({ cls := "SaltedGate$Reader", name := "good", desc := "()V" } : Jvm.MethodName) prog_22_method_27_code (2 : Nat) (Option.none : Option Jvm.ClassFile.FieldType)) ∈ lw_all := lw_g (lw_at lw_m4 109 rfl) rfl
theorem q949 : (Jvm.Cond.methodLink "SaltedGate$Reader" (301 : Nat) ({ cls := "SaltedGate$Reader", name := "goodOf", desc := "(Ljava/lang/String;I)LSaltedGate$Good;" } : Jvm.MethodName)) ∈ lw_all := lw_g (lw_at lw_m4 110 rfl) rfl
theorem q950 : (Jvm.Cond.privateMethod ({ cls := "SaltedGate$Reader", name := "goodOf", desc := "(Ljava/lang/String;I)LSaltedGate$Good;" } : Jvm.MethodName)) ∈ lw_tbl := lw_at lw_m4 111 rfl
theorem q951 : (Jvm.Cond.instanceMethod ({ cls := "SaltedGate$Reader", name := "goodOf", desc := "(Ljava/lang/String;I)LSaltedGate$Good;" } : Jvm.MethodName)) ∈ lw_all := lw_g (lw_at lw_m4 112 rfl) rfl
theorem q952 : (Jvm.Cond.code ({ cls := "SaltedGate$Reader", name := "goodOf", desc := "(Ljava/lang/String;I)LSaltedGate$Good;" } : Jvm.MethodName) prog_22_method_26_code (4 : Nat) (Option.some (Jvm.ClassFile.FieldType.object "SaltedGate$Good"))) ∈ lw_all := lw_g (lw_at lw_m4 113 rfl) rfl
theorem q953 : (Jvm.Cond.classLink "SaltedGate$Reader" (278 : Nat) "SaltedGate$Fresh") ∈ lw_all := lw_g (lw_at lw_m4 114 rfl) rfl
theorem q955 : (Jvm.Cond.methodLink "SaltedGate$Reader" (280 : Nat) ({ cls := "SaltedGate$Fresh", name := "<init>", desc := "(Ljava/lang/String;I)V" } : Jvm.MethodName)) ∈ lw_all := lw_g (lw_at lw_m4 116 rfl) rfl
theorem q965 : (Jvm.Cond.fieldLink "SaltedGate$Reader" (283 : Nat) "SaltedGate$Fresh" "whose" "I") ∈ lw_all := lw_g (lw_at lw_m4 126 rfl) rfl
theorem q967 : (Jvm.Cond.fieldLink "SaltedGate$Reader" (290 : Nat) "SaltedGate$Kept" "whose" "I") ∈ lw_all := lw_g (lw_at lw_m4 128 rfl) rfl
theorem q970 : (Jvm.Cond.fieldLink "SaltedGate$Reader" (307 : Nat) "SaltedGate$Good" "old" "I") ∈ lw_all := lw_g (lw_at lw_m4 131 rfl) rfl
theorem q975 : (Jvm.Cond.fieldLink "SaltedGate$Reader" (313 : Nat) "SaltedGate$Good" "weighs" "I") ∈ lw_all := lw_g (lw_at lw_m4 136 rfl) rfl
theorem q977 : (Jvm.Cond.fieldLink "SaltedGate$Reader" (317 : Nat) "SaltedGate$Good" "worth" "I") ∈ lw_all := lw_g (lw_at lw_m4 138 rfl) rfl
theorem q979 : (Jvm.Cond.fieldLink "SaltedGate$Reader" (323 : Nat) "SaltedGate$Good" "hidden" "Z") ∈ lw_all := lw_g (lw_at lw_m4 140 rfl) rfl
theorem q993 : (Jvm.Cond.methodLink "SaltedGate$Reader" (281 : Nat) ({ cls := "SaltedGate$Reader", name := "traveller", desc := "()I" } : Jvm.MethodName)) ∈ lw_all := lw_g (lw_at lw_m4 154 rfl) rfl
theorem q994 : (Jvm.Cond.privateMethod ({ cls := "SaltedGate$Reader", name := "traveller", desc := "()I" } : Jvm.MethodName)) ∈ lw_tbl := lw_at lw_m4 155 rfl
theorem q995 : (Jvm.Cond.instanceMethod ({ cls := "SaltedGate$Reader", name := "traveller", desc := "()I" } : Jvm.MethodName)) ∈ lw_all := lw_g (lw_at lw_m4 156 rfl) rfl
theorem q996 : (Jvm.Cond.code ({ cls := "SaltedGate$Reader", name := "traveller", desc := "()I" } : Jvm.MethodName) prog_22_method_14_code (2 : Nat) (Option.some Jvm.ClassFile.FieldType.int)) ∈ lw_all := lw_g (lw_at lw_m4 157 rfl) rfl
theorem q997 : (Jvm.Cond.methodLink "SaltedGate$Reader" (124 : Nat) ({ cls := "SaltedGate$Reader", name := "named", desc := "()LSaltedGate$Named;" } : Jvm.MethodName)) ∈ lw_all := lw_g (lw_at lw_m4 158 rfl) rfl
theorem q998 : (Jvm.Cond.privateMethod ({ cls := "SaltedGate$Reader", name := "named", desc := "()LSaltedGate$Named;" } : Jvm.MethodName)) ∈ lw_tbl := lw_at lw_m4 159 rfl
theorem q999 : (Jvm.Cond.instanceMethod ({ cls := "SaltedGate$Reader", name := "named", desc := "()LSaltedGate$Named;" } : Jvm.MethodName)) ∈ lw_all := lw_g (lw_at lw_m4 160 rfl) rfl
theorem q1000 : (Jvm.Cond.code ({ cls := "SaltedGate$Reader", name := "named", desc := "()LSaltedGate$Named;" } : Jvm.MethodName) prog_22_method_11_code (2 : Nat) (Option.some (Jvm.ClassFile.FieldType.object "SaltedGate$Named"))) ∈ lw_all := lw_g (lw_at lw_m4 161 rfl) rfl
theorem q1001 : (Jvm.Cond.methodLink "SaltedGate$Reader" (286 : Nat) ({ cls := "SaltedGate$Reader", name := "keptOf", desc := "(Ljava/lang/String;I)LSaltedGate$Kept;" } : Jvm.MethodName)) ∈ lw_all := lw_g (lw_at lw_m4 162 rfl) rfl
theorem q1002 : (Jvm.Cond.privateMethod ({ cls := "SaltedGate$Reader", name := "keptOf", desc := "(Ljava/lang/String;I)LSaltedGate$Kept;" } : Jvm.MethodName)) ∈ lw_tbl := lw_at lw_m4 163 rfl
theorem q1003 : (Jvm.Cond.instanceMethod ({ cls := "SaltedGate$Reader", name := "keptOf", desc := "(Ljava/lang/String;I)LSaltedGate$Kept;" } : Jvm.MethodName)) ∈ lw_all := lw_g (lw_at lw_m4 164 rfl) rfl
theorem q1004 : (Jvm.Cond.code ({ cls := "SaltedGate$Reader", name := "keptOf", desc := "(Ljava/lang/String;I)LSaltedGate$Kept;" } : Jvm.MethodName) prog_22_method_25_code (3 : Nat) (Option.some (Jvm.ClassFile.FieldType.object "SaltedGate$Kept"))) ∈ lw_all := lw_g (lw_at lw_m4 165 rfl) rfl
theorem q1005 : (Jvm.Cond.stringRef "SaltedGate$Reader" (258 : Nat) "plain") ∈ lw_tbl := lw_at lw_m4 166 rfl
theorem q1006 : (Jvm.Cond.classLink "SaltedGate$Reader" (260 : Nat) "SaltedGate$Plain") ∈ lw_all := lw_g (lw_at lw_m4 167 rfl) rfl
theorem q1008 : (Jvm.Cond.methodLink "SaltedGate$Reader" (262 : Nat) ({ cls := "SaltedGate$Plain", name := "<init>", desc := "(Ljava/lang/String;I)V" } : Jvm.MethodName)) ∈ lw_all := lw_g (lw_at lw_m4 169 rfl) rfl
theorem q1026 : (Jvm.Cond.stringRef "SaltedGate$Reader" (263 : Nat) "wine") ∈ lw_tbl := lw_at lw_m4 187 rfl
theorem q1027 : (Jvm.Cond.classLink "SaltedGate$Reader" (265 : Nat) "SaltedGate$Wine") ∈ lw_all := lw_g (lw_at lw_m4 188 rfl) rfl
theorem q1029 : (Jvm.Cond.methodLink "SaltedGate$Reader" (267 : Nat) ({ cls := "SaltedGate$Wine", name := "<init>", desc := "(Ljava/lang/String;I)V" } : Jvm.MethodName)) ∈ lw_all := lw_g (lw_at lw_m4 190 rfl) rfl
theorem q1042 : (Jvm.Cond.stringRef "SaltedGate$Reader" (268 : Nat) "old") ∈ lw_tbl := lw_at lw_m4 203 rfl
theorem q1043 : (Jvm.Cond.classLink "SaltedGate$Reader" (270 : Nat) "SaltedGate$Old") ∈ lw_all := lw_g (lw_at lw_m4 204 rfl) rfl
theorem q1045 : (Jvm.Cond.methodLink "SaltedGate$Reader" (272 : Nat) ({ cls := "SaltedGate$Old", name := "<init>", desc := "(Ljava/lang/String;I)V" } : Jvm.MethodName)) ∈ lw_all := lw_g (lw_at lw_m4 206 rfl) rfl
theorem q1058 : (Jvm.Cond.stringRef "SaltedGate$Reader" (273 : Nat) "oath") ∈ lw_tbl := lw_at lw_m4 219 rfl
theorem q1059 : (Jvm.Cond.classLink "SaltedGate$Reader" (275 : Nat) "SaltedGate$Oath") ∈ lw_all := lw_g (lw_at lw_m4 220 rfl) rfl
theorem q1061 : (Jvm.Cond.methodLink "SaltedGate$Reader" (277 : Nat) ({ cls := "SaltedGate$Oath", name := "<init>", desc := "(Ljava/lang/String;I)V" } : Jvm.MethodName)) ∈ lw_all := lw_g (lw_at lw_m4 222 rfl) rfl
theorem q1074 : (Jvm.Cond.methodLink "SaltedGate$Reader" (293 : Nat) ({ cls := "SaltedGate$Reader", name := "means", desc := "()LSaltedGate$Means;" } : Jvm.MethodName)) ∈ lw_all := lw_g (lw_at lw_m4 235 rfl) rfl
theorem q1075 : (Jvm.Cond.privateMethod ({ cls := "SaltedGate$Reader", name := "means", desc := "()LSaltedGate$Means;" } : Jvm.MethodName)) ∈ lw_tbl := lw_at lw_m4 236 rfl
theorem q1076 : (Jvm.Cond.instanceMethod ({ cls := "SaltedGate$Reader", name := "means", desc := "()LSaltedGate$Means;" } : Jvm.MethodName)) ∈ lw_all := lw_g (lw_at lw_m4 237 rfl) rfl
theorem q1077 : (Jvm.Cond.code ({ cls := "SaltedGate$Reader", name := "means", desc := "()LSaltedGate$Means;" } : Jvm.MethodName) prog_22_method_13_code (2 : Nat) (Option.some (Jvm.ClassFile.FieldType.object "SaltedGate$Means"))) ∈ lw_all := lw_g (lw_at lw_m4 238 rfl) rfl
theorem q1078 : (Jvm.Cond.methodLink "SaltedGate$Reader" (130 : Nat) ({ cls := "SaltedGate$Reader", name := "meansHere", desc := "()LSaltedGate$Means;" } : Jvm.MethodName)) ∈ lw_all := lw_g (lw_at lw_m4 239 rfl) rfl
theorem q1079 : (Jvm.Cond.privateMethod ({ cls := "SaltedGate$Reader", name := "meansHere", desc := "()LSaltedGate$Means;" } : Jvm.MethodName)) ∈ lw_tbl := lw_at lw_m5 0 rfl
theorem q1080 : (Jvm.Cond.instanceMethod ({ cls := "SaltedGate$Reader", name := "meansHere", desc := "()LSaltedGate$Means;" } : Jvm.MethodName)) ∈ lw_all := lw_g (lw_at lw_m5 1 rfl) rfl
theorem q1081 : (Jvm.Cond.code ({ cls := "SaltedGate$Reader", name := "meansHere", desc := "()LSaltedGate$Means;" } : Jvm.MethodName) prog_22_method_12_code (2 : Nat) (Option.some (Jvm.ClassFile.FieldType.object "SaltedGate$Means"))) ∈ lw_all := lw_g (lw_at lw_m5 2 rfl) rfl
theorem q1082 : (Jvm.Cond.methodLink "SaltedGate$Reader" (295 : Nat) ({ cls := "SaltedGate$Kept", name := "by", desc := "(LSaltedGate$Means;)LSaltedGate$Kept;" } : Jvm.MethodName)) ∈ lw_all := lw_g (lw_at lw_m5 3 rfl) rfl
theorem q1090 : (Jvm.Cond.stringRef "SaltedGate$Reader" (305 : Nat) "age") ∈ lw_tbl := lw_at lw_m5 11 rfl
theorem q1091 : (Jvm.Cond.stringRef "SaltedGate$Reader" (311 : Nat) "weighs") ∈ lw_tbl := lw_at lw_m5 12 rfl
theorem q1092 : (Jvm.Cond.stringRef "SaltedGate$Reader" (315 : Nat) "worth") ∈ lw_tbl := lw_at lw_m5 13 rfl
theorem q1093 : (Jvm.Cond.methodLink "SaltedGate$Reader" (178 : Nat) ({ cls := "SaltedGate$Reader", name := "hides", desc := "()V" } : Jvm.MethodName)) ∈ lw_all := lw_g (lw_at lw_m5 14 rfl) rfl
theorem q1094 : (Jvm.Cond.privateMethod ({ cls := "SaltedGate$Reader", name := "hides", desc := "()V" } : Jvm.MethodName)) ∈ lw_tbl := lw_at lw_m5 15 rfl
theorem q1095 : (Jvm.Cond.instanceMethod ({ cls := "SaltedGate$Reader", name := "hides", desc := "()V" } : Jvm.MethodName)) ∈ lw_all := lw_g (lw_at lw_m5 16 rfl) rfl
theorem q1096 : (Jvm.Cond.code ({ cls := "SaltedGate$Reader", name := "hides", desc := "()V" } : Jvm.MethodName) prog_22_method_28_code (3 : Nat) (Option.none : Option Jvm.ClassFile.FieldType)) ∈ lw_all := lw_g (lw_at lw_m5 17 rfl) rfl
theorem q1097 : (Jvm.Cond.classLink "SaltedGate$Reader" (308 : Nat) "SaltedGate$Good") ∈ lw_all := lw_g (lw_at lw_m5 18 rfl) rfl
theorem q1098 : (Jvm.Cond.methodLink "SaltedGate$Reader" (180 : Nat) ({ cls := "SaltedGate$Reader", name := "crosses", desc := "()V" } : Jvm.MethodName)) ∈ lw_all := lw_g (lw_at lw_m5 19 rfl) rfl
theorem q1099 : (Jvm.Cond.privateMethod ({ cls := "SaltedGate$Reader", name := "crosses", desc := "()V" } : Jvm.MethodName)) ∈ lw_tbl := lw_at lw_m5 20 rfl
theorem q1100 : (Jvm.Cond.instanceMethod ({ cls := "SaltedGate$Reader", name := "crosses", desc := "()V" } : Jvm.MethodName)) ∈ lw_all := lw_g (lw_at lw_m5 21 rfl) rfl
theorem q1101 : (Jvm.Cond.code ({ cls := "SaltedGate$Reader", name := "crosses", desc := "()V" } : Jvm.MethodName) prog_22_method_29_code (2 : Nat) (Option.none : Option Jvm.ClassFile.FieldType)) ∈ lw_all := lw_g (lw_at lw_m5 22 rfl) rfl
theorem q1102 : (Jvm.Cond.classLink "SaltedGate$Reader" (329 : Nat) "SaltedGate$Crossing") ∈ lw_all := lw_g (lw_at lw_m5 23 rfl) rfl
theorem q1104 : (Jvm.Cond.methodLinkNest "SaltedGate$Reader" (331 : Nat) ({ cls := "SaltedGate$Crossing", name := "<init>", desc := "()V" } : Jvm.MethodName) "SaltedGate") ∈ lw_tbl := lw_at lw_m5 25 rfl
theorem q1109 : (Jvm.Cond.fieldLink "SaltedGate$Reader" (332 : Nat) "SaltedGate$Crossing" "who" "I") ∈ lw_all := lw_g (lw_at lw_m5 30 rfl) rfl
theorem q1111 : (Jvm.Cond.fieldLink "SaltedGate$Reader" (337 : Nat) "SaltedGate$Crossing" "gate" "I") ∈ lw_all := lw_g (lw_at lw_m5 32 rfl) rfl
theorem q1113 : (Jvm.Cond.fieldLink "SaltedGate$Reader" (345 : Nat) "SaltedGate$Crossing" "day" "I") ∈ lw_all := lw_g (lw_at lw_m5 34 rfl) rfl
theorem q1115 : (Jvm.Cond.fieldLink "SaltedGate$Reader" (349 : Nat) "SaltedGate$Crossing" "hour" "I") ∈ lw_all := lw_g (lw_at lw_m5 36 rfl) rfl
theorem q1125 : (Jvm.Cond.methodLink "SaltedGate$Reader" (335 : Nat) ({ cls := "SaltedGate$Reader", name := "gate", desc := "()I" } : Jvm.MethodName)) ∈ lw_all := lw_g (lw_at lw_m5 46 rfl) rfl
theorem q1126 : (Jvm.Cond.privateMethod ({ cls := "SaltedGate$Reader", name := "gate", desc := "()I" } : Jvm.MethodName)) ∈ lw_tbl := lw_at lw_m5 47 rfl
theorem q1127 : (Jvm.Cond.instanceMethod ({ cls := "SaltedGate$Reader", name := "gate", desc := "()I" } : Jvm.MethodName)) ∈ lw_all := lw_g (lw_at lw_m5 48 rfl) rfl
theorem q1128 : (Jvm.Cond.code ({ cls := "SaltedGate$Reader", name := "gate", desc := "()I" } : Jvm.MethodName) prog_22_method_15_code (2 : Nat) (Option.some Jvm.ClassFile.FieldType.int)) ∈ lw_all := lw_g (lw_at lw_m5 49 rfl) rfl
theorem q1129 : (Jvm.Cond.stringRef "SaltedGate$Reader" (339 : Nat) "day") ∈ lw_tbl := lw_at lw_m5 50 rfl
theorem q1130 : (Jvm.Cond.stringRef "SaltedGate$Reader" (347 : Nat) "hour") ∈ lw_tbl := lw_at lw_m5 51 rfl
theorem q1131 : (Jvm.Cond.methodLink "SaltedGate$Reader" (182 : Nat) ({ cls := "SaltedGate$Reader", name := "price", desc := "()V" } : Jvm.MethodName)) ∈ lw_all := lw_g (lw_at lw_m5 52 rfl) rfl
theorem q1132 : (Jvm.Cond.privateMethod ({ cls := "SaltedGate$Reader", name := "price", desc := "()V" } : Jvm.MethodName)) ∈ lw_tbl := lw_at lw_m5 53 rfl
theorem q1133 : (Jvm.Cond.instanceMethod ({ cls := "SaltedGate$Reader", name := "price", desc := "()V" } : Jvm.MethodName)) ∈ lw_all := lw_g (lw_at lw_m5 54 rfl) rfl
theorem q1134 : (Jvm.Cond.code ({ cls := "SaltedGate$Reader", name := "price", desc := "()V" } : Jvm.MethodName) prog_22_method_30_code (2 : Nat) (Option.none : Option Jvm.ClassFile.FieldType)) ∈ lw_all := lw_g (lw_at lw_m5 55 rfl) rfl
theorem q1135 : (Jvm.Cond.stringRef "SaltedGate$Reader" (354 : Nat) "here") ∈ lw_tbl := lw_at lw_m5 56 rfl
theorem q1136 : (Jvm.Cond.stringRef "SaltedGate$Reader" (358 : Nat) "there") ∈ lw_tbl := lw_at lw_m5 57 rfl
theorem q1137 : (Jvm.Cond.methodLink "SaltedGate$Reader" (184 : Nat) ({ cls := "SaltedGate$Reader", name := "crumb", desc := "()V" } : Jvm.MethodName)) ∈ lw_all := lw_g (lw_at lw_m5 58 rfl) rfl
theorem q1138 : (Jvm.Cond.privateMethod ({ cls := "SaltedGate$Reader", name := "crumb", desc := "()V" } : Jvm.MethodName)) ∈ lw_tbl := lw_at lw_m5 59 rfl
theorem q1139 : (Jvm.Cond.instanceMethod ({ cls := "SaltedGate$Reader", name := "crumb", desc := "()V" } : Jvm.MethodName)) ∈ lw_all := lw_g (lw_at lw_m5 60 rfl) rfl
theorem q1140 : (Jvm.Cond.code ({ cls := "SaltedGate$Reader", name := "crumb", desc := "()V" } : Jvm.MethodName) prog_22_method_31_code (2 : Nat) (Option.none : Option Jvm.ClassFile.FieldType)) ∈ lw_all := lw_g (lw_at lw_m5 61 rfl) rfl
theorem q2561 : (Jvm.Cond.castable "SaltedGate$Reader" "java/lang/Object") ∈ lw_tbl := lw_at lw_m11 42 rfl
theorem in_X2 : ∀ w ∈ wsX20, w ∈ lw_all := lw_in wsX20 [256, 258, 260, 262, 264, 266, 268, 270, 272, 274] (by decide +kernel) (by decide +kernel)

/-! SaltedGate$Barrier -/
set_option maxRecDepth 100000
def RX14 : String := "SaltedGate$Barrier"
def TX14 : u_T := fun k => match k with
  | 0 => ("SaltedGate$Barrier", "means", "[LSaltedGate$Means;", true)
  | 1 => ("SaltedGate$Barrier", "people", "[LSaltedGate$Traveller;", true)
  | 2 => ("SaltedGate$Barrier", "gates", "[LSaltedGate$Gate;", true)
  | 3 => ("SaltedGate$Barrier", "goods", "[LSaltedGate$Good;", true)
  | 4 => ("SaltedGate$Barrier", "crossings", "[LSaltedGate$Crossing;", true)
  | 5 => ("SaltedGate$Barrier", "crumbs", "[I", true)
  | 6 => ("SaltedGate$Barrier", "crumbDays", "[I", true)
  | 7 => ("SaltedGate$Barrier", "fee", "I", false)
  | 8 => ("SaltedGate$Barrier", "interest", "I", false)
  | 9 => ("SaltedGate$Barrier", "meansMany", "I", false)
  | 10 => ("SaltedGate$Barrier", "personMany", "I", false)
  | 11 => ("SaltedGate$Barrier", "gateMany", "I", false)
  | 12 => ("SaltedGate$Barrier", "goodMany", "I", false)
  | 13 => ("SaltedGate$Barrier", "crossMany", "I", false)
  | 14 => ("SaltedGate$Barrier", "priceMany", "I", false)
  | 15 => ("SaltedGate$Barrier", "crumbMany", "I", false)
  | _ => ("SaltedGate$Barrier", "told", "Z", false)
def tyX14 : Nat → FieldType := fun k => match k with
  | 0 => .array (.object "SaltedGate$Means")
  | 1 => .array (.object "SaltedGate$Traveller")
  | 2 => .array (.object "SaltedGate$Gate")
  | 3 => .array (.object "SaltedGate$Good")
  | 4 => .array (.object "SaltedGate$Crossing")
  | 5 => .array .int
  | 6 => .array .int
  | 7 => .int
  | 8 => .int
  | 9 => .int
  | 10 => .int
  | 11 => .int
  | 12 => .int
  | 13 => .int
  | 14 => .int
  | 15 => .int
  | _ => .boolean
abbrev wsX140 : List Cond := u_ws RX14 TX14 17
set_option maxRecDepth 100000 in
theorem nmX14 : ∀ a, a < 17 → ∀ b, b < 17 → a ≠ b → (TX14 a).2.1 ≠ (TX14 b).2.1 := by decide +kernel
set_option maxRecDepth 100000 in
theorem tyX14_ok : ∀ k, k < 17 → parseFieldDescriptor (TX14 k).2.2.1 = some (tyX14 k) := by decide +kernel
abbrev cX14_init : ByteArray := prog_2_method_1_code
def yX14_init : MethodName := ⟨RX14, "<init>", "()V"⟩
def dkwX14_init_2 : List UInt8 := [42, 8, 188, 10, 181, 0, 41, 42, 8, 188, 10, 181, 0, 45, 177]
abbrev dktX14_init_2 : List UInt8 := dkwX14_init_2 ++ []
def dkwX14_init_1 : List UInt8 := [189, 0, 23, 181, 0, 25, 42, 16, 8, 189, 0, 29, 181, 0, 31, 42, 16, 6, 189, 0, 35, 181, 0, 37]
abbrev dktX14_init_1 : List UInt8 := dkwX14_init_1 ++ dktX14_init_2
def dkwX14_init_0 : List UInt8 := [42, 183, 0, 3, 42, 7, 189, 0, 9, 181, 0, 11, 42, 7, 189, 0, 17, 181, 0, 19, 42, 6]
abbrev dktX14_init_0 : List UInt8 := dkwX14_init_0 ++ dktX14_init_1
theorem dksX14_init_0 : cX14_init.data.toList.drop 0 = dktX14_init_0 := by decide +kernel
theorem dksX14_init_1 : cX14_init.data.toList.drop 22 = dktX14_init_1 := dk_seg dksX14_init_0 22 rfl rfl
theorem dksX14_init_2 : cX14_init.data.toList.drop 46 = dktX14_init_2 := dk_seg dksX14_init_1 24 rfl rfl
theorem dX14_init_0 : decode cX14_init 0 = .ok (.aload_n 0, 1) := dk_42 (dk_at dksX14_init_0 0 rfl rfl)
theorem dX14_init_1 : decode cX14_init 1 = .ok (.invokespecial 3, 3) := dk_183 0 3 (dk_at dksX14_init_0 1 rfl rfl)
theorem dX14_init_4 : decode cX14_init 4 = .ok (.aload_n 0, 1) := dk_42 (dk_at dksX14_init_0 4 rfl rfl)
theorem dX14_init_5 : decode cX14_init 5 = .ok (.iconst 4, 1) := dk_7 (dk_at dksX14_init_0 5 rfl rfl)
theorem dX14_init_6 : decode cX14_init 6 = .ok (.anewarray 9, 3) := dk_189 0 9 (dk_at dksX14_init_0 6 rfl rfl)
theorem dX14_init_9 : decode cX14_init 9 = .ok (.putfield 11, 3) := dk_181 0 11 (dk_at dksX14_init_0 9 rfl rfl)
theorem dX14_init_12 : decode cX14_init 12 = .ok (.aload_n 0, 1) := dk_42 (dk_at dksX14_init_0 12 rfl rfl)
theorem dX14_init_13 : decode cX14_init 13 = .ok (.iconst 4, 1) := dk_7 (dk_at dksX14_init_0 13 rfl rfl)
theorem dX14_init_14 : decode cX14_init 14 = .ok (.anewarray 17, 3) := dk_189 0 17 (dk_at dksX14_init_0 14 rfl rfl)
theorem dX14_init_17 : decode cX14_init 17 = .ok (.putfield 19, 3) := dk_181 0 19 (dk_at dksX14_init_0 17 rfl rfl)
theorem dX14_init_20 : decode cX14_init 20 = .ok (.aload_n 0, 1) := dk_42 (dk_at dksX14_init_0 20 rfl rfl)
theorem dX14_init_21 : decode cX14_init 21 = .ok (.iconst 3, 1) := dk_6 (dk_at dksX14_init_0 21 rfl rfl)
theorem dX14_init_22 : decode cX14_init 22 = .ok (.anewarray 23, 3) := dk_189 0 23 (dk_at dksX14_init_1 0 rfl rfl)
theorem dX14_init_25 : decode cX14_init 25 = .ok (.putfield 25, 3) := dk_181 0 25 (dk_at dksX14_init_1 3 rfl rfl)
theorem dX14_init_28 : decode cX14_init 28 = .ok (.aload_n 0, 1) := dk_42 (dk_at dksX14_init_1 6 rfl rfl)
theorem dX14_init_29 : decode cX14_init 29 = .ok (.bipush 8, 2) := dk_16 8 (dk_at dksX14_init_1 7 rfl rfl)
theorem dX14_init_31 : decode cX14_init 31 = .ok (.anewarray 29, 3) := dk_189 0 29 (dk_at dksX14_init_1 9 rfl rfl)
theorem dX14_init_34 : decode cX14_init 34 = .ok (.putfield 31, 3) := dk_181 0 31 (dk_at dksX14_init_1 12 rfl rfl)
theorem dX14_init_37 : decode cX14_init 37 = .ok (.aload_n 0, 1) := dk_42 (dk_at dksX14_init_1 15 rfl rfl)
theorem dX14_init_38 : decode cX14_init 38 = .ok (.bipush 6, 2) := dk_16 6 (dk_at dksX14_init_1 16 rfl rfl)
theorem dX14_init_40 : decode cX14_init 40 = .ok (.anewarray 35, 3) := dk_189 0 35 (dk_at dksX14_init_1 18 rfl rfl)
theorem dX14_init_43 : decode cX14_init 43 = .ok (.putfield 37, 3) := dk_181 0 37 (dk_at dksX14_init_1 21 rfl rfl)
theorem dX14_init_46 : decode cX14_init 46 = .ok (.aload_n 0, 1) := dk_42 (dk_at dksX14_init_2 0 rfl rfl)
theorem dX14_init_47 : decode cX14_init 47 = .ok (.iconst 5, 1) := dk_8 (dk_at dksX14_init_2 1 rfl rfl)
theorem dX14_init_48 : decode cX14_init 48 = .ok (.newarray .int, 2) := dk_188_10 (dk_at dksX14_init_2 2 rfl rfl)
theorem dX14_init_50 : decode cX14_init 50 = .ok (.putfield 41, 3) := dk_181 0 41 (dk_at dksX14_init_2 4 rfl rfl)
theorem dX14_init_53 : decode cX14_init 53 = .ok (.aload_n 0, 1) := dk_42 (dk_at dksX14_init_2 7 rfl rfl)
theorem dX14_init_54 : decode cX14_init 54 = .ok (.iconst 5, 1) := dk_8 (dk_at dksX14_init_2 8 rfl rfl)
theorem dX14_init_55 : decode cX14_init 55 = .ok (.newarray .int, 2) := dk_188_10 (dk_at dksX14_init_2 9 rfl rfl)
theorem dX14_init_57 : decode cX14_init 57 = .ok (.putfield 45, 3) := dk_181 0 45 (dk_at dksX14_init_2 11 rfl rfl)
theorem dX14_init_60 : decode cX14_init 60 = .ok (.return_, 1) := dk_177 (dk_at dksX14_init_2 14 rfl rfl)
abbrev cX14_find : ByteArray := prog_2_method_3_code
def yX14_find : MethodName := ⟨RX14, "find", "(Ljava/lang/String;)LSaltedGate$Named;"⟩
def dkwX14_find_2 : List UInt8 := [77, 44, 199, 0, 18, 42, 180, 0, 31, 42, 180, 0, 74, 43, 184, 0, 64, 167, 0, 4, 44, 176]
abbrev dktX14_find_2 : List UInt8 := dkwX14_find_2 ++ []
def dkwX14_find_1 : List UInt8 := [180, 0, 68, 43, 184, 0, 64, 77, 44, 199, 0, 16, 42, 180, 0, 25, 42, 180, 0, 71, 43, 184, 0, 64]
abbrev dktX14_find_1 : List UInt8 := dkwX14_find_1 ++ dktX14_find_2
def dkwX14_find_0 : List UInt8 := [42, 180, 0, 11, 42, 180, 0, 60, 43, 184, 0, 64, 77, 44, 199, 0, 16, 42, 180, 0, 19, 42]
abbrev dktX14_find_0 : List UInt8 := dkwX14_find_0 ++ dktX14_find_1
theorem dksX14_find_0 : cX14_find.data.toList.drop 0 = dktX14_find_0 := by decide +kernel
theorem dksX14_find_1 : cX14_find.data.toList.drop 22 = dktX14_find_1 := dk_seg dksX14_find_0 22 rfl rfl
theorem dksX14_find_2 : cX14_find.data.toList.drop 46 = dktX14_find_2 := dk_seg dksX14_find_1 24 rfl rfl
theorem dX14_find_0 : decode cX14_find 0 = .ok (.aload_n 0, 1) := dk_42 (dk_at dksX14_find_0 0 rfl rfl)
theorem dX14_find_1 : decode cX14_find 1 = .ok (.getfield 11, 3) := dk_180 0 11 (dk_at dksX14_find_0 1 rfl rfl)
theorem dX14_find_4 : decode cX14_find 4 = .ok (.aload_n 0, 1) := dk_42 (dk_at dksX14_find_0 4 rfl rfl)
theorem dX14_find_5 : decode cX14_find 5 = .ok (.getfield 60, 3) := dk_180 0 60 (dk_at dksX14_find_0 5 rfl rfl)
theorem dX14_find_8 : decode cX14_find 8 = .ok (.aload_n 1, 1) := dk_43 (dk_at dksX14_find_0 8 rfl rfl)
theorem dX14_find_9 : decode cX14_find 9 = .ok (.invokestatic 64, 3) := dk_184 0 64 (dk_at dksX14_find_0 9 rfl rfl)
theorem dX14_find_12 : decode cX14_find 12 = .ok (.astore_n 2, 1) := dk_77 (dk_at dksX14_find_0 12 rfl rfl)
theorem dX14_find_13 : decode cX14_find 13 = .ok (.aload_n 2, 1) := dk_44 (dk_at dksX14_find_0 13 rfl rfl)
theorem dX14_find_14 : decode cX14_find 14 = .ok (.ifnonnull 16, 3) := dk_199 0 16 (dk_at dksX14_find_0 14 rfl rfl)
theorem dX14_find_17 : decode cX14_find 17 = .ok (.aload_n 0, 1) := dk_42 (dk_at dksX14_find_0 17 rfl rfl)
theorem dX14_find_18 : decode cX14_find 18 = .ok (.getfield 19, 3) := dk_180 0 19 (dk_at dksX14_find_0 18 rfl rfl)
theorem dX14_find_21 : decode cX14_find 21 = .ok (.aload_n 0, 1) := dk_42 (dk_at dksX14_find_0 21 rfl rfl)
theorem dX14_find_22 : decode cX14_find 22 = .ok (.getfield 68, 3) := dk_180 0 68 (dk_at dksX14_find_1 0 rfl rfl)
theorem dX14_find_25 : decode cX14_find 25 = .ok (.aload_n 1, 1) := dk_43 (dk_at dksX14_find_1 3 rfl rfl)
theorem dX14_find_26 : decode cX14_find 26 = .ok (.invokestatic 64, 3) := dk_184 0 64 (dk_at dksX14_find_1 4 rfl rfl)
theorem dX14_find_29 : decode cX14_find 29 = .ok (.astore_n 2, 1) := dk_77 (dk_at dksX14_find_1 7 rfl rfl)
theorem dX14_find_30 : decode cX14_find 30 = .ok (.aload_n 2, 1) := dk_44 (dk_at dksX14_find_1 8 rfl rfl)
theorem dX14_find_31 : decode cX14_find 31 = .ok (.ifnonnull 16, 3) := dk_199 0 16 (dk_at dksX14_find_1 9 rfl rfl)
theorem dX14_find_34 : decode cX14_find 34 = .ok (.aload_n 0, 1) := dk_42 (dk_at dksX14_find_1 12 rfl rfl)
theorem dX14_find_35 : decode cX14_find 35 = .ok (.getfield 25, 3) := dk_180 0 25 (dk_at dksX14_find_1 13 rfl rfl)
theorem dX14_find_38 : decode cX14_find 38 = .ok (.aload_n 0, 1) := dk_42 (dk_at dksX14_find_1 16 rfl rfl)
theorem dX14_find_39 : decode cX14_find 39 = .ok (.getfield 71, 3) := dk_180 0 71 (dk_at dksX14_find_1 17 rfl rfl)
theorem dX14_find_42 : decode cX14_find 42 = .ok (.aload_n 1, 1) := dk_43 (dk_at dksX14_find_1 20 rfl rfl)
theorem dX14_find_43 : decode cX14_find 43 = .ok (.invokestatic 64, 3) := dk_184 0 64 (dk_at dksX14_find_1 21 rfl rfl)
theorem dX14_find_46 : decode cX14_find 46 = .ok (.astore_n 2, 1) := dk_77 (dk_at dksX14_find_2 0 rfl rfl)
theorem dX14_find_47 : decode cX14_find 47 = .ok (.aload_n 2, 1) := dk_44 (dk_at dksX14_find_2 1 rfl rfl)
theorem dX14_find_48 : decode cX14_find 48 = .ok (.ifnonnull 18, 3) := dk_199 0 18 (dk_at dksX14_find_2 2 rfl rfl)
theorem dX14_find_51 : decode cX14_find 51 = .ok (.aload_n 0, 1) := dk_42 (dk_at dksX14_find_2 5 rfl rfl)
theorem dX14_find_52 : decode cX14_find 52 = .ok (.getfield 31, 3) := dk_180 0 31 (dk_at dksX14_find_2 6 rfl rfl)
theorem dX14_find_55 : decode cX14_find 55 = .ok (.aload_n 0, 1) := dk_42 (dk_at dksX14_find_2 9 rfl rfl)
theorem dX14_find_56 : decode cX14_find 56 = .ok (.getfield 74, 3) := dk_180 0 74 (dk_at dksX14_find_2 10 rfl rfl)
theorem dX14_find_59 : decode cX14_find 59 = .ok (.aload_n 1, 1) := dk_43 (dk_at dksX14_find_2 13 rfl rfl)
theorem dX14_find_60 : decode cX14_find 60 = .ok (.invokestatic 64, 3) := dk_184 0 64 (dk_at dksX14_find_2 14 rfl rfl)
theorem dX14_find_63 : decode cX14_find 63 = .ok (.goto 4, 3) := dk_167 0 4 (dk_at dksX14_find_2 17 rfl rfl)
theorem dX14_find_66 : decode cX14_find 66 = .ok (.aload_n 2, 1) := dk_44 (dk_at dksX14_find_2 20 rfl rfl)
theorem dX14_find_67 : decode cX14_find 67 = .ok (.areturn, 1) := dk_176 (dk_at dksX14_find_2 21 rfl rfl)
abbrev cX14_among : ByteArray := prog_2_method_2_code
def yX14_among : MethodName := ⟨RX14, "among", "([LSaltedGate$Named;ILjava/lang/String;)LSaltedGate$Named;"⟩
def dkwX14_among_1 : List UInt8 := [132, 3, 1, 167, 255, 231, 1, 176]
abbrev dktX14_among_1 : List UInt8 := dkwX14_among_1 ++ []
def dkwX14_among_0 : List UInt8 := [3, 62, 29, 27, 162, 0, 26, 42, 29, 50, 180, 0, 48, 44, 182, 0, 54, 153, 0, 7, 42, 29, 50, 176]
abbrev dktX14_among_0 : List UInt8 := dkwX14_among_0 ++ dktX14_among_1
theorem dksX14_among_0 : cX14_among.data.toList.drop 0 = dktX14_among_0 := by decide +kernel
theorem dksX14_among_1 : cX14_among.data.toList.drop 24 = dktX14_among_1 := dk_seg dksX14_among_0 24 rfl rfl
theorem dX14_among_0 : decode cX14_among 0 = .ok (.iconst 0, 1) := dk_3 (dk_at dksX14_among_0 0 rfl rfl)
theorem dX14_among_1 : decode cX14_among 1 = .ok (.istore_n 3, 1) := dk_62 (dk_at dksX14_among_0 1 rfl rfl)
theorem dX14_among_2 : decode cX14_among 2 = .ok (.iload_n 3, 1) := dk_29 (dk_at dksX14_among_0 2 rfl rfl)
theorem dX14_among_3 : decode cX14_among 3 = .ok (.iload_n 1, 1) := dk_27 (dk_at dksX14_among_0 3 rfl rfl)
theorem dX14_among_4 : decode cX14_among 4 = .ok (.if_icmp .ge 26, 3) := dk_162 0 26 (dk_at dksX14_among_0 4 rfl rfl)
theorem dX14_among_7 : decode cX14_among 7 = .ok (.aload_n 0, 1) := dk_42 (dk_at dksX14_among_0 7 rfl rfl)
theorem dX14_among_8 : decode cX14_among 8 = .ok (.iload_n 3, 1) := dk_29 (dk_at dksX14_among_0 8 rfl rfl)
theorem dX14_among_9 : decode cX14_among 9 = .ok (.aaload, 1) := dk_50 (dk_at dksX14_among_0 9 rfl rfl)
theorem dX14_among_10 : decode cX14_among 10 = .ok (.getfield 48, 3) := dk_180 0 48 (dk_at dksX14_among_0 10 rfl rfl)
theorem dX14_among_13 : decode cX14_among 13 = .ok (.aload_n 2, 1) := dk_44 (dk_at dksX14_among_0 13 rfl rfl)
theorem dX14_among_14 : decode cX14_among 14 = .ok (.invokevirtual 54, 3) := dk_182 0 54 (dk_at dksX14_among_0 14 rfl rfl)
theorem dX14_among_17 : decode cX14_among 17 = .ok (.ifCond .eq 7, 3) := dk_153 0 7 (dk_at dksX14_among_0 17 rfl rfl)
theorem dX14_among_20 : decode cX14_among 20 = .ok (.aload_n 0, 1) := dk_42 (dk_at dksX14_among_0 20 rfl rfl)
theorem dX14_among_21 : decode cX14_among 21 = .ok (.iload_n 3, 1) := dk_29 (dk_at dksX14_among_0 21 rfl rfl)
theorem dX14_among_22 : decode cX14_among 22 = .ok (.aaload, 1) := dk_50 (dk_at dksX14_among_0 22 rfl rfl)
theorem dX14_among_23 : decode cX14_among 23 = .ok (.areturn, 1) := dk_176 (dk_at dksX14_among_0 23 rfl rfl)
theorem dX14_among_24 : decode cX14_among 24 = .ok (.iinc 3 1, 3) := dk_132 3 1 (dk_at dksX14_among_1 0 rfl rfl)
theorem dX14_among_27 : decode cX14_among 27 = .ok (.goto (-25), 3) := dk_167 255 231 (dk_at dksX14_among_1 3 rfl rfl)
theorem dX14_among_30 : decode cX14_among 30 = .ok (.aconst_null, 1) := dk_1 (dk_at dksX14_among_1 6 rfl rfl)
theorem dX14_among_31 : decode cX14_among 31 = .ok (.areturn, 1) := dk_176 (dk_at dksX14_among_1 7 rfl rfl)
theorem q136 : (Jvm.Cond.initialized "SaltedGate$Barrier") ∈ lw_all := lw_g (lw_at lw_m1 17 rfl) rfl
theorem q512 : (Jvm.Cond.instantiable "SaltedGate$Barrier" (17 : Nat)) ∈ lw_all := lw_g (lw_at lw_m2 153 rfl) rfl
theorem q514 : (Jvm.Cond.instanceMethod ({ cls := "SaltedGate$Barrier", name := "<init>", desc := "()V" } : Jvm.MethodName)) ∈ lw_all := lw_g (lw_at lw_m2 155 rfl) rfl
theorem q515 : (Jvm.Cond.code ({ cls := "SaltedGate$Barrier", name := "<init>", desc := "()V" } : Jvm.MethodName) prog_2_method_1_code (1 : Nat) (Option.none : Option Jvm.ClassFile.FieldType)) ∈ lw_all := lw_g (lw_at lw_m2 156 rfl) rfl
theorem q516 : (Jvm.Cond.methodLink "SaltedGate$Barrier" (3 : Nat) ({ cls := "java/lang/Object", name := "<init>", desc := "()V" } : Jvm.MethodName)) ∈ lw_all := lw_g (lw_at lw_m2 157 rfl) rfl
theorem q517 : (Jvm.Cond.classLink "SaltedGate$Barrier" (9 : Nat) "SaltedGate$Means") ∈ lw_all := lw_g (lw_at lw_m2 158 rfl) rfl
theorem q519 : (Jvm.Cond.classLink "SaltedGate$Barrier" (17 : Nat) "SaltedGate$Traveller") ∈ lw_all := lw_g (lw_at lw_m2 160 rfl) rfl
theorem q521 : (Jvm.Cond.classLink "SaltedGate$Barrier" (23 : Nat) "SaltedGate$Gate") ∈ lw_all := lw_g (lw_at lw_m2 162 rfl) rfl
theorem q523 : (Jvm.Cond.classLink "SaltedGate$Barrier" (29 : Nat) "SaltedGate$Good") ∈ lw_all := lw_g (lw_at lw_m2 164 rfl) rfl
theorem q525 : (Jvm.Cond.classLink "SaltedGate$Barrier" (35 : Nat) "SaltedGate$Crossing") ∈ lw_all := lw_g (lw_at lw_m2 166 rfl) rfl
theorem q527 : (Jvm.Cond.fieldLink "SaltedGate$Barrier" (11 : Nat) "SaltedGate$Barrier" "means" "[LSaltedGate$Means;") ∈ lw_all := lw_g (lw_at lw_m2 168 rfl) rfl
theorem q530 : (Jvm.Cond.fieldLink "SaltedGate$Barrier" (19 : Nat) "SaltedGate$Barrier" "people" "[LSaltedGate$Traveller;") ∈ lw_all := lw_g (lw_at lw_m2 171 rfl) rfl
theorem q534 : (Jvm.Cond.fieldLink "SaltedGate$Barrier" (25 : Nat) "SaltedGate$Barrier" "gates" "[LSaltedGate$Gate;") ∈ lw_all := lw_g (lw_at lw_m2 175 rfl) rfl
theorem q539 : (Jvm.Cond.fieldLink "SaltedGate$Barrier" (31 : Nat) "SaltedGate$Barrier" "goods" "[LSaltedGate$Good;") ∈ lw_all := lw_g (lw_at lw_m2 180 rfl) rfl
theorem q544 : (Jvm.Cond.fieldLink "SaltedGate$Barrier" (37 : Nat) "SaltedGate$Barrier" "crossings" "[LSaltedGate$Crossing;") ∈ lw_all := lw_g (lw_at lw_m2 185 rfl) rfl
theorem q547 : (Jvm.Cond.fieldLink "SaltedGate$Barrier" (41 : Nat) "SaltedGate$Barrier" "crumbs" "[I") ∈ lw_all := lw_g (lw_at lw_m2 188 rfl) rfl
theorem q550 : (Jvm.Cond.fieldLink "SaltedGate$Barrier" (45 : Nat) "SaltedGate$Barrier" "crumbDays" "[I") ∈ lw_all := lw_g (lw_at lw_m2 191 rfl) rfl
theorem q557 : (Jvm.Cond.fieldLink "SaltedGate$Barrier" (60 : Nat) "SaltedGate$Barrier" "meansMany" "I") ∈ lw_all := lw_g (lw_at lw_m2 198 rfl) rfl
theorem q560 : (Jvm.Cond.fieldLink "SaltedGate$Barrier" (68 : Nat) "SaltedGate$Barrier" "personMany" "I") ∈ lw_all := lw_g (lw_at lw_m2 201 rfl) rfl
theorem q564 : (Jvm.Cond.fieldLink "SaltedGate$Barrier" (71 : Nat) "SaltedGate$Barrier" "gateMany" "I") ∈ lw_all := lw_g (lw_at lw_m2 205 rfl) rfl
theorem q570 : (Jvm.Cond.fieldLink "SaltedGate$Barrier" (74 : Nat) "SaltedGate$Barrier" "goodMany" "I") ∈ lw_all := lw_g (lw_at lw_m2 211 rfl) rfl
theorem q583 : (Jvm.Cond.laysFinal "SaltedGate$Barrier" "SaltedGate$Barrier" "means" "[LSaltedGate$Means;") ∈ lw_all := lw_g (lw_at lw_m2 224 rfl) rfl
theorem q584 : (Jvm.Cond.soleField "SaltedGate$Barrier" "means") ∈ lw_all := lw_g (lw_at lw_m2 225 rfl) rfl
theorem q585 : (Jvm.Cond.laysFinal "SaltedGate$Barrier" "SaltedGate$Barrier" "people" "[LSaltedGate$Traveller;") ∈ lw_all := lw_g (lw_at lw_m2 226 rfl) rfl
theorem q586 : (Jvm.Cond.soleField "SaltedGate$Barrier" "people") ∈ lw_all := lw_g (lw_at lw_m2 227 rfl) rfl
theorem q587 : (Jvm.Cond.laysFinal "SaltedGate$Barrier" "SaltedGate$Barrier" "gates" "[LSaltedGate$Gate;") ∈ lw_all := lw_g (lw_at lw_m2 228 rfl) rfl
theorem q588 : (Jvm.Cond.soleField "SaltedGate$Barrier" "gates") ∈ lw_all := lw_g (lw_at lw_m2 229 rfl) rfl
theorem q589 : (Jvm.Cond.laysFinal "SaltedGate$Barrier" "SaltedGate$Barrier" "goods" "[LSaltedGate$Good;") ∈ lw_all := lw_g (lw_at lw_m2 230 rfl) rfl
theorem q590 : (Jvm.Cond.soleField "SaltedGate$Barrier" "goods") ∈ lw_all := lw_g (lw_at lw_m2 231 rfl) rfl
theorem q591 : (Jvm.Cond.laysFinal "SaltedGate$Barrier" "SaltedGate$Barrier" "crossings" "[LSaltedGate$Crossing;") ∈ lw_all := lw_g (lw_at lw_m2 232 rfl) rfl
theorem q592 : (Jvm.Cond.soleField "SaltedGate$Barrier" "crossings") ∈ lw_all := lw_g (lw_at lw_m2 233 rfl) rfl
theorem q593 : (Jvm.Cond.laysFinal "SaltedGate$Barrier" "SaltedGate$Barrier" "crumbs" "[I") ∈ lw_all := lw_g (lw_at lw_m2 234 rfl) rfl
theorem q594 : (Jvm.Cond.soleField "SaltedGate$Barrier" "crumbs") ∈ lw_all := lw_g (lw_at lw_m2 235 rfl) rfl
theorem q595 : (Jvm.Cond.laysFinal "SaltedGate$Barrier" "SaltedGate$Barrier" "crumbDays" "[I") ∈ lw_all := lw_g (lw_at lw_m2 236 rfl) rfl
theorem q596 : (Jvm.Cond.soleField "SaltedGate$Barrier" "crumbDays") ∈ lw_all := lw_g (lw_at lw_m2 237 rfl) rfl
theorem q597 : (Jvm.Cond.lays "SaltedGate$Barrier" "SaltedGate$Barrier" "fee" "I") ∈ lw_all := lw_g (lw_at lw_m2 238 rfl) rfl
theorem q598 : (Jvm.Cond.soleField "SaltedGate$Barrier" "fee") ∈ lw_all := lw_g (lw_at lw_m2 239 rfl) rfl
theorem q599 : (Jvm.Cond.lays "SaltedGate$Barrier" "SaltedGate$Barrier" "interest" "I") ∈ lw_all := lw_g (lw_at lw_m3 0 rfl) rfl
theorem q600 : (Jvm.Cond.soleField "SaltedGate$Barrier" "interest") ∈ lw_all := lw_g (lw_at lw_m3 1 rfl) rfl
theorem q601 : (Jvm.Cond.lays "SaltedGate$Barrier" "SaltedGate$Barrier" "meansMany" "I") ∈ lw_all := lw_g (lw_at lw_m3 2 rfl) rfl
theorem q602 : (Jvm.Cond.soleField "SaltedGate$Barrier" "meansMany") ∈ lw_all := lw_g (lw_at lw_m3 3 rfl) rfl
theorem q603 : (Jvm.Cond.lays "SaltedGate$Barrier" "SaltedGate$Barrier" "personMany" "I") ∈ lw_all := lw_g (lw_at lw_m3 4 rfl) rfl
theorem q604 : (Jvm.Cond.soleField "SaltedGate$Barrier" "personMany") ∈ lw_all := lw_g (lw_at lw_m3 5 rfl) rfl
theorem q605 : (Jvm.Cond.lays "SaltedGate$Barrier" "SaltedGate$Barrier" "gateMany" "I") ∈ lw_all := lw_g (lw_at lw_m3 6 rfl) rfl
theorem q606 : (Jvm.Cond.soleField "SaltedGate$Barrier" "gateMany") ∈ lw_all := lw_g (lw_at lw_m3 7 rfl) rfl
theorem q607 : (Jvm.Cond.lays "SaltedGate$Barrier" "SaltedGate$Barrier" "goodMany" "I") ∈ lw_all := lw_g (lw_at lw_m3 8 rfl) rfl
theorem q608 : (Jvm.Cond.soleField "SaltedGate$Barrier" "goodMany") ∈ lw_all := lw_g (lw_at lw_m3 9 rfl) rfl
theorem q609 : (Jvm.Cond.lays "SaltedGate$Barrier" "SaltedGate$Barrier" "crossMany" "I") ∈ lw_all := lw_g (lw_at lw_m3 10 rfl) rfl
theorem q610 : (Jvm.Cond.soleField "SaltedGate$Barrier" "crossMany") ∈ lw_all := lw_g (lw_at lw_m3 11 rfl) rfl
theorem q611 : (Jvm.Cond.lays "SaltedGate$Barrier" "SaltedGate$Barrier" "priceMany" "I") ∈ lw_all := lw_g (lw_at lw_m3 12 rfl) rfl
theorem q612 : (Jvm.Cond.soleField "SaltedGate$Barrier" "priceMany") ∈ lw_all := lw_g (lw_at lw_m3 13 rfl) rfl
theorem q613 : (Jvm.Cond.lays "SaltedGate$Barrier" "SaltedGate$Barrier" "crumbMany" "I") ∈ lw_all := lw_g (lw_at lw_m3 14 rfl) rfl
theorem q614 : (Jvm.Cond.soleField "SaltedGate$Barrier" "crumbMany") ∈ lw_all := lw_g (lw_at lw_m3 15 rfl) rfl
theorem q615 : (Jvm.Cond.lays "SaltedGate$Barrier" "SaltedGate$Barrier" "told" "Z") ∈ lw_all := lw_g (lw_at lw_m3 16 rfl) rfl
theorem q616 : (Jvm.Cond.soleField "SaltedGate$Barrier" "told") ∈ lw_all := lw_g (lw_at lw_m3 17 rfl) rfl
theorem q617 : (Jvm.Cond.superclass "SaltedGate$Barrier" "java/lang/Object") ∈ lw_all := lw_g (lw_at lw_m3 18 rfl) rfl
theorem q837 : (Jvm.Cond.instanceMethod ({ cls := "SaltedGate$Barrier", name := "find", desc := "(Ljava/lang/String;)LSaltedGate$Named;" } : Jvm.MethodName)) ∈ lw_all := lw_g (lw_at lw_m3 238 rfl) rfl
theorem q838 : (Jvm.Cond.selects "SaltedGate$Barrier" ({ cls := "SaltedGate$Barrier", name := "find", desc := "(Ljava/lang/String;)LSaltedGate$Named;" } : Jvm.MethodName) ({ cls := "SaltedGate$Barrier", name := "find", desc := "(Ljava/lang/String;)LSaltedGate$Named;" } : Jvm.MethodName)) ∈ lw_all := lw_g (lw_at lw_m3 239 rfl) rfl
theorem q839 : (Jvm.Cond.code ({ cls := "SaltedGate$Barrier", name := "find", desc := "(Ljava/lang/String;)LSaltedGate$Named;" } : Jvm.MethodName) prog_2_method_3_code (3 : Nat) (Option.some (Jvm.ClassFile.FieldType.object "SaltedGate$Named"))) ∈ lw_all := lw_g (lw_at lw_m4 0 rfl) rfl
theorem q840 : (Jvm.Cond.methodLink "SaltedGate$Barrier" (64 : Nat) ({ cls := "SaltedGate$Barrier", name := "among", desc := "([LSaltedGate$Named;ILjava/lang/String;)LSaltedGate$Named;" } : Jvm.MethodName)) ∈ lw_all := lw_g (lw_at lw_m4 1 rfl) rfl
theorem q841 : (Jvm.Cond.static ({ cls := "SaltedGate$Barrier", name := "among", desc := "([LSaltedGate$Named;ILjava/lang/String;)LSaltedGate$Named;" } : Jvm.MethodName)) ∈ lw_all := lw_g (lw_at lw_m4 2 rfl) rfl
theorem q842 : (Jvm.Cond.code ({ cls := "SaltedGate$Barrier", name := "among", desc := "([LSaltedGate$Named;ILjava/lang/String;)LSaltedGate$Named;" } : Jvm.MethodName) prog_2_method_2_code (4 : Nat) (Option.some (Jvm.ClassFile.FieldType.object "SaltedGate$Named"))) ∈ lw_all := lw_g (lw_at lw_m4 3 rfl) rfl
theorem q843 : (Jvm.Cond.methodLink "SaltedGate$Barrier" (54 : Nat) ({ cls := "java/lang/String", name := "equals", desc := "(Ljava/lang/Object;)Z" } : Jvm.MethodName)) ∈ lw_all := lw_g (lw_at lw_m4 4 rfl) rfl
theorem q863 : (Jvm.Cond.fieldLink "SaltedGate$Barrier" (48 : Nat) "SaltedGate$Named" "name" "Ljava/lang/String;") ∈ lw_all := lw_g (lw_at lw_m4 24 rfl) rfl
theorem q2571 : (Jvm.Cond.castable "SaltedGate$Barrier" "java/lang/Object") ∈ lw_tbl := lw_at lw_m11 52 rfl
theorem in_X14 : ∀ w ∈ wsX140, w ∈ lw_all := lw_in wsX140 [583, 585, 587, 589, 591, 593, 595, 597, 599, 601, 603, 605, 607, 609, 611, 613, 615] (by decide +kernel) (by decide +kernel)

/-! SaltedGate$Named -/
set_option maxRecDepth 100000
def RX15 : String := "SaltedGate$Named"
abbrev cX15_init : ByteArray := prog_16_method_1_code
def yX15_init : MethodName := ⟨RX15, "<init>", "(Ljava/lang/String;I)V"⟩
def dkwX15_init_0 : List UInt8 := [42, 183, 0, 1, 42, 43, 181, 0, 7, 42, 28, 181, 0, 13, 177]
abbrev dktX15_init_0 : List UInt8 := dkwX15_init_0 ++ []
theorem dksX15_init_0 : cX15_init.data.toList.drop 0 = dktX15_init_0 := by decide +kernel
theorem dX15_init_0 : decode cX15_init 0 = .ok (.aload_n 0, 1) := dk_42 (dk_at dksX15_init_0 0 rfl rfl)
theorem dX15_init_1 : decode cX15_init 1 = .ok (.invokespecial 1, 3) := dk_183 0 1 (dk_at dksX15_init_0 1 rfl rfl)
theorem dX15_init_4 : decode cX15_init 4 = .ok (.aload_n 0, 1) := dk_42 (dk_at dksX15_init_0 4 rfl rfl)
theorem dX15_init_5 : decode cX15_init 5 = .ok (.aload_n 1, 1) := dk_43 (dk_at dksX15_init_0 5 rfl rfl)
theorem dX15_init_6 : decode cX15_init 6 = .ok (.putfield 7, 3) := dk_181 0 7 (dk_at dksX15_init_0 6 rfl rfl)
theorem dX15_init_9 : decode cX15_init 9 = .ok (.aload_n 0, 1) := dk_42 (dk_at dksX15_init_0 9 rfl rfl)
theorem dX15_init_10 : decode cX15_init 10 = .ok (.iload_n 2, 1) := dk_28 (dk_at dksX15_init_0 10 rfl rfl)
theorem dX15_init_11 : decode cX15_init 11 = .ok (.putfield 13, 3) := dk_181 0 13 (dk_at dksX15_init_0 11 rfl rfl)
theorem dX15_init_14 : decode cX15_init 14 = .ok (.return_, 1) := dk_177 (dk_at dksX15_init_0 14 rfl rfl)
theorem q142 : (Jvm.Cond.initialized "SaltedGate$Named") ∈ lw_all := lw_g (lw_at lw_m1 23 rfl) rfl
theorem q848 : (Jvm.Cond.instanceMethod ({ cls := "SaltedGate$Named", name := "<init>", desc := "(Ljava/lang/String;I)V" } : Jvm.MethodName)) ∈ lw_all := lw_g (lw_at lw_m4 9 rfl) rfl
theorem q849 : (Jvm.Cond.code ({ cls := "SaltedGate$Named", name := "<init>", desc := "(Ljava/lang/String;I)V" } : Jvm.MethodName) prog_16_method_1_code (3 : Nat) (Option.none : Option Jvm.ClassFile.FieldType)) ∈ lw_all := lw_g (lw_at lw_m4 10 rfl) rfl
theorem q850 : (Jvm.Cond.methodLink "SaltedGate$Named" (1 : Nat) ({ cls := "java/lang/Object", name := "<init>", desc := "()V" } : Jvm.MethodName)) ∈ lw_all := lw_g (lw_at lw_m4 11 rfl) rfl
theorem q862 : (Jvm.Cond.fieldLink "SaltedGate$Named" (7 : Nat) "SaltedGate$Named" "name" "Ljava/lang/String;") ∈ lw_all := lw_g (lw_at lw_m4 23 rfl) rfl
theorem q864 : (Jvm.Cond.fieldLink "SaltedGate$Named" (13 : Nat) "SaltedGate$Named" "number" "I") ∈ lw_all := lw_g (lw_at lw_m4 25 rfl) rfl
theorem q883 : (Jvm.Cond.soleField "SaltedGate$Named" "name") ∈ lw_all := lw_g (lw_at lw_m4 44 rfl) rfl
theorem q885 : (Jvm.Cond.soleField "SaltedGate$Named" "number") ∈ lw_all := lw_g (lw_at lw_m4 46 rfl) rfl

/-! SaltedGate$Means -/
set_option maxRecDepth 100000
def RX16 : String := "SaltedGate$Means"
def TX16 : u_T := fun k => match k with
  | 0 => ("SaltedGate$Named", "name", "Ljava/lang/String;", true)
  | 1 => ("SaltedGate$Named", "number", "I", true)
  | 2 => ("SaltedGate$Means", "rate", "I", false)
  | 3 => ("SaltedGate$Means", "other", "I", false)
  | 4 => ("SaltedGate$Means", "keeps", "I", false)
  | 5 => ("SaltedGate$Means", "here", "I", false)
  | 6 => ("SaltedGate$Means", "there", "I", false)
  | _ => ("SaltedGate$Means", "priced", "Z", false)
def tyX16 : Nat → FieldType := fun k => match k with
  | 0 => .object "java/lang/String"
  | 1 => .int
  | 2 => .int
  | 3 => .int
  | 4 => .int
  | 5 => .int
  | 6 => .int
  | _ => .boolean
abbrev wsX160 : List Cond := u_ws RX16 TX16 8
theorem nmX16 : ∀ a, a < 8 → ∀ b, b < 8 → a ≠ b → (TX16 a).2.1 ≠ (TX16 b).2.1 := by decide +kernel
theorem tyX16_ok : ∀ k, k < 8 → parseFieldDescriptor (TX16 k).2.2.1 = some (tyX16 k) := by decide +kernel
abbrev cX16_init : ByteArray := prog_15_method_1_code
def yX16_init : MethodName := ⟨RX16, "<init>", "(Ljava/lang/String;I)V"⟩
def dkwX16_init_0 : List UInt8 := [42, 43, 28, 183, 0, 1, 177]
abbrev dktX16_init_0 : List UInt8 := dkwX16_init_0 ++ []
theorem dksX16_init_0 : cX16_init.data.toList.drop 0 = dktX16_init_0 := by decide +kernel
theorem dX16_init_0 : decode cX16_init 0 = .ok (.aload_n 0, 1) := dk_42 (dk_at dksX16_init_0 0 rfl rfl)
theorem dX16_init_1 : decode cX16_init 1 = .ok (.aload_n 1, 1) := dk_43 (dk_at dksX16_init_0 1 rfl rfl)
theorem dX16_init_2 : decode cX16_init 2 = .ok (.iload_n 2, 1) := dk_28 (dk_at dksX16_init_0 2 rfl rfl)
theorem dX16_init_3 : decode cX16_init 3 = .ok (.invokespecial 1, 3) := dk_183 0 1 (dk_at dksX16_init_0 3 rfl rfl)
theorem dX16_init_6 : decode cX16_init 6 = .ok (.return_, 1) := dk_177 (dk_at dksX16_init_0 6 rfl rfl)
theorem q143 : (Jvm.Cond.initialized "SaltedGate$Means") ∈ lw_all := lw_g (lw_at lw_m1 24 rfl) rfl
theorem q825 : (Jvm.Cond.instantiable "SaltedGate$Means" (8 : Nat)) ∈ lw_all := lw_g (lw_at lw_m3 226 rfl) rfl
theorem q845 : (Jvm.Cond.instanceMethod ({ cls := "SaltedGate$Means", name := "<init>", desc := "(Ljava/lang/String;I)V" } : Jvm.MethodName)) ∈ lw_all := lw_g (lw_at lw_m4 6 rfl) rfl
theorem q846 : (Jvm.Cond.code ({ cls := "SaltedGate$Means", name := "<init>", desc := "(Ljava/lang/String;I)V" } : Jvm.MethodName) prog_15_method_1_code (3 : Nat) (Option.none : Option Jvm.ClassFile.FieldType)) ∈ lw_all := lw_g (lw_at lw_m4 7 rfl) rfl
theorem q847 : (Jvm.Cond.methodLink "SaltedGate$Means" (1 : Nat) ({ cls := "SaltedGate$Named", name := "<init>", desc := "(Ljava/lang/String;I)V" } : Jvm.MethodName)) ∈ lw_all := lw_g (lw_at lw_m4 8 rfl) rfl
theorem q866 : (Jvm.Cond.sameField "SaltedGate$Means" "SaltedGate$Named" "number" "I") ∈ lw_all := lw_g (lw_at lw_m4 27 rfl) rfl
theorem q870 : (Jvm.Cond.lays "SaltedGate$Means" "SaltedGate$Means" "rate" "I") ∈ lw_all := lw_g (lw_at lw_m4 31 rfl) rfl
theorem q871 : (Jvm.Cond.soleField "SaltedGate$Means" "rate") ∈ lw_all := lw_g (lw_at lw_m4 32 rfl) rfl
theorem q872 : (Jvm.Cond.lays "SaltedGate$Means" "SaltedGate$Means" "other" "I") ∈ lw_all := lw_g (lw_at lw_m4 33 rfl) rfl
theorem q873 : (Jvm.Cond.soleField "SaltedGate$Means" "other") ∈ lw_all := lw_g (lw_at lw_m4 34 rfl) rfl
theorem q874 : (Jvm.Cond.lays "SaltedGate$Means" "SaltedGate$Means" "keeps" "I") ∈ lw_all := lw_g (lw_at lw_m4 35 rfl) rfl
theorem q875 : (Jvm.Cond.soleField "SaltedGate$Means" "keeps") ∈ lw_all := lw_g (lw_at lw_m4 36 rfl) rfl
theorem q876 : (Jvm.Cond.lays "SaltedGate$Means" "SaltedGate$Means" "here" "I") ∈ lw_all := lw_g (lw_at lw_m4 37 rfl) rfl
theorem q877 : (Jvm.Cond.soleField "SaltedGate$Means" "here") ∈ lw_all := lw_g (lw_at lw_m4 38 rfl) rfl
theorem q878 : (Jvm.Cond.lays "SaltedGate$Means" "SaltedGate$Means" "there" "I") ∈ lw_all := lw_g (lw_at lw_m4 39 rfl) rfl
theorem q879 : (Jvm.Cond.soleField "SaltedGate$Means" "there") ∈ lw_all := lw_g (lw_at lw_m4 40 rfl) rfl
theorem q880 : (Jvm.Cond.lays "SaltedGate$Means" "SaltedGate$Means" "priced" "Z") ∈ lw_all := lw_g (lw_at lw_m4 41 rfl) rfl
theorem q881 : (Jvm.Cond.soleField "SaltedGate$Means" "priced") ∈ lw_all := lw_g (lw_at lw_m4 42 rfl) rfl
theorem q882 : (Jvm.Cond.laysFinal "SaltedGate$Means" "SaltedGate$Named" "name" "Ljava/lang/String;") ∈ lw_all := lw_g (lw_at lw_m4 43 rfl) rfl
theorem q884 : (Jvm.Cond.laysFinal "SaltedGate$Means" "SaltedGate$Named" "number" "I") ∈ lw_all := lw_g (lw_at lw_m4 45 rfl) rfl
theorem q886 : (Jvm.Cond.superclass "SaltedGate$Means" "SaltedGate$Named") ∈ lw_all := lw_g (lw_at lw_m4 47 rfl) rfl
theorem q2574 : (Jvm.Cond.castable "SaltedGate$Means" "java/lang/Object") ∈ lw_tbl := lw_at lw_m11 55 rfl
theorem in_X16 : ∀ w ∈ wsX160, w ∈ lw_all := lw_in wsX160 [882, 884, 870, 872, 874, 876, 878, 880] (by decide +kernel) (by decide +kernel)

/-! SaltedGate$Traveller -/
set_option maxRecDepth 100000
def RX17 : String := "SaltedGate$Traveller"
def TX17 : u_T := fun k => match k with
  | 0 => ("SaltedGate$Named", "name", "Ljava/lang/String;", true)
  | 1 => ("SaltedGate$Named", "number", "I", true)
  | 2 => ("SaltedGate$Traveller", "allow", "I", false)
  | _ => ("SaltedGate$Traveller", "hunger", "I", false)
def tyX17 : Nat → FieldType := fun k => match k with
  | 0 => .object "java/lang/String"
  | 1 => .int
  | 2 => .int
  | _ => .int
abbrev wsX170 : List Cond := u_ws RX17 TX17 4
theorem nmX17 : ∀ a, a < 4 → ∀ b, b < 4 → a ≠ b → (TX17 a).2.1 ≠ (TX17 b).2.1 := by decide +kernel
theorem tyX17_ok : ∀ k, k < 4 → parseFieldDescriptor (TX17 k).2.2.1 = some (tyX17 k) := by decide +kernel
abbrev cX17_init : ByteArray := prog_24_method_1_code
def yX17_init : MethodName := ⟨RX17, "<init>", "(Ljava/lang/String;I)V"⟩
def dkwX17_init_0 : List UInt8 := [42, 43, 28, 183, 0, 1, 177]
abbrev dktX17_init_0 : List UInt8 := dkwX17_init_0 ++ []
theorem dksX17_init_0 : cX17_init.data.toList.drop 0 = dktX17_init_0 := by decide +kernel
theorem dX17_init_0 : decode cX17_init 0 = .ok (.aload_n 0, 1) := dk_42 (dk_at dksX17_init_0 0 rfl rfl)
theorem dX17_init_1 : decode cX17_init 1 = .ok (.aload_n 1, 1) := dk_43 (dk_at dksX17_init_0 1 rfl rfl)
theorem dX17_init_2 : decode cX17_init 2 = .ok (.iload_n 2, 1) := dk_28 (dk_at dksX17_init_0 2 rfl rfl)
theorem dX17_init_3 : decode cX17_init 3 = .ok (.invokespecial 1, 3) := dk_183 0 1 (dk_at dksX17_init_0 3 rfl rfl)
theorem dX17_init_6 : decode cX17_init 6 = .ok (.return_, 1) := dk_177 (dk_at dksX17_init_0 6 rfl rfl)
theorem q144 : (Jvm.Cond.initialized "SaltedGate$Traveller") ∈ lw_all := lw_g (lw_at lw_m1 25 rfl) rfl
theorem q895 : (Jvm.Cond.instantiable "SaltedGate$Traveller" (4 : Nat)) ∈ lw_all := lw_g (lw_at lw_m4 56 rfl) rfl
theorem q897 : (Jvm.Cond.instanceMethod ({ cls := "SaltedGate$Traveller", name := "<init>", desc := "(Ljava/lang/String;I)V" } : Jvm.MethodName)) ∈ lw_all := lw_g (lw_at lw_m4 58 rfl) rfl
theorem q898 : (Jvm.Cond.code ({ cls := "SaltedGate$Traveller", name := "<init>", desc := "(Ljava/lang/String;I)V" } : Jvm.MethodName) prog_24_method_1_code (3 : Nat) (Option.none : Option Jvm.ClassFile.FieldType)) ∈ lw_all := lw_g (lw_at lw_m4 59 rfl) rfl
theorem q899 : (Jvm.Cond.methodLink "SaltedGate$Traveller" (1 : Nat) ({ cls := "SaltedGate$Named", name := "<init>", desc := "(Ljava/lang/String;I)V" } : Jvm.MethodName)) ∈ lw_all := lw_g (lw_at lw_m4 60 rfl) rfl
theorem q905 : (Jvm.Cond.lays "SaltedGate$Traveller" "SaltedGate$Traveller" "allow" "I") ∈ lw_all := lw_g (lw_at lw_m4 66 rfl) rfl
theorem q906 : (Jvm.Cond.soleField "SaltedGate$Traveller" "allow") ∈ lw_all := lw_g (lw_at lw_m4 67 rfl) rfl
theorem q907 : (Jvm.Cond.lays "SaltedGate$Traveller" "SaltedGate$Traveller" "hunger" "I") ∈ lw_all := lw_g (lw_at lw_m4 68 rfl) rfl
theorem q908 : (Jvm.Cond.soleField "SaltedGate$Traveller" "hunger") ∈ lw_all := lw_g (lw_at lw_m4 69 rfl) rfl
theorem q909 : (Jvm.Cond.laysFinal "SaltedGate$Traveller" "SaltedGate$Named" "name" "Ljava/lang/String;") ∈ lw_all := lw_g (lw_at lw_m4 70 rfl) rfl
theorem q910 : (Jvm.Cond.laysFinal "SaltedGate$Traveller" "SaltedGate$Named" "number" "I") ∈ lw_all := lw_g (lw_at lw_m4 71 rfl) rfl
theorem q911 : (Jvm.Cond.superclass "SaltedGate$Traveller" "SaltedGate$Named") ∈ lw_all := lw_g (lw_at lw_m4 72 rfl) rfl
theorem q2575 : (Jvm.Cond.castable "SaltedGate$Traveller" "java/lang/Object") ∈ lw_tbl := lw_at lw_m11 56 rfl
theorem in_X17 : ∀ w ∈ wsX170, w ∈ lw_all := lw_in wsX170 [909, 910, 905, 907] (by decide +kernel) (by decide +kernel)

/-! SaltedGate$Gate -/
set_option maxRecDepth 100000
def RX18 : String := "SaltedGate$Gate"
def TX18 : u_T := fun k => match k with
  | 0 => ("SaltedGate$Named", "name", "Ljava/lang/String;", true)
  | 1 => ("SaltedGate$Named", "number", "I", true)
  | 2 => ("SaltedGate$Gate", "nose", "I", false)
  | 3 => ("SaltedGate$Gate", "opens", "I", false)
  | _ => ("SaltedGate$Gate", "shuts", "I", false)
def tyX18 : Nat → FieldType := fun k => match k with
  | 0 => .object "java/lang/String"
  | 1 => .int
  | 2 => .int
  | 3 => .int
  | _ => .int
abbrev wsX180 : List Cond := u_ws RX18 TX18 5
theorem nmX18 : ∀ a, a < 5 → ∀ b, b < 5 → a ≠ b → (TX18 a).2.1 ≠ (TX18 b).2.1 := by decide +kernel
theorem tyX18_ok : ∀ k, k < 5 → parseFieldDescriptor (TX18 k).2.2.1 = some (tyX18 k) := by decide +kernel
abbrev cX18_init : ByteArray := prog_9_method_1_code
def yX18_init : MethodName := ⟨RX18, "<init>", "(Ljava/lang/String;I)V"⟩
def dkwX18_init_0 : List UInt8 := [42, 43, 28, 183, 0, 1, 177]
abbrev dktX18_init_0 : List UInt8 := dkwX18_init_0 ++ []
theorem dksX18_init_0 : cX18_init.data.toList.drop 0 = dktX18_init_0 := by decide +kernel
theorem dX18_init_0 : decode cX18_init 0 = .ok (.aload_n 0, 1) := dk_42 (dk_at dksX18_init_0 0 rfl rfl)
theorem dX18_init_1 : decode cX18_init 1 = .ok (.aload_n 1, 1) := dk_43 (dk_at dksX18_init_0 1 rfl rfl)
theorem dX18_init_2 : decode cX18_init 2 = .ok (.iload_n 2, 1) := dk_28 (dk_at dksX18_init_0 2 rfl rfl)
theorem dX18_init_3 : decode cX18_init 3 = .ok (.invokespecial 1, 3) := dk_183 0 1 (dk_at dksX18_init_0 3 rfl rfl)
theorem dX18_init_6 : decode cX18_init 6 = .ok (.return_, 1) := dk_177 (dk_at dksX18_init_0 6 rfl rfl)
theorem q145 : (Jvm.Cond.initialized "SaltedGate$Gate") ∈ lw_all := lw_g (lw_at lw_m1 26 rfl) rfl
theorem q919 : (Jvm.Cond.instantiable "SaltedGate$Gate" (5 : Nat)) ∈ lw_all := lw_g (lw_at lw_m4 80 rfl) rfl
theorem q921 : (Jvm.Cond.instanceMethod ({ cls := "SaltedGate$Gate", name := "<init>", desc := "(Ljava/lang/String;I)V" } : Jvm.MethodName)) ∈ lw_all := lw_g (lw_at lw_m4 82 rfl) rfl
theorem q922 : (Jvm.Cond.code ({ cls := "SaltedGate$Gate", name := "<init>", desc := "(Ljava/lang/String;I)V" } : Jvm.MethodName) prog_9_method_1_code (3 : Nat) (Option.none : Option Jvm.ClassFile.FieldType)) ∈ lw_all := lw_g (lw_at lw_m4 83 rfl) rfl
theorem q923 : (Jvm.Cond.methodLink "SaltedGate$Gate" (1 : Nat) ({ cls := "SaltedGate$Named", name := "<init>", desc := "(Ljava/lang/String;I)V" } : Jvm.MethodName)) ∈ lw_all := lw_g (lw_at lw_m4 84 rfl) rfl
theorem q933 : (Jvm.Cond.lays "SaltedGate$Gate" "SaltedGate$Gate" "nose" "I") ∈ lw_all := lw_g (lw_at lw_m4 94 rfl) rfl
theorem q934 : (Jvm.Cond.soleField "SaltedGate$Gate" "nose") ∈ lw_all := lw_g (lw_at lw_m4 95 rfl) rfl
theorem q935 : (Jvm.Cond.lays "SaltedGate$Gate" "SaltedGate$Gate" "opens" "I") ∈ lw_all := lw_g (lw_at lw_m4 96 rfl) rfl
theorem q936 : (Jvm.Cond.soleField "SaltedGate$Gate" "opens") ∈ lw_all := lw_g (lw_at lw_m4 97 rfl) rfl
theorem q937 : (Jvm.Cond.lays "SaltedGate$Gate" "SaltedGate$Gate" "shuts" "I") ∈ lw_all := lw_g (lw_at lw_m4 98 rfl) rfl
theorem q938 : (Jvm.Cond.soleField "SaltedGate$Gate" "shuts") ∈ lw_all := lw_g (lw_at lw_m4 99 rfl) rfl
theorem q939 : (Jvm.Cond.laysFinal "SaltedGate$Gate" "SaltedGate$Named" "name" "Ljava/lang/String;") ∈ lw_all := lw_g (lw_at lw_m4 100 rfl) rfl
theorem q940 : (Jvm.Cond.laysFinal "SaltedGate$Gate" "SaltedGate$Named" "number" "I") ∈ lw_all := lw_g (lw_at lw_m4 101 rfl) rfl
theorem q941 : (Jvm.Cond.superclass "SaltedGate$Gate" "SaltedGate$Named") ∈ lw_all := lw_g (lw_at lw_m4 102 rfl) rfl
theorem q2576 : (Jvm.Cond.castable "SaltedGate$Gate" "java/lang/Object") ∈ lw_tbl := lw_at lw_m11 57 rfl
theorem in_X18 : ∀ w ∈ wsX180, w ∈ lw_all := lw_in wsX180 [939, 940, 933, 935, 937] (by decide +kernel) (by decide +kernel)

/-! SaltedGate$Good -/
set_option maxRecDepth 100000
def RX19 : String := "SaltedGate$Good"
abbrev cX19_init : ByteArray := prog_10_method_1_code
def yX19_init : MethodName := ⟨RX19, "<init>", "(Ljava/lang/String;I)V"⟩
def dkwX19_init_0 : List UInt8 := [42, 43, 28, 183, 0, 1, 177]
abbrev dktX19_init_0 : List UInt8 := dkwX19_init_0 ++ []
theorem dksX19_init_0 : cX19_init.data.toList.drop 0 = dktX19_init_0 := by decide +kernel
theorem dX19_init_0 : decode cX19_init 0 = .ok (.aload_n 0, 1) := dk_42 (dk_at dksX19_init_0 0 rfl rfl)
theorem dX19_init_1 : decode cX19_init 1 = .ok (.aload_n 1, 1) := dk_43 (dk_at dksX19_init_0 1 rfl rfl)
theorem dX19_init_2 : decode cX19_init 2 = .ok (.iload_n 2, 1) := dk_28 (dk_at dksX19_init_0 2 rfl rfl)
theorem dX19_init_3 : decode cX19_init 3 = .ok (.invokespecial 1, 3) := dk_183 0 1 (dk_at dksX19_init_0 3 rfl rfl)
theorem dX19_init_6 : decode cX19_init 6 = .ok (.return_, 1) := dk_177 (dk_at dksX19_init_0 6 rfl rfl)
abbrev cX19_smells : ByteArray := prog_10_method_7_code
def yX19_smells : MethodName := ⟨RX19, "smells", "(I)I"⟩
def dkwX19_smells_0 : List UInt8 := [42, 180, 0, 20, 42, 27, 182, 0, 23, 16, 10, 108, 96, 172]
abbrev dktX19_smells_0 : List UInt8 := dkwX19_smells_0 ++ []
theorem dksX19_smells_0 : cX19_smells.data.toList.drop 0 = dktX19_smells_0 := by decide +kernel
theorem dX19_smells_0 : decode cX19_smells 0 = .ok (.aload_n 0, 1) := dk_42 (dk_at dksX19_smells_0 0 rfl rfl)
theorem dX19_smells_1 : decode cX19_smells 1 = .ok (.getfield 20, 3) := dk_180 0 20 (dk_at dksX19_smells_0 1 rfl rfl)
theorem dX19_smells_4 : decode cX19_smells 4 = .ok (.aload_n 0, 1) := dk_42 (dk_at dksX19_smells_0 4 rfl rfl)
theorem dX19_smells_5 : decode cX19_smells 5 = .ok (.iload_n 1, 1) := dk_27 (dk_at dksX19_smells_0 5 rfl rfl)
theorem dX19_smells_6 : decode cX19_smells 6 = .ok (.invokevirtual 23, 3) := dk_182 0 23 (dk_at dksX19_smells_0 6 rfl rfl)
theorem dX19_smells_9 : decode cX19_smells 9 = .ok (.bipush 10, 2) := dk_16 10 (dk_at dksX19_smells_0 9 rfl rfl)
theorem dX19_smells_11 : decode cX19_smells 11 = .ok (.idiv, 1) := dk_108 (dk_at dksX19_smells_0 11 rfl rfl)
theorem dX19_smells_12 : decode cX19_smells 12 = .ok (.iadd, 1) := dk_96 (dk_at dksX19_smells_0 12 rfl rfl)
theorem dX19_smells_13 : decode cX19_smells 13 = .ok (.ireturn, 1) := dk_172 (dk_at dksX19_smells_0 13 rfl rfl)
abbrev cX19_age : ByteArray := prog_10_method_3_code
def yX19_age : MethodName := ⟨RX19, "age", "(I)I"⟩
def dkwX19_age_0 : List UInt8 := [42, 180, 0, 7, 27, 96, 172]
abbrev dktX19_age_0 : List UInt8 := dkwX19_age_0 ++ []
theorem dksX19_age_0 : cX19_age.data.toList.drop 0 = dktX19_age_0 := by decide +kernel
theorem dX19_age_0 : decode cX19_age 0 = .ok (.aload_n 0, 1) := dk_42 (dk_at dksX19_age_0 0 rfl rfl)
theorem dX19_age_1 : decode cX19_age 1 = .ok (.getfield 7, 3) := dk_180 0 7 (dk_at dksX19_age_0 1 rfl rfl)
theorem dX19_age_4 : decode cX19_age 4 = .ok (.iload_n 1, 1) := dk_27 (dk_at dksX19_age_0 4 rfl rfl)
theorem dX19_age_5 : decode cX19_age 5 = .ok (.iadd, 1) := dk_96 (dk_at dksX19_age_0 5 rfl rfl)
theorem dX19_age_6 : decode cX19_age 6 = .ok (.ireturn, 1) := dk_172 (dk_at dksX19_age_0 6 rfl rfl)
abbrev cX19_isFresh : ByteArray := prog_10_method_8_code
def yX19_isFresh : MethodName := ⟨RX19, "isFresh", "()Z"⟩
theorem dX19_isFresh_0 : decode cX19_isFresh 0 = .ok (.iconst 0, 1) := by decide +kernel
theorem dX19_isFresh_1 : decode cX19_isFresh 1 = .ok (.ireturn, 1) := by decide +kernel
abbrev cX19_means : ByteArray := prog_10_method_10_code
def yX19_means : MethodName := ⟨RX19, "means", "()LSaltedGate$Means;"⟩
theorem dX19_means_0 : decode cX19_means 0 = .ok (.aconst_null, 1) := by decide +kernel
theorem dX19_means_1 : decode cX19_means 1 = .ok (.areturn, 1) := by decide +kernel
abbrev cX19_worthOn : ByteArray := prog_10_method_5_code
def yX19_worthOn : MethodName := ⟨RX19, "worthOn", "(I)I"⟩
def dkwX19_worthOn_0 : List UInt8 := [42, 27, 182, 0, 13, 153, 0, 7, 3, 167, 0, 7, 42, 180, 0, 17, 172]
abbrev dktX19_worthOn_0 : List UInt8 := dkwX19_worthOn_0 ++ []
theorem dksX19_worthOn_0 : cX19_worthOn.data.toList.drop 0 = dktX19_worthOn_0 := by decide +kernel
theorem dX19_worthOn_0 : decode cX19_worthOn 0 = .ok (.aload_n 0, 1) := dk_42 (dk_at dksX19_worthOn_0 0 rfl rfl)
theorem dX19_worthOn_1 : decode cX19_worthOn 1 = .ok (.iload_n 1, 1) := dk_27 (dk_at dksX19_worthOn_0 1 rfl rfl)
theorem dX19_worthOn_2 : decode cX19_worthOn 2 = .ok (.invokevirtual 13, 3) := dk_182 0 13 (dk_at dksX19_worthOn_0 2 rfl rfl)
theorem dX19_worthOn_5 : decode cX19_worthOn 5 = .ok (.ifCond .eq 7, 3) := dk_153 0 7 (dk_at dksX19_worthOn_0 5 rfl rfl)
theorem dX19_worthOn_8 : decode cX19_worthOn 8 = .ok (.iconst 0, 1) := dk_3 (dk_at dksX19_worthOn_0 8 rfl rfl)
theorem dX19_worthOn_9 : decode cX19_worthOn 9 = .ok (.goto 7, 3) := dk_167 0 7 (dk_at dksX19_worthOn_0 9 rfl rfl)
theorem dX19_worthOn_12 : decode cX19_worthOn 12 = .ok (.aload_n 0, 1) := dk_42 (dk_at dksX19_worthOn_0 12 rfl rfl)
theorem dX19_worthOn_13 : decode cX19_worthOn 13 = .ok (.getfield 17, 3) := dk_180 0 17 (dk_at dksX19_worthOn_0 13 rfl rfl)
theorem dX19_worthOn_16 : decode cX19_worthOn 16 = .ok (.ireturn, 1) := dk_172 (dk_at dksX19_worthOn_0 16 rfl rfl)
theorem q146 : (Jvm.Cond.initialized "SaltedGate$Good") ∈ lw_all := lw_g (lw_at lw_m1 27 rfl) rfl
theorem q959 : (Jvm.Cond.instanceMethod ({ cls := "SaltedGate$Good", name := "<init>", desc := "(Ljava/lang/String;I)V" } : Jvm.MethodName)) ∈ lw_all := lw_g (lw_at lw_m4 120 rfl) rfl
theorem q960 : (Jvm.Cond.code ({ cls := "SaltedGate$Good", name := "<init>", desc := "(Ljava/lang/String;I)V" } : Jvm.MethodName) prog_10_method_1_code (3 : Nat) (Option.none : Option Jvm.ClassFile.FieldType)) ∈ lw_all := lw_g (lw_at lw_m4 121 rfl) rfl
theorem q961 : (Jvm.Cond.methodLink "SaltedGate$Good" (1 : Nat) ({ cls := "SaltedGate$Named", name := "<init>", desc := "(Ljava/lang/String;I)V" } : Jvm.MethodName)) ∈ lw_all := lw_g (lw_at lw_m4 122 rfl) rfl
theorem q969 : (Jvm.Cond.fieldLink "SaltedGate$Good" (7 : Nat) "SaltedGate$Good" "old" "I") ∈ lw_all := lw_g (lw_at lw_m4 130 rfl) rfl
theorem q973 : (Jvm.Cond.fieldLink "SaltedGate$Good" (20 : Nat) "SaltedGate$Good" "weighs" "I") ∈ lw_all := lw_g (lw_at lw_m4 134 rfl) rfl
theorem q976 : (Jvm.Cond.fieldLink "SaltedGate$Good" (17 : Nat) "SaltedGate$Good" "worth" "I") ∈ lw_all := lw_g (lw_at lw_m4 137 rfl) rfl
theorem q981 : (Jvm.Cond.soleField "SaltedGate$Good" "whose") ∈ lw_all := lw_g (lw_at lw_m4 142 rfl) rfl
theorem q983 : (Jvm.Cond.soleField "SaltedGate$Good" "old") ∈ lw_all := lw_g (lw_at lw_m4 144 rfl) rfl
theorem q985 : (Jvm.Cond.soleField "SaltedGate$Good" "weighs") ∈ lw_all := lw_g (lw_at lw_m4 146 rfl) rfl
theorem q987 : (Jvm.Cond.soleField "SaltedGate$Good" "worth") ∈ lw_all := lw_g (lw_at lw_m4 148 rfl) rfl
theorem q989 : (Jvm.Cond.soleField "SaltedGate$Good" "hidden") ∈ lw_all := lw_g (lw_at lw_m4 150 rfl) rfl
theorem q1172 : (Jvm.Cond.instanceMethod ({ cls := "SaltedGate$Good", name := "smells", desc := "(I)I" } : Jvm.MethodName)) ∈ lw_all := lw_g (lw_at lw_m5 93 rfl) rfl
theorem q1173 : (Jvm.Cond.sameMethod "SaltedGate$Good" "SaltedGate$Good" "smells" "(I)I") ∈ lw_all := lw_g (lw_at lw_m5 94 rfl) rfl
theorem q1181 : (Jvm.Cond.declares ({ cls := "SaltedGate$Good", name := "smells", desc := "(I)I" } : Jvm.MethodName)) ∈ lw_tbl := lw_at lw_m5 102 rfl
theorem q1183 : (Jvm.Cond.code ({ cls := "SaltedGate$Good", name := "smells", desc := "(I)I" } : Jvm.MethodName) prog_10_method_7_code (2 : Nat) (Option.some Jvm.ClassFile.FieldType.int)) ∈ lw_all := lw_g (lw_at lw_m5 104 rfl) rfl
theorem q1184 : (Jvm.Cond.methodLink "SaltedGate$Good" (23 : Nat) ({ cls := "SaltedGate$Good", name := "age", desc := "(I)I" } : Jvm.MethodName)) ∈ lw_all := lw_g (lw_at lw_m5 105 rfl) rfl
theorem q1185 : (Jvm.Cond.instanceMethod ({ cls := "SaltedGate$Good", name := "age", desc := "(I)I" } : Jvm.MethodName)) ∈ lw_all := lw_g (lw_at lw_m5 106 rfl) rfl
theorem q1186 : (Jvm.Cond.sameMethod "SaltedGate$Good" "SaltedGate$Good" "age" "(I)I") ∈ lw_all := lw_g (lw_at lw_m5 107 rfl) rfl
theorem q1192 : (Jvm.Cond.code ({ cls := "SaltedGate$Good", name := "age", desc := "(I)I" } : Jvm.MethodName) prog_10_method_3_code (2 : Nat) (Option.some Jvm.ClassFile.FieldType.int)) ∈ lw_all := lw_g (lw_at lw_m5 113 rfl) rfl
theorem q1196 : (Jvm.Cond.instanceMethod ({ cls := "SaltedGate$Good", name := "isFresh", desc := "()Z" } : Jvm.MethodName)) ∈ lw_all := lw_g (lw_at lw_m5 117 rfl) rfl
theorem q1197 : (Jvm.Cond.sameMethod "SaltedGate$Good" "SaltedGate$Good" "isFresh" "()Z") ∈ lw_all := lw_g (lw_at lw_m5 118 rfl) rfl
theorem q1205 : (Jvm.Cond.code ({ cls := "SaltedGate$Good", name := "isFresh", desc := "()Z" } : Jvm.MethodName) prog_10_method_8_code (1 : Nat) (Option.some Jvm.ClassFile.FieldType.boolean)) ∈ lw_all := lw_g (lw_at lw_m5 126 rfl) rfl
theorem q1207 : (Jvm.Cond.declares ({ cls := "SaltedGate$Good", name := "isTurned", desc := "(I)Z" } : Jvm.MethodName)) ∈ lw_tbl := lw_at lw_m5 128 rfl
theorem q1208 : (Jvm.Cond.sameMethod "SaltedGate$Good" "SaltedGate$Good" "isTurned" "(I)Z") ∈ lw_all := lw_g (lw_at lw_m5 129 rfl) rfl
theorem q1214 : (Jvm.Cond.declares ({ cls := "SaltedGate$Good", name := "age", desc := "(I)I" } : Jvm.MethodName)) ∈ lw_tbl := lw_at lw_m5 135 rfl
theorem q1249 : (Jvm.Cond.declares ({ cls := "SaltedGate$Good", name := "duty", desc := "(ILSaltedGate$Law;)I" } : Jvm.MethodName)) ∈ lw_tbl := lw_at lw_m5 170 rfl
theorem q1250 : (Jvm.Cond.sameMethod "SaltedGate$Good" "SaltedGate$Good" "duty" "(ILSaltedGate$Law;)I") ∈ lw_all := lw_g (lw_at lw_m5 171 rfl) rfl
theorem q1288 : (Jvm.Cond.declares ({ cls := "SaltedGate$Good", name := "kind", desc := "()I" } : Jvm.MethodName)) ∈ lw_tbl := lw_at lw_m5 209 rfl
theorem q1289 : (Jvm.Cond.sameMethod "SaltedGate$Good" "SaltedGate$Good" "kind" "()I") ∈ lw_all := lw_g (lw_at lw_m5 210 rfl) rfl
theorem q1306 : (Jvm.Cond.instanceMethod ({ cls := "SaltedGate$Good", name := "means", desc := "()LSaltedGate$Means;" } : Jvm.MethodName)) ∈ lw_all := lw_g (lw_at lw_m5 227 rfl) rfl
theorem q1307 : (Jvm.Cond.sameMethod "SaltedGate$Good" "SaltedGate$Good" "means" "()LSaltedGate$Means;") ∈ lw_all := lw_g (lw_at lw_m5 228 rfl) rfl
theorem q1315 : (Jvm.Cond.code ({ cls := "SaltedGate$Good", name := "means", desc := "()LSaltedGate$Means;" } : Jvm.MethodName) prog_10_method_10_code (1 : Nat) (Option.some (Jvm.ClassFile.FieldType.object "SaltedGate$Means"))) ∈ lw_all := lw_g (lw_at lw_m5 236 rfl) rfl
theorem q1356 : (Jvm.Cond.instanceMethod ({ cls := "SaltedGate$Good", name := "worthOn", desc := "(I)I" } : Jvm.MethodName)) ∈ lw_all := lw_g (lw_at lw_m6 37 rfl) rfl
theorem q1357 : (Jvm.Cond.sameMethod "SaltedGate$Good" "SaltedGate$Good" "worthOn" "(I)I") ∈ lw_all := lw_g (lw_at lw_m6 38 rfl) rfl
theorem q1371 : (Jvm.Cond.declares ({ cls := "SaltedGate$Good", name := "worthOn", desc := "(I)I" } : Jvm.MethodName)) ∈ lw_tbl := lw_at lw_m6 52 rfl
theorem q1372 : (Jvm.Cond.code ({ cls := "SaltedGate$Good", name := "worthOn", desc := "(I)I" } : Jvm.MethodName) prog_10_method_5_code (2 : Nat) (Option.some Jvm.ClassFile.FieldType.int)) ∈ lw_all := lw_g (lw_at lw_m6 53 rfl) rfl
theorem q1373 : (Jvm.Cond.methodLink "SaltedGate$Good" (13 : Nat) ({ cls := "SaltedGate$Good", name := "isTurned", desc := "(I)Z" } : Jvm.MethodName)) ∈ lw_all := lw_g (lw_at lw_m6 54 rfl) rfl
theorem q1543 : (Jvm.Cond.declares ({ cls := "SaltedGate$Good", name := "gain", desc := "(ILSaltedGate$Law;)I" } : Jvm.MethodName)) ∈ lw_tbl := lw_at lw_m6 224 rfl
theorem q1544 : (Jvm.Cond.sameMethod "SaltedGate$Good" "SaltedGate$Good" "gain" "(ILSaltedGate$Law;)I") ∈ lw_all := lw_g (lw_at lw_m6 225 rfl) rfl

/-! SaltedGate$Fresh -/
set_option maxRecDepth 100000
def RX20 : String := "SaltedGate$Fresh"
def TX20 : u_T := fun k => match k with
  | 0 => ("SaltedGate$Good", "whose", "I", false)
  | 1 => ("SaltedGate$Good", "old", "I", false)
  | 2 => ("SaltedGate$Good", "weighs", "I", false)
  | 3 => ("SaltedGate$Good", "worth", "I", false)
  | 4 => ("SaltedGate$Good", "hidden", "Z", false)
  | 5 => ("SaltedGate$Named", "name", "Ljava/lang/String;", true)
  | _ => ("SaltedGate$Named", "number", "I", true)
def tyX20 : Nat → FieldType := fun k => match k with
  | 0 => .int
  | 1 => .int
  | 2 => .int
  | 3 => .int
  | 4 => .boolean
  | 5 => .object "java/lang/String"
  | _ => .int
abbrev wsX200 : List Cond := u_ws RX20 TX20 7
theorem nmX20 : ∀ a, a < 7 → ∀ b, b < 7 → a ≠ b → (TX20 a).2.1 ≠ (TX20 b).2.1 := by decide +kernel
theorem tyX20_ok : ∀ k, k < 7 → parseFieldDescriptor (TX20 k).2.2.1 = some (tyX20 k) := by decide +kernel
abbrev cX20_init : ByteArray := prog_8_method_1_code
def yX20_init : MethodName := ⟨RX20, "<init>", "(Ljava/lang/String;I)V"⟩
def dkwX20_init_0 : List UInt8 := [42, 43, 28, 183, 0, 1, 177]
abbrev dktX20_init_0 : List UInt8 := dkwX20_init_0 ++ []
theorem dksX20_init_0 : cX20_init.data.toList.drop 0 = dktX20_init_0 := by decide +kernel
theorem dX20_init_0 : decode cX20_init 0 = .ok (.aload_n 0, 1) := dk_42 (dk_at dksX20_init_0 0 rfl rfl)
theorem dX20_init_1 : decode cX20_init 1 = .ok (.aload_n 1, 1) := dk_43 (dk_at dksX20_init_0 1 rfl rfl)
theorem dX20_init_2 : decode cX20_init 2 = .ok (.iload_n 2, 1) := dk_28 (dk_at dksX20_init_0 2 rfl rfl)
theorem dX20_init_3 : decode cX20_init 3 = .ok (.invokespecial 1, 3) := dk_183 0 1 (dk_at dksX20_init_0 3 rfl rfl)
theorem dX20_init_6 : decode cX20_init 6 = .ok (.return_, 1) := dk_177 (dk_at dksX20_init_0 6 rfl rfl)
abbrev cX20_isFresh : ByteArray := prog_8_method_5_code
def yX20_isFresh : MethodName := ⟨RX20, "isFresh", "()Z"⟩
theorem dX20_isFresh_0 : decode cX20_isFresh 0 = .ok (.iconst 1, 1) := by decide +kernel
theorem dX20_isFresh_1 : decode cX20_isFresh 1 = .ok (.ireturn, 1) := by decide +kernel
abbrev cX20_isTurned : ByteArray := prog_8_method_3_code
def yX20_isTurned : MethodName := ⟨RX20, "isTurned", "(I)Z"⟩
def dkwX20_isTurned_0 : List UInt8 := [42, 27, 182, 0, 7, 6, 164, 0, 7, 4, 167, 0, 4, 3, 172]
abbrev dktX20_isTurned_0 : List UInt8 := dkwX20_isTurned_0 ++ []
theorem dksX20_isTurned_0 : cX20_isTurned.data.toList.drop 0 = dktX20_isTurned_0 := by decide +kernel
theorem dX20_isTurned_0 : decode cX20_isTurned 0 = .ok (.aload_n 0, 1) := dk_42 (dk_at dksX20_isTurned_0 0 rfl rfl)
theorem dX20_isTurned_1 : decode cX20_isTurned 1 = .ok (.iload_n 1, 1) := dk_27 (dk_at dksX20_isTurned_0 1 rfl rfl)
theorem dX20_isTurned_2 : decode cX20_isTurned 2 = .ok (.invokevirtual 7, 3) := dk_182 0 7 (dk_at dksX20_isTurned_0 2 rfl rfl)
theorem dX20_isTurned_5 : decode cX20_isTurned 5 = .ok (.iconst 3, 1) := dk_6 (dk_at dksX20_isTurned_0 5 rfl rfl)
theorem dX20_isTurned_6 : decode cX20_isTurned 6 = .ok (.if_icmp .le 7, 3) := dk_164 0 7 (dk_at dksX20_isTurned_0 6 rfl rfl)
theorem dX20_isTurned_9 : decode cX20_isTurned 9 = .ok (.iconst 1, 1) := dk_4 (dk_at dksX20_isTurned_0 9 rfl rfl)
theorem dX20_isTurned_10 : decode cX20_isTurned 10 = .ok (.goto 4, 3) := dk_167 0 4 (dk_at dksX20_isTurned_0 10 rfl rfl)
theorem dX20_isTurned_13 : decode cX20_isTurned 13 = .ok (.iconst 0, 1) := dk_3 (dk_at dksX20_isTurned_0 13 rfl rfl)
theorem dX20_isTurned_14 : decode cX20_isTurned 14 = .ok (.ireturn, 1) := dk_172 (dk_at dksX20_isTurned_0 14 rfl rfl)
abbrev cX20_duty : ByteArray := prog_8_method_4_code
def yX20_duty : MethodName := ⟨RX20, "duty", "(ILSaltedGate$Law;)I"⟩
theorem dX20_duty_0 : decode cX20_duty 0 = .ok (.iconst 0, 1) := by decide +kernel
theorem dX20_duty_1 : decode cX20_duty 1 = .ok (.ireturn, 1) := by decide +kernel
abbrev cX20_kind : ByteArray := prog_8_method_2_code
def yX20_kind : MethodName := ⟨RX20, "kind", "()I"⟩
theorem dX20_kind_0 : decode cX20_kind 0 = .ok (.iconst 0, 1) := by decide +kernel
theorem dX20_kind_1 : decode cX20_kind 1 = .ok (.ireturn, 1) := by decide +kernel
abbrev cX20_gain : ByteArray := prog_8_method_6_code
def yX20_gain : MethodName := ⟨RX20, "gain", "(ILSaltedGate$Law;)I"⟩
theorem dX20_gain_0 : decode cX20_gain 0 = .ok (.iconst 0, 1) := by decide +kernel
theorem dX20_gain_1 : decode cX20_gain 1 = .ok (.ireturn, 1) := by decide +kernel
theorem q147 : (Jvm.Cond.initialized "SaltedGate$Fresh") ∈ lw_all := lw_g (lw_at lw_m1 28 rfl) rfl
theorem q954 : (Jvm.Cond.instantiable "SaltedGate$Fresh" (7 : Nat)) ∈ lw_all := lw_g (lw_at lw_m4 115 rfl) rfl
theorem q956 : (Jvm.Cond.instanceMethod ({ cls := "SaltedGate$Fresh", name := "<init>", desc := "(Ljava/lang/String;I)V" } : Jvm.MethodName)) ∈ lw_all := lw_g (lw_at lw_m4 117 rfl) rfl
theorem q957 : (Jvm.Cond.code ({ cls := "SaltedGate$Fresh", name := "<init>", desc := "(Ljava/lang/String;I)V" } : Jvm.MethodName) prog_8_method_1_code (3 : Nat) (Option.none : Option Jvm.ClassFile.FieldType)) ∈ lw_all := lw_g (lw_at lw_m4 118 rfl) rfl
theorem q958 : (Jvm.Cond.methodLink "SaltedGate$Fresh" (1 : Nat) ({ cls := "SaltedGate$Good", name := "<init>", desc := "(Ljava/lang/String;I)V" } : Jvm.MethodName)) ∈ lw_all := lw_g (lw_at lw_m4 119 rfl) rfl
theorem q966 : (Jvm.Cond.sameField "SaltedGate$Fresh" "SaltedGate$Good" "whose" "I") ∈ lw_all := lw_g (lw_at lw_m4 127 rfl) rfl
theorem q980 : (Jvm.Cond.lays "SaltedGate$Fresh" "SaltedGate$Good" "whose" "I") ∈ lw_all := lw_g (lw_at lw_m4 141 rfl) rfl
theorem q982 : (Jvm.Cond.lays "SaltedGate$Fresh" "SaltedGate$Good" "old" "I") ∈ lw_all := lw_g (lw_at lw_m4 143 rfl) rfl
theorem q984 : (Jvm.Cond.lays "SaltedGate$Fresh" "SaltedGate$Good" "weighs" "I") ∈ lw_all := lw_g (lw_at lw_m4 145 rfl) rfl
theorem q986 : (Jvm.Cond.lays "SaltedGate$Fresh" "SaltedGate$Good" "worth" "I") ∈ lw_all := lw_g (lw_at lw_m4 147 rfl) rfl
theorem q988 : (Jvm.Cond.lays "SaltedGate$Fresh" "SaltedGate$Good" "hidden" "Z") ∈ lw_all := lw_g (lw_at lw_m4 149 rfl) rfl
theorem q990 : (Jvm.Cond.laysFinal "SaltedGate$Fresh" "SaltedGate$Named" "name" "Ljava/lang/String;") ∈ lw_all := lw_g (lw_at lw_m4 151 rfl) rfl
theorem q991 : (Jvm.Cond.laysFinal "SaltedGate$Fresh" "SaltedGate$Named" "number" "I") ∈ lw_all := lw_g (lw_at lw_m4 152 rfl) rfl
theorem q992 : (Jvm.Cond.superclass "SaltedGate$Fresh" "SaltedGate$Good") ∈ lw_all := lw_g (lw_at lw_m4 153 rfl) rfl
theorem q1174 : (Jvm.Cond.selects "SaltedGate$Fresh" ({ cls := "SaltedGate$Good", name := "smells", desc := "(I)I" } : Jvm.MethodName) ({ cls := "SaltedGate$Good", name := "smells", desc := "(I)I" } : Jvm.MethodName)) ∈ lw_all := lw_g (lw_at lw_m5 95 rfl) rfl
theorem q1187 : (Jvm.Cond.selects "SaltedGate$Fresh" ({ cls := "SaltedGate$Good", name := "age", desc := "(I)I" } : Jvm.MethodName) ({ cls := "SaltedGate$Good", name := "age", desc := "(I)I" } : Jvm.MethodName)) ∈ lw_all := lw_g (lw_at lw_m5 108 rfl) rfl
theorem q1198 : (Jvm.Cond.selects "SaltedGate$Fresh" ({ cls := "SaltedGate$Good", name := "isFresh", desc := "()Z" } : Jvm.MethodName) ({ cls := "SaltedGate$Fresh", name := "isFresh", desc := "()Z" } : Jvm.MethodName)) ∈ lw_all := lw_g (lw_at lw_m5 119 rfl) rfl
theorem q1199 : (Jvm.Cond.instanceMethod ({ cls := "SaltedGate$Fresh", name := "isFresh", desc := "()Z" } : Jvm.MethodName)) ∈ lw_all := lw_g (lw_at lw_m5 120 rfl) rfl
theorem q1200 : (Jvm.Cond.code ({ cls := "SaltedGate$Fresh", name := "isFresh", desc := "()Z" } : Jvm.MethodName) prog_8_method_5_code (1 : Nat) (Option.some Jvm.ClassFile.FieldType.boolean)) ∈ lw_all := lw_g (lw_at lw_m5 121 rfl) rfl
theorem q1209 : (Jvm.Cond.selects "SaltedGate$Fresh" ({ cls := "SaltedGate$Good", name := "isTurned", desc := "(I)Z" } : Jvm.MethodName) ({ cls := "SaltedGate$Fresh", name := "isTurned", desc := "(I)Z" } : Jvm.MethodName)) ∈ lw_all := lw_g (lw_at lw_m5 130 rfl) rfl
theorem q1210 : (Jvm.Cond.instanceMethod ({ cls := "SaltedGate$Fresh", name := "isTurned", desc := "(I)Z" } : Jvm.MethodName)) ∈ lw_all := lw_g (lw_at lw_m5 131 rfl) rfl
theorem q1211 : (Jvm.Cond.code ({ cls := "SaltedGate$Fresh", name := "isTurned", desc := "(I)Z" } : Jvm.MethodName) prog_8_method_3_code (2 : Nat) (Option.some Jvm.ClassFile.FieldType.boolean)) ∈ lw_all := lw_g (lw_at lw_m5 132 rfl) rfl
theorem q1212 : (Jvm.Cond.methodLink "SaltedGate$Fresh" (7 : Nat) ({ cls := "SaltedGate$Fresh", name := "age", desc := "(I)I" } : Jvm.MethodName)) ∈ lw_all := lw_g (lw_at lw_m5 133 rfl) rfl
theorem q1213 : (Jvm.Cond.sameMethod "SaltedGate$Fresh" "SaltedGate$Good" "age" "(I)I") ∈ lw_all := lw_g (lw_at lw_m5 134 rfl) rfl
theorem q1215 : (Jvm.Cond.selects "SaltedGate$Fresh" ({ cls := "SaltedGate$Fresh", name := "age", desc := "(I)I" } : Jvm.MethodName) ({ cls := "SaltedGate$Good", name := "age", desc := "(I)I" } : Jvm.MethodName)) ∈ lw_all := lw_g (lw_at lw_m5 136 rfl) rfl
theorem q1251 : (Jvm.Cond.selects "SaltedGate$Fresh" ({ cls := "SaltedGate$Good", name := "duty", desc := "(ILSaltedGate$Law;)I" } : Jvm.MethodName) ({ cls := "SaltedGate$Fresh", name := "duty", desc := "(ILSaltedGate$Law;)I" } : Jvm.MethodName)) ∈ lw_all := lw_g (lw_at lw_m5 172 rfl) rfl
theorem q1252 : (Jvm.Cond.instanceMethod ({ cls := "SaltedGate$Fresh", name := "duty", desc := "(ILSaltedGate$Law;)I" } : Jvm.MethodName)) ∈ lw_all := lw_g (lw_at lw_m5 173 rfl) rfl
theorem q1253 : (Jvm.Cond.code ({ cls := "SaltedGate$Fresh", name := "duty", desc := "(ILSaltedGate$Law;)I" } : Jvm.MethodName) prog_8_method_4_code (3 : Nat) (Option.some Jvm.ClassFile.FieldType.int)) ∈ lw_all := lw_g (lw_at lw_m5 174 rfl) rfl
theorem q1290 : (Jvm.Cond.selects "SaltedGate$Fresh" ({ cls := "SaltedGate$Good", name := "kind", desc := "()I" } : Jvm.MethodName) ({ cls := "SaltedGate$Fresh", name := "kind", desc := "()I" } : Jvm.MethodName)) ∈ lw_all := lw_g (lw_at lw_m5 211 rfl) rfl
theorem q1291 : (Jvm.Cond.instanceMethod ({ cls := "SaltedGate$Fresh", name := "kind", desc := "()I" } : Jvm.MethodName)) ∈ lw_all := lw_g (lw_at lw_m5 212 rfl) rfl
theorem q1292 : (Jvm.Cond.code ({ cls := "SaltedGate$Fresh", name := "kind", desc := "()I" } : Jvm.MethodName) prog_8_method_2_code (1 : Nat) (Option.some Jvm.ClassFile.FieldType.int)) ∈ lw_all := lw_g (lw_at lw_m5 213 rfl) rfl
theorem q1308 : (Jvm.Cond.selects "SaltedGate$Fresh" ({ cls := "SaltedGate$Good", name := "means", desc := "()LSaltedGate$Means;" } : Jvm.MethodName) ({ cls := "SaltedGate$Good", name := "means", desc := "()LSaltedGate$Means;" } : Jvm.MethodName)) ∈ lw_all := lw_g (lw_at lw_m5 229 rfl) rfl
theorem q1358 : (Jvm.Cond.selects "SaltedGate$Fresh" ({ cls := "SaltedGate$Good", name := "worthOn", desc := "(I)I" } : Jvm.MethodName) ({ cls := "SaltedGate$Good", name := "worthOn", desc := "(I)I" } : Jvm.MethodName)) ∈ lw_all := lw_g (lw_at lw_m6 39 rfl) rfl
theorem q1545 : (Jvm.Cond.selects "SaltedGate$Fresh" ({ cls := "SaltedGate$Good", name := "gain", desc := "(ILSaltedGate$Law;)I" } : Jvm.MethodName) ({ cls := "SaltedGate$Fresh", name := "gain", desc := "(ILSaltedGate$Law;)I" } : Jvm.MethodName)) ∈ lw_all := lw_g (lw_at lw_m6 226 rfl) rfl
theorem q1546 : (Jvm.Cond.instanceMethod ({ cls := "SaltedGate$Fresh", name := "gain", desc := "(ILSaltedGate$Law;)I" } : Jvm.MethodName)) ∈ lw_all := lw_g (lw_at lw_m6 227 rfl) rfl
theorem q1547 : (Jvm.Cond.code ({ cls := "SaltedGate$Fresh", name := "gain", desc := "(ILSaltedGate$Law;)I" } : Jvm.MethodName) prog_8_method_6_code (3 : Nat) (Option.some Jvm.ClassFile.FieldType.int)) ∈ lw_all := lw_g (lw_at lw_m6 228 rfl) rfl
theorem q2555 : (Jvm.Cond.castable "SaltedGate$Fresh" "SaltedGate$Good") ∈ lw_tbl := lw_at lw_m11 36 rfl
theorem q2577 : (Jvm.Cond.castable "SaltedGate$Fresh" "java/lang/Object") ∈ lw_tbl := lw_at lw_m11 58 rfl
theorem in_X20 : ∀ w ∈ wsX200, w ∈ lw_all := lw_in wsX200 [980, 982, 984, 986, 988, 990, 991] (by decide +kernel) (by decide +kernel)

/-! SaltedGate$Kept -/
set_option maxRecDepth 100000
def RX21 : String := "SaltedGate$Kept"
abbrev cX21_init : ByteArray := prog_12_method_1_code
def yX21_init : MethodName := ⟨RX21, "<init>", "(Ljava/lang/String;I)V"⟩
def dkwX21_init_0 : List UInt8 := [42, 43, 28, 183, 0, 1, 177]
abbrev dktX21_init_0 : List UInt8 := dkwX21_init_0 ++ []
theorem dksX21_init_0 : cX21_init.data.toList.drop 0 = dktX21_init_0 := by decide +kernel
theorem dX21_init_0 : decode cX21_init 0 = .ok (.aload_n 0, 1) := dk_42 (dk_at dksX21_init_0 0 rfl rfl)
theorem dX21_init_1 : decode cX21_init 1 = .ok (.aload_n 1, 1) := dk_43 (dk_at dksX21_init_0 1 rfl rfl)
theorem dX21_init_2 : decode cX21_init 2 = .ok (.iload_n 2, 1) := dk_28 (dk_at dksX21_init_0 2 rfl rfl)
theorem dX21_init_3 : decode cX21_init 3 = .ok (.invokespecial 1, 3) := dk_183 0 1 (dk_at dksX21_init_0 3 rfl rfl)
theorem dX21_init_6 : decode cX21_init 6 = .ok (.return_, 1) := dk_177 (dk_at dksX21_init_0 6 rfl rfl)
abbrev cX21_by : ByteArray := prog_12_method_2_code
def yX21_by : MethodName := ⟨RX21, "by", "(LSaltedGate$Means;)LSaltedGate$Kept;"⟩
def dkwX21_by_0 : List UInt8 := [42, 43, 181, 0, 7, 42, 176]
abbrev dktX21_by_0 : List UInt8 := dkwX21_by_0 ++ []
theorem dksX21_by_0 : cX21_by.data.toList.drop 0 = dktX21_by_0 := by decide +kernel
theorem dX21_by_0 : decode cX21_by 0 = .ok (.aload_n 0, 1) := dk_42 (dk_at dksX21_by_0 0 rfl rfl)
theorem dX21_by_1 : decode cX21_by 1 = .ok (.aload_n 1, 1) := dk_43 (dk_at dksX21_by_0 1 rfl rfl)
theorem dX21_by_2 : decode cX21_by 2 = .ok (.putfield 7, 3) := dk_181 0 7 (dk_at dksX21_by_0 2 rfl rfl)
theorem dX21_by_5 : decode cX21_by 5 = .ok (.aload_n 0, 1) := dk_42 (dk_at dksX21_by_0 5 rfl rfl)
theorem dX21_by_6 : decode cX21_by 6 = .ok (.areturn, 1) := dk_176 (dk_at dksX21_by_0 6 rfl rfl)
abbrev cX21_isTurned : ByteArray := prog_12_method_4_code
def yX21_isTurned : MethodName := ⟨RX21, "isTurned", "(I)Z"⟩
def dkwX21_isTurned_0 : List UInt8 := [42, 27, 182, 0, 13, 42, 180, 0, 7, 180, 0, 17, 164, 0, 7, 4, 167, 0, 4, 3, 172]
abbrev dktX21_isTurned_0 : List UInt8 := dkwX21_isTurned_0 ++ []
theorem dksX21_isTurned_0 : cX21_isTurned.data.toList.drop 0 = dktX21_isTurned_0 := by decide +kernel
theorem dX21_isTurned_0 : decode cX21_isTurned 0 = .ok (.aload_n 0, 1) := dk_42 (dk_at dksX21_isTurned_0 0 rfl rfl)
theorem dX21_isTurned_1 : decode cX21_isTurned 1 = .ok (.iload_n 1, 1) := dk_27 (dk_at dksX21_isTurned_0 1 rfl rfl)
theorem dX21_isTurned_2 : decode cX21_isTurned 2 = .ok (.invokevirtual 13, 3) := dk_182 0 13 (dk_at dksX21_isTurned_0 2 rfl rfl)
theorem dX21_isTurned_5 : decode cX21_isTurned 5 = .ok (.aload_n 0, 1) := dk_42 (dk_at dksX21_isTurned_0 5 rfl rfl)
theorem dX21_isTurned_6 : decode cX21_isTurned 6 = .ok (.getfield 7, 3) := dk_180 0 7 (dk_at dksX21_isTurned_0 6 rfl rfl)
theorem dX21_isTurned_9 : decode cX21_isTurned 9 = .ok (.getfield 17, 3) := dk_180 0 17 (dk_at dksX21_isTurned_0 9 rfl rfl)
theorem dX21_isTurned_12 : decode cX21_isTurned 12 = .ok (.if_icmp .le 7, 3) := dk_164 0 7 (dk_at dksX21_isTurned_0 12 rfl rfl)
theorem dX21_isTurned_15 : decode cX21_isTurned 15 = .ok (.iconst 1, 1) := dk_4 (dk_at dksX21_isTurned_0 15 rfl rfl)
theorem dX21_isTurned_16 : decode cX21_isTurned 16 = .ok (.goto 4, 3) := dk_167 0 4 (dk_at dksX21_isTurned_0 16 rfl rfl)
theorem dX21_isTurned_19 : decode cX21_isTurned 19 = .ok (.iconst 0, 1) := dk_3 (dk_at dksX21_isTurned_0 19 rfl rfl)
theorem dX21_isTurned_20 : decode cX21_isTurned 20 = .ok (.ireturn, 1) := dk_172 (dk_at dksX21_isTurned_0 20 rfl rfl)
abbrev cX21_duty : ByteArray := prog_12_method_5_code
def yX21_duty : MethodName := ⟨RX21, "duty", "(ILSaltedGate$Law;)I"⟩
def dkwX21_duty_1 : List UInt8 := [104, 42, 27, 182, 0, 13, 16, 10, 108, 104, 172]
abbrev dktX21_duty_1 : List UInt8 := dkwX21_duty_1 ++ []
def dkwX21_duty_0 : List UInt8 := [42, 27, 182, 0, 23, 153, 0, 7, 3, 167, 0, 25, 42, 180, 0, 27, 44, 42, 180, 0, 7, 182, 0, 30]
abbrev dktX21_duty_0 : List UInt8 := dkwX21_duty_0 ++ dktX21_duty_1
theorem dksX21_duty_0 : cX21_duty.data.toList.drop 0 = dktX21_duty_0 := by decide +kernel
theorem dksX21_duty_1 : cX21_duty.data.toList.drop 24 = dktX21_duty_1 := dk_seg dksX21_duty_0 24 rfl rfl
theorem dX21_duty_0 : decode cX21_duty 0 = .ok (.aload_n 0, 1) := dk_42 (dk_at dksX21_duty_0 0 rfl rfl)
theorem dX21_duty_1 : decode cX21_duty 1 = .ok (.iload_n 1, 1) := dk_27 (dk_at dksX21_duty_0 1 rfl rfl)
theorem dX21_duty_2 : decode cX21_duty 2 = .ok (.invokevirtual 23, 3) := dk_182 0 23 (dk_at dksX21_duty_0 2 rfl rfl)
theorem dX21_duty_5 : decode cX21_duty 5 = .ok (.ifCond .eq 7, 3) := dk_153 0 7 (dk_at dksX21_duty_0 5 rfl rfl)
theorem dX21_duty_8 : decode cX21_duty 8 = .ok (.iconst 0, 1) := dk_3 (dk_at dksX21_duty_0 8 rfl rfl)
theorem dX21_duty_9 : decode cX21_duty 9 = .ok (.goto 25, 3) := dk_167 0 25 (dk_at dksX21_duty_0 9 rfl rfl)
theorem dX21_duty_12 : decode cX21_duty 12 = .ok (.aload_n 0, 1) := dk_42 (dk_at dksX21_duty_0 12 rfl rfl)
theorem dX21_duty_13 : decode cX21_duty 13 = .ok (.getfield 27, 3) := dk_180 0 27 (dk_at dksX21_duty_0 13 rfl rfl)
theorem dX21_duty_16 : decode cX21_duty 16 = .ok (.aload_n 2, 1) := dk_44 (dk_at dksX21_duty_0 16 rfl rfl)
theorem dX21_duty_17 : decode cX21_duty 17 = .ok (.aload_n 0, 1) := dk_42 (dk_at dksX21_duty_0 17 rfl rfl)
theorem dX21_duty_18 : decode cX21_duty 18 = .ok (.getfield 7, 3) := dk_180 0 7 (dk_at dksX21_duty_0 18 rfl rfl)
theorem dX21_duty_21 : decode cX21_duty 21 = .ok (.invokevirtual 30, 3) := dk_182 0 30 (dk_at dksX21_duty_0 21 rfl rfl)
theorem dX21_duty_24 : decode cX21_duty 24 = .ok (.imul, 1) := dk_104 (dk_at dksX21_duty_1 0 rfl rfl)
theorem dX21_duty_25 : decode cX21_duty 25 = .ok (.aload_n 0, 1) := dk_42 (dk_at dksX21_duty_1 1 rfl rfl)
theorem dX21_duty_26 : decode cX21_duty 26 = .ok (.iload_n 1, 1) := dk_27 (dk_at dksX21_duty_1 2 rfl rfl)
theorem dX21_duty_27 : decode cX21_duty 27 = .ok (.invokevirtual 13, 3) := dk_182 0 13 (dk_at dksX21_duty_1 3 rfl rfl)
theorem dX21_duty_30 : decode cX21_duty 30 = .ok (.bipush 10, 2) := dk_16 10 (dk_at dksX21_duty_1 6 rfl rfl)
theorem dX21_duty_32 : decode cX21_duty 32 = .ok (.idiv, 1) := dk_108 (dk_at dksX21_duty_1 8 rfl rfl)
theorem dX21_duty_33 : decode cX21_duty 33 = .ok (.imul, 1) := dk_104 (dk_at dksX21_duty_1 9 rfl rfl)
theorem dX21_duty_34 : decode cX21_duty 34 = .ok (.ireturn, 1) := dk_172 (dk_at dksX21_duty_1 10 rfl rfl)
abbrev cX21_means : ByteArray := prog_12_method_3_code
def yX21_means : MethodName := ⟨RX21, "means", "()LSaltedGate$Means;"⟩
theorem dX21_means_0 : decode cX21_means 0 = .ok (.aload_n 0, 1) := by decide +kernel
theorem dX21_means_1 : decode cX21_means 1 = .ok (.getfield 7, 3) := by decide +kernel
theorem dX21_means_4 : decode cX21_means 4 = .ok (.areturn, 1) := by decide +kernel
abbrev cX21_gain : ByteArray := prog_12_method_6_code
def yX21_gain : MethodName := ⟨RX21, "gain", "(ILSaltedGate$Law;)I"⟩
def dkwX21_gain_2 : List UInt8 := [182, 0, 42, 100, 172]
abbrev dktX21_gain_2 : List UInt8 := dkwX21_gain_2 ++ []
def dkwX21_gain_1 : List UInt8 := [42, 180, 0, 27, 42, 180, 0, 7, 180, 0, 39, 42, 180, 0, 7, 180, 0, 36, 100, 104, 42, 27, 44]
abbrev dktX21_gain_1 : List UInt8 := dkwX21_gain_1 ++ dktX21_gain_2
def dkwX21_gain_0 : List UInt8 := [42, 27, 182, 0, 23, 153, 0, 19, 42, 180, 0, 27, 116, 42, 180, 0, 7, 180, 0, 36, 104, 167, 0, 30]
abbrev dktX21_gain_0 : List UInt8 := dkwX21_gain_0 ++ dktX21_gain_1
theorem dksX21_gain_0 : cX21_gain.data.toList.drop 0 = dktX21_gain_0 := by decide +kernel
theorem dksX21_gain_1 : cX21_gain.data.toList.drop 24 = dktX21_gain_1 := dk_seg dksX21_gain_0 24 rfl rfl
theorem dksX21_gain_2 : cX21_gain.data.toList.drop 47 = dktX21_gain_2 := dk_seg dksX21_gain_1 23 rfl rfl
theorem dX21_gain_0 : decode cX21_gain 0 = .ok (.aload_n 0, 1) := dk_42 (dk_at dksX21_gain_0 0 rfl rfl)
theorem dX21_gain_1 : decode cX21_gain 1 = .ok (.iload_n 1, 1) := dk_27 (dk_at dksX21_gain_0 1 rfl rfl)
theorem dX21_gain_2 : decode cX21_gain 2 = .ok (.invokevirtual 23, 3) := dk_182 0 23 (dk_at dksX21_gain_0 2 rfl rfl)
theorem dX21_gain_5 : decode cX21_gain 5 = .ok (.ifCond .eq 19, 3) := dk_153 0 19 (dk_at dksX21_gain_0 5 rfl rfl)
theorem dX21_gain_8 : decode cX21_gain 8 = .ok (.aload_n 0, 1) := dk_42 (dk_at dksX21_gain_0 8 rfl rfl)
theorem dX21_gain_9 : decode cX21_gain 9 = .ok (.getfield 27, 3) := dk_180 0 27 (dk_at dksX21_gain_0 9 rfl rfl)
theorem dX21_gain_12 : decode cX21_gain 12 = .ok (.ineg, 1) := dk_116 (dk_at dksX21_gain_0 12 rfl rfl)
theorem dX21_gain_13 : decode cX21_gain 13 = .ok (.aload_n 0, 1) := dk_42 (dk_at dksX21_gain_0 13 rfl rfl)
theorem dX21_gain_14 : decode cX21_gain 14 = .ok (.getfield 7, 3) := dk_180 0 7 (dk_at dksX21_gain_0 14 rfl rfl)
theorem dX21_gain_17 : decode cX21_gain 17 = .ok (.getfield 36, 3) := dk_180 0 36 (dk_at dksX21_gain_0 17 rfl rfl)
theorem dX21_gain_20 : decode cX21_gain 20 = .ok (.imul, 1) := dk_104 (dk_at dksX21_gain_0 20 rfl rfl)
theorem dX21_gain_21 : decode cX21_gain 21 = .ok (.goto 30, 3) := dk_167 0 30 (dk_at dksX21_gain_0 21 rfl rfl)
theorem dX21_gain_24 : decode cX21_gain 24 = .ok (.aload_n 0, 1) := dk_42 (dk_at dksX21_gain_1 0 rfl rfl)
theorem dX21_gain_25 : decode cX21_gain 25 = .ok (.getfield 27, 3) := dk_180 0 27 (dk_at dksX21_gain_1 1 rfl rfl)
theorem dX21_gain_28 : decode cX21_gain 28 = .ok (.aload_n 0, 1) := dk_42 (dk_at dksX21_gain_1 4 rfl rfl)
theorem dX21_gain_29 : decode cX21_gain 29 = .ok (.getfield 7, 3) := dk_180 0 7 (dk_at dksX21_gain_1 5 rfl rfl)
theorem dX21_gain_32 : decode cX21_gain 32 = .ok (.getfield 39, 3) := dk_180 0 39 (dk_at dksX21_gain_1 8 rfl rfl)
theorem dX21_gain_35 : decode cX21_gain 35 = .ok (.aload_n 0, 1) := dk_42 (dk_at dksX21_gain_1 11 rfl rfl)
theorem dX21_gain_36 : decode cX21_gain 36 = .ok (.getfield 7, 3) := dk_180 0 7 (dk_at dksX21_gain_1 12 rfl rfl)
theorem dX21_gain_39 : decode cX21_gain 39 = .ok (.getfield 36, 3) := dk_180 0 36 (dk_at dksX21_gain_1 15 rfl rfl)
theorem dX21_gain_42 : decode cX21_gain 42 = .ok (.isub, 1) := dk_100 (dk_at dksX21_gain_1 18 rfl rfl)
theorem dX21_gain_43 : decode cX21_gain 43 = .ok (.imul, 1) := dk_104 (dk_at dksX21_gain_1 19 rfl rfl)
theorem dX21_gain_44 : decode cX21_gain 44 = .ok (.aload_n 0, 1) := dk_42 (dk_at dksX21_gain_1 20 rfl rfl)
theorem dX21_gain_45 : decode cX21_gain 45 = .ok (.iload_n 1, 1) := dk_27 (dk_at dksX21_gain_1 21 rfl rfl)
theorem dX21_gain_46 : decode cX21_gain 46 = .ok (.aload_n 2, 1) := dk_44 (dk_at dksX21_gain_1 22 rfl rfl)
theorem dX21_gain_47 : decode cX21_gain 47 = .ok (.invokevirtual 42, 3) := dk_182 0 42 (dk_at dksX21_gain_2 0 rfl rfl)
theorem dX21_gain_50 : decode cX21_gain 50 = .ok (.isub, 1) := dk_100 (dk_at dksX21_gain_2 3 rfl rfl)
theorem dX21_gain_51 : decode cX21_gain 51 = .ok (.ireturn, 1) := dk_172 (dk_at dksX21_gain_2 4 rfl rfl)
theorem q148 : (Jvm.Cond.initialized "SaltedGate$Kept") ∈ lw_all := lw_g (lw_at lw_m1 29 rfl) rfl
theorem q855 : (Jvm.Cond.fieldLink "SaltedGate$Kept" (17 : Nat) "SaltedGate$Means" "keeps" "I") ∈ lw_all := lw_g (lw_at lw_m4 16 rfl) rfl
theorem q857 : (Jvm.Cond.fieldLink "SaltedGate$Kept" (36 : Nat) "SaltedGate$Means" "here" "I") ∈ lw_all := lw_g (lw_at lw_m4 18 rfl) rfl
theorem q859 : (Jvm.Cond.fieldLink "SaltedGate$Kept" (39 : Nat) "SaltedGate$Means" "there" "I") ∈ lw_all := lw_g (lw_at lw_m4 20 rfl) rfl
theorem q968 : (Jvm.Cond.sameField "SaltedGate$Kept" "SaltedGate$Good" "whose" "I") ∈ lw_all := lw_g (lw_at lw_m4 129 rfl) rfl
theorem q971 : (Jvm.Cond.fieldLink "SaltedGate$Kept" (27 : Nat) "SaltedGate$Kept" "weighs" "I") ∈ lw_all := lw_g (lw_at lw_m4 132 rfl) rfl
theorem q972 : (Jvm.Cond.sameField "SaltedGate$Kept" "SaltedGate$Good" "weighs" "I") ∈ lw_all := lw_g (lw_at lw_m4 133 rfl) rfl
theorem q1012 : (Jvm.Cond.instanceMethod ({ cls := "SaltedGate$Kept", name := "<init>", desc := "(Ljava/lang/String;I)V" } : Jvm.MethodName)) ∈ lw_all := lw_g (lw_at lw_m4 173 rfl) rfl
theorem q1013 : (Jvm.Cond.code ({ cls := "SaltedGate$Kept", name := "<init>", desc := "(Ljava/lang/String;I)V" } : Jvm.MethodName) prog_12_method_1_code (3 : Nat) (Option.none : Option Jvm.ClassFile.FieldType)) ∈ lw_all := lw_g (lw_at lw_m4 174 rfl) rfl
theorem q1014 : (Jvm.Cond.methodLink "SaltedGate$Kept" (1 : Nat) ({ cls := "SaltedGate$Good", name := "<init>", desc := "(Ljava/lang/String;I)V" } : Jvm.MethodName)) ∈ lw_all := lw_g (lw_at lw_m4 175 rfl) rfl
theorem q1015 : (Jvm.Cond.fieldLink "SaltedGate$Kept" (7 : Nat) "SaltedGate$Kept" "means" "LSaltedGate$Means;") ∈ lw_all := lw_g (lw_at lw_m4 176 rfl) rfl
theorem q1017 : (Jvm.Cond.soleField "SaltedGate$Kept" "means") ∈ lw_all := lw_g (lw_at lw_m4 178 rfl) rfl
theorem q1083 : (Jvm.Cond.instanceMethod ({ cls := "SaltedGate$Kept", name := "by", desc := "(LSaltedGate$Means;)LSaltedGate$Kept;" } : Jvm.MethodName)) ∈ lw_all := lw_g (lw_at lw_m5 4 rfl) rfl
theorem q1084 : (Jvm.Cond.sameMethod "SaltedGate$Kept" "SaltedGate$Kept" "by" "(LSaltedGate$Means;)LSaltedGate$Kept;") ∈ lw_all := lw_g (lw_at lw_m5 5 rfl) rfl
theorem q1089 : (Jvm.Cond.code ({ cls := "SaltedGate$Kept", name := "by", desc := "(LSaltedGate$Means;)LSaltedGate$Kept;" } : Jvm.MethodName) prog_12_method_2_code (2 : Nat) (Option.some (Jvm.ClassFile.FieldType.object "SaltedGate$Kept"))) ∈ lw_all := lw_g (lw_at lw_m5 10 rfl) rfl
theorem q1180 : (Jvm.Cond.sameMethod "SaltedGate$Kept" "SaltedGate$Good" "smells" "(I)I") ∈ lw_all := lw_g (lw_at lw_m5 101 rfl) rfl
theorem q1182 : (Jvm.Cond.superclass "SaltedGate$Kept" "SaltedGate$Good") ∈ lw_all := lw_g (lw_at lw_m5 103 rfl) rfl
theorem q1220 : (Jvm.Cond.instanceMethod ({ cls := "SaltedGate$Kept", name := "isTurned", desc := "(I)Z" } : Jvm.MethodName)) ∈ lw_all := lw_g (lw_at lw_m5 141 rfl) rfl
theorem q1221 : (Jvm.Cond.code ({ cls := "SaltedGate$Kept", name := "isTurned", desc := "(I)Z" } : Jvm.MethodName) prog_12_method_4_code (2 : Nat) (Option.some Jvm.ClassFile.FieldType.boolean)) ∈ lw_all := lw_g (lw_at lw_m5 142 rfl) rfl
theorem q1222 : (Jvm.Cond.methodLink "SaltedGate$Kept" (13 : Nat) ({ cls := "SaltedGate$Kept", name := "age", desc := "(I)I" } : Jvm.MethodName)) ∈ lw_all := lw_g (lw_at lw_m5 143 rfl) rfl
theorem q1223 : (Jvm.Cond.sameMethod "SaltedGate$Kept" "SaltedGate$Good" "age" "(I)I") ∈ lw_all := lw_g (lw_at lw_m5 144 rfl) rfl
theorem q1255 : (Jvm.Cond.instanceMethod ({ cls := "SaltedGate$Kept", name := "duty", desc := "(ILSaltedGate$Law;)I" } : Jvm.MethodName)) ∈ lw_all := lw_g (lw_at lw_m5 176 rfl) rfl
theorem q1256 : (Jvm.Cond.code ({ cls := "SaltedGate$Kept", name := "duty", desc := "(ILSaltedGate$Law;)I" } : Jvm.MethodName) prog_12_method_5_code (3 : Nat) (Option.some Jvm.ClassFile.FieldType.int)) ∈ lw_all := lw_g (lw_at lw_m5 177 rfl) rfl
theorem q1257 : (Jvm.Cond.methodLink "SaltedGate$Kept" (23 : Nat) ({ cls := "SaltedGate$Kept", name := "isTurned", desc := "(I)Z" } : Jvm.MethodName)) ∈ lw_all := lw_g (lw_at lw_m5 178 rfl) rfl
theorem q1258 : (Jvm.Cond.methodLink "SaltedGate$Kept" (30 : Nat) ({ cls := "SaltedGate$Law", name := "rate", desc := "(LSaltedGate$Means;)I" } : Jvm.MethodName)) ∈ lw_all := lw_g (lw_at lw_m5 179 rfl) rfl
theorem q1310 : (Jvm.Cond.instanceMethod ({ cls := "SaltedGate$Kept", name := "means", desc := "()LSaltedGate$Means;" } : Jvm.MethodName)) ∈ lw_all := lw_g (lw_at lw_m5 231 rfl) rfl
theorem q1311 : (Jvm.Cond.code ({ cls := "SaltedGate$Kept", name := "means", desc := "()LSaltedGate$Means;" } : Jvm.MethodName) prog_12_method_3_code (1 : Nat) (Option.some (Jvm.ClassFile.FieldType.object "SaltedGate$Means"))) ∈ lw_all := lw_g (lw_at lw_m5 232 rfl) rfl
theorem q1367 : (Jvm.Cond.declares ({ cls := "SaltedGate$Kept", name := "isTurned", desc := "(I)Z" } : Jvm.MethodName)) ∈ lw_tbl := lw_at lw_m6 48 rfl
theorem q1370 : (Jvm.Cond.sameMethod "SaltedGate$Kept" "SaltedGate$Good" "worthOn" "(I)I") ∈ lw_all := lw_g (lw_at lw_m6 51 rfl) rfl
theorem q1549 : (Jvm.Cond.instanceMethod ({ cls := "SaltedGate$Kept", name := "gain", desc := "(ILSaltedGate$Law;)I" } : Jvm.MethodName)) ∈ lw_all := lw_g (lw_at lw_m6 230 rfl) rfl
theorem q1550 : (Jvm.Cond.code ({ cls := "SaltedGate$Kept", name := "gain", desc := "(ILSaltedGate$Law;)I" } : Jvm.MethodName) prog_12_method_6_code (3 : Nat) (Option.some Jvm.ClassFile.FieldType.int)) ∈ lw_all := lw_g (lw_at lw_m6 231 rfl) rfl
theorem q1551 : (Jvm.Cond.methodLink "SaltedGate$Kept" (42 : Nat) ({ cls := "SaltedGate$Kept", name := "duty", desc := "(ILSaltedGate$Law;)I" } : Jvm.MethodName)) ∈ lw_all := lw_g (lw_at lw_m6 232 rfl) rfl
theorem q2545 : (Jvm.Cond.sameMethod "SaltedGate$Kept" "SaltedGate$Kept" "isTurned" "(I)Z") ∈ lw_all := lw_g (lw_at lw_m11 26 rfl) rfl
theorem q2550 : (Jvm.Cond.sameMethod "SaltedGate$Kept" "SaltedGate$Kept" "duty" "(ILSaltedGate$Law;)I") ∈ lw_all := lw_g (lw_at lw_m11 31 rfl) rfl

/-! SaltedGate$Plain -/
set_option maxRecDepth 100000
def RX22 : String := "SaltedGate$Plain"
def TX22 : u_T := fun k => match k with
  | 0 => ("SaltedGate$Good", "whose", "I", false)
  | 1 => ("SaltedGate$Good", "old", "I", false)
  | 2 => ("SaltedGate$Good", "weighs", "I", false)
  | 3 => ("SaltedGate$Good", "worth", "I", false)
  | 4 => ("SaltedGate$Good", "hidden", "Z", false)
  | 5 => ("SaltedGate$Named", "name", "Ljava/lang/String;", true)
  | 6 => ("SaltedGate$Named", "number", "I", true)
  | _ => ("SaltedGate$Kept", "means", "LSaltedGate$Means;", false)
def tyX22 : Nat → FieldType := fun k => match k with
  | 0 => .int
  | 1 => .int
  | 2 => .int
  | 3 => .int
  | 4 => .boolean
  | 5 => .object "java/lang/String"
  | 6 => .int
  | _ => .object "SaltedGate$Means"
abbrev wsX220 : List Cond := u_ws RX22 TX22 8
theorem nmX22 : ∀ a, a < 8 → ∀ b, b < 8 → a ≠ b → (TX22 a).2.1 ≠ (TX22 b).2.1 := by decide +kernel
theorem tyX22_ok : ∀ k, k < 8 → parseFieldDescriptor (TX22 k).2.2.1 = some (tyX22 k) := by decide +kernel
abbrev cX22_init : ByteArray := prog_20_method_1_code
def yX22_init : MethodName := ⟨RX22, "<init>", "(Ljava/lang/String;I)V"⟩
def dkwX22_init_0 : List UInt8 := [42, 43, 28, 183, 0, 1, 177]
abbrev dktX22_init_0 : List UInt8 := dkwX22_init_0 ++ []
theorem dksX22_init_0 : cX22_init.data.toList.drop 0 = dktX22_init_0 := by decide +kernel
theorem dX22_init_0 : decode cX22_init 0 = .ok (.aload_n 0, 1) := dk_42 (dk_at dksX22_init_0 0 rfl rfl)
theorem dX22_init_1 : decode cX22_init 1 = .ok (.aload_n 1, 1) := dk_43 (dk_at dksX22_init_0 1 rfl rfl)
theorem dX22_init_2 : decode cX22_init 2 = .ok (.iload_n 2, 1) := dk_28 (dk_at dksX22_init_0 2 rfl rfl)
theorem dX22_init_3 : decode cX22_init 3 = .ok (.invokespecial 1, 3) := dk_183 0 1 (dk_at dksX22_init_0 3 rfl rfl)
theorem dX22_init_6 : decode cX22_init 6 = .ok (.return_, 1) := dk_177 (dk_at dksX22_init_0 6 rfl rfl)
abbrev cX22_kind : ByteArray := prog_20_method_2_code
def yX22_kind : MethodName := ⟨RX22, "kind", "()I"⟩
theorem dX22_kind_0 : decode cX22_kind 0 = .ok (.iconst 1, 1) := by decide +kernel
theorem dX22_kind_1 : decode cX22_kind 1 = .ok (.ireturn, 1) := by decide +kernel
theorem q149 : (Jvm.Cond.initialized "SaltedGate$Plain") ∈ lw_all := lw_g (lw_at lw_m1 30 rfl) rfl
theorem q1007 : (Jvm.Cond.instantiable "SaltedGate$Plain" (8 : Nat)) ∈ lw_all := lw_g (lw_at lw_m4 168 rfl) rfl
theorem q1009 : (Jvm.Cond.instanceMethod ({ cls := "SaltedGate$Plain", name := "<init>", desc := "(Ljava/lang/String;I)V" } : Jvm.MethodName)) ∈ lw_all := lw_g (lw_at lw_m4 170 rfl) rfl
theorem q1010 : (Jvm.Cond.code ({ cls := "SaltedGate$Plain", name := "<init>", desc := "(Ljava/lang/String;I)V" } : Jvm.MethodName) prog_20_method_1_code (3 : Nat) (Option.none : Option Jvm.ClassFile.FieldType)) ∈ lw_all := lw_g (lw_at lw_m4 171 rfl) rfl
theorem q1011 : (Jvm.Cond.methodLink "SaltedGate$Plain" (1 : Nat) ({ cls := "SaltedGate$Kept", name := "<init>", desc := "(Ljava/lang/String;I)V" } : Jvm.MethodName)) ∈ lw_all := lw_g (lw_at lw_m4 172 rfl) rfl
theorem q1016 : (Jvm.Cond.lays "SaltedGate$Plain" "SaltedGate$Kept" "means" "LSaltedGate$Means;") ∈ lw_all := lw_g (lw_at lw_m4 177 rfl) rfl
theorem q1018 : (Jvm.Cond.lays "SaltedGate$Plain" "SaltedGate$Good" "whose" "I") ∈ lw_all := lw_g (lw_at lw_m4 179 rfl) rfl
theorem q1019 : (Jvm.Cond.lays "SaltedGate$Plain" "SaltedGate$Good" "old" "I") ∈ lw_all := lw_g (lw_at lw_m4 180 rfl) rfl
theorem q1020 : (Jvm.Cond.lays "SaltedGate$Plain" "SaltedGate$Good" "weighs" "I") ∈ lw_all := lw_g (lw_at lw_m4 181 rfl) rfl
theorem q1021 : (Jvm.Cond.lays "SaltedGate$Plain" "SaltedGate$Good" "worth" "I") ∈ lw_all := lw_g (lw_at lw_m4 182 rfl) rfl
theorem q1022 : (Jvm.Cond.lays "SaltedGate$Plain" "SaltedGate$Good" "hidden" "Z") ∈ lw_all := lw_g (lw_at lw_m4 183 rfl) rfl
theorem q1023 : (Jvm.Cond.laysFinal "SaltedGate$Plain" "SaltedGate$Named" "name" "Ljava/lang/String;") ∈ lw_all := lw_g (lw_at lw_m4 184 rfl) rfl
theorem q1024 : (Jvm.Cond.laysFinal "SaltedGate$Plain" "SaltedGate$Named" "number" "I") ∈ lw_all := lw_g (lw_at lw_m4 185 rfl) rfl
theorem q1025 : (Jvm.Cond.superclass "SaltedGate$Plain" "SaltedGate$Kept") ∈ lw_all := lw_g (lw_at lw_m4 186 rfl) rfl
theorem q1087 : (Jvm.Cond.selects "SaltedGate$Plain" ({ cls := "SaltedGate$Kept", name := "by", desc := "(LSaltedGate$Means;)LSaltedGate$Kept;" } : Jvm.MethodName) ({ cls := "SaltedGate$Kept", name := "by", desc := "(LSaltedGate$Means;)LSaltedGate$Kept;" } : Jvm.MethodName)) ∈ lw_all := lw_g (lw_at lw_m5 8 rfl) rfl
theorem q1190 : (Jvm.Cond.selects "SaltedGate$Plain" ({ cls := "SaltedGate$Good", name := "age", desc := "(I)I" } : Jvm.MethodName) ({ cls := "SaltedGate$Good", name := "age", desc := "(I)I" } : Jvm.MethodName)) ∈ lw_all := lw_g (lw_at lw_m5 111 rfl) rfl
theorem q1193 : (Jvm.Cond.selects "SaltedGate$Plain" ({ cls := "SaltedGate$Good", name := "smells", desc := "(I)I" } : Jvm.MethodName) ({ cls := "SaltedGate$Good", name := "smells", desc := "(I)I" } : Jvm.MethodName)) ∈ lw_all := lw_g (lw_at lw_m5 114 rfl) rfl
theorem q1203 : (Jvm.Cond.selects "SaltedGate$Plain" ({ cls := "SaltedGate$Good", name := "isFresh", desc := "()Z" } : Jvm.MethodName) ({ cls := "SaltedGate$Good", name := "isFresh", desc := "()Z" } : Jvm.MethodName)) ∈ lw_all := lw_g (lw_at lw_m5 124 rfl) rfl
theorem q1226 : (Jvm.Cond.selects "SaltedGate$Plain" ({ cls := "SaltedGate$Kept", name := "age", desc := "(I)I" } : Jvm.MethodName) ({ cls := "SaltedGate$Good", name := "age", desc := "(I)I" } : Jvm.MethodName)) ∈ lw_all := lw_g (lw_at lw_m5 147 rfl) rfl
theorem q1228 : (Jvm.Cond.selects "SaltedGate$Plain" ({ cls := "SaltedGate$Good", name := "isTurned", desc := "(I)Z" } : Jvm.MethodName) ({ cls := "SaltedGate$Kept", name := "isTurned", desc := "(I)Z" } : Jvm.MethodName)) ∈ lw_all := lw_g (lw_at lw_m5 149 rfl) rfl
theorem q1268 : (Jvm.Cond.selects "SaltedGate$Plain" ({ cls := "SaltedGate$Good", name := "duty", desc := "(ILSaltedGate$Law;)I" } : Jvm.MethodName) ({ cls := "SaltedGate$Kept", name := "duty", desc := "(ILSaltedGate$Law;)I" } : Jvm.MethodName)) ∈ lw_all := lw_g (lw_at lw_m5 189 rfl) rfl
theorem q1299 : (Jvm.Cond.selects "SaltedGate$Plain" ({ cls := "SaltedGate$Good", name := "kind", desc := "()I" } : Jvm.MethodName) ({ cls := "SaltedGate$Plain", name := "kind", desc := "()I" } : Jvm.MethodName)) ∈ lw_all := lw_g (lw_at lw_m5 220 rfl) rfl
theorem q1300 : (Jvm.Cond.instanceMethod ({ cls := "SaltedGate$Plain", name := "kind", desc := "()I" } : Jvm.MethodName)) ∈ lw_all := lw_g (lw_at lw_m5 221 rfl) rfl
theorem q1301 : (Jvm.Cond.code ({ cls := "SaltedGate$Plain", name := "kind", desc := "()I" } : Jvm.MethodName) prog_20_method_2_code (1 : Nat) (Option.some Jvm.ClassFile.FieldType.int)) ∈ lw_all := lw_g (lw_at lw_m5 222 rfl) rfl
theorem q1313 : (Jvm.Cond.selects "SaltedGate$Plain" ({ cls := "SaltedGate$Good", name := "means", desc := "()LSaltedGate$Means;" } : Jvm.MethodName) ({ cls := "SaltedGate$Kept", name := "means", desc := "()LSaltedGate$Means;" } : Jvm.MethodName)) ∈ lw_all := lw_g (lw_at lw_m5 234 rfl) rfl
theorem q1361 : (Jvm.Cond.selects "SaltedGate$Plain" ({ cls := "SaltedGate$Good", name := "worthOn", desc := "(I)I" } : Jvm.MethodName) ({ cls := "SaltedGate$Good", name := "worthOn", desc := "(I)I" } : Jvm.MethodName)) ∈ lw_all := lw_g (lw_at lw_m6 42 rfl) rfl
theorem q1553 : (Jvm.Cond.selects "SaltedGate$Plain" ({ cls := "SaltedGate$Good", name := "gain", desc := "(ILSaltedGate$Law;)I" } : Jvm.MethodName) ({ cls := "SaltedGate$Kept", name := "gain", desc := "(ILSaltedGate$Law;)I" } : Jvm.MethodName)) ∈ lw_all := lw_g (lw_at lw_m6 234 rfl) rfl
theorem q2548 : (Jvm.Cond.selects "SaltedGate$Plain" ({ cls := "SaltedGate$Kept", name := "isTurned", desc := "(I)Z" } : Jvm.MethodName) ({ cls := "SaltedGate$Kept", name := "isTurned", desc := "(I)Z" } : Jvm.MethodName)) ∈ lw_all := lw_g (lw_at lw_m11 29 rfl) rfl
theorem q2553 : (Jvm.Cond.selects "SaltedGate$Plain" ({ cls := "SaltedGate$Kept", name := "duty", desc := "(ILSaltedGate$Law;)I" } : Jvm.MethodName) ({ cls := "SaltedGate$Kept", name := "duty", desc := "(ILSaltedGate$Law;)I" } : Jvm.MethodName)) ∈ lw_all := lw_g (lw_at lw_m11 34 rfl) rfl
theorem q2558 : (Jvm.Cond.castable "SaltedGate$Plain" "SaltedGate$Good") ∈ lw_tbl := lw_at lw_m11 39 rfl
theorem q2578 : (Jvm.Cond.castable "SaltedGate$Plain" "java/lang/Object") ∈ lw_tbl := lw_at lw_m11 59 rfl
theorem in_X22 : ∀ w ∈ wsX220, w ∈ lw_all := lw_in wsX220 [1018, 1019, 1020, 1021, 1022, 1023, 1024, 1016] (by decide +kernel) (by decide +kernel)

/-! SaltedGate$Wine -/
set_option maxRecDepth 100000
def RX23 : String := "SaltedGate$Wine"
def TX23 : u_T := fun k => match k with
  | 0 => ("SaltedGate$Good", "whose", "I", false)
  | 1 => ("SaltedGate$Good", "old", "I", false)
  | 2 => ("SaltedGate$Good", "weighs", "I", false)
  | 3 => ("SaltedGate$Good", "worth", "I", false)
  | 4 => ("SaltedGate$Good", "hidden", "Z", false)
  | 5 => ("SaltedGate$Named", "name", "Ljava/lang/String;", true)
  | 6 => ("SaltedGate$Named", "number", "I", true)
  | _ => ("SaltedGate$Kept", "means", "LSaltedGate$Means;", false)
def tyX23 : Nat → FieldType := fun k => match k with
  | 0 => .int
  | 1 => .int
  | 2 => .int
  | 3 => .int
  | 4 => .boolean
  | 5 => .object "java/lang/String"
  | 6 => .int
  | _ => .object "SaltedGate$Means"
abbrev wsX230 : List Cond := u_ws RX23 TX23 8
theorem nmX23 : ∀ a, a < 8 → ∀ b, b < 8 → a ≠ b → (TX23 a).2.1 ≠ (TX23 b).2.1 := by decide +kernel
theorem tyX23_ok : ∀ k, k < 8 → parseFieldDescriptor (TX23 k).2.2.1 = some (tyX23 k) := by decide +kernel
abbrev cX23_init : ByteArray := prog_25_method_1_code
def yX23_init : MethodName := ⟨RX23, "<init>", "(Ljava/lang/String;I)V"⟩
def dkwX23_init_0 : List UInt8 := [42, 43, 28, 183, 0, 1, 177]
abbrev dktX23_init_0 : List UInt8 := dkwX23_init_0 ++ []
theorem dksX23_init_0 : cX23_init.data.toList.drop 0 = dktX23_init_0 := by decide +kernel
theorem dX23_init_0 : decode cX23_init 0 = .ok (.aload_n 0, 1) := dk_42 (dk_at dksX23_init_0 0 rfl rfl)
theorem dX23_init_1 : decode cX23_init 1 = .ok (.aload_n 1, 1) := dk_43 (dk_at dksX23_init_0 1 rfl rfl)
theorem dX23_init_2 : decode cX23_init 2 = .ok (.iload_n 2, 1) := dk_28 (dk_at dksX23_init_0 2 rfl rfl)
theorem dX23_init_3 : decode cX23_init 3 = .ok (.invokespecial 1, 3) := dk_183 0 1 (dk_at dksX23_init_0 3 rfl rfl)
theorem dX23_init_6 : decode cX23_init 6 = .ok (.return_, 1) := dk_177 (dk_at dksX23_init_0 6 rfl rfl)
abbrev cX23_kind : ByteArray := prog_25_method_2_code
def yX23_kind : MethodName := ⟨RX23, "kind", "()I"⟩
theorem dX23_kind_0 : decode cX23_kind 0 = .ok (.iconst 2, 1) := by decide +kernel
theorem dX23_kind_1 : decode cX23_kind 1 = .ok (.ireturn, 1) := by decide +kernel
abbrev cX23_worthOn : ByteArray := prog_25_method_3_code
def yX23_worthOn : MethodName := ⟨RX23, "worthOn", "(I)I"⟩
def dkwX23_worthOn_1 : List UInt8 := [182, 0, 17, 16, 10, 108, 96, 172]
abbrev dktX23_worthOn_1 : List UInt8 := dkwX23_worthOn_1 ++ []
def dkwX23_worthOn_0 : List UInt8 := [42, 27, 182, 0, 7, 153, 0, 11, 42, 27, 183, 0, 13, 167, 0, 17, 42, 27, 183, 0, 13, 42, 27]
abbrev dktX23_worthOn_0 : List UInt8 := dkwX23_worthOn_0 ++ dktX23_worthOn_1
theorem dksX23_worthOn_0 : cX23_worthOn.data.toList.drop 0 = dktX23_worthOn_0 := by decide +kernel
theorem dksX23_worthOn_1 : cX23_worthOn.data.toList.drop 23 = dktX23_worthOn_1 := dk_seg dksX23_worthOn_0 23 rfl rfl
theorem dX23_worthOn_0 : decode cX23_worthOn 0 = .ok (.aload_n 0, 1) := dk_42 (dk_at dksX23_worthOn_0 0 rfl rfl)
theorem dX23_worthOn_1 : decode cX23_worthOn 1 = .ok (.iload_n 1, 1) := dk_27 (dk_at dksX23_worthOn_0 1 rfl rfl)
theorem dX23_worthOn_2 : decode cX23_worthOn 2 = .ok (.invokevirtual 7, 3) := dk_182 0 7 (dk_at dksX23_worthOn_0 2 rfl rfl)
theorem dX23_worthOn_5 : decode cX23_worthOn 5 = .ok (.ifCond .eq 11, 3) := dk_153 0 11 (dk_at dksX23_worthOn_0 5 rfl rfl)
theorem dX23_worthOn_8 : decode cX23_worthOn 8 = .ok (.aload_n 0, 1) := dk_42 (dk_at dksX23_worthOn_0 8 rfl rfl)
theorem dX23_worthOn_9 : decode cX23_worthOn 9 = .ok (.iload_n 1, 1) := dk_27 (dk_at dksX23_worthOn_0 9 rfl rfl)
theorem dX23_worthOn_10 : decode cX23_worthOn 10 = .ok (.invokespecial 13, 3) := dk_183 0 13 (dk_at dksX23_worthOn_0 10 rfl rfl)
theorem dX23_worthOn_13 : decode cX23_worthOn 13 = .ok (.goto 17, 3) := dk_167 0 17 (dk_at dksX23_worthOn_0 13 rfl rfl)
theorem dX23_worthOn_16 : decode cX23_worthOn 16 = .ok (.aload_n 0, 1) := dk_42 (dk_at dksX23_worthOn_0 16 rfl rfl)
theorem dX23_worthOn_17 : decode cX23_worthOn 17 = .ok (.iload_n 1, 1) := dk_27 (dk_at dksX23_worthOn_0 17 rfl rfl)
theorem dX23_worthOn_18 : decode cX23_worthOn 18 = .ok (.invokespecial 13, 3) := dk_183 0 13 (dk_at dksX23_worthOn_0 18 rfl rfl)
theorem dX23_worthOn_21 : decode cX23_worthOn 21 = .ok (.aload_n 0, 1) := dk_42 (dk_at dksX23_worthOn_0 21 rfl rfl)
theorem dX23_worthOn_22 : decode cX23_worthOn 22 = .ok (.iload_n 1, 1) := dk_27 (dk_at dksX23_worthOn_0 22 rfl rfl)
theorem dX23_worthOn_23 : decode cX23_worthOn 23 = .ok (.invokevirtual 17, 3) := dk_182 0 17 (dk_at dksX23_worthOn_1 0 rfl rfl)
theorem dX23_worthOn_26 : decode cX23_worthOn 26 = .ok (.bipush 10, 2) := dk_16 10 (dk_at dksX23_worthOn_1 3 rfl rfl)
theorem dX23_worthOn_28 : decode cX23_worthOn 28 = .ok (.idiv, 1) := dk_108 (dk_at dksX23_worthOn_1 5 rfl rfl)
theorem dX23_worthOn_29 : decode cX23_worthOn 29 = .ok (.iadd, 1) := dk_96 (dk_at dksX23_worthOn_1 6 rfl rfl)
theorem dX23_worthOn_30 : decode cX23_worthOn 30 = .ok (.ireturn, 1) := dk_172 (dk_at dksX23_worthOn_1 7 rfl rfl)
theorem q150 : (Jvm.Cond.initialized "SaltedGate$Wine") ∈ lw_all := lw_g (lw_at lw_m1 31 rfl) rfl
theorem q1028 : (Jvm.Cond.instantiable "SaltedGate$Wine" (8 : Nat)) ∈ lw_all := lw_g (lw_at lw_m4 189 rfl) rfl
theorem q1030 : (Jvm.Cond.instanceMethod ({ cls := "SaltedGate$Wine", name := "<init>", desc := "(Ljava/lang/String;I)V" } : Jvm.MethodName)) ∈ lw_all := lw_g (lw_at lw_m4 191 rfl) rfl
theorem q1031 : (Jvm.Cond.code ({ cls := "SaltedGate$Wine", name := "<init>", desc := "(Ljava/lang/String;I)V" } : Jvm.MethodName) prog_25_method_1_code (3 : Nat) (Option.none : Option Jvm.ClassFile.FieldType)) ∈ lw_all := lw_g (lw_at lw_m4 192 rfl) rfl
theorem q1032 : (Jvm.Cond.methodLink "SaltedGate$Wine" (1 : Nat) ({ cls := "SaltedGate$Kept", name := "<init>", desc := "(Ljava/lang/String;I)V" } : Jvm.MethodName)) ∈ lw_all := lw_g (lw_at lw_m4 193 rfl) rfl
theorem q1033 : (Jvm.Cond.lays "SaltedGate$Wine" "SaltedGate$Kept" "means" "LSaltedGate$Means;") ∈ lw_all := lw_g (lw_at lw_m4 194 rfl) rfl
theorem q1034 : (Jvm.Cond.lays "SaltedGate$Wine" "SaltedGate$Good" "whose" "I") ∈ lw_all := lw_g (lw_at lw_m4 195 rfl) rfl
theorem q1035 : (Jvm.Cond.lays "SaltedGate$Wine" "SaltedGate$Good" "old" "I") ∈ lw_all := lw_g (lw_at lw_m4 196 rfl) rfl
theorem q1036 : (Jvm.Cond.lays "SaltedGate$Wine" "SaltedGate$Good" "weighs" "I") ∈ lw_all := lw_g (lw_at lw_m4 197 rfl) rfl
theorem q1037 : (Jvm.Cond.lays "SaltedGate$Wine" "SaltedGate$Good" "worth" "I") ∈ lw_all := lw_g (lw_at lw_m4 198 rfl) rfl
theorem q1038 : (Jvm.Cond.lays "SaltedGate$Wine" "SaltedGate$Good" "hidden" "Z") ∈ lw_all := lw_g (lw_at lw_m4 199 rfl) rfl
theorem q1039 : (Jvm.Cond.laysFinal "SaltedGate$Wine" "SaltedGate$Named" "name" "Ljava/lang/String;") ∈ lw_all := lw_g (lw_at lw_m4 200 rfl) rfl
theorem q1040 : (Jvm.Cond.laysFinal "SaltedGate$Wine" "SaltedGate$Named" "number" "I") ∈ lw_all := lw_g (lw_at lw_m4 201 rfl) rfl
theorem q1041 : (Jvm.Cond.superclass "SaltedGate$Wine" "SaltedGate$Kept") ∈ lw_all := lw_g (lw_at lw_m4 202 rfl) rfl
theorem q1088 : (Jvm.Cond.selects "SaltedGate$Wine" ({ cls := "SaltedGate$Kept", name := "by", desc := "(LSaltedGate$Means;)LSaltedGate$Kept;" } : Jvm.MethodName) ({ cls := "SaltedGate$Kept", name := "by", desc := "(LSaltedGate$Means;)LSaltedGate$Kept;" } : Jvm.MethodName)) ∈ lw_all := lw_g (lw_at lw_m5 9 rfl) rfl
theorem q1191 : (Jvm.Cond.selects "SaltedGate$Wine" ({ cls := "SaltedGate$Good", name := "age", desc := "(I)I" } : Jvm.MethodName) ({ cls := "SaltedGate$Good", name := "age", desc := "(I)I" } : Jvm.MethodName)) ∈ lw_all := lw_g (lw_at lw_m5 112 rfl) rfl
theorem q1194 : (Jvm.Cond.selects "SaltedGate$Wine" ({ cls := "SaltedGate$Good", name := "smells", desc := "(I)I" } : Jvm.MethodName) ({ cls := "SaltedGate$Good", name := "smells", desc := "(I)I" } : Jvm.MethodName)) ∈ lw_all := lw_g (lw_at lw_m5 115 rfl) rfl
theorem q1204 : (Jvm.Cond.selects "SaltedGate$Wine" ({ cls := "SaltedGate$Good", name := "isFresh", desc := "()Z" } : Jvm.MethodName) ({ cls := "SaltedGate$Good", name := "isFresh", desc := "()Z" } : Jvm.MethodName)) ∈ lw_all := lw_g (lw_at lw_m5 125 rfl) rfl
theorem q1227 : (Jvm.Cond.selects "SaltedGate$Wine" ({ cls := "SaltedGate$Kept", name := "age", desc := "(I)I" } : Jvm.MethodName) ({ cls := "SaltedGate$Good", name := "age", desc := "(I)I" } : Jvm.MethodName)) ∈ lw_all := lw_g (lw_at lw_m5 148 rfl) rfl
theorem q1229 : (Jvm.Cond.selects "SaltedGate$Wine" ({ cls := "SaltedGate$Good", name := "isTurned", desc := "(I)Z" } : Jvm.MethodName) ({ cls := "SaltedGate$Kept", name := "isTurned", desc := "(I)Z" } : Jvm.MethodName)) ∈ lw_all := lw_g (lw_at lw_m5 150 rfl) rfl
theorem q1269 : (Jvm.Cond.selects "SaltedGate$Wine" ({ cls := "SaltedGate$Good", name := "duty", desc := "(ILSaltedGate$Law;)I" } : Jvm.MethodName) ({ cls := "SaltedGate$Kept", name := "duty", desc := "(ILSaltedGate$Law;)I" } : Jvm.MethodName)) ∈ lw_all := lw_g (lw_at lw_m5 190 rfl) rfl
theorem q1302 : (Jvm.Cond.selects "SaltedGate$Wine" ({ cls := "SaltedGate$Good", name := "kind", desc := "()I" } : Jvm.MethodName) ({ cls := "SaltedGate$Wine", name := "kind", desc := "()I" } : Jvm.MethodName)) ∈ lw_all := lw_g (lw_at lw_m5 223 rfl) rfl
theorem q1303 : (Jvm.Cond.instanceMethod ({ cls := "SaltedGate$Wine", name := "kind", desc := "()I" } : Jvm.MethodName)) ∈ lw_all := lw_g (lw_at lw_m5 224 rfl) rfl
theorem q1304 : (Jvm.Cond.code ({ cls := "SaltedGate$Wine", name := "kind", desc := "()I" } : Jvm.MethodName) prog_25_method_2_code (1 : Nat) (Option.some Jvm.ClassFile.FieldType.int)) ∈ lw_all := lw_g (lw_at lw_m5 225 rfl) rfl
theorem q1314 : (Jvm.Cond.selects "SaltedGate$Wine" ({ cls := "SaltedGate$Good", name := "means", desc := "()LSaltedGate$Means;" } : Jvm.MethodName) ({ cls := "SaltedGate$Kept", name := "means", desc := "()LSaltedGate$Means;" } : Jvm.MethodName)) ∈ lw_all := lw_g (lw_at lw_m5 235 rfl) rfl
theorem q1362 : (Jvm.Cond.selects "SaltedGate$Wine" ({ cls := "SaltedGate$Good", name := "worthOn", desc := "(I)I" } : Jvm.MethodName) ({ cls := "SaltedGate$Wine", name := "worthOn", desc := "(I)I" } : Jvm.MethodName)) ∈ lw_all := lw_g (lw_at lw_m6 43 rfl) rfl
theorem q1363 : (Jvm.Cond.instanceMethod ({ cls := "SaltedGate$Wine", name := "worthOn", desc := "(I)I" } : Jvm.MethodName)) ∈ lw_all := lw_g (lw_at lw_m6 44 rfl) rfl
theorem q1364 : (Jvm.Cond.code ({ cls := "SaltedGate$Wine", name := "worthOn", desc := "(I)I" } : Jvm.MethodName) prog_25_method_3_code (2 : Nat) (Option.some Jvm.ClassFile.FieldType.int)) ∈ lw_all := lw_g (lw_at lw_m6 45 rfl) rfl
theorem q1365 : (Jvm.Cond.methodLink "SaltedGate$Wine" (7 : Nat) ({ cls := "SaltedGate$Wine", name := "isTurned", desc := "(I)Z" } : Jvm.MethodName)) ∈ lw_all := lw_g (lw_at lw_m6 46 rfl) rfl
theorem q1366 : (Jvm.Cond.sameMethod "SaltedGate$Wine" "SaltedGate$Kept" "isTurned" "(I)Z") ∈ lw_all := lw_g (lw_at lw_m6 47 rfl) rfl
theorem q1368 : (Jvm.Cond.selects "SaltedGate$Wine" ({ cls := "SaltedGate$Wine", name := "isTurned", desc := "(I)Z" } : Jvm.MethodName) ({ cls := "SaltedGate$Kept", name := "isTurned", desc := "(I)Z" } : Jvm.MethodName)) ∈ lw_all := lw_g (lw_at lw_m6 49 rfl) rfl
theorem q1369 : (Jvm.Cond.methodLink "SaltedGate$Wine" (13 : Nat) ({ cls := "SaltedGate$Kept", name := "worthOn", desc := "(I)I" } : Jvm.MethodName)) ∈ lw_all := lw_g (lw_at lw_m6 50 rfl) rfl
theorem q1374 : (Jvm.Cond.methodLink "SaltedGate$Wine" (17 : Nat) ({ cls := "SaltedGate$Wine", name := "age", desc := "(I)I" } : Jvm.MethodName)) ∈ lw_all := lw_g (lw_at lw_m6 55 rfl) rfl
theorem q1375 : (Jvm.Cond.sameMethod "SaltedGate$Wine" "SaltedGate$Good" "age" "(I)I") ∈ lw_all := lw_g (lw_at lw_m6 56 rfl) rfl
theorem q1376 : (Jvm.Cond.selects "SaltedGate$Wine" ({ cls := "SaltedGate$Wine", name := "age", desc := "(I)I" } : Jvm.MethodName) ({ cls := "SaltedGate$Good", name := "age", desc := "(I)I" } : Jvm.MethodName)) ∈ lw_all := lw_g (lw_at lw_m6 57 rfl) rfl
theorem q1554 : (Jvm.Cond.selects "SaltedGate$Wine" ({ cls := "SaltedGate$Good", name := "gain", desc := "(ILSaltedGate$Law;)I" } : Jvm.MethodName) ({ cls := "SaltedGate$Kept", name := "gain", desc := "(ILSaltedGate$Law;)I" } : Jvm.MethodName)) ∈ lw_all := lw_g (lw_at lw_m6 235 rfl) rfl
theorem q2549 : (Jvm.Cond.selects "SaltedGate$Wine" ({ cls := "SaltedGate$Kept", name := "isTurned", desc := "(I)Z" } : Jvm.MethodName) ({ cls := "SaltedGate$Kept", name := "isTurned", desc := "(I)Z" } : Jvm.MethodName)) ∈ lw_all := lw_g (lw_at lw_m11 30 rfl) rfl
theorem q2554 : (Jvm.Cond.selects "SaltedGate$Wine" ({ cls := "SaltedGate$Kept", name := "duty", desc := "(ILSaltedGate$Law;)I" } : Jvm.MethodName) ({ cls := "SaltedGate$Kept", name := "duty", desc := "(ILSaltedGate$Law;)I" } : Jvm.MethodName)) ∈ lw_all := lw_g (lw_at lw_m11 35 rfl) rfl
theorem q2559 : (Jvm.Cond.castable "SaltedGate$Wine" "SaltedGate$Good") ∈ lw_tbl := lw_at lw_m11 40 rfl
theorem q2579 : (Jvm.Cond.castable "SaltedGate$Wine" "java/lang/Object") ∈ lw_tbl := lw_at lw_m11 60 rfl
theorem in_X23 : ∀ w ∈ wsX230, w ∈ lw_all := lw_in wsX230 [1034, 1035, 1036, 1037, 1038, 1039, 1040, 1033] (by decide +kernel) (by decide +kernel)

/-! SaltedGate$Old -/
set_option maxRecDepth 100000
def RX24 : String := "SaltedGate$Old"
def TX24 : u_T := fun k => match k with
  | 0 => ("SaltedGate$Good", "whose", "I", false)
  | 1 => ("SaltedGate$Good", "old", "I", false)
  | 2 => ("SaltedGate$Good", "weighs", "I", false)
  | 3 => ("SaltedGate$Good", "worth", "I", false)
  | 4 => ("SaltedGate$Good", "hidden", "Z", false)
  | 5 => ("SaltedGate$Named", "name", "Ljava/lang/String;", true)
  | 6 => ("SaltedGate$Named", "number", "I", true)
  | _ => ("SaltedGate$Kept", "means", "LSaltedGate$Means;", false)
def tyX24 : Nat → FieldType := fun k => match k with
  | 0 => .int
  | 1 => .int
  | 2 => .int
  | 3 => .int
  | 4 => .boolean
  | 5 => .object "java/lang/String"
  | 6 => .int
  | _ => .object "SaltedGate$Means"
abbrev wsX240 : List Cond := u_ws RX24 TX24 8
theorem nmX24 : ∀ a, a < 8 → ∀ b, b < 8 → a ≠ b → (TX24 a).2.1 ≠ (TX24 b).2.1 := by decide +kernel
theorem tyX24_ok : ∀ k, k < 8 → parseFieldDescriptor (TX24 k).2.2.1 = some (tyX24 k) := by decide +kernel
abbrev cX24_init : ByteArray := prog_18_method_1_code
def yX24_init : MethodName := ⟨RX24, "<init>", "(Ljava/lang/String;I)V"⟩
def dkwX24_init_0 : List UInt8 := [42, 43, 28, 183, 0, 1, 177]
abbrev dktX24_init_0 : List UInt8 := dkwX24_init_0 ++ []
theorem dksX24_init_0 : cX24_init.data.toList.drop 0 = dktX24_init_0 := by decide +kernel
theorem dX24_init_0 : decode cX24_init 0 = .ok (.aload_n 0, 1) := dk_42 (dk_at dksX24_init_0 0 rfl rfl)
theorem dX24_init_1 : decode cX24_init 1 = .ok (.aload_n 1, 1) := dk_43 (dk_at dksX24_init_0 1 rfl rfl)
theorem dX24_init_2 : decode cX24_init 2 = .ok (.iload_n 2, 1) := dk_28 (dk_at dksX24_init_0 2 rfl rfl)
theorem dX24_init_3 : decode cX24_init 3 = .ok (.invokespecial 1, 3) := dk_183 0 1 (dk_at dksX24_init_0 3 rfl rfl)
theorem dX24_init_6 : decode cX24_init 6 = .ok (.return_, 1) := dk_177 (dk_at dksX24_init_0 6 rfl rfl)
abbrev cX24_smells : ByteArray := prog_18_method_3_code
def yX24_smells : MethodName := ⟨RX24, "smells", "(I)I"⟩
def dkwX24_smells_0 : List UInt8 := [5, 42, 27, 183, 0, 7, 104, 172]
abbrev dktX24_smells_0 : List UInt8 := dkwX24_smells_0 ++ []
theorem dksX24_smells_0 : cX24_smells.data.toList.drop 0 = dktX24_smells_0 := by decide +kernel
theorem dX24_smells_0 : decode cX24_smells 0 = .ok (.iconst 2, 1) := dk_5 (dk_at dksX24_smells_0 0 rfl rfl)
theorem dX24_smells_1 : decode cX24_smells 1 = .ok (.aload_n 0, 1) := dk_42 (dk_at dksX24_smells_0 1 rfl rfl)
theorem dX24_smells_2 : decode cX24_smells 2 = .ok (.iload_n 1, 1) := dk_27 (dk_at dksX24_smells_0 2 rfl rfl)
theorem dX24_smells_3 : decode cX24_smells 3 = .ok (.invokespecial 7, 3) := dk_183 0 7 (dk_at dksX24_smells_0 3 rfl rfl)
theorem dX24_smells_6 : decode cX24_smells 6 = .ok (.imul, 1) := dk_104 (dk_at dksX24_smells_0 6 rfl rfl)
theorem dX24_smells_7 : decode cX24_smells 7 = .ok (.ireturn, 1) := dk_172 (dk_at dksX24_smells_0 7 rfl rfl)
abbrev cX24_kind : ByteArray := prog_18_method_2_code
def yX24_kind : MethodName := ⟨RX24, "kind", "()I"⟩
theorem dX24_kind_0 : decode cX24_kind 0 = .ok (.iconst 3, 1) := by decide +kernel
theorem dX24_kind_1 : decode cX24_kind 1 = .ok (.ireturn, 1) := by decide +kernel
theorem q151 : (Jvm.Cond.initialized "SaltedGate$Old") ∈ lw_all := lw_g (lw_at lw_m1 32 rfl) rfl
theorem q1044 : (Jvm.Cond.instantiable "SaltedGate$Old" (8 : Nat)) ∈ lw_all := lw_g (lw_at lw_m4 205 rfl) rfl
theorem q1046 : (Jvm.Cond.instanceMethod ({ cls := "SaltedGate$Old", name := "<init>", desc := "(Ljava/lang/String;I)V" } : Jvm.MethodName)) ∈ lw_all := lw_g (lw_at lw_m4 207 rfl) rfl
theorem q1047 : (Jvm.Cond.code ({ cls := "SaltedGate$Old", name := "<init>", desc := "(Ljava/lang/String;I)V" } : Jvm.MethodName) prog_18_method_1_code (3 : Nat) (Option.none : Option Jvm.ClassFile.FieldType)) ∈ lw_all := lw_g (lw_at lw_m4 208 rfl) rfl
theorem q1048 : (Jvm.Cond.methodLink "SaltedGate$Old" (1 : Nat) ({ cls := "SaltedGate$Kept", name := "<init>", desc := "(Ljava/lang/String;I)V" } : Jvm.MethodName)) ∈ lw_all := lw_g (lw_at lw_m4 209 rfl) rfl
theorem q1049 : (Jvm.Cond.lays "SaltedGate$Old" "SaltedGate$Kept" "means" "LSaltedGate$Means;") ∈ lw_all := lw_g (lw_at lw_m4 210 rfl) rfl
theorem q1050 : (Jvm.Cond.lays "SaltedGate$Old" "SaltedGate$Good" "whose" "I") ∈ lw_all := lw_g (lw_at lw_m4 211 rfl) rfl
theorem q1051 : (Jvm.Cond.lays "SaltedGate$Old" "SaltedGate$Good" "old" "I") ∈ lw_all := lw_g (lw_at lw_m4 212 rfl) rfl
theorem q1052 : (Jvm.Cond.lays "SaltedGate$Old" "SaltedGate$Good" "weighs" "I") ∈ lw_all := lw_g (lw_at lw_m4 213 rfl) rfl
theorem q1053 : (Jvm.Cond.lays "SaltedGate$Old" "SaltedGate$Good" "worth" "I") ∈ lw_all := lw_g (lw_at lw_m4 214 rfl) rfl
theorem q1054 : (Jvm.Cond.lays "SaltedGate$Old" "SaltedGate$Good" "hidden" "Z") ∈ lw_all := lw_g (lw_at lw_m4 215 rfl) rfl
theorem q1055 : (Jvm.Cond.laysFinal "SaltedGate$Old" "SaltedGate$Named" "name" "Ljava/lang/String;") ∈ lw_all := lw_g (lw_at lw_m4 216 rfl) rfl
theorem q1056 : (Jvm.Cond.laysFinal "SaltedGate$Old" "SaltedGate$Named" "number" "I") ∈ lw_all := lw_g (lw_at lw_m4 217 rfl) rfl
theorem q1057 : (Jvm.Cond.superclass "SaltedGate$Old" "SaltedGate$Kept") ∈ lw_all := lw_g (lw_at lw_m4 218 rfl) rfl
theorem q1086 : (Jvm.Cond.selects "SaltedGate$Old" ({ cls := "SaltedGate$Kept", name := "by", desc := "(LSaltedGate$Means;)LSaltedGate$Kept;" } : Jvm.MethodName) ({ cls := "SaltedGate$Kept", name := "by", desc := "(LSaltedGate$Means;)LSaltedGate$Kept;" } : Jvm.MethodName)) ∈ lw_all := lw_g (lw_at lw_m5 7 rfl) rfl
theorem q1176 : (Jvm.Cond.selects "SaltedGate$Old" ({ cls := "SaltedGate$Good", name := "smells", desc := "(I)I" } : Jvm.MethodName) ({ cls := "SaltedGate$Old", name := "smells", desc := "(I)I" } : Jvm.MethodName)) ∈ lw_all := lw_g (lw_at lw_m5 97 rfl) rfl
theorem q1177 : (Jvm.Cond.instanceMethod ({ cls := "SaltedGate$Old", name := "smells", desc := "(I)I" } : Jvm.MethodName)) ∈ lw_all := lw_g (lw_at lw_m5 98 rfl) rfl
theorem q1178 : (Jvm.Cond.code ({ cls := "SaltedGate$Old", name := "smells", desc := "(I)I" } : Jvm.MethodName) prog_18_method_3_code (2 : Nat) (Option.some Jvm.ClassFile.FieldType.int)) ∈ lw_all := lw_g (lw_at lw_m5 99 rfl) rfl
theorem q1179 : (Jvm.Cond.methodLink "SaltedGate$Old" (7 : Nat) ({ cls := "SaltedGate$Kept", name := "smells", desc := "(I)I" } : Jvm.MethodName)) ∈ lw_all := lw_g (lw_at lw_m5 100 rfl) rfl
theorem q1189 : (Jvm.Cond.selects "SaltedGate$Old" ({ cls := "SaltedGate$Good", name := "age", desc := "(I)I" } : Jvm.MethodName) ({ cls := "SaltedGate$Good", name := "age", desc := "(I)I" } : Jvm.MethodName)) ∈ lw_all := lw_g (lw_at lw_m5 110 rfl) rfl
theorem q1202 : (Jvm.Cond.selects "SaltedGate$Old" ({ cls := "SaltedGate$Good", name := "isFresh", desc := "()Z" } : Jvm.MethodName) ({ cls := "SaltedGate$Good", name := "isFresh", desc := "()Z" } : Jvm.MethodName)) ∈ lw_all := lw_g (lw_at lw_m5 123 rfl) rfl
theorem q1219 : (Jvm.Cond.selects "SaltedGate$Old" ({ cls := "SaltedGate$Good", name := "isTurned", desc := "(I)Z" } : Jvm.MethodName) ({ cls := "SaltedGate$Kept", name := "isTurned", desc := "(I)Z" } : Jvm.MethodName)) ∈ lw_all := lw_g (lw_at lw_m5 140 rfl) rfl
theorem q1225 : (Jvm.Cond.selects "SaltedGate$Old" ({ cls := "SaltedGate$Kept", name := "age", desc := "(I)I" } : Jvm.MethodName) ({ cls := "SaltedGate$Good", name := "age", desc := "(I)I" } : Jvm.MethodName)) ∈ lw_all := lw_g (lw_at lw_m5 146 rfl) rfl
theorem q1267 : (Jvm.Cond.selects "SaltedGate$Old" ({ cls := "SaltedGate$Good", name := "duty", desc := "(ILSaltedGate$Law;)I" } : Jvm.MethodName) ({ cls := "SaltedGate$Kept", name := "duty", desc := "(ILSaltedGate$Law;)I" } : Jvm.MethodName)) ∈ lw_all := lw_g (lw_at lw_m5 188 rfl) rfl
theorem q1296 : (Jvm.Cond.selects "SaltedGate$Old" ({ cls := "SaltedGate$Good", name := "kind", desc := "()I" } : Jvm.MethodName) ({ cls := "SaltedGate$Old", name := "kind", desc := "()I" } : Jvm.MethodName)) ∈ lw_all := lw_g (lw_at lw_m5 217 rfl) rfl
theorem q1297 : (Jvm.Cond.instanceMethod ({ cls := "SaltedGate$Old", name := "kind", desc := "()I" } : Jvm.MethodName)) ∈ lw_all := lw_g (lw_at lw_m5 218 rfl) rfl
theorem q1298 : (Jvm.Cond.code ({ cls := "SaltedGate$Old", name := "kind", desc := "()I" } : Jvm.MethodName) prog_18_method_2_code (1 : Nat) (Option.some Jvm.ClassFile.FieldType.int)) ∈ lw_all := lw_g (lw_at lw_m5 219 rfl) rfl
theorem q1312 : (Jvm.Cond.selects "SaltedGate$Old" ({ cls := "SaltedGate$Good", name := "means", desc := "()LSaltedGate$Means;" } : Jvm.MethodName) ({ cls := "SaltedGate$Kept", name := "means", desc := "()LSaltedGate$Means;" } : Jvm.MethodName)) ∈ lw_all := lw_g (lw_at lw_m5 233 rfl) rfl
theorem q1360 : (Jvm.Cond.selects "SaltedGate$Old" ({ cls := "SaltedGate$Good", name := "worthOn", desc := "(I)I" } : Jvm.MethodName) ({ cls := "SaltedGate$Good", name := "worthOn", desc := "(I)I" } : Jvm.MethodName)) ∈ lw_all := lw_g (lw_at lw_m6 41 rfl) rfl
theorem q1552 : (Jvm.Cond.selects "SaltedGate$Old" ({ cls := "SaltedGate$Good", name := "gain", desc := "(ILSaltedGate$Law;)I" } : Jvm.MethodName) ({ cls := "SaltedGate$Kept", name := "gain", desc := "(ILSaltedGate$Law;)I" } : Jvm.MethodName)) ∈ lw_all := lw_g (lw_at lw_m6 233 rfl) rfl
theorem q2547 : (Jvm.Cond.selects "SaltedGate$Old" ({ cls := "SaltedGate$Kept", name := "isTurned", desc := "(I)Z" } : Jvm.MethodName) ({ cls := "SaltedGate$Kept", name := "isTurned", desc := "(I)Z" } : Jvm.MethodName)) ∈ lw_all := lw_g (lw_at lw_m11 28 rfl) rfl
theorem q2552 : (Jvm.Cond.selects "SaltedGate$Old" ({ cls := "SaltedGate$Kept", name := "duty", desc := "(ILSaltedGate$Law;)I" } : Jvm.MethodName) ({ cls := "SaltedGate$Kept", name := "duty", desc := "(ILSaltedGate$Law;)I" } : Jvm.MethodName)) ∈ lw_all := lw_g (lw_at lw_m11 33 rfl) rfl
theorem q2557 : (Jvm.Cond.castable "SaltedGate$Old" "SaltedGate$Good") ∈ lw_tbl := lw_at lw_m11 38 rfl
theorem q2580 : (Jvm.Cond.castable "SaltedGate$Old" "java/lang/Object") ∈ lw_tbl := lw_at lw_m11 61 rfl
theorem in_X24 : ∀ w ∈ wsX240, w ∈ lw_all := lw_in wsX240 [1050, 1051, 1052, 1053, 1054, 1055, 1056, 1049] (by decide +kernel) (by decide +kernel)

/-! SaltedGate$Oath -/
set_option maxRecDepth 100000
def RX25 : String := "SaltedGate$Oath"
def TX25 : u_T := fun k => match k with
  | 0 => ("SaltedGate$Good", "whose", "I", false)
  | 1 => ("SaltedGate$Good", "old", "I", false)
  | 2 => ("SaltedGate$Good", "weighs", "I", false)
  | 3 => ("SaltedGate$Good", "worth", "I", false)
  | 4 => ("SaltedGate$Good", "hidden", "Z", false)
  | 5 => ("SaltedGate$Named", "name", "Ljava/lang/String;", true)
  | 6 => ("SaltedGate$Named", "number", "I", true)
  | _ => ("SaltedGate$Kept", "means", "LSaltedGate$Means;", false)
def tyX25 : Nat → FieldType := fun k => match k with
  | 0 => .int
  | 1 => .int
  | 2 => .int
  | 3 => .int
  | 4 => .boolean
  | 5 => .object "java/lang/String"
  | 6 => .int
  | _ => .object "SaltedGate$Means"
abbrev wsX250 : List Cond := u_ws RX25 TX25 8
theorem nmX25 : ∀ a, a < 8 → ∀ b, b < 8 → a ≠ b → (TX25 a).2.1 ≠ (TX25 b).2.1 := by decide +kernel
theorem tyX25_ok : ∀ k, k < 8 → parseFieldDescriptor (TX25 k).2.2.1 = some (tyX25 k) := by decide +kernel
abbrev cX25_init : ByteArray := prog_17_method_1_code
def yX25_init : MethodName := ⟨RX25, "<init>", "(Ljava/lang/String;I)V"⟩
def dkwX25_init_0 : List UInt8 := [42, 43, 28, 183, 0, 1, 177]
abbrev dktX25_init_0 : List UInt8 := dkwX25_init_0 ++ []
theorem dksX25_init_0 : cX25_init.data.toList.drop 0 = dktX25_init_0 := by decide +kernel
theorem dX25_init_0 : decode cX25_init 0 = .ok (.aload_n 0, 1) := dk_42 (dk_at dksX25_init_0 0 rfl rfl)
theorem dX25_init_1 : decode cX25_init 1 = .ok (.aload_n 1, 1) := dk_43 (dk_at dksX25_init_0 1 rfl rfl)
theorem dX25_init_2 : decode cX25_init 2 = .ok (.iload_n 2, 1) := dk_28 (dk_at dksX25_init_0 2 rfl rfl)
theorem dX25_init_3 : decode cX25_init 3 = .ok (.invokespecial 1, 3) := dk_183 0 1 (dk_at dksX25_init_0 3 rfl rfl)
theorem dX25_init_6 : decode cX25_init 6 = .ok (.return_, 1) := dk_177 (dk_at dksX25_init_0 6 rfl rfl)
abbrev cX25_isTurned : ByteArray := prog_17_method_3_code
def yX25_isTurned : MethodName := ⟨RX25, "isTurned", "(I)Z"⟩
theorem dX25_isTurned_0 : decode cX25_isTurned 0 = .ok (.iconst 0, 1) := by decide +kernel
theorem dX25_isTurned_1 : decode cX25_isTurned 1 = .ok (.ireturn, 1) := by decide +kernel
abbrev cX25_kind : ByteArray := prog_17_method_2_code
def yX25_kind : MethodName := ⟨RX25, "kind", "()I"⟩
theorem dX25_kind_0 : decode cX25_kind 0 = .ok (.iconst 4, 1) := by decide +kernel
theorem dX25_kind_1 : decode cX25_kind 1 = .ok (.ireturn, 1) := by decide +kernel
theorem q152 : (Jvm.Cond.initialized "SaltedGate$Oath") ∈ lw_all := lw_g (lw_at lw_m1 33 rfl) rfl
theorem q1060 : (Jvm.Cond.instantiable "SaltedGate$Oath" (8 : Nat)) ∈ lw_all := lw_g (lw_at lw_m4 221 rfl) rfl
theorem q1062 : (Jvm.Cond.instanceMethod ({ cls := "SaltedGate$Oath", name := "<init>", desc := "(Ljava/lang/String;I)V" } : Jvm.MethodName)) ∈ lw_all := lw_g (lw_at lw_m4 223 rfl) rfl
theorem q1063 : (Jvm.Cond.code ({ cls := "SaltedGate$Oath", name := "<init>", desc := "(Ljava/lang/String;I)V" } : Jvm.MethodName) prog_17_method_1_code (3 : Nat) (Option.none : Option Jvm.ClassFile.FieldType)) ∈ lw_all := lw_g (lw_at lw_m4 224 rfl) rfl
theorem q1064 : (Jvm.Cond.methodLink "SaltedGate$Oath" (1 : Nat) ({ cls := "SaltedGate$Kept", name := "<init>", desc := "(Ljava/lang/String;I)V" } : Jvm.MethodName)) ∈ lw_all := lw_g (lw_at lw_m4 225 rfl) rfl
theorem q1065 : (Jvm.Cond.lays "SaltedGate$Oath" "SaltedGate$Kept" "means" "LSaltedGate$Means;") ∈ lw_all := lw_g (lw_at lw_m4 226 rfl) rfl
theorem q1066 : (Jvm.Cond.lays "SaltedGate$Oath" "SaltedGate$Good" "whose" "I") ∈ lw_all := lw_g (lw_at lw_m4 227 rfl) rfl
theorem q1067 : (Jvm.Cond.lays "SaltedGate$Oath" "SaltedGate$Good" "old" "I") ∈ lw_all := lw_g (lw_at lw_m4 228 rfl) rfl
theorem q1068 : (Jvm.Cond.lays "SaltedGate$Oath" "SaltedGate$Good" "weighs" "I") ∈ lw_all := lw_g (lw_at lw_m4 229 rfl) rfl
theorem q1069 : (Jvm.Cond.lays "SaltedGate$Oath" "SaltedGate$Good" "worth" "I") ∈ lw_all := lw_g (lw_at lw_m4 230 rfl) rfl
theorem q1070 : (Jvm.Cond.lays "SaltedGate$Oath" "SaltedGate$Good" "hidden" "Z") ∈ lw_all := lw_g (lw_at lw_m4 231 rfl) rfl
theorem q1071 : (Jvm.Cond.laysFinal "SaltedGate$Oath" "SaltedGate$Named" "name" "Ljava/lang/String;") ∈ lw_all := lw_g (lw_at lw_m4 232 rfl) rfl
theorem q1072 : (Jvm.Cond.laysFinal "SaltedGate$Oath" "SaltedGate$Named" "number" "I") ∈ lw_all := lw_g (lw_at lw_m4 233 rfl) rfl
theorem q1073 : (Jvm.Cond.superclass "SaltedGate$Oath" "SaltedGate$Kept") ∈ lw_all := lw_g (lw_at lw_m4 234 rfl) rfl
theorem q1085 : (Jvm.Cond.selects "SaltedGate$Oath" ({ cls := "SaltedGate$Kept", name := "by", desc := "(LSaltedGate$Means;)LSaltedGate$Kept;" } : Jvm.MethodName) ({ cls := "SaltedGate$Kept", name := "by", desc := "(LSaltedGate$Means;)LSaltedGate$Kept;" } : Jvm.MethodName)) ∈ lw_all := lw_g (lw_at lw_m5 6 rfl) rfl
theorem q1175 : (Jvm.Cond.selects "SaltedGate$Oath" ({ cls := "SaltedGate$Good", name := "smells", desc := "(I)I" } : Jvm.MethodName) ({ cls := "SaltedGate$Good", name := "smells", desc := "(I)I" } : Jvm.MethodName)) ∈ lw_all := lw_g (lw_at lw_m5 96 rfl) rfl
theorem q1188 : (Jvm.Cond.selects "SaltedGate$Oath" ({ cls := "SaltedGate$Good", name := "age", desc := "(I)I" } : Jvm.MethodName) ({ cls := "SaltedGate$Good", name := "age", desc := "(I)I" } : Jvm.MethodName)) ∈ lw_all := lw_g (lw_at lw_m5 109 rfl) rfl
theorem q1201 : (Jvm.Cond.selects "SaltedGate$Oath" ({ cls := "SaltedGate$Good", name := "isFresh", desc := "()Z" } : Jvm.MethodName) ({ cls := "SaltedGate$Good", name := "isFresh", desc := "()Z" } : Jvm.MethodName)) ∈ lw_all := lw_g (lw_at lw_m5 122 rfl) rfl
theorem q1216 : (Jvm.Cond.selects "SaltedGate$Oath" ({ cls := "SaltedGate$Good", name := "isTurned", desc := "(I)Z" } : Jvm.MethodName) ({ cls := "SaltedGate$Oath", name := "isTurned", desc := "(I)Z" } : Jvm.MethodName)) ∈ lw_all := lw_g (lw_at lw_m5 137 rfl) rfl
theorem q1217 : (Jvm.Cond.instanceMethod ({ cls := "SaltedGate$Oath", name := "isTurned", desc := "(I)Z" } : Jvm.MethodName)) ∈ lw_all := lw_g (lw_at lw_m5 138 rfl) rfl
theorem q1218 : (Jvm.Cond.code ({ cls := "SaltedGate$Oath", name := "isTurned", desc := "(I)Z" } : Jvm.MethodName) prog_17_method_3_code (2 : Nat) (Option.some Jvm.ClassFile.FieldType.boolean)) ∈ lw_all := lw_g (lw_at lw_m5 139 rfl) rfl
theorem q1224 : (Jvm.Cond.selects "SaltedGate$Oath" ({ cls := "SaltedGate$Kept", name := "age", desc := "(I)I" } : Jvm.MethodName) ({ cls := "SaltedGate$Good", name := "age", desc := "(I)I" } : Jvm.MethodName)) ∈ lw_all := lw_g (lw_at lw_m5 145 rfl) rfl
theorem q1254 : (Jvm.Cond.selects "SaltedGate$Oath" ({ cls := "SaltedGate$Good", name := "duty", desc := "(ILSaltedGate$Law;)I" } : Jvm.MethodName) ({ cls := "SaltedGate$Kept", name := "duty", desc := "(ILSaltedGate$Law;)I" } : Jvm.MethodName)) ∈ lw_all := lw_g (lw_at lw_m5 175 rfl) rfl
theorem q1293 : (Jvm.Cond.selects "SaltedGate$Oath" ({ cls := "SaltedGate$Good", name := "kind", desc := "()I" } : Jvm.MethodName) ({ cls := "SaltedGate$Oath", name := "kind", desc := "()I" } : Jvm.MethodName)) ∈ lw_all := lw_g (lw_at lw_m5 214 rfl) rfl
theorem q1294 : (Jvm.Cond.instanceMethod ({ cls := "SaltedGate$Oath", name := "kind", desc := "()I" } : Jvm.MethodName)) ∈ lw_all := lw_g (lw_at lw_m5 215 rfl) rfl
theorem q1295 : (Jvm.Cond.code ({ cls := "SaltedGate$Oath", name := "kind", desc := "()I" } : Jvm.MethodName) prog_17_method_2_code (1 : Nat) (Option.some Jvm.ClassFile.FieldType.int)) ∈ lw_all := lw_g (lw_at lw_m5 216 rfl) rfl
theorem q1309 : (Jvm.Cond.selects "SaltedGate$Oath" ({ cls := "SaltedGate$Good", name := "means", desc := "()LSaltedGate$Means;" } : Jvm.MethodName) ({ cls := "SaltedGate$Kept", name := "means", desc := "()LSaltedGate$Means;" } : Jvm.MethodName)) ∈ lw_all := lw_g (lw_at lw_m5 230 rfl) rfl
theorem q1359 : (Jvm.Cond.selects "SaltedGate$Oath" ({ cls := "SaltedGate$Good", name := "worthOn", desc := "(I)I" } : Jvm.MethodName) ({ cls := "SaltedGate$Good", name := "worthOn", desc := "(I)I" } : Jvm.MethodName)) ∈ lw_all := lw_g (lw_at lw_m6 40 rfl) rfl
theorem q1548 : (Jvm.Cond.selects "SaltedGate$Oath" ({ cls := "SaltedGate$Good", name := "gain", desc := "(ILSaltedGate$Law;)I" } : Jvm.MethodName) ({ cls := "SaltedGate$Kept", name := "gain", desc := "(ILSaltedGate$Law;)I" } : Jvm.MethodName)) ∈ lw_all := lw_g (lw_at lw_m6 229 rfl) rfl
theorem q2546 : (Jvm.Cond.selects "SaltedGate$Oath" ({ cls := "SaltedGate$Kept", name := "isTurned", desc := "(I)Z" } : Jvm.MethodName) ({ cls := "SaltedGate$Oath", name := "isTurned", desc := "(I)Z" } : Jvm.MethodName)) ∈ lw_all := lw_g (lw_at lw_m11 27 rfl) rfl
theorem q2551 : (Jvm.Cond.selects "SaltedGate$Oath" ({ cls := "SaltedGate$Kept", name := "duty", desc := "(ILSaltedGate$Law;)I" } : Jvm.MethodName) ({ cls := "SaltedGate$Kept", name := "duty", desc := "(ILSaltedGate$Law;)I" } : Jvm.MethodName)) ∈ lw_all := lw_g (lw_at lw_m11 32 rfl) rfl
theorem q2556 : (Jvm.Cond.castable "SaltedGate$Oath" "SaltedGate$Good") ∈ lw_tbl := lw_at lw_m11 37 rfl
theorem q2581 : (Jvm.Cond.castable "SaltedGate$Oath" "java/lang/Object") ∈ lw_tbl := lw_at lw_m11 62 rfl
theorem in_X25 : ∀ w ∈ wsX250, w ∈ lw_all := lw_in wsX250 [1066, 1067, 1068, 1069, 1070, 1071, 1072, 1065] (by decide +kernel) (by decide +kernel)

/-! SaltedGate$Crossing -/
set_option maxRecDepth 100000
def RX26 : String := "SaltedGate$Crossing"
def TX26 : u_T := fun k => match k with
  | 0 => ("SaltedGate$Crossing", "who", "I", false)
  | 1 => ("SaltedGate$Crossing", "gate", "I", false)
  | 2 => ("SaltedGate$Crossing", "day", "I", false)
  | _ => ("SaltedGate$Crossing", "hour", "I", false)
def tyX26 : Nat → FieldType := fun k => match k with
  | 0 => .int
  | 1 => .int
  | 2 => .int
  | _ => .int
abbrev wsX260 : List Cond := u_ws RX26 TX26 4
theorem nmX26 : ∀ a, a < 4 → ∀ b, b < 4 → a ≠ b → (TX26 a).2.1 ≠ (TX26 b).2.1 := by decide +kernel
theorem tyX26_ok : ∀ k, k < 4 → parseFieldDescriptor (TX26 k).2.2.1 = some (tyX26 k) := by decide +kernel
abbrev cX26_init : ByteArray := prog_5_method_1_code
def yX26_init : MethodName := ⟨RX26, "<init>", "()V"⟩
theorem dX26_init_0 : decode cX26_init 0 = .ok (.aload_n 0, 1) := by decide +kernel
theorem dX26_init_1 : decode cX26_init 1 = .ok (.invokespecial 1, 3) := by decide +kernel
theorem dX26_init_4 : decode cX26_init 4 = .ok (.return_, 1) := by decide +kernel
theorem q153 : (Jvm.Cond.initialized "SaltedGate$Crossing") ∈ lw_all := lw_g (lw_at lw_m1 34 rfl) rfl
theorem q1103 : (Jvm.Cond.instantiable "SaltedGate$Crossing" (4 : Nat)) ∈ lw_all := lw_g (lw_at lw_m5 24 rfl) rfl
theorem q1105 : (Jvm.Cond.instanceMethod ({ cls := "SaltedGate$Crossing", name := "<init>", desc := "()V" } : Jvm.MethodName)) ∈ lw_all := lw_g (lw_at lw_m5 26 rfl) rfl
theorem q1106 : (Jvm.Cond.code ({ cls := "SaltedGate$Crossing", name := "<init>", desc := "()V" } : Jvm.MethodName) prog_5_method_1_code (1 : Nat) (Option.none : Option Jvm.ClassFile.FieldType)) ∈ lw_all := lw_g (lw_at lw_m5 27 rfl) rfl
theorem q1107 : (Jvm.Cond.methodLink "SaltedGate$Crossing" (1 : Nat) ({ cls := "java/lang/Object", name := "<init>", desc := "()V" } : Jvm.MethodName)) ∈ lw_all := lw_g (lw_at lw_m5 28 rfl) rfl
theorem q1116 : (Jvm.Cond.lays "SaltedGate$Crossing" "SaltedGate$Crossing" "who" "I") ∈ lw_all := lw_g (lw_at lw_m5 37 rfl) rfl
theorem q1117 : (Jvm.Cond.soleField "SaltedGate$Crossing" "who") ∈ lw_all := lw_g (lw_at lw_m5 38 rfl) rfl
theorem q1118 : (Jvm.Cond.lays "SaltedGate$Crossing" "SaltedGate$Crossing" "gate" "I") ∈ lw_all := lw_g (lw_at lw_m5 39 rfl) rfl
theorem q1119 : (Jvm.Cond.soleField "SaltedGate$Crossing" "gate") ∈ lw_all := lw_g (lw_at lw_m5 40 rfl) rfl
theorem q1120 : (Jvm.Cond.lays "SaltedGate$Crossing" "SaltedGate$Crossing" "day" "I") ∈ lw_all := lw_g (lw_at lw_m5 41 rfl) rfl
theorem q1121 : (Jvm.Cond.soleField "SaltedGate$Crossing" "day") ∈ lw_all := lw_g (lw_at lw_m5 42 rfl) rfl
theorem q1122 : (Jvm.Cond.lays "SaltedGate$Crossing" "SaltedGate$Crossing" "hour" "I") ∈ lw_all := lw_g (lw_at lw_m5 43 rfl) rfl
theorem q1123 : (Jvm.Cond.soleField "SaltedGate$Crossing" "hour") ∈ lw_all := lw_g (lw_at lw_m5 44 rfl) rfl
theorem q1124 : (Jvm.Cond.superclass "SaltedGate$Crossing" "java/lang/Object") ∈ lw_all := lw_g (lw_at lw_m5 45 rfl) rfl
theorem q2582 : (Jvm.Cond.castable "SaltedGate$Crossing" "java/lang/Object") ∈ lw_tbl := lw_at lw_m11 63 rfl
theorem in_X26 : ∀ w ∈ wsX260, w ∈ lw_all := lw_in wsX260 [1116, 1118, 1120, 1122] (by decide +kernel) (by decide +kernel)
