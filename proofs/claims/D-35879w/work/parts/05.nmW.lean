/-! Wakeground -/
set_option maxRecDepth 100000
def RX1 : String := "Wakeground"
def TX1 : u_T := fun k => match k with
  | 0 => ("Wakeground", "land", "[LWakeground$Cell;", true)
  | 1 => ("Wakeground", "houses", "Ljava/util/ArrayList;", true)
  | 2 => ("Wakeground", "boreholes", "Ljava/util/ArrayList;", true)
  | 3 => ("Wakeground", "claims", "Ljava/util/ArrayList;", true)
  | 4 => ("Wakeground", "gases", "[J", true)
  | 5 => ("Wakeground", "came", "[J", true)
  | 6 => ("Wakeground", "drained", "J", false)
  | 7 => ("Wakeground", "month", "I", false)
  | 8 => ("Wakeground", "isSeen", "[Z", true)
  | _ => ("Wakeground", "piled", "[I", true)
def tyX1 : Nat → FieldType := fun k => match k with
  | 0 => .array (.object "Wakeground$Cell")
  | 1 => .object "java/util/ArrayList"
  | 2 => .object "java/util/ArrayList"
  | 3 => .object "java/util/ArrayList"
  | 4 => .array .long
  | 5 => .array .long
  | 6 => .long
  | 7 => .int
  | 8 => .array .boolean
  | _ => .array .int
abbrev wsX10 : List Cond := u_ws RX1 TX1 10
theorem nmX1 : ∀ a, a < 10 → ∀ b, b < 10 → a ≠ b → (TX1 a).2.1 ≠ (TX1 b).2.1 := by decide +kernel
theorem tyX1_ok : ∀ k, k < 10 → parseFieldDescriptor (TX1 k).2.2.1 = some (tyX1 k) := by decide +kernel
abbrev cX1_init : ByteArray := prog_1_method_1_code
def yX1_init : MethodName := ⟨RX1, "<init>", "()V"⟩
def dkwX1_init_5 : List UInt8 := [180, 0, 32, 27, 42, 27, 182, 0, 46, 80, 132, 1, 1, 167, 255, 233, 177]
abbrev dktX1_init_5 : List UInt8 := dkwX1_init_5 ++ []
def dkwX1_init_4 : List UInt8 := [183, 0, 43, 83, 132, 1, 1, 167, 255, 232, 3, 60, 27, 42, 180, 0, 32, 190, 162, 0, 20, 42]
abbrev dktX1_init_4 : List UInt8 := dkwX1_init_4 ++ dktX1_init_5
def dkwX1_init_3 : List UInt8 := [188, 10, 181, 0, 39, 3, 60, 27, 16, 25, 162, 0, 24, 42, 180, 0, 11, 27, 187, 0, 9, 89, 42, 27]
abbrev dktX1_init_3 : List UInt8 := dkwX1_init_3 ++ dktX1_init_4
def dkwX1_init_2 : List UInt8 := [188, 11, 181, 0, 28, 42, 6, 188, 11, 181, 0, 32, 42, 16, 25, 188, 4, 181, 0, 35, 42, 16, 25]
abbrev dktX1_init_2 : List UInt8 := dkwX1_init_2 ++ dktX1_init_3
def dkwX1_init_1 : List UInt8 := [42, 187, 0, 15, 89, 183, 0, 17, 181, 0, 22, 42, 187, 0, 15, 89, 183, 0, 17, 181, 0, 25, 42, 5]
abbrev dktX1_init_1 : List UInt8 := dkwX1_init_1 ++ dktX1_init_2
def dkwX1_init_0 : List UInt8 := [42, 183, 0, 3, 42, 16, 25, 189, 0, 9, 181, 0, 11, 42, 187, 0, 15, 89, 183, 0, 17, 181, 0, 18]
abbrev dktX1_init_0 : List UInt8 := dkwX1_init_0 ++ dktX1_init_1
theorem dksX1_init_0 : cX1_init.data.toList.drop 0 = dktX1_init_0 := by decide +kernel
theorem dksX1_init_1 : cX1_init.data.toList.drop 24 = dktX1_init_1 := dk_seg dksX1_init_0 24 rfl rfl
theorem dksX1_init_2 : cX1_init.data.toList.drop 48 = dktX1_init_2 := dk_seg dksX1_init_1 24 rfl rfl
theorem dksX1_init_3 : cX1_init.data.toList.drop 71 = dktX1_init_3 := dk_seg dksX1_init_2 23 rfl rfl
theorem dksX1_init_4 : cX1_init.data.toList.drop 95 = dktX1_init_4 := dk_seg dksX1_init_3 24 rfl rfl
theorem dksX1_init_5 : cX1_init.data.toList.drop 117 = dktX1_init_5 := dk_seg dksX1_init_4 22 rfl rfl
theorem dX1_init_0 : decode cX1_init 0 = .ok (.aload_n 0, 1) := dk_42 (dk_at dksX1_init_0 0 rfl rfl)
theorem dX1_init_1 : decode cX1_init 1 = .ok (.invokespecial 3, 3) := dk_183 0 3 (dk_at dksX1_init_0 1 rfl rfl)
theorem dX1_init_4 : decode cX1_init 4 = .ok (.aload_n 0, 1) := dk_42 (dk_at dksX1_init_0 4 rfl rfl)
theorem dX1_init_5 : decode cX1_init 5 = .ok (.bipush 25, 2) := dk_16 25 (dk_at dksX1_init_0 5 rfl rfl)
theorem dX1_init_7 : decode cX1_init 7 = .ok (.anewarray 9, 3) := dk_189 0 9 (dk_at dksX1_init_0 7 rfl rfl)
theorem dX1_init_10 : decode cX1_init 10 = .ok (.putfield 11, 3) := dk_181 0 11 (dk_at dksX1_init_0 10 rfl rfl)
theorem dX1_init_13 : decode cX1_init 13 = .ok (.aload_n 0, 1) := dk_42 (dk_at dksX1_init_0 13 rfl rfl)
theorem dX1_init_14 : decode cX1_init 14 = .ok (.new 15, 3) := dk_187 0 15 (dk_at dksX1_init_0 14 rfl rfl)
theorem dX1_init_17 : decode cX1_init 17 = .ok (.dup, 1) := dk_89 (dk_at dksX1_init_0 17 rfl rfl)
theorem dX1_init_18 : decode cX1_init 18 = .ok (.invokespecial 17, 3) := dk_183 0 17 (dk_at dksX1_init_0 18 rfl rfl)
theorem dX1_init_21 : decode cX1_init 21 = .ok (.putfield 18, 3) := dk_181 0 18 (dk_at dksX1_init_0 21 rfl rfl)
theorem dX1_init_24 : decode cX1_init 24 = .ok (.aload_n 0, 1) := dk_42 (dk_at dksX1_init_1 0 rfl rfl)
theorem dX1_init_25 : decode cX1_init 25 = .ok (.new 15, 3) := dk_187 0 15 (dk_at dksX1_init_1 1 rfl rfl)
theorem dX1_init_28 : decode cX1_init 28 = .ok (.dup, 1) := dk_89 (dk_at dksX1_init_1 4 rfl rfl)
theorem dX1_init_29 : decode cX1_init 29 = .ok (.invokespecial 17, 3) := dk_183 0 17 (dk_at dksX1_init_1 5 rfl rfl)
theorem dX1_init_32 : decode cX1_init 32 = .ok (.putfield 22, 3) := dk_181 0 22 (dk_at dksX1_init_1 8 rfl rfl)
theorem dX1_init_35 : decode cX1_init 35 = .ok (.aload_n 0, 1) := dk_42 (dk_at dksX1_init_1 11 rfl rfl)
theorem dX1_init_36 : decode cX1_init 36 = .ok (.new 15, 3) := dk_187 0 15 (dk_at dksX1_init_1 12 rfl rfl)
theorem dX1_init_39 : decode cX1_init 39 = .ok (.dup, 1) := dk_89 (dk_at dksX1_init_1 15 rfl rfl)
theorem dX1_init_40 : decode cX1_init 40 = .ok (.invokespecial 17, 3) := dk_183 0 17 (dk_at dksX1_init_1 16 rfl rfl)
theorem dX1_init_43 : decode cX1_init 43 = .ok (.putfield 25, 3) := dk_181 0 25 (dk_at dksX1_init_1 19 rfl rfl)
theorem dX1_init_46 : decode cX1_init 46 = .ok (.aload_n 0, 1) := dk_42 (dk_at dksX1_init_1 22 rfl rfl)
theorem dX1_init_47 : decode cX1_init 47 = .ok (.iconst 2, 1) := dk_5 (dk_at dksX1_init_1 23 rfl rfl)
theorem dX1_init_48 : decode cX1_init 48 = .ok (.newarray .long, 2) := dk_188_11 (dk_at dksX1_init_2 0 rfl rfl)
theorem dX1_init_50 : decode cX1_init 50 = .ok (.putfield 28, 3) := dk_181 0 28 (dk_at dksX1_init_2 2 rfl rfl)
theorem dX1_init_53 : decode cX1_init 53 = .ok (.aload_n 0, 1) := dk_42 (dk_at dksX1_init_2 5 rfl rfl)
theorem dX1_init_54 : decode cX1_init 54 = .ok (.iconst 3, 1) := dk_6 (dk_at dksX1_init_2 6 rfl rfl)
theorem dX1_init_55 : decode cX1_init 55 = .ok (.newarray .long, 2) := dk_188_11 (dk_at dksX1_init_2 7 rfl rfl)
theorem dX1_init_57 : decode cX1_init 57 = .ok (.putfield 32, 3) := dk_181 0 32 (dk_at dksX1_init_2 9 rfl rfl)
theorem dX1_init_60 : decode cX1_init 60 = .ok (.aload_n 0, 1) := dk_42 (dk_at dksX1_init_2 12 rfl rfl)
theorem dX1_init_61 : decode cX1_init 61 = .ok (.bipush 25, 2) := dk_16 25 (dk_at dksX1_init_2 13 rfl rfl)
theorem dX1_init_63 : decode cX1_init 63 = .ok (.newarray .boolean, 2) := dk_188_4 (dk_at dksX1_init_2 15 rfl rfl)
theorem dX1_init_65 : decode cX1_init 65 = .ok (.putfield 35, 3) := dk_181 0 35 (dk_at dksX1_init_2 17 rfl rfl)
theorem dX1_init_68 : decode cX1_init 68 = .ok (.aload_n 0, 1) := dk_42 (dk_at dksX1_init_2 20 rfl rfl)
theorem dX1_init_69 : decode cX1_init 69 = .ok (.bipush 25, 2) := dk_16 25 (dk_at dksX1_init_2 21 rfl rfl)
theorem dX1_init_71 : decode cX1_init 71 = .ok (.newarray .int, 2) := dk_188_10 (dk_at dksX1_init_3 0 rfl rfl)
theorem dX1_init_73 : decode cX1_init 73 = .ok (.putfield 39, 3) := dk_181 0 39 (dk_at dksX1_init_3 2 rfl rfl)
theorem dX1_init_76 : decode cX1_init 76 = .ok (.iconst 0, 1) := dk_3 (dk_at dksX1_init_3 5 rfl rfl)
theorem dX1_init_77 : decode cX1_init 77 = .ok (.istore_n 1, 1) := dk_60 (dk_at dksX1_init_3 6 rfl rfl)
theorem dX1_init_78 : decode cX1_init 78 = .ok (.iload_n 1, 1) := dk_27 (dk_at dksX1_init_3 7 rfl rfl)
theorem dX1_init_79 : decode cX1_init 79 = .ok (.bipush 25, 2) := dk_16 25 (dk_at dksX1_init_3 8 rfl rfl)
theorem dX1_init_81 : decode cX1_init 81 = .ok (.if_icmp .ge 24, 3) := dk_162 0 24 (dk_at dksX1_init_3 10 rfl rfl)
theorem dX1_init_84 : decode cX1_init 84 = .ok (.aload_n 0, 1) := dk_42 (dk_at dksX1_init_3 13 rfl rfl)
theorem dX1_init_85 : decode cX1_init 85 = .ok (.getfield 11, 3) := dk_180 0 11 (dk_at dksX1_init_3 14 rfl rfl)
theorem dX1_init_88 : decode cX1_init 88 = .ok (.iload_n 1, 1) := dk_27 (dk_at dksX1_init_3 17 rfl rfl)
theorem dX1_init_89 : decode cX1_init 89 = .ok (.new 9, 3) := dk_187 0 9 (dk_at dksX1_init_3 18 rfl rfl)
theorem dX1_init_92 : decode cX1_init 92 = .ok (.dup, 1) := dk_89 (dk_at dksX1_init_3 21 rfl rfl)
theorem dX1_init_93 : decode cX1_init 93 = .ok (.aload_n 0, 1) := dk_42 (dk_at dksX1_init_3 22 rfl rfl)
theorem dX1_init_94 : decode cX1_init 94 = .ok (.iload_n 1, 1) := dk_27 (dk_at dksX1_init_3 23 rfl rfl)
theorem dX1_init_95 : decode cX1_init 95 = .ok (.invokespecial 43, 3) := dk_183 0 43 (dk_at dksX1_init_4 0 rfl rfl)
theorem dX1_init_98 : decode cX1_init 98 = .ok (.aastore, 1) := dk_83 (dk_at dksX1_init_4 3 rfl rfl)
theorem dX1_init_99 : decode cX1_init 99 = .ok (.iinc 1 1, 3) := dk_132 1 1 (dk_at dksX1_init_4 4 rfl rfl)
theorem dX1_init_102 : decode cX1_init 102 = .ok (.goto (-24), 3) := dk_167 255 232 (dk_at dksX1_init_4 7 rfl rfl)
theorem dX1_init_105 : decode cX1_init 105 = .ok (.iconst 0, 1) := dk_3 (dk_at dksX1_init_4 10 rfl rfl)
theorem dX1_init_106 : decode cX1_init 106 = .ok (.istore_n 1, 1) := dk_60 (dk_at dksX1_init_4 11 rfl rfl)
theorem dX1_init_107 : decode cX1_init 107 = .ok (.iload_n 1, 1) := dk_27 (dk_at dksX1_init_4 12 rfl rfl)
theorem dX1_init_108 : decode cX1_init 108 = .ok (.aload_n 0, 1) := dk_42 (dk_at dksX1_init_4 13 rfl rfl)
theorem dX1_init_109 : decode cX1_init 109 = .ok (.getfield 32, 3) := dk_180 0 32 (dk_at dksX1_init_4 14 rfl rfl)
theorem dX1_init_112 : decode cX1_init 112 = .ok (.arraylength, 1) := dk_190 (dk_at dksX1_init_4 17 rfl rfl)
theorem dX1_init_113 : decode cX1_init 113 = .ok (.if_icmp .ge 20, 3) := dk_162 0 20 (dk_at dksX1_init_4 18 rfl rfl)
theorem dX1_init_116 : decode cX1_init 116 = .ok (.aload_n 0, 1) := dk_42 (dk_at dksX1_init_4 21 rfl rfl)
theorem dX1_init_117 : decode cX1_init 117 = .ok (.getfield 32, 3) := dk_180 0 32 (dk_at dksX1_init_5 0 rfl rfl)
theorem dX1_init_120 : decode cX1_init 120 = .ok (.iload_n 1, 1) := dk_27 (dk_at dksX1_init_5 3 rfl rfl)
theorem dX1_init_121 : decode cX1_init 121 = .ok (.aload_n 0, 1) := dk_42 (dk_at dksX1_init_5 4 rfl rfl)
theorem dX1_init_122 : decode cX1_init 122 = .ok (.iload_n 1, 1) := dk_27 (dk_at dksX1_init_5 5 rfl rfl)
theorem dX1_init_123 : decode cX1_init 123 = .ok (.invokevirtual 46, 3) := dk_182 0 46 (dk_at dksX1_init_5 6 rfl rfl)
theorem dX1_init_126 : decode cX1_init 126 = .ok (.lastore, 1) := dk_80 (dk_at dksX1_init_5 9 rfl rfl)
theorem dX1_init_127 : decode cX1_init 127 = .ok (.iinc 1 1, 3) := dk_132 1 1 (dk_at dksX1_init_5 10 rfl rfl)
theorem dX1_init_130 : decode cX1_init 130 = .ok (.goto (-23), 3) := dk_167 255 233 (dk_at dksX1_init_5 13 rfl rfl)
theorem dX1_init_133 : decode cX1_init 133 = .ok (.return_, 1) := dk_177 (dk_at dksX1_init_5 16 rfl rfl)
abbrev cX1_inLand : ByteArray := prog_1_method_32_code
def yX1_inLand : MethodName := ⟨RX1, "inLand", "(I)J"⟩
def dkwX1_inLand_6 : List UInt8 := [167, 255, 197, 132, 6, 1, 167, 255, 127, 32, 173]
abbrev dktX1_inLand_6 : List UInt8 := dkwX1_inLand_6 ++ []
def dkwX1_inLand_5 : List UInt8 := [180, 0, 96, 25, 11, 180, 0, 99, 96, 133, 167, 0, 9, 25, 11, 180, 0, 102, 133, 97, 65, 132, 10, 1]
abbrev dktX1_inLand_5 : List UInt8 := dkwX1_inLand_5 ++ dktX1_inLand_6
def dkwX1_inLand_4 : List UInt8 := [50, 58, 11, 32, 27, 154, 0, 12, 25, 11, 180, 0, 90, 133, 167, 0, 29, 27, 4, 160, 0, 18, 25, 11]
abbrev dktX1_inLand_4 : List UInt8 := dkwX1_inLand_4 ++ dktX1_inLand_5
def dkwX1_inLand_3 : List UInt8 := [180, 0, 79, 58, 8, 25, 8, 190, 54, 9, 3, 54, 10, 21, 10, 21, 9, 162, 0, 58, 25, 8, 21, 10]
abbrev dktX1_inLand_3 : List UInt8 := dkwX1_inLand_3 ++ dktX1_inLand_4
def dkwX1_inLand_2 : List UInt8 := [167, 0, 18, 27, 4, 160, 0, 12, 25, 7, 180, 0, 191, 133, 167, 0, 4, 9, 97, 65, 25, 7]
abbrev dktX1_inLand_2 : List UInt8 := dkwX1_inLand_2 ++ dktX1_inLand_3
def dkwX1_inLand_1 : List UInt8 := [25, 4, 21, 6, 50, 58, 7, 32, 27, 154, 0, 16, 20, 1, 30, 25, 7, 180, 0, 191, 133, 105]
abbrev dktX1_inLand_1 : List UInt8 := dkwX1_inLand_1 ++ dktX1_inLand_2
def dkwX1_inLand_0 : List UInt8 := [9, 65, 42, 180, 0, 11, 58, 4, 25, 4, 190, 54, 5, 3, 54, 6, 21, 6, 21, 5, 162, 0, 128]
abbrev dktX1_inLand_0 : List UInt8 := dkwX1_inLand_0 ++ dktX1_inLand_1
theorem dksX1_inLand_0 : cX1_inLand.data.toList.drop 0 = dktX1_inLand_0 := by decide +kernel
theorem dksX1_inLand_1 : cX1_inLand.data.toList.drop 23 = dktX1_inLand_1 := dk_seg dksX1_inLand_0 23 rfl rfl
theorem dksX1_inLand_2 : cX1_inLand.data.toList.drop 45 = dktX1_inLand_2 := dk_seg dksX1_inLand_1 22 rfl rfl
theorem dksX1_inLand_3 : cX1_inLand.data.toList.drop 67 = dktX1_inLand_3 := dk_seg dksX1_inLand_2 22 rfl rfl
theorem dksX1_inLand_4 : cX1_inLand.data.toList.drop 91 = dktX1_inLand_4 := dk_seg dksX1_inLand_3 24 rfl rfl
theorem dksX1_inLand_5 : cX1_inLand.data.toList.drop 115 = dktX1_inLand_5 := dk_seg dksX1_inLand_4 24 rfl rfl
theorem dksX1_inLand_6 : cX1_inLand.data.toList.drop 139 = dktX1_inLand_6 := dk_seg dksX1_inLand_5 24 rfl rfl
theorem dX1_inLand_0 : decode cX1_inLand 0 = .ok (.lconst 0, 1) := dk_9 (dk_at dksX1_inLand_0 0 rfl rfl)
theorem dX1_inLand_1 : decode cX1_inLand 1 = .ok (.lstore_n 2, 1) := dk_65 (dk_at dksX1_inLand_0 1 rfl rfl)
theorem dX1_inLand_2 : decode cX1_inLand 2 = .ok (.aload_n 0, 1) := dk_42 (dk_at dksX1_inLand_0 2 rfl rfl)
theorem dX1_inLand_3 : decode cX1_inLand 3 = .ok (.getfield 11, 3) := dk_180 0 11 (dk_at dksX1_inLand_0 3 rfl rfl)
theorem dX1_inLand_6 : decode cX1_inLand 6 = .ok (.astore 4, 2) := dk_58 4 (dk_at dksX1_inLand_0 6 rfl rfl)
theorem dX1_inLand_8 : decode cX1_inLand 8 = .ok (.aload 4, 2) := dk_25 4 (dk_at dksX1_inLand_0 8 rfl rfl)
theorem dX1_inLand_10 : decode cX1_inLand 10 = .ok (.arraylength, 1) := dk_190 (dk_at dksX1_inLand_0 10 rfl rfl)
theorem dX1_inLand_11 : decode cX1_inLand 11 = .ok (.istore 5, 2) := dk_54 5 (dk_at dksX1_inLand_0 11 rfl rfl)
theorem dX1_inLand_13 : decode cX1_inLand 13 = .ok (.iconst 0, 1) := dk_3 (dk_at dksX1_inLand_0 13 rfl rfl)
theorem dX1_inLand_14 : decode cX1_inLand 14 = .ok (.istore 6, 2) := dk_54 6 (dk_at dksX1_inLand_0 14 rfl rfl)
theorem dX1_inLand_16 : decode cX1_inLand 16 = .ok (.iload 6, 2) := dk_21 6 (dk_at dksX1_inLand_0 16 rfl rfl)
theorem dX1_inLand_18 : decode cX1_inLand 18 = .ok (.iload 5, 2) := dk_21 5 (dk_at dksX1_inLand_0 18 rfl rfl)
theorem dX1_inLand_20 : decode cX1_inLand 20 = .ok (.if_icmp .ge 128, 3) := dk_162 0 128 (dk_at dksX1_inLand_0 20 rfl rfl)
theorem dX1_inLand_23 : decode cX1_inLand 23 = .ok (.aload 4, 2) := dk_25 4 (dk_at dksX1_inLand_1 0 rfl rfl)
theorem dX1_inLand_25 : decode cX1_inLand 25 = .ok (.iload 6, 2) := dk_21 6 (dk_at dksX1_inLand_1 2 rfl rfl)
theorem dX1_inLand_27 : decode cX1_inLand 27 = .ok (.aaload, 1) := dk_50 (dk_at dksX1_inLand_1 4 rfl rfl)
theorem dX1_inLand_28 : decode cX1_inLand 28 = .ok (.astore 7, 2) := dk_58 7 (dk_at dksX1_inLand_1 5 rfl rfl)
theorem dX1_inLand_30 : decode cX1_inLand 30 = .ok (.lload_n 2, 1) := dk_32 (dk_at dksX1_inLand_1 7 rfl rfl)
theorem dX1_inLand_31 : decode cX1_inLand 31 = .ok (.iload_n 1, 1) := dk_27 (dk_at dksX1_inLand_1 8 rfl rfl)
theorem dX1_inLand_32 : decode cX1_inLand 32 = .ok (.ifCond .ne 16, 3) := dk_154 0 16 (dk_at dksX1_inLand_1 9 rfl rfl)
theorem dX1_inLand_35 : decode cX1_inLand 35 = .ok (.ldc2_w 286, 3) := dk_20 1 30 (dk_at dksX1_inLand_1 12 rfl rfl)
theorem dX1_inLand_38 : decode cX1_inLand 38 = .ok (.aload 7, 2) := dk_25 7 (dk_at dksX1_inLand_1 15 rfl rfl)
theorem dX1_inLand_40 : decode cX1_inLand 40 = .ok (.getfield 191, 3) := dk_180 0 191 (dk_at dksX1_inLand_1 17 rfl rfl)
theorem dX1_inLand_43 : decode cX1_inLand 43 = .ok (.i2l, 1) := dk_133 (dk_at dksX1_inLand_1 20 rfl rfl)
theorem dX1_inLand_44 : decode cX1_inLand 44 = .ok (.lmul, 1) := dk_105 (dk_at dksX1_inLand_1 21 rfl rfl)
theorem dX1_inLand_45 : decode cX1_inLand 45 = .ok (.goto 18, 3) := dk_167 0 18 (dk_at dksX1_inLand_2 0 rfl rfl)
theorem dX1_inLand_48 : decode cX1_inLand 48 = .ok (.iload_n 1, 1) := dk_27 (dk_at dksX1_inLand_2 3 rfl rfl)
theorem dX1_inLand_49 : decode cX1_inLand 49 = .ok (.iconst 1, 1) := dk_4 (dk_at dksX1_inLand_2 4 rfl rfl)
theorem dX1_inLand_50 : decode cX1_inLand 50 = .ok (.if_icmp .ne 12, 3) := dk_160 0 12 (dk_at dksX1_inLand_2 5 rfl rfl)
theorem dX1_inLand_53 : decode cX1_inLand 53 = .ok (.aload 7, 2) := dk_25 7 (dk_at dksX1_inLand_2 8 rfl rfl)
theorem dX1_inLand_55 : decode cX1_inLand 55 = .ok (.getfield 191, 3) := dk_180 0 191 (dk_at dksX1_inLand_2 10 rfl rfl)
theorem dX1_inLand_58 : decode cX1_inLand 58 = .ok (.i2l, 1) := dk_133 (dk_at dksX1_inLand_2 13 rfl rfl)
theorem dX1_inLand_59 : decode cX1_inLand 59 = .ok (.goto 4, 3) := dk_167 0 4 (dk_at dksX1_inLand_2 14 rfl rfl)
theorem dX1_inLand_62 : decode cX1_inLand 62 = .ok (.lconst 0, 1) := dk_9 (dk_at dksX1_inLand_2 17 rfl rfl)
theorem dX1_inLand_63 : decode cX1_inLand 63 = .ok (.ladd, 1) := dk_97 (dk_at dksX1_inLand_2 18 rfl rfl)
theorem dX1_inLand_64 : decode cX1_inLand 64 = .ok (.lstore_n 2, 1) := dk_65 (dk_at dksX1_inLand_2 19 rfl rfl)
theorem dX1_inLand_65 : decode cX1_inLand 65 = .ok (.aload 7, 2) := dk_25 7 (dk_at dksX1_inLand_2 20 rfl rfl)
theorem dX1_inLand_67 : decode cX1_inLand 67 = .ok (.getfield 79, 3) := dk_180 0 79 (dk_at dksX1_inLand_3 0 rfl rfl)
theorem dX1_inLand_70 : decode cX1_inLand 70 = .ok (.astore 8, 2) := dk_58 8 (dk_at dksX1_inLand_3 3 rfl rfl)
theorem dX1_inLand_72 : decode cX1_inLand 72 = .ok (.aload 8, 2) := dk_25 8 (dk_at dksX1_inLand_3 5 rfl rfl)
theorem dX1_inLand_74 : decode cX1_inLand 74 = .ok (.arraylength, 1) := dk_190 (dk_at dksX1_inLand_3 7 rfl rfl)
theorem dX1_inLand_75 : decode cX1_inLand 75 = .ok (.istore 9, 2) := dk_54 9 (dk_at dksX1_inLand_3 8 rfl rfl)
theorem dX1_inLand_77 : decode cX1_inLand 77 = .ok (.iconst 0, 1) := dk_3 (dk_at dksX1_inLand_3 10 rfl rfl)
theorem dX1_inLand_78 : decode cX1_inLand 78 = .ok (.istore 10, 2) := dk_54 10 (dk_at dksX1_inLand_3 11 rfl rfl)
theorem dX1_inLand_80 : decode cX1_inLand 80 = .ok (.iload 10, 2) := dk_21 10 (dk_at dksX1_inLand_3 13 rfl rfl)
theorem dX1_inLand_82 : decode cX1_inLand 82 = .ok (.iload 9, 2) := dk_21 9 (dk_at dksX1_inLand_3 15 rfl rfl)
theorem dX1_inLand_84 : decode cX1_inLand 84 = .ok (.if_icmp .ge 58, 3) := dk_162 0 58 (dk_at dksX1_inLand_3 17 rfl rfl)
theorem dX1_inLand_87 : decode cX1_inLand 87 = .ok (.aload 8, 2) := dk_25 8 (dk_at dksX1_inLand_3 20 rfl rfl)
theorem dX1_inLand_89 : decode cX1_inLand 89 = .ok (.iload 10, 2) := dk_21 10 (dk_at dksX1_inLand_3 22 rfl rfl)
theorem dX1_inLand_91 : decode cX1_inLand 91 = .ok (.aaload, 1) := dk_50 (dk_at dksX1_inLand_4 0 rfl rfl)
theorem dX1_inLand_92 : decode cX1_inLand 92 = .ok (.astore 11, 2) := dk_58 11 (dk_at dksX1_inLand_4 1 rfl rfl)
theorem dX1_inLand_94 : decode cX1_inLand 94 = .ok (.lload_n 2, 1) := dk_32 (dk_at dksX1_inLand_4 3 rfl rfl)
theorem dX1_inLand_95 : decode cX1_inLand 95 = .ok (.iload_n 1, 1) := dk_27 (dk_at dksX1_inLand_4 4 rfl rfl)
theorem dX1_inLand_96 : decode cX1_inLand 96 = .ok (.ifCond .ne 12, 3) := dk_154 0 12 (dk_at dksX1_inLand_4 5 rfl rfl)
theorem dX1_inLand_99 : decode cX1_inLand 99 = .ok (.aload 11, 2) := dk_25 11 (dk_at dksX1_inLand_4 8 rfl rfl)
theorem dX1_inLand_101 : decode cX1_inLand 101 = .ok (.getfield 90, 3) := dk_180 0 90 (dk_at dksX1_inLand_4 10 rfl rfl)
theorem dX1_inLand_104 : decode cX1_inLand 104 = .ok (.i2l, 1) := dk_133 (dk_at dksX1_inLand_4 13 rfl rfl)
theorem dX1_inLand_105 : decode cX1_inLand 105 = .ok (.goto 29, 3) := dk_167 0 29 (dk_at dksX1_inLand_4 14 rfl rfl)
theorem dX1_inLand_108 : decode cX1_inLand 108 = .ok (.iload_n 1, 1) := dk_27 (dk_at dksX1_inLand_4 17 rfl rfl)
theorem dX1_inLand_109 : decode cX1_inLand 109 = .ok (.iconst 1, 1) := dk_4 (dk_at dksX1_inLand_4 18 rfl rfl)
theorem dX1_inLand_110 : decode cX1_inLand 110 = .ok (.if_icmp .ne 18, 3) := dk_160 0 18 (dk_at dksX1_inLand_4 19 rfl rfl)
theorem dX1_inLand_113 : decode cX1_inLand 113 = .ok (.aload 11, 2) := dk_25 11 (dk_at dksX1_inLand_4 22 rfl rfl)
theorem dX1_inLand_115 : decode cX1_inLand 115 = .ok (.getfield 96, 3) := dk_180 0 96 (dk_at dksX1_inLand_5 0 rfl rfl)
theorem dX1_inLand_118 : decode cX1_inLand 118 = .ok (.aload 11, 2) := dk_25 11 (dk_at dksX1_inLand_5 3 rfl rfl)
theorem dX1_inLand_120 : decode cX1_inLand 120 = .ok (.getfield 99, 3) := dk_180 0 99 (dk_at dksX1_inLand_5 5 rfl rfl)
theorem dX1_inLand_123 : decode cX1_inLand 123 = .ok (.iadd, 1) := dk_96 (dk_at dksX1_inLand_5 8 rfl rfl)
theorem dX1_inLand_124 : decode cX1_inLand 124 = .ok (.i2l, 1) := dk_133 (dk_at dksX1_inLand_5 9 rfl rfl)
theorem dX1_inLand_125 : decode cX1_inLand 125 = .ok (.goto 9, 3) := dk_167 0 9 (dk_at dksX1_inLand_5 10 rfl rfl)
theorem dX1_inLand_128 : decode cX1_inLand 128 = .ok (.aload 11, 2) := dk_25 11 (dk_at dksX1_inLand_5 13 rfl rfl)
theorem dX1_inLand_130 : decode cX1_inLand 130 = .ok (.getfield 102, 3) := dk_180 0 102 (dk_at dksX1_inLand_5 15 rfl rfl)
theorem dX1_inLand_133 : decode cX1_inLand 133 = .ok (.i2l, 1) := dk_133 (dk_at dksX1_inLand_5 18 rfl rfl)
theorem dX1_inLand_134 : decode cX1_inLand 134 = .ok (.ladd, 1) := dk_97 (dk_at dksX1_inLand_5 19 rfl rfl)
theorem dX1_inLand_135 : decode cX1_inLand 135 = .ok (.lstore_n 2, 1) := dk_65 (dk_at dksX1_inLand_5 20 rfl rfl)
theorem dX1_inLand_136 : decode cX1_inLand 136 = .ok (.iinc 10 1, 3) := dk_132 10 1 (dk_at dksX1_inLand_5 21 rfl rfl)
theorem dX1_inLand_139 : decode cX1_inLand 139 = .ok (.goto (-59), 3) := dk_167 255 197 (dk_at dksX1_inLand_6 0 rfl rfl)
theorem dX1_inLand_142 : decode cX1_inLand 142 = .ok (.iinc 6 1, 3) := dk_132 6 1 (dk_at dksX1_inLand_6 3 rfl rfl)
theorem dX1_inLand_145 : decode cX1_inLand 145 = .ok (.goto (-129), 3) := dk_167 255 127 (dk_at dksX1_inLand_6 6 rfl rfl)
theorem dX1_inLand_148 : decode cX1_inLand 148 = .ok (.lload_n 2, 1) := dk_32 (dk_at dksX1_inLand_6 9 rfl rfl)
theorem dX1_inLand_149 : decode cX1_inLand 149 = .ok (.lreturn, 1) := dk_173 (dk_at dksX1_inLand_6 10 rfl rfl)
abbrev cX1_month : ByteArray := prog_1_method_22_code
def yX1_month : MethodName := ⟨RX1, "month", "()I"⟩
theorem dX1_month_0 : decode cX1_month 0 = .ok (.aload_n 0, 1) := by decide +kernel
theorem dX1_month_1 : decode cX1_month 1 = .ok (.getfield 156, 3) := by decide +kernel
theorem dX1_month_4 : decode cX1_month 4 = .ok (.ireturn, 1) := by decide +kernel
abbrev cX1_lakes : ByteArray := prog_1_method_26_code
def yX1_lakes : MethodName := ⟨RX1, "lakes", "()I"⟩
def dkwX1_lakes_4 : List UInt8 := [167, 255, 169, 27, 172]
abbrev dktX1_lakes_4 : List UInt8 := dkwX1_lakes_4 ++ []
def dkwX1_lakes_3 : List UInt8 := [54, 4, 132, 5, 1, 167, 255, 227, 27, 21, 4, 153, 0, 7, 4, 167, 0, 4, 3, 96, 60, 132, 2, 1]
abbrev dktX1_lakes_3 : List UInt8 := dkwX1_lakes_3 ++ dktX1_lakes_4
def dkwX1_lakes_2 : List UInt8 := [21, 5, 29, 162, 0, 29, 21, 4, 42, 180, 0, 11, 42, 180, 0, 39, 21, 5, 46, 50, 182, 0, 169, 128]
abbrev dktX1_lakes_2 : List UInt8 := dkwX1_lakes_2 ++ dktX1_lakes_3
def dkwX1_lakes_1 : List UInt8 := [180, 0, 11, 28, 50, 180, 0, 191, 158, 0, 60, 42, 28, 182, 0, 197, 62, 3, 54, 4, 3, 54, 5]
abbrev dktX1_lakes_1 : List UInt8 := dkwX1_lakes_1 ++ dktX1_lakes_2
def dkwX1_lakes_0 : List UInt8 := [42, 182, 0, 194, 3, 60, 3, 61, 28, 16, 25, 162, 0, 87, 42, 180, 0, 35, 28, 51, 154, 0, 72, 42]
abbrev dktX1_lakes_0 : List UInt8 := dkwX1_lakes_0 ++ dktX1_lakes_1
theorem dksX1_lakes_0 : cX1_lakes.data.toList.drop 0 = dktX1_lakes_0 := by decide +kernel
theorem dksX1_lakes_1 : cX1_lakes.data.toList.drop 24 = dktX1_lakes_1 := dk_seg dksX1_lakes_0 24 rfl rfl
theorem dksX1_lakes_2 : cX1_lakes.data.toList.drop 47 = dktX1_lakes_2 := dk_seg dksX1_lakes_1 23 rfl rfl
theorem dksX1_lakes_3 : cX1_lakes.data.toList.drop 71 = dktX1_lakes_3 := dk_seg dksX1_lakes_2 24 rfl rfl
theorem dksX1_lakes_4 : cX1_lakes.data.toList.drop 95 = dktX1_lakes_4 := dk_seg dksX1_lakes_3 24 rfl rfl
theorem dX1_lakes_0 : decode cX1_lakes 0 = .ok (.aload_n 0, 1) := dk_42 (dk_at dksX1_lakes_0 0 rfl rfl)
theorem dX1_lakes_1 : decode cX1_lakes 1 = .ok (.invokevirtual 194, 3) := dk_182 0 194 (dk_at dksX1_lakes_0 1 rfl rfl)
theorem dX1_lakes_4 : decode cX1_lakes 4 = .ok (.iconst 0, 1) := dk_3 (dk_at dksX1_lakes_0 4 rfl rfl)
theorem dX1_lakes_5 : decode cX1_lakes 5 = .ok (.istore_n 1, 1) := dk_60 (dk_at dksX1_lakes_0 5 rfl rfl)
theorem dX1_lakes_6 : decode cX1_lakes 6 = .ok (.iconst 0, 1) := dk_3 (dk_at dksX1_lakes_0 6 rfl rfl)
theorem dX1_lakes_7 : decode cX1_lakes 7 = .ok (.istore_n 2, 1) := dk_61 (dk_at dksX1_lakes_0 7 rfl rfl)
theorem dX1_lakes_8 : decode cX1_lakes 8 = .ok (.iload_n 2, 1) := dk_28 (dk_at dksX1_lakes_0 8 rfl rfl)
theorem dX1_lakes_9 : decode cX1_lakes 9 = .ok (.bipush 25, 2) := dk_16 25 (dk_at dksX1_lakes_0 9 rfl rfl)
theorem dX1_lakes_11 : decode cX1_lakes 11 = .ok (.if_icmp .ge 87, 3) := dk_162 0 87 (dk_at dksX1_lakes_0 11 rfl rfl)
theorem dX1_lakes_14 : decode cX1_lakes 14 = .ok (.aload_n 0, 1) := dk_42 (dk_at dksX1_lakes_0 14 rfl rfl)
theorem dX1_lakes_15 : decode cX1_lakes 15 = .ok (.getfield 35, 3) := dk_180 0 35 (dk_at dksX1_lakes_0 15 rfl rfl)
theorem dX1_lakes_18 : decode cX1_lakes 18 = .ok (.iload_n 2, 1) := dk_28 (dk_at dksX1_lakes_0 18 rfl rfl)
theorem dX1_lakes_19 : decode cX1_lakes 19 = .ok (.baload, 1) := dk_51 (dk_at dksX1_lakes_0 19 rfl rfl)
theorem dX1_lakes_20 : decode cX1_lakes 20 = .ok (.ifCond .ne 72, 3) := dk_154 0 72 (dk_at dksX1_lakes_0 20 rfl rfl)
theorem dX1_lakes_23 : decode cX1_lakes 23 = .ok (.aload_n 0, 1) := dk_42 (dk_at dksX1_lakes_0 23 rfl rfl)
theorem dX1_lakes_24 : decode cX1_lakes 24 = .ok (.getfield 11, 3) := dk_180 0 11 (dk_at dksX1_lakes_1 0 rfl rfl)
theorem dX1_lakes_27 : decode cX1_lakes 27 = .ok (.iload_n 2, 1) := dk_28 (dk_at dksX1_lakes_1 3 rfl rfl)
theorem dX1_lakes_28 : decode cX1_lakes 28 = .ok (.aaload, 1) := dk_50 (dk_at dksX1_lakes_1 4 rfl rfl)
theorem dX1_lakes_29 : decode cX1_lakes 29 = .ok (.getfield 191, 3) := dk_180 0 191 (dk_at dksX1_lakes_1 5 rfl rfl)
theorem dX1_lakes_32 : decode cX1_lakes 32 = .ok (.ifCond .le 60, 3) := dk_158 0 60 (dk_at dksX1_lakes_1 8 rfl rfl)
theorem dX1_lakes_35 : decode cX1_lakes 35 = .ok (.aload_n 0, 1) := dk_42 (dk_at dksX1_lakes_1 11 rfl rfl)
theorem dX1_lakes_36 : decode cX1_lakes 36 = .ok (.iload_n 2, 1) := dk_28 (dk_at dksX1_lakes_1 12 rfl rfl)
theorem dX1_lakes_37 : decode cX1_lakes 37 = .ok (.invokevirtual 197, 3) := dk_182 0 197 (dk_at dksX1_lakes_1 13 rfl rfl)
theorem dX1_lakes_40 : decode cX1_lakes 40 = .ok (.istore_n 3, 1) := dk_62 (dk_at dksX1_lakes_1 16 rfl rfl)
theorem dX1_lakes_41 : decode cX1_lakes 41 = .ok (.iconst 0, 1) := dk_3 (dk_at dksX1_lakes_1 17 rfl rfl)
theorem dX1_lakes_42 : decode cX1_lakes 42 = .ok (.istore 4, 2) := dk_54 4 (dk_at dksX1_lakes_1 18 rfl rfl)
theorem dX1_lakes_44 : decode cX1_lakes 44 = .ok (.iconst 0, 1) := dk_3 (dk_at dksX1_lakes_1 20 rfl rfl)
theorem dX1_lakes_45 : decode cX1_lakes 45 = .ok (.istore 5, 2) := dk_54 5 (dk_at dksX1_lakes_1 21 rfl rfl)
theorem dX1_lakes_47 : decode cX1_lakes 47 = .ok (.iload 5, 2) := dk_21 5 (dk_at dksX1_lakes_2 0 rfl rfl)
theorem dX1_lakes_49 : decode cX1_lakes 49 = .ok (.iload_n 3, 1) := dk_29 (dk_at dksX1_lakes_2 2 rfl rfl)
theorem dX1_lakes_50 : decode cX1_lakes 50 = .ok (.if_icmp .ge 29, 3) := dk_162 0 29 (dk_at dksX1_lakes_2 3 rfl rfl)
theorem dX1_lakes_53 : decode cX1_lakes 53 = .ok (.iload 4, 2) := dk_21 4 (dk_at dksX1_lakes_2 6 rfl rfl)
theorem dX1_lakes_55 : decode cX1_lakes 55 = .ok (.aload_n 0, 1) := dk_42 (dk_at dksX1_lakes_2 8 rfl rfl)
theorem dX1_lakes_56 : decode cX1_lakes 56 = .ok (.getfield 11, 3) := dk_180 0 11 (dk_at dksX1_lakes_2 9 rfl rfl)
theorem dX1_lakes_59 : decode cX1_lakes 59 = .ok (.aload_n 0, 1) := dk_42 (dk_at dksX1_lakes_2 12 rfl rfl)
theorem dX1_lakes_60 : decode cX1_lakes 60 = .ok (.getfield 39, 3) := dk_180 0 39 (dk_at dksX1_lakes_2 13 rfl rfl)
theorem dX1_lakes_63 : decode cX1_lakes 63 = .ok (.iload 5, 2) := dk_21 5 (dk_at dksX1_lakes_2 16 rfl rfl)
theorem dX1_lakes_65 : decode cX1_lakes 65 = .ok (.iaload, 1) := dk_46 (dk_at dksX1_lakes_2 18 rfl rfl)
theorem dX1_lakes_66 : decode cX1_lakes 66 = .ok (.aaload, 1) := dk_50 (dk_at dksX1_lakes_2 19 rfl rfl)
theorem dX1_lakes_67 : decode cX1_lakes 67 = .ok (.invokevirtual 169, 3) := dk_182 0 169 (dk_at dksX1_lakes_2 20 rfl rfl)
theorem dX1_lakes_70 : decode cX1_lakes 70 = .ok (.ior, 1) := dk_128 (dk_at dksX1_lakes_2 23 rfl rfl)
theorem dX1_lakes_71 : decode cX1_lakes 71 = .ok (.istore 4, 2) := dk_54 4 (dk_at dksX1_lakes_3 0 rfl rfl)
theorem dX1_lakes_73 : decode cX1_lakes 73 = .ok (.iinc 5 1, 3) := dk_132 5 1 (dk_at dksX1_lakes_3 2 rfl rfl)
theorem dX1_lakes_76 : decode cX1_lakes 76 = .ok (.goto (-29), 3) := dk_167 255 227 (dk_at dksX1_lakes_3 5 rfl rfl)
theorem dX1_lakes_79 : decode cX1_lakes 79 = .ok (.iload_n 1, 1) := dk_27 (dk_at dksX1_lakes_3 8 rfl rfl)
theorem dX1_lakes_80 : decode cX1_lakes 80 = .ok (.iload 4, 2) := dk_21 4 (dk_at dksX1_lakes_3 9 rfl rfl)
theorem dX1_lakes_82 : decode cX1_lakes 82 = .ok (.ifCond .eq 7, 3) := dk_153 0 7 (dk_at dksX1_lakes_3 11 rfl rfl)
theorem dX1_lakes_85 : decode cX1_lakes 85 = .ok (.iconst 1, 1) := dk_4 (dk_at dksX1_lakes_3 14 rfl rfl)
theorem dX1_lakes_86 : decode cX1_lakes 86 = .ok (.goto 4, 3) := dk_167 0 4 (dk_at dksX1_lakes_3 15 rfl rfl)
theorem dX1_lakes_89 : decode cX1_lakes 89 = .ok (.iconst 0, 1) := dk_3 (dk_at dksX1_lakes_3 18 rfl rfl)
theorem dX1_lakes_90 : decode cX1_lakes 90 = .ok (.iadd, 1) := dk_96 (dk_at dksX1_lakes_3 19 rfl rfl)
theorem dX1_lakes_91 : decode cX1_lakes 91 = .ok (.istore_n 1, 1) := dk_60 (dk_at dksX1_lakes_3 20 rfl rfl)
theorem dX1_lakes_92 : decode cX1_lakes 92 = .ok (.iinc 2 1, 3) := dk_132 2 1 (dk_at dksX1_lakes_3 21 rfl rfl)
theorem dX1_lakes_95 : decode cX1_lakes 95 = .ok (.goto (-87), 3) := dk_167 255 169 (dk_at dksX1_lakes_4 0 rfl rfl)
theorem dX1_lakes_98 : decode cX1_lakes 98 = .ok (.iload_n 1, 1) := dk_27 (dk_at dksX1_lakes_4 3 rfl rfl)
theorem dX1_lakes_99 : decode cX1_lakes 99 = .ok (.ireturn, 1) := dk_172 (dk_at dksX1_lakes_4 4 rfl rfl)
abbrev cX1_forget : ByteArray := prog_1_method_15_code
def yX1_forget : MethodName := ⟨RX1, "forget", "()V"⟩
def dkwX1_forget_0 : List UInt8 := [3, 60, 27, 16, 25, 162, 0, 16, 42, 180, 0, 35, 27, 3, 84, 132, 1, 1, 167, 255, 240, 177]
abbrev dktX1_forget_0 : List UInt8 := dkwX1_forget_0 ++ []
theorem dksX1_forget_0 : cX1_forget.data.toList.drop 0 = dktX1_forget_0 := by decide +kernel
theorem dX1_forget_0 : decode cX1_forget 0 = .ok (.iconst 0, 1) := dk_3 (dk_at dksX1_forget_0 0 rfl rfl)
theorem dX1_forget_1 : decode cX1_forget 1 = .ok (.istore_n 1, 1) := dk_60 (dk_at dksX1_forget_0 1 rfl rfl)
theorem dX1_forget_2 : decode cX1_forget 2 = .ok (.iload_n 1, 1) := dk_27 (dk_at dksX1_forget_0 2 rfl rfl)
theorem dX1_forget_3 : decode cX1_forget 3 = .ok (.bipush 25, 2) := dk_16 25 (dk_at dksX1_forget_0 3 rfl rfl)
theorem dX1_forget_5 : decode cX1_forget 5 = .ok (.if_icmp .ge 16, 3) := dk_162 0 16 (dk_at dksX1_forget_0 5 rfl rfl)
theorem dX1_forget_8 : decode cX1_forget 8 = .ok (.aload_n 0, 1) := dk_42 (dk_at dksX1_forget_0 8 rfl rfl)
theorem dX1_forget_9 : decode cX1_forget 9 = .ok (.getfield 35, 3) := dk_180 0 35 (dk_at dksX1_forget_0 9 rfl rfl)
theorem dX1_forget_12 : decode cX1_forget 12 = .ok (.iload_n 1, 1) := dk_27 (dk_at dksX1_forget_0 12 rfl rfl)
theorem dX1_forget_13 : decode cX1_forget 13 = .ok (.iconst 0, 1) := dk_3 (dk_at dksX1_forget_0 13 rfl rfl)
theorem dX1_forget_14 : decode cX1_forget 14 = .ok (.bastore, 1) := dk_84 (dk_at dksX1_forget_0 14 rfl rfl)
theorem dX1_forget_15 : decode cX1_forget 15 = .ok (.iinc 1 1, 3) := dk_132 1 1 (dk_at dksX1_forget_0 15 rfl rfl)
theorem dX1_forget_18 : decode cX1_forget 18 = .ok (.goto (-16), 3) := dk_167 255 240 (dk_at dksX1_forget_0 18 rfl rfl)
theorem dX1_forget_21 : decode cX1_forget 21 = .ok (.return_, 1) := dk_177 (dk_at dksX1_forget_0 21 rfl rfl)
abbrev cX1_spread : ByteArray := prog_1_method_14_code
def yX1_spread : MethodName := ⟨RX1, "spread", "(I)I"⟩
def dkwX1_spread_4 : List UInt8 := [84, 42, 180, 0, 39, 28, 21, 5, 79, 132, 2, 1, 167, 255, 189, 132, 3, 1, 167, 255, 163, 28, 172]
abbrev dktX1_spread_4 : List UInt8 := dkwX1_spread_4 ++ []
def dkwX1_spread_3 : List UInt8 := [51, 154, 0, 35, 42, 180, 0, 11, 21, 5, 50, 180, 0, 191, 158, 0, 22, 42, 180, 0, 35, 21, 5, 4]
abbrev dktX1_spread_3 : List UInt8 := dkwX1_spread_3 ++ dktX1_spread_4
def dkwX1_spread_2 : List UInt8 := [153, 0, 63, 25, 4, 185, 0, 182, 1, 0, 192, 0, 186, 182, 0, 188, 54, 5, 42, 180, 0, 35, 21, 5]
abbrev dktX1_spread_2 : List UInt8 := dkwX1_spread_2 ++ dktX1_spread_3
def dkwX1_spread_1 : List UInt8 := [187, 0, 173, 89, 42, 180, 0, 39, 29, 46, 183, 0, 175, 58, 4, 25, 4, 185, 0, 177, 1, 0]
abbrev dktX1_spread_1 : List UInt8 := dkwX1_spread_1 ++ dktX1_spread_2
def dkwX1_spread_0 : List UInt8 := [4, 61, 42, 180, 0, 39, 3, 27, 79, 42, 180, 0, 35, 27, 4, 84, 3, 62, 29, 28, 162, 0, 94]
abbrev dktX1_spread_0 : List UInt8 := dkwX1_spread_0 ++ dktX1_spread_1
theorem dksX1_spread_0 : cX1_spread.data.toList.drop 0 = dktX1_spread_0 := by decide +kernel
theorem dksX1_spread_1 : cX1_spread.data.toList.drop 23 = dktX1_spread_1 := dk_seg dksX1_spread_0 23 rfl rfl
theorem dksX1_spread_2 : cX1_spread.data.toList.drop 45 = dktX1_spread_2 := dk_seg dksX1_spread_1 22 rfl rfl
theorem dksX1_spread_3 : cX1_spread.data.toList.drop 69 = dktX1_spread_3 := dk_seg dksX1_spread_2 24 rfl rfl
theorem dksX1_spread_4 : cX1_spread.data.toList.drop 93 = dktX1_spread_4 := dk_seg dksX1_spread_3 24 rfl rfl
theorem dX1_spread_0 : decode cX1_spread 0 = .ok (.iconst 1, 1) := dk_4 (dk_at dksX1_spread_0 0 rfl rfl)
theorem dX1_spread_1 : decode cX1_spread 1 = .ok (.istore_n 2, 1) := dk_61 (dk_at dksX1_spread_0 1 rfl rfl)
theorem dX1_spread_2 : decode cX1_spread 2 = .ok (.aload_n 0, 1) := dk_42 (dk_at dksX1_spread_0 2 rfl rfl)
theorem dX1_spread_3 : decode cX1_spread 3 = .ok (.getfield 39, 3) := dk_180 0 39 (dk_at dksX1_spread_0 3 rfl rfl)
theorem dX1_spread_6 : decode cX1_spread 6 = .ok (.iconst 0, 1) := dk_3 (dk_at dksX1_spread_0 6 rfl rfl)
theorem dX1_spread_7 : decode cX1_spread 7 = .ok (.iload_n 1, 1) := dk_27 (dk_at dksX1_spread_0 7 rfl rfl)
theorem dX1_spread_8 : decode cX1_spread 8 = .ok (.iastore, 1) := dk_79 (dk_at dksX1_spread_0 8 rfl rfl)
theorem dX1_spread_9 : decode cX1_spread 9 = .ok (.aload_n 0, 1) := dk_42 (dk_at dksX1_spread_0 9 rfl rfl)
theorem dX1_spread_10 : decode cX1_spread 10 = .ok (.getfield 35, 3) := dk_180 0 35 (dk_at dksX1_spread_0 10 rfl rfl)
theorem dX1_spread_13 : decode cX1_spread 13 = .ok (.iload_n 1, 1) := dk_27 (dk_at dksX1_spread_0 13 rfl rfl)
theorem dX1_spread_14 : decode cX1_spread 14 = .ok (.iconst 1, 1) := dk_4 (dk_at dksX1_spread_0 14 rfl rfl)
theorem dX1_spread_15 : decode cX1_spread 15 = .ok (.bastore, 1) := dk_84 (dk_at dksX1_spread_0 15 rfl rfl)
theorem dX1_spread_16 : decode cX1_spread 16 = .ok (.iconst 0, 1) := dk_3 (dk_at dksX1_spread_0 16 rfl rfl)
theorem dX1_spread_17 : decode cX1_spread 17 = .ok (.istore_n 3, 1) := dk_62 (dk_at dksX1_spread_0 17 rfl rfl)
theorem dX1_spread_18 : decode cX1_spread 18 = .ok (.iload_n 3, 1) := dk_29 (dk_at dksX1_spread_0 18 rfl rfl)
theorem dX1_spread_19 : decode cX1_spread 19 = .ok (.iload_n 2, 1) := dk_28 (dk_at dksX1_spread_0 19 rfl rfl)
theorem dX1_spread_20 : decode cX1_spread 20 = .ok (.if_icmp .ge 94, 3) := dk_162 0 94 (dk_at dksX1_spread_0 20 rfl rfl)
theorem dX1_spread_23 : decode cX1_spread 23 = .ok (.new 173, 3) := dk_187 0 173 (dk_at dksX1_spread_1 0 rfl rfl)
theorem dX1_spread_26 : decode cX1_spread 26 = .ok (.dup, 1) := dk_89 (dk_at dksX1_spread_1 3 rfl rfl)
theorem dX1_spread_27 : decode cX1_spread 27 = .ok (.aload_n 0, 1) := dk_42 (dk_at dksX1_spread_1 4 rfl rfl)
theorem dX1_spread_28 : decode cX1_spread 28 = .ok (.getfield 39, 3) := dk_180 0 39 (dk_at dksX1_spread_1 5 rfl rfl)
theorem dX1_spread_31 : decode cX1_spread 31 = .ok (.iload_n 3, 1) := dk_29 (dk_at dksX1_spread_1 8 rfl rfl)
theorem dX1_spread_32 : decode cX1_spread 32 = .ok (.iaload, 1) := dk_46 (dk_at dksX1_spread_1 9 rfl rfl)
theorem dX1_spread_33 : decode cX1_spread 33 = .ok (.invokespecial 175, 3) := dk_183 0 175 (dk_at dksX1_spread_1 10 rfl rfl)
theorem dX1_spread_36 : decode cX1_spread 36 = .ok (.astore 4, 2) := dk_58 4 (dk_at dksX1_spread_1 13 rfl rfl)
theorem dX1_spread_38 : decode cX1_spread 38 = .ok (.aload 4, 2) := dk_25 4 (dk_at dksX1_spread_1 15 rfl rfl)
theorem dX1_spread_40 : decode cX1_spread 40 = .ok (.invokeinterface 177 1, 5) := by decide +kernel
theorem dX1_spread_45 : decode cX1_spread 45 = .ok (.ifCond .eq 63, 3) := dk_153 0 63 (dk_at dksX1_spread_2 0 rfl rfl)
theorem dX1_spread_48 : decode cX1_spread 48 = .ok (.aload 4, 2) := dk_25 4 (dk_at dksX1_spread_2 3 rfl rfl)
theorem dX1_spread_50 : decode cX1_spread 50 = .ok (.invokeinterface 182 1, 5) := by decide +kernel
theorem dX1_spread_55 : decode cX1_spread 55 = .ok (.checkcast 186, 3) := dk_192 0 186 (dk_at dksX1_spread_2 10 rfl rfl)
theorem dX1_spread_58 : decode cX1_spread 58 = .ok (.invokevirtual 188, 3) := dk_182 0 188 (dk_at dksX1_spread_2 13 rfl rfl)
theorem dX1_spread_61 : decode cX1_spread 61 = .ok (.istore 5, 2) := dk_54 5 (dk_at dksX1_spread_2 16 rfl rfl)
theorem dX1_spread_63 : decode cX1_spread 63 = .ok (.aload_n 0, 1) := dk_42 (dk_at dksX1_spread_2 18 rfl rfl)
theorem dX1_spread_64 : decode cX1_spread 64 = .ok (.getfield 35, 3) := dk_180 0 35 (dk_at dksX1_spread_2 19 rfl rfl)
theorem dX1_spread_67 : decode cX1_spread 67 = .ok (.iload 5, 2) := dk_21 5 (dk_at dksX1_spread_2 22 rfl rfl)
theorem dX1_spread_69 : decode cX1_spread 69 = .ok (.baload, 1) := dk_51 (dk_at dksX1_spread_3 0 rfl rfl)
theorem dX1_spread_70 : decode cX1_spread 70 = .ok (.ifCond .ne 35, 3) := dk_154 0 35 (dk_at dksX1_spread_3 1 rfl rfl)
theorem dX1_spread_73 : decode cX1_spread 73 = .ok (.aload_n 0, 1) := dk_42 (dk_at dksX1_spread_3 4 rfl rfl)
theorem dX1_spread_74 : decode cX1_spread 74 = .ok (.getfield 11, 3) := dk_180 0 11 (dk_at dksX1_spread_3 5 rfl rfl)
theorem dX1_spread_77 : decode cX1_spread 77 = .ok (.iload 5, 2) := dk_21 5 (dk_at dksX1_spread_3 8 rfl rfl)
theorem dX1_spread_79 : decode cX1_spread 79 = .ok (.aaload, 1) := dk_50 (dk_at dksX1_spread_3 10 rfl rfl)
theorem dX1_spread_80 : decode cX1_spread 80 = .ok (.getfield 191, 3) := dk_180 0 191 (dk_at dksX1_spread_3 11 rfl rfl)
theorem dX1_spread_83 : decode cX1_spread 83 = .ok (.ifCond .le 22, 3) := dk_158 0 22 (dk_at dksX1_spread_3 14 rfl rfl)
theorem dX1_spread_86 : decode cX1_spread 86 = .ok (.aload_n 0, 1) := dk_42 (dk_at dksX1_spread_3 17 rfl rfl)
theorem dX1_spread_87 : decode cX1_spread 87 = .ok (.getfield 35, 3) := dk_180 0 35 (dk_at dksX1_spread_3 18 rfl rfl)
theorem dX1_spread_90 : decode cX1_spread 90 = .ok (.iload 5, 2) := dk_21 5 (dk_at dksX1_spread_3 21 rfl rfl)
theorem dX1_spread_92 : decode cX1_spread 92 = .ok (.iconst 1, 1) := dk_4 (dk_at dksX1_spread_3 23 rfl rfl)
theorem dX1_spread_93 : decode cX1_spread 93 = .ok (.bastore, 1) := dk_84 (dk_at dksX1_spread_4 0 rfl rfl)
theorem dX1_spread_94 : decode cX1_spread 94 = .ok (.aload_n 0, 1) := dk_42 (dk_at dksX1_spread_4 1 rfl rfl)
theorem dX1_spread_95 : decode cX1_spread 95 = .ok (.getfield 39, 3) := dk_180 0 39 (dk_at dksX1_spread_4 2 rfl rfl)
theorem dX1_spread_98 : decode cX1_spread 98 = .ok (.iload_n 2, 1) := dk_28 (dk_at dksX1_spread_4 5 rfl rfl)
theorem dX1_spread_99 : decode cX1_spread 99 = .ok (.iload 5, 2) := dk_21 5 (dk_at dksX1_spread_4 6 rfl rfl)
theorem dX1_spread_101 : decode cX1_spread 101 = .ok (.iastore, 1) := dk_79 (dk_at dksX1_spread_4 8 rfl rfl)
theorem dX1_spread_102 : decode cX1_spread 102 = .ok (.iinc 2 1, 3) := dk_132 2 1 (dk_at dksX1_spread_4 9 rfl rfl)
theorem dX1_spread_105 : decode cX1_spread 105 = .ok (.goto (-67), 3) := dk_167 255 189 (dk_at dksX1_spread_4 12 rfl rfl)
theorem dX1_spread_108 : decode cX1_spread 108 = .ok (.iinc 3 1, 3) := dk_132 3 1 (dk_at dksX1_spread_4 15 rfl rfl)
theorem dX1_spread_111 : decode cX1_spread 111 = .ok (.goto (-93), 3) := dk_167 255 163 (dk_at dksX1_spread_4 18 rfl rfl)
theorem dX1_spread_114 : decode cX1_spread 114 = .ok (.iload_n 2, 1) := dk_28 (dk_at dksX1_spread_4 21 rfl rfl)
theorem dX1_spread_115 : decode cX1_spread 115 = .ok (.ireturn, 1) := dk_172 (dk_at dksX1_spread_4 22 rfl rfl)
abbrev cX1_ground : ByteArray := prog_1_method_8_code
def yX1_ground : MethodName := ⟨RX1, "ground", "(IIIIII)V"⟩
def dkwX1_ground_6 : List UInt8 := [181, 0, 90, 25, 7, 21, 6, 181, 0, 102, 177]
abbrev dktX1_ground_6 : List UInt8 := dkwX1_ground_6 ++ []
def dkwX1_ground_5 : List UInt8 := [180, 0, 102, 100, 133, 97, 80, 25, 7, 29, 181, 0, 96, 25, 7, 21, 4, 181, 0, 99, 25, 7, 21, 5]
abbrev dktX1_ground_5 : List UInt8 := dkwX1_ground_5 ++ dktX1_ground_6
def dkwX1_ground_4 : List UInt8 := [180, 0, 96, 100, 25, 7, 180, 0, 99, 100, 133, 97, 80, 42, 180, 0, 32, 5, 92, 47, 21, 6, 25, 7]
abbrev dktX1_ground_4 : List UInt8 := dkwX1_ground_4 ++ dktX1_ground_5
def dkwX1_ground_3 : List UInt8 := [21, 5, 25, 7, 180, 0, 90, 100, 133, 97, 80, 42, 180, 0, 32, 4, 92, 47, 29, 21, 4, 96, 25, 7]
abbrev dktX1_ground_3 : List UInt8 := dkwX1_ground_3 ++ dktX1_ground_4
def dkwX1_ground_2 : List UInt8 := [17, 3, 232, 184, 0, 67, 153, 0, 7, 4, 167, 0, 4, 3, 184, 0, 87, 42, 180, 0, 32, 3, 92, 47]
abbrev dktX1_ground_2 : List UInt8 := dkwX1_ground_2 ++ dktX1_ground_3
def dkwX1_ground_1 : List UInt8 := [184, 0, 67, 153, 0, 33, 21, 5, 17, 236, 120, 17, 117, 48, 184, 0, 67, 153, 0, 19, 21, 6, 3]
abbrev dktX1_ground_1 : List UInt8 := dkwX1_ground_1 ++ dktX1_ground_2
def dkwX1_ground_0 : List UInt8 := [42, 27, 28, 182, 0, 83, 58, 7, 29, 3, 16, 9, 184, 0, 67, 153, 0, 44, 21, 4, 3, 16, 9]
abbrev dktX1_ground_0 : List UInt8 := dkwX1_ground_0 ++ dktX1_ground_1
theorem dksX1_ground_0 : cX1_ground.data.toList.drop 0 = dktX1_ground_0 := by decide +kernel
theorem dksX1_ground_1 : cX1_ground.data.toList.drop 23 = dktX1_ground_1 := dk_seg dksX1_ground_0 23 rfl rfl
theorem dksX1_ground_2 : cX1_ground.data.toList.drop 46 = dktX1_ground_2 := dk_seg dksX1_ground_1 23 rfl rfl
theorem dksX1_ground_3 : cX1_ground.data.toList.drop 70 = dktX1_ground_3 := dk_seg dksX1_ground_2 24 rfl rfl
theorem dksX1_ground_4 : cX1_ground.data.toList.drop 94 = dktX1_ground_4 := dk_seg dksX1_ground_3 24 rfl rfl
theorem dksX1_ground_5 : cX1_ground.data.toList.drop 118 = dktX1_ground_5 := dk_seg dksX1_ground_4 24 rfl rfl
theorem dksX1_ground_6 : cX1_ground.data.toList.drop 142 = dktX1_ground_6 := dk_seg dksX1_ground_5 24 rfl rfl
theorem dX1_ground_0 : decode cX1_ground 0 = .ok (.aload_n 0, 1) := dk_42 (dk_at dksX1_ground_0 0 rfl rfl)
theorem dX1_ground_1 : decode cX1_ground 1 = .ok (.iload_n 1, 1) := dk_27 (dk_at dksX1_ground_0 1 rfl rfl)
theorem dX1_ground_2 : decode cX1_ground 2 = .ok (.iload_n 2, 1) := dk_28 (dk_at dksX1_ground_0 2 rfl rfl)
theorem dX1_ground_3 : decode cX1_ground 3 = .ok (.invokevirtual 83, 3) := dk_182 0 83 (dk_at dksX1_ground_0 3 rfl rfl)
theorem dX1_ground_6 : decode cX1_ground 6 = .ok (.astore 7, 2) := dk_58 7 (dk_at dksX1_ground_0 6 rfl rfl)
theorem dX1_ground_8 : decode cX1_ground 8 = .ok (.iload_n 3, 1) := dk_29 (dk_at dksX1_ground_0 8 rfl rfl)
theorem dX1_ground_9 : decode cX1_ground 9 = .ok (.iconst 0, 1) := dk_3 (dk_at dksX1_ground_0 9 rfl rfl)
theorem dX1_ground_10 : decode cX1_ground 10 = .ok (.bipush 9, 2) := dk_16 9 (dk_at dksX1_ground_0 10 rfl rfl)
theorem dX1_ground_12 : decode cX1_ground 12 = .ok (.invokestatic 67, 3) := dk_184 0 67 (dk_at dksX1_ground_0 12 rfl rfl)
theorem dX1_ground_15 : decode cX1_ground 15 = .ok (.ifCond .eq 44, 3) := dk_153 0 44 (dk_at dksX1_ground_0 15 rfl rfl)
theorem dX1_ground_18 : decode cX1_ground 18 = .ok (.iload 4, 2) := dk_21 4 (dk_at dksX1_ground_0 18 rfl rfl)
theorem dX1_ground_20 : decode cX1_ground 20 = .ok (.iconst 0, 1) := dk_3 (dk_at dksX1_ground_0 20 rfl rfl)
theorem dX1_ground_21 : decode cX1_ground 21 = .ok (.bipush 9, 2) := dk_16 9 (dk_at dksX1_ground_0 21 rfl rfl)
theorem dX1_ground_23 : decode cX1_ground 23 = .ok (.invokestatic 67, 3) := dk_184 0 67 (dk_at dksX1_ground_1 0 rfl rfl)
theorem dX1_ground_26 : decode cX1_ground 26 = .ok (.ifCond .eq 33, 3) := dk_153 0 33 (dk_at dksX1_ground_1 3 rfl rfl)
theorem dX1_ground_29 : decode cX1_ground 29 = .ok (.iload 5, 2) := dk_21 5 (dk_at dksX1_ground_1 6 rfl rfl)
theorem dX1_ground_31 : decode cX1_ground 31 = .ok (.sipush (-5000), 3) := dk_17 236 120 (dk_at dksX1_ground_1 8 rfl rfl)
theorem dX1_ground_34 : decode cX1_ground 34 = .ok (.sipush 30000, 3) := dk_17 117 48 (dk_at dksX1_ground_1 11 rfl rfl)
theorem dX1_ground_37 : decode cX1_ground 37 = .ok (.invokestatic 67, 3) := dk_184 0 67 (dk_at dksX1_ground_1 14 rfl rfl)
theorem dX1_ground_40 : decode cX1_ground 40 = .ok (.ifCond .eq 19, 3) := dk_153 0 19 (dk_at dksX1_ground_1 17 rfl rfl)
theorem dX1_ground_43 : decode cX1_ground 43 = .ok (.iload 6, 2) := dk_21 6 (dk_at dksX1_ground_1 20 rfl rfl)
theorem dX1_ground_45 : decode cX1_ground 45 = .ok (.iconst 0, 1) := dk_3 (dk_at dksX1_ground_1 22 rfl rfl)
theorem dX1_ground_46 : decode cX1_ground 46 = .ok (.sipush 1000, 3) := dk_17 3 232 (dk_at dksX1_ground_2 0 rfl rfl)
theorem dX1_ground_49 : decode cX1_ground 49 = .ok (.invokestatic 67, 3) := dk_184 0 67 (dk_at dksX1_ground_2 3 rfl rfl)
theorem dX1_ground_52 : decode cX1_ground 52 = .ok (.ifCond .eq 7, 3) := dk_153 0 7 (dk_at dksX1_ground_2 6 rfl rfl)
theorem dX1_ground_55 : decode cX1_ground 55 = .ok (.iconst 1, 1) := dk_4 (dk_at dksX1_ground_2 9 rfl rfl)
theorem dX1_ground_56 : decode cX1_ground 56 = .ok (.goto 4, 3) := dk_167 0 4 (dk_at dksX1_ground_2 10 rfl rfl)
theorem dX1_ground_59 : decode cX1_ground 59 = .ok (.iconst 0, 1) := dk_3 (dk_at dksX1_ground_2 13 rfl rfl)
theorem dX1_ground_60 : decode cX1_ground 60 = .ok (.invokestatic 87, 3) := dk_184 0 87 (dk_at dksX1_ground_2 14 rfl rfl)
theorem dX1_ground_63 : decode cX1_ground 63 = .ok (.aload_n 0, 1) := dk_42 (dk_at dksX1_ground_2 17 rfl rfl)
theorem dX1_ground_64 : decode cX1_ground 64 = .ok (.getfield 32, 3) := dk_180 0 32 (dk_at dksX1_ground_2 18 rfl rfl)
theorem dX1_ground_67 : decode cX1_ground 67 = .ok (.iconst 0, 1) := dk_3 (dk_at dksX1_ground_2 21 rfl rfl)
theorem dX1_ground_68 : decode cX1_ground 68 = .ok (.dup2, 1) := dk_92 (dk_at dksX1_ground_2 22 rfl rfl)
theorem dX1_ground_69 : decode cX1_ground 69 = .ok (.laload, 1) := dk_47 (dk_at dksX1_ground_2 23 rfl rfl)
theorem dX1_ground_70 : decode cX1_ground 70 = .ok (.iload 5, 2) := dk_21 5 (dk_at dksX1_ground_3 0 rfl rfl)
theorem dX1_ground_72 : decode cX1_ground 72 = .ok (.aload 7, 2) := dk_25 7 (dk_at dksX1_ground_3 2 rfl rfl)
theorem dX1_ground_74 : decode cX1_ground 74 = .ok (.getfield 90, 3) := dk_180 0 90 (dk_at dksX1_ground_3 4 rfl rfl)
theorem dX1_ground_77 : decode cX1_ground 77 = .ok (.isub, 1) := dk_100 (dk_at dksX1_ground_3 7 rfl rfl)
theorem dX1_ground_78 : decode cX1_ground 78 = .ok (.i2l, 1) := dk_133 (dk_at dksX1_ground_3 8 rfl rfl)
theorem dX1_ground_79 : decode cX1_ground 79 = .ok (.ladd, 1) := dk_97 (dk_at dksX1_ground_3 9 rfl rfl)
theorem dX1_ground_80 : decode cX1_ground 80 = .ok (.lastore, 1) := dk_80 (dk_at dksX1_ground_3 10 rfl rfl)
theorem dX1_ground_81 : decode cX1_ground 81 = .ok (.aload_n 0, 1) := dk_42 (dk_at dksX1_ground_3 11 rfl rfl)
theorem dX1_ground_82 : decode cX1_ground 82 = .ok (.getfield 32, 3) := dk_180 0 32 (dk_at dksX1_ground_3 12 rfl rfl)
theorem dX1_ground_85 : decode cX1_ground 85 = .ok (.iconst 1, 1) := dk_4 (dk_at dksX1_ground_3 15 rfl rfl)
theorem dX1_ground_86 : decode cX1_ground 86 = .ok (.dup2, 1) := dk_92 (dk_at dksX1_ground_3 16 rfl rfl)
theorem dX1_ground_87 : decode cX1_ground 87 = .ok (.laload, 1) := dk_47 (dk_at dksX1_ground_3 17 rfl rfl)
theorem dX1_ground_88 : decode cX1_ground 88 = .ok (.iload_n 3, 1) := dk_29 (dk_at dksX1_ground_3 18 rfl rfl)
theorem dX1_ground_89 : decode cX1_ground 89 = .ok (.iload 4, 2) := dk_21 4 (dk_at dksX1_ground_3 19 rfl rfl)
theorem dX1_ground_91 : decode cX1_ground 91 = .ok (.iadd, 1) := dk_96 (dk_at dksX1_ground_3 21 rfl rfl)
theorem dX1_ground_92 : decode cX1_ground 92 = .ok (.aload 7, 2) := dk_25 7 (dk_at dksX1_ground_3 22 rfl rfl)
theorem dX1_ground_94 : decode cX1_ground 94 = .ok (.getfield 96, 3) := dk_180 0 96 (dk_at dksX1_ground_4 0 rfl rfl)
theorem dX1_ground_97 : decode cX1_ground 97 = .ok (.isub, 1) := dk_100 (dk_at dksX1_ground_4 3 rfl rfl)
theorem dX1_ground_98 : decode cX1_ground 98 = .ok (.aload 7, 2) := dk_25 7 (dk_at dksX1_ground_4 4 rfl rfl)
theorem dX1_ground_100 : decode cX1_ground 100 = .ok (.getfield 99, 3) := dk_180 0 99 (dk_at dksX1_ground_4 6 rfl rfl)
theorem dX1_ground_103 : decode cX1_ground 103 = .ok (.isub, 1) := dk_100 (dk_at dksX1_ground_4 9 rfl rfl)
theorem dX1_ground_104 : decode cX1_ground 104 = .ok (.i2l, 1) := dk_133 (dk_at dksX1_ground_4 10 rfl rfl)
theorem dX1_ground_105 : decode cX1_ground 105 = .ok (.ladd, 1) := dk_97 (dk_at dksX1_ground_4 11 rfl rfl)
theorem dX1_ground_106 : decode cX1_ground 106 = .ok (.lastore, 1) := dk_80 (dk_at dksX1_ground_4 12 rfl rfl)
theorem dX1_ground_107 : decode cX1_ground 107 = .ok (.aload_n 0, 1) := dk_42 (dk_at dksX1_ground_4 13 rfl rfl)
theorem dX1_ground_108 : decode cX1_ground 108 = .ok (.getfield 32, 3) := dk_180 0 32 (dk_at dksX1_ground_4 14 rfl rfl)
theorem dX1_ground_111 : decode cX1_ground 111 = .ok (.iconst 2, 1) := dk_5 (dk_at dksX1_ground_4 17 rfl rfl)
theorem dX1_ground_112 : decode cX1_ground 112 = .ok (.dup2, 1) := dk_92 (dk_at dksX1_ground_4 18 rfl rfl)
theorem dX1_ground_113 : decode cX1_ground 113 = .ok (.laload, 1) := dk_47 (dk_at dksX1_ground_4 19 rfl rfl)
theorem dX1_ground_114 : decode cX1_ground 114 = .ok (.iload 6, 2) := dk_21 6 (dk_at dksX1_ground_4 20 rfl rfl)
theorem dX1_ground_116 : decode cX1_ground 116 = .ok (.aload 7, 2) := dk_25 7 (dk_at dksX1_ground_4 22 rfl rfl)
theorem dX1_ground_118 : decode cX1_ground 118 = .ok (.getfield 102, 3) := dk_180 0 102 (dk_at dksX1_ground_5 0 rfl rfl)
theorem dX1_ground_121 : decode cX1_ground 121 = .ok (.isub, 1) := dk_100 (dk_at dksX1_ground_5 3 rfl rfl)
theorem dX1_ground_122 : decode cX1_ground 122 = .ok (.i2l, 1) := dk_133 (dk_at dksX1_ground_5 4 rfl rfl)
theorem dX1_ground_123 : decode cX1_ground 123 = .ok (.ladd, 1) := dk_97 (dk_at dksX1_ground_5 5 rfl rfl)
theorem dX1_ground_124 : decode cX1_ground 124 = .ok (.lastore, 1) := dk_80 (dk_at dksX1_ground_5 6 rfl rfl)
theorem dX1_ground_125 : decode cX1_ground 125 = .ok (.aload 7, 2) := dk_25 7 (dk_at dksX1_ground_5 7 rfl rfl)
theorem dX1_ground_127 : decode cX1_ground 127 = .ok (.iload_n 3, 1) := dk_29 (dk_at dksX1_ground_5 9 rfl rfl)
theorem dX1_ground_128 : decode cX1_ground 128 = .ok (.putfield 96, 3) := dk_181 0 96 (dk_at dksX1_ground_5 10 rfl rfl)
theorem dX1_ground_131 : decode cX1_ground 131 = .ok (.aload 7, 2) := dk_25 7 (dk_at dksX1_ground_5 13 rfl rfl)
theorem dX1_ground_133 : decode cX1_ground 133 = .ok (.iload 4, 2) := dk_21 4 (dk_at dksX1_ground_5 15 rfl rfl)
theorem dX1_ground_135 : decode cX1_ground 135 = .ok (.putfield 99, 3) := dk_181 0 99 (dk_at dksX1_ground_5 17 rfl rfl)
theorem dX1_ground_138 : decode cX1_ground 138 = .ok (.aload 7, 2) := dk_25 7 (dk_at dksX1_ground_5 20 rfl rfl)
theorem dX1_ground_140 : decode cX1_ground 140 = .ok (.iload 5, 2) := dk_21 5 (dk_at dksX1_ground_5 22 rfl rfl)
theorem dX1_ground_142 : decode cX1_ground 142 = .ok (.putfield 90, 3) := dk_181 0 90 (dk_at dksX1_ground_6 0 rfl rfl)
theorem dX1_ground_145 : decode cX1_ground 145 = .ok (.aload 7, 2) := dk_25 7 (dk_at dksX1_ground_6 3 rfl rfl)
theorem dX1_ground_147 : decode cX1_ground 147 = .ok (.iload 6, 2) := dk_21 6 (dk_at dksX1_ground_6 5 rfl rfl)
theorem dX1_ground_149 : decode cX1_ground 149 = .ok (.putfield 102, 3) := dk_181 0 102 (dk_at dksX1_ground_6 7 rfl rfl)
theorem dX1_ground_152 : decode cX1_ground 152 = .ok (.return_, 1) := dk_177 (dk_at dksX1_ground_6 10 rfl rfl)
abbrev cX1_layerAt : ByteArray := prog_1_method_7_code
def yX1_layerAt : MethodName := ⟨RX1, "layerAt", "(II)LWakeground$Layer;"⟩
def dkwX1_layerAt_0 : List UInt8 := [42, 27, 182, 0, 75, 78, 28, 3, 7, 184, 0, 67, 184, 0, 71, 45, 180, 0, 79, 28, 50, 176]
abbrev dktX1_layerAt_0 : List UInt8 := dkwX1_layerAt_0 ++ []
theorem dksX1_layerAt_0 : cX1_layerAt.data.toList.drop 0 = dktX1_layerAt_0 := by decide +kernel
theorem dX1_layerAt_0 : decode cX1_layerAt 0 = .ok (.aload_n 0, 1) := dk_42 (dk_at dksX1_layerAt_0 0 rfl rfl)
theorem dX1_layerAt_1 : decode cX1_layerAt 1 = .ok (.iload_n 1, 1) := dk_27 (dk_at dksX1_layerAt_0 1 rfl rfl)
theorem dX1_layerAt_2 : decode cX1_layerAt 2 = .ok (.invokevirtual 75, 3) := dk_182 0 75 (dk_at dksX1_layerAt_0 2 rfl rfl)
theorem dX1_layerAt_5 : decode cX1_layerAt 5 = .ok (.astore_n 3, 1) := dk_78 (dk_at dksX1_layerAt_0 5 rfl rfl)
theorem dX1_layerAt_6 : decode cX1_layerAt 6 = .ok (.iload_n 2, 1) := dk_28 (dk_at dksX1_layerAt_0 6 rfl rfl)
theorem dX1_layerAt_7 : decode cX1_layerAt 7 = .ok (.iconst 0, 1) := dk_3 (dk_at dksX1_layerAt_0 7 rfl rfl)
theorem dX1_layerAt_8 : decode cX1_layerAt 8 = .ok (.iconst 4, 1) := dk_7 (dk_at dksX1_layerAt_0 8 rfl rfl)
theorem dX1_layerAt_9 : decode cX1_layerAt 9 = .ok (.invokestatic 67, 3) := dk_184 0 67 (dk_at dksX1_layerAt_0 9 rfl rfl)
theorem dX1_layerAt_12 : decode cX1_layerAt 12 = .ok (.invokestatic 71, 3) := dk_184 0 71 (dk_at dksX1_layerAt_0 12 rfl rfl)
theorem dX1_layerAt_15 : decode cX1_layerAt 15 = .ok (.aload_n 3, 1) := dk_45 (dk_at dksX1_layerAt_0 15 rfl rfl)
theorem dX1_layerAt_16 : decode cX1_layerAt 16 = .ok (.getfield 79, 3) := dk_180 0 79 (dk_at dksX1_layerAt_0 16 rfl rfl)
theorem dX1_layerAt_19 : decode cX1_layerAt 19 = .ok (.iload_n 2, 1) := dk_28 (dk_at dksX1_layerAt_0 19 rfl rfl)
theorem dX1_layerAt_20 : decode cX1_layerAt 20 = .ok (.aaload, 1) := dk_50 (dk_at dksX1_layerAt_0 20 rfl rfl)
theorem dX1_layerAt_21 : decode cX1_layerAt 21 = .ok (.areturn, 1) := dk_176 (dk_at dksX1_layerAt_0 21 rfl rfl)
abbrev cX1_cellAt : ByteArray := prog_1_method_6_code
def yX1_cellAt : MethodName := ⟨RX1, "cellAt", "(I)LWakeground$Cell;"⟩
def dkwX1_cellAt_0 : List UInt8 := [27, 3, 16, 24, 184, 0, 67, 184, 0, 71, 42, 180, 0, 11, 27, 50, 176]
abbrev dktX1_cellAt_0 : List UInt8 := dkwX1_cellAt_0 ++ []
theorem dksX1_cellAt_0 : cX1_cellAt.data.toList.drop 0 = dktX1_cellAt_0 := by decide +kernel
theorem dX1_cellAt_0 : decode cX1_cellAt 0 = .ok (.iload_n 1, 1) := dk_27 (dk_at dksX1_cellAt_0 0 rfl rfl)
theorem dX1_cellAt_1 : decode cX1_cellAt 1 = .ok (.iconst 0, 1) := dk_3 (dk_at dksX1_cellAt_0 1 rfl rfl)
theorem dX1_cellAt_2 : decode cX1_cellAt 2 = .ok (.bipush 24, 2) := dk_16 24 (dk_at dksX1_cellAt_0 2 rfl rfl)
theorem dX1_cellAt_4 : decode cX1_cellAt 4 = .ok (.invokestatic 67, 3) := dk_184 0 67 (dk_at dksX1_cellAt_0 4 rfl rfl)
theorem dX1_cellAt_7 : decode cX1_cellAt 7 = .ok (.invokestatic 71, 3) := dk_184 0 71 (dk_at dksX1_cellAt_0 7 rfl rfl)
theorem dX1_cellAt_10 : decode cX1_cellAt 10 = .ok (.aload_n 0, 1) := dk_42 (dk_at dksX1_cellAt_0 10 rfl rfl)
theorem dX1_cellAt_11 : decode cX1_cellAt 11 = .ok (.getfield 11, 3) := dk_180 0 11 (dk_at dksX1_cellAt_0 11 rfl rfl)
theorem dX1_cellAt_14 : decode cX1_cellAt 14 = .ok (.iload_n 1, 1) := dk_27 (dk_at dksX1_cellAt_0 14 rfl rfl)
theorem dX1_cellAt_15 : decode cX1_cellAt 15 = .ok (.aaload, 1) := dk_50 (dk_at dksX1_cellAt_0 15 rfl rfl)
theorem dX1_cellAt_16 : decode cX1_cellAt 16 = .ok (.areturn, 1) := dk_176 (dk_at dksX1_cellAt_0 16 rfl rfl)
abbrev cX1_isIn : ByteArray := prog_1_method_5_code
def yX1_isIn : MethodName := ⟨RX1, "isIn", "(III)Z"⟩
def dkwX1_isIn_0 : List UInt8 := [26, 27, 161, 0, 12, 26, 28, 163, 0, 7, 4, 167, 0, 4, 3, 172]
abbrev dktX1_isIn_0 : List UInt8 := dkwX1_isIn_0 ++ []
theorem dksX1_isIn_0 : cX1_isIn.data.toList.drop 0 = dktX1_isIn_0 := by decide +kernel
theorem dX1_isIn_0 : decode cX1_isIn 0 = .ok (.iload_n 0, 1) := dk_26 (dk_at dksX1_isIn_0 0 rfl rfl)
theorem dX1_isIn_1 : decode cX1_isIn 1 = .ok (.iload_n 1, 1) := dk_27 (dk_at dksX1_isIn_0 1 rfl rfl)
theorem dX1_isIn_2 : decode cX1_isIn 2 = .ok (.if_icmp .lt 12, 3) := dk_161 0 12 (dk_at dksX1_isIn_0 2 rfl rfl)
theorem dX1_isIn_5 : decode cX1_isIn 5 = .ok (.iload_n 0, 1) := dk_26 (dk_at dksX1_isIn_0 5 rfl rfl)
theorem dX1_isIn_6 : decode cX1_isIn 6 = .ok (.iload_n 2, 1) := dk_28 (dk_at dksX1_isIn_0 6 rfl rfl)
theorem dX1_isIn_7 : decode cX1_isIn 7 = .ok (.if_icmp .gt 7, 3) := dk_163 0 7 (dk_at dksX1_isIn_0 7 rfl rfl)
theorem dX1_isIn_10 : decode cX1_isIn 10 = .ok (.iconst 1, 1) := dk_4 (dk_at dksX1_isIn_0 10 rfl rfl)
theorem dX1_isIn_11 : decode cX1_isIn 11 = .ok (.goto 4, 3) := dk_167 0 4 (dk_at dksX1_isIn_0 11 rfl rfl)
theorem dX1_isIn_14 : decode cX1_isIn 14 = .ok (.iconst 0, 1) := dk_3 (dk_at dksX1_isIn_0 14 rfl rfl)
theorem dX1_isIn_15 : decode cX1_isIn 15 = .ok (.ireturn, 1) := dk_172 (dk_at dksX1_isIn_0 15 rfl rfl)
abbrev cX1_known : ByteArray := prog_1_method_2_code
def yX1_known : MethodName := ⟨RX1, "known", "(Z)V"⟩
def dkwX1_known_0 : List UInt8 := [26, 154, 0, 13, 187, 0, 50, 89, 18, 52, 183, 0, 54, 191, 177]
abbrev dktX1_known_0 : List UInt8 := dkwX1_known_0 ++ []
theorem dksX1_known_0 : cX1_known.data.toList.drop 0 = dktX1_known_0 := by decide +kernel
theorem dX1_known_0 : decode cX1_known 0 = .ok (.iload_n 0, 1) := dk_26 (dk_at dksX1_known_0 0 rfl rfl)
theorem dX1_known_1 : decode cX1_known 1 = .ok (.ifCond .ne 13, 3) := dk_154 0 13 (dk_at dksX1_known_0 1 rfl rfl)
theorem dX1_known_4 : decode cX1_known 4 = .ok (.new 50, 3) := dk_187 0 50 (dk_at dksX1_known_0 4 rfl rfl)
theorem dX1_known_7 : decode cX1_known 7 = .ok (.dup, 1) := dk_89 (dk_at dksX1_known_0 7 rfl rfl)
theorem dX1_known_8 : decode cX1_known 8 = .ok (.ldc 52, 2) := dk_18 52 (dk_at dksX1_known_0 8 rfl rfl)
theorem dX1_known_10 : decode cX1_known 10 = .ok (.invokespecial 54, 3) := dk_183 0 54 (dk_at dksX1_known_0 10 rfl rfl)
theorem dX1_known_13 : decode cX1_known 13 = .ok (.athrow, 1) := dk_191 (dk_at dksX1_known_0 13 rfl rfl)
theorem dX1_known_14 : decode cX1_known 14 = .ok (.return_, 1) := dk_177 (dk_at dksX1_known_0 14 rfl rfl)
abbrev cX1_inRange : ByteArray := prog_1_method_3_code
def yX1_inRange : MethodName := ⟨RX1, "inRange", "(Z)V"⟩
def dkwX1_inRange_0 : List UInt8 := [26, 154, 0, 13, 187, 0, 57, 89, 18, 59, 183, 0, 61, 191, 177]
abbrev dktX1_inRange_0 : List UInt8 := dkwX1_inRange_0 ++ []
theorem dksX1_inRange_0 : cX1_inRange.data.toList.drop 0 = dktX1_inRange_0 := by decide +kernel
theorem dX1_inRange_0 : decode cX1_inRange 0 = .ok (.iload_n 0, 1) := dk_26 (dk_at dksX1_inRange_0 0 rfl rfl)
theorem dX1_inRange_1 : decode cX1_inRange 1 = .ok (.ifCond .ne 13, 3) := dk_154 0 13 (dk_at dksX1_inRange_0 1 rfl rfl)
theorem dX1_inRange_4 : decode cX1_inRange 4 = .ok (.new 57, 3) := dk_187 0 57 (dk_at dksX1_inRange_0 4 rfl rfl)
theorem dX1_inRange_7 : decode cX1_inRange 7 = .ok (.dup, 1) := dk_89 (dk_at dksX1_inRange_0 7 rfl rfl)
theorem dX1_inRange_8 : decode cX1_inRange 8 = .ok (.ldc 59, 2) := dk_18 59 (dk_at dksX1_inRange_0 8 rfl rfl)
theorem dX1_inRange_10 : decode cX1_inRange 10 = .ok (.invokespecial 61, 3) := dk_183 0 61 (dk_at dksX1_inRange_0 10 rfl rfl)
theorem dX1_inRange_13 : decode cX1_inRange 13 = .ok (.athrow, 1) := dk_191 (dk_at dksX1_inRange_0 13 rfl rfl)
theorem dX1_inRange_14 : decode cX1_inRange 14 = .ok (.return_, 1) := dk_177 (dk_at dksX1_inRange_0 14 rfl rfl)
abbrev cX1_moss : ByteArray := prog_1_method_9_code
def yX1_moss : MethodName := ⟨RX1, "moss", "(II)I"⟩
def dkwX1_moss_1 : List UInt8 := [181, 0, 105, 21, 4, 172]
abbrev dktX1_moss_1 : List UInt8 := dkwX1_moss_1 ++ []
def dkwX1_moss_0 : List UInt8 := [42, 27, 182, 0, 75, 78, 28, 3, 6, 184, 0, 67, 184, 0, 87, 45, 180, 0, 105, 54, 4, 45, 28]
abbrev dktX1_moss_0 : List UInt8 := dkwX1_moss_0 ++ dktX1_moss_1
theorem dksX1_moss_0 : cX1_moss.data.toList.drop 0 = dktX1_moss_0 := by decide +kernel
theorem dksX1_moss_1 : cX1_moss.data.toList.drop 23 = dktX1_moss_1 := dk_seg dksX1_moss_0 23 rfl rfl
theorem dX1_moss_0 : decode cX1_moss 0 = .ok (.aload_n 0, 1) := dk_42 (dk_at dksX1_moss_0 0 rfl rfl)
theorem dX1_moss_1 : decode cX1_moss 1 = .ok (.iload_n 1, 1) := dk_27 (dk_at dksX1_moss_0 1 rfl rfl)
theorem dX1_moss_2 : decode cX1_moss 2 = .ok (.invokevirtual 75, 3) := dk_182 0 75 (dk_at dksX1_moss_0 2 rfl rfl)
theorem dX1_moss_5 : decode cX1_moss 5 = .ok (.astore_n 3, 1) := dk_78 (dk_at dksX1_moss_0 5 rfl rfl)
theorem dX1_moss_6 : decode cX1_moss 6 = .ok (.iload_n 2, 1) := dk_28 (dk_at dksX1_moss_0 6 rfl rfl)
theorem dX1_moss_7 : decode cX1_moss 7 = .ok (.iconst 0, 1) := dk_3 (dk_at dksX1_moss_0 7 rfl rfl)
theorem dX1_moss_8 : decode cX1_moss 8 = .ok (.iconst 3, 1) := dk_6 (dk_at dksX1_moss_0 8 rfl rfl)
theorem dX1_moss_9 : decode cX1_moss 9 = .ok (.invokestatic 67, 3) := dk_184 0 67 (dk_at dksX1_moss_0 9 rfl rfl)
theorem dX1_moss_12 : decode cX1_moss 12 = .ok (.invokestatic 87, 3) := dk_184 0 87 (dk_at dksX1_moss_0 12 rfl rfl)
theorem dX1_moss_15 : decode cX1_moss 15 = .ok (.aload_n 3, 1) := dk_45 (dk_at dksX1_moss_0 15 rfl rfl)
theorem dX1_moss_16 : decode cX1_moss 16 = .ok (.getfield 105, 3) := dk_180 0 105 (dk_at dksX1_moss_0 16 rfl rfl)
theorem dX1_moss_19 : decode cX1_moss 19 = .ok (.istore 4, 2) := dk_54 4 (dk_at dksX1_moss_0 19 rfl rfl)
theorem dX1_moss_21 : decode cX1_moss 21 = .ok (.aload_n 3, 1) := dk_45 (dk_at dksX1_moss_0 21 rfl rfl)
theorem dX1_moss_22 : decode cX1_moss 22 = .ok (.iload_n 2, 1) := dk_28 (dk_at dksX1_moss_0 22 rfl rfl)
theorem dX1_moss_23 : decode cX1_moss 23 = .ok (.putfield 105, 3) := dk_181 0 105 (dk_at dksX1_moss_1 0 rfl rfl)
theorem dX1_moss_26 : decode cX1_moss 26 = .ok (.iload 4, 2) := dk_21 4 (dk_at dksX1_moss_1 3 rfl rfl)
theorem dX1_moss_28 : decode cX1_moss 28 = .ok (.ireturn, 1) := dk_172 (dk_at dksX1_moss_1 5 rfl rfl)
abbrev cX1_pass : ByteArray := prog_1_method_12_code
def yX1_pass : MethodName := ⟨RX1, "pass", "(III)I"⟩
def dkwX1_pass_3 : List UInt8 := [28, 29, 182, 0, 165, 132, 4, 1, 167, 255, 241, 42, 180, 0, 156, 172]
abbrev dktX1_pass_3 : List UInt8 := dkwX1_pass_3 ++ []
def dkwX1_pass_2 : List UInt8 := [17, 2, 88, 163, 0, 7, 4, 167, 0, 4, 3, 184, 0, 162, 3, 54, 4, 21, 4, 27, 162, 0, 15, 42]
abbrev dktX1_pass_2 : List UInt8 := dkwX1_pass_2 ++ dktX1_pass_3
def dkwX1_pass_1 : List UInt8 := [16, 9, 184, 0, 67, 153, 0, 7, 4, 167, 0, 4, 3, 184, 0, 87, 42, 180, 0, 156, 27, 96]
abbrev dktX1_pass_1 : List UInt8 := dkwX1_pass_1 ++ dktX1_pass_2
def dkwX1_pass_0 : List UInt8 := [27, 4, 16, 24, 184, 0, 67, 153, 0, 28, 28, 16, 206, 16, 30, 184, 0, 67, 153, 0, 17, 29, 3]
abbrev dktX1_pass_0 : List UInt8 := dkwX1_pass_0 ++ dktX1_pass_1
theorem dksX1_pass_0 : cX1_pass.data.toList.drop 0 = dktX1_pass_0 := by decide +kernel
theorem dksX1_pass_1 : cX1_pass.data.toList.drop 23 = dktX1_pass_1 := dk_seg dksX1_pass_0 23 rfl rfl
theorem dksX1_pass_2 : cX1_pass.data.toList.drop 45 = dktX1_pass_2 := dk_seg dksX1_pass_1 22 rfl rfl
theorem dksX1_pass_3 : cX1_pass.data.toList.drop 69 = dktX1_pass_3 := dk_seg dksX1_pass_2 24 rfl rfl
theorem dX1_pass_0 : decode cX1_pass 0 = .ok (.iload_n 1, 1) := dk_27 (dk_at dksX1_pass_0 0 rfl rfl)
theorem dX1_pass_1 : decode cX1_pass 1 = .ok (.iconst 1, 1) := dk_4 (dk_at dksX1_pass_0 1 rfl rfl)
theorem dX1_pass_2 : decode cX1_pass 2 = .ok (.bipush 24, 2) := dk_16 24 (dk_at dksX1_pass_0 2 rfl rfl)
theorem dX1_pass_4 : decode cX1_pass 4 = .ok (.invokestatic 67, 3) := dk_184 0 67 (dk_at dksX1_pass_0 4 rfl rfl)
theorem dX1_pass_7 : decode cX1_pass 7 = .ok (.ifCond .eq 28, 3) := dk_153 0 28 (dk_at dksX1_pass_0 7 rfl rfl)
theorem dX1_pass_10 : decode cX1_pass 10 = .ok (.iload_n 2, 1) := dk_28 (dk_at dksX1_pass_0 10 rfl rfl)
theorem dX1_pass_11 : decode cX1_pass 11 = .ok (.bipush (-50), 2) := dk_16 206 (dk_at dksX1_pass_0 11 rfl rfl)
theorem dX1_pass_13 : decode cX1_pass 13 = .ok (.bipush 30, 2) := dk_16 30 (dk_at dksX1_pass_0 13 rfl rfl)
theorem dX1_pass_15 : decode cX1_pass 15 = .ok (.invokestatic 67, 3) := dk_184 0 67 (dk_at dksX1_pass_0 15 rfl rfl)
theorem dX1_pass_18 : decode cX1_pass 18 = .ok (.ifCond .eq 17, 3) := dk_153 0 17 (dk_at dksX1_pass_0 18 rfl rfl)
theorem dX1_pass_21 : decode cX1_pass 21 = .ok (.iload_n 3, 1) := dk_29 (dk_at dksX1_pass_0 21 rfl rfl)
theorem dX1_pass_22 : decode cX1_pass 22 = .ok (.iconst 0, 1) := dk_3 (dk_at dksX1_pass_0 22 rfl rfl)
theorem dX1_pass_23 : decode cX1_pass 23 = .ok (.bipush 9, 2) := dk_16 9 (dk_at dksX1_pass_1 0 rfl rfl)
theorem dX1_pass_25 : decode cX1_pass 25 = .ok (.invokestatic 67, 3) := dk_184 0 67 (dk_at dksX1_pass_1 2 rfl rfl)
theorem dX1_pass_28 : decode cX1_pass 28 = .ok (.ifCond .eq 7, 3) := dk_153 0 7 (dk_at dksX1_pass_1 5 rfl rfl)
theorem dX1_pass_31 : decode cX1_pass 31 = .ok (.iconst 1, 1) := dk_4 (dk_at dksX1_pass_1 8 rfl rfl)
theorem dX1_pass_32 : decode cX1_pass 32 = .ok (.goto 4, 3) := dk_167 0 4 (dk_at dksX1_pass_1 9 rfl rfl)
theorem dX1_pass_35 : decode cX1_pass 35 = .ok (.iconst 0, 1) := dk_3 (dk_at dksX1_pass_1 12 rfl rfl)
theorem dX1_pass_36 : decode cX1_pass 36 = .ok (.invokestatic 87, 3) := dk_184 0 87 (dk_at dksX1_pass_1 13 rfl rfl)
theorem dX1_pass_39 : decode cX1_pass 39 = .ok (.aload_n 0, 1) := dk_42 (dk_at dksX1_pass_1 16 rfl rfl)
theorem dX1_pass_40 : decode cX1_pass 40 = .ok (.getfield 156, 3) := dk_180 0 156 (dk_at dksX1_pass_1 17 rfl rfl)
theorem dX1_pass_43 : decode cX1_pass 43 = .ok (.iload_n 1, 1) := dk_27 (dk_at dksX1_pass_1 20 rfl rfl)
theorem dX1_pass_44 : decode cX1_pass 44 = .ok (.iadd, 1) := dk_96 (dk_at dksX1_pass_1 21 rfl rfl)
theorem dX1_pass_45 : decode cX1_pass 45 = .ok (.sipush 600, 3) := dk_17 2 88 (dk_at dksX1_pass_2 0 rfl rfl)
theorem dX1_pass_48 : decode cX1_pass 48 = .ok (.if_icmp .gt 7, 3) := dk_163 0 7 (dk_at dksX1_pass_2 3 rfl rfl)
theorem dX1_pass_51 : decode cX1_pass 51 = .ok (.iconst 1, 1) := dk_4 (dk_at dksX1_pass_2 6 rfl rfl)
theorem dX1_pass_52 : decode cX1_pass 52 = .ok (.goto 4, 3) := dk_167 0 4 (dk_at dksX1_pass_2 7 rfl rfl)
theorem dX1_pass_55 : decode cX1_pass 55 = .ok (.iconst 0, 1) := dk_3 (dk_at dksX1_pass_2 10 rfl rfl)
theorem dX1_pass_56 : decode cX1_pass 56 = .ok (.invokestatic 162, 3) := dk_184 0 162 (dk_at dksX1_pass_2 11 rfl rfl)
theorem dX1_pass_59 : decode cX1_pass 59 = .ok (.iconst 0, 1) := dk_3 (dk_at dksX1_pass_2 14 rfl rfl)
theorem dX1_pass_60 : decode cX1_pass 60 = .ok (.istore 4, 2) := dk_54 4 (dk_at dksX1_pass_2 15 rfl rfl)
theorem dX1_pass_62 : decode cX1_pass 62 = .ok (.iload 4, 2) := dk_21 4 (dk_at dksX1_pass_2 17 rfl rfl)
theorem dX1_pass_64 : decode cX1_pass 64 = .ok (.iload_n 1, 1) := dk_27 (dk_at dksX1_pass_2 19 rfl rfl)
theorem dX1_pass_65 : decode cX1_pass 65 = .ok (.if_icmp .ge 15, 3) := dk_162 0 15 (dk_at dksX1_pass_2 20 rfl rfl)
theorem dX1_pass_68 : decode cX1_pass 68 = .ok (.aload_n 0, 1) := dk_42 (dk_at dksX1_pass_2 23 rfl rfl)
theorem dX1_pass_69 : decode cX1_pass 69 = .ok (.iload_n 2, 1) := dk_28 (dk_at dksX1_pass_3 0 rfl rfl)
theorem dX1_pass_70 : decode cX1_pass 70 = .ok (.iload_n 3, 1) := dk_29 (dk_at dksX1_pass_3 1 rfl rfl)
theorem dX1_pass_71 : decode cX1_pass 71 = .ok (.invokevirtual 165, 3) := dk_182 0 165 (dk_at dksX1_pass_3 2 rfl rfl)
theorem dX1_pass_74 : decode cX1_pass 74 = .ok (.iinc 4 1, 3) := dk_132 4 1 (dk_at dksX1_pass_3 5 rfl rfl)
theorem dX1_pass_77 : decode cX1_pass 77 = .ok (.goto (-15), 3) := dk_167 255 241 (dk_at dksX1_pass_3 8 rfl rfl)
theorem dX1_pass_80 : decode cX1_pass 80 = .ok (.aload_n 0, 1) := dk_42 (dk_at dksX1_pass_3 11 rfl rfl)
theorem dX1_pass_81 : decode cX1_pass 81 = .ok (.getfield 156, 3) := dk_180 0 156 (dk_at dksX1_pass_3 12 rfl rfl)
theorem dX1_pass_84 : decode cX1_pass 84 = .ok (.ireturn, 1) := dk_172 (dk_at dksX1_pass_3 15 rfl rfl)
abbrev cX1_allowed : ByteArray := prog_1_method_4_code
def yX1_allowed : MethodName := ⟨RX1, "allowed", "(Z)V"⟩
def dkwX1_allowed_0 : List UInt8 := [26, 154, 0, 13, 187, 0, 62, 89, 18, 64, 183, 0, 66, 191, 177]
abbrev dktX1_allowed_0 : List UInt8 := dkwX1_allowed_0 ++ []
theorem dksX1_allowed_0 : cX1_allowed.data.toList.drop 0 = dktX1_allowed_0 := by decide +kernel
theorem dX1_allowed_0 : decode cX1_allowed 0 = .ok (.iload_n 0, 1) := dk_26 (dk_at dksX1_allowed_0 0 rfl rfl)
theorem dX1_allowed_1 : decode cX1_allowed 1 = .ok (.ifCond .ne 13, 3) := dk_154 0 13 (dk_at dksX1_allowed_0 1 rfl rfl)
theorem dX1_allowed_4 : decode cX1_allowed 4 = .ok (.new 62, 3) := dk_187 0 62 (dk_at dksX1_allowed_0 4 rfl rfl)
theorem dX1_allowed_7 : decode cX1_allowed 7 = .ok (.dup, 1) := dk_89 (dk_at dksX1_allowed_0 7 rfl rfl)
theorem dX1_allowed_8 : decode cX1_allowed 8 = .ok (.ldc 64, 2) := dk_18 64 (dk_at dksX1_allowed_0 8 rfl rfl)
theorem dX1_allowed_10 : decode cX1_allowed 10 = .ok (.invokespecial 66, 3) := dk_183 0 66 (dk_at dksX1_allowed_0 10 rfl rfl)
theorem dX1_allowed_13 : decode cX1_allowed 13 = .ok (.athrow, 1) := dk_191 (dk_at dksX1_allowed_0 13 rfl rfl)
theorem dX1_allowed_14 : decode cX1_allowed 14 = .ok (.return_, 1) := dk_177 (dk_at dksX1_allowed_0 14 rfl rfl)
abbrev cX1_passOne : ByteArray := prog_1_method_11_code
def yX1_passOne : MethodName := ⟨RX1, "passOne", "(II)V"⟩
def dkwX1_passOne_12 : List UInt8 := [132, 4, 1, 167, 255, 222, 42, 89, 180, 0, 156, 4, 96, 181, 0, 156, 177]
abbrev dktX1_passOne_12 : List UInt8 := dkwX1_passOne_12 ++ []
def dkwX1_passOne_11 : List UInt8 := [162, 0, 28, 42, 180, 0, 22, 21, 4, 182, 0, 145, 192, 0, 154, 42, 180, 0, 156, 182, 0, 159]
abbrev dktX1_passOne_11 : List UInt8 := dkwX1_passOne_11 ++ dktX1_passOne_12
def dkwX1_passOne_10 : List UInt8 := [192, 0, 149, 182, 0, 151, 132, 4, 1, 167, 255, 226, 3, 54, 4, 21, 4, 42, 180, 0, 22, 182, 0, 141]
abbrev dktX1_passOne_10 : List UInt8 := dkwX1_passOne_10 ++ dktX1_passOne_11
def dkwX1_passOne_9 : List UInt8 := [3, 54, 4, 21, 4, 42, 180, 0, 18, 182, 0, 141, 162, 0, 24, 42, 180, 0, 18, 21, 4, 182, 0, 145]
abbrev dktX1_passOne_9 : List UInt8 := dkwX1_passOne_9 ++ dktX1_passOne_10
def dkwX1_passOne_8 : List UInt8 := [21, 5, 162, 0, 22, 25, 4, 21, 6, 50, 58, 7, 25, 7, 27, 182, 0, 137, 132, 6, 1, 167, 255, 233]
abbrev dktX1_passOne_8 : List UInt8 := dkwX1_passOne_8 ++ dktX1_passOne_9
def dkwX1_passOne_7 : List UInt8 := [198, 0, 7, 45, 182, 0, 134, 42, 180, 0, 11, 58, 4, 25, 4, 190, 54, 5, 3, 54, 6, 21, 6]
abbrev dktX1_passOne_7 : List UInt8 := dkwX1_passOne_7 ++ dktX1_passOne_8
def dkwX1_passOne_6 : List UInt8 := [132, 5, 1, 167, 255, 235, 27, 16, 236, 163, 0, 10, 42, 182, 0, 130, 167, 0, 4, 1, 78, 45]
abbrev dktX1_passOne_6 : List UInt8 := dkwX1_passOne_6 ++ dktX1_passOne_7
def dkwX1_passOne_5 : List UInt8 := [54, 4, 3, 54, 5, 21, 5, 21, 4, 162, 0, 20, 45, 21, 5, 50, 58, 6, 25, 6, 182, 0, 127]
abbrev dktX1_passOne_5 : List UInt8 := dkwX1_passOne_5 ++ dktX1_passOne_6
def dkwX1_passOne_4 : List UInt8 := [21, 5, 50, 58, 6, 25, 6, 182, 0, 124, 132, 5, 1, 167, 255, 235, 42, 180, 0, 11, 78, 45, 190]
abbrev dktX1_passOne_4 : List UInt8 := dkwX1_passOne_4 ++ dktX1_passOne_5
def dkwX1_passOne_3 : List UInt8 := [167, 255, 199, 42, 180, 0, 11, 78, 45, 190, 54, 4, 3, 54, 5, 21, 5, 21, 4, 162, 0, 20, 45]
abbrev dktX1_passOne_3 : List UInt8 := dkwX1_passOne_3 ++ dktX1_passOne_4
def dkwX1_passOne_2 : List UInt8 := [181, 0, 112, 42, 180, 0, 32, 3, 92, 47, 25, 6, 27, 182, 0, 121, 133, 97, 80, 132, 5, 1]
abbrev dktX1_passOne_2 : List UInt8 := dkwX1_passOne_2 ++ dktX1_passOne_3
def dkwX1_passOne_1 : List UInt8 := [58, 6, 25, 6, 27, 156, 0, 18, 16, 9, 25, 6, 180, 0, 112, 28, 96, 184, 0, 115, 167, 0, 4, 3]
abbrev dktX1_passOne_1 : List UInt8 := dkwX1_passOne_1 ++ dktX1_passOne_2
def dkwX1_passOne_0 : List UInt8 := [42, 180, 0, 11, 78, 45, 190, 54, 4, 3, 54, 5, 21, 5, 21, 4, 162, 0, 56, 45, 21, 5, 50]
abbrev dktX1_passOne_0 : List UInt8 := dkwX1_passOne_0 ++ dktX1_passOne_1
theorem dksX1_passOne_0 : cX1_passOne.data.toList.drop 0 = dktX1_passOne_0 := by decide +kernel
theorem dksX1_passOne_1 : cX1_passOne.data.toList.drop 23 = dktX1_passOne_1 := dk_seg dksX1_passOne_0 23 rfl rfl
theorem dksX1_passOne_2 : cX1_passOne.data.toList.drop 47 = dktX1_passOne_2 := dk_seg dksX1_passOne_1 24 rfl rfl
theorem dksX1_passOne_3 : cX1_passOne.data.toList.drop 69 = dktX1_passOne_3 := dk_seg dksX1_passOne_2 22 rfl rfl
theorem dksX1_passOne_4 : cX1_passOne.data.toList.drop 92 = dktX1_passOne_4 := dk_seg dksX1_passOne_3 23 rfl rfl
theorem dksX1_passOne_5 : cX1_passOne.data.toList.drop 115 = dktX1_passOne_5 := dk_seg dksX1_passOne_4 23 rfl rfl
theorem dksX1_passOne_6 : cX1_passOne.data.toList.drop 138 = dktX1_passOne_6 := dk_seg dksX1_passOne_5 23 rfl rfl
theorem dksX1_passOne_7 : cX1_passOne.data.toList.drop 160 = dktX1_passOne_7 := dk_seg dksX1_passOne_6 22 rfl rfl
theorem dksX1_passOne_8 : cX1_passOne.data.toList.drop 183 = dktX1_passOne_8 := dk_seg dksX1_passOne_7 23 rfl rfl
theorem dksX1_passOne_9 : cX1_passOne.data.toList.drop 207 = dktX1_passOne_9 := dk_seg dksX1_passOne_8 24 rfl rfl
theorem dksX1_passOne_10 : cX1_passOne.data.toList.drop 231 = dktX1_passOne_10 := dk_seg dksX1_passOne_9 24 rfl rfl
theorem dksX1_passOne_11 : cX1_passOne.data.toList.drop 255 = dktX1_passOne_11 := dk_seg dksX1_passOne_10 24 rfl rfl
theorem dksX1_passOne_12 : cX1_passOne.data.toList.drop 277 = dktX1_passOne_12 := dk_seg dksX1_passOne_11 22 rfl rfl
theorem dX1_passOne_0 : decode cX1_passOne 0 = .ok (.aload_n 0, 1) := dk_42 (dk_at dksX1_passOne_0 0 rfl rfl)
theorem dX1_passOne_1 : decode cX1_passOne 1 = .ok (.getfield 11, 3) := dk_180 0 11 (dk_at dksX1_passOne_0 1 rfl rfl)
theorem dX1_passOne_4 : decode cX1_passOne 4 = .ok (.astore_n 3, 1) := dk_78 (dk_at dksX1_passOne_0 4 rfl rfl)
theorem dX1_passOne_5 : decode cX1_passOne 5 = .ok (.aload_n 3, 1) := dk_45 (dk_at dksX1_passOne_0 5 rfl rfl)
theorem dX1_passOne_6 : decode cX1_passOne 6 = .ok (.arraylength, 1) := dk_190 (dk_at dksX1_passOne_0 6 rfl rfl)
theorem dX1_passOne_7 : decode cX1_passOne 7 = .ok (.istore 4, 2) := dk_54 4 (dk_at dksX1_passOne_0 7 rfl rfl)
theorem dX1_passOne_9 : decode cX1_passOne 9 = .ok (.iconst 0, 1) := dk_3 (dk_at dksX1_passOne_0 9 rfl rfl)
theorem dX1_passOne_10 : decode cX1_passOne 10 = .ok (.istore 5, 2) := dk_54 5 (dk_at dksX1_passOne_0 10 rfl rfl)
theorem dX1_passOne_12 : decode cX1_passOne 12 = .ok (.iload 5, 2) := dk_21 5 (dk_at dksX1_passOne_0 12 rfl rfl)
theorem dX1_passOne_14 : decode cX1_passOne 14 = .ok (.iload 4, 2) := dk_21 4 (dk_at dksX1_passOne_0 14 rfl rfl)
theorem dX1_passOne_16 : decode cX1_passOne 16 = .ok (.if_icmp .ge 56, 3) := dk_162 0 56 (dk_at dksX1_passOne_0 16 rfl rfl)
theorem dX1_passOne_19 : decode cX1_passOne 19 = .ok (.aload_n 3, 1) := dk_45 (dk_at dksX1_passOne_0 19 rfl rfl)
theorem dX1_passOne_20 : decode cX1_passOne 20 = .ok (.iload 5, 2) := dk_21 5 (dk_at dksX1_passOne_0 20 rfl rfl)
theorem dX1_passOne_22 : decode cX1_passOne 22 = .ok (.aaload, 1) := dk_50 (dk_at dksX1_passOne_0 22 rfl rfl)
theorem dX1_passOne_23 : decode cX1_passOne 23 = .ok (.astore 6, 2) := dk_58 6 (dk_at dksX1_passOne_1 0 rfl rfl)
theorem dX1_passOne_25 : decode cX1_passOne 25 = .ok (.aload 6, 2) := dk_25 6 (dk_at dksX1_passOne_1 2 rfl rfl)
theorem dX1_passOne_27 : decode cX1_passOne 27 = .ok (.iload_n 1, 1) := dk_27 (dk_at dksX1_passOne_1 4 rfl rfl)
theorem dX1_passOne_28 : decode cX1_passOne 28 = .ok (.ifCond .ge 18, 3) := dk_156 0 18 (dk_at dksX1_passOne_1 5 rfl rfl)
theorem dX1_passOne_31 : decode cX1_passOne 31 = .ok (.bipush 9, 2) := dk_16 9 (dk_at dksX1_passOne_1 8 rfl rfl)
theorem dX1_passOne_33 : decode cX1_passOne 33 = .ok (.aload 6, 2) := dk_25 6 (dk_at dksX1_passOne_1 10 rfl rfl)
theorem dX1_passOne_35 : decode cX1_passOne 35 = .ok (.getfield 112, 3) := dk_180 0 112 (dk_at dksX1_passOne_1 12 rfl rfl)
theorem dX1_passOne_38 : decode cX1_passOne 38 = .ok (.iload_n 2, 1) := dk_28 (dk_at dksX1_passOne_1 15 rfl rfl)
theorem dX1_passOne_39 : decode cX1_passOne 39 = .ok (.iadd, 1) := dk_96 (dk_at dksX1_passOne_1 16 rfl rfl)
theorem dX1_passOne_40 : decode cX1_passOne 40 = .ok (.invokestatic 115, 3) := dk_184 0 115 (dk_at dksX1_passOne_1 17 rfl rfl)
theorem dX1_passOne_43 : decode cX1_passOne 43 = .ok (.goto 4, 3) := dk_167 0 4 (dk_at dksX1_passOne_1 20 rfl rfl)
theorem dX1_passOne_46 : decode cX1_passOne 46 = .ok (.iconst 0, 1) := dk_3 (dk_at dksX1_passOne_1 23 rfl rfl)
theorem dX1_passOne_47 : decode cX1_passOne 47 = .ok (.putfield 112, 3) := dk_181 0 112 (dk_at dksX1_passOne_2 0 rfl rfl)
theorem dX1_passOne_50 : decode cX1_passOne 50 = .ok (.aload_n 0, 1) := dk_42 (dk_at dksX1_passOne_2 3 rfl rfl)
theorem dX1_passOne_51 : decode cX1_passOne 51 = .ok (.getfield 32, 3) := dk_180 0 32 (dk_at dksX1_passOne_2 4 rfl rfl)
theorem dX1_passOne_54 : decode cX1_passOne 54 = .ok (.iconst 0, 1) := dk_3 (dk_at dksX1_passOne_2 7 rfl rfl)
theorem dX1_passOne_55 : decode cX1_passOne 55 = .ok (.dup2, 1) := dk_92 (dk_at dksX1_passOne_2 8 rfl rfl)
theorem dX1_passOne_56 : decode cX1_passOne 56 = .ok (.laload, 1) := dk_47 (dk_at dksX1_passOne_2 9 rfl rfl)
theorem dX1_passOne_57 : decode cX1_passOne 57 = .ok (.aload 6, 2) := dk_25 6 (dk_at dksX1_passOne_2 10 rfl rfl)
theorem dX1_passOne_59 : decode cX1_passOne 59 = .ok (.iload_n 1, 1) := dk_27 (dk_at dksX1_passOne_2 12 rfl rfl)
theorem dX1_passOne_60 : decode cX1_passOne 60 = .ok (.invokevirtual 121, 3) := dk_182 0 121 (dk_at dksX1_passOne_2 13 rfl rfl)
theorem dX1_passOne_63 : decode cX1_passOne 63 = .ok (.i2l, 1) := dk_133 (dk_at dksX1_passOne_2 16 rfl rfl)
theorem dX1_passOne_64 : decode cX1_passOne 64 = .ok (.ladd, 1) := dk_97 (dk_at dksX1_passOne_2 17 rfl rfl)
theorem dX1_passOne_65 : decode cX1_passOne 65 = .ok (.lastore, 1) := dk_80 (dk_at dksX1_passOne_2 18 rfl rfl)
theorem dX1_passOne_66 : decode cX1_passOne 66 = .ok (.iinc 5 1, 3) := dk_132 5 1 (dk_at dksX1_passOne_2 19 rfl rfl)
theorem dX1_passOne_69 : decode cX1_passOne 69 = .ok (.goto (-57), 3) := dk_167 255 199 (dk_at dksX1_passOne_3 0 rfl rfl)
theorem dX1_passOne_72 : decode cX1_passOne 72 = .ok (.aload_n 0, 1) := dk_42 (dk_at dksX1_passOne_3 3 rfl rfl)
theorem dX1_passOne_73 : decode cX1_passOne 73 = .ok (.getfield 11, 3) := dk_180 0 11 (dk_at dksX1_passOne_3 4 rfl rfl)
theorem dX1_passOne_76 : decode cX1_passOne 76 = .ok (.astore_n 3, 1) := dk_78 (dk_at dksX1_passOne_3 7 rfl rfl)
theorem dX1_passOne_77 : decode cX1_passOne 77 = .ok (.aload_n 3, 1) := dk_45 (dk_at dksX1_passOne_3 8 rfl rfl)
theorem dX1_passOne_78 : decode cX1_passOne 78 = .ok (.arraylength, 1) := dk_190 (dk_at dksX1_passOne_3 9 rfl rfl)
theorem dX1_passOne_79 : decode cX1_passOne 79 = .ok (.istore 4, 2) := dk_54 4 (dk_at dksX1_passOne_3 10 rfl rfl)
theorem dX1_passOne_81 : decode cX1_passOne 81 = .ok (.iconst 0, 1) := dk_3 (dk_at dksX1_passOne_3 12 rfl rfl)
theorem dX1_passOne_82 : decode cX1_passOne 82 = .ok (.istore 5, 2) := dk_54 5 (dk_at dksX1_passOne_3 13 rfl rfl)
theorem dX1_passOne_84 : decode cX1_passOne 84 = .ok (.iload 5, 2) := dk_21 5 (dk_at dksX1_passOne_3 15 rfl rfl)
theorem dX1_passOne_86 : decode cX1_passOne 86 = .ok (.iload 4, 2) := dk_21 4 (dk_at dksX1_passOne_3 17 rfl rfl)
theorem dX1_passOne_88 : decode cX1_passOne 88 = .ok (.if_icmp .ge 20, 3) := dk_162 0 20 (dk_at dksX1_passOne_3 19 rfl rfl)
theorem dX1_passOne_91 : decode cX1_passOne 91 = .ok (.aload_n 3, 1) := dk_45 (dk_at dksX1_passOne_3 22 rfl rfl)
theorem dX1_passOne_92 : decode cX1_passOne 92 = .ok (.iload 5, 2) := dk_21 5 (dk_at dksX1_passOne_4 0 rfl rfl)
theorem dX1_passOne_94 : decode cX1_passOne 94 = .ok (.aaload, 1) := dk_50 (dk_at dksX1_passOne_4 2 rfl rfl)
theorem dX1_passOne_95 : decode cX1_passOne 95 = .ok (.astore 6, 2) := dk_58 6 (dk_at dksX1_passOne_4 3 rfl rfl)
theorem dX1_passOne_97 : decode cX1_passOne 97 = .ok (.aload 6, 2) := dk_25 6 (dk_at dksX1_passOne_4 5 rfl rfl)
theorem dX1_passOne_99 : decode cX1_passOne 99 = .ok (.invokevirtual 124, 3) := dk_182 0 124 (dk_at dksX1_passOne_4 7 rfl rfl)
theorem dX1_passOne_102 : decode cX1_passOne 102 = .ok (.iinc 5 1, 3) := dk_132 5 1 (dk_at dksX1_passOne_4 10 rfl rfl)
theorem dX1_passOne_105 : decode cX1_passOne 105 = .ok (.goto (-21), 3) := dk_167 255 235 (dk_at dksX1_passOne_4 13 rfl rfl)
theorem dX1_passOne_108 : decode cX1_passOne 108 = .ok (.aload_n 0, 1) := dk_42 (dk_at dksX1_passOne_4 16 rfl rfl)
theorem dX1_passOne_109 : decode cX1_passOne 109 = .ok (.getfield 11, 3) := dk_180 0 11 (dk_at dksX1_passOne_4 17 rfl rfl)
theorem dX1_passOne_112 : decode cX1_passOne 112 = .ok (.astore_n 3, 1) := dk_78 (dk_at dksX1_passOne_4 20 rfl rfl)
theorem dX1_passOne_113 : decode cX1_passOne 113 = .ok (.aload_n 3, 1) := dk_45 (dk_at dksX1_passOne_4 21 rfl rfl)
theorem dX1_passOne_114 : decode cX1_passOne 114 = .ok (.arraylength, 1) := dk_190 (dk_at dksX1_passOne_4 22 rfl rfl)
theorem dX1_passOne_115 : decode cX1_passOne 115 = .ok (.istore 4, 2) := dk_54 4 (dk_at dksX1_passOne_5 0 rfl rfl)
theorem dX1_passOne_117 : decode cX1_passOne 117 = .ok (.iconst 0, 1) := dk_3 (dk_at dksX1_passOne_5 2 rfl rfl)
theorem dX1_passOne_118 : decode cX1_passOne 118 = .ok (.istore 5, 2) := dk_54 5 (dk_at dksX1_passOne_5 3 rfl rfl)
theorem dX1_passOne_120 : decode cX1_passOne 120 = .ok (.iload 5, 2) := dk_21 5 (dk_at dksX1_passOne_5 5 rfl rfl)
theorem dX1_passOne_122 : decode cX1_passOne 122 = .ok (.iload 4, 2) := dk_21 4 (dk_at dksX1_passOne_5 7 rfl rfl)
theorem dX1_passOne_124 : decode cX1_passOne 124 = .ok (.if_icmp .ge 20, 3) := dk_162 0 20 (dk_at dksX1_passOne_5 9 rfl rfl)
theorem dX1_passOne_127 : decode cX1_passOne 127 = .ok (.aload_n 3, 1) := dk_45 (dk_at dksX1_passOne_5 12 rfl rfl)
theorem dX1_passOne_128 : decode cX1_passOne 128 = .ok (.iload 5, 2) := dk_21 5 (dk_at dksX1_passOne_5 13 rfl rfl)
theorem dX1_passOne_130 : decode cX1_passOne 130 = .ok (.aaload, 1) := dk_50 (dk_at dksX1_passOne_5 15 rfl rfl)
theorem dX1_passOne_131 : decode cX1_passOne 131 = .ok (.astore 6, 2) := dk_58 6 (dk_at dksX1_passOne_5 16 rfl rfl)
theorem dX1_passOne_133 : decode cX1_passOne 133 = .ok (.aload 6, 2) := dk_25 6 (dk_at dksX1_passOne_5 18 rfl rfl)
theorem dX1_passOne_135 : decode cX1_passOne 135 = .ok (.invokevirtual 127, 3) := dk_182 0 127 (dk_at dksX1_passOne_5 20 rfl rfl)
theorem dX1_passOne_138 : decode cX1_passOne 138 = .ok (.iinc 5 1, 3) := dk_132 5 1 (dk_at dksX1_passOne_6 0 rfl rfl)
theorem dX1_passOne_141 : decode cX1_passOne 141 = .ok (.goto (-21), 3) := dk_167 255 235 (dk_at dksX1_passOne_6 3 rfl rfl)
theorem dX1_passOne_144 : decode cX1_passOne 144 = .ok (.iload_n 1, 1) := dk_27 (dk_at dksX1_passOne_6 6 rfl rfl)
theorem dX1_passOne_145 : decode cX1_passOne 145 = .ok (.bipush (-20), 2) := dk_16 236 (dk_at dksX1_passOne_6 7 rfl rfl)
theorem dX1_passOne_147 : decode cX1_passOne 147 = .ok (.if_icmp .gt 10, 3) := dk_163 0 10 (dk_at dksX1_passOne_6 9 rfl rfl)
theorem dX1_passOne_150 : decode cX1_passOne 150 = .ok (.aload_n 0, 1) := dk_42 (dk_at dksX1_passOne_6 12 rfl rfl)
theorem dX1_passOne_151 : decode cX1_passOne 151 = .ok (.invokevirtual 130, 3) := dk_182 0 130 (dk_at dksX1_passOne_6 13 rfl rfl)
theorem dX1_passOne_154 : decode cX1_passOne 154 = .ok (.goto 4, 3) := dk_167 0 4 (dk_at dksX1_passOne_6 16 rfl rfl)
theorem dX1_passOne_157 : decode cX1_passOne 157 = .ok (.aconst_null, 1) := dk_1 (dk_at dksX1_passOne_6 19 rfl rfl)
theorem dX1_passOne_158 : decode cX1_passOne 158 = .ok (.astore_n 3, 1) := dk_78 (dk_at dksX1_passOne_6 20 rfl rfl)
theorem dX1_passOne_159 : decode cX1_passOne 159 = .ok (.aload_n 3, 1) := dk_45 (dk_at dksX1_passOne_6 21 rfl rfl)
theorem dX1_passOne_160 : decode cX1_passOne 160 = .ok (.ifnull 7, 3) := dk_198 0 7 (dk_at dksX1_passOne_7 0 rfl rfl)
theorem dX1_passOne_163 : decode cX1_passOne 163 = .ok (.aload_n 3, 1) := dk_45 (dk_at dksX1_passOne_7 3 rfl rfl)
theorem dX1_passOne_164 : decode cX1_passOne 164 = .ok (.invokevirtual 134, 3) := dk_182 0 134 (dk_at dksX1_passOne_7 4 rfl rfl)
theorem dX1_passOne_167 : decode cX1_passOne 167 = .ok (.aload_n 0, 1) := dk_42 (dk_at dksX1_passOne_7 7 rfl rfl)
theorem dX1_passOne_168 : decode cX1_passOne 168 = .ok (.getfield 11, 3) := dk_180 0 11 (dk_at dksX1_passOne_7 8 rfl rfl)
theorem dX1_passOne_171 : decode cX1_passOne 171 = .ok (.astore 4, 2) := dk_58 4 (dk_at dksX1_passOne_7 11 rfl rfl)
theorem dX1_passOne_173 : decode cX1_passOne 173 = .ok (.aload 4, 2) := dk_25 4 (dk_at dksX1_passOne_7 13 rfl rfl)
theorem dX1_passOne_175 : decode cX1_passOne 175 = .ok (.arraylength, 1) := dk_190 (dk_at dksX1_passOne_7 15 rfl rfl)
theorem dX1_passOne_176 : decode cX1_passOne 176 = .ok (.istore 5, 2) := dk_54 5 (dk_at dksX1_passOne_7 16 rfl rfl)
theorem dX1_passOne_178 : decode cX1_passOne 178 = .ok (.iconst 0, 1) := dk_3 (dk_at dksX1_passOne_7 18 rfl rfl)
theorem dX1_passOne_179 : decode cX1_passOne 179 = .ok (.istore 6, 2) := dk_54 6 (dk_at dksX1_passOne_7 19 rfl rfl)
theorem dX1_passOne_181 : decode cX1_passOne 181 = .ok (.iload 6, 2) := dk_21 6 (dk_at dksX1_passOne_7 21 rfl rfl)
theorem dX1_passOne_183 : decode cX1_passOne 183 = .ok (.iload 5, 2) := dk_21 5 (dk_at dksX1_passOne_8 0 rfl rfl)
theorem dX1_passOne_185 : decode cX1_passOne 185 = .ok (.if_icmp .ge 22, 3) := dk_162 0 22 (dk_at dksX1_passOne_8 2 rfl rfl)
theorem dX1_passOne_188 : decode cX1_passOne 188 = .ok (.aload 4, 2) := dk_25 4 (dk_at dksX1_passOne_8 5 rfl rfl)
theorem dX1_passOne_190 : decode cX1_passOne 190 = .ok (.iload 6, 2) := dk_21 6 (dk_at dksX1_passOne_8 7 rfl rfl)
theorem dX1_passOne_192 : decode cX1_passOne 192 = .ok (.aaload, 1) := dk_50 (dk_at dksX1_passOne_8 9 rfl rfl)
theorem dX1_passOne_193 : decode cX1_passOne 193 = .ok (.astore 7, 2) := dk_58 7 (dk_at dksX1_passOne_8 10 rfl rfl)
theorem dX1_passOne_195 : decode cX1_passOne 195 = .ok (.aload 7, 2) := dk_25 7 (dk_at dksX1_passOne_8 12 rfl rfl)
theorem dX1_passOne_197 : decode cX1_passOne 197 = .ok (.iload_n 1, 1) := dk_27 (dk_at dksX1_passOne_8 14 rfl rfl)
theorem dX1_passOne_198 : decode cX1_passOne 198 = .ok (.invokevirtual 137, 3) := dk_182 0 137 (dk_at dksX1_passOne_8 15 rfl rfl)
theorem dX1_passOne_201 : decode cX1_passOne 201 = .ok (.iinc 6 1, 3) := dk_132 6 1 (dk_at dksX1_passOne_8 18 rfl rfl)
theorem dX1_passOne_204 : decode cX1_passOne 204 = .ok (.goto (-23), 3) := dk_167 255 233 (dk_at dksX1_passOne_8 21 rfl rfl)
theorem dX1_passOne_207 : decode cX1_passOne 207 = .ok (.iconst 0, 1) := dk_3 (dk_at dksX1_passOne_9 0 rfl rfl)
theorem dX1_passOne_208 : decode cX1_passOne 208 = .ok (.istore 4, 2) := dk_54 4 (dk_at dksX1_passOne_9 1 rfl rfl)
theorem dX1_passOne_210 : decode cX1_passOne 210 = .ok (.iload 4, 2) := dk_21 4 (dk_at dksX1_passOne_9 3 rfl rfl)
theorem dX1_passOne_212 : decode cX1_passOne 212 = .ok (.aload_n 0, 1) := dk_42 (dk_at dksX1_passOne_9 5 rfl rfl)
theorem dX1_passOne_213 : decode cX1_passOne 213 = .ok (.getfield 18, 3) := dk_180 0 18 (dk_at dksX1_passOne_9 6 rfl rfl)
theorem dX1_passOne_216 : decode cX1_passOne 216 = .ok (.invokevirtual 141, 3) := dk_182 0 141 (dk_at dksX1_passOne_9 9 rfl rfl)
theorem dX1_passOne_219 : decode cX1_passOne 219 = .ok (.if_icmp .ge 24, 3) := dk_162 0 24 (dk_at dksX1_passOne_9 12 rfl rfl)
theorem dX1_passOne_222 : decode cX1_passOne 222 = .ok (.aload_n 0, 1) := dk_42 (dk_at dksX1_passOne_9 15 rfl rfl)
theorem dX1_passOne_223 : decode cX1_passOne 223 = .ok (.getfield 18, 3) := dk_180 0 18 (dk_at dksX1_passOne_9 16 rfl rfl)
theorem dX1_passOne_226 : decode cX1_passOne 226 = .ok (.iload 4, 2) := dk_21 4 (dk_at dksX1_passOne_9 19 rfl rfl)
theorem dX1_passOne_228 : decode cX1_passOne 228 = .ok (.invokevirtual 145, 3) := dk_182 0 145 (dk_at dksX1_passOne_9 21 rfl rfl)
theorem dX1_passOne_231 : decode cX1_passOne 231 = .ok (.checkcast 149, 3) := dk_192 0 149 (dk_at dksX1_passOne_10 0 rfl rfl)
theorem dX1_passOne_234 : decode cX1_passOne 234 = .ok (.invokevirtual 151, 3) := dk_182 0 151 (dk_at dksX1_passOne_10 3 rfl rfl)
theorem dX1_passOne_237 : decode cX1_passOne 237 = .ok (.iinc 4 1, 3) := dk_132 4 1 (dk_at dksX1_passOne_10 6 rfl rfl)
theorem dX1_passOne_240 : decode cX1_passOne 240 = .ok (.goto (-30), 3) := dk_167 255 226 (dk_at dksX1_passOne_10 9 rfl rfl)
theorem dX1_passOne_243 : decode cX1_passOne 243 = .ok (.iconst 0, 1) := dk_3 (dk_at dksX1_passOne_10 12 rfl rfl)
theorem dX1_passOne_244 : decode cX1_passOne 244 = .ok (.istore 4, 2) := dk_54 4 (dk_at dksX1_passOne_10 13 rfl rfl)
theorem dX1_passOne_246 : decode cX1_passOne 246 = .ok (.iload 4, 2) := dk_21 4 (dk_at dksX1_passOne_10 15 rfl rfl)
theorem dX1_passOne_248 : decode cX1_passOne 248 = .ok (.aload_n 0, 1) := dk_42 (dk_at dksX1_passOne_10 17 rfl rfl)
theorem dX1_passOne_249 : decode cX1_passOne 249 = .ok (.getfield 22, 3) := dk_180 0 22 (dk_at dksX1_passOne_10 18 rfl rfl)
theorem dX1_passOne_252 : decode cX1_passOne 252 = .ok (.invokevirtual 141, 3) := dk_182 0 141 (dk_at dksX1_passOne_10 21 rfl rfl)
theorem dX1_passOne_255 : decode cX1_passOne 255 = .ok (.if_icmp .ge 28, 3) := dk_162 0 28 (dk_at dksX1_passOne_11 0 rfl rfl)
theorem dX1_passOne_258 : decode cX1_passOne 258 = .ok (.aload_n 0, 1) := dk_42 (dk_at dksX1_passOne_11 3 rfl rfl)
theorem dX1_passOne_259 : decode cX1_passOne 259 = .ok (.getfield 22, 3) := dk_180 0 22 (dk_at dksX1_passOne_11 4 rfl rfl)
theorem dX1_passOne_262 : decode cX1_passOne 262 = .ok (.iload 4, 2) := dk_21 4 (dk_at dksX1_passOne_11 7 rfl rfl)
theorem dX1_passOne_264 : decode cX1_passOne 264 = .ok (.invokevirtual 145, 3) := dk_182 0 145 (dk_at dksX1_passOne_11 9 rfl rfl)
theorem dX1_passOne_267 : decode cX1_passOne 267 = .ok (.checkcast 154, 3) := dk_192 0 154 (dk_at dksX1_passOne_11 12 rfl rfl)
theorem dX1_passOne_270 : decode cX1_passOne 270 = .ok (.aload_n 0, 1) := dk_42 (dk_at dksX1_passOne_11 15 rfl rfl)
theorem dX1_passOne_271 : decode cX1_passOne 271 = .ok (.getfield 156, 3) := dk_180 0 156 (dk_at dksX1_passOne_11 16 rfl rfl)
theorem dX1_passOne_274 : decode cX1_passOne 274 = .ok (.invokevirtual 159, 3) := dk_182 0 159 (dk_at dksX1_passOne_11 19 rfl rfl)
theorem dX1_passOne_277 : decode cX1_passOne 277 = .ok (.iinc 4 1, 3) := dk_132 4 1 (dk_at dksX1_passOne_12 0 rfl rfl)
theorem dX1_passOne_280 : decode cX1_passOne 280 = .ok (.goto (-34), 3) := dk_167 255 222 (dk_at dksX1_passOne_12 3 rfl rfl)
theorem dX1_passOne_283 : decode cX1_passOne 283 = .ok (.aload_n 0, 1) := dk_42 (dk_at dksX1_passOne_12 6 rfl rfl)
theorem dX1_passOne_284 : decode cX1_passOne 284 = .ok (.dup, 1) := dk_89 (dk_at dksX1_passOne_12 7 rfl rfl)
theorem dX1_passOne_285 : decode cX1_passOne 285 = .ok (.getfield 156, 3) := dk_180 0 156 (dk_at dksX1_passOne_12 8 rfl rfl)
theorem dX1_passOne_288 : decode cX1_passOne 288 = .ok (.iconst 1, 1) := dk_4 (dk_at dksX1_passOne_12 11 rfl rfl)
theorem dX1_passOne_289 : decode cX1_passOne 289 = .ok (.iadd, 1) := dk_96 (dk_at dksX1_passOne_12 12 rfl rfl)
theorem dX1_passOne_290 : decode cX1_passOne 290 = .ok (.putfield 156, 3) := dk_181 0 156 (dk_at dksX1_passOne_12 13 rfl rfl)
theorem dX1_passOne_293 : decode cX1_passOne 293 = .ok (.return_, 1) := dk_177 (dk_at dksX1_passOne_12 16 rfl rfl)
abbrev cX1_cracking : ByteArray := prog_1_method_10_code
def yX1_cracking : MethodName := ⟨RX1, "cracking", "()LWakeground$Cell;"⟩
def dkwX1_cracking_3 : List UInt8 := [167, 0, 4, 1, 176]
abbrev dktX1_cracking_3 : List UInt8 := dkwX1_cracking_3 ++ []
def dkwX1_cracking_2 : List UInt8 := [167, 0, 4, 43, 76, 132, 4, 1, 167, 255, 220, 43, 4, 182, 0, 108, 16, 246, 163, 0, 7, 43]
abbrev dktX1_cracking_2 : List UInt8 := dkwX1_cracking_2 ++ dktX1_cracking_3
def dkwX1_cracking_1 : List UInt8 := [44, 21, 4, 50, 58, 5, 25, 5, 4, 182, 0, 108, 43, 4, 182, 0, 108, 162, 0, 8, 25, 5]
abbrev dktX1_cracking_1 : List UInt8 := dkwX1_cracking_1 ++ dktX1_cracking_2
def dkwX1_cracking_0 : List UInt8 := [42, 180, 0, 11, 3, 50, 76, 42, 180, 0, 11, 77, 44, 190, 62, 3, 54, 4, 21, 4, 29, 162, 0, 36]
abbrev dktX1_cracking_0 : List UInt8 := dkwX1_cracking_0 ++ dktX1_cracking_1
theorem dksX1_cracking_0 : cX1_cracking.data.toList.drop 0 = dktX1_cracking_0 := by decide +kernel
theorem dksX1_cracking_1 : cX1_cracking.data.toList.drop 24 = dktX1_cracking_1 := dk_seg dksX1_cracking_0 24 rfl rfl
theorem dksX1_cracking_2 : cX1_cracking.data.toList.drop 46 = dktX1_cracking_2 := dk_seg dksX1_cracking_1 22 rfl rfl
theorem dksX1_cracking_3 : cX1_cracking.data.toList.drop 68 = dktX1_cracking_3 := dk_seg dksX1_cracking_2 22 rfl rfl
theorem dX1_cracking_0 : decode cX1_cracking 0 = .ok (.aload_n 0, 1) := dk_42 (dk_at dksX1_cracking_0 0 rfl rfl)
theorem dX1_cracking_1 : decode cX1_cracking 1 = .ok (.getfield 11, 3) := dk_180 0 11 (dk_at dksX1_cracking_0 1 rfl rfl)
theorem dX1_cracking_4 : decode cX1_cracking 4 = .ok (.iconst 0, 1) := dk_3 (dk_at dksX1_cracking_0 4 rfl rfl)
theorem dX1_cracking_5 : decode cX1_cracking 5 = .ok (.aaload, 1) := dk_50 (dk_at dksX1_cracking_0 5 rfl rfl)
theorem dX1_cracking_6 : decode cX1_cracking 6 = .ok (.astore_n 1, 1) := dk_76 (dk_at dksX1_cracking_0 6 rfl rfl)
theorem dX1_cracking_7 : decode cX1_cracking 7 = .ok (.aload_n 0, 1) := dk_42 (dk_at dksX1_cracking_0 7 rfl rfl)
theorem dX1_cracking_8 : decode cX1_cracking 8 = .ok (.getfield 11, 3) := dk_180 0 11 (dk_at dksX1_cracking_0 8 rfl rfl)
theorem dX1_cracking_11 : decode cX1_cracking 11 = .ok (.astore_n 2, 1) := dk_77 (dk_at dksX1_cracking_0 11 rfl rfl)
theorem dX1_cracking_12 : decode cX1_cracking 12 = .ok (.aload_n 2, 1) := dk_44 (dk_at dksX1_cracking_0 12 rfl rfl)
theorem dX1_cracking_13 : decode cX1_cracking 13 = .ok (.arraylength, 1) := dk_190 (dk_at dksX1_cracking_0 13 rfl rfl)
theorem dX1_cracking_14 : decode cX1_cracking 14 = .ok (.istore_n 3, 1) := dk_62 (dk_at dksX1_cracking_0 14 rfl rfl)
theorem dX1_cracking_15 : decode cX1_cracking 15 = .ok (.iconst 0, 1) := dk_3 (dk_at dksX1_cracking_0 15 rfl rfl)
theorem dX1_cracking_16 : decode cX1_cracking 16 = .ok (.istore 4, 2) := dk_54 4 (dk_at dksX1_cracking_0 16 rfl rfl)
theorem dX1_cracking_18 : decode cX1_cracking 18 = .ok (.iload 4, 2) := dk_21 4 (dk_at dksX1_cracking_0 18 rfl rfl)
theorem dX1_cracking_20 : decode cX1_cracking 20 = .ok (.iload_n 3, 1) := dk_29 (dk_at dksX1_cracking_0 20 rfl rfl)
theorem dX1_cracking_21 : decode cX1_cracking 21 = .ok (.if_icmp .ge 36, 3) := dk_162 0 36 (dk_at dksX1_cracking_0 21 rfl rfl)
theorem dX1_cracking_24 : decode cX1_cracking 24 = .ok (.aload_n 2, 1) := dk_44 (dk_at dksX1_cracking_1 0 rfl rfl)
theorem dX1_cracking_25 : decode cX1_cracking 25 = .ok (.iload 4, 2) := dk_21 4 (dk_at dksX1_cracking_1 1 rfl rfl)
theorem dX1_cracking_27 : decode cX1_cracking 27 = .ok (.aaload, 1) := dk_50 (dk_at dksX1_cracking_1 3 rfl rfl)
theorem dX1_cracking_28 : decode cX1_cracking 28 = .ok (.astore 5, 2) := dk_58 5 (dk_at dksX1_cracking_1 4 rfl rfl)
theorem dX1_cracking_30 : decode cX1_cracking 30 = .ok (.aload 5, 2) := dk_25 5 (dk_at dksX1_cracking_1 6 rfl rfl)
theorem dX1_cracking_32 : decode cX1_cracking 32 = .ok (.iconst 1, 1) := dk_4 (dk_at dksX1_cracking_1 8 rfl rfl)
theorem dX1_cracking_33 : decode cX1_cracking 33 = .ok (.invokevirtual 108, 3) := dk_182 0 108 (dk_at dksX1_cracking_1 9 rfl rfl)
theorem dX1_cracking_36 : decode cX1_cracking 36 = .ok (.aload_n 1, 1) := dk_43 (dk_at dksX1_cracking_1 12 rfl rfl)
theorem dX1_cracking_37 : decode cX1_cracking 37 = .ok (.iconst 1, 1) := dk_4 (dk_at dksX1_cracking_1 13 rfl rfl)
theorem dX1_cracking_38 : decode cX1_cracking 38 = .ok (.invokevirtual 108, 3) := dk_182 0 108 (dk_at dksX1_cracking_1 14 rfl rfl)
theorem dX1_cracking_41 : decode cX1_cracking 41 = .ok (.if_icmp .ge 8, 3) := dk_162 0 8 (dk_at dksX1_cracking_1 17 rfl rfl)
theorem dX1_cracking_44 : decode cX1_cracking 44 = .ok (.aload 5, 2) := dk_25 5 (dk_at dksX1_cracking_1 20 rfl rfl)
theorem dX1_cracking_46 : decode cX1_cracking 46 = .ok (.goto 4, 3) := dk_167 0 4 (dk_at dksX1_cracking_2 0 rfl rfl)
theorem dX1_cracking_49 : decode cX1_cracking 49 = .ok (.aload_n 1, 1) := dk_43 (dk_at dksX1_cracking_2 3 rfl rfl)
theorem dX1_cracking_50 : decode cX1_cracking 50 = .ok (.astore_n 1, 1) := dk_76 (dk_at dksX1_cracking_2 4 rfl rfl)
theorem dX1_cracking_51 : decode cX1_cracking 51 = .ok (.iinc 4 1, 3) := dk_132 4 1 (dk_at dksX1_cracking_2 5 rfl rfl)
theorem dX1_cracking_54 : decode cX1_cracking 54 = .ok (.goto (-36), 3) := dk_167 255 220 (dk_at dksX1_cracking_2 8 rfl rfl)
theorem dX1_cracking_57 : decode cX1_cracking 57 = .ok (.aload_n 1, 1) := dk_43 (dk_at dksX1_cracking_2 11 rfl rfl)
theorem dX1_cracking_58 : decode cX1_cracking 58 = .ok (.iconst 1, 1) := dk_4 (dk_at dksX1_cracking_2 12 rfl rfl)
theorem dX1_cracking_59 : decode cX1_cracking 59 = .ok (.invokevirtual 108, 3) := dk_182 0 108 (dk_at dksX1_cracking_2 13 rfl rfl)
theorem dX1_cracking_62 : decode cX1_cracking 62 = .ok (.bipush (-10), 2) := dk_16 246 (dk_at dksX1_cracking_2 16 rfl rfl)
theorem dX1_cracking_64 : decode cX1_cracking 64 = .ok (.if_icmp .gt 7, 3) := dk_163 0 7 (dk_at dksX1_cracking_2 18 rfl rfl)
theorem dX1_cracking_67 : decode cX1_cracking 67 = .ok (.aload_n 1, 1) := dk_43 (dk_at dksX1_cracking_2 21 rfl rfl)
theorem dX1_cracking_68 : decode cX1_cracking 68 = .ok (.goto 4, 3) := dk_167 0 4 (dk_at dksX1_cracking_3 0 rfl rfl)
theorem dX1_cracking_71 : decode cX1_cracking 71 = .ok (.aconst_null, 1) := dk_1 (dk_at dksX1_cracking_3 3 rfl rfl)
theorem dX1_cracking_72 : decode cX1_cracking 72 = .ok (.areturn, 1) := dk_176 (dk_at dksX1_cracking_3 4 rfl rfl)
abbrev cX1_fire : ByteArray := prog_1_method_13_code
def yX1_fire : MethodName := ⟨RX1, "fire", "(I)I"⟩
def dkwX1_fire_3 : List UInt8 := [29, 172]
abbrev dktX1_fire_3 : List UInt8 := dkwX1_fire_3 ++ []
def dkwX1_fire_2 : List UInt8 := [180, 0, 102, 29, 100, 181, 0, 102, 44, 3, 181, 0, 105, 42, 180, 0, 28, 3, 92, 47, 29, 133, 97, 80]
abbrev dktX1_fire_2 : List UInt8 := dkwX1_fire_2 ++ dktX1_fire_3
def dkwX1_fire_1 : List UInt8 := [3, 184, 0, 162, 44, 180, 0, 79, 3, 50, 180, 0, 102, 5, 108, 62, 44, 180, 0, 79, 3, 50, 89]
abbrev dktX1_fire_1 : List UInt8 := dkwX1_fire_1 ++ dktX1_fire_2
def dkwX1_fire_0 : List UInt8 := [42, 27, 182, 0, 75, 77, 44, 182, 0, 169, 154, 0, 14, 44, 180, 0, 112, 154, 0, 7, 4, 167, 0, 4]
abbrev dktX1_fire_0 : List UInt8 := dkwX1_fire_0 ++ dktX1_fire_1
theorem dksX1_fire_0 : cX1_fire.data.toList.drop 0 = dktX1_fire_0 := by decide +kernel
theorem dksX1_fire_1 : cX1_fire.data.toList.drop 24 = dktX1_fire_1 := dk_seg dksX1_fire_0 24 rfl rfl
theorem dksX1_fire_2 : cX1_fire.data.toList.drop 47 = dktX1_fire_2 := dk_seg dksX1_fire_1 23 rfl rfl
theorem dksX1_fire_3 : cX1_fire.data.toList.drop 71 = dktX1_fire_3 := dk_seg dksX1_fire_2 24 rfl rfl
theorem dX1_fire_0 : decode cX1_fire 0 = .ok (.aload_n 0, 1) := dk_42 (dk_at dksX1_fire_0 0 rfl rfl)
theorem dX1_fire_1 : decode cX1_fire 1 = .ok (.iload_n 1, 1) := dk_27 (dk_at dksX1_fire_0 1 rfl rfl)
theorem dX1_fire_2 : decode cX1_fire 2 = .ok (.invokevirtual 75, 3) := dk_182 0 75 (dk_at dksX1_fire_0 2 rfl rfl)
theorem dX1_fire_5 : decode cX1_fire 5 = .ok (.astore_n 2, 1) := dk_77 (dk_at dksX1_fire_0 5 rfl rfl)
theorem dX1_fire_6 : decode cX1_fire 6 = .ok (.aload_n 2, 1) := dk_44 (dk_at dksX1_fire_0 6 rfl rfl)
theorem dX1_fire_7 : decode cX1_fire 7 = .ok (.invokevirtual 169, 3) := dk_182 0 169 (dk_at dksX1_fire_0 7 rfl rfl)
theorem dX1_fire_10 : decode cX1_fire 10 = .ok (.ifCond .ne 14, 3) := dk_154 0 14 (dk_at dksX1_fire_0 10 rfl rfl)
theorem dX1_fire_13 : decode cX1_fire 13 = .ok (.aload_n 2, 1) := dk_44 (dk_at dksX1_fire_0 13 rfl rfl)
theorem dX1_fire_14 : decode cX1_fire 14 = .ok (.getfield 112, 3) := dk_180 0 112 (dk_at dksX1_fire_0 14 rfl rfl)
theorem dX1_fire_17 : decode cX1_fire 17 = .ok (.ifCond .ne 7, 3) := dk_154 0 7 (dk_at dksX1_fire_0 17 rfl rfl)
theorem dX1_fire_20 : decode cX1_fire 20 = .ok (.iconst 1, 1) := dk_4 (dk_at dksX1_fire_0 20 rfl rfl)
theorem dX1_fire_21 : decode cX1_fire 21 = .ok (.goto 4, 3) := dk_167 0 4 (dk_at dksX1_fire_0 21 rfl rfl)
theorem dX1_fire_24 : decode cX1_fire 24 = .ok (.iconst 0, 1) := dk_3 (dk_at dksX1_fire_1 0 rfl rfl)
theorem dX1_fire_25 : decode cX1_fire 25 = .ok (.invokestatic 162, 3) := dk_184 0 162 (dk_at dksX1_fire_1 1 rfl rfl)
theorem dX1_fire_28 : decode cX1_fire 28 = .ok (.aload_n 2, 1) := dk_44 (dk_at dksX1_fire_1 4 rfl rfl)
theorem dX1_fire_29 : decode cX1_fire 29 = .ok (.getfield 79, 3) := dk_180 0 79 (dk_at dksX1_fire_1 5 rfl rfl)
theorem dX1_fire_32 : decode cX1_fire 32 = .ok (.iconst 0, 1) := dk_3 (dk_at dksX1_fire_1 8 rfl rfl)
theorem dX1_fire_33 : decode cX1_fire 33 = .ok (.aaload, 1) := dk_50 (dk_at dksX1_fire_1 9 rfl rfl)
theorem dX1_fire_34 : decode cX1_fire 34 = .ok (.getfield 102, 3) := dk_180 0 102 (dk_at dksX1_fire_1 10 rfl rfl)
theorem dX1_fire_37 : decode cX1_fire 37 = .ok (.iconst 2, 1) := dk_5 (dk_at dksX1_fire_1 13 rfl rfl)
theorem dX1_fire_38 : decode cX1_fire 38 = .ok (.idiv, 1) := dk_108 (dk_at dksX1_fire_1 14 rfl rfl)
theorem dX1_fire_39 : decode cX1_fire 39 = .ok (.istore_n 3, 1) := dk_62 (dk_at dksX1_fire_1 15 rfl rfl)
theorem dX1_fire_40 : decode cX1_fire 40 = .ok (.aload_n 2, 1) := dk_44 (dk_at dksX1_fire_1 16 rfl rfl)
theorem dX1_fire_41 : decode cX1_fire 41 = .ok (.getfield 79, 3) := dk_180 0 79 (dk_at dksX1_fire_1 17 rfl rfl)
theorem dX1_fire_44 : decode cX1_fire 44 = .ok (.iconst 0, 1) := dk_3 (dk_at dksX1_fire_1 20 rfl rfl)
theorem dX1_fire_45 : decode cX1_fire 45 = .ok (.aaload, 1) := dk_50 (dk_at dksX1_fire_1 21 rfl rfl)
theorem dX1_fire_46 : decode cX1_fire 46 = .ok (.dup, 1) := dk_89 (dk_at dksX1_fire_1 22 rfl rfl)
theorem dX1_fire_47 : decode cX1_fire 47 = .ok (.getfield 102, 3) := dk_180 0 102 (dk_at dksX1_fire_2 0 rfl rfl)
theorem dX1_fire_50 : decode cX1_fire 50 = .ok (.iload_n 3, 1) := dk_29 (dk_at dksX1_fire_2 3 rfl rfl)
theorem dX1_fire_51 : decode cX1_fire 51 = .ok (.isub, 1) := dk_100 (dk_at dksX1_fire_2 4 rfl rfl)
theorem dX1_fire_52 : decode cX1_fire 52 = .ok (.putfield 102, 3) := dk_181 0 102 (dk_at dksX1_fire_2 5 rfl rfl)
theorem dX1_fire_55 : decode cX1_fire 55 = .ok (.aload_n 2, 1) := dk_44 (dk_at dksX1_fire_2 8 rfl rfl)
theorem dX1_fire_56 : decode cX1_fire 56 = .ok (.iconst 0, 1) := dk_3 (dk_at dksX1_fire_2 9 rfl rfl)
theorem dX1_fire_57 : decode cX1_fire 57 = .ok (.putfield 105, 3) := dk_181 0 105 (dk_at dksX1_fire_2 10 rfl rfl)
theorem dX1_fire_60 : decode cX1_fire 60 = .ok (.aload_n 0, 1) := dk_42 (dk_at dksX1_fire_2 13 rfl rfl)
theorem dX1_fire_61 : decode cX1_fire 61 = .ok (.getfield 28, 3) := dk_180 0 28 (dk_at dksX1_fire_2 14 rfl rfl)
theorem dX1_fire_64 : decode cX1_fire 64 = .ok (.iconst 0, 1) := dk_3 (dk_at dksX1_fire_2 17 rfl rfl)
theorem dX1_fire_65 : decode cX1_fire 65 = .ok (.dup2, 1) := dk_92 (dk_at dksX1_fire_2 18 rfl rfl)
theorem dX1_fire_66 : decode cX1_fire 66 = .ok (.laload, 1) := dk_47 (dk_at dksX1_fire_2 19 rfl rfl)
theorem dX1_fire_67 : decode cX1_fire 67 = .ok (.iload_n 3, 1) := dk_29 (dk_at dksX1_fire_2 20 rfl rfl)
theorem dX1_fire_68 : decode cX1_fire 68 = .ok (.i2l, 1) := dk_133 (dk_at dksX1_fire_2 21 rfl rfl)
theorem dX1_fire_69 : decode cX1_fire 69 = .ok (.ladd, 1) := dk_97 (dk_at dksX1_fire_2 22 rfl rfl)
theorem dX1_fire_70 : decode cX1_fire 70 = .ok (.lastore, 1) := dk_80 (dk_at dksX1_fire_2 23 rfl rfl)
theorem dX1_fire_71 : decode cX1_fire 71 = .ok (.iload_n 3, 1) := dk_29 (dk_at dksX1_fire_3 0 rfl rfl)
theorem dX1_fire_72 : decode cX1_fire 72 = .ok (.ireturn, 1) := dk_172 (dk_at dksX1_fire_3 1 rfl rfl)
abbrev cX1_breach : ByteArray := prog_1_method_16_code
def yX1_breach : MethodName := ⟨RX1, "breach", "(I)I"⟩
def dkwX1_breach_3 : List UInt8 := [3, 181, 0, 191, 132, 4, 1, 167, 255, 213, 42, 89, 180, 0, 200, 29, 133, 97, 181, 0, 200, 29, 172]
abbrev dktX1_breach_3 : List UInt8 := dkwX1_breach_3 ++ []
def dkwX1_breach_2 : List UInt8 := [180, 0, 39, 21, 4, 46, 50, 180, 0, 191, 96, 62, 42, 180, 0, 11, 42, 180, 0, 39, 21, 4, 46, 50]
abbrev dktX1_breach_2 : List UInt8 := dkwX1_breach_2 ++ dktX1_breach_3
def dkwX1_breach_1 : List UInt8 := [27, 182, 0, 197, 61, 3, 62, 3, 54, 4, 21, 4, 28, 162, 0, 43, 29, 42, 180, 0, 11, 42]
abbrev dktX1_breach_1 : List UInt8 := dkwX1_breach_1 ++ dktX1_breach_2
def dkwX1_breach_0 : List UInt8 := [42, 27, 182, 0, 75, 180, 0, 191, 158, 0, 7, 4, 167, 0, 4, 3, 184, 0, 162, 42, 182, 0, 194, 42]
abbrev dktX1_breach_0 : List UInt8 := dkwX1_breach_0 ++ dktX1_breach_1
theorem dksX1_breach_0 : cX1_breach.data.toList.drop 0 = dktX1_breach_0 := by decide +kernel
theorem dksX1_breach_1 : cX1_breach.data.toList.drop 24 = dktX1_breach_1 := dk_seg dksX1_breach_0 24 rfl rfl
theorem dksX1_breach_2 : cX1_breach.data.toList.drop 46 = dktX1_breach_2 := dk_seg dksX1_breach_1 22 rfl rfl
theorem dksX1_breach_3 : cX1_breach.data.toList.drop 70 = dktX1_breach_3 := dk_seg dksX1_breach_2 24 rfl rfl
theorem dX1_breach_0 : decode cX1_breach 0 = .ok (.aload_n 0, 1) := dk_42 (dk_at dksX1_breach_0 0 rfl rfl)
theorem dX1_breach_1 : decode cX1_breach 1 = .ok (.iload_n 1, 1) := dk_27 (dk_at dksX1_breach_0 1 rfl rfl)
theorem dX1_breach_2 : decode cX1_breach 2 = .ok (.invokevirtual 75, 3) := dk_182 0 75 (dk_at dksX1_breach_0 2 rfl rfl)
theorem dX1_breach_5 : decode cX1_breach 5 = .ok (.getfield 191, 3) := dk_180 0 191 (dk_at dksX1_breach_0 5 rfl rfl)
theorem dX1_breach_8 : decode cX1_breach 8 = .ok (.ifCond .le 7, 3) := dk_158 0 7 (dk_at dksX1_breach_0 8 rfl rfl)
theorem dX1_breach_11 : decode cX1_breach 11 = .ok (.iconst 1, 1) := dk_4 (dk_at dksX1_breach_0 11 rfl rfl)
theorem dX1_breach_12 : decode cX1_breach 12 = .ok (.goto 4, 3) := dk_167 0 4 (dk_at dksX1_breach_0 12 rfl rfl)
theorem dX1_breach_15 : decode cX1_breach 15 = .ok (.iconst 0, 1) := dk_3 (dk_at dksX1_breach_0 15 rfl rfl)
theorem dX1_breach_16 : decode cX1_breach 16 = .ok (.invokestatic 162, 3) := dk_184 0 162 (dk_at dksX1_breach_0 16 rfl rfl)
theorem dX1_breach_19 : decode cX1_breach 19 = .ok (.aload_n 0, 1) := dk_42 (dk_at dksX1_breach_0 19 rfl rfl)
theorem dX1_breach_20 : decode cX1_breach 20 = .ok (.invokevirtual 194, 3) := dk_182 0 194 (dk_at dksX1_breach_0 20 rfl rfl)
theorem dX1_breach_23 : decode cX1_breach 23 = .ok (.aload_n 0, 1) := dk_42 (dk_at dksX1_breach_0 23 rfl rfl)
theorem dX1_breach_24 : decode cX1_breach 24 = .ok (.iload_n 1, 1) := dk_27 (dk_at dksX1_breach_1 0 rfl rfl)
theorem dX1_breach_25 : decode cX1_breach 25 = .ok (.invokevirtual 197, 3) := dk_182 0 197 (dk_at dksX1_breach_1 1 rfl rfl)
theorem dX1_breach_28 : decode cX1_breach 28 = .ok (.istore_n 2, 1) := dk_61 (dk_at dksX1_breach_1 4 rfl rfl)
theorem dX1_breach_29 : decode cX1_breach 29 = .ok (.iconst 0, 1) := dk_3 (dk_at dksX1_breach_1 5 rfl rfl)
theorem dX1_breach_30 : decode cX1_breach 30 = .ok (.istore_n 3, 1) := dk_62 (dk_at dksX1_breach_1 6 rfl rfl)
theorem dX1_breach_31 : decode cX1_breach 31 = .ok (.iconst 0, 1) := dk_3 (dk_at dksX1_breach_1 7 rfl rfl)
theorem dX1_breach_32 : decode cX1_breach 32 = .ok (.istore 4, 2) := dk_54 4 (dk_at dksX1_breach_1 8 rfl rfl)
theorem dX1_breach_34 : decode cX1_breach 34 = .ok (.iload 4, 2) := dk_21 4 (dk_at dksX1_breach_1 10 rfl rfl)
theorem dX1_breach_36 : decode cX1_breach 36 = .ok (.iload_n 2, 1) := dk_28 (dk_at dksX1_breach_1 12 rfl rfl)
theorem dX1_breach_37 : decode cX1_breach 37 = .ok (.if_icmp .ge 43, 3) := dk_162 0 43 (dk_at dksX1_breach_1 13 rfl rfl)
theorem dX1_breach_40 : decode cX1_breach 40 = .ok (.iload_n 3, 1) := dk_29 (dk_at dksX1_breach_1 16 rfl rfl)
theorem dX1_breach_41 : decode cX1_breach 41 = .ok (.aload_n 0, 1) := dk_42 (dk_at dksX1_breach_1 17 rfl rfl)
theorem dX1_breach_42 : decode cX1_breach 42 = .ok (.getfield 11, 3) := dk_180 0 11 (dk_at dksX1_breach_1 18 rfl rfl)
theorem dX1_breach_45 : decode cX1_breach 45 = .ok (.aload_n 0, 1) := dk_42 (dk_at dksX1_breach_1 21 rfl rfl)
theorem dX1_breach_46 : decode cX1_breach 46 = .ok (.getfield 39, 3) := dk_180 0 39 (dk_at dksX1_breach_2 0 rfl rfl)
theorem dX1_breach_49 : decode cX1_breach 49 = .ok (.iload 4, 2) := dk_21 4 (dk_at dksX1_breach_2 3 rfl rfl)
theorem dX1_breach_51 : decode cX1_breach 51 = .ok (.iaload, 1) := dk_46 (dk_at dksX1_breach_2 5 rfl rfl)
theorem dX1_breach_52 : decode cX1_breach 52 = .ok (.aaload, 1) := dk_50 (dk_at dksX1_breach_2 6 rfl rfl)
theorem dX1_breach_53 : decode cX1_breach 53 = .ok (.getfield 191, 3) := dk_180 0 191 (dk_at dksX1_breach_2 7 rfl rfl)
theorem dX1_breach_56 : decode cX1_breach 56 = .ok (.iadd, 1) := dk_96 (dk_at dksX1_breach_2 10 rfl rfl)
theorem dX1_breach_57 : decode cX1_breach 57 = .ok (.istore_n 3, 1) := dk_62 (dk_at dksX1_breach_2 11 rfl rfl)
theorem dX1_breach_58 : decode cX1_breach 58 = .ok (.aload_n 0, 1) := dk_42 (dk_at dksX1_breach_2 12 rfl rfl)
theorem dX1_breach_59 : decode cX1_breach 59 = .ok (.getfield 11, 3) := dk_180 0 11 (dk_at dksX1_breach_2 13 rfl rfl)
theorem dX1_breach_62 : decode cX1_breach 62 = .ok (.aload_n 0, 1) := dk_42 (dk_at dksX1_breach_2 16 rfl rfl)
theorem dX1_breach_63 : decode cX1_breach 63 = .ok (.getfield 39, 3) := dk_180 0 39 (dk_at dksX1_breach_2 17 rfl rfl)
theorem dX1_breach_66 : decode cX1_breach 66 = .ok (.iload 4, 2) := dk_21 4 (dk_at dksX1_breach_2 20 rfl rfl)
theorem dX1_breach_68 : decode cX1_breach 68 = .ok (.iaload, 1) := dk_46 (dk_at dksX1_breach_2 22 rfl rfl)
theorem dX1_breach_69 : decode cX1_breach 69 = .ok (.aaload, 1) := dk_50 (dk_at dksX1_breach_2 23 rfl rfl)
theorem dX1_breach_70 : decode cX1_breach 70 = .ok (.iconst 0, 1) := dk_3 (dk_at dksX1_breach_3 0 rfl rfl)
theorem dX1_breach_71 : decode cX1_breach 71 = .ok (.putfield 191, 3) := dk_181 0 191 (dk_at dksX1_breach_3 1 rfl rfl)
theorem dX1_breach_74 : decode cX1_breach 74 = .ok (.iinc 4 1, 3) := dk_132 4 1 (dk_at dksX1_breach_3 4 rfl rfl)
theorem dX1_breach_77 : decode cX1_breach 77 = .ok (.goto (-43), 3) := dk_167 255 213 (dk_at dksX1_breach_3 7 rfl rfl)
theorem dX1_breach_80 : decode cX1_breach 80 = .ok (.aload_n 0, 1) := dk_42 (dk_at dksX1_breach_3 10 rfl rfl)
theorem dX1_breach_81 : decode cX1_breach 81 = .ok (.dup, 1) := dk_89 (dk_at dksX1_breach_3 11 rfl rfl)
theorem dX1_breach_82 : decode cX1_breach 82 = .ok (.getfield 200, 3) := dk_180 0 200 (dk_at dksX1_breach_3 12 rfl rfl)
theorem dX1_breach_85 : decode cX1_breach 85 = .ok (.iload_n 3, 1) := dk_29 (dk_at dksX1_breach_3 15 rfl rfl)
theorem dX1_breach_86 : decode cX1_breach 86 = .ok (.i2l, 1) := dk_133 (dk_at dksX1_breach_3 16 rfl rfl)
theorem dX1_breach_87 : decode cX1_breach 87 = .ok (.ladd, 1) := dk_97 (dk_at dksX1_breach_3 17 rfl rfl)
theorem dX1_breach_88 : decode cX1_breach 88 = .ok (.putfield 200, 3) := dk_181 0 200 (dk_at dksX1_breach_3 18 rfl rfl)
theorem dX1_breach_91 : decode cX1_breach 91 = .ok (.iload_n 3, 1) := dk_29 (dk_at dksX1_breach_3 21 rfl rfl)
theorem dX1_breach_92 : decode cX1_breach 92 = .ok (.ireturn, 1) := dk_172 (dk_at dksX1_breach_3 22 rfl rfl)
abbrev cX1_house : ByteArray := prog_1_method_17_code
def yX1_house : MethodName := ⟨RX1, "house", "(IIZ)I"⟩
def dkwX1_house_3 : List UInt8 := [42, 180, 0, 18, 25, 4, 180, 0, 204, 182, 0, 211, 87, 42, 180, 0, 18, 182, 0, 141, 4, 100, 172]
abbrev dktX1_house_3 : List UInt8 := dkwX1_house_3 ++ []
def dkwX1_house_2 : List UInt8 := [3, 184, 0, 162, 25, 4, 187, 0, 149, 89, 25, 4, 28, 29, 42, 180, 0, 156, 183, 0, 208, 181, 0, 204]
abbrev dktX1_house_2 : List UInt8 := dkwX1_house_2 ++ dktX1_house_3
def dkwX1_house_1 : List UInt8 := [25, 4, 182, 0, 169, 154, 0, 19, 42, 180, 0, 18, 182, 0, 141, 16, 10, 162, 0, 7, 4, 167, 0, 4]
abbrev dktX1_house_1 : List UInt8 := dkwX1_house_1 ++ dktX1_house_2
def dkwX1_house_0 : List UInt8 := [42, 27, 182, 0, 75, 58, 4, 28, 4, 7, 184, 0, 67, 184, 0, 71, 25, 4, 180, 0, 204, 199, 0, 27]
abbrev dktX1_house_0 : List UInt8 := dkwX1_house_0 ++ dktX1_house_1
theorem dksX1_house_0 : cX1_house.data.toList.drop 0 = dktX1_house_0 := by decide +kernel
theorem dksX1_house_1 : cX1_house.data.toList.drop 24 = dktX1_house_1 := dk_seg dksX1_house_0 24 rfl rfl
theorem dksX1_house_2 : cX1_house.data.toList.drop 48 = dktX1_house_2 := dk_seg dksX1_house_1 24 rfl rfl
theorem dksX1_house_3 : cX1_house.data.toList.drop 72 = dktX1_house_3 := dk_seg dksX1_house_2 24 rfl rfl
theorem dX1_house_0 : decode cX1_house 0 = .ok (.aload_n 0, 1) := dk_42 (dk_at dksX1_house_0 0 rfl rfl)
theorem dX1_house_1 : decode cX1_house 1 = .ok (.iload_n 1, 1) := dk_27 (dk_at dksX1_house_0 1 rfl rfl)
theorem dX1_house_2 : decode cX1_house 2 = .ok (.invokevirtual 75, 3) := dk_182 0 75 (dk_at dksX1_house_0 2 rfl rfl)
theorem dX1_house_5 : decode cX1_house 5 = .ok (.astore 4, 2) := dk_58 4 (dk_at dksX1_house_0 5 rfl rfl)
theorem dX1_house_7 : decode cX1_house 7 = .ok (.iload_n 2, 1) := dk_28 (dk_at dksX1_house_0 7 rfl rfl)
theorem dX1_house_8 : decode cX1_house 8 = .ok (.iconst 1, 1) := dk_4 (dk_at dksX1_house_0 8 rfl rfl)
theorem dX1_house_9 : decode cX1_house 9 = .ok (.iconst 4, 1) := dk_7 (dk_at dksX1_house_0 9 rfl rfl)
theorem dX1_house_10 : decode cX1_house 10 = .ok (.invokestatic 67, 3) := dk_184 0 67 (dk_at dksX1_house_0 10 rfl rfl)
theorem dX1_house_13 : decode cX1_house 13 = .ok (.invokestatic 71, 3) := dk_184 0 71 (dk_at dksX1_house_0 13 rfl rfl)
theorem dX1_house_16 : decode cX1_house 16 = .ok (.aload 4, 2) := dk_25 4 (dk_at dksX1_house_0 16 rfl rfl)
theorem dX1_house_18 : decode cX1_house 18 = .ok (.getfield 204, 3) := dk_180 0 204 (dk_at dksX1_house_0 18 rfl rfl)
theorem dX1_house_21 : decode cX1_house 21 = .ok (.ifnonnull 27, 3) := dk_199 0 27 (dk_at dksX1_house_0 21 rfl rfl)
theorem dX1_house_24 : decode cX1_house 24 = .ok (.aload 4, 2) := dk_25 4 (dk_at dksX1_house_1 0 rfl rfl)
theorem dX1_house_26 : decode cX1_house 26 = .ok (.invokevirtual 169, 3) := dk_182 0 169 (dk_at dksX1_house_1 2 rfl rfl)
theorem dX1_house_29 : decode cX1_house 29 = .ok (.ifCond .ne 19, 3) := dk_154 0 19 (dk_at dksX1_house_1 5 rfl rfl)
theorem dX1_house_32 : decode cX1_house 32 = .ok (.aload_n 0, 1) := dk_42 (dk_at dksX1_house_1 8 rfl rfl)
theorem dX1_house_33 : decode cX1_house 33 = .ok (.getfield 18, 3) := dk_180 0 18 (dk_at dksX1_house_1 9 rfl rfl)
theorem dX1_house_36 : decode cX1_house 36 = .ok (.invokevirtual 141, 3) := dk_182 0 141 (dk_at dksX1_house_1 12 rfl rfl)
theorem dX1_house_39 : decode cX1_house 39 = .ok (.bipush 10, 2) := dk_16 10 (dk_at dksX1_house_1 15 rfl rfl)
theorem dX1_house_41 : decode cX1_house 41 = .ok (.if_icmp .ge 7, 3) := dk_162 0 7 (dk_at dksX1_house_1 17 rfl rfl)
theorem dX1_house_44 : decode cX1_house 44 = .ok (.iconst 1, 1) := dk_4 (dk_at dksX1_house_1 20 rfl rfl)
theorem dX1_house_45 : decode cX1_house 45 = .ok (.goto 4, 3) := dk_167 0 4 (dk_at dksX1_house_1 21 rfl rfl)
theorem dX1_house_48 : decode cX1_house 48 = .ok (.iconst 0, 1) := dk_3 (dk_at dksX1_house_2 0 rfl rfl)
theorem dX1_house_49 : decode cX1_house 49 = .ok (.invokestatic 162, 3) := dk_184 0 162 (dk_at dksX1_house_2 1 rfl rfl)
theorem dX1_house_52 : decode cX1_house 52 = .ok (.aload 4, 2) := dk_25 4 (dk_at dksX1_house_2 4 rfl rfl)
theorem dX1_house_54 : decode cX1_house 54 = .ok (.new 149, 3) := dk_187 0 149 (dk_at dksX1_house_2 6 rfl rfl)
theorem dX1_house_57 : decode cX1_house 57 = .ok (.dup, 1) := dk_89 (dk_at dksX1_house_2 9 rfl rfl)
theorem dX1_house_58 : decode cX1_house 58 = .ok (.aload 4, 2) := dk_25 4 (dk_at dksX1_house_2 10 rfl rfl)
theorem dX1_house_60 : decode cX1_house 60 = .ok (.iload_n 2, 1) := dk_28 (dk_at dksX1_house_2 12 rfl rfl)
theorem dX1_house_61 : decode cX1_house 61 = .ok (.iload_n 3, 1) := dk_29 (dk_at dksX1_house_2 13 rfl rfl)
theorem dX1_house_62 : decode cX1_house 62 = .ok (.aload_n 0, 1) := dk_42 (dk_at dksX1_house_2 14 rfl rfl)
theorem dX1_house_63 : decode cX1_house 63 = .ok (.getfield 156, 3) := dk_180 0 156 (dk_at dksX1_house_2 15 rfl rfl)
theorem dX1_house_66 : decode cX1_house 66 = .ok (.invokespecial 208, 3) := dk_183 0 208 (dk_at dksX1_house_2 18 rfl rfl)
theorem dX1_house_69 : decode cX1_house 69 = .ok (.putfield 204, 3) := dk_181 0 204 (dk_at dksX1_house_2 21 rfl rfl)
theorem dX1_house_72 : decode cX1_house 72 = .ok (.aload_n 0, 1) := dk_42 (dk_at dksX1_house_3 0 rfl rfl)
theorem dX1_house_73 : decode cX1_house 73 = .ok (.getfield 18, 3) := dk_180 0 18 (dk_at dksX1_house_3 1 rfl rfl)
theorem dX1_house_76 : decode cX1_house 76 = .ok (.aload 4, 2) := dk_25 4 (dk_at dksX1_house_3 4 rfl rfl)
theorem dX1_house_78 : decode cX1_house 78 = .ok (.getfield 204, 3) := dk_180 0 204 (dk_at dksX1_house_3 6 rfl rfl)
theorem dX1_house_81 : decode cX1_house 81 = .ok (.invokevirtual 211, 3) := dk_182 0 211 (dk_at dksX1_house_3 9 rfl rfl)
theorem dX1_house_84 : decode cX1_house 84 = .ok (.pop, 1) := dk_87 (dk_at dksX1_house_3 12 rfl rfl)
theorem dX1_house_85 : decode cX1_house 85 = .ok (.aload_n 0, 1) := dk_42 (dk_at dksX1_house_3 13 rfl rfl)
theorem dX1_house_86 : decode cX1_house 86 = .ok (.getfield 18, 3) := dk_180 0 18 (dk_at dksX1_house_3 14 rfl rfl)
theorem dX1_house_89 : decode cX1_house 89 = .ok (.invokevirtual 141, 3) := dk_182 0 141 (dk_at dksX1_house_3 17 rfl rfl)
theorem dX1_house_92 : decode cX1_house 92 = .ok (.iconst 1, 1) := dk_4 (dk_at dksX1_house_3 20 rfl rfl)
theorem dX1_house_93 : decode cX1_house 93 = .ok (.isub, 1) := dk_100 (dk_at dksX1_house_3 21 rfl rfl)
theorem dX1_house_94 : decode cX1_house 94 = .ok (.ireturn, 1) := dk_172 (dk_at dksX1_house_3 22 rfl rfl)
abbrev cX1_borehole : ByteArray := prog_1_method_18_code
def yX1_borehole : MethodName := ⟨RX1, "borehole", "(II)I"⟩
def dkwX1_borehole_2 : List UInt8 := [180, 0, 156, 183, 0, 215, 182, 0, 211, 87, 42, 180, 0, 22, 182, 0, 141, 4, 100, 172]
abbrev dktX1_borehole_2 : List UInt8 := dkwX1_borehole_2 ++ []
def dkwX1_borehole_1 : List UInt8 := [16, 10, 162, 0, 7, 4, 167, 0, 4, 3, 184, 0, 162, 42, 180, 0, 22, 187, 0, 154, 89, 45, 28, 42]
abbrev dktX1_borehole_1 : List UInt8 := dkwX1_borehole_1 ++ dktX1_borehole_2
def dkwX1_borehole_0 : List UInt8 := [42, 27, 182, 0, 75, 78, 28, 16, 244, 16, 12, 184, 0, 67, 184, 0, 87, 42, 180, 0, 22, 182, 0, 141]
abbrev dktX1_borehole_0 : List UInt8 := dkwX1_borehole_0 ++ dktX1_borehole_1
theorem dksX1_borehole_0 : cX1_borehole.data.toList.drop 0 = dktX1_borehole_0 := by decide +kernel
theorem dksX1_borehole_1 : cX1_borehole.data.toList.drop 24 = dktX1_borehole_1 := dk_seg dksX1_borehole_0 24 rfl rfl
theorem dksX1_borehole_2 : cX1_borehole.data.toList.drop 48 = dktX1_borehole_2 := dk_seg dksX1_borehole_1 24 rfl rfl
theorem dX1_borehole_0 : decode cX1_borehole 0 = .ok (.aload_n 0, 1) := dk_42 (dk_at dksX1_borehole_0 0 rfl rfl)
theorem dX1_borehole_1 : decode cX1_borehole 1 = .ok (.iload_n 1, 1) := dk_27 (dk_at dksX1_borehole_0 1 rfl rfl)
theorem dX1_borehole_2 : decode cX1_borehole 2 = .ok (.invokevirtual 75, 3) := dk_182 0 75 (dk_at dksX1_borehole_0 2 rfl rfl)
theorem dX1_borehole_5 : decode cX1_borehole 5 = .ok (.astore_n 3, 1) := dk_78 (dk_at dksX1_borehole_0 5 rfl rfl)
theorem dX1_borehole_6 : decode cX1_borehole 6 = .ok (.iload_n 2, 1) := dk_28 (dk_at dksX1_borehole_0 6 rfl rfl)
theorem dX1_borehole_7 : decode cX1_borehole 7 = .ok (.bipush (-12), 2) := dk_16 244 (dk_at dksX1_borehole_0 7 rfl rfl)
theorem dX1_borehole_9 : decode cX1_borehole 9 = .ok (.bipush 12, 2) := dk_16 12 (dk_at dksX1_borehole_0 9 rfl rfl)
theorem dX1_borehole_11 : decode cX1_borehole 11 = .ok (.invokestatic 67, 3) := dk_184 0 67 (dk_at dksX1_borehole_0 11 rfl rfl)
theorem dX1_borehole_14 : decode cX1_borehole 14 = .ok (.invokestatic 87, 3) := dk_184 0 87 (dk_at dksX1_borehole_0 14 rfl rfl)
theorem dX1_borehole_17 : decode cX1_borehole 17 = .ok (.aload_n 0, 1) := dk_42 (dk_at dksX1_borehole_0 17 rfl rfl)
theorem dX1_borehole_18 : decode cX1_borehole 18 = .ok (.getfield 22, 3) := dk_180 0 22 (dk_at dksX1_borehole_0 18 rfl rfl)
theorem dX1_borehole_21 : decode cX1_borehole 21 = .ok (.invokevirtual 141, 3) := dk_182 0 141 (dk_at dksX1_borehole_0 21 rfl rfl)
theorem dX1_borehole_24 : decode cX1_borehole 24 = .ok (.bipush 10, 2) := dk_16 10 (dk_at dksX1_borehole_1 0 rfl rfl)
theorem dX1_borehole_26 : decode cX1_borehole 26 = .ok (.if_icmp .ge 7, 3) := dk_162 0 7 (dk_at dksX1_borehole_1 2 rfl rfl)
theorem dX1_borehole_29 : decode cX1_borehole 29 = .ok (.iconst 1, 1) := dk_4 (dk_at dksX1_borehole_1 5 rfl rfl)
theorem dX1_borehole_30 : decode cX1_borehole 30 = .ok (.goto 4, 3) := dk_167 0 4 (dk_at dksX1_borehole_1 6 rfl rfl)
theorem dX1_borehole_33 : decode cX1_borehole 33 = .ok (.iconst 0, 1) := dk_3 (dk_at dksX1_borehole_1 9 rfl rfl)
theorem dX1_borehole_34 : decode cX1_borehole 34 = .ok (.invokestatic 162, 3) := dk_184 0 162 (dk_at dksX1_borehole_1 10 rfl rfl)
theorem dX1_borehole_37 : decode cX1_borehole 37 = .ok (.aload_n 0, 1) := dk_42 (dk_at dksX1_borehole_1 13 rfl rfl)
theorem dX1_borehole_38 : decode cX1_borehole 38 = .ok (.getfield 22, 3) := dk_180 0 22 (dk_at dksX1_borehole_1 14 rfl rfl)
theorem dX1_borehole_41 : decode cX1_borehole 41 = .ok (.new 154, 3) := dk_187 0 154 (dk_at dksX1_borehole_1 17 rfl rfl)
theorem dX1_borehole_44 : decode cX1_borehole 44 = .ok (.dup, 1) := dk_89 (dk_at dksX1_borehole_1 20 rfl rfl)
theorem dX1_borehole_45 : decode cX1_borehole 45 = .ok (.aload_n 3, 1) := dk_45 (dk_at dksX1_borehole_1 21 rfl rfl)
theorem dX1_borehole_46 : decode cX1_borehole 46 = .ok (.iload_n 2, 1) := dk_28 (dk_at dksX1_borehole_1 22 rfl rfl)
theorem dX1_borehole_47 : decode cX1_borehole 47 = .ok (.aload_n 0, 1) := dk_42 (dk_at dksX1_borehole_1 23 rfl rfl)
theorem dX1_borehole_48 : decode cX1_borehole 48 = .ok (.getfield 156, 3) := dk_180 0 156 (dk_at dksX1_borehole_2 0 rfl rfl)
theorem dX1_borehole_51 : decode cX1_borehole 51 = .ok (.invokespecial 215, 3) := dk_183 0 215 (dk_at dksX1_borehole_2 3 rfl rfl)
theorem dX1_borehole_54 : decode cX1_borehole 54 = .ok (.invokevirtual 211, 3) := dk_182 0 211 (dk_at dksX1_borehole_2 6 rfl rfl)
theorem dX1_borehole_57 : decode cX1_borehole 57 = .ok (.pop, 1) := dk_87 (dk_at dksX1_borehole_2 9 rfl rfl)
theorem dX1_borehole_58 : decode cX1_borehole 58 = .ok (.aload_n 0, 1) := dk_42 (dk_at dksX1_borehole_2 10 rfl rfl)
theorem dX1_borehole_59 : decode cX1_borehole 59 = .ok (.getfield 22, 3) := dk_180 0 22 (dk_at dksX1_borehole_2 11 rfl rfl)
theorem dX1_borehole_62 : decode cX1_borehole 62 = .ok (.invokevirtual 141, 3) := dk_182 0 141 (dk_at dksX1_borehole_2 14 rfl rfl)
theorem dX1_borehole_65 : decode cX1_borehole 65 = .ok (.iconst 1, 1) := dk_4 (dk_at dksX1_borehole_2 17 rfl rfl)
theorem dX1_borehole_66 : decode cX1_borehole 66 = .ok (.isub, 1) := dk_100 (dk_at dksX1_borehole_2 18 rfl rfl)
theorem dX1_borehole_67 : decode cX1_borehole 67 = .ok (.ireturn, 1) := dk_172 (dk_at dksX1_borehole_2 19 rfl rfl)
abbrev cX1_claim : ByteArray := prog_1_method_21_code
def yX1_claim : MethodName := ⟨RX1, "claim", "(I)I"⟩
def dkwX1_claim_2 : List UInt8 := [180, 0, 156, 182, 0, 244, 183, 0, 248, 182, 0, 211, 87, 42, 180, 0, 25, 182, 0, 141, 4, 100, 172]
abbrev dktX1_claim_2 : List UInt8 := dkwX1_claim_2 ++ []
def dkwX1_claim_1 : List UInt8 := [184, 0, 162, 42, 180, 0, 25, 187, 0, 239, 89, 44, 42, 180, 0, 156, 42, 44, 44, 180, 0, 241, 42]
abbrev dktX1_claim_1 : List UInt8 := dkwX1_claim_1 ++ dktX1_claim_2
def dkwX1_claim_0 : List UInt8 := [42, 27, 182, 0, 235, 77, 42, 180, 0, 25, 182, 0, 141, 16, 40, 162, 0, 7, 4, 167, 0, 4, 3]
abbrev dktX1_claim_0 : List UInt8 := dkwX1_claim_0 ++ dktX1_claim_1
theorem dksX1_claim_0 : cX1_claim.data.toList.drop 0 = dktX1_claim_0 := by decide +kernel
theorem dksX1_claim_1 : cX1_claim.data.toList.drop 23 = dktX1_claim_1 := dk_seg dksX1_claim_0 23 rfl rfl
theorem dksX1_claim_2 : cX1_claim.data.toList.drop 46 = dktX1_claim_2 := dk_seg dksX1_claim_1 23 rfl rfl
theorem dX1_claim_0 : decode cX1_claim 0 = .ok (.aload_n 0, 1) := dk_42 (dk_at dksX1_claim_0 0 rfl rfl)
theorem dX1_claim_1 : decode cX1_claim 1 = .ok (.iload_n 1, 1) := dk_27 (dk_at dksX1_claim_0 1 rfl rfl)
theorem dX1_claim_2 : decode cX1_claim 2 = .ok (.invokevirtual 235, 3) := dk_182 0 235 (dk_at dksX1_claim_0 2 rfl rfl)
theorem dX1_claim_5 : decode cX1_claim 5 = .ok (.astore_n 2, 1) := dk_77 (dk_at dksX1_claim_0 5 rfl rfl)
theorem dX1_claim_6 : decode cX1_claim 6 = .ok (.aload_n 0, 1) := dk_42 (dk_at dksX1_claim_0 6 rfl rfl)
theorem dX1_claim_7 : decode cX1_claim 7 = .ok (.getfield 25, 3) := dk_180 0 25 (dk_at dksX1_claim_0 7 rfl rfl)
theorem dX1_claim_10 : decode cX1_claim 10 = .ok (.invokevirtual 141, 3) := dk_182 0 141 (dk_at dksX1_claim_0 10 rfl rfl)
theorem dX1_claim_13 : decode cX1_claim 13 = .ok (.bipush 40, 2) := dk_16 40 (dk_at dksX1_claim_0 13 rfl rfl)
theorem dX1_claim_15 : decode cX1_claim 15 = .ok (.if_icmp .ge 7, 3) := dk_162 0 7 (dk_at dksX1_claim_0 15 rfl rfl)
theorem dX1_claim_18 : decode cX1_claim 18 = .ok (.iconst 1, 1) := dk_4 (dk_at dksX1_claim_0 18 rfl rfl)
theorem dX1_claim_19 : decode cX1_claim 19 = .ok (.goto 4, 3) := dk_167 0 4 (dk_at dksX1_claim_0 19 rfl rfl)
theorem dX1_claim_22 : decode cX1_claim 22 = .ok (.iconst 0, 1) := dk_3 (dk_at dksX1_claim_0 22 rfl rfl)
theorem dX1_claim_23 : decode cX1_claim 23 = .ok (.invokestatic 162, 3) := dk_184 0 162 (dk_at dksX1_claim_1 0 rfl rfl)
theorem dX1_claim_26 : decode cX1_claim 26 = .ok (.aload_n 0, 1) := dk_42 (dk_at dksX1_claim_1 3 rfl rfl)
theorem dX1_claim_27 : decode cX1_claim 27 = .ok (.getfield 25, 3) := dk_180 0 25 (dk_at dksX1_claim_1 4 rfl rfl)
theorem dX1_claim_30 : decode cX1_claim 30 = .ok (.new 239, 3) := dk_187 0 239 (dk_at dksX1_claim_1 7 rfl rfl)
theorem dX1_claim_33 : decode cX1_claim 33 = .ok (.dup, 1) := dk_89 (dk_at dksX1_claim_1 10 rfl rfl)
theorem dX1_claim_34 : decode cX1_claim 34 = .ok (.aload_n 2, 1) := dk_44 (dk_at dksX1_claim_1 11 rfl rfl)
theorem dX1_claim_35 : decode cX1_claim 35 = .ok (.aload_n 0, 1) := dk_42 (dk_at dksX1_claim_1 12 rfl rfl)
theorem dX1_claim_36 : decode cX1_claim 36 = .ok (.getfield 156, 3) := dk_180 0 156 (dk_at dksX1_claim_1 13 rfl rfl)
theorem dX1_claim_39 : decode cX1_claim 39 = .ok (.aload_n 0, 1) := dk_42 (dk_at dksX1_claim_1 16 rfl rfl)
theorem dX1_claim_40 : decode cX1_claim 40 = .ok (.aload_n 2, 1) := dk_44 (dk_at dksX1_claim_1 17 rfl rfl)
theorem dX1_claim_41 : decode cX1_claim 41 = .ok (.aload_n 2, 1) := dk_44 (dk_at dksX1_claim_1 18 rfl rfl)
theorem dX1_claim_42 : decode cX1_claim 42 = .ok (.getfield 241, 3) := dk_180 0 241 (dk_at dksX1_claim_1 19 rfl rfl)
theorem dX1_claim_45 : decode cX1_claim 45 = .ok (.aload_n 0, 1) := dk_42 (dk_at dksX1_claim_1 22 rfl rfl)
theorem dX1_claim_46 : decode cX1_claim 46 = .ok (.getfield 156, 3) := dk_180 0 156 (dk_at dksX1_claim_2 0 rfl rfl)
theorem dX1_claim_49 : decode cX1_claim 49 = .ok (.invokevirtual 244, 3) := dk_182 0 244 (dk_at dksX1_claim_2 3 rfl rfl)
theorem dX1_claim_52 : decode cX1_claim 52 = .ok (.invokespecial 248, 3) := dk_183 0 248 (dk_at dksX1_claim_2 6 rfl rfl)
theorem dX1_claim_55 : decode cX1_claim 55 = .ok (.invokevirtual 211, 3) := dk_182 0 211 (dk_at dksX1_claim_2 9 rfl rfl)
theorem dX1_claim_58 : decode cX1_claim 58 = .ok (.pop, 1) := dk_87 (dk_at dksX1_claim_2 12 rfl rfl)
theorem dX1_claim_59 : decode cX1_claim 59 = .ok (.aload_n 0, 1) := dk_42 (dk_at dksX1_claim_2 13 rfl rfl)
theorem dX1_claim_60 : decode cX1_claim 60 = .ok (.getfield 25, 3) := dk_180 0 25 (dk_at dksX1_claim_2 14 rfl rfl)
theorem dX1_claim_63 : decode cX1_claim 63 = .ok (.invokevirtual 141, 3) := dk_182 0 141 (dk_at dksX1_claim_2 17 rfl rfl)
theorem dX1_claim_66 : decode cX1_claim 66 = .ok (.iconst 1, 1) := dk_4 (dk_at dksX1_claim_2 20 rfl rfl)
theorem dX1_claim_67 : decode cX1_claim 67 = .ok (.isub, 1) := dk_100 (dk_at dksX1_claim_2 21 rfl rfl)
theorem dX1_claim_68 : decode cX1_claim 68 = .ok (.ireturn, 1) := dk_172 (dk_at dksX1_claim_2 22 rfl rfl)
abbrev cX1_houseAt : ByteArray := prog_1_method_19_code
def yX1_houseAt : MethodName := ⟨RX1, "houseAt", "(I)LWakeground$House;"⟩
def dkwX1_houseAt_1 : List UInt8 := [182, 0, 145, 192, 0, 149, 176]
abbrev dktX1_houseAt_1 : List UInt8 := dkwX1_houseAt_1 ++ []
def dkwX1_houseAt_0 : List UInt8 := [27, 3, 42, 180, 0, 18, 182, 0, 141, 4, 100, 184, 0, 67, 184, 0, 71, 42, 180, 0, 18, 27]
abbrev dktX1_houseAt_0 : List UInt8 := dkwX1_houseAt_0 ++ dktX1_houseAt_1
theorem dksX1_houseAt_0 : cX1_houseAt.data.toList.drop 0 = dktX1_houseAt_0 := by decide +kernel
theorem dksX1_houseAt_1 : cX1_houseAt.data.toList.drop 22 = dktX1_houseAt_1 := dk_seg dksX1_houseAt_0 22 rfl rfl
theorem dX1_houseAt_0 : decode cX1_houseAt 0 = .ok (.iload_n 1, 1) := dk_27 (dk_at dksX1_houseAt_0 0 rfl rfl)
theorem dX1_houseAt_1 : decode cX1_houseAt 1 = .ok (.iconst 0, 1) := dk_3 (dk_at dksX1_houseAt_0 1 rfl rfl)
theorem dX1_houseAt_2 : decode cX1_houseAt 2 = .ok (.aload_n 0, 1) := dk_42 (dk_at dksX1_houseAt_0 2 rfl rfl)
theorem dX1_houseAt_3 : decode cX1_houseAt 3 = .ok (.getfield 18, 3) := dk_180 0 18 (dk_at dksX1_houseAt_0 3 rfl rfl)
theorem dX1_houseAt_6 : decode cX1_houseAt 6 = .ok (.invokevirtual 141, 3) := dk_182 0 141 (dk_at dksX1_houseAt_0 6 rfl rfl)
theorem dX1_houseAt_9 : decode cX1_houseAt 9 = .ok (.iconst 1, 1) := dk_4 (dk_at dksX1_houseAt_0 9 rfl rfl)
theorem dX1_houseAt_10 : decode cX1_houseAt 10 = .ok (.isub, 1) := dk_100 (dk_at dksX1_houseAt_0 10 rfl rfl)
theorem dX1_houseAt_11 : decode cX1_houseAt 11 = .ok (.invokestatic 67, 3) := dk_184 0 67 (dk_at dksX1_houseAt_0 11 rfl rfl)
theorem dX1_houseAt_14 : decode cX1_houseAt 14 = .ok (.invokestatic 71, 3) := dk_184 0 71 (dk_at dksX1_houseAt_0 14 rfl rfl)
theorem dX1_houseAt_17 : decode cX1_houseAt 17 = .ok (.aload_n 0, 1) := dk_42 (dk_at dksX1_houseAt_0 17 rfl rfl)
theorem dX1_houseAt_18 : decode cX1_houseAt 18 = .ok (.getfield 18, 3) := dk_180 0 18 (dk_at dksX1_houseAt_0 18 rfl rfl)
theorem dX1_houseAt_21 : decode cX1_houseAt 21 = .ok (.iload_n 1, 1) := dk_27 (dk_at dksX1_houseAt_0 21 rfl rfl)
theorem dX1_houseAt_22 : decode cX1_houseAt 22 = .ok (.invokevirtual 145, 3) := dk_182 0 145 (dk_at dksX1_houseAt_1 0 rfl rfl)
theorem dX1_houseAt_25 : decode cX1_houseAt 25 = .ok (.checkcast 149, 3) := dk_192 0 149 (dk_at dksX1_houseAt_1 3 rfl rfl)
theorem dX1_houseAt_28 : decode cX1_houseAt 28 = .ok (.areturn, 1) := dk_176 (dk_at dksX1_houseAt_1 6 rfl rfl)
abbrev cX1_due : ByteArray := prog_1_method_20_code
def yX1_due : MethodName := ⟨RX1, "due", "(LWakeground$House;II)I"⟩
def dkwX1_due_5 : List UInt8 := [16, 100, 28, 21, 4, 184, 0, 115, 104, 172]
abbrev dktX1_due_5 : List UInt8 := dkwX1_due_5 ++ []
def dkwX1_due_4 : List UInt8 := [167, 255, 183, 21, 4, 21, 6, 153, 0, 7, 4, 167, 0, 4, 3, 96, 54, 4, 132, 5, 1, 167, 255, 150]
abbrev dktX1_due_4 : List UInt8 := dkwX1_due_4 ++ dktX1_due_5
def dkwX1_due_3 : List UInt8 := [21, 5, 43, 180, 0, 229, 182, 0, 232, 155, 0, 7, 4, 167, 0, 4, 3, 128, 54, 6, 132, 7, 1]
abbrev dktX1_due_3 : List UInt8 := dkwX1_due_3 ++ dktX1_due_4
def dkwX1_due_2 : List UInt8 := [21, 6, 25, 8, 43, 182, 0, 221, 153, 0, 32, 25, 8, 21, 5, 29, 182, 0, 225, 153, 0, 21, 25, 8]
abbrev dktX1_due_2 : List UInt8 := dkwX1_due_2 ++ dktX1_due_3
def dkwX1_due_1 : List UInt8 := [180, 0, 22, 182, 0, 141, 162, 0, 67, 42, 180, 0, 22, 21, 7, 182, 0, 145, 192, 0, 154, 58, 8]
abbrev dktX1_due_1 : List UInt8 := dkwX1_due_1 ++ dktX1_due_2
def dkwX1_due_0 : List UInt8 := [3, 54, 4, 43, 180, 0, 218, 54, 5, 21, 5, 29, 162, 0, 106, 3, 54, 6, 3, 54, 7, 21, 7, 42]
abbrev dktX1_due_0 : List UInt8 := dkwX1_due_0 ++ dktX1_due_1
theorem dksX1_due_0 : cX1_due.data.toList.drop 0 = dktX1_due_0 := by decide +kernel
theorem dksX1_due_1 : cX1_due.data.toList.drop 24 = dktX1_due_1 := dk_seg dksX1_due_0 24 rfl rfl
theorem dksX1_due_2 : cX1_due.data.toList.drop 47 = dktX1_due_2 := dk_seg dksX1_due_1 23 rfl rfl
theorem dksX1_due_3 : cX1_due.data.toList.drop 71 = dktX1_due_3 := dk_seg dksX1_due_2 24 rfl rfl
theorem dksX1_due_4 : cX1_due.data.toList.drop 94 = dktX1_due_4 := dk_seg dksX1_due_3 23 rfl rfl
theorem dksX1_due_5 : cX1_due.data.toList.drop 118 = dktX1_due_5 := dk_seg dksX1_due_4 24 rfl rfl
theorem dX1_due_0 : decode cX1_due 0 = .ok (.iconst 0, 1) := dk_3 (dk_at dksX1_due_0 0 rfl rfl)
theorem dX1_due_1 : decode cX1_due 1 = .ok (.istore 4, 2) := dk_54 4 (dk_at dksX1_due_0 1 rfl rfl)
theorem dX1_due_3 : decode cX1_due 3 = .ok (.aload_n 1, 1) := dk_43 (dk_at dksX1_due_0 3 rfl rfl)
theorem dX1_due_4 : decode cX1_due 4 = .ok (.getfield 218, 3) := dk_180 0 218 (dk_at dksX1_due_0 4 rfl rfl)
theorem dX1_due_7 : decode cX1_due 7 = .ok (.istore 5, 2) := dk_54 5 (dk_at dksX1_due_0 7 rfl rfl)
theorem dX1_due_9 : decode cX1_due 9 = .ok (.iload 5, 2) := dk_21 5 (dk_at dksX1_due_0 9 rfl rfl)
theorem dX1_due_11 : decode cX1_due 11 = .ok (.iload_n 3, 1) := dk_29 (dk_at dksX1_due_0 11 rfl rfl)
theorem dX1_due_12 : decode cX1_due 12 = .ok (.if_icmp .ge 106, 3) := dk_162 0 106 (dk_at dksX1_due_0 12 rfl rfl)
theorem dX1_due_15 : decode cX1_due 15 = .ok (.iconst 0, 1) := dk_3 (dk_at dksX1_due_0 15 rfl rfl)
theorem dX1_due_16 : decode cX1_due 16 = .ok (.istore 6, 2) := dk_54 6 (dk_at dksX1_due_0 16 rfl rfl)
theorem dX1_due_18 : decode cX1_due 18 = .ok (.iconst 0, 1) := dk_3 (dk_at dksX1_due_0 18 rfl rfl)
theorem dX1_due_19 : decode cX1_due 19 = .ok (.istore 7, 2) := dk_54 7 (dk_at dksX1_due_0 19 rfl rfl)
theorem dX1_due_21 : decode cX1_due 21 = .ok (.iload 7, 2) := dk_21 7 (dk_at dksX1_due_0 21 rfl rfl)
theorem dX1_due_23 : decode cX1_due 23 = .ok (.aload_n 0, 1) := dk_42 (dk_at dksX1_due_0 23 rfl rfl)
theorem dX1_due_24 : decode cX1_due 24 = .ok (.getfield 22, 3) := dk_180 0 22 (dk_at dksX1_due_1 0 rfl rfl)
theorem dX1_due_27 : decode cX1_due 27 = .ok (.invokevirtual 141, 3) := dk_182 0 141 (dk_at dksX1_due_1 3 rfl rfl)
theorem dX1_due_30 : decode cX1_due 30 = .ok (.if_icmp .ge 67, 3) := dk_162 0 67 (dk_at dksX1_due_1 6 rfl rfl)
theorem dX1_due_33 : decode cX1_due 33 = .ok (.aload_n 0, 1) := dk_42 (dk_at dksX1_due_1 9 rfl rfl)
theorem dX1_due_34 : decode cX1_due 34 = .ok (.getfield 22, 3) := dk_180 0 22 (dk_at dksX1_due_1 10 rfl rfl)
theorem dX1_due_37 : decode cX1_due 37 = .ok (.iload 7, 2) := dk_21 7 (dk_at dksX1_due_1 13 rfl rfl)
theorem dX1_due_39 : decode cX1_due 39 = .ok (.invokevirtual 145, 3) := dk_182 0 145 (dk_at dksX1_due_1 15 rfl rfl)
theorem dX1_due_42 : decode cX1_due 42 = .ok (.checkcast 154, 3) := dk_192 0 154 (dk_at dksX1_due_1 18 rfl rfl)
theorem dX1_due_45 : decode cX1_due 45 = .ok (.astore 8, 2) := dk_58 8 (dk_at dksX1_due_1 21 rfl rfl)
theorem dX1_due_47 : decode cX1_due 47 = .ok (.iload 6, 2) := dk_21 6 (dk_at dksX1_due_2 0 rfl rfl)
theorem dX1_due_49 : decode cX1_due 49 = .ok (.aload 8, 2) := dk_25 8 (dk_at dksX1_due_2 2 rfl rfl)
theorem dX1_due_51 : decode cX1_due 51 = .ok (.aload_n 1, 1) := dk_43 (dk_at dksX1_due_2 4 rfl rfl)
theorem dX1_due_52 : decode cX1_due 52 = .ok (.invokevirtual 221, 3) := dk_182 0 221 (dk_at dksX1_due_2 5 rfl rfl)
theorem dX1_due_55 : decode cX1_due 55 = .ok (.ifCond .eq 32, 3) := dk_153 0 32 (dk_at dksX1_due_2 8 rfl rfl)
theorem dX1_due_58 : decode cX1_due 58 = .ok (.aload 8, 2) := dk_25 8 (dk_at dksX1_due_2 11 rfl rfl)
theorem dX1_due_60 : decode cX1_due 60 = .ok (.iload 5, 2) := dk_21 5 (dk_at dksX1_due_2 13 rfl rfl)
theorem dX1_due_62 : decode cX1_due 62 = .ok (.iload_n 3, 1) := dk_29 (dk_at dksX1_due_2 15 rfl rfl)
theorem dX1_due_63 : decode cX1_due 63 = .ok (.invokevirtual 225, 3) := dk_182 0 225 (dk_at dksX1_due_2 16 rfl rfl)
theorem dX1_due_66 : decode cX1_due 66 = .ok (.ifCond .eq 21, 3) := dk_153 0 21 (dk_at dksX1_due_2 19 rfl rfl)
theorem dX1_due_69 : decode cX1_due 69 = .ok (.aload 8, 2) := dk_25 8 (dk_at dksX1_due_2 22 rfl rfl)
theorem dX1_due_71 : decode cX1_due 71 = .ok (.iload 5, 2) := dk_21 5 (dk_at dksX1_due_3 0 rfl rfl)
theorem dX1_due_73 : decode cX1_due 73 = .ok (.aload_n 1, 1) := dk_43 (dk_at dksX1_due_3 2 rfl rfl)
theorem dX1_due_74 : decode cX1_due 74 = .ok (.getfield 229, 3) := dk_180 0 229 (dk_at dksX1_due_3 3 rfl rfl)
theorem dX1_due_77 : decode cX1_due 77 = .ok (.invokevirtual 232, 3) := dk_182 0 232 (dk_at dksX1_due_3 6 rfl rfl)
theorem dX1_due_80 : decode cX1_due 80 = .ok (.ifCond .lt 7, 3) := dk_155 0 7 (dk_at dksX1_due_3 9 rfl rfl)
theorem dX1_due_83 : decode cX1_due 83 = .ok (.iconst 1, 1) := dk_4 (dk_at dksX1_due_3 12 rfl rfl)
theorem dX1_due_84 : decode cX1_due 84 = .ok (.goto 4, 3) := dk_167 0 4 (dk_at dksX1_due_3 13 rfl rfl)
theorem dX1_due_87 : decode cX1_due 87 = .ok (.iconst 0, 1) := dk_3 (dk_at dksX1_due_3 16 rfl rfl)
theorem dX1_due_88 : decode cX1_due 88 = .ok (.ior, 1) := dk_128 (dk_at dksX1_due_3 17 rfl rfl)
theorem dX1_due_89 : decode cX1_due 89 = .ok (.istore 6, 2) := dk_54 6 (dk_at dksX1_due_3 18 rfl rfl)
theorem dX1_due_91 : decode cX1_due 91 = .ok (.iinc 7 1, 3) := dk_132 7 1 (dk_at dksX1_due_3 20 rfl rfl)
theorem dX1_due_94 : decode cX1_due 94 = .ok (.goto (-73), 3) := dk_167 255 183 (dk_at dksX1_due_4 0 rfl rfl)
theorem dX1_due_97 : decode cX1_due 97 = .ok (.iload 4, 2) := dk_21 4 (dk_at dksX1_due_4 3 rfl rfl)
theorem dX1_due_99 : decode cX1_due 99 = .ok (.iload 6, 2) := dk_21 6 (dk_at dksX1_due_4 5 rfl rfl)
theorem dX1_due_101 : decode cX1_due 101 = .ok (.ifCond .eq 7, 3) := dk_153 0 7 (dk_at dksX1_due_4 7 rfl rfl)
theorem dX1_due_104 : decode cX1_due 104 = .ok (.iconst 1, 1) := dk_4 (dk_at dksX1_due_4 10 rfl rfl)
theorem dX1_due_105 : decode cX1_due 105 = .ok (.goto 4, 3) := dk_167 0 4 (dk_at dksX1_due_4 11 rfl rfl)
theorem dX1_due_108 : decode cX1_due 108 = .ok (.iconst 0, 1) := dk_3 (dk_at dksX1_due_4 14 rfl rfl)
theorem dX1_due_109 : decode cX1_due 109 = .ok (.iadd, 1) := dk_96 (dk_at dksX1_due_4 15 rfl rfl)
theorem dX1_due_110 : decode cX1_due 110 = .ok (.istore 4, 2) := dk_54 4 (dk_at dksX1_due_4 16 rfl rfl)
theorem dX1_due_112 : decode cX1_due 112 = .ok (.iinc 5 1, 3) := dk_132 5 1 (dk_at dksX1_due_4 18 rfl rfl)
theorem dX1_due_115 : decode cX1_due 115 = .ok (.goto (-106), 3) := dk_167 255 150 (dk_at dksX1_due_4 21 rfl rfl)
theorem dX1_due_118 : decode cX1_due 118 = .ok (.bipush 100, 2) := dk_16 100 (dk_at dksX1_due_5 0 rfl rfl)
theorem dX1_due_120 : decode cX1_due 120 = .ok (.iload_n 2, 1) := dk_28 (dk_at dksX1_due_5 2 rfl rfl)
theorem dX1_due_121 : decode cX1_due 121 = .ok (.iload 4, 2) := dk_21 4 (dk_at dksX1_due_5 3 rfl rfl)
theorem dX1_due_123 : decode cX1_due 123 = .ok (.invokestatic 115, 3) := dk_184 0 115 (dk_at dksX1_due_5 5 rfl rfl)
theorem dX1_due_126 : decode cX1_due 126 = .ok (.imul, 1) := dk_104 (dk_at dksX1_due_5 8 rfl rfl)
theorem dX1_due_127 : decode cX1_due 127 = .ok (.ireturn, 1) := dk_172 (dk_at dksX1_due_5 9 rfl rfl)
abbrev cX1_cellOf : ByteArray := prog_1_method_23_code
def yX1_cellOf : MethodName := ⟨RX1, "cellOf", "(II)I"⟩
def dkwX1_cellOf_5 : List UInt8 := [182, 1, 5, 172]
abbrev dktX1_cellOf_5 : List UInt8 := dkwX1_cellOf_5 ++ []
def dkwX1_cellOf_4 : List UInt8 := [42, 182, 0, 194, 45, 180, 0, 191, 154, 0, 7, 3, 167, 0, 8, 42, 27, 182, 0, 197, 172, 45]
abbrev dktX1_cellOf_4 : List UInt8 := dkwX1_cellOf_4 ++ dktX1_cellOf_5
def dkwX1_cellOf_3 : List UInt8 := [172, 45, 180, 0, 204, 199, 0, 7, 2, 167, 0, 14, 42, 180, 0, 18, 45, 180, 0, 204, 182, 1, 1, 172]
abbrev dktX1_cellOf_3 : List UInt8 := dkwX1_cellOf_3 ++ dktX1_cellOf_4
def dkwX1_cellOf_2 : List UInt8 := [45, 180, 0, 251, 172, 45, 180, 0, 191, 172, 45, 180, 0, 112, 172, 45, 180, 0, 105, 172, 45, 180, 0, 254]
abbrev dktX1_cellOf_2 : List UInt8 := dkwX1_cellOf_2 ++ dktX1_cellOf_3
def dkwX1_cellOf_1 : List UInt8 := [170, 0, 0, 0, 0, 0, 112, 0, 0, 0, 0, 0, 0, 0, 6, 0, 0, 0, 43, 0, 0, 0, 48, 0, 0, 0, 53, 0, 0, 0, 58, 0, 0, 0, 63, 0, 0, 0, 68, 0, 0, 0, 91]
abbrev dktX1_cellOf_1 : List UInt8 := dkwX1_cellOf_1 ++ dktX1_cellOf_2
def dkwX1_cellOf_0 : List UInt8 := [42, 27, 182, 0, 75, 78, 28, 3, 16, 7, 184, 0, 67, 184, 0, 87, 28]
abbrev dktX1_cellOf_0 : List UInt8 := dkwX1_cellOf_0 ++ dktX1_cellOf_1
theorem dksX1_cellOf_0 : cX1_cellOf.data.toList.drop 0 = dktX1_cellOf_0 := by decide +kernel
theorem dksX1_cellOf_1 : cX1_cellOf.data.toList.drop 17 = dktX1_cellOf_1 := dk_seg dksX1_cellOf_0 17 rfl rfl
theorem dksX1_cellOf_2 : cX1_cellOf.data.toList.drop 60 = dktX1_cellOf_2 := dk_seg dksX1_cellOf_1 43 rfl rfl
theorem dksX1_cellOf_3 : cX1_cellOf.data.toList.drop 84 = dktX1_cellOf_3 := dk_seg dksX1_cellOf_2 24 rfl rfl
theorem dksX1_cellOf_4 : cX1_cellOf.data.toList.drop 108 = dktX1_cellOf_4 := dk_seg dksX1_cellOf_3 24 rfl rfl
theorem dksX1_cellOf_5 : cX1_cellOf.data.toList.drop 130 = dktX1_cellOf_5 := dk_seg dksX1_cellOf_4 22 rfl rfl
theorem dX1_cellOf_0 : decode cX1_cellOf 0 = .ok (.aload_n 0, 1) := dk_42 (dk_at dksX1_cellOf_0 0 rfl rfl)
theorem dX1_cellOf_1 : decode cX1_cellOf 1 = .ok (.iload_n 1, 1) := dk_27 (dk_at dksX1_cellOf_0 1 rfl rfl)
theorem dX1_cellOf_2 : decode cX1_cellOf 2 = .ok (.invokevirtual 75, 3) := dk_182 0 75 (dk_at dksX1_cellOf_0 2 rfl rfl)
theorem dX1_cellOf_5 : decode cX1_cellOf 5 = .ok (.astore_n 3, 1) := dk_78 (dk_at dksX1_cellOf_0 5 rfl rfl)
theorem dX1_cellOf_6 : decode cX1_cellOf 6 = .ok (.iload_n 2, 1) := dk_28 (dk_at dksX1_cellOf_0 6 rfl rfl)
theorem dX1_cellOf_7 : decode cX1_cellOf 7 = .ok (.iconst 0, 1) := dk_3 (dk_at dksX1_cellOf_0 7 rfl rfl)
theorem dX1_cellOf_8 : decode cX1_cellOf 8 = .ok (.bipush 7, 2) := dk_16 7 (dk_at dksX1_cellOf_0 8 rfl rfl)
theorem dX1_cellOf_10 : decode cX1_cellOf 10 = .ok (.invokestatic 67, 3) := dk_184 0 67 (dk_at dksX1_cellOf_0 10 rfl rfl)
theorem dX1_cellOf_13 : decode cX1_cellOf 13 = .ok (.invokestatic 87, 3) := dk_184 0 87 (dk_at dksX1_cellOf_0 13 rfl rfl)
theorem dX1_cellOf_16 : decode cX1_cellOf 16 = .ok (.iload_n 2, 1) := dk_28 (dk_at dksX1_cellOf_0 16 rfl rfl)
theorem dX1_cellOf_17 : decode cX1_cellOf 17 = .ok (.tableswitch 112 0 6 #[43, 48, 53, 58, 63, 68, 91], 43) := by decide +kernel
theorem dX1_cellOf_60 : decode cX1_cellOf 60 = .ok (.aload_n 3, 1) := dk_45 (dk_at dksX1_cellOf_2 0 rfl rfl)
theorem dX1_cellOf_61 : decode cX1_cellOf 61 = .ok (.getfield 251, 3) := dk_180 0 251 (dk_at dksX1_cellOf_2 1 rfl rfl)
theorem dX1_cellOf_64 : decode cX1_cellOf 64 = .ok (.ireturn, 1) := dk_172 (dk_at dksX1_cellOf_2 4 rfl rfl)
theorem dX1_cellOf_65 : decode cX1_cellOf 65 = .ok (.aload_n 3, 1) := dk_45 (dk_at dksX1_cellOf_2 5 rfl rfl)
theorem dX1_cellOf_66 : decode cX1_cellOf 66 = .ok (.getfield 191, 3) := dk_180 0 191 (dk_at dksX1_cellOf_2 6 rfl rfl)
theorem dX1_cellOf_69 : decode cX1_cellOf 69 = .ok (.ireturn, 1) := dk_172 (dk_at dksX1_cellOf_2 9 rfl rfl)
theorem dX1_cellOf_70 : decode cX1_cellOf 70 = .ok (.aload_n 3, 1) := dk_45 (dk_at dksX1_cellOf_2 10 rfl rfl)
theorem dX1_cellOf_71 : decode cX1_cellOf 71 = .ok (.getfield 112, 3) := dk_180 0 112 (dk_at dksX1_cellOf_2 11 rfl rfl)
theorem dX1_cellOf_74 : decode cX1_cellOf 74 = .ok (.ireturn, 1) := dk_172 (dk_at dksX1_cellOf_2 14 rfl rfl)
theorem dX1_cellOf_75 : decode cX1_cellOf 75 = .ok (.aload_n 3, 1) := dk_45 (dk_at dksX1_cellOf_2 15 rfl rfl)
theorem dX1_cellOf_76 : decode cX1_cellOf 76 = .ok (.getfield 105, 3) := dk_180 0 105 (dk_at dksX1_cellOf_2 16 rfl rfl)
theorem dX1_cellOf_79 : decode cX1_cellOf 79 = .ok (.ireturn, 1) := dk_172 (dk_at dksX1_cellOf_2 19 rfl rfl)
theorem dX1_cellOf_80 : decode cX1_cellOf 80 = .ok (.aload_n 3, 1) := dk_45 (dk_at dksX1_cellOf_2 20 rfl rfl)
theorem dX1_cellOf_81 : decode cX1_cellOf 81 = .ok (.getfield 254, 3) := dk_180 0 254 (dk_at dksX1_cellOf_2 21 rfl rfl)
theorem dX1_cellOf_84 : decode cX1_cellOf 84 = .ok (.ireturn, 1) := dk_172 (dk_at dksX1_cellOf_3 0 rfl rfl)
theorem dX1_cellOf_85 : decode cX1_cellOf 85 = .ok (.aload_n 3, 1) := dk_45 (dk_at dksX1_cellOf_3 1 rfl rfl)
theorem dX1_cellOf_86 : decode cX1_cellOf 86 = .ok (.getfield 204, 3) := dk_180 0 204 (dk_at dksX1_cellOf_3 2 rfl rfl)
theorem dX1_cellOf_89 : decode cX1_cellOf 89 = .ok (.ifnonnull 7, 3) := dk_199 0 7 (dk_at dksX1_cellOf_3 5 rfl rfl)
theorem dX1_cellOf_92 : decode cX1_cellOf 92 = .ok (.iconst (-1), 1) := dk_2 (dk_at dksX1_cellOf_3 8 rfl rfl)
theorem dX1_cellOf_93 : decode cX1_cellOf 93 = .ok (.goto 14, 3) := dk_167 0 14 (dk_at dksX1_cellOf_3 9 rfl rfl)
theorem dX1_cellOf_96 : decode cX1_cellOf 96 = .ok (.aload_n 0, 1) := dk_42 (dk_at dksX1_cellOf_3 12 rfl rfl)
theorem dX1_cellOf_97 : decode cX1_cellOf 97 = .ok (.getfield 18, 3) := dk_180 0 18 (dk_at dksX1_cellOf_3 13 rfl rfl)
theorem dX1_cellOf_100 : decode cX1_cellOf 100 = .ok (.aload_n 3, 1) := dk_45 (dk_at dksX1_cellOf_3 16 rfl rfl)
theorem dX1_cellOf_101 : decode cX1_cellOf 101 = .ok (.getfield 204, 3) := dk_180 0 204 (dk_at dksX1_cellOf_3 17 rfl rfl)
theorem dX1_cellOf_104 : decode cX1_cellOf 104 = .ok (.invokevirtual 257, 3) := dk_182 1 1 (dk_at dksX1_cellOf_3 20 rfl rfl)
theorem dX1_cellOf_107 : decode cX1_cellOf 107 = .ok (.ireturn, 1) := dk_172 (dk_at dksX1_cellOf_3 23 rfl rfl)
theorem dX1_cellOf_108 : decode cX1_cellOf 108 = .ok (.aload_n 0, 1) := dk_42 (dk_at dksX1_cellOf_4 0 rfl rfl)
theorem dX1_cellOf_109 : decode cX1_cellOf 109 = .ok (.invokevirtual 194, 3) := dk_182 0 194 (dk_at dksX1_cellOf_4 1 rfl rfl)
theorem dX1_cellOf_112 : decode cX1_cellOf 112 = .ok (.aload_n 3, 1) := dk_45 (dk_at dksX1_cellOf_4 4 rfl rfl)
theorem dX1_cellOf_113 : decode cX1_cellOf 113 = .ok (.getfield 191, 3) := dk_180 0 191 (dk_at dksX1_cellOf_4 5 rfl rfl)
theorem dX1_cellOf_116 : decode cX1_cellOf 116 = .ok (.ifCond .ne 7, 3) := dk_154 0 7 (dk_at dksX1_cellOf_4 8 rfl rfl)
theorem dX1_cellOf_119 : decode cX1_cellOf 119 = .ok (.iconst 0, 1) := dk_3 (dk_at dksX1_cellOf_4 11 rfl rfl)
theorem dX1_cellOf_120 : decode cX1_cellOf 120 = .ok (.goto 8, 3) := dk_167 0 8 (dk_at dksX1_cellOf_4 12 rfl rfl)
theorem dX1_cellOf_123 : decode cX1_cellOf 123 = .ok (.aload_n 0, 1) := dk_42 (dk_at dksX1_cellOf_4 15 rfl rfl)
theorem dX1_cellOf_124 : decode cX1_cellOf 124 = .ok (.iload_n 1, 1) := dk_27 (dk_at dksX1_cellOf_4 16 rfl rfl)
theorem dX1_cellOf_125 : decode cX1_cellOf 125 = .ok (.invokevirtual 197, 3) := dk_182 0 197 (dk_at dksX1_cellOf_4 17 rfl rfl)
theorem dX1_cellOf_128 : decode cX1_cellOf 128 = .ok (.ireturn, 1) := dk_172 (dk_at dksX1_cellOf_4 20 rfl rfl)
theorem dX1_cellOf_129 : decode cX1_cellOf 129 = .ok (.aload_n 3, 1) := dk_45 (dk_at dksX1_cellOf_4 21 rfl rfl)
theorem dX1_cellOf_130 : decode cX1_cellOf 130 = .ok (.invokevirtual 261, 3) := dk_182 1 5 (dk_at dksX1_cellOf_5 0 rfl rfl)
theorem dX1_cellOf_133 : decode cX1_cellOf 133 = .ok (.ireturn, 1) := dk_172 (dk_at dksX1_cellOf_5 3 rfl rfl)
abbrev cX1_layerOf : ByteArray := prog_1_method_24_code
def yX1_layerOf : MethodName := ⟨RX1, "layerOf", "(III)I"⟩
def dkwX1_layerOf_3 : List UInt8 := [25, 4, 180, 0, 102, 172, 25, 4, 182, 1, 10, 172]
abbrev dktX1_layerOf_3 : List UInt8 := dkwX1_layerOf_3 ++ []
def dkwX1_layerOf_2 : List UInt8 := [25, 4, 182, 1, 8, 172, 25, 4, 180, 0, 90, 172, 25, 4, 180, 0, 96, 172, 25, 4, 180, 0, 99, 172]
abbrev dktX1_layerOf_2 : List UInt8 := dkwX1_layerOf_2 ++ dktX1_layerOf_3
def dkwX1_layerOf_1 : List UInt8 := [170, 0, 0, 0, 0, 64, 0, 0, 0, 0, 0, 0, 0, 4, 0, 0, 0, 34, 0, 0, 0, 40, 0, 0, 0, 46, 0, 0, 0, 52, 0, 0, 0, 58]
abbrev dktX1_layerOf_1 : List UInt8 := dkwX1_layerOf_1 ++ dktX1_layerOf_2
def dkwX1_layerOf_0 : List UInt8 := [42, 27, 28, 182, 0, 83, 58, 4, 29, 3, 8, 184, 0, 67, 184, 0, 87, 29]
abbrev dktX1_layerOf_0 : List UInt8 := dkwX1_layerOf_0 ++ dktX1_layerOf_1
theorem dksX1_layerOf_0 : cX1_layerOf.data.toList.drop 0 = dktX1_layerOf_0 := by decide +kernel
theorem dksX1_layerOf_1 : cX1_layerOf.data.toList.drop 18 = dktX1_layerOf_1 := dk_seg dksX1_layerOf_0 18 rfl rfl
theorem dksX1_layerOf_2 : cX1_layerOf.data.toList.drop 52 = dktX1_layerOf_2 := dk_seg dksX1_layerOf_1 34 rfl rfl
theorem dksX1_layerOf_3 : cX1_layerOf.data.toList.drop 76 = dktX1_layerOf_3 := dk_seg dksX1_layerOf_2 24 rfl rfl
theorem dX1_layerOf_0 : decode cX1_layerOf 0 = .ok (.aload_n 0, 1) := dk_42 (dk_at dksX1_layerOf_0 0 rfl rfl)
theorem dX1_layerOf_1 : decode cX1_layerOf 1 = .ok (.iload_n 1, 1) := dk_27 (dk_at dksX1_layerOf_0 1 rfl rfl)
theorem dX1_layerOf_2 : decode cX1_layerOf 2 = .ok (.iload_n 2, 1) := dk_28 (dk_at dksX1_layerOf_0 2 rfl rfl)
theorem dX1_layerOf_3 : decode cX1_layerOf 3 = .ok (.invokevirtual 83, 3) := dk_182 0 83 (dk_at dksX1_layerOf_0 3 rfl rfl)
theorem dX1_layerOf_6 : decode cX1_layerOf 6 = .ok (.astore 4, 2) := dk_58 4 (dk_at dksX1_layerOf_0 6 rfl rfl)
theorem dX1_layerOf_8 : decode cX1_layerOf 8 = .ok (.iload_n 3, 1) := dk_29 (dk_at dksX1_layerOf_0 8 rfl rfl)
theorem dX1_layerOf_9 : decode cX1_layerOf 9 = .ok (.iconst 0, 1) := dk_3 (dk_at dksX1_layerOf_0 9 rfl rfl)
theorem dX1_layerOf_10 : decode cX1_layerOf 10 = .ok (.iconst 5, 1) := dk_8 (dk_at dksX1_layerOf_0 10 rfl rfl)
theorem dX1_layerOf_11 : decode cX1_layerOf 11 = .ok (.invokestatic 67, 3) := dk_184 0 67 (dk_at dksX1_layerOf_0 11 rfl rfl)
theorem dX1_layerOf_14 : decode cX1_layerOf 14 = .ok (.invokestatic 87, 3) := dk_184 0 87 (dk_at dksX1_layerOf_0 14 rfl rfl)
theorem dX1_layerOf_17 : decode cX1_layerOf 17 = .ok (.iload_n 3, 1) := dk_29 (dk_at dksX1_layerOf_0 17 rfl rfl)
theorem dX1_layerOf_18 : decode cX1_layerOf 18 = .ok (.tableswitch 64 0 4 #[34, 40, 46, 52, 58], 34) := by decide +kernel
theorem dX1_layerOf_52 : decode cX1_layerOf 52 = .ok (.aload 4, 2) := dk_25 4 (dk_at dksX1_layerOf_2 0 rfl rfl)
theorem dX1_layerOf_54 : decode cX1_layerOf 54 = .ok (.invokevirtual 264, 3) := dk_182 1 8 (dk_at dksX1_layerOf_2 2 rfl rfl)
theorem dX1_layerOf_57 : decode cX1_layerOf 57 = .ok (.ireturn, 1) := dk_172 (dk_at dksX1_layerOf_2 5 rfl rfl)
theorem dX1_layerOf_58 : decode cX1_layerOf 58 = .ok (.aload 4, 2) := dk_25 4 (dk_at dksX1_layerOf_2 6 rfl rfl)
theorem dX1_layerOf_60 : decode cX1_layerOf 60 = .ok (.getfield 90, 3) := dk_180 0 90 (dk_at dksX1_layerOf_2 8 rfl rfl)
theorem dX1_layerOf_63 : decode cX1_layerOf 63 = .ok (.ireturn, 1) := dk_172 (dk_at dksX1_layerOf_2 11 rfl rfl)
theorem dX1_layerOf_64 : decode cX1_layerOf 64 = .ok (.aload 4, 2) := dk_25 4 (dk_at dksX1_layerOf_2 12 rfl rfl)
theorem dX1_layerOf_66 : decode cX1_layerOf 66 = .ok (.getfield 96, 3) := dk_180 0 96 (dk_at dksX1_layerOf_2 14 rfl rfl)
theorem dX1_layerOf_69 : decode cX1_layerOf 69 = .ok (.ireturn, 1) := dk_172 (dk_at dksX1_layerOf_2 17 rfl rfl)
theorem dX1_layerOf_70 : decode cX1_layerOf 70 = .ok (.aload 4, 2) := dk_25 4 (dk_at dksX1_layerOf_2 18 rfl rfl)
theorem dX1_layerOf_72 : decode cX1_layerOf 72 = .ok (.getfield 99, 3) := dk_180 0 99 (dk_at dksX1_layerOf_2 20 rfl rfl)
theorem dX1_layerOf_75 : decode cX1_layerOf 75 = .ok (.ireturn, 1) := dk_172 (dk_at dksX1_layerOf_2 23 rfl rfl)
theorem dX1_layerOf_76 : decode cX1_layerOf 76 = .ok (.aload 4, 2) := dk_25 4 (dk_at dksX1_layerOf_3 0 rfl rfl)
theorem dX1_layerOf_78 : decode cX1_layerOf 78 = .ok (.getfield 102, 3) := dk_180 0 102 (dk_at dksX1_layerOf_3 2 rfl rfl)
theorem dX1_layerOf_81 : decode cX1_layerOf 81 = .ok (.ireturn, 1) := dk_172 (dk_at dksX1_layerOf_3 5 rfl rfl)
theorem dX1_layerOf_82 : decode cX1_layerOf 82 = .ok (.aload 4, 2) := dk_25 4 (dk_at dksX1_layerOf_3 6 rfl rfl)
theorem dX1_layerOf_84 : decode cX1_layerOf 84 = .ok (.invokevirtual 266, 3) := dk_182 1 10 (dk_at dksX1_layerOf_3 8 rfl rfl)
theorem dX1_layerOf_87 : decode cX1_layerOf 87 = .ok (.ireturn, 1) := dk_172 (dk_at dksX1_layerOf_3 11 rfl rfl)
abbrev cX1_neighbour : ByteArray := prog_1_method_25_code
def yX1_neighbour : MethodName := ⟨RX1, "neighbour", "(II)I"⟩
def dkwX1_neighbour_2 : List UInt8 := [192, 0, 186, 182, 0, 188, 54, 5, 29, 154, 0, 6, 21, 5, 172, 132, 3, 255, 167, 255, 221, 2, 172]
abbrev dktX1_neighbour_2 : List UInt8 := dkwX1_neighbour_2 ++ []
def dkwX1_neighbour_1 : List UInt8 := [27, 183, 0, 175, 58, 4, 25, 4, 185, 0, 177, 1, 0, 153, 0, 31, 25, 4, 185, 0, 182, 1, 0]
abbrev dktX1_neighbour_1 : List UInt8 := dkwX1_neighbour_1 ++ dktX1_neighbour_2
def dkwX1_neighbour_0 : List UInt8 := [42, 27, 182, 0, 75, 87, 28, 155, 0, 7, 4, 167, 0, 4, 3, 184, 0, 71, 28, 62, 187, 0, 173, 89]
abbrev dktX1_neighbour_0 : List UInt8 := dkwX1_neighbour_0 ++ dktX1_neighbour_1
theorem dksX1_neighbour_0 : cX1_neighbour.data.toList.drop 0 = dktX1_neighbour_0 := by decide +kernel
theorem dksX1_neighbour_1 : cX1_neighbour.data.toList.drop 24 = dktX1_neighbour_1 := dk_seg dksX1_neighbour_0 24 rfl rfl
theorem dksX1_neighbour_2 : cX1_neighbour.data.toList.drop 47 = dktX1_neighbour_2 := dk_seg dksX1_neighbour_1 23 rfl rfl
theorem dX1_neighbour_0 : decode cX1_neighbour 0 = .ok (.aload_n 0, 1) := dk_42 (dk_at dksX1_neighbour_0 0 rfl rfl)
theorem dX1_neighbour_1 : decode cX1_neighbour 1 = .ok (.iload_n 1, 1) := dk_27 (dk_at dksX1_neighbour_0 1 rfl rfl)
theorem dX1_neighbour_2 : decode cX1_neighbour 2 = .ok (.invokevirtual 75, 3) := dk_182 0 75 (dk_at dksX1_neighbour_0 2 rfl rfl)
theorem dX1_neighbour_5 : decode cX1_neighbour 5 = .ok (.pop, 1) := dk_87 (dk_at dksX1_neighbour_0 5 rfl rfl)
theorem dX1_neighbour_6 : decode cX1_neighbour 6 = .ok (.iload_n 2, 1) := dk_28 (dk_at dksX1_neighbour_0 6 rfl rfl)
theorem dX1_neighbour_7 : decode cX1_neighbour 7 = .ok (.ifCond .lt 7, 3) := dk_155 0 7 (dk_at dksX1_neighbour_0 7 rfl rfl)
theorem dX1_neighbour_10 : decode cX1_neighbour 10 = .ok (.iconst 1, 1) := dk_4 (dk_at dksX1_neighbour_0 10 rfl rfl)
theorem dX1_neighbour_11 : decode cX1_neighbour 11 = .ok (.goto 4, 3) := dk_167 0 4 (dk_at dksX1_neighbour_0 11 rfl rfl)
theorem dX1_neighbour_14 : decode cX1_neighbour 14 = .ok (.iconst 0, 1) := dk_3 (dk_at dksX1_neighbour_0 14 rfl rfl)
theorem dX1_neighbour_15 : decode cX1_neighbour 15 = .ok (.invokestatic 71, 3) := dk_184 0 71 (dk_at dksX1_neighbour_0 15 rfl rfl)
theorem dX1_neighbour_18 : decode cX1_neighbour 18 = .ok (.iload_n 2, 1) := dk_28 (dk_at dksX1_neighbour_0 18 rfl rfl)
theorem dX1_neighbour_19 : decode cX1_neighbour 19 = .ok (.istore_n 3, 1) := dk_62 (dk_at dksX1_neighbour_0 19 rfl rfl)
theorem dX1_neighbour_20 : decode cX1_neighbour 20 = .ok (.new 173, 3) := dk_187 0 173 (dk_at dksX1_neighbour_0 20 rfl rfl)
theorem dX1_neighbour_23 : decode cX1_neighbour 23 = .ok (.dup, 1) := dk_89 (dk_at dksX1_neighbour_0 23 rfl rfl)
theorem dX1_neighbour_24 : decode cX1_neighbour 24 = .ok (.iload_n 1, 1) := dk_27 (dk_at dksX1_neighbour_1 0 rfl rfl)
theorem dX1_neighbour_25 : decode cX1_neighbour 25 = .ok (.invokespecial 175, 3) := dk_183 0 175 (dk_at dksX1_neighbour_1 1 rfl rfl)
theorem dX1_neighbour_28 : decode cX1_neighbour 28 = .ok (.astore 4, 2) := dk_58 4 (dk_at dksX1_neighbour_1 4 rfl rfl)
theorem dX1_neighbour_30 : decode cX1_neighbour 30 = .ok (.aload 4, 2) := dk_25 4 (dk_at dksX1_neighbour_1 6 rfl rfl)
theorem dX1_neighbour_32 : decode cX1_neighbour 32 = .ok (.invokeinterface 177 1, 5) := by decide +kernel
theorem dX1_neighbour_37 : decode cX1_neighbour 37 = .ok (.ifCond .eq 31, 3) := dk_153 0 31 (dk_at dksX1_neighbour_1 13 rfl rfl)
theorem dX1_neighbour_40 : decode cX1_neighbour 40 = .ok (.aload 4, 2) := dk_25 4 (dk_at dksX1_neighbour_1 16 rfl rfl)
theorem dX1_neighbour_42 : decode cX1_neighbour 42 = .ok (.invokeinterface 182 1, 5) := by decide +kernel
theorem dX1_neighbour_47 : decode cX1_neighbour 47 = .ok (.checkcast 186, 3) := dk_192 0 186 (dk_at dksX1_neighbour_2 0 rfl rfl)
theorem dX1_neighbour_50 : decode cX1_neighbour 50 = .ok (.invokevirtual 188, 3) := dk_182 0 188 (dk_at dksX1_neighbour_2 3 rfl rfl)
theorem dX1_neighbour_53 : decode cX1_neighbour 53 = .ok (.istore 5, 2) := dk_54 5 (dk_at dksX1_neighbour_2 6 rfl rfl)
theorem dX1_neighbour_55 : decode cX1_neighbour 55 = .ok (.iload_n 3, 1) := dk_29 (dk_at dksX1_neighbour_2 8 rfl rfl)
theorem dX1_neighbour_56 : decode cX1_neighbour 56 = .ok (.ifCond .ne 6, 3) := dk_154 0 6 (dk_at dksX1_neighbour_2 9 rfl rfl)
theorem dX1_neighbour_59 : decode cX1_neighbour 59 = .ok (.iload 5, 2) := dk_21 5 (dk_at dksX1_neighbour_2 12 rfl rfl)
theorem dX1_neighbour_61 : decode cX1_neighbour 61 = .ok (.ireturn, 1) := dk_172 (dk_at dksX1_neighbour_2 14 rfl rfl)
theorem dX1_neighbour_62 : decode cX1_neighbour 62 = .ok (.iinc 3 (-1), 3) := dk_132 3 255 (dk_at dksX1_neighbour_2 15 rfl rfl)
theorem dX1_neighbour_65 : decode cX1_neighbour 65 = .ok (.goto (-35), 3) := dk_167 255 221 (dk_at dksX1_neighbour_2 18 rfl rfl)
theorem dX1_neighbour_68 : decode cX1_neighbour 68 = .ok (.iconst (-1), 1) := dk_2 (dk_at dksX1_neighbour_2 21 rfl rfl)
theorem dX1_neighbour_69 : decode cX1_neighbour 69 = .ok (.ireturn, 1) := dk_172 (dk_at dksX1_neighbour_2 22 rfl rfl)
abbrev cX1_houseOf : ByteArray := prog_1_method_27_code
def yX1_houseOf : MethodName := ⟨RX1, "houseOf", "(II)I"⟩
def dkwX1_houseOf_3 : List UInt8 := [45, 45, 180, 0, 241, 42, 180, 0, 156, 182, 0, 244, 172]
abbrev dktX1_houseOf_3 : List UInt8 := dkwX1_houseOf_3 ++ []
def dkwX1_houseOf_2 : List UInt8 := [45, 182, 1, 13, 180, 1, 16, 172, 45, 180, 0, 229, 172, 45, 180, 0, 241, 172, 45, 180, 0, 218, 172, 42]
abbrev dktX1_houseOf_2 : List UInt8 := dkwX1_houseOf_2 ++ dktX1_houseOf_3
def dkwX1_houseOf_1 : List UInt8 := [170, 0, 0, 0, 0, 0, 0, 55, 0, 0, 0, 0, 0, 0, 0, 3, 0, 0, 0, 32, 0, 0, 0, 40, 0, 0, 0, 45, 0, 0, 0, 50]
abbrev dktX1_houseOf_1 : List UInt8 := dkwX1_houseOf_1 ++ dktX1_houseOf_2
def dkwX1_houseOf_0 : List UInt8 := [42, 27, 182, 0, 235, 78, 28, 3, 7, 184, 0, 67, 184, 0, 87, 28]
abbrev dktX1_houseOf_0 : List UInt8 := dkwX1_houseOf_0 ++ dktX1_houseOf_1
theorem dksX1_houseOf_0 : cX1_houseOf.data.toList.drop 0 = dktX1_houseOf_0 := by decide +kernel
theorem dksX1_houseOf_1 : cX1_houseOf.data.toList.drop 16 = dktX1_houseOf_1 := dk_seg dksX1_houseOf_0 16 rfl rfl
theorem dksX1_houseOf_2 : cX1_houseOf.data.toList.drop 48 = dktX1_houseOf_2 := dk_seg dksX1_houseOf_1 32 rfl rfl
theorem dksX1_houseOf_3 : cX1_houseOf.data.toList.drop 72 = dktX1_houseOf_3 := dk_seg dksX1_houseOf_2 24 rfl rfl
theorem dX1_houseOf_0 : decode cX1_houseOf 0 = .ok (.aload_n 0, 1) := dk_42 (dk_at dksX1_houseOf_0 0 rfl rfl)
theorem dX1_houseOf_1 : decode cX1_houseOf 1 = .ok (.iload_n 1, 1) := dk_27 (dk_at dksX1_houseOf_0 1 rfl rfl)
theorem dX1_houseOf_2 : decode cX1_houseOf 2 = .ok (.invokevirtual 235, 3) := dk_182 0 235 (dk_at dksX1_houseOf_0 2 rfl rfl)
theorem dX1_houseOf_5 : decode cX1_houseOf 5 = .ok (.astore_n 3, 1) := dk_78 (dk_at dksX1_houseOf_0 5 rfl rfl)
theorem dX1_houseOf_6 : decode cX1_houseOf 6 = .ok (.iload_n 2, 1) := dk_28 (dk_at dksX1_houseOf_0 6 rfl rfl)
theorem dX1_houseOf_7 : decode cX1_houseOf 7 = .ok (.iconst 0, 1) := dk_3 (dk_at dksX1_houseOf_0 7 rfl rfl)
theorem dX1_houseOf_8 : decode cX1_houseOf 8 = .ok (.iconst 4, 1) := dk_7 (dk_at dksX1_houseOf_0 8 rfl rfl)
theorem dX1_houseOf_9 : decode cX1_houseOf 9 = .ok (.invokestatic 67, 3) := dk_184 0 67 (dk_at dksX1_houseOf_0 9 rfl rfl)
theorem dX1_houseOf_12 : decode cX1_houseOf 12 = .ok (.invokestatic 87, 3) := dk_184 0 87 (dk_at dksX1_houseOf_0 12 rfl rfl)
theorem dX1_houseOf_15 : decode cX1_houseOf 15 = .ok (.iload_n 2, 1) := dk_28 (dk_at dksX1_houseOf_0 15 rfl rfl)
theorem dX1_houseOf_16 : decode cX1_houseOf 16 = .ok (.tableswitch 55 0 3 #[32, 40, 45, 50], 32) := by decide +kernel
theorem dX1_houseOf_48 : decode cX1_houseOf 48 = .ok (.aload_n 3, 1) := dk_45 (dk_at dksX1_houseOf_2 0 rfl rfl)
theorem dX1_houseOf_49 : decode cX1_houseOf 49 = .ok (.invokevirtual 269, 3) := dk_182 1 13 (dk_at dksX1_houseOf_2 1 rfl rfl)
theorem dX1_houseOf_52 : decode cX1_houseOf 52 = .ok (.getfield 272, 3) := dk_180 1 16 (dk_at dksX1_houseOf_2 4 rfl rfl)
theorem dX1_houseOf_55 : decode cX1_houseOf 55 = .ok (.ireturn, 1) := dk_172 (dk_at dksX1_houseOf_2 7 rfl rfl)
theorem dX1_houseOf_56 : decode cX1_houseOf 56 = .ok (.aload_n 3, 1) := dk_45 (dk_at dksX1_houseOf_2 8 rfl rfl)
theorem dX1_houseOf_57 : decode cX1_houseOf 57 = .ok (.getfield 229, 3) := dk_180 0 229 (dk_at dksX1_houseOf_2 9 rfl rfl)
theorem dX1_houseOf_60 : decode cX1_houseOf 60 = .ok (.ireturn, 1) := dk_172 (dk_at dksX1_houseOf_2 12 rfl rfl)
theorem dX1_houseOf_61 : decode cX1_houseOf 61 = .ok (.aload_n 3, 1) := dk_45 (dk_at dksX1_houseOf_2 13 rfl rfl)
theorem dX1_houseOf_62 : decode cX1_houseOf 62 = .ok (.getfield 241, 3) := dk_180 0 241 (dk_at dksX1_houseOf_2 14 rfl rfl)
theorem dX1_houseOf_65 : decode cX1_houseOf 65 = .ok (.ireturn, 1) := dk_172 (dk_at dksX1_houseOf_2 17 rfl rfl)
theorem dX1_houseOf_66 : decode cX1_houseOf 66 = .ok (.aload_n 3, 1) := dk_45 (dk_at dksX1_houseOf_2 18 rfl rfl)
theorem dX1_houseOf_67 : decode cX1_houseOf 67 = .ok (.getfield 218, 3) := dk_180 0 218 (dk_at dksX1_houseOf_2 19 rfl rfl)
theorem dX1_houseOf_70 : decode cX1_houseOf 70 = .ok (.ireturn, 1) := dk_172 (dk_at dksX1_houseOf_2 22 rfl rfl)
theorem dX1_houseOf_71 : decode cX1_houseOf 71 = .ok (.aload_n 0, 1) := dk_42 (dk_at dksX1_houseOf_2 23 rfl rfl)
theorem dX1_houseOf_72 : decode cX1_houseOf 72 = .ok (.aload_n 3, 1) := dk_45 (dk_at dksX1_houseOf_3 0 rfl rfl)
theorem dX1_houseOf_73 : decode cX1_houseOf 73 = .ok (.aload_n 3, 1) := dk_45 (dk_at dksX1_houseOf_3 1 rfl rfl)
theorem dX1_houseOf_74 : decode cX1_houseOf 74 = .ok (.getfield 241, 3) := dk_180 0 241 (dk_at dksX1_houseOf_3 2 rfl rfl)
theorem dX1_houseOf_77 : decode cX1_houseOf 77 = .ok (.aload_n 0, 1) := dk_42 (dk_at dksX1_houseOf_3 5 rfl rfl)
theorem dX1_houseOf_78 : decode cX1_houseOf 78 = .ok (.getfield 156, 3) := dk_180 0 156 (dk_at dksX1_houseOf_3 6 rfl rfl)
theorem dX1_houseOf_81 : decode cX1_houseOf 81 = .ok (.invokevirtual 244, 3) := dk_182 0 244 (dk_at dksX1_houseOf_3 9 rfl rfl)
theorem dX1_houseOf_84 : decode cX1_houseOf 84 = .ok (.ireturn, 1) := dk_172 (dk_at dksX1_houseOf_3 12 rfl rfl)
abbrev cX1_reading : ByteArray := prog_1_method_28_code
def yX1_reading : MethodName := ⟨RX1, "reading", "(III)I"⟩
def dkwX1_reading_2 : List UInt8 := [25, 4, 28, 42, 180, 0, 156, 182, 0, 225, 184, 0, 71, 25, 4, 28, 29, 182, 0, 232, 172]
abbrev dktX1_reading_2 : List UInt8 := dkwX1_reading_2 ++ []
def dkwX1_reading_1 : List UInt8 := [153, 0, 7, 4, 167, 0, 4, 3, 184, 0, 71, 42, 180, 0, 22, 27, 182, 0, 145, 192, 0, 154, 58, 4]
abbrev dktX1_reading_1 : List UInt8 := dkwX1_reading_1 ++ dktX1_reading_2
def dkwX1_reading_0 : List UInt8 := [27, 3, 42, 180, 0, 22, 182, 0, 141, 4, 100, 184, 0, 67, 153, 0, 16, 29, 3, 7, 184, 0, 67]
abbrev dktX1_reading_0 : List UInt8 := dkwX1_reading_0 ++ dktX1_reading_1
theorem dksX1_reading_0 : cX1_reading.data.toList.drop 0 = dktX1_reading_0 := by decide +kernel
theorem dksX1_reading_1 : cX1_reading.data.toList.drop 23 = dktX1_reading_1 := dk_seg dksX1_reading_0 23 rfl rfl
theorem dksX1_reading_2 : cX1_reading.data.toList.drop 47 = dktX1_reading_2 := dk_seg dksX1_reading_1 24 rfl rfl
theorem dX1_reading_0 : decode cX1_reading 0 = .ok (.iload_n 1, 1) := dk_27 (dk_at dksX1_reading_0 0 rfl rfl)
theorem dX1_reading_1 : decode cX1_reading 1 = .ok (.iconst 0, 1) := dk_3 (dk_at dksX1_reading_0 1 rfl rfl)
theorem dX1_reading_2 : decode cX1_reading 2 = .ok (.aload_n 0, 1) := dk_42 (dk_at dksX1_reading_0 2 rfl rfl)
theorem dX1_reading_3 : decode cX1_reading 3 = .ok (.getfield 22, 3) := dk_180 0 22 (dk_at dksX1_reading_0 3 rfl rfl)
theorem dX1_reading_6 : decode cX1_reading 6 = .ok (.invokevirtual 141, 3) := dk_182 0 141 (dk_at dksX1_reading_0 6 rfl rfl)
theorem dX1_reading_9 : decode cX1_reading 9 = .ok (.iconst 1, 1) := dk_4 (dk_at dksX1_reading_0 9 rfl rfl)
theorem dX1_reading_10 : decode cX1_reading 10 = .ok (.isub, 1) := dk_100 (dk_at dksX1_reading_0 10 rfl rfl)
theorem dX1_reading_11 : decode cX1_reading 11 = .ok (.invokestatic 67, 3) := dk_184 0 67 (dk_at dksX1_reading_0 11 rfl rfl)
theorem dX1_reading_14 : decode cX1_reading 14 = .ok (.ifCond .eq 16, 3) := dk_153 0 16 (dk_at dksX1_reading_0 14 rfl rfl)
theorem dX1_reading_17 : decode cX1_reading 17 = .ok (.iload_n 3, 1) := dk_29 (dk_at dksX1_reading_0 17 rfl rfl)
theorem dX1_reading_18 : decode cX1_reading 18 = .ok (.iconst 0, 1) := dk_3 (dk_at dksX1_reading_0 18 rfl rfl)
theorem dX1_reading_19 : decode cX1_reading 19 = .ok (.iconst 4, 1) := dk_7 (dk_at dksX1_reading_0 19 rfl rfl)
theorem dX1_reading_20 : decode cX1_reading 20 = .ok (.invokestatic 67, 3) := dk_184 0 67 (dk_at dksX1_reading_0 20 rfl rfl)
theorem dX1_reading_23 : decode cX1_reading 23 = .ok (.ifCond .eq 7, 3) := dk_153 0 7 (dk_at dksX1_reading_1 0 rfl rfl)
theorem dX1_reading_26 : decode cX1_reading 26 = .ok (.iconst 1, 1) := dk_4 (dk_at dksX1_reading_1 3 rfl rfl)
theorem dX1_reading_27 : decode cX1_reading 27 = .ok (.goto 4, 3) := dk_167 0 4 (dk_at dksX1_reading_1 4 rfl rfl)
theorem dX1_reading_30 : decode cX1_reading 30 = .ok (.iconst 0, 1) := dk_3 (dk_at dksX1_reading_1 7 rfl rfl)
theorem dX1_reading_31 : decode cX1_reading 31 = .ok (.invokestatic 71, 3) := dk_184 0 71 (dk_at dksX1_reading_1 8 rfl rfl)
theorem dX1_reading_34 : decode cX1_reading 34 = .ok (.aload_n 0, 1) := dk_42 (dk_at dksX1_reading_1 11 rfl rfl)
theorem dX1_reading_35 : decode cX1_reading 35 = .ok (.getfield 22, 3) := dk_180 0 22 (dk_at dksX1_reading_1 12 rfl rfl)
theorem dX1_reading_38 : decode cX1_reading 38 = .ok (.iload_n 1, 1) := dk_27 (dk_at dksX1_reading_1 15 rfl rfl)
theorem dX1_reading_39 : decode cX1_reading 39 = .ok (.invokevirtual 145, 3) := dk_182 0 145 (dk_at dksX1_reading_1 16 rfl rfl)
theorem dX1_reading_42 : decode cX1_reading 42 = .ok (.checkcast 154, 3) := dk_192 0 154 (dk_at dksX1_reading_1 19 rfl rfl)
theorem dX1_reading_45 : decode cX1_reading 45 = .ok (.astore 4, 2) := dk_58 4 (dk_at dksX1_reading_1 22 rfl rfl)
theorem dX1_reading_47 : decode cX1_reading 47 = .ok (.aload 4, 2) := dk_25 4 (dk_at dksX1_reading_2 0 rfl rfl)
theorem dX1_reading_49 : decode cX1_reading 49 = .ok (.iload_n 2, 1) := dk_28 (dk_at dksX1_reading_2 2 rfl rfl)
theorem dX1_reading_50 : decode cX1_reading 50 = .ok (.aload_n 0, 1) := dk_42 (dk_at dksX1_reading_2 3 rfl rfl)
theorem dX1_reading_51 : decode cX1_reading 51 = .ok (.getfield 156, 3) := dk_180 0 156 (dk_at dksX1_reading_2 4 rfl rfl)
theorem dX1_reading_54 : decode cX1_reading 54 = .ok (.invokevirtual 225, 3) := dk_182 0 225 (dk_at dksX1_reading_2 7 rfl rfl)
theorem dX1_reading_57 : decode cX1_reading 57 = .ok (.invokestatic 71, 3) := dk_184 0 71 (dk_at dksX1_reading_2 10 rfl rfl)
theorem dX1_reading_60 : decode cX1_reading 60 = .ok (.aload 4, 2) := dk_25 4 (dk_at dksX1_reading_2 13 rfl rfl)
theorem dX1_reading_62 : decode cX1_reading 62 = .ok (.iload_n 2, 1) := dk_28 (dk_at dksX1_reading_2 15 rfl rfl)
theorem dX1_reading_63 : decode cX1_reading 63 = .ok (.iload_n 3, 1) := dk_29 (dk_at dksX1_reading_2 16 rfl rfl)
theorem dX1_reading_64 : decode cX1_reading 64 = .ok (.invokevirtual 232, 3) := dk_182 0 232 (dk_at dksX1_reading_2 17 rfl rfl)
theorem dX1_reading_67 : decode cX1_reading 67 = .ok (.ireturn, 1) := dk_172 (dk_at dksX1_reading_2 20 rfl rfl)
abbrev cX1_claimOf : ByteArray := prog_1_method_30_code
def yX1_claimOf : MethodName := ⟨RX1, "claimOf", "(I)I"⟩
def dkwX1_claimOf_0 : List UInt8 := [42, 27, 182, 1, 18, 180, 1, 22, 172]
abbrev dktX1_claimOf_0 : List UInt8 := dkwX1_claimOf_0 ++ []
theorem dksX1_claimOf_0 : cX1_claimOf.data.toList.drop 0 = dktX1_claimOf_0 := by decide +kernel
theorem dX1_claimOf_0 : decode cX1_claimOf 0 = .ok (.aload_n 0, 1) := dk_42 (dk_at dksX1_claimOf_0 0 rfl rfl)
theorem dX1_claimOf_1 : decode cX1_claimOf 1 = .ok (.iload_n 1, 1) := dk_27 (dk_at dksX1_claimOf_0 1 rfl rfl)
theorem dX1_claimOf_2 : decode cX1_claimOf 2 = .ok (.invokevirtual 274, 3) := dk_182 1 18 (dk_at dksX1_claimOf_0 2 rfl rfl)
theorem dX1_claimOf_5 : decode cX1_claimOf 5 = .ok (.getfield 278, 3) := dk_180 1 22 (dk_at dksX1_claimOf_0 5 rfl rfl)
theorem dX1_claimOf_8 : decode cX1_claimOf 8 = .ok (.ireturn, 1) := dk_172 (dk_at dksX1_claimOf_0 8 rfl rfl)
abbrev cX1_claimAt : ByteArray := prog_1_method_29_code
def yX1_claimAt : MethodName := ⟨RX1, "claimAt", "(I)LWakeground$Claim;"⟩
def dkwX1_claimAt_1 : List UInt8 := [182, 0, 145, 192, 0, 239, 176]
abbrev dktX1_claimAt_1 : List UInt8 := dkwX1_claimAt_1 ++ []
def dkwX1_claimAt_0 : List UInt8 := [27, 3, 42, 180, 0, 25, 182, 0, 141, 4, 100, 184, 0, 67, 184, 0, 71, 42, 180, 0, 25, 27]
abbrev dktX1_claimAt_0 : List UInt8 := dkwX1_claimAt_0 ++ dktX1_claimAt_1
theorem dksX1_claimAt_0 : cX1_claimAt.data.toList.drop 0 = dktX1_claimAt_0 := by decide +kernel
theorem dksX1_claimAt_1 : cX1_claimAt.data.toList.drop 22 = dktX1_claimAt_1 := dk_seg dksX1_claimAt_0 22 rfl rfl
theorem dX1_claimAt_0 : decode cX1_claimAt 0 = .ok (.iload_n 1, 1) := dk_27 (dk_at dksX1_claimAt_0 0 rfl rfl)
theorem dX1_claimAt_1 : decode cX1_claimAt 1 = .ok (.iconst 0, 1) := dk_3 (dk_at dksX1_claimAt_0 1 rfl rfl)
theorem dX1_claimAt_2 : decode cX1_claimAt 2 = .ok (.aload_n 0, 1) := dk_42 (dk_at dksX1_claimAt_0 2 rfl rfl)
theorem dX1_claimAt_3 : decode cX1_claimAt 3 = .ok (.getfield 25, 3) := dk_180 0 25 (dk_at dksX1_claimAt_0 3 rfl rfl)
theorem dX1_claimAt_6 : decode cX1_claimAt 6 = .ok (.invokevirtual 141, 3) := dk_182 0 141 (dk_at dksX1_claimAt_0 6 rfl rfl)
theorem dX1_claimAt_9 : decode cX1_claimAt 9 = .ok (.iconst 1, 1) := dk_4 (dk_at dksX1_claimAt_0 9 rfl rfl)
theorem dX1_claimAt_10 : decode cX1_claimAt 10 = .ok (.isub, 1) := dk_100 (dk_at dksX1_claimAt_0 10 rfl rfl)
theorem dX1_claimAt_11 : decode cX1_claimAt 11 = .ok (.invokestatic 67, 3) := dk_184 0 67 (dk_at dksX1_claimAt_0 11 rfl rfl)
theorem dX1_claimAt_14 : decode cX1_claimAt 14 = .ok (.invokestatic 71, 3) := dk_184 0 71 (dk_at dksX1_claimAt_0 14 rfl rfl)
theorem dX1_claimAt_17 : decode cX1_claimAt 17 = .ok (.aload_n 0, 1) := dk_42 (dk_at dksX1_claimAt_0 17 rfl rfl)
theorem dX1_claimAt_18 : decode cX1_claimAt 18 = .ok (.getfield 25, 3) := dk_180 0 25 (dk_at dksX1_claimAt_0 18 rfl rfl)
theorem dX1_claimAt_21 : decode cX1_claimAt 21 = .ok (.iload_n 1, 1) := dk_27 (dk_at dksX1_claimAt_0 21 rfl rfl)
theorem dX1_claimAt_22 : decode cX1_claimAt 22 = .ok (.invokevirtual 145, 3) := dk_182 0 145 (dk_at dksX1_claimAt_1 0 rfl rfl)
theorem dX1_claimAt_25 : decode cX1_claimAt 25 = .ok (.checkcast 239, 3) := dk_192 0 239 (dk_at dksX1_claimAt_1 3 rfl rfl)
theorem dX1_claimAt_28 : decode cX1_claimAt 28 = .ok (.areturn, 1) := dk_176 (dk_at dksX1_claimAt_1 6 rfl rfl)
abbrev cX1_claimAnew : ByteArray := prog_1_method_31_code
def yX1_claimAnew : MethodName := ⟨RX1, "claimAnew", "(I)I"⟩
def dkwX1_claimAnew_0 : List UInt8 := [42, 27, 182, 1, 18, 77, 42, 44, 180, 1, 25, 44, 180, 1, 26, 44, 180, 1, 27, 182, 0, 244, 172]
abbrev dktX1_claimAnew_0 : List UInt8 := dkwX1_claimAnew_0 ++ []
theorem dksX1_claimAnew_0 : cX1_claimAnew.data.toList.drop 0 = dktX1_claimAnew_0 := by decide +kernel
theorem dX1_claimAnew_0 : decode cX1_claimAnew 0 = .ok (.aload_n 0, 1) := dk_42 (dk_at dksX1_claimAnew_0 0 rfl rfl)
theorem dX1_claimAnew_1 : decode cX1_claimAnew 1 = .ok (.iload_n 1, 1) := dk_27 (dk_at dksX1_claimAnew_0 1 rfl rfl)
theorem dX1_claimAnew_2 : decode cX1_claimAnew 2 = .ok (.invokevirtual 274, 3) := dk_182 1 18 (dk_at dksX1_claimAnew_0 2 rfl rfl)
theorem dX1_claimAnew_5 : decode cX1_claimAnew 5 = .ok (.astore_n 2, 1) := dk_77 (dk_at dksX1_claimAnew_0 5 rfl rfl)
theorem dX1_claimAnew_6 : decode cX1_claimAnew 6 = .ok (.aload_n 0, 1) := dk_42 (dk_at dksX1_claimAnew_0 6 rfl rfl)
theorem dX1_claimAnew_7 : decode cX1_claimAnew 7 = .ok (.aload_n 2, 1) := dk_44 (dk_at dksX1_claimAnew_0 7 rfl rfl)
theorem dX1_claimAnew_8 : decode cX1_claimAnew 8 = .ok (.getfield 281, 3) := dk_180 1 25 (dk_at dksX1_claimAnew_0 8 rfl rfl)
theorem dX1_claimAnew_11 : decode cX1_claimAnew 11 = .ok (.aload_n 2, 1) := dk_44 (dk_at dksX1_claimAnew_0 11 rfl rfl)
theorem dX1_claimAnew_12 : decode cX1_claimAnew 12 = .ok (.getfield 282, 3) := dk_180 1 26 (dk_at dksX1_claimAnew_0 12 rfl rfl)
theorem dX1_claimAnew_15 : decode cX1_claimAnew 15 = .ok (.aload_n 2, 1) := dk_44 (dk_at dksX1_claimAnew_0 15 rfl rfl)
theorem dX1_claimAnew_16 : decode cX1_claimAnew 16 = .ok (.getfield 283, 3) := dk_180 1 27 (dk_at dksX1_claimAnew_0 16 rfl rfl)
theorem dX1_claimAnew_19 : decode cX1_claimAnew 19 = .ok (.invokevirtual 244, 3) := dk_182 0 244 (dk_at dksX1_claimAnew_0 19 rfl rfl)
theorem dX1_claimAnew_22 : decode cX1_claimAnew 22 = .ok (.ireturn, 1) := dk_172 (dk_at dksX1_claimAnew_0 22 rfl rfl)
abbrev cX1_balance : ByteArray := prog_1_method_33_code
def yX1_balance : MethodName := ⟨RX1, "balance", "(II)J"⟩
def dkwX1_balance_4 : List UInt8 := [160, 0, 7, 33, 167, 0, 17, 42, 180, 0, 32, 27, 47, 42, 27, 182, 0, 46, 101, 33, 101, 173]
abbrev dktX1_balance_4 : List UInt8 := dkwX1_balance_4 ++ []
def dkwX1_balance_3 : List UInt8 := [42, 27, 182, 0, 46, 167, 0, 40, 28, 4, 160, 0, 12, 42, 180, 0, 32, 27, 47, 167, 0, 26, 28, 5]
abbrev dktX1_balance_3 : List UInt8 := dkwX1_balance_3 ++ dktX1_balance_4
def dkwX1_balance_2 : List UInt8 := [180, 0, 200, 167, 0, 16, 42, 180, 0, 28, 3, 47, 42, 180, 0, 28, 4, 47, 97, 66, 28, 154, 0, 11]
abbrev dktX1_balance_2 : List UInt8 := dkwX1_balance_2 ++ dktX1_balance_3
def dkwX1_balance_1 : List UInt8 := [184, 0, 87, 27, 154, 0, 14, 20, 1, 30, 42, 180, 0, 200, 105, 167, 0, 28, 27, 4, 160, 0, 10, 42]
abbrev dktX1_balance_1 : List UInt8 := dkwX1_balance_1 ++ dktX1_balance_2
def dkwX1_balance_0 : List UInt8 := [27, 3, 5, 184, 0, 67, 153, 0, 16, 28, 3, 6, 184, 0, 67, 153, 0, 7, 4, 167, 0, 4, 3]
abbrev dktX1_balance_0 : List UInt8 := dkwX1_balance_0 ++ dktX1_balance_1
theorem dksX1_balance_0 : cX1_balance.data.toList.drop 0 = dktX1_balance_0 := by decide +kernel
theorem dksX1_balance_1 : cX1_balance.data.toList.drop 23 = dktX1_balance_1 := dk_seg dksX1_balance_0 23 rfl rfl
theorem dksX1_balance_2 : cX1_balance.data.toList.drop 47 = dktX1_balance_2 := dk_seg dksX1_balance_1 24 rfl rfl
theorem dksX1_balance_3 : cX1_balance.data.toList.drop 71 = dktX1_balance_3 := dk_seg dksX1_balance_2 24 rfl rfl
theorem dksX1_balance_4 : cX1_balance.data.toList.drop 95 = dktX1_balance_4 := dk_seg dksX1_balance_3 24 rfl rfl
theorem dX1_balance_0 : decode cX1_balance 0 = .ok (.iload_n 1, 1) := dk_27 (dk_at dksX1_balance_0 0 rfl rfl)
theorem dX1_balance_1 : decode cX1_balance 1 = .ok (.iconst 0, 1) := dk_3 (dk_at dksX1_balance_0 1 rfl rfl)
theorem dX1_balance_2 : decode cX1_balance 2 = .ok (.iconst 2, 1) := dk_5 (dk_at dksX1_balance_0 2 rfl rfl)
theorem dX1_balance_3 : decode cX1_balance 3 = .ok (.invokestatic 67, 3) := dk_184 0 67 (dk_at dksX1_balance_0 3 rfl rfl)
theorem dX1_balance_6 : decode cX1_balance 6 = .ok (.ifCond .eq 16, 3) := dk_153 0 16 (dk_at dksX1_balance_0 6 rfl rfl)
theorem dX1_balance_9 : decode cX1_balance 9 = .ok (.iload_n 2, 1) := dk_28 (dk_at dksX1_balance_0 9 rfl rfl)
theorem dX1_balance_10 : decode cX1_balance 10 = .ok (.iconst 0, 1) := dk_3 (dk_at dksX1_balance_0 10 rfl rfl)
theorem dX1_balance_11 : decode cX1_balance 11 = .ok (.iconst 3, 1) := dk_6 (dk_at dksX1_balance_0 11 rfl rfl)
theorem dX1_balance_12 : decode cX1_balance 12 = .ok (.invokestatic 67, 3) := dk_184 0 67 (dk_at dksX1_balance_0 12 rfl rfl)
theorem dX1_balance_15 : decode cX1_balance 15 = .ok (.ifCond .eq 7, 3) := dk_153 0 7 (dk_at dksX1_balance_0 15 rfl rfl)
theorem dX1_balance_18 : decode cX1_balance 18 = .ok (.iconst 1, 1) := dk_4 (dk_at dksX1_balance_0 18 rfl rfl)
theorem dX1_balance_19 : decode cX1_balance 19 = .ok (.goto 4, 3) := dk_167 0 4 (dk_at dksX1_balance_0 19 rfl rfl)
theorem dX1_balance_22 : decode cX1_balance 22 = .ok (.iconst 0, 1) := dk_3 (dk_at dksX1_balance_0 22 rfl rfl)
theorem dX1_balance_23 : decode cX1_balance 23 = .ok (.invokestatic 87, 3) := dk_184 0 87 (dk_at dksX1_balance_1 0 rfl rfl)
theorem dX1_balance_26 : decode cX1_balance 26 = .ok (.iload_n 1, 1) := dk_27 (dk_at dksX1_balance_1 3 rfl rfl)
theorem dX1_balance_27 : decode cX1_balance 27 = .ok (.ifCond .ne 14, 3) := dk_154 0 14 (dk_at dksX1_balance_1 4 rfl rfl)
theorem dX1_balance_30 : decode cX1_balance 30 = .ok (.ldc2_w 286, 3) := dk_20 1 30 (dk_at dksX1_balance_1 7 rfl rfl)
theorem dX1_balance_33 : decode cX1_balance 33 = .ok (.aload_n 0, 1) := dk_42 (dk_at dksX1_balance_1 10 rfl rfl)
theorem dX1_balance_34 : decode cX1_balance 34 = .ok (.getfield 200, 3) := dk_180 0 200 (dk_at dksX1_balance_1 11 rfl rfl)
theorem dX1_balance_37 : decode cX1_balance 37 = .ok (.lmul, 1) := dk_105 (dk_at dksX1_balance_1 14 rfl rfl)
theorem dX1_balance_38 : decode cX1_balance 38 = .ok (.goto 28, 3) := dk_167 0 28 (dk_at dksX1_balance_1 15 rfl rfl)
theorem dX1_balance_41 : decode cX1_balance 41 = .ok (.iload_n 1, 1) := dk_27 (dk_at dksX1_balance_1 18 rfl rfl)
theorem dX1_balance_42 : decode cX1_balance 42 = .ok (.iconst 1, 1) := dk_4 (dk_at dksX1_balance_1 19 rfl rfl)
theorem dX1_balance_43 : decode cX1_balance 43 = .ok (.if_icmp .ne 10, 3) := dk_160 0 10 (dk_at dksX1_balance_1 20 rfl rfl)
theorem dX1_balance_46 : decode cX1_balance 46 = .ok (.aload_n 0, 1) := dk_42 (dk_at dksX1_balance_1 23 rfl rfl)
theorem dX1_balance_47 : decode cX1_balance 47 = .ok (.getfield 200, 3) := dk_180 0 200 (dk_at dksX1_balance_2 0 rfl rfl)
theorem dX1_balance_50 : decode cX1_balance 50 = .ok (.goto 16, 3) := dk_167 0 16 (dk_at dksX1_balance_2 3 rfl rfl)
theorem dX1_balance_53 : decode cX1_balance 53 = .ok (.aload_n 0, 1) := dk_42 (dk_at dksX1_balance_2 6 rfl rfl)
theorem dX1_balance_54 : decode cX1_balance 54 = .ok (.getfield 28, 3) := dk_180 0 28 (dk_at dksX1_balance_2 7 rfl rfl)
theorem dX1_balance_57 : decode cX1_balance 57 = .ok (.iconst 0, 1) := dk_3 (dk_at dksX1_balance_2 10 rfl rfl)
theorem dX1_balance_58 : decode cX1_balance 58 = .ok (.laload, 1) := dk_47 (dk_at dksX1_balance_2 11 rfl rfl)
theorem dX1_balance_59 : decode cX1_balance 59 = .ok (.aload_n 0, 1) := dk_42 (dk_at dksX1_balance_2 12 rfl rfl)
theorem dX1_balance_60 : decode cX1_balance 60 = .ok (.getfield 28, 3) := dk_180 0 28 (dk_at dksX1_balance_2 13 rfl rfl)
theorem dX1_balance_63 : decode cX1_balance 63 = .ok (.iconst 1, 1) := dk_4 (dk_at dksX1_balance_2 16 rfl rfl)
theorem dX1_balance_64 : decode cX1_balance 64 = .ok (.laload, 1) := dk_47 (dk_at dksX1_balance_2 17 rfl rfl)
theorem dX1_balance_65 : decode cX1_balance 65 = .ok (.ladd, 1) := dk_97 (dk_at dksX1_balance_2 18 rfl rfl)
theorem dX1_balance_66 : decode cX1_balance 66 = .ok (.lstore_n 3, 1) := dk_66 (dk_at dksX1_balance_2 19 rfl rfl)
theorem dX1_balance_67 : decode cX1_balance 67 = .ok (.iload_n 2, 1) := dk_28 (dk_at dksX1_balance_2 20 rfl rfl)
theorem dX1_balance_68 : decode cX1_balance 68 = .ok (.ifCond .ne 11, 3) := dk_154 0 11 (dk_at dksX1_balance_2 21 rfl rfl)
theorem dX1_balance_71 : decode cX1_balance 71 = .ok (.aload_n 0, 1) := dk_42 (dk_at dksX1_balance_3 0 rfl rfl)
theorem dX1_balance_72 : decode cX1_balance 72 = .ok (.iload_n 1, 1) := dk_27 (dk_at dksX1_balance_3 1 rfl rfl)
theorem dX1_balance_73 : decode cX1_balance 73 = .ok (.invokevirtual 46, 3) := dk_182 0 46 (dk_at dksX1_balance_3 2 rfl rfl)
theorem dX1_balance_76 : decode cX1_balance 76 = .ok (.goto 40, 3) := dk_167 0 40 (dk_at dksX1_balance_3 5 rfl rfl)
theorem dX1_balance_79 : decode cX1_balance 79 = .ok (.iload_n 2, 1) := dk_28 (dk_at dksX1_balance_3 8 rfl rfl)
theorem dX1_balance_80 : decode cX1_balance 80 = .ok (.iconst 1, 1) := dk_4 (dk_at dksX1_balance_3 9 rfl rfl)
theorem dX1_balance_81 : decode cX1_balance 81 = .ok (.if_icmp .ne 12, 3) := dk_160 0 12 (dk_at dksX1_balance_3 10 rfl rfl)
theorem dX1_balance_84 : decode cX1_balance 84 = .ok (.aload_n 0, 1) := dk_42 (dk_at dksX1_balance_3 13 rfl rfl)
theorem dX1_balance_85 : decode cX1_balance 85 = .ok (.getfield 32, 3) := dk_180 0 32 (dk_at dksX1_balance_3 14 rfl rfl)
theorem dX1_balance_88 : decode cX1_balance 88 = .ok (.iload_n 1, 1) := dk_27 (dk_at dksX1_balance_3 17 rfl rfl)
theorem dX1_balance_89 : decode cX1_balance 89 = .ok (.laload, 1) := dk_47 (dk_at dksX1_balance_3 18 rfl rfl)
theorem dX1_balance_90 : decode cX1_balance 90 = .ok (.goto 26, 3) := dk_167 0 26 (dk_at dksX1_balance_3 19 rfl rfl)
theorem dX1_balance_93 : decode cX1_balance 93 = .ok (.iload_n 2, 1) := dk_28 (dk_at dksX1_balance_3 22 rfl rfl)
theorem dX1_balance_94 : decode cX1_balance 94 = .ok (.iconst 2, 1) := dk_5 (dk_at dksX1_balance_3 23 rfl rfl)
theorem dX1_balance_95 : decode cX1_balance 95 = .ok (.if_icmp .ne 7, 3) := dk_160 0 7 (dk_at dksX1_balance_4 0 rfl rfl)
theorem dX1_balance_98 : decode cX1_balance 98 = .ok (.lload_n 3, 1) := dk_33 (dk_at dksX1_balance_4 3 rfl rfl)
theorem dX1_balance_99 : decode cX1_balance 99 = .ok (.goto 17, 3) := dk_167 0 17 (dk_at dksX1_balance_4 4 rfl rfl)
theorem dX1_balance_102 : decode cX1_balance 102 = .ok (.aload_n 0, 1) := dk_42 (dk_at dksX1_balance_4 7 rfl rfl)
theorem dX1_balance_103 : decode cX1_balance 103 = .ok (.getfield 32, 3) := dk_180 0 32 (dk_at dksX1_balance_4 8 rfl rfl)
theorem dX1_balance_106 : decode cX1_balance 106 = .ok (.iload_n 1, 1) := dk_27 (dk_at dksX1_balance_4 11 rfl rfl)
theorem dX1_balance_107 : decode cX1_balance 107 = .ok (.laload, 1) := dk_47 (dk_at dksX1_balance_4 12 rfl rfl)
theorem dX1_balance_108 : decode cX1_balance 108 = .ok (.aload_n 0, 1) := dk_42 (dk_at dksX1_balance_4 13 rfl rfl)
theorem dX1_balance_109 : decode cX1_balance 109 = .ok (.iload_n 1, 1) := dk_27 (dk_at dksX1_balance_4 14 rfl rfl)
theorem dX1_balance_110 : decode cX1_balance 110 = .ok (.invokevirtual 46, 3) := dk_182 0 46 (dk_at dksX1_balance_4 15 rfl rfl)
theorem dX1_balance_113 : decode cX1_balance 113 = .ok (.lsub, 1) := dk_101 (dk_at dksX1_balance_4 18 rfl rfl)
theorem dX1_balance_114 : decode cX1_balance 114 = .ok (.lload_n 3, 1) := dk_33 (dk_at dksX1_balance_4 19 rfl rfl)
theorem dX1_balance_115 : decode cX1_balance 115 = .ok (.lsub, 1) := dk_101 (dk_at dksX1_balance_4 20 rfl rfl)
theorem dX1_balance_116 : decode cX1_balance 116 = .ok (.lreturn, 1) := dk_173 (dk_at dksX1_balance_4 21 rfl rfl)
abbrev cX1_air : ByteArray := prog_1_method_34_code
def yX1_air : MethodName := ⟨RX1, "air", "(I)J"⟩
def dkwX1_air_0 : List UInt8 := [27, 3, 4, 184, 0, 67, 184, 0, 87, 42, 180, 0, 28, 27, 47, 173]
abbrev dktX1_air_0 : List UInt8 := dkwX1_air_0 ++ []
theorem dksX1_air_0 : cX1_air.data.toList.drop 0 = dktX1_air_0 := by decide +kernel
theorem dX1_air_0 : decode cX1_air 0 = .ok (.iload_n 1, 1) := dk_27 (dk_at dksX1_air_0 0 rfl rfl)
theorem dX1_air_1 : decode cX1_air 1 = .ok (.iconst 0, 1) := dk_3 (dk_at dksX1_air_0 1 rfl rfl)
theorem dX1_air_2 : decode cX1_air 2 = .ok (.iconst 1, 1) := dk_4 (dk_at dksX1_air_0 2 rfl rfl)
theorem dX1_air_3 : decode cX1_air 3 = .ok (.invokestatic 67, 3) := dk_184 0 67 (dk_at dksX1_air_0 3 rfl rfl)
theorem dX1_air_6 : decode cX1_air 6 = .ok (.invokestatic 87, 3) := dk_184 0 87 (dk_at dksX1_air_0 6 rfl rfl)
theorem dX1_air_9 : decode cX1_air 9 = .ok (.aload_n 0, 1) := dk_42 (dk_at dksX1_air_0 9 rfl rfl)
theorem dX1_air_10 : decode cX1_air 10 = .ok (.getfield 28, 3) := dk_180 0 28 (dk_at dksX1_air_0 10 rfl rfl)
theorem dX1_air_13 : decode cX1_air 13 = .ok (.iload_n 1, 1) := dk_27 (dk_at dksX1_air_0 13 rfl rfl)
theorem dX1_air_14 : decode cX1_air 14 = .ok (.laload, 1) := dk_47 (dk_at dksX1_air_0 14 rfl rfl)
theorem dX1_air_15 : decode cX1_air 15 = .ok (.lreturn, 1) := dk_173 (dk_at dksX1_air_0 15 rfl rfl)
theorem q35 : (Jvm.Cond.initialized "Wakeground") ∈ lw_all := lw_g (lw_at lw_m1 1 rfl) rfl
theorem q66 : (Jvm.Cond.instantiable "Wakeground" (10 : Nat)) ∈ lw_all := lw_g (lw_at lw_m1 32 rfl) rfl
theorem q68 : (Jvm.Cond.instanceMethod ({ cls := "Wakeground", name := "<init>", desc := "()V" } : Jvm.MethodName)) ∈ lw_all := lw_g (lw_at lw_m1 34 rfl) rfl
theorem q69 : (Jvm.Cond.code ({ cls := "Wakeground", name := "<init>", desc := "()V" } : Jvm.MethodName) prog_1_method_1_code (2 : Nat) (Option.none : Option Jvm.ClassFile.FieldType)) ∈ lw_all := lw_g (lw_at lw_m1 35 rfl) rfl
theorem q70 : (Jvm.Cond.methodLink "Wakeground" (3 : Nat) ({ cls := "java/lang/Object", name := "<init>", desc := "()V" } : Jvm.MethodName)) ∈ lw_all := lw_g (lw_at lw_m1 36 rfl) rfl
theorem q73 : (Jvm.Cond.classLink "Wakeground" (9 : Nat) "Wakeground$Cell") ∈ lw_all := lw_g (lw_at lw_m1 39 rfl) rfl
theorem q75 : (Jvm.Cond.classLink "Wakeground" (15 : Nat) "java/util/ArrayList") ∈ lw_all := lw_g (lw_at lw_m1 41 rfl) rfl
theorem q77 : (Jvm.Cond.methodLink "Wakeground" (17 : Nat) ({ cls := "java/util/ArrayList", name := "<init>", desc := "()V" } : Jvm.MethodName)) ∈ lw_all := lw_g (lw_at lw_m1 43 rfl) rfl
theorem q102 : (Jvm.Cond.methodLink "Wakeground" (43 : Nat) ({ cls := "Wakeground$Cell", name := "<init>", desc := "(LWakeground;I)V" } : Jvm.MethodName)) ∈ lw_all := lw_g (lw_at lw_m1 68 rfl) rfl
theorem q114 : (Jvm.Cond.fieldLink "Wakeground" (96 : Nat) "Wakeground$Layer" "pore" "I") ∈ lw_all := lw_g (lw_at lw_m1 80 rfl) rfl
theorem q117 : (Jvm.Cond.fieldLink "Wakeground" (99 : Nat) "Wakeground$Layer" "excess" "I") ∈ lw_all := lw_g (lw_at lw_m1 83 rfl) rfl
theorem q120 : (Jvm.Cond.fieldLink "Wakeground" (90 : Nat) "Wakeground$Layer" "energy" "I") ∈ lw_all := lw_g (lw_at lw_m1 86 rfl) rfl
theorem q122 : (Jvm.Cond.fieldLink "Wakeground" (102 : Nat) "Wakeground$Layer" "carbon" "I") ∈ lw_all := lw_g (lw_at lw_m1 88 rfl) rfl
theorem q137 : (Jvm.Cond.fieldLink "Wakeground" (272 : Nat) "Wakeground$Cell" "number" "I") ∈ lw_all := lw_g (lw_at lw_m1 103 rfl) rfl
theorem q140 : (Jvm.Cond.fieldLink "Wakeground" (79 : Nat) "Wakeground$Cell" "layers" "[LWakeground$Layer;") ∈ lw_all := lw_g (lw_at lw_m1 106 rfl) rfl
theorem q142 : (Jvm.Cond.fieldLink "Wakeground" (251 : Nat) "Wakeground$Cell" "height" "I") ∈ lw_all := lw_g (lw_at lw_m1 108 rfl) rfl
theorem q144 : (Jvm.Cond.fieldLink "Wakeground" (191 : Nat) "Wakeground$Cell" "water" "I") ∈ lw_all := lw_g (lw_at lw_m1 110 rfl) rfl
theorem q146 : (Jvm.Cond.fieldLink "Wakeground" (112 : Nat) "Wakeground$Cell" "snow" "I") ∈ lw_all := lw_g (lw_at lw_m1 112 rfl) rfl
theorem q148 : (Jvm.Cond.fieldLink "Wakeground" (105 : Nat) "Wakeground$Cell" "moss" "I") ∈ lw_all := lw_g (lw_at lw_m1 114 rfl) rfl
theorem q150 : (Jvm.Cond.fieldLink "Wakeground" (254 : Nat) "Wakeground$Cell" "wedges" "I") ∈ lw_all := lw_g (lw_at lw_m1 116 rfl) rfl
theorem q152 : (Jvm.Cond.fieldLink "Wakeground" (204 : Nat) "Wakeground$Cell" "house" "LWakeground$House;") ∈ lw_all := lw_g (lw_at lw_m1 118 rfl) rfl
theorem q173 : (Jvm.Cond.methodLink "Wakeground" (46 : Nat) ({ cls := "Wakeground", name := "inLand", desc := "(I)J" } : Jvm.MethodName)) ∈ lw_all := lw_g (lw_at lw_m1 139 rfl) rfl
theorem q174 : (Jvm.Cond.privateMethod ({ cls := "Wakeground", name := "inLand", desc := "(I)J" } : Jvm.MethodName)) ∈ lw_tbl := lw_at lw_m1 140 rfl
theorem q175 : (Jvm.Cond.instanceMethod ({ cls := "Wakeground", name := "inLand", desc := "(I)J" } : Jvm.MethodName)) ∈ lw_all := lw_g (lw_at lw_m1 141 rfl) rfl
theorem q176 : (Jvm.Cond.code ({ cls := "Wakeground", name := "inLand", desc := "(I)J" } : Jvm.MethodName) prog_1_method_32_code (12 : Nat) (Option.some Jvm.ClassFile.FieldType.long)) ∈ lw_all := lw_g (lw_at lw_m1 142 rfl) rfl
theorem q177 : (Jvm.Cond.constantLong "Wakeground" (286 : Nat) (1000 : Int64)) ∈ lw_all := lw_g (lw_at lw_m1 143 rfl) rfl
theorem q178 : (Jvm.Cond.fieldLink "Wakeground" (11 : Nat) "Wakeground" "land" "[LWakeground$Cell;") ∈ lw_all := lw_g (lw_at lw_m1 144 rfl) rfl
theorem q180 : (Jvm.Cond.fieldLink "Wakeground" (18 : Nat) "Wakeground" "houses" "Ljava/util/ArrayList;") ∈ lw_all := lw_g (lw_at lw_m1 146 rfl) rfl
theorem q181 : (Jvm.Cond.fieldLink "Wakeground" (22 : Nat) "Wakeground" "boreholes" "Ljava/util/ArrayList;") ∈ lw_all := lw_g (lw_at lw_m1 147 rfl) rfl
theorem q182 : (Jvm.Cond.fieldLink "Wakeground" (25 : Nat) "Wakeground" "claims" "Ljava/util/ArrayList;") ∈ lw_all := lw_g (lw_at lw_m1 148 rfl) rfl
theorem q183 : (Jvm.Cond.fieldLink "Wakeground" (28 : Nat) "Wakeground" "gases" "[J") ∈ lw_all := lw_g (lw_at lw_m1 149 rfl) rfl
theorem q185 : (Jvm.Cond.fieldLink "Wakeground" (32 : Nat) "Wakeground" "came" "[J") ∈ lw_all := lw_g (lw_at lw_m1 151 rfl) rfl
theorem q186 : (Jvm.Cond.fieldLink "Wakeground" (200 : Nat) "Wakeground" "drained" "J") ∈ lw_all := lw_g (lw_at lw_m1 152 rfl) rfl
theorem q187 : (Jvm.Cond.fieldLink "Wakeground" (156 : Nat) "Wakeground" "month" "I") ∈ lw_all := lw_g (lw_at lw_m1 153 rfl) rfl
theorem q188 : (Jvm.Cond.fieldLink "Wakeground" (35 : Nat) "Wakeground" "isSeen" "[Z") ∈ lw_all := lw_g (lw_at lw_m1 154 rfl) rfl
theorem q189 : (Jvm.Cond.fieldLink "Wakeground" (39 : Nat) "Wakeground" "piled" "[I") ∈ lw_all := lw_g (lw_at lw_m1 155 rfl) rfl
theorem q190 : (Jvm.Cond.laysFinal "Wakeground" "Wakeground" "land" "[LWakeground$Cell;") ∈ lw_all := lw_g (lw_at lw_m1 156 rfl) rfl
theorem q191 : (Jvm.Cond.soleField "Wakeground" "land") ∈ lw_all := lw_g (lw_at lw_m1 157 rfl) rfl
theorem q192 : (Jvm.Cond.laysFinal "Wakeground" "Wakeground" "houses" "Ljava/util/ArrayList;") ∈ lw_all := lw_g (lw_at lw_m1 158 rfl) rfl
theorem q193 : (Jvm.Cond.soleField "Wakeground" "houses") ∈ lw_all := lw_g (lw_at lw_m1 159 rfl) rfl
theorem q194 : (Jvm.Cond.laysFinal "Wakeground" "Wakeground" "boreholes" "Ljava/util/ArrayList;") ∈ lw_all := lw_g (lw_at lw_m1 160 rfl) rfl
theorem q195 : (Jvm.Cond.soleField "Wakeground" "boreholes") ∈ lw_all := lw_g (lw_at lw_m1 161 rfl) rfl
theorem q196 : (Jvm.Cond.laysFinal "Wakeground" "Wakeground" "claims" "Ljava/util/ArrayList;") ∈ lw_all := lw_g (lw_at lw_m1 162 rfl) rfl
theorem q197 : (Jvm.Cond.soleField "Wakeground" "claims") ∈ lw_all := lw_g (lw_at lw_m1 163 rfl) rfl
theorem q198 : (Jvm.Cond.laysFinal "Wakeground" "Wakeground" "gases" "[J") ∈ lw_all := lw_g (lw_at lw_m1 164 rfl) rfl
theorem q199 : (Jvm.Cond.soleField "Wakeground" "gases") ∈ lw_all := lw_g (lw_at lw_m1 165 rfl) rfl
theorem q200 : (Jvm.Cond.laysFinal "Wakeground" "Wakeground" "came" "[J") ∈ lw_all := lw_g (lw_at lw_m1 166 rfl) rfl
theorem q201 : (Jvm.Cond.soleField "Wakeground" "came") ∈ lw_all := lw_g (lw_at lw_m1 167 rfl) rfl
theorem q202 : (Jvm.Cond.lays "Wakeground" "Wakeground" "drained" "J") ∈ lw_all := lw_g (lw_at lw_m1 168 rfl) rfl
theorem q203 : (Jvm.Cond.soleField "Wakeground" "drained") ∈ lw_all := lw_g (lw_at lw_m1 169 rfl) rfl
theorem q204 : (Jvm.Cond.lays "Wakeground" "Wakeground" "month" "I") ∈ lw_all := lw_g (lw_at lw_m1 170 rfl) rfl
theorem q205 : (Jvm.Cond.soleField "Wakeground" "month") ∈ lw_all := lw_g (lw_at lw_m1 171 rfl) rfl
theorem q206 : (Jvm.Cond.laysFinal "Wakeground" "Wakeground" "isSeen" "[Z") ∈ lw_all := lw_g (lw_at lw_m1 172 rfl) rfl
theorem q207 : (Jvm.Cond.soleField "Wakeground" "isSeen") ∈ lw_all := lw_g (lw_at lw_m1 173 rfl) rfl
theorem q208 : (Jvm.Cond.laysFinal "Wakeground" "Wakeground" "piled" "[I") ∈ lw_all := lw_g (lw_at lw_m1 174 rfl) rfl
theorem q209 : (Jvm.Cond.soleField "Wakeground" "piled") ∈ lw_all := lw_g (lw_at lw_m1 175 rfl) rfl
theorem q210 : (Jvm.Cond.superclass "Wakeground" "java/lang/Object") ∈ lw_all := lw_g (lw_at lw_m1 176 rfl) rfl
theorem q212 : (Jvm.Cond.instanceMethod ({ cls := "Wakeground", name := "month", desc := "()I" } : Jvm.MethodName)) ∈ lw_all := lw_g (lw_at lw_m1 178 rfl) rfl
theorem q213 : (Jvm.Cond.selects "Wakeground" ({ cls := "Wakeground", name := "month", desc := "()I" } : Jvm.MethodName) ({ cls := "Wakeground", name := "month", desc := "()I" } : Jvm.MethodName)) ∈ lw_all := lw_g (lw_at lw_m1 179 rfl) rfl
theorem q214 : (Jvm.Cond.code ({ cls := "Wakeground", name := "month", desc := "()I" } : Jvm.MethodName) prog_1_method_22_code (1 : Nat) (Option.some Jvm.ClassFile.FieldType.int)) ∈ lw_all := lw_g (lw_at lw_m1 180 rfl) rfl
theorem q216 : (Jvm.Cond.instanceMethod ({ cls := "Wakeground", name := "lakes", desc := "()I" } : Jvm.MethodName)) ∈ lw_all := lw_g (lw_at lw_m1 182 rfl) rfl
theorem q217 : (Jvm.Cond.selects "Wakeground" ({ cls := "Wakeground", name := "lakes", desc := "()I" } : Jvm.MethodName) ({ cls := "Wakeground", name := "lakes", desc := "()I" } : Jvm.MethodName)) ∈ lw_all := lw_g (lw_at lw_m1 183 rfl) rfl
theorem q218 : (Jvm.Cond.code ({ cls := "Wakeground", name := "lakes", desc := "()I" } : Jvm.MethodName) prog_1_method_26_code (6 : Nat) (Option.some Jvm.ClassFile.FieldType.int)) ∈ lw_all := lw_g (lw_at lw_m1 184 rfl) rfl
theorem q219 : (Jvm.Cond.methodLink "Wakeground" (194 : Nat) ({ cls := "Wakeground", name := "forget", desc := "()V" } : Jvm.MethodName)) ∈ lw_all := lw_g (lw_at lw_m1 185 rfl) rfl
theorem q220 : (Jvm.Cond.privateMethod ({ cls := "Wakeground", name := "forget", desc := "()V" } : Jvm.MethodName)) ∈ lw_tbl := lw_at lw_m1 186 rfl
theorem q221 : (Jvm.Cond.instanceMethod ({ cls := "Wakeground", name := "forget", desc := "()V" } : Jvm.MethodName)) ∈ lw_all := lw_g (lw_at lw_m1 187 rfl) rfl
theorem q222 : (Jvm.Cond.code ({ cls := "Wakeground", name := "forget", desc := "()V" } : Jvm.MethodName) prog_1_method_15_code (2 : Nat) (Option.none : Option Jvm.ClassFile.FieldType)) ∈ lw_all := lw_g (lw_at lw_m1 188 rfl) rfl
theorem q223 : (Jvm.Cond.methodLink "Wakeground" (197 : Nat) ({ cls := "Wakeground", name := "spread", desc := "(I)I" } : Jvm.MethodName)) ∈ lw_all := lw_g (lw_at lw_m1 189 rfl) rfl
theorem q224 : (Jvm.Cond.privateMethod ({ cls := "Wakeground", name := "spread", desc := "(I)I" } : Jvm.MethodName)) ∈ lw_tbl := lw_at lw_m1 190 rfl
theorem q225 : (Jvm.Cond.instanceMethod ({ cls := "Wakeground", name := "spread", desc := "(I)I" } : Jvm.MethodName)) ∈ lw_all := lw_g (lw_at lw_m1 191 rfl) rfl
theorem q226 : (Jvm.Cond.code ({ cls := "Wakeground", name := "spread", desc := "(I)I" } : Jvm.MethodName) prog_1_method_14_code (6 : Nat) (Option.some Jvm.ClassFile.FieldType.int)) ∈ lw_all := lw_g (lw_at lw_m1 192 rfl) rfl
theorem q227 : (Jvm.Cond.classLink "Wakeground" (173 : Nat) "Wakeground$Around") ∈ lw_all := lw_g (lw_at lw_m1 193 rfl) rfl
theorem q229 : (Jvm.Cond.methodLink "Wakeground" (175 : Nat) ({ cls := "Wakeground$Around", name := "<init>", desc := "(I)V" } : Jvm.MethodName)) ∈ lw_all := lw_g (lw_at lw_m1 195 rfl) rfl
theorem q252 : (Jvm.Cond.interfaceEntry "Wakeground" (177 : Nat)) ∈ lw_tbl := lw_at lw_m1 218 rfl
theorem q253 : (Jvm.Cond.methodLink "Wakeground" (177 : Nat) ({ cls := "java/util/Iterator", name := "hasNext", desc := "()Z" } : Jvm.MethodName)) ∈ lw_all := lw_g (lw_at lw_m1 219 rfl) rfl
theorem q262 : (Jvm.Cond.interfaceEntry "Wakeground" (182 : Nat)) ∈ lw_tbl := lw_at lw_m1 228 rfl
theorem q263 : (Jvm.Cond.methodLink "Wakeground" (182 : Nat) ({ cls := "java/util/Iterator", name := "next", desc := "()Ljava/lang/Object;" } : Jvm.MethodName)) ∈ lw_all := lw_g (lw_at lw_m1 229 rfl) rfl
theorem q362 : (Jvm.Cond.classLink "Wakeground" (186 : Nat) "java/lang/Integer") ∈ lw_all := lw_g (lw_at lw_m2 88 rfl) rfl
theorem q363 : (Jvm.Cond.methodLink "Wakeground" (188 : Nat) ({ cls := "java/lang/Integer", name := "intValue", desc := "()I" } : Jvm.MethodName)) ∈ lw_all := lw_g (lw_at lw_m2 89 rfl) rfl
theorem q367 : (Jvm.Cond.methodLink "Wakeground" (169 : Nat) ({ cls := "Wakeground$Cell", name := "isLake", desc := "()Z" } : Jvm.MethodName)) ∈ lw_all := lw_g (lw_at lw_m2 93 rfl) rfl
theorem q409 : (Jvm.Cond.instanceMethod ({ cls := "Wakeground", name := "ground", desc := "(IIIIII)V" } : Jvm.MethodName)) ∈ lw_all := lw_g (lw_at lw_m2 135 rfl) rfl
theorem q410 : (Jvm.Cond.selects "Wakeground" ({ cls := "Wakeground", name := "ground", desc := "(IIIIII)V" } : Jvm.MethodName) ({ cls := "Wakeground", name := "ground", desc := "(IIIIII)V" } : Jvm.MethodName)) ∈ lw_all := lw_g (lw_at lw_m2 136 rfl) rfl
theorem q411 : (Jvm.Cond.code ({ cls := "Wakeground", name := "ground", desc := "(IIIIII)V" } : Jvm.MethodName) prog_1_method_8_code (8 : Nat) (Option.none : Option Jvm.ClassFile.FieldType)) ∈ lw_all := lw_g (lw_at lw_m2 137 rfl) rfl
theorem q412 : (Jvm.Cond.methodLink "Wakeground" (83 : Nat) ({ cls := "Wakeground", name := "layerAt", desc := "(II)LWakeground$Layer;" } : Jvm.MethodName)) ∈ lw_all := lw_g (lw_at lw_m2 138 rfl) rfl
theorem q413 : (Jvm.Cond.privateMethod ({ cls := "Wakeground", name := "layerAt", desc := "(II)LWakeground$Layer;" } : Jvm.MethodName)) ∈ lw_tbl := lw_at lw_m2 139 rfl
theorem q414 : (Jvm.Cond.instanceMethod ({ cls := "Wakeground", name := "layerAt", desc := "(II)LWakeground$Layer;" } : Jvm.MethodName)) ∈ lw_all := lw_g (lw_at lw_m2 140 rfl) rfl
theorem q415 : (Jvm.Cond.code ({ cls := "Wakeground", name := "layerAt", desc := "(II)LWakeground$Layer;" } : Jvm.MethodName) prog_1_method_7_code (4 : Nat) (Option.some (Jvm.ClassFile.FieldType.object "Wakeground$Layer"))) ∈ lw_all := lw_g (lw_at lw_m2 141 rfl) rfl
theorem q416 : (Jvm.Cond.methodLink "Wakeground" (75 : Nat) ({ cls := "Wakeground", name := "cellAt", desc := "(I)LWakeground$Cell;" } : Jvm.MethodName)) ∈ lw_all := lw_g (lw_at lw_m2 142 rfl) rfl
theorem q417 : (Jvm.Cond.privateMethod ({ cls := "Wakeground", name := "cellAt", desc := "(I)LWakeground$Cell;" } : Jvm.MethodName)) ∈ lw_tbl := lw_at lw_m2 143 rfl
theorem q418 : (Jvm.Cond.instanceMethod ({ cls := "Wakeground", name := "cellAt", desc := "(I)LWakeground$Cell;" } : Jvm.MethodName)) ∈ lw_all := lw_g (lw_at lw_m2 144 rfl) rfl
theorem q419 : (Jvm.Cond.code ({ cls := "Wakeground", name := "cellAt", desc := "(I)LWakeground$Cell;" } : Jvm.MethodName) prog_1_method_6_code (2 : Nat) (Option.some (Jvm.ClassFile.FieldType.object "Wakeground$Cell"))) ∈ lw_all := lw_g (lw_at lw_m2 145 rfl) rfl
theorem q420 : (Jvm.Cond.methodLink "Wakeground" (67 : Nat) ({ cls := "Wakeground", name := "isIn", desc := "(III)Z" } : Jvm.MethodName)) ∈ lw_all := lw_g (lw_at lw_m2 146 rfl) rfl
theorem q421 : (Jvm.Cond.static ({ cls := "Wakeground", name := "isIn", desc := "(III)Z" } : Jvm.MethodName)) ∈ lw_all := lw_g (lw_at lw_m2 147 rfl) rfl
theorem q422 : (Jvm.Cond.code ({ cls := "Wakeground", name := "isIn", desc := "(III)Z" } : Jvm.MethodName) prog_1_method_5_code (3 : Nat) (Option.some Jvm.ClassFile.FieldType.boolean)) ∈ lw_all := lw_g (lw_at lw_m2 148 rfl) rfl
theorem q423 : (Jvm.Cond.methodLink "Wakeground" (71 : Nat) ({ cls := "Wakeground", name := "known", desc := "(Z)V" } : Jvm.MethodName)) ∈ lw_all := lw_g (lw_at lw_m2 149 rfl) rfl
theorem q424 : (Jvm.Cond.static ({ cls := "Wakeground", name := "known", desc := "(Z)V" } : Jvm.MethodName)) ∈ lw_all := lw_g (lw_at lw_m2 150 rfl) rfl
theorem q425 : (Jvm.Cond.code ({ cls := "Wakeground", name := "known", desc := "(Z)V" } : Jvm.MethodName) prog_1_method_2_code (1 : Nat) (Option.none : Option Jvm.ClassFile.FieldType)) ∈ lw_all := lw_g (lw_at lw_m2 151 rfl) rfl
theorem q426 : (Jvm.Cond.classLink "Wakeground" (50 : Nat) "java/lang/IndexOutOfBoundsException") ∈ lw_all := lw_g (lw_at lw_m2 152 rfl) rfl
theorem q435 : (Jvm.Cond.stringRef "Wakeground" (52 : Nat) "number") ∈ lw_tbl := lw_at lw_m2 161 rfl
theorem q436 : (Jvm.Cond.methodLink "Wakeground" (54 : Nat) ({ cls := "java/lang/IndexOutOfBoundsException", name := "<init>", desc := "(Ljava/lang/String;)V" } : Jvm.MethodName)) ∈ lw_all := lw_g (lw_at lw_m2 162 rfl) rfl
theorem q439 : (Jvm.Cond.methodLink "Wakeground" (87 : Nat) ({ cls := "Wakeground", name := "inRange", desc := "(Z)V" } : Jvm.MethodName)) ∈ lw_all := lw_g (lw_at lw_m2 165 rfl) rfl
theorem q440 : (Jvm.Cond.static ({ cls := "Wakeground", name := "inRange", desc := "(Z)V" } : Jvm.MethodName)) ∈ lw_all := lw_g (lw_at lw_m2 166 rfl) rfl
theorem q441 : (Jvm.Cond.code ({ cls := "Wakeground", name := "inRange", desc := "(Z)V" } : Jvm.MethodName) prog_1_method_3_code (1 : Nat) (Option.none : Option Jvm.ClassFile.FieldType)) ∈ lw_all := lw_g (lw_at lw_m2 167 rfl) rfl
theorem q442 : (Jvm.Cond.classLink "Wakeground" (57 : Nat) "java/lang/IllegalArgumentException") ∈ lw_all := lw_g (lw_at lw_m2 168 rfl) rfl
theorem q451 : (Jvm.Cond.stringRef "Wakeground" (59 : Nat) "range") ∈ lw_tbl := lw_at lw_m2 177 rfl
theorem q452 : (Jvm.Cond.methodLink "Wakeground" (61 : Nat) ({ cls := "java/lang/IllegalArgumentException", name := "<init>", desc := "(Ljava/lang/String;)V" } : Jvm.MethodName)) ∈ lw_all := lw_g (lw_at lw_m2 178 rfl) rfl
theorem q462 : (Jvm.Cond.instanceMethod ({ cls := "Wakeground", name := "moss", desc := "(II)I" } : Jvm.MethodName)) ∈ lw_all := lw_g (lw_at lw_m2 188 rfl) rfl
theorem q463 : (Jvm.Cond.selects "Wakeground" ({ cls := "Wakeground", name := "moss", desc := "(II)I" } : Jvm.MethodName) ({ cls := "Wakeground", name := "moss", desc := "(II)I" } : Jvm.MethodName)) ∈ lw_all := lw_g (lw_at lw_m2 189 rfl) rfl
theorem q464 : (Jvm.Cond.code ({ cls := "Wakeground", name := "moss", desc := "(II)I" } : Jvm.MethodName) prog_1_method_9_code (5 : Nat) (Option.some Jvm.ClassFile.FieldType.int)) ∈ lw_all := lw_g (lw_at lw_m2 190 rfl) rfl
theorem q470 : (Jvm.Cond.instanceMethod ({ cls := "Wakeground", name := "pass", desc := "(III)I" } : Jvm.MethodName)) ∈ lw_all := lw_g (lw_at lw_m2 196 rfl) rfl
theorem q471 : (Jvm.Cond.selects "Wakeground" ({ cls := "Wakeground", name := "pass", desc := "(III)I" } : Jvm.MethodName) ({ cls := "Wakeground", name := "pass", desc := "(III)I" } : Jvm.MethodName)) ∈ lw_all := lw_g (lw_at lw_m2 197 rfl) rfl
theorem q472 : (Jvm.Cond.code ({ cls := "Wakeground", name := "pass", desc := "(III)I" } : Jvm.MethodName) prog_1_method_12_code (5 : Nat) (Option.some Jvm.ClassFile.FieldType.int)) ∈ lw_all := lw_g (lw_at lw_m2 198 rfl) rfl
theorem q473 : (Jvm.Cond.methodLink "Wakeground" (162 : Nat) ({ cls := "Wakeground", name := "allowed", desc := "(Z)V" } : Jvm.MethodName)) ∈ lw_all := lw_g (lw_at lw_m2 199 rfl) rfl
theorem q474 : (Jvm.Cond.static ({ cls := "Wakeground", name := "allowed", desc := "(Z)V" } : Jvm.MethodName)) ∈ lw_all := lw_g (lw_at lw_m2 200 rfl) rfl
theorem q475 : (Jvm.Cond.code ({ cls := "Wakeground", name := "allowed", desc := "(Z)V" } : Jvm.MethodName) prog_1_method_4_code (1 : Nat) (Option.none : Option Jvm.ClassFile.FieldType)) ∈ lw_all := lw_g (lw_at lw_m2 201 rfl) rfl
theorem q476 : (Jvm.Cond.classLink "Wakeground" (62 : Nat) "java/lang/IllegalStateException") ∈ lw_all := lw_g (lw_at lw_m2 202 rfl) rfl
theorem q485 : (Jvm.Cond.stringRef "Wakeground" (64 : Nat) "state") ∈ lw_tbl := lw_at lw_m2 211 rfl
theorem q486 : (Jvm.Cond.methodLink "Wakeground" (66 : Nat) ({ cls := "java/lang/IllegalStateException", name := "<init>", desc := "(Ljava/lang/String;)V" } : Jvm.MethodName)) ∈ lw_all := lw_g (lw_at lw_m2 212 rfl) rfl
theorem q492 : (Jvm.Cond.methodLink "Wakeground" (165 : Nat) ({ cls := "Wakeground", name := "passOne", desc := "(II)V" } : Jvm.MethodName)) ∈ lw_all := lw_g (lw_at lw_m2 218 rfl) rfl
theorem q493 : (Jvm.Cond.privateMethod ({ cls := "Wakeground", name := "passOne", desc := "(II)V" } : Jvm.MethodName)) ∈ lw_tbl := lw_at lw_m2 219 rfl
theorem q494 : (Jvm.Cond.instanceMethod ({ cls := "Wakeground", name := "passOne", desc := "(II)V" } : Jvm.MethodName)) ∈ lw_all := lw_g (lw_at lw_m2 220 rfl) rfl
theorem q495 : (Jvm.Cond.code ({ cls := "Wakeground", name := "passOne", desc := "(II)V" } : Jvm.MethodName) prog_1_method_11_code (8 : Nat) (Option.none : Option Jvm.ClassFile.FieldType)) ∈ lw_all := lw_g (lw_at lw_m2 221 rfl) rfl
theorem q496 : (Jvm.Cond.methodLink "Wakeground" (115 : Nat) ({ cls := "java/lang/Math", name := "min", desc := "(II)I" } : Jvm.MethodName)) ∈ lw_all := lw_g (lw_at lw_m2 222 rfl) rfl
theorem q499 : (Jvm.Cond.methodLink "Wakeground" (121 : Nat) ({ cls := "Wakeground$Cell", name := "lead", desc := "(I)I" } : Jvm.MethodName)) ∈ lw_all := lw_g (lw_at lw_m2 225 rfl) rfl
theorem q519 : (Jvm.Cond.methodLink "Wakeground" (124 : Nat) ({ cls := "Wakeground$Cell", name := "melt", desc := "()V" } : Jvm.MethodName)) ∈ lw_all := lw_g (lw_at lw_m3 5 rfl) rfl
theorem q536 : (Jvm.Cond.methodLink "Wakeground" (127 : Nat) ({ cls := "Wakeground$Cell", name := "flow", desc := "()V" } : Jvm.MethodName)) ∈ lw_all := lw_g (lw_at lw_m3 22 rfl) rfl
theorem q553 : (Jvm.Cond.methodLink "Wakeground" (130 : Nat) ({ cls := "Wakeground", name := "cracking", desc := "()LWakeground$Cell;" } : Jvm.MethodName)) ∈ lw_all := lw_g (lw_at lw_m3 39 rfl) rfl
theorem q554 : (Jvm.Cond.privateMethod ({ cls := "Wakeground", name := "cracking", desc := "()LWakeground$Cell;" } : Jvm.MethodName)) ∈ lw_tbl := lw_at lw_m3 40 rfl
theorem q555 : (Jvm.Cond.instanceMethod ({ cls := "Wakeground", name := "cracking", desc := "()LWakeground$Cell;" } : Jvm.MethodName)) ∈ lw_all := lw_g (lw_at lw_m3 41 rfl) rfl
theorem q556 : (Jvm.Cond.code ({ cls := "Wakeground", name := "cracking", desc := "()LWakeground$Cell;" } : Jvm.MethodName) prog_1_method_10_code (6 : Nat) (Option.some (Jvm.ClassFile.FieldType.object "Wakeground$Cell"))) ∈ lw_all := lw_g (lw_at lw_m3 42 rfl) rfl
theorem q557 : (Jvm.Cond.methodLink "Wakeground" (108 : Nat) ({ cls := "Wakeground$Cell", name := "temperature", desc := "(I)I" } : Jvm.MethodName)) ∈ lw_all := lw_g (lw_at lw_m3 43 rfl) rfl
theorem q558 : (Jvm.Cond.methodLink "Wakeground" (134 : Nat) ({ cls := "Wakeground$Cell", name := "crack", desc := "()V" } : Jvm.MethodName)) ∈ lw_all := lw_g (lw_at lw_m3 44 rfl) rfl
theorem q562 : (Jvm.Cond.methodLink "Wakeground" (137 : Nat) ({ cls := "Wakeground$Cell", name := "live", desc := "(I)V" } : Jvm.MethodName)) ∈ lw_all := lw_g (lw_at lw_m3 48 rfl) rfl
theorem q575 : (Jvm.Cond.methodLink "Wakeground" (141 : Nat) ({ cls := "java/util/ArrayList", name := "size", desc := "()I" } : Jvm.MethodName)) ∈ lw_all := lw_g (lw_at lw_m3 61 rfl) rfl
theorem q579 : (Jvm.Cond.methodLink "Wakeground" (145 : Nat) ({ cls := "java/util/ArrayList", name := "get", desc := "(I)Ljava/lang/Object;" } : Jvm.MethodName)) ∈ lw_all := lw_g (lw_at lw_m3 65 rfl) rfl
theorem q593 : (Jvm.Cond.classLink "Wakeground" (149 : Nat) "Wakeground$House") ∈ lw_all := lw_g (lw_at lw_m3 79 rfl) rfl
theorem q594 : (Jvm.Cond.methodLink "Wakeground" (151 : Nat) ({ cls := "Wakeground$House", name := "stand", desc := "()V" } : Jvm.MethodName)) ∈ lw_all := lw_g (lw_at lw_m3 80 rfl) rfl
theorem q624 : (Jvm.Cond.classLink "Wakeground" (154 : Nat) "Wakeground$Borehole") ∈ lw_all := lw_g (lw_at lw_m3 110 rfl) rfl
theorem q625 : (Jvm.Cond.methodLink "Wakeground" (159 : Nat) ({ cls := "Wakeground$Borehole", name := "read", desc := "(I)V" } : Jvm.MethodName)) ∈ lw_all := lw_g (lw_at lw_m3 111 rfl) rfl
theorem q640 : (Jvm.Cond.instanceMethod ({ cls := "Wakeground", name := "fire", desc := "(I)I" } : Jvm.MethodName)) ∈ lw_all := lw_g (lw_at lw_m3 126 rfl) rfl
theorem q641 : (Jvm.Cond.selects "Wakeground" ({ cls := "Wakeground", name := "fire", desc := "(I)I" } : Jvm.MethodName) ({ cls := "Wakeground", name := "fire", desc := "(I)I" } : Jvm.MethodName)) ∈ lw_all := lw_g (lw_at lw_m3 127 rfl) rfl
theorem q642 : (Jvm.Cond.code ({ cls := "Wakeground", name := "fire", desc := "(I)I" } : Jvm.MethodName) prog_1_method_13_code (4 : Nat) (Option.some Jvm.ClassFile.FieldType.int)) ∈ lw_all := lw_g (lw_at lw_m3 128 rfl) rfl
theorem q647 : (Jvm.Cond.instanceMethod ({ cls := "Wakeground", name := "breach", desc := "(I)I" } : Jvm.MethodName)) ∈ lw_all := lw_g (lw_at lw_m3 133 rfl) rfl
theorem q648 : (Jvm.Cond.selects "Wakeground" ({ cls := "Wakeground", name := "breach", desc := "(I)I" } : Jvm.MethodName) ({ cls := "Wakeground", name := "breach", desc := "(I)I" } : Jvm.MethodName)) ∈ lw_all := lw_g (lw_at lw_m3 134 rfl) rfl
theorem q649 : (Jvm.Cond.code ({ cls := "Wakeground", name := "breach", desc := "(I)I" } : Jvm.MethodName) prog_1_method_16_code (5 : Nat) (Option.some Jvm.ClassFile.FieldType.int)) ∈ lw_all := lw_g (lw_at lw_m3 135 rfl) rfl
theorem q654 : (Jvm.Cond.instanceMethod ({ cls := "Wakeground", name := "house", desc := "(IIZ)I" } : Jvm.MethodName)) ∈ lw_all := lw_g (lw_at lw_m3 140 rfl) rfl
theorem q655 : (Jvm.Cond.selects "Wakeground" ({ cls := "Wakeground", name := "house", desc := "(IIZ)I" } : Jvm.MethodName) ({ cls := "Wakeground", name := "house", desc := "(IIZ)I" } : Jvm.MethodName)) ∈ lw_all := lw_g (lw_at lw_m3 141 rfl) rfl
theorem q656 : (Jvm.Cond.code ({ cls := "Wakeground", name := "house", desc := "(IIZ)I" } : Jvm.MethodName) prog_1_method_17_code (5 : Nat) (Option.some Jvm.ClassFile.FieldType.int)) ∈ lw_all := lw_g (lw_at lw_m3 142 rfl) rfl
theorem q658 : (Jvm.Cond.methodLink "Wakeground" (208 : Nat) ({ cls := "Wakeground$House", name := "<init>", desc := "(LWakeground$Cell;IZI)V" } : Jvm.MethodName)) ∈ lw_all := lw_g (lw_at lw_m3 144 rfl) rfl
theorem q664 : (Jvm.Cond.fieldLink "Wakeground" (229 : Nat) "Wakeground$House" "pile" "I") ∈ lw_all := lw_g (lw_at lw_m3 150 rfl) rfl
theorem q667 : (Jvm.Cond.fieldLink "Wakeground" (218 : Nat) "Wakeground$House" "built" "I") ∈ lw_all := lw_g (lw_at lw_m3 153 rfl) rfl
theorem q670 : (Jvm.Cond.fieldLink "Wakeground" (241 : Nat) "Wakeground$House" "tilt" "I") ∈ lw_all := lw_g (lw_at lw_m3 156 rfl) rfl
theorem q681 : (Jvm.Cond.methodLink "Wakeground" (211 : Nat) ({ cls := "java/util/ArrayList", name := "add", desc := "(Ljava/lang/Object;)Z" } : Jvm.MethodName)) ∈ lw_all := lw_g (lw_at lw_m3 167 rfl) rfl
theorem q711 : (Jvm.Cond.selects "Wakeground" ({ cls := "java/lang/Object", name := "getClass", desc := "()Ljava/lang/Class;" } : Jvm.MethodName) ({ cls := "java/lang/Object", name := "getClass", desc := "()Ljava/lang/Class;" } : Jvm.MethodName)) ∈ lw_all := lw_g (lw_at lw_m3 197 rfl) rfl
theorem q743 : (Jvm.Cond.instanceMethod ({ cls := "Wakeground", name := "borehole", desc := "(II)I" } : Jvm.MethodName)) ∈ lw_all := lw_g (lw_at lw_m3 229 rfl) rfl
theorem q744 : (Jvm.Cond.selects "Wakeground" ({ cls := "Wakeground", name := "borehole", desc := "(II)I" } : Jvm.MethodName) ({ cls := "Wakeground", name := "borehole", desc := "(II)I" } : Jvm.MethodName)) ∈ lw_all := lw_g (lw_at lw_m3 230 rfl) rfl
theorem q745 : (Jvm.Cond.code ({ cls := "Wakeground", name := "borehole", desc := "(II)I" } : Jvm.MethodName) prog_1_method_18_code (4 : Nat) (Option.some Jvm.ClassFile.FieldType.int)) ∈ lw_all := lw_g (lw_at lw_m3 231 rfl) rfl
theorem q747 : (Jvm.Cond.methodLink "Wakeground" (215 : Nat) ({ cls := "Wakeground$Borehole", name := "<init>", desc := "(LWakeground$Cell;II)V" } : Jvm.MethodName)) ∈ lw_all := lw_g (lw_at lw_m3 233 rfl) rfl
theorem q767 : (Jvm.Cond.instanceMethod ({ cls := "Wakeground", name := "claim", desc := "(I)I" } : Jvm.MethodName)) ∈ lw_all := lw_g (lw_at lw_m4 13 rfl) rfl
theorem q768 : (Jvm.Cond.selects "Wakeground" ({ cls := "Wakeground", name := "claim", desc := "(I)I" } : Jvm.MethodName) ({ cls := "Wakeground", name := "claim", desc := "(I)I" } : Jvm.MethodName)) ∈ lw_all := lw_g (lw_at lw_m4 14 rfl) rfl
theorem q769 : (Jvm.Cond.code ({ cls := "Wakeground", name := "claim", desc := "(I)I" } : Jvm.MethodName) prog_1_method_21_code (3 : Nat) (Option.some Jvm.ClassFile.FieldType.int)) ∈ lw_all := lw_g (lw_at lw_m4 15 rfl) rfl
theorem q770 : (Jvm.Cond.methodLink "Wakeground" (235 : Nat) ({ cls := "Wakeground", name := "houseAt", desc := "(I)LWakeground$House;" } : Jvm.MethodName)) ∈ lw_all := lw_g (lw_at lw_m4 16 rfl) rfl
theorem q771 : (Jvm.Cond.privateMethod ({ cls := "Wakeground", name := "houseAt", desc := "(I)LWakeground$House;" } : Jvm.MethodName)) ∈ lw_tbl := lw_at lw_m4 17 rfl
theorem q772 : (Jvm.Cond.instanceMethod ({ cls := "Wakeground", name := "houseAt", desc := "(I)LWakeground$House;" } : Jvm.MethodName)) ∈ lw_all := lw_g (lw_at lw_m4 18 rfl) rfl
theorem q773 : (Jvm.Cond.code ({ cls := "Wakeground", name := "houseAt", desc := "(I)LWakeground$House;" } : Jvm.MethodName) prog_1_method_19_code (2 : Nat) (Option.some (Jvm.ClassFile.FieldType.object "Wakeground$House"))) ∈ lw_all := lw_g (lw_at lw_m4 19 rfl) rfl
theorem q774 : (Jvm.Cond.classLink "Wakeground" (239 : Nat) "Wakeground$Claim") ∈ lw_all := lw_g (lw_at lw_m4 20 rfl) rfl
theorem q776 : (Jvm.Cond.methodLink "Wakeground" (244 : Nat) ({ cls := "Wakeground", name := "due", desc := "(LWakeground$House;II)I" } : Jvm.MethodName)) ∈ lw_all := lw_g (lw_at lw_m4 22 rfl) rfl
theorem q777 : (Jvm.Cond.privateMethod ({ cls := "Wakeground", name := "due", desc := "(LWakeground$House;II)I" } : Jvm.MethodName)) ∈ lw_tbl := lw_at lw_m4 23 rfl
theorem q778 : (Jvm.Cond.instanceMethod ({ cls := "Wakeground", name := "due", desc := "(LWakeground$House;II)I" } : Jvm.MethodName)) ∈ lw_all := lw_g (lw_at lw_m4 24 rfl) rfl
theorem q779 : (Jvm.Cond.code ({ cls := "Wakeground", name := "due", desc := "(LWakeground$House;II)I" } : Jvm.MethodName) prog_1_method_20_code (9 : Nat) (Option.some Jvm.ClassFile.FieldType.int)) ∈ lw_all := lw_g (lw_at lw_m4 25 rfl) rfl
theorem q785 : (Jvm.Cond.methodLink "Wakeground" (225 : Nat) ({ cls := "Wakeground$Borehole", name := "has", desc := "(II)Z" } : Jvm.MethodName)) ∈ lw_all := lw_g (lw_at lw_m4 31 rfl) rfl
theorem q789 : (Jvm.Cond.methodLink "Wakeground" (232 : Nat) ({ cls := "Wakeground$Borehole", name := "told", desc := "(II)I" } : Jvm.MethodName)) ∈ lw_all := lw_g (lw_at lw_m4 35 rfl) rfl
theorem q793 : (Jvm.Cond.methodLink "Wakeground" (248 : Nat) ({ cls := "Wakeground$Claim", name := "<init>", desc := "(LWakeground$House;II)V" } : Jvm.MethodName)) ∈ lw_all := lw_g (lw_at lw_m4 39 rfl) rfl
theorem q798 : (Jvm.Cond.fieldLink "Wakeground" (281 : Nat) "Wakeground$Claim" "house" "LWakeground$House;") ∈ lw_all := lw_g (lw_at lw_m4 44 rfl) rfl
theorem q800 : (Jvm.Cond.fieldLink "Wakeground" (282 : Nat) "Wakeground$Claim" "tilt" "I") ∈ lw_all := lw_g (lw_at lw_m4 46 rfl) rfl
theorem q802 : (Jvm.Cond.fieldLink "Wakeground" (283 : Nat) "Wakeground$Claim" "filed" "I") ∈ lw_all := lw_g (lw_at lw_m4 48 rfl) rfl
theorem q804 : (Jvm.Cond.fieldLink "Wakeground" (278 : Nat) "Wakeground$Claim" "amount" "I") ∈ lw_all := lw_g (lw_at lw_m4 50 rfl) rfl
theorem q818 : (Jvm.Cond.instanceMethod ({ cls := "Wakeground", name := "cellOf", desc := "(II)I" } : Jvm.MethodName)) ∈ lw_all := lw_g (lw_at lw_m4 64 rfl) rfl
theorem q819 : (Jvm.Cond.selects "Wakeground" ({ cls := "Wakeground", name := "cellOf", desc := "(II)I" } : Jvm.MethodName) ({ cls := "Wakeground", name := "cellOf", desc := "(II)I" } : Jvm.MethodName)) ∈ lw_all := lw_g (lw_at lw_m4 65 rfl) rfl
theorem q820 : (Jvm.Cond.code ({ cls := "Wakeground", name := "cellOf", desc := "(II)I" } : Jvm.MethodName) prog_1_method_23_code (4 : Nat) (Option.some Jvm.ClassFile.FieldType.int)) ∈ lw_all := lw_g (lw_at lw_m4 66 rfl) rfl
theorem q821 : (Jvm.Cond.methodLink "Wakeground" (257 : Nat) ({ cls := "java/util/ArrayList", name := "indexOf", desc := "(Ljava/lang/Object;)I" } : Jvm.MethodName)) ∈ lw_all := lw_g (lw_at lw_m4 67 rfl) rfl
theorem q833 : (Jvm.Cond.selects "Wakeground" ({ cls := "java/lang/Object", name := "equals", desc := "(Ljava/lang/Object;)Z" } : Jvm.MethodName) ({ cls := "java/lang/Object", name := "equals", desc := "(Ljava/lang/Object;)Z" } : Jvm.MethodName)) ∈ lw_all := lw_g (lw_at lw_m4 79 rfl) rfl
theorem q859 : (Jvm.Cond.methodLink "Wakeground" (261 : Nat) ({ cls := "Wakeground$Cell", name := "thawed", desc := "()I" } : Jvm.MethodName)) ∈ lw_all := lw_g (lw_at lw_m4 105 rfl) rfl
theorem q868 : (Jvm.Cond.instanceMethod ({ cls := "Wakeground", name := "layerOf", desc := "(III)I" } : Jvm.MethodName)) ∈ lw_all := lw_g (lw_at lw_m4 114 rfl) rfl
theorem q869 : (Jvm.Cond.selects "Wakeground" ({ cls := "Wakeground", name := "layerOf", desc := "(III)I" } : Jvm.MethodName) ({ cls := "Wakeground", name := "layerOf", desc := "(III)I" } : Jvm.MethodName)) ∈ lw_all := lw_g (lw_at lw_m4 115 rfl) rfl
theorem q870 : (Jvm.Cond.code ({ cls := "Wakeground", name := "layerOf", desc := "(III)I" } : Jvm.MethodName) prog_1_method_24_code (5 : Nat) (Option.some Jvm.ClassFile.FieldType.int)) ∈ lw_all := lw_g (lw_at lw_m4 116 rfl) rfl
theorem q871 : (Jvm.Cond.methodLink "Wakeground" (264 : Nat) ({ cls := "Wakeground$Layer", name := "temperature", desc := "()I" } : Jvm.MethodName)) ∈ lw_all := lw_g (lw_at lw_m4 117 rfl) rfl
theorem q872 : (Jvm.Cond.methodLink "Wakeground" (266 : Nat) ({ cls := "Wakeground$Layer", name := "melted", desc := "()I" } : Jvm.MethodName)) ∈ lw_all := lw_g (lw_at lw_m4 118 rfl) rfl
theorem q877 : (Jvm.Cond.instanceMethod ({ cls := "Wakeground", name := "neighbour", desc := "(II)I" } : Jvm.MethodName)) ∈ lw_all := lw_g (lw_at lw_m4 123 rfl) rfl
theorem q878 : (Jvm.Cond.selects "Wakeground" ({ cls := "Wakeground", name := "neighbour", desc := "(II)I" } : Jvm.MethodName) ({ cls := "Wakeground", name := "neighbour", desc := "(II)I" } : Jvm.MethodName)) ∈ lw_all := lw_g (lw_at lw_m4 124 rfl) rfl
theorem q879 : (Jvm.Cond.code ({ cls := "Wakeground", name := "neighbour", desc := "(II)I" } : Jvm.MethodName) prog_1_method_25_code (6 : Nat) (Option.some Jvm.ClassFile.FieldType.int)) ∈ lw_all := lw_g (lw_at lw_m4 125 rfl) rfl
theorem q884 : (Jvm.Cond.instanceMethod ({ cls := "Wakeground", name := "houseOf", desc := "(II)I" } : Jvm.MethodName)) ∈ lw_all := lw_g (lw_at lw_m4 130 rfl) rfl
theorem q885 : (Jvm.Cond.selects "Wakeground" ({ cls := "Wakeground", name := "houseOf", desc := "(II)I" } : Jvm.MethodName) ({ cls := "Wakeground", name := "houseOf", desc := "(II)I" } : Jvm.MethodName)) ∈ lw_all := lw_g (lw_at lw_m4 131 rfl) rfl
theorem q886 : (Jvm.Cond.code ({ cls := "Wakeground", name := "houseOf", desc := "(II)I" } : Jvm.MethodName) prog_1_method_27_code (4 : Nat) (Option.some Jvm.ClassFile.FieldType.int)) ∈ lw_all := lw_g (lw_at lw_m4 132 rfl) rfl
theorem q887 : (Jvm.Cond.methodLink "Wakeground" (269 : Nat) ({ cls := "Wakeground$House", name := "cell", desc := "()LWakeground$Cell;" } : Jvm.MethodName)) ∈ lw_all := lw_g (lw_at lw_m4 133 rfl) rfl
theorem q892 : (Jvm.Cond.instanceMethod ({ cls := "Wakeground", name := "reading", desc := "(III)I" } : Jvm.MethodName)) ∈ lw_all := lw_g (lw_at lw_m4 138 rfl) rfl
theorem q893 : (Jvm.Cond.selects "Wakeground" ({ cls := "Wakeground", name := "reading", desc := "(III)I" } : Jvm.MethodName) ({ cls := "Wakeground", name := "reading", desc := "(III)I" } : Jvm.MethodName)) ∈ lw_all := lw_g (lw_at lw_m4 139 rfl) rfl
theorem q894 : (Jvm.Cond.code ({ cls := "Wakeground", name := "reading", desc := "(III)I" } : Jvm.MethodName) prog_1_method_28_code (5 : Nat) (Option.some Jvm.ClassFile.FieldType.int)) ∈ lw_all := lw_g (lw_at lw_m4 140 rfl) rfl
theorem q899 : (Jvm.Cond.instanceMethod ({ cls := "Wakeground", name := "claimOf", desc := "(I)I" } : Jvm.MethodName)) ∈ lw_all := lw_g (lw_at lw_m4 145 rfl) rfl
theorem q900 : (Jvm.Cond.selects "Wakeground" ({ cls := "Wakeground", name := "claimOf", desc := "(I)I" } : Jvm.MethodName) ({ cls := "Wakeground", name := "claimOf", desc := "(I)I" } : Jvm.MethodName)) ∈ lw_all := lw_g (lw_at lw_m4 146 rfl) rfl
theorem q901 : (Jvm.Cond.code ({ cls := "Wakeground", name := "claimOf", desc := "(I)I" } : Jvm.MethodName) prog_1_method_30_code (2 : Nat) (Option.some Jvm.ClassFile.FieldType.int)) ∈ lw_all := lw_g (lw_at lw_m4 147 rfl) rfl
theorem q902 : (Jvm.Cond.methodLink "Wakeground" (274 : Nat) ({ cls := "Wakeground", name := "claimAt", desc := "(I)LWakeground$Claim;" } : Jvm.MethodName)) ∈ lw_all := lw_g (lw_at lw_m4 148 rfl) rfl
theorem q903 : (Jvm.Cond.privateMethod ({ cls := "Wakeground", name := "claimAt", desc := "(I)LWakeground$Claim;" } : Jvm.MethodName)) ∈ lw_tbl := lw_at lw_m4 149 rfl
theorem q904 : (Jvm.Cond.instanceMethod ({ cls := "Wakeground", name := "claimAt", desc := "(I)LWakeground$Claim;" } : Jvm.MethodName)) ∈ lw_all := lw_g (lw_at lw_m4 150 rfl) rfl
theorem q905 : (Jvm.Cond.code ({ cls := "Wakeground", name := "claimAt", desc := "(I)LWakeground$Claim;" } : Jvm.MethodName) prog_1_method_29_code (2 : Nat) (Option.some (Jvm.ClassFile.FieldType.object "Wakeground$Claim"))) ∈ lw_all := lw_g (lw_at lw_m4 151 rfl) rfl
theorem q910 : (Jvm.Cond.instanceMethod ({ cls := "Wakeground", name := "claimAnew", desc := "(I)I" } : Jvm.MethodName)) ∈ lw_all := lw_g (lw_at lw_m4 156 rfl) rfl
theorem q911 : (Jvm.Cond.selects "Wakeground" ({ cls := "Wakeground", name := "claimAnew", desc := "(I)I" } : Jvm.MethodName) ({ cls := "Wakeground", name := "claimAnew", desc := "(I)I" } : Jvm.MethodName)) ∈ lw_all := lw_g (lw_at lw_m4 157 rfl) rfl
theorem q912 : (Jvm.Cond.code ({ cls := "Wakeground", name := "claimAnew", desc := "(I)I" } : Jvm.MethodName) prog_1_method_31_code (3 : Nat) (Option.some Jvm.ClassFile.FieldType.int)) ∈ lw_all := lw_g (lw_at lw_m4 158 rfl) rfl
theorem q917 : (Jvm.Cond.instanceMethod ({ cls := "Wakeground", name := "balance", desc := "(II)J" } : Jvm.MethodName)) ∈ lw_all := lw_g (lw_at lw_m4 163 rfl) rfl
theorem q918 : (Jvm.Cond.selects "Wakeground" ({ cls := "Wakeground", name := "balance", desc := "(II)J" } : Jvm.MethodName) ({ cls := "Wakeground", name := "balance", desc := "(II)J" } : Jvm.MethodName)) ∈ lw_all := lw_g (lw_at lw_m4 164 rfl) rfl
theorem q919 : (Jvm.Cond.code ({ cls := "Wakeground", name := "balance", desc := "(II)J" } : Jvm.MethodName) prog_1_method_33_code (5 : Nat) (Option.some Jvm.ClassFile.FieldType.long)) ∈ lw_all := lw_g (lw_at lw_m4 165 rfl) rfl
theorem q924 : (Jvm.Cond.instanceMethod ({ cls := "Wakeground", name := "air", desc := "(I)J" } : Jvm.MethodName)) ∈ lw_all := lw_g (lw_at lw_m4 170 rfl) rfl
theorem q925 : (Jvm.Cond.selects "Wakeground" ({ cls := "Wakeground", name := "air", desc := "(I)J" } : Jvm.MethodName) ({ cls := "Wakeground", name := "air", desc := "(I)J" } : Jvm.MethodName)) ∈ lw_all := lw_g (lw_at lw_m4 171 rfl) rfl
theorem q926 : (Jvm.Cond.code ({ cls := "Wakeground", name := "air", desc := "(I)J" } : Jvm.MethodName) prog_1_method_34_code (2 : Nat) (Option.some Jvm.ClassFile.FieldType.long)) ∈ lw_all := lw_g (lw_at lw_m4 172 rfl) rfl
theorem q1210 : (Jvm.Cond.castable "Wakeground" "java/lang/Object") ∈ lw_tbl := lw_at lw_m5 216 rfl
theorem in_X1 : ∀ w ∈ wsX10, w ∈ lw_all := lw_in wsX10 [190, 192, 194, 196, 198, 200, 202, 204, 206, 208] (by decide +kernel) (by decide +kernel)
