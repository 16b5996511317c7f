/-! WakegroundModel -/
set_option maxRecDepth 100000
def RX4 : String := "WakegroundModel"
def TX4 : u_T := fun k => match k with
  | 0 => ("WakegroundModel", "refusal", "I", false)
  | 1 => ("WakegroundModel", "month", "I", false)
  | 2 => ("WakegroundModel", "height", "[I", true)
  | 3 => ("WakegroundModel", "water", "[I", true)
  | 4 => ("WakegroundModel", "snow", "[I", true)
  | 5 => ("WakegroundModel", "moss", "[I", true)
  | 6 => ("WakegroundModel", "wedges", "[I", true)
  | 7 => ("WakegroundModel", "label", "[I", true)
  | 8 => ("WakegroundModel", "pore", "[I", true)
  | 9 => ("WakegroundModel", "excess", "[I", true)
  | 10 => ("WakegroundModel", "energy", "[I", true)
  | 11 => ("WakegroundModel", "carbon", "[I", true)
  | 12 => ("WakegroundModel", "degrees", "[I", true)
  | 13 => ("WakegroundModel", "houses", "I", false)
  | 14 => ("WakegroundModel", "houseCell", "[I", true)
  | 15 => ("WakegroundModel", "pile", "[I", true)
  | 16 => ("WakegroundModel", "isCooled", "[Z", true)
  | 17 => ("WakegroundModel", "tilt", "[I", true)
  | 18 => ("WakegroundModel", "built", "[I", true)
  | 19 => ("WakegroundModel", "holes", "I", false)
  | 20 => ("WakegroundModel", "holeCell", "[I", true)
  | 21 => ("WakegroundModel", "drift", "[I", true)
  | 22 => ("WakegroundModel", "sunk", "[I", true)
  | 23 => ("WakegroundModel", "read", "[I", true)
  | 24 => ("WakegroundModel", "claims", "I", false)
  | 25 => ("WakegroundModel", "claimed", "[I", true)
  | 26 => ("WakegroundModel", "heatIn", "J", false)
  | 27 => ("WakegroundModel", "waterIn", "J", false)
  | 28 => ("WakegroundModel", "carbonIn", "J", false)
  | 29 => ("WakegroundModel", "drained", "J", false)
  | 30 => ("WakegroundModel", "smoke", "J", false)
  | _ => ("WakegroundModel", "marsh", "J", false)
def tyX4 : Nat → FieldType := fun k => match k with
  | 0 => .int
  | 1 => .int
  | 2 => .array .int
  | 3 => .array .int
  | 4 => .array .int
  | 5 => .array .int
  | 6 => .array .int
  | 7 => .array .int
  | 8 => .array .int
  | 9 => .array .int
  | 10 => .array .int
  | 11 => .array .int
  | 12 => .array .int
  | 13 => .int
  | 14 => .array .int
  | 15 => .array .int
  | 16 => .array .boolean
  | 17 => .array .int
  | 18 => .array .int
  | 19 => .int
  | 20 => .array .int
  | 21 => .array .int
  | 22 => .array .int
  | 23 => .array .int
  | 24 => .int
  | 25 => .array .int
  | 26 => .long
  | 27 => .long
  | 28 => .long
  | 29 => .long
  | 30 => .long
  | _ => .long
abbrev wsX40 : List Cond := u_ws RX4 TX4 32
set_option maxRecDepth 100000 in
theorem nmX4 : ∀ a, a < 32 → ∀ b, b < 32 → a ≠ b → (TX4 a).2.1 ≠ (TX4 b).2.1 := by decide +kernel
set_option maxRecDepth 100000 in
theorem tyX4_ok : ∀ k, k < 32 → parseFieldDescriptor (TX4 k).2.2.1 = some (tyX4 k) := by decide +kernel
abbrev cX4_init : ByteArray := prog_10_method_1_code
def yX4_init : MethodName := ⟨RX4, "<init>", "()V"⟩
def dkwX4_init_12 : List UInt8 := [17, 1, 144, 79, 132, 2, 1, 167, 255, 187, 132, 1, 1, 167, 255, 158, 177]
abbrev dktX4_init_12 : List UInt8 := dkwX4_init_12 ++ []
def dkwX4_init_11 : List UInt8 := [160, 0, 7, 5, 167, 0, 4, 3, 79, 42, 180, 0, 34, 29, 17, 252, 24, 79, 42, 180, 0, 37, 29]
abbrev dktX4_init_11 : List UInt8 := dkwX4_init_11 ++ dktX4_init_12
def dkwX4_init_10 : List UInt8 := [8, 79, 42, 180, 0, 31, 29, 28, 5, 160, 0, 7, 6, 167, 0, 18, 28, 4, 159, 0, 8, 28, 6]
abbrev dktX4_init_10 : List UInt8 := dkwX4_init_10 ++ dktX4_init_11
def dkwX4_init_9 : List UInt8 := [180, 0, 19, 27, 5, 79, 3, 61, 28, 8, 162, 0, 70, 8, 27, 104, 28, 96, 62, 42, 180, 0, 28, 29]
abbrev dktX4_init_9 : List UInt8 := dkwX4_init_9 ++ dktX4_init_10
def dkwX4_init_8 : List UInt8 := [20, 0, 85, 181, 0, 87, 3, 60, 27, 16, 25, 162, 0, 98, 42, 180, 0, 7, 27, 16, 100, 79, 42]
abbrev dktX4_init_8 : List UInt8 := dkwX4_init_8 ++ dktX4_init_9
def dkwX4_init_7 : List UInt8 := [16, 40, 188, 10, 181, 0, 71, 42, 20, 0, 74, 181, 0, 76, 42, 20, 0, 80, 181, 0, 82, 42]
abbrev dktX4_init_7 : List UInt8 := dkwX4_init_7 ++ dktX4_init_8
def dkwX4_init_6 : List UInt8 := [188, 10, 181, 0, 62, 42, 16, 10, 188, 10, 181, 0, 65, 42, 17, 117, 48, 188, 10, 181, 0, 68, 42]
abbrev dktX4_init_6 : List UInt8 := dkwX4_init_6 ++ dktX4_init_7
def dkwX4_init_5 : List UInt8 := [188, 10, 181, 0, 53, 42, 16, 10, 188, 10, 181, 0, 56, 42, 16, 10, 188, 10, 181, 0, 59, 42, 16, 10]
abbrev dktX4_init_5 : List UInt8 := dkwX4_init_5 ++ dktX4_init_6
def dkwX4_init_4 : List UInt8 := [188, 10, 181, 0, 43, 42, 16, 10, 188, 10, 181, 0, 46, 42, 16, 10, 188, 4, 181, 0, 49, 42, 16, 10]
abbrev dktX4_init_4 : List UInt8 := dkwX4_init_4 ++ dktX4_init_5
def dkwX4_init_3 : List UInt8 := [188, 10, 181, 0, 34, 42, 16, 125, 188, 10, 181, 0, 37, 42, 16, 125, 188, 10, 181, 0, 40, 42, 16, 10]
abbrev dktX4_init_3 : List UInt8 := dkwX4_init_3 ++ dktX4_init_4
def dkwX4_init_2 : List UInt8 := [188, 10, 181, 0, 25, 42, 16, 125, 188, 10, 181, 0, 28, 42, 16, 125, 188, 10, 181, 0, 31, 42, 16, 125]
abbrev dktX4_init_2 : List UInt8 := dkwX4_init_2 ++ dktX4_init_3
def dkwX4_init_1 : List UInt8 := [188, 10, 181, 0, 16, 42, 16, 25, 188, 10, 181, 0, 19, 42, 16, 25, 188, 10, 181, 0, 22, 42, 16, 25]
abbrev dktX4_init_1 : List UInt8 := dkwX4_init_1 ++ dktX4_init_2
def dkwX4_init_0 : List UInt8 := [42, 183, 0, 1, 42, 16, 25, 188, 10, 181, 0, 7, 42, 16, 25, 188, 10, 181, 0, 13, 42, 16, 25]
abbrev dktX4_init_0 : List UInt8 := dkwX4_init_0 ++ dktX4_init_1
theorem dksX4_init_0 : cX4_init.data.toList.drop 0 = dktX4_init_0 := by decide +kernel
theorem dksX4_init_1 : cX4_init.data.toList.drop 23 = dktX4_init_1 := dk_seg dksX4_init_0 23 rfl rfl
theorem dksX4_init_2 : cX4_init.data.toList.drop 47 = dktX4_init_2 := dk_seg dksX4_init_1 24 rfl rfl
theorem dksX4_init_3 : cX4_init.data.toList.drop 71 = dktX4_init_3 := dk_seg dksX4_init_2 24 rfl rfl
theorem dksX4_init_4 : cX4_init.data.toList.drop 95 = dktX4_init_4 := dk_seg dksX4_init_3 24 rfl rfl
theorem dksX4_init_5 : cX4_init.data.toList.drop 119 = dktX4_init_5 := dk_seg dksX4_init_4 24 rfl rfl
theorem dksX4_init_6 : cX4_init.data.toList.drop 143 = dktX4_init_6 := dk_seg dksX4_init_5 24 rfl rfl
theorem dksX4_init_7 : cX4_init.data.toList.drop 166 = dktX4_init_7 := dk_seg dksX4_init_6 23 rfl rfl
theorem dksX4_init_8 : cX4_init.data.toList.drop 188 = dktX4_init_8 := dk_seg dksX4_init_7 22 rfl rfl
theorem dksX4_init_9 : cX4_init.data.toList.drop 211 = dktX4_init_9 := dk_seg dksX4_init_8 23 rfl rfl
theorem dksX4_init_10 : cX4_init.data.toList.drop 235 = dktX4_init_10 := dk_seg dksX4_init_9 24 rfl rfl
theorem dksX4_init_11 : cX4_init.data.toList.drop 258 = dktX4_init_11 := dk_seg dksX4_init_10 23 rfl rfl
theorem dksX4_init_12 : cX4_init.data.toList.drop 281 = dktX4_init_12 := dk_seg dksX4_init_11 23 rfl rfl
theorem dX4_init_0 : decode cX4_init 0 = .ok (.aload_n 0, 1) := dk_42 (dk_at dksX4_init_0 0 rfl rfl)
theorem dX4_init_1 : decode cX4_init 1 = .ok (.invokespecial 1, 3) := dk_183 0 1 (dk_at dksX4_init_0 1 rfl rfl)
theorem dX4_init_4 : decode cX4_init 4 = .ok (.aload_n 0, 1) := dk_42 (dk_at dksX4_init_0 4 rfl rfl)
theorem dX4_init_5 : decode cX4_init 5 = .ok (.bipush 25, 2) := dk_16 25 (dk_at dksX4_init_0 5 rfl rfl)
theorem dX4_init_7 : decode cX4_init 7 = .ok (.newarray .int, 2) := dk_188_10 (dk_at dksX4_init_0 7 rfl rfl)
theorem dX4_init_9 : decode cX4_init 9 = .ok (.putfield 7, 3) := dk_181 0 7 (dk_at dksX4_init_0 9 rfl rfl)
theorem dX4_init_12 : decode cX4_init 12 = .ok (.aload_n 0, 1) := dk_42 (dk_at dksX4_init_0 12 rfl rfl)
theorem dX4_init_13 : decode cX4_init 13 = .ok (.bipush 25, 2) := dk_16 25 (dk_at dksX4_init_0 13 rfl rfl)
theorem dX4_init_15 : decode cX4_init 15 = .ok (.newarray .int, 2) := dk_188_10 (dk_at dksX4_init_0 15 rfl rfl)
theorem dX4_init_17 : decode cX4_init 17 = .ok (.putfield 13, 3) := dk_181 0 13 (dk_at dksX4_init_0 17 rfl rfl)
theorem dX4_init_20 : decode cX4_init 20 = .ok (.aload_n 0, 1) := dk_42 (dk_at dksX4_init_0 20 rfl rfl)
theorem dX4_init_21 : decode cX4_init 21 = .ok (.bipush 25, 2) := dk_16 25 (dk_at dksX4_init_0 21 rfl rfl)
theorem dX4_init_23 : decode cX4_init 23 = .ok (.newarray .int, 2) := dk_188_10 (dk_at dksX4_init_1 0 rfl rfl)
theorem dX4_init_25 : decode cX4_init 25 = .ok (.putfield 16, 3) := dk_181 0 16 (dk_at dksX4_init_1 2 rfl rfl)
theorem dX4_init_28 : decode cX4_init 28 = .ok (.aload_n 0, 1) := dk_42 (dk_at dksX4_init_1 5 rfl rfl)
theorem dX4_init_29 : decode cX4_init 29 = .ok (.bipush 25, 2) := dk_16 25 (dk_at dksX4_init_1 6 rfl rfl)
theorem dX4_init_31 : decode cX4_init 31 = .ok (.newarray .int, 2) := dk_188_10 (dk_at dksX4_init_1 8 rfl rfl)
theorem dX4_init_33 : decode cX4_init 33 = .ok (.putfield 19, 3) := dk_181 0 19 (dk_at dksX4_init_1 10 rfl rfl)
theorem dX4_init_36 : decode cX4_init 36 = .ok (.aload_n 0, 1) := dk_42 (dk_at dksX4_init_1 13 rfl rfl)
theorem dX4_init_37 : decode cX4_init 37 = .ok (.bipush 25, 2) := dk_16 25 (dk_at dksX4_init_1 14 rfl rfl)
theorem dX4_init_39 : decode cX4_init 39 = .ok (.newarray .int, 2) := dk_188_10 (dk_at dksX4_init_1 16 rfl rfl)
theorem dX4_init_41 : decode cX4_init 41 = .ok (.putfield 22, 3) := dk_181 0 22 (dk_at dksX4_init_1 18 rfl rfl)
theorem dX4_init_44 : decode cX4_init 44 = .ok (.aload_n 0, 1) := dk_42 (dk_at dksX4_init_1 21 rfl rfl)
theorem dX4_init_45 : decode cX4_init 45 = .ok (.bipush 25, 2) := dk_16 25 (dk_at dksX4_init_1 22 rfl rfl)
theorem dX4_init_47 : decode cX4_init 47 = .ok (.newarray .int, 2) := dk_188_10 (dk_at dksX4_init_2 0 rfl rfl)
theorem dX4_init_49 : decode cX4_init 49 = .ok (.putfield 25, 3) := dk_181 0 25 (dk_at dksX4_init_2 2 rfl rfl)
theorem dX4_init_52 : decode cX4_init 52 = .ok (.aload_n 0, 1) := dk_42 (dk_at dksX4_init_2 5 rfl rfl)
theorem dX4_init_53 : decode cX4_init 53 = .ok (.bipush 125, 2) := dk_16 125 (dk_at dksX4_init_2 6 rfl rfl)
theorem dX4_init_55 : decode cX4_init 55 = .ok (.newarray .int, 2) := dk_188_10 (dk_at dksX4_init_2 8 rfl rfl)
theorem dX4_init_57 : decode cX4_init 57 = .ok (.putfield 28, 3) := dk_181 0 28 (dk_at dksX4_init_2 10 rfl rfl)
theorem dX4_init_60 : decode cX4_init 60 = .ok (.aload_n 0, 1) := dk_42 (dk_at dksX4_init_2 13 rfl rfl)
theorem dX4_init_61 : decode cX4_init 61 = .ok (.bipush 125, 2) := dk_16 125 (dk_at dksX4_init_2 14 rfl rfl)
theorem dX4_init_63 : decode cX4_init 63 = .ok (.newarray .int, 2) := dk_188_10 (dk_at dksX4_init_2 16 rfl rfl)
theorem dX4_init_65 : decode cX4_init 65 = .ok (.putfield 31, 3) := dk_181 0 31 (dk_at dksX4_init_2 18 rfl rfl)
theorem dX4_init_68 : decode cX4_init 68 = .ok (.aload_n 0, 1) := dk_42 (dk_at dksX4_init_2 21 rfl rfl)
theorem dX4_init_69 : decode cX4_init 69 = .ok (.bipush 125, 2) := dk_16 125 (dk_at dksX4_init_2 22 rfl rfl)
theorem dX4_init_71 : decode cX4_init 71 = .ok (.newarray .int, 2) := dk_188_10 (dk_at dksX4_init_3 0 rfl rfl)
theorem dX4_init_73 : decode cX4_init 73 = .ok (.putfield 34, 3) := dk_181 0 34 (dk_at dksX4_init_3 2 rfl rfl)
theorem dX4_init_76 : decode cX4_init 76 = .ok (.aload_n 0, 1) := dk_42 (dk_at dksX4_init_3 5 rfl rfl)
theorem dX4_init_77 : decode cX4_init 77 = .ok (.bipush 125, 2) := dk_16 125 (dk_at dksX4_init_3 6 rfl rfl)
theorem dX4_init_79 : decode cX4_init 79 = .ok (.newarray .int, 2) := dk_188_10 (dk_at dksX4_init_3 8 rfl rfl)
theorem dX4_init_81 : decode cX4_init 81 = .ok (.putfield 37, 3) := dk_181 0 37 (dk_at dksX4_init_3 10 rfl rfl)
theorem dX4_init_84 : decode cX4_init 84 = .ok (.aload_n 0, 1) := dk_42 (dk_at dksX4_init_3 13 rfl rfl)
theorem dX4_init_85 : decode cX4_init 85 = .ok (.bipush 125, 2) := dk_16 125 (dk_at dksX4_init_3 14 rfl rfl)
theorem dX4_init_87 : decode cX4_init 87 = .ok (.newarray .int, 2) := dk_188_10 (dk_at dksX4_init_3 16 rfl rfl)
theorem dX4_init_89 : decode cX4_init 89 = .ok (.putfield 40, 3) := dk_181 0 40 (dk_at dksX4_init_3 18 rfl rfl)
theorem dX4_init_92 : decode cX4_init 92 = .ok (.aload_n 0, 1) := dk_42 (dk_at dksX4_init_3 21 rfl rfl)
theorem dX4_init_93 : decode cX4_init 93 = .ok (.bipush 10, 2) := dk_16 10 (dk_at dksX4_init_3 22 rfl rfl)
theorem dX4_init_95 : decode cX4_init 95 = .ok (.newarray .int, 2) := dk_188_10 (dk_at dksX4_init_4 0 rfl rfl)
theorem dX4_init_97 : decode cX4_init 97 = .ok (.putfield 43, 3) := dk_181 0 43 (dk_at dksX4_init_4 2 rfl rfl)
theorem dX4_init_100 : decode cX4_init 100 = .ok (.aload_n 0, 1) := dk_42 (dk_at dksX4_init_4 5 rfl rfl)
theorem dX4_init_101 : decode cX4_init 101 = .ok (.bipush 10, 2) := dk_16 10 (dk_at dksX4_init_4 6 rfl rfl)
theorem dX4_init_103 : decode cX4_init 103 = .ok (.newarray .int, 2) := dk_188_10 (dk_at dksX4_init_4 8 rfl rfl)
theorem dX4_init_105 : decode cX4_init 105 = .ok (.putfield 46, 3) := dk_181 0 46 (dk_at dksX4_init_4 10 rfl rfl)
theorem dX4_init_108 : decode cX4_init 108 = .ok (.aload_n 0, 1) := dk_42 (dk_at dksX4_init_4 13 rfl rfl)
theorem dX4_init_109 : decode cX4_init 109 = .ok (.bipush 10, 2) := dk_16 10 (dk_at dksX4_init_4 14 rfl rfl)
theorem dX4_init_111 : decode cX4_init 111 = .ok (.newarray .boolean, 2) := dk_188_4 (dk_at dksX4_init_4 16 rfl rfl)
theorem dX4_init_113 : decode cX4_init 113 = .ok (.putfield 49, 3) := dk_181 0 49 (dk_at dksX4_init_4 18 rfl rfl)
theorem dX4_init_116 : decode cX4_init 116 = .ok (.aload_n 0, 1) := dk_42 (dk_at dksX4_init_4 21 rfl rfl)
theorem dX4_init_117 : decode cX4_init 117 = .ok (.bipush 10, 2) := dk_16 10 (dk_at dksX4_init_4 22 rfl rfl)
theorem dX4_init_119 : decode cX4_init 119 = .ok (.newarray .int, 2) := dk_188_10 (dk_at dksX4_init_5 0 rfl rfl)
theorem dX4_init_121 : decode cX4_init 121 = .ok (.putfield 53, 3) := dk_181 0 53 (dk_at dksX4_init_5 2 rfl rfl)
theorem dX4_init_124 : decode cX4_init 124 = .ok (.aload_n 0, 1) := dk_42 (dk_at dksX4_init_5 5 rfl rfl)
theorem dX4_init_125 : decode cX4_init 125 = .ok (.bipush 10, 2) := dk_16 10 (dk_at dksX4_init_5 6 rfl rfl)
theorem dX4_init_127 : decode cX4_init 127 = .ok (.newarray .int, 2) := dk_188_10 (dk_at dksX4_init_5 8 rfl rfl)
theorem dX4_init_129 : decode cX4_init 129 = .ok (.putfield 56, 3) := dk_181 0 56 (dk_at dksX4_init_5 10 rfl rfl)
theorem dX4_init_132 : decode cX4_init 132 = .ok (.aload_n 0, 1) := dk_42 (dk_at dksX4_init_5 13 rfl rfl)
theorem dX4_init_133 : decode cX4_init 133 = .ok (.bipush 10, 2) := dk_16 10 (dk_at dksX4_init_5 14 rfl rfl)
theorem dX4_init_135 : decode cX4_init 135 = .ok (.newarray .int, 2) := dk_188_10 (dk_at dksX4_init_5 16 rfl rfl)
theorem dX4_init_137 : decode cX4_init 137 = .ok (.putfield 59, 3) := dk_181 0 59 (dk_at dksX4_init_5 18 rfl rfl)
theorem dX4_init_140 : decode cX4_init 140 = .ok (.aload_n 0, 1) := dk_42 (dk_at dksX4_init_5 21 rfl rfl)
theorem dX4_init_141 : decode cX4_init 141 = .ok (.bipush 10, 2) := dk_16 10 (dk_at dksX4_init_5 22 rfl rfl)
theorem dX4_init_143 : decode cX4_init 143 = .ok (.newarray .int, 2) := dk_188_10 (dk_at dksX4_init_6 0 rfl rfl)
theorem dX4_init_145 : decode cX4_init 145 = .ok (.putfield 62, 3) := dk_181 0 62 (dk_at dksX4_init_6 2 rfl rfl)
theorem dX4_init_148 : decode cX4_init 148 = .ok (.aload_n 0, 1) := dk_42 (dk_at dksX4_init_6 5 rfl rfl)
theorem dX4_init_149 : decode cX4_init 149 = .ok (.bipush 10, 2) := dk_16 10 (dk_at dksX4_init_6 6 rfl rfl)
theorem dX4_init_151 : decode cX4_init 151 = .ok (.newarray .int, 2) := dk_188_10 (dk_at dksX4_init_6 8 rfl rfl)
theorem dX4_init_153 : decode cX4_init 153 = .ok (.putfield 65, 3) := dk_181 0 65 (dk_at dksX4_init_6 10 rfl rfl)
theorem dX4_init_156 : decode cX4_init 156 = .ok (.aload_n 0, 1) := dk_42 (dk_at dksX4_init_6 13 rfl rfl)
theorem dX4_init_157 : decode cX4_init 157 = .ok (.sipush 30000, 3) := dk_17 117 48 (dk_at dksX4_init_6 14 rfl rfl)
theorem dX4_init_160 : decode cX4_init 160 = .ok (.newarray .int, 2) := dk_188_10 (dk_at dksX4_init_6 17 rfl rfl)
theorem dX4_init_162 : decode cX4_init 162 = .ok (.putfield 68, 3) := dk_181 0 68 (dk_at dksX4_init_6 19 rfl rfl)
theorem dX4_init_165 : decode cX4_init 165 = .ok (.aload_n 0, 1) := dk_42 (dk_at dksX4_init_6 22 rfl rfl)
theorem dX4_init_166 : decode cX4_init 166 = .ok (.bipush 40, 2) := dk_16 40 (dk_at dksX4_init_7 0 rfl rfl)
theorem dX4_init_168 : decode cX4_init 168 = .ok (.newarray .int, 2) := dk_188_10 (dk_at dksX4_init_7 2 rfl rfl)
theorem dX4_init_170 : decode cX4_init 170 = .ok (.putfield 71, 3) := dk_181 0 71 (dk_at dksX4_init_7 4 rfl rfl)
theorem dX4_init_173 : decode cX4_init 173 = .ok (.aload_n 0, 1) := dk_42 (dk_at dksX4_init_7 7 rfl rfl)
theorem dX4_init_174 : decode cX4_init 174 = .ok (.ldc2_w 74, 3) := dk_20 0 74 (dk_at dksX4_init_7 8 rfl rfl)
theorem dX4_init_177 : decode cX4_init 177 = .ok (.putfield 76, 3) := dk_181 0 76 (dk_at dksX4_init_7 11 rfl rfl)
theorem dX4_init_180 : decode cX4_init 180 = .ok (.aload_n 0, 1) := dk_42 (dk_at dksX4_init_7 14 rfl rfl)
theorem dX4_init_181 : decode cX4_init 181 = .ok (.ldc2_w 80, 3) := dk_20 0 80 (dk_at dksX4_init_7 15 rfl rfl)
theorem dX4_init_184 : decode cX4_init 184 = .ok (.putfield 82, 3) := dk_181 0 82 (dk_at dksX4_init_7 18 rfl rfl)
theorem dX4_init_187 : decode cX4_init 187 = .ok (.aload_n 0, 1) := dk_42 (dk_at dksX4_init_7 21 rfl rfl)
theorem dX4_init_188 : decode cX4_init 188 = .ok (.ldc2_w 85, 3) := dk_20 0 85 (dk_at dksX4_init_8 0 rfl rfl)
theorem dX4_init_191 : decode cX4_init 191 = .ok (.putfield 87, 3) := dk_181 0 87 (dk_at dksX4_init_8 3 rfl rfl)
theorem dX4_init_194 : decode cX4_init 194 = .ok (.iconst 0, 1) := dk_3 (dk_at dksX4_init_8 6 rfl rfl)
theorem dX4_init_195 : decode cX4_init 195 = .ok (.istore_n 1, 1) := dk_60 (dk_at dksX4_init_8 7 rfl rfl)
theorem dX4_init_196 : decode cX4_init 196 = .ok (.iload_n 1, 1) := dk_27 (dk_at dksX4_init_8 8 rfl rfl)
theorem dX4_init_197 : decode cX4_init 197 = .ok (.bipush 25, 2) := dk_16 25 (dk_at dksX4_init_8 9 rfl rfl)
theorem dX4_init_199 : decode cX4_init 199 = .ok (.if_icmp .ge 98, 3) := dk_162 0 98 (dk_at dksX4_init_8 11 rfl rfl)
theorem dX4_init_202 : decode cX4_init 202 = .ok (.aload_n 0, 1) := dk_42 (dk_at dksX4_init_8 14 rfl rfl)
theorem dX4_init_203 : decode cX4_init 203 = .ok (.getfield 7, 3) := dk_180 0 7 (dk_at dksX4_init_8 15 rfl rfl)
theorem dX4_init_206 : decode cX4_init 206 = .ok (.iload_n 1, 1) := dk_27 (dk_at dksX4_init_8 18 rfl rfl)
theorem dX4_init_207 : decode cX4_init 207 = .ok (.bipush 100, 2) := dk_16 100 (dk_at dksX4_init_8 19 rfl rfl)
theorem dX4_init_209 : decode cX4_init 209 = .ok (.iastore, 1) := dk_79 (dk_at dksX4_init_8 21 rfl rfl)
theorem dX4_init_210 : decode cX4_init 210 = .ok (.aload_n 0, 1) := dk_42 (dk_at dksX4_init_8 22 rfl rfl)
theorem dX4_init_211 : decode cX4_init 211 = .ok (.getfield 19, 3) := dk_180 0 19 (dk_at dksX4_init_9 0 rfl rfl)
theorem dX4_init_214 : decode cX4_init 214 = .ok (.iload_n 1, 1) := dk_27 (dk_at dksX4_init_9 3 rfl rfl)
theorem dX4_init_215 : decode cX4_init 215 = .ok (.iconst 2, 1) := dk_5 (dk_at dksX4_init_9 4 rfl rfl)
theorem dX4_init_216 : decode cX4_init 216 = .ok (.iastore, 1) := dk_79 (dk_at dksX4_init_9 5 rfl rfl)
theorem dX4_init_217 : decode cX4_init 217 = .ok (.iconst 0, 1) := dk_3 (dk_at dksX4_init_9 6 rfl rfl)
theorem dX4_init_218 : decode cX4_init 218 = .ok (.istore_n 2, 1) := dk_61 (dk_at dksX4_init_9 7 rfl rfl)
theorem dX4_init_219 : decode cX4_init 219 = .ok (.iload_n 2, 1) := dk_28 (dk_at dksX4_init_9 8 rfl rfl)
theorem dX4_init_220 : decode cX4_init 220 = .ok (.iconst 5, 1) := dk_8 (dk_at dksX4_init_9 9 rfl rfl)
theorem dX4_init_221 : decode cX4_init 221 = .ok (.if_icmp .ge 70, 3) := dk_162 0 70 (dk_at dksX4_init_9 10 rfl rfl)
theorem dX4_init_224 : decode cX4_init 224 = .ok (.iconst 5, 1) := dk_8 (dk_at dksX4_init_9 13 rfl rfl)
theorem dX4_init_225 : decode cX4_init 225 = .ok (.iload_n 1, 1) := dk_27 (dk_at dksX4_init_9 14 rfl rfl)
theorem dX4_init_226 : decode cX4_init 226 = .ok (.imul, 1) := dk_104 (dk_at dksX4_init_9 15 rfl rfl)
theorem dX4_init_227 : decode cX4_init 227 = .ok (.iload_n 2, 1) := dk_28 (dk_at dksX4_init_9 16 rfl rfl)
theorem dX4_init_228 : decode cX4_init 228 = .ok (.iadd, 1) := dk_96 (dk_at dksX4_init_9 17 rfl rfl)
theorem dX4_init_229 : decode cX4_init 229 = .ok (.istore_n 3, 1) := dk_62 (dk_at dksX4_init_9 18 rfl rfl)
theorem dX4_init_230 : decode cX4_init 230 = .ok (.aload_n 0, 1) := dk_42 (dk_at dksX4_init_9 19 rfl rfl)
theorem dX4_init_231 : decode cX4_init 231 = .ok (.getfield 28, 3) := dk_180 0 28 (dk_at dksX4_init_9 20 rfl rfl)
theorem dX4_init_234 : decode cX4_init 234 = .ok (.iload_n 3, 1) := dk_29 (dk_at dksX4_init_9 23 rfl rfl)
theorem dX4_init_235 : decode cX4_init 235 = .ok (.iconst 5, 1) := dk_8 (dk_at dksX4_init_10 0 rfl rfl)
theorem dX4_init_236 : decode cX4_init 236 = .ok (.iastore, 1) := dk_79 (dk_at dksX4_init_10 1 rfl rfl)
theorem dX4_init_237 : decode cX4_init 237 = .ok (.aload_n 0, 1) := dk_42 (dk_at dksX4_init_10 2 rfl rfl)
theorem dX4_init_238 : decode cX4_init 238 = .ok (.getfield 31, 3) := dk_180 0 31 (dk_at dksX4_init_10 3 rfl rfl)
theorem dX4_init_241 : decode cX4_init 241 = .ok (.iload_n 3, 1) := dk_29 (dk_at dksX4_init_10 6 rfl rfl)
theorem dX4_init_242 : decode cX4_init 242 = .ok (.iload_n 2, 1) := dk_28 (dk_at dksX4_init_10 7 rfl rfl)
theorem dX4_init_243 : decode cX4_init 243 = .ok (.iconst 2, 1) := dk_5 (dk_at dksX4_init_10 8 rfl rfl)
theorem dX4_init_244 : decode cX4_init 244 = .ok (.if_icmp .ne 7, 3) := dk_160 0 7 (dk_at dksX4_init_10 9 rfl rfl)
theorem dX4_init_247 : decode cX4_init 247 = .ok (.iconst 3, 1) := dk_6 (dk_at dksX4_init_10 12 rfl rfl)
theorem dX4_init_248 : decode cX4_init 248 = .ok (.goto 18, 3) := dk_167 0 18 (dk_at dksX4_init_10 13 rfl rfl)
theorem dX4_init_251 : decode cX4_init 251 = .ok (.iload_n 2, 1) := dk_28 (dk_at dksX4_init_10 16 rfl rfl)
theorem dX4_init_252 : decode cX4_init 252 = .ok (.iconst 1, 1) := dk_4 (dk_at dksX4_init_10 17 rfl rfl)
theorem dX4_init_253 : decode cX4_init 253 = .ok (.if_icmp .eq 8, 3) := dk_159 0 8 (dk_at dksX4_init_10 18 rfl rfl)
theorem dX4_init_256 : decode cX4_init 256 = .ok (.iload_n 2, 1) := dk_28 (dk_at dksX4_init_10 21 rfl rfl)
theorem dX4_init_257 : decode cX4_init 257 = .ok (.iconst 3, 1) := dk_6 (dk_at dksX4_init_10 22 rfl rfl)
theorem dX4_init_258 : decode cX4_init 258 = .ok (.if_icmp .ne 7, 3) := dk_160 0 7 (dk_at dksX4_init_11 0 rfl rfl)
theorem dX4_init_261 : decode cX4_init 261 = .ok (.iconst 2, 1) := dk_5 (dk_at dksX4_init_11 3 rfl rfl)
theorem dX4_init_262 : decode cX4_init 262 = .ok (.goto 4, 3) := dk_167 0 4 (dk_at dksX4_init_11 4 rfl rfl)
theorem dX4_init_265 : decode cX4_init 265 = .ok (.iconst 0, 1) := dk_3 (dk_at dksX4_init_11 7 rfl rfl)
theorem dX4_init_266 : decode cX4_init 266 = .ok (.iastore, 1) := dk_79 (dk_at dksX4_init_11 8 rfl rfl)
theorem dX4_init_267 : decode cX4_init 267 = .ok (.aload_n 0, 1) := dk_42 (dk_at dksX4_init_11 9 rfl rfl)
theorem dX4_init_268 : decode cX4_init 268 = .ok (.getfield 34, 3) := dk_180 0 34 (dk_at dksX4_init_11 10 rfl rfl)
theorem dX4_init_271 : decode cX4_init 271 = .ok (.iload_n 3, 1) := dk_29 (dk_at dksX4_init_11 13 rfl rfl)
theorem dX4_init_272 : decode cX4_init 272 = .ok (.sipush (-1000), 3) := dk_17 252 24 (dk_at dksX4_init_11 14 rfl rfl)
theorem dX4_init_275 : decode cX4_init 275 = .ok (.iastore, 1) := dk_79 (dk_at dksX4_init_11 17 rfl rfl)
theorem dX4_init_276 : decode cX4_init 276 = .ok (.aload_n 0, 1) := dk_42 (dk_at dksX4_init_11 18 rfl rfl)
theorem dX4_init_277 : decode cX4_init 277 = .ok (.getfield 37, 3) := dk_180 0 37 (dk_at dksX4_init_11 19 rfl rfl)
theorem dX4_init_280 : decode cX4_init 280 = .ok (.iload_n 3, 1) := dk_29 (dk_at dksX4_init_11 22 rfl rfl)
theorem dX4_init_281 : decode cX4_init 281 = .ok (.sipush 400, 3) := dk_17 1 144 (dk_at dksX4_init_12 0 rfl rfl)
theorem dX4_init_284 : decode cX4_init 284 = .ok (.iastore, 1) := dk_79 (dk_at dksX4_init_12 3 rfl rfl)
theorem dX4_init_285 : decode cX4_init 285 = .ok (.iinc 2 1, 3) := dk_132 2 1 (dk_at dksX4_init_12 4 rfl rfl)
theorem dX4_init_288 : decode cX4_init 288 = .ok (.goto (-69), 3) := dk_167 255 187 (dk_at dksX4_init_12 7 rfl rfl)
theorem dX4_init_291 : decode cX4_init 291 = .ok (.iinc 1 1, 3) := dk_132 1 1 (dk_at dksX4_init_12 10 rfl rfl)
theorem dX4_init_294 : decode cX4_init 294 = .ok (.goto (-98), 3) := dk_167 255 158 (dk_at dksX4_init_12 13 rfl rfl)
theorem dX4_init_297 : decode cX4_init 297 = .ok (.return_, 1) := dk_177 (dk_at dksX4_init_12 16 rfl rfl)
abbrev cX4_thrown : ByteArray := prog_10_method_2_code
def yX4_thrown : MethodName := ⟨RX4, "thrown", "()I"⟩
theorem dX4_thrown_0 : decode cX4_thrown 0 = .ok (.aload_n 0, 1) := by decide +kernel
theorem dX4_thrown_1 : decode cX4_thrown 1 = .ok (.getfield 90, 3) := by decide +kernel
theorem dX4_thrown_4 : decode cX4_thrown 4 = .ok (.ireturn, 1) := by decide +kernel
abbrev cX4_ground : ByteArray := prog_10_method_12_code
def yX4_ground : MethodName := ⟨RX4, "ground", "(IIIIII)V"⟩
def dkwX4_ground_9 : List UInt8 := [21, 9, 21, 6, 79, 177]
abbrev dktX4_ground_9 : List UInt8 := dkwX4_ground_9 ++ []
def dkwX4_ground_8 : List UInt8 := [29, 79, 42, 180, 0, 31, 21, 9, 21, 4, 79, 42, 180, 0, 34, 21, 9, 21, 5, 79, 42, 180, 0, 37]
abbrev dktX4_ground_8 : List UInt8 := dkwX4_ground_8 ++ dktX4_ground_9
def dkwX4_ground_7 : List UInt8 := [180, 0, 87, 21, 6, 42, 180, 0, 37, 21, 9, 46, 100, 133, 97, 181, 0, 87, 42, 180, 0, 28, 21, 9]
abbrev dktX4_ground_7 : List UInt8 := dkwX4_ground_7 ++ dktX4_ground_8
def dkwX4_ground_6 : List UInt8 := [42, 180, 0, 28, 21, 9, 46, 100, 42, 180, 0, 31, 21, 9, 46, 100, 133, 97, 181, 0, 82, 42, 89]
abbrev dktX4_ground_6 : List UInt8 := dkwX4_ground_6 ++ dktX4_ground_7
def dkwX4_ground_5 : List UInt8 := [21, 5, 42, 180, 0, 34, 21, 9, 46, 100, 133, 97, 181, 0, 76, 42, 89, 180, 0, 82, 29, 21, 4, 96]
abbrev dktX4_ground_5 : List UInt8 := dkwX4_ground_5 ++ dktX4_ground_6
def dkwX4_ground_4 : List UInt8 := [167, 0, 4, 3, 182, 0, 106, 153, 0, 4, 177, 8, 27, 104, 28, 96, 54, 9, 42, 89, 180, 0, 76]
abbrev dktX4_ground_4 : List UInt8 := dkwX4_ground_4 ++ dktX4_ground_5
def dkwX4_ground_3 : List UInt8 := [4, 167, 0, 4, 3, 54, 8, 42, 21, 7, 154, 0, 7, 4, 167, 0, 13, 21, 8, 154, 0, 7, 5]
abbrev dktX4_ground_3 : List UInt8 := dkwX4_ground_3 ++ dktX4_ground_4
def dkwX4_ground_2 : List UInt8 := [17, 236, 120, 17, 117, 48, 184, 0, 94, 153, 0, 19, 21, 6, 3, 17, 3, 232, 184, 0, 94, 153, 0, 7]
abbrev dktX4_ground_2 : List UInt8 := dkwX4_ground_2 ++ dktX4_ground_3
def dkwX4_ground_1 : List UInt8 := [3, 16, 9, 184, 0, 94, 153, 0, 44, 21, 4, 3, 16, 9, 184, 0, 94, 153, 0, 33, 21, 5]
abbrev dktX4_ground_1 : List UInt8 := dkwX4_ground_1 ++ dktX4_ground_2
def dkwX4_ground_0 : List UInt8 := [27, 184, 0, 102, 153, 0, 16, 28, 3, 7, 184, 0, 94, 153, 0, 7, 4, 167, 0, 4, 3, 54, 7, 29]
abbrev dktX4_ground_0 : List UInt8 := dkwX4_ground_0 ++ dktX4_ground_1
theorem dksX4_ground_0 : cX4_ground.data.toList.drop 0 = dktX4_ground_0 := by decide +kernel
theorem dksX4_ground_1 : cX4_ground.data.toList.drop 24 = dktX4_ground_1 := dk_seg dksX4_ground_0 24 rfl rfl
theorem dksX4_ground_2 : cX4_ground.data.toList.drop 46 = dktX4_ground_2 := dk_seg dksX4_ground_1 22 rfl rfl
theorem dksX4_ground_3 : cX4_ground.data.toList.drop 70 = dktX4_ground_3 := dk_seg dksX4_ground_2 24 rfl rfl
theorem dksX4_ground_4 : cX4_ground.data.toList.drop 93 = dktX4_ground_4 := dk_seg dksX4_ground_3 23 rfl rfl
theorem dksX4_ground_5 : cX4_ground.data.toList.drop 116 = dktX4_ground_5 := dk_seg dksX4_ground_4 23 rfl rfl
theorem dksX4_ground_6 : cX4_ground.data.toList.drop 140 = dktX4_ground_6 := dk_seg dksX4_ground_5 24 rfl rfl
theorem dksX4_ground_7 : cX4_ground.data.toList.drop 163 = dktX4_ground_7 := dk_seg dksX4_ground_6 23 rfl rfl
theorem dksX4_ground_8 : cX4_ground.data.toList.drop 187 = dktX4_ground_8 := dk_seg dksX4_ground_7 24 rfl rfl
theorem dksX4_ground_9 : cX4_ground.data.toList.drop 211 = dktX4_ground_9 := dk_seg dksX4_ground_8 24 rfl rfl
theorem dX4_ground_0 : decode cX4_ground 0 = .ok (.iload_n 1, 1) := dk_27 (dk_at dksX4_ground_0 0 rfl rfl)
theorem dX4_ground_1 : decode cX4_ground 1 = .ok (.invokestatic 102, 3) := dk_184 0 102 (dk_at dksX4_ground_0 1 rfl rfl)
theorem dX4_ground_4 : decode cX4_ground 4 = .ok (.ifCond .eq 16, 3) := dk_153 0 16 (dk_at dksX4_ground_0 4 rfl rfl)
theorem dX4_ground_7 : decode cX4_ground 7 = .ok (.iload_n 2, 1) := dk_28 (dk_at dksX4_ground_0 7 rfl rfl)
theorem dX4_ground_8 : decode cX4_ground 8 = .ok (.iconst 0, 1) := dk_3 (dk_at dksX4_ground_0 8 rfl rfl)
theorem dX4_ground_9 : decode cX4_ground 9 = .ok (.iconst 4, 1) := dk_7 (dk_at dksX4_ground_0 9 rfl rfl)
theorem dX4_ground_10 : decode cX4_ground 10 = .ok (.invokestatic 94, 3) := dk_184 0 94 (dk_at dksX4_ground_0 10 rfl rfl)
theorem dX4_ground_13 : decode cX4_ground 13 = .ok (.ifCond .eq 7, 3) := dk_153 0 7 (dk_at dksX4_ground_0 13 rfl rfl)
theorem dX4_ground_16 : decode cX4_ground 16 = .ok (.iconst 1, 1) := dk_4 (dk_at dksX4_ground_0 16 rfl rfl)
theorem dX4_ground_17 : decode cX4_ground 17 = .ok (.goto 4, 3) := dk_167 0 4 (dk_at dksX4_ground_0 17 rfl rfl)
theorem dX4_ground_20 : decode cX4_ground 20 = .ok (.iconst 0, 1) := dk_3 (dk_at dksX4_ground_0 20 rfl rfl)
theorem dX4_ground_21 : decode cX4_ground 21 = .ok (.istore 7, 2) := dk_54 7 (dk_at dksX4_ground_0 21 rfl rfl)
theorem dX4_ground_23 : decode cX4_ground 23 = .ok (.iload_n 3, 1) := dk_29 (dk_at dksX4_ground_0 23 rfl rfl)
theorem dX4_ground_24 : decode cX4_ground 24 = .ok (.iconst 0, 1) := dk_3 (dk_at dksX4_ground_1 0 rfl rfl)
theorem dX4_ground_25 : decode cX4_ground 25 = .ok (.bipush 9, 2) := dk_16 9 (dk_at dksX4_ground_1 1 rfl rfl)
theorem dX4_ground_27 : decode cX4_ground 27 = .ok (.invokestatic 94, 3) := dk_184 0 94 (dk_at dksX4_ground_1 3 rfl rfl)
theorem dX4_ground_30 : decode cX4_ground 30 = .ok (.ifCond .eq 44, 3) := dk_153 0 44 (dk_at dksX4_ground_1 6 rfl rfl)
theorem dX4_ground_33 : decode cX4_ground 33 = .ok (.iload 4, 2) := dk_21 4 (dk_at dksX4_ground_1 9 rfl rfl)
theorem dX4_ground_35 : decode cX4_ground 35 = .ok (.iconst 0, 1) := dk_3 (dk_at dksX4_ground_1 11 rfl rfl)
theorem dX4_ground_36 : decode cX4_ground 36 = .ok (.bipush 9, 2) := dk_16 9 (dk_at dksX4_ground_1 12 rfl rfl)
theorem dX4_ground_38 : decode cX4_ground 38 = .ok (.invokestatic 94, 3) := dk_184 0 94 (dk_at dksX4_ground_1 14 rfl rfl)
theorem dX4_ground_41 : decode cX4_ground 41 = .ok (.ifCond .eq 33, 3) := dk_153 0 33 (dk_at dksX4_ground_1 17 rfl rfl)
theorem dX4_ground_44 : decode cX4_ground 44 = .ok (.iload 5, 2) := dk_21 5 (dk_at dksX4_ground_1 20 rfl rfl)
theorem dX4_ground_46 : decode cX4_ground 46 = .ok (.sipush (-5000), 3) := dk_17 236 120 (dk_at dksX4_ground_2 0 rfl rfl)
theorem dX4_ground_49 : decode cX4_ground 49 = .ok (.sipush 30000, 3) := dk_17 117 48 (dk_at dksX4_ground_2 3 rfl rfl)
theorem dX4_ground_52 : decode cX4_ground 52 = .ok (.invokestatic 94, 3) := dk_184 0 94 (dk_at dksX4_ground_2 6 rfl rfl)
theorem dX4_ground_55 : decode cX4_ground 55 = .ok (.ifCond .eq 19, 3) := dk_153 0 19 (dk_at dksX4_ground_2 9 rfl rfl)
theorem dX4_ground_58 : decode cX4_ground 58 = .ok (.iload 6, 2) := dk_21 6 (dk_at dksX4_ground_2 12 rfl rfl)
theorem dX4_ground_60 : decode cX4_ground 60 = .ok (.iconst 0, 1) := dk_3 (dk_at dksX4_ground_2 14 rfl rfl)
theorem dX4_ground_61 : decode cX4_ground 61 = .ok (.sipush 1000, 3) := dk_17 3 232 (dk_at dksX4_ground_2 15 rfl rfl)
theorem dX4_ground_64 : decode cX4_ground 64 = .ok (.invokestatic 94, 3) := dk_184 0 94 (dk_at dksX4_ground_2 18 rfl rfl)
theorem dX4_ground_67 : decode cX4_ground 67 = .ok (.ifCond .eq 7, 3) := dk_153 0 7 (dk_at dksX4_ground_2 21 rfl rfl)
theorem dX4_ground_70 : decode cX4_ground 70 = .ok (.iconst 1, 1) := dk_4 (dk_at dksX4_ground_3 0 rfl rfl)
theorem dX4_ground_71 : decode cX4_ground 71 = .ok (.goto 4, 3) := dk_167 0 4 (dk_at dksX4_ground_3 1 rfl rfl)
theorem dX4_ground_74 : decode cX4_ground 74 = .ok (.iconst 0, 1) := dk_3 (dk_at dksX4_ground_3 4 rfl rfl)
theorem dX4_ground_75 : decode cX4_ground 75 = .ok (.istore 8, 2) := dk_54 8 (dk_at dksX4_ground_3 5 rfl rfl)
theorem dX4_ground_77 : decode cX4_ground 77 = .ok (.aload_n 0, 1) := dk_42 (dk_at dksX4_ground_3 7 rfl rfl)
theorem dX4_ground_78 : decode cX4_ground 78 = .ok (.iload 7, 2) := dk_21 7 (dk_at dksX4_ground_3 8 rfl rfl)
theorem dX4_ground_80 : decode cX4_ground 80 = .ok (.ifCond .ne 7, 3) := dk_154 0 7 (dk_at dksX4_ground_3 10 rfl rfl)
theorem dX4_ground_83 : decode cX4_ground 83 = .ok (.iconst 1, 1) := dk_4 (dk_at dksX4_ground_3 13 rfl rfl)
theorem dX4_ground_84 : decode cX4_ground 84 = .ok (.goto 13, 3) := dk_167 0 13 (dk_at dksX4_ground_3 14 rfl rfl)
theorem dX4_ground_87 : decode cX4_ground 87 = .ok (.iload 8, 2) := dk_21 8 (dk_at dksX4_ground_3 17 rfl rfl)
theorem dX4_ground_89 : decode cX4_ground 89 = .ok (.ifCond .ne 7, 3) := dk_154 0 7 (dk_at dksX4_ground_3 19 rfl rfl)
theorem dX4_ground_92 : decode cX4_ground 92 = .ok (.iconst 2, 1) := dk_5 (dk_at dksX4_ground_3 22 rfl rfl)
theorem dX4_ground_93 : decode cX4_ground 93 = .ok (.goto 4, 3) := dk_167 0 4 (dk_at dksX4_ground_4 0 rfl rfl)
theorem dX4_ground_96 : decode cX4_ground 96 = .ok (.iconst 0, 1) := dk_3 (dk_at dksX4_ground_4 3 rfl rfl)
theorem dX4_ground_97 : decode cX4_ground 97 = .ok (.invokevirtual 106, 3) := dk_182 0 106 (dk_at dksX4_ground_4 4 rfl rfl)
theorem dX4_ground_100 : decode cX4_ground 100 = .ok (.ifCond .eq 4, 3) := dk_153 0 4 (dk_at dksX4_ground_4 7 rfl rfl)
theorem dX4_ground_103 : decode cX4_ground 103 = .ok (.return_, 1) := dk_177 (dk_at dksX4_ground_4 10 rfl rfl)
theorem dX4_ground_104 : decode cX4_ground 104 = .ok (.iconst 5, 1) := dk_8 (dk_at dksX4_ground_4 11 rfl rfl)
theorem dX4_ground_105 : decode cX4_ground 105 = .ok (.iload_n 1, 1) := dk_27 (dk_at dksX4_ground_4 12 rfl rfl)
theorem dX4_ground_106 : decode cX4_ground 106 = .ok (.imul, 1) := dk_104 (dk_at dksX4_ground_4 13 rfl rfl)
theorem dX4_ground_107 : decode cX4_ground 107 = .ok (.iload_n 2, 1) := dk_28 (dk_at dksX4_ground_4 14 rfl rfl)
theorem dX4_ground_108 : decode cX4_ground 108 = .ok (.iadd, 1) := dk_96 (dk_at dksX4_ground_4 15 rfl rfl)
theorem dX4_ground_109 : decode cX4_ground 109 = .ok (.istore 9, 2) := dk_54 9 (dk_at dksX4_ground_4 16 rfl rfl)
theorem dX4_ground_111 : decode cX4_ground 111 = .ok (.aload_n 0, 1) := dk_42 (dk_at dksX4_ground_4 18 rfl rfl)
theorem dX4_ground_112 : decode cX4_ground 112 = .ok (.dup, 1) := dk_89 (dk_at dksX4_ground_4 19 rfl rfl)
theorem dX4_ground_113 : decode cX4_ground 113 = .ok (.getfield 76, 3) := dk_180 0 76 (dk_at dksX4_ground_4 20 rfl rfl)
theorem dX4_ground_116 : decode cX4_ground 116 = .ok (.iload 5, 2) := dk_21 5 (dk_at dksX4_ground_5 0 rfl rfl)
theorem dX4_ground_118 : decode cX4_ground 118 = .ok (.aload_n 0, 1) := dk_42 (dk_at dksX4_ground_5 2 rfl rfl)
theorem dX4_ground_119 : decode cX4_ground 119 = .ok (.getfield 34, 3) := dk_180 0 34 (dk_at dksX4_ground_5 3 rfl rfl)
theorem dX4_ground_122 : decode cX4_ground 122 = .ok (.iload 9, 2) := dk_21 9 (dk_at dksX4_ground_5 6 rfl rfl)
theorem dX4_ground_124 : decode cX4_ground 124 = .ok (.iaload, 1) := dk_46 (dk_at dksX4_ground_5 8 rfl rfl)
theorem dX4_ground_125 : decode cX4_ground 125 = .ok (.isub, 1) := dk_100 (dk_at dksX4_ground_5 9 rfl rfl)
theorem dX4_ground_126 : decode cX4_ground 126 = .ok (.i2l, 1) := dk_133 (dk_at dksX4_ground_5 10 rfl rfl)
theorem dX4_ground_127 : decode cX4_ground 127 = .ok (.ladd, 1) := dk_97 (dk_at dksX4_ground_5 11 rfl rfl)
theorem dX4_ground_128 : decode cX4_ground 128 = .ok (.putfield 76, 3) := dk_181 0 76 (dk_at dksX4_ground_5 12 rfl rfl)
theorem dX4_ground_131 : decode cX4_ground 131 = .ok (.aload_n 0, 1) := dk_42 (dk_at dksX4_ground_5 15 rfl rfl)
theorem dX4_ground_132 : decode cX4_ground 132 = .ok (.dup, 1) := dk_89 (dk_at dksX4_ground_5 16 rfl rfl)
theorem dX4_ground_133 : decode cX4_ground 133 = .ok (.getfield 82, 3) := dk_180 0 82 (dk_at dksX4_ground_5 17 rfl rfl)
theorem dX4_ground_136 : decode cX4_ground 136 = .ok (.iload_n 3, 1) := dk_29 (dk_at dksX4_ground_5 20 rfl rfl)
theorem dX4_ground_137 : decode cX4_ground 137 = .ok (.iload 4, 2) := dk_21 4 (dk_at dksX4_ground_5 21 rfl rfl)
theorem dX4_ground_139 : decode cX4_ground 139 = .ok (.iadd, 1) := dk_96 (dk_at dksX4_ground_5 23 rfl rfl)
theorem dX4_ground_140 : decode cX4_ground 140 = .ok (.aload_n 0, 1) := dk_42 (dk_at dksX4_ground_6 0 rfl rfl)
theorem dX4_ground_141 : decode cX4_ground 141 = .ok (.getfield 28, 3) := dk_180 0 28 (dk_at dksX4_ground_6 1 rfl rfl)
theorem dX4_ground_144 : decode cX4_ground 144 = .ok (.iload 9, 2) := dk_21 9 (dk_at dksX4_ground_6 4 rfl rfl)
theorem dX4_ground_146 : decode cX4_ground 146 = .ok (.iaload, 1) := dk_46 (dk_at dksX4_ground_6 6 rfl rfl)
theorem dX4_ground_147 : decode cX4_ground 147 = .ok (.isub, 1) := dk_100 (dk_at dksX4_ground_6 7 rfl rfl)
theorem dX4_ground_148 : decode cX4_ground 148 = .ok (.aload_n 0, 1) := dk_42 (dk_at dksX4_ground_6 8 rfl rfl)
theorem dX4_ground_149 : decode cX4_ground 149 = .ok (.getfield 31, 3) := dk_180 0 31 (dk_at dksX4_ground_6 9 rfl rfl)
theorem dX4_ground_152 : decode cX4_ground 152 = .ok (.iload 9, 2) := dk_21 9 (dk_at dksX4_ground_6 12 rfl rfl)
theorem dX4_ground_154 : decode cX4_ground 154 = .ok (.iaload, 1) := dk_46 (dk_at dksX4_ground_6 14 rfl rfl)
theorem dX4_ground_155 : decode cX4_ground 155 = .ok (.isub, 1) := dk_100 (dk_at dksX4_ground_6 15 rfl rfl)
theorem dX4_ground_156 : decode cX4_ground 156 = .ok (.i2l, 1) := dk_133 (dk_at dksX4_ground_6 16 rfl rfl)
theorem dX4_ground_157 : decode cX4_ground 157 = .ok (.ladd, 1) := dk_97 (dk_at dksX4_ground_6 17 rfl rfl)
theorem dX4_ground_158 : decode cX4_ground 158 = .ok (.putfield 82, 3) := dk_181 0 82 (dk_at dksX4_ground_6 18 rfl rfl)
theorem dX4_ground_161 : decode cX4_ground 161 = .ok (.aload_n 0, 1) := dk_42 (dk_at dksX4_ground_6 21 rfl rfl)
theorem dX4_ground_162 : decode cX4_ground 162 = .ok (.dup, 1) := dk_89 (dk_at dksX4_ground_6 22 rfl rfl)
theorem dX4_ground_163 : decode cX4_ground 163 = .ok (.getfield 87, 3) := dk_180 0 87 (dk_at dksX4_ground_7 0 rfl rfl)
theorem dX4_ground_166 : decode cX4_ground 166 = .ok (.iload 6, 2) := dk_21 6 (dk_at dksX4_ground_7 3 rfl rfl)
theorem dX4_ground_168 : decode cX4_ground 168 = .ok (.aload_n 0, 1) := dk_42 (dk_at dksX4_ground_7 5 rfl rfl)
theorem dX4_ground_169 : decode cX4_ground 169 = .ok (.getfield 37, 3) := dk_180 0 37 (dk_at dksX4_ground_7 6 rfl rfl)
theorem dX4_ground_172 : decode cX4_ground 172 = .ok (.iload 9, 2) := dk_21 9 (dk_at dksX4_ground_7 9 rfl rfl)
theorem dX4_ground_174 : decode cX4_ground 174 = .ok (.iaload, 1) := dk_46 (dk_at dksX4_ground_7 11 rfl rfl)
theorem dX4_ground_175 : decode cX4_ground 175 = .ok (.isub, 1) := dk_100 (dk_at dksX4_ground_7 12 rfl rfl)
theorem dX4_ground_176 : decode cX4_ground 176 = .ok (.i2l, 1) := dk_133 (dk_at dksX4_ground_7 13 rfl rfl)
theorem dX4_ground_177 : decode cX4_ground 177 = .ok (.ladd, 1) := dk_97 (dk_at dksX4_ground_7 14 rfl rfl)
theorem dX4_ground_178 : decode cX4_ground 178 = .ok (.putfield 87, 3) := dk_181 0 87 (dk_at dksX4_ground_7 15 rfl rfl)
theorem dX4_ground_181 : decode cX4_ground 181 = .ok (.aload_n 0, 1) := dk_42 (dk_at dksX4_ground_7 18 rfl rfl)
theorem dX4_ground_182 : decode cX4_ground 182 = .ok (.getfield 28, 3) := dk_180 0 28 (dk_at dksX4_ground_7 19 rfl rfl)
theorem dX4_ground_185 : decode cX4_ground 185 = .ok (.iload 9, 2) := dk_21 9 (dk_at dksX4_ground_7 22 rfl rfl)
theorem dX4_ground_187 : decode cX4_ground 187 = .ok (.iload_n 3, 1) := dk_29 (dk_at dksX4_ground_8 0 rfl rfl)
theorem dX4_ground_188 : decode cX4_ground 188 = .ok (.iastore, 1) := dk_79 (dk_at dksX4_ground_8 1 rfl rfl)
theorem dX4_ground_189 : decode cX4_ground 189 = .ok (.aload_n 0, 1) := dk_42 (dk_at dksX4_ground_8 2 rfl rfl)
theorem dX4_ground_190 : decode cX4_ground 190 = .ok (.getfield 31, 3) := dk_180 0 31 (dk_at dksX4_ground_8 3 rfl rfl)
theorem dX4_ground_193 : decode cX4_ground 193 = .ok (.iload 9, 2) := dk_21 9 (dk_at dksX4_ground_8 6 rfl rfl)
theorem dX4_ground_195 : decode cX4_ground 195 = .ok (.iload 4, 2) := dk_21 4 (dk_at dksX4_ground_8 8 rfl rfl)
theorem dX4_ground_197 : decode cX4_ground 197 = .ok (.iastore, 1) := dk_79 (dk_at dksX4_ground_8 10 rfl rfl)
theorem dX4_ground_198 : decode cX4_ground 198 = .ok (.aload_n 0, 1) := dk_42 (dk_at dksX4_ground_8 11 rfl rfl)
theorem dX4_ground_199 : decode cX4_ground 199 = .ok (.getfield 34, 3) := dk_180 0 34 (dk_at dksX4_ground_8 12 rfl rfl)
theorem dX4_ground_202 : decode cX4_ground 202 = .ok (.iload 9, 2) := dk_21 9 (dk_at dksX4_ground_8 15 rfl rfl)
theorem dX4_ground_204 : decode cX4_ground 204 = .ok (.iload 5, 2) := dk_21 5 (dk_at dksX4_ground_8 17 rfl rfl)
theorem dX4_ground_206 : decode cX4_ground 206 = .ok (.iastore, 1) := dk_79 (dk_at dksX4_ground_8 19 rfl rfl)
theorem dX4_ground_207 : decode cX4_ground 207 = .ok (.aload_n 0, 1) := dk_42 (dk_at dksX4_ground_8 20 rfl rfl)
theorem dX4_ground_208 : decode cX4_ground 208 = .ok (.getfield 37, 3) := dk_180 0 37 (dk_at dksX4_ground_8 21 rfl rfl)
theorem dX4_ground_211 : decode cX4_ground 211 = .ok (.iload 9, 2) := dk_21 9 (dk_at dksX4_ground_9 0 rfl rfl)
theorem dX4_ground_213 : decode cX4_ground 213 = .ok (.iload 6, 2) := dk_21 6 (dk_at dksX4_ground_9 2 rfl rfl)
theorem dX4_ground_215 : decode cX4_ground 215 = .ok (.iastore, 1) := dk_79 (dk_at dksX4_ground_9 4 rfl rfl)
theorem dX4_ground_216 : decode cX4_ground 216 = .ok (.return_, 1) := dk_177 (dk_at dksX4_ground_9 5 rfl rfl)
abbrev cX4_isCell : ByteArray := prog_10_method_5_code
def yX4_isCell : MethodName := ⟨RX4, "isCell", "(I)Z"⟩
def dkwX4_isCell_0 : List UInt8 := [26, 3, 16, 24, 184, 0, 94, 172]
abbrev dktX4_isCell_0 : List UInt8 := dkwX4_isCell_0 ++ []
theorem dksX4_isCell_0 : cX4_isCell.data.toList.drop 0 = dktX4_isCell_0 := by decide +kernel
theorem dX4_isCell_0 : decode cX4_isCell 0 = .ok (.iload_n 0, 1) := dk_26 (dk_at dksX4_isCell_0 0 rfl rfl)
theorem dX4_isCell_1 : decode cX4_isCell 1 = .ok (.iconst 0, 1) := dk_3 (dk_at dksX4_isCell_0 1 rfl rfl)
theorem dX4_isCell_2 : decode cX4_isCell 2 = .ok (.bipush 24, 2) := dk_16 24 (dk_at dksX4_isCell_0 2 rfl rfl)
theorem dX4_isCell_4 : decode cX4_isCell 4 = .ok (.invokestatic 94, 3) := dk_184 0 94 (dk_at dksX4_isCell_0 4 rfl rfl)
theorem dX4_isCell_7 : decode cX4_isCell 7 = .ok (.ireturn, 1) := dk_172 (dk_at dksX4_isCell_0 7 rfl rfl)
abbrev cX4_within : ByteArray := prog_10_method_4_code
def yX4_within : MethodName := ⟨RX4, "within", "(III)Z"⟩
def dkwX4_within_0 : List UInt8 := [26, 27, 161, 0, 12, 26, 28, 163, 0, 7, 4, 167, 0, 4, 3, 172]
abbrev dktX4_within_0 : List UInt8 := dkwX4_within_0 ++ []
theorem dksX4_within_0 : cX4_within.data.toList.drop 0 = dktX4_within_0 := by decide +kernel
theorem dX4_within_0 : decode cX4_within 0 = .ok (.iload_n 0, 1) := dk_26 (dk_at dksX4_within_0 0 rfl rfl)
theorem dX4_within_1 : decode cX4_within 1 = .ok (.iload_n 1, 1) := dk_27 (dk_at dksX4_within_0 1 rfl rfl)
theorem dX4_within_2 : decode cX4_within 2 = .ok (.if_icmp .lt 12, 3) := dk_161 0 12 (dk_at dksX4_within_0 2 rfl rfl)
theorem dX4_within_5 : decode cX4_within 5 = .ok (.iload_n 0, 1) := dk_26 (dk_at dksX4_within_0 5 rfl rfl)
theorem dX4_within_6 : decode cX4_within 6 = .ok (.iload_n 2, 1) := dk_28 (dk_at dksX4_within_0 6 rfl rfl)
theorem dX4_within_7 : decode cX4_within 7 = .ok (.if_icmp .gt 7, 3) := dk_163 0 7 (dk_at dksX4_within_0 7 rfl rfl)
theorem dX4_within_10 : decode cX4_within 10 = .ok (.iconst 1, 1) := dk_4 (dk_at dksX4_within_0 10 rfl rfl)
theorem dX4_within_11 : decode cX4_within 11 = .ok (.goto 4, 3) := dk_167 0 4 (dk_at dksX4_within_0 11 rfl rfl)
theorem dX4_within_14 : decode cX4_within 14 = .ok (.iconst 0, 1) := dk_3 (dk_at dksX4_within_0 14 rfl rfl)
theorem dX4_within_15 : decode cX4_within 15 = .ok (.ireturn, 1) := dk_172 (dk_at dksX4_within_0 15 rfl rfl)
abbrev cX4_refused : ByteArray := prog_10_method_3_code
def yX4_refused : MethodName := ⟨RX4, "refused", "(I)Z"⟩
def dkwX4_refused_0 : List UInt8 := [42, 27, 181, 0, 90, 27, 153, 0, 7, 4, 167, 0, 4, 3, 172]
abbrev dktX4_refused_0 : List UInt8 := dkwX4_refused_0 ++ []
theorem dksX4_refused_0 : cX4_refused.data.toList.drop 0 = dktX4_refused_0 := by decide +kernel
theorem dX4_refused_0 : decode cX4_refused 0 = .ok (.aload_n 0, 1) := dk_42 (dk_at dksX4_refused_0 0 rfl rfl)
theorem dX4_refused_1 : decode cX4_refused 1 = .ok (.iload_n 1, 1) := dk_27 (dk_at dksX4_refused_0 1 rfl rfl)
theorem dX4_refused_2 : decode cX4_refused 2 = .ok (.putfield 90, 3) := dk_181 0 90 (dk_at dksX4_refused_0 2 rfl rfl)
theorem dX4_refused_5 : decode cX4_refused 5 = .ok (.iload_n 1, 1) := dk_27 (dk_at dksX4_refused_0 5 rfl rfl)
theorem dX4_refused_6 : decode cX4_refused 6 = .ok (.ifCond .eq 7, 3) := dk_153 0 7 (dk_at dksX4_refused_0 6 rfl rfl)
theorem dX4_refused_9 : decode cX4_refused 9 = .ok (.iconst 1, 1) := dk_4 (dk_at dksX4_refused_0 9 rfl rfl)
theorem dX4_refused_10 : decode cX4_refused 10 = .ok (.goto 4, 3) := dk_167 0 4 (dk_at dksX4_refused_0 10 rfl rfl)
theorem dX4_refused_13 : decode cX4_refused 13 = .ok (.iconst 0, 1) := dk_3 (dk_at dksX4_refused_0 13 rfl rfl)
theorem dX4_refused_14 : decode cX4_refused 14 = .ok (.ireturn, 1) := dk_172 (dk_at dksX4_refused_0 14 rfl rfl)
abbrev cX4_moss : ByteArray := prog_10_method_13_code
def yX4_moss : MethodName := ⟨RX4, "moss", "(II)I"⟩
def dkwX4_moss_2 : List UInt8 := [28, 79, 29, 172]
abbrev dktX4_moss_2 : List UInt8 := dkwX4_moss_2 ++ []
def dkwX4_moss_1 : List UInt8 := [167, 0, 4, 3, 182, 0, 106, 153, 0, 5, 3, 172, 42, 180, 0, 19, 27, 46, 62, 42, 180, 0, 19, 27]
abbrev dktX4_moss_1 : List UInt8 := dkwX4_moss_1 ++ dktX4_moss_2
def dkwX4_moss_0 : List UInt8 := [42, 27, 184, 0, 102, 154, 0, 7, 4, 167, 0, 17, 28, 3, 6, 184, 0, 94, 154, 0, 7, 5]
abbrev dktX4_moss_0 : List UInt8 := dkwX4_moss_0 ++ dktX4_moss_1
theorem dksX4_moss_0 : cX4_moss.data.toList.drop 0 = dktX4_moss_0 := by decide +kernel
theorem dksX4_moss_1 : cX4_moss.data.toList.drop 22 = dktX4_moss_1 := dk_seg dksX4_moss_0 22 rfl rfl
theorem dksX4_moss_2 : cX4_moss.data.toList.drop 46 = dktX4_moss_2 := dk_seg dksX4_moss_1 24 rfl rfl
theorem dX4_moss_0 : decode cX4_moss 0 = .ok (.aload_n 0, 1) := dk_42 (dk_at dksX4_moss_0 0 rfl rfl)
theorem dX4_moss_1 : decode cX4_moss 1 = .ok (.iload_n 1, 1) := dk_27 (dk_at dksX4_moss_0 1 rfl rfl)
theorem dX4_moss_2 : decode cX4_moss 2 = .ok (.invokestatic 102, 3) := dk_184 0 102 (dk_at dksX4_moss_0 2 rfl rfl)
theorem dX4_moss_5 : decode cX4_moss 5 = .ok (.ifCond .ne 7, 3) := dk_154 0 7 (dk_at dksX4_moss_0 5 rfl rfl)
theorem dX4_moss_8 : decode cX4_moss 8 = .ok (.iconst 1, 1) := dk_4 (dk_at dksX4_moss_0 8 rfl rfl)
theorem dX4_moss_9 : decode cX4_moss 9 = .ok (.goto 17, 3) := dk_167 0 17 (dk_at dksX4_moss_0 9 rfl rfl)
theorem dX4_moss_12 : decode cX4_moss 12 = .ok (.iload_n 2, 1) := dk_28 (dk_at dksX4_moss_0 12 rfl rfl)
theorem dX4_moss_13 : decode cX4_moss 13 = .ok (.iconst 0, 1) := dk_3 (dk_at dksX4_moss_0 13 rfl rfl)
theorem dX4_moss_14 : decode cX4_moss 14 = .ok (.iconst 3, 1) := dk_6 (dk_at dksX4_moss_0 14 rfl rfl)
theorem dX4_moss_15 : decode cX4_moss 15 = .ok (.invokestatic 94, 3) := dk_184 0 94 (dk_at dksX4_moss_0 15 rfl rfl)
theorem dX4_moss_18 : decode cX4_moss 18 = .ok (.ifCond .ne 7, 3) := dk_154 0 7 (dk_at dksX4_moss_0 18 rfl rfl)
theorem dX4_moss_21 : decode cX4_moss 21 = .ok (.iconst 2, 1) := dk_5 (dk_at dksX4_moss_0 21 rfl rfl)
theorem dX4_moss_22 : decode cX4_moss 22 = .ok (.goto 4, 3) := dk_167 0 4 (dk_at dksX4_moss_1 0 rfl rfl)
theorem dX4_moss_25 : decode cX4_moss 25 = .ok (.iconst 0, 1) := dk_3 (dk_at dksX4_moss_1 3 rfl rfl)
theorem dX4_moss_26 : decode cX4_moss 26 = .ok (.invokevirtual 106, 3) := dk_182 0 106 (dk_at dksX4_moss_1 4 rfl rfl)
theorem dX4_moss_29 : decode cX4_moss 29 = .ok (.ifCond .eq 5, 3) := dk_153 0 5 (dk_at dksX4_moss_1 7 rfl rfl)
theorem dX4_moss_32 : decode cX4_moss 32 = .ok (.iconst 0, 1) := dk_3 (dk_at dksX4_moss_1 10 rfl rfl)
theorem dX4_moss_33 : decode cX4_moss 33 = .ok (.ireturn, 1) := dk_172 (dk_at dksX4_moss_1 11 rfl rfl)
theorem dX4_moss_34 : decode cX4_moss 34 = .ok (.aload_n 0, 1) := dk_42 (dk_at dksX4_moss_1 12 rfl rfl)
theorem dX4_moss_35 : decode cX4_moss 35 = .ok (.getfield 19, 3) := dk_180 0 19 (dk_at dksX4_moss_1 13 rfl rfl)
theorem dX4_moss_38 : decode cX4_moss 38 = .ok (.iload_n 1, 1) := dk_27 (dk_at dksX4_moss_1 16 rfl rfl)
theorem dX4_moss_39 : decode cX4_moss 39 = .ok (.iaload, 1) := dk_46 (dk_at dksX4_moss_1 17 rfl rfl)
theorem dX4_moss_40 : decode cX4_moss 40 = .ok (.istore_n 3, 1) := dk_62 (dk_at dksX4_moss_1 18 rfl rfl)
theorem dX4_moss_41 : decode cX4_moss 41 = .ok (.aload_n 0, 1) := dk_42 (dk_at dksX4_moss_1 19 rfl rfl)
theorem dX4_moss_42 : decode cX4_moss 42 = .ok (.getfield 19, 3) := dk_180 0 19 (dk_at dksX4_moss_1 20 rfl rfl)
theorem dX4_moss_45 : decode cX4_moss 45 = .ok (.iload_n 1, 1) := dk_27 (dk_at dksX4_moss_1 23 rfl rfl)
theorem dX4_moss_46 : decode cX4_moss 46 = .ok (.iload_n 2, 1) := dk_28 (dk_at dksX4_moss_2 0 rfl rfl)
theorem dX4_moss_47 : decode cX4_moss 47 = .ok (.iastore, 1) := dk_79 (dk_at dksX4_moss_2 1 rfl rfl)
theorem dX4_moss_48 : decode cX4_moss 48 = .ok (.iload_n 3, 1) := dk_29 (dk_at dksX4_moss_2 2 rfl rfl)
theorem dX4_moss_49 : decode cX4_moss 49 = .ok (.ireturn, 1) := dk_172 (dk_at dksX4_moss_2 3 rfl rfl)
abbrev cX4_pass : ByteArray := prog_10_method_14_code
def yX4_pass : MethodName := ⟨RX4, "pass", "(III)I"⟩
def dkwX4_pass_4 : List UInt8 := [167, 255, 241, 42, 180, 0, 109, 172]
abbrev dktX4_pass_4 : List UInt8 := dkwX4_pass_4 ++ []
def dkwX4_pass_3 : List UInt8 := [153, 0, 5, 3, 172, 3, 54, 5, 21, 5, 27, 162, 0, 15, 42, 28, 29, 182, 0, 112, 132, 5, 1]
abbrev dktX4_pass_3 : List UInt8 := dkwX4_pass_3 ++ dktX4_pass_4
def dkwX4_pass_2 : List UInt8 := [167, 0, 20, 42, 180, 0, 109, 27, 96, 17, 2, 88, 164, 0, 7, 5, 167, 0, 4, 3, 182, 0, 106]
abbrev dktX4_pass_2 : List UInt8 := dkwX4_pass_2 ++ dktX4_pass_3
def dkwX4_pass_1 : List UInt8 := [16, 9, 184, 0, 94, 153, 0, 7, 4, 167, 0, 4, 3, 54, 4, 42, 21, 4, 154, 0, 7, 4]
abbrev dktX4_pass_1 : List UInt8 := dkwX4_pass_1 ++ dktX4_pass_2
def dkwX4_pass_0 : List UInt8 := [27, 4, 16, 24, 184, 0, 94, 153, 0, 28, 28, 16, 206, 16, 30, 184, 0, 94, 153, 0, 17, 29, 3]
abbrev dktX4_pass_0 : List UInt8 := dkwX4_pass_0 ++ dktX4_pass_1
theorem dksX4_pass_0 : cX4_pass.data.toList.drop 0 = dktX4_pass_0 := by decide +kernel
theorem dksX4_pass_1 : cX4_pass.data.toList.drop 23 = dktX4_pass_1 := dk_seg dksX4_pass_0 23 rfl rfl
theorem dksX4_pass_2 : cX4_pass.data.toList.drop 45 = dktX4_pass_2 := dk_seg dksX4_pass_1 22 rfl rfl
theorem dksX4_pass_3 : cX4_pass.data.toList.drop 68 = dktX4_pass_3 := dk_seg dksX4_pass_2 23 rfl rfl
theorem dksX4_pass_4 : cX4_pass.data.toList.drop 91 = dktX4_pass_4 := dk_seg dksX4_pass_3 23 rfl rfl
theorem dX4_pass_0 : decode cX4_pass 0 = .ok (.iload_n 1, 1) := dk_27 (dk_at dksX4_pass_0 0 rfl rfl)
theorem dX4_pass_1 : decode cX4_pass 1 = .ok (.iconst 1, 1) := dk_4 (dk_at dksX4_pass_0 1 rfl rfl)
theorem dX4_pass_2 : decode cX4_pass 2 = .ok (.bipush 24, 2) := dk_16 24 (dk_at dksX4_pass_0 2 rfl rfl)
theorem dX4_pass_4 : decode cX4_pass 4 = .ok (.invokestatic 94, 3) := dk_184 0 94 (dk_at dksX4_pass_0 4 rfl rfl)
theorem dX4_pass_7 : decode cX4_pass 7 = .ok (.ifCond .eq 28, 3) := dk_153 0 28 (dk_at dksX4_pass_0 7 rfl rfl)
theorem dX4_pass_10 : decode cX4_pass 10 = .ok (.iload_n 2, 1) := dk_28 (dk_at dksX4_pass_0 10 rfl rfl)
theorem dX4_pass_11 : decode cX4_pass 11 = .ok (.bipush (-50), 2) := dk_16 206 (dk_at dksX4_pass_0 11 rfl rfl)
theorem dX4_pass_13 : decode cX4_pass 13 = .ok (.bipush 30, 2) := dk_16 30 (dk_at dksX4_pass_0 13 rfl rfl)
theorem dX4_pass_15 : decode cX4_pass 15 = .ok (.invokestatic 94, 3) := dk_184 0 94 (dk_at dksX4_pass_0 15 rfl rfl)
theorem dX4_pass_18 : decode cX4_pass 18 = .ok (.ifCond .eq 17, 3) := dk_153 0 17 (dk_at dksX4_pass_0 18 rfl rfl)
theorem dX4_pass_21 : decode cX4_pass 21 = .ok (.iload_n 3, 1) := dk_29 (dk_at dksX4_pass_0 21 rfl rfl)
theorem dX4_pass_22 : decode cX4_pass 22 = .ok (.iconst 0, 1) := dk_3 (dk_at dksX4_pass_0 22 rfl rfl)
theorem dX4_pass_23 : decode cX4_pass 23 = .ok (.bipush 9, 2) := dk_16 9 (dk_at dksX4_pass_1 0 rfl rfl)
theorem dX4_pass_25 : decode cX4_pass 25 = .ok (.invokestatic 94, 3) := dk_184 0 94 (dk_at dksX4_pass_1 2 rfl rfl)
theorem dX4_pass_28 : decode cX4_pass 28 = .ok (.ifCond .eq 7, 3) := dk_153 0 7 (dk_at dksX4_pass_1 5 rfl rfl)
theorem dX4_pass_31 : decode cX4_pass 31 = .ok (.iconst 1, 1) := dk_4 (dk_at dksX4_pass_1 8 rfl rfl)
theorem dX4_pass_32 : decode cX4_pass 32 = .ok (.goto 4, 3) := dk_167 0 4 (dk_at dksX4_pass_1 9 rfl rfl)
theorem dX4_pass_35 : decode cX4_pass 35 = .ok (.iconst 0, 1) := dk_3 (dk_at dksX4_pass_1 12 rfl rfl)
theorem dX4_pass_36 : decode cX4_pass 36 = .ok (.istore 4, 2) := dk_54 4 (dk_at dksX4_pass_1 13 rfl rfl)
theorem dX4_pass_38 : decode cX4_pass 38 = .ok (.aload_n 0, 1) := dk_42 (dk_at dksX4_pass_1 15 rfl rfl)
theorem dX4_pass_39 : decode cX4_pass 39 = .ok (.iload 4, 2) := dk_21 4 (dk_at dksX4_pass_1 16 rfl rfl)
theorem dX4_pass_41 : decode cX4_pass 41 = .ok (.ifCond .ne 7, 3) := dk_154 0 7 (dk_at dksX4_pass_1 18 rfl rfl)
theorem dX4_pass_44 : decode cX4_pass 44 = .ok (.iconst 1, 1) := dk_4 (dk_at dksX4_pass_1 21 rfl rfl)
theorem dX4_pass_45 : decode cX4_pass 45 = .ok (.goto 20, 3) := dk_167 0 20 (dk_at dksX4_pass_2 0 rfl rfl)
theorem dX4_pass_48 : decode cX4_pass 48 = .ok (.aload_n 0, 1) := dk_42 (dk_at dksX4_pass_2 3 rfl rfl)
theorem dX4_pass_49 : decode cX4_pass 49 = .ok (.getfield 109, 3) := dk_180 0 109 (dk_at dksX4_pass_2 4 rfl rfl)
theorem dX4_pass_52 : decode cX4_pass 52 = .ok (.iload_n 1, 1) := dk_27 (dk_at dksX4_pass_2 7 rfl rfl)
theorem dX4_pass_53 : decode cX4_pass 53 = .ok (.iadd, 1) := dk_96 (dk_at dksX4_pass_2 8 rfl rfl)
theorem dX4_pass_54 : decode cX4_pass 54 = .ok (.sipush 600, 3) := dk_17 2 88 (dk_at dksX4_pass_2 9 rfl rfl)
theorem dX4_pass_57 : decode cX4_pass 57 = .ok (.if_icmp .le 7, 3) := dk_164 0 7 (dk_at dksX4_pass_2 12 rfl rfl)
theorem dX4_pass_60 : decode cX4_pass 60 = .ok (.iconst 2, 1) := dk_5 (dk_at dksX4_pass_2 15 rfl rfl)
theorem dX4_pass_61 : decode cX4_pass 61 = .ok (.goto 4, 3) := dk_167 0 4 (dk_at dksX4_pass_2 16 rfl rfl)
theorem dX4_pass_64 : decode cX4_pass 64 = .ok (.iconst 0, 1) := dk_3 (dk_at dksX4_pass_2 19 rfl rfl)
theorem dX4_pass_65 : decode cX4_pass 65 = .ok (.invokevirtual 106, 3) := dk_182 0 106 (dk_at dksX4_pass_2 20 rfl rfl)
theorem dX4_pass_68 : decode cX4_pass 68 = .ok (.ifCond .eq 5, 3) := dk_153 0 5 (dk_at dksX4_pass_3 0 rfl rfl)
theorem dX4_pass_71 : decode cX4_pass 71 = .ok (.iconst 0, 1) := dk_3 (dk_at dksX4_pass_3 3 rfl rfl)
theorem dX4_pass_72 : decode cX4_pass 72 = .ok (.ireturn, 1) := dk_172 (dk_at dksX4_pass_3 4 rfl rfl)
theorem dX4_pass_73 : decode cX4_pass 73 = .ok (.iconst 0, 1) := dk_3 (dk_at dksX4_pass_3 5 rfl rfl)
theorem dX4_pass_74 : decode cX4_pass 74 = .ok (.istore 5, 2) := dk_54 5 (dk_at dksX4_pass_3 6 rfl rfl)
theorem dX4_pass_76 : decode cX4_pass 76 = .ok (.iload 5, 2) := dk_21 5 (dk_at dksX4_pass_3 8 rfl rfl)
theorem dX4_pass_78 : decode cX4_pass 78 = .ok (.iload_n 1, 1) := dk_27 (dk_at dksX4_pass_3 10 rfl rfl)
theorem dX4_pass_79 : decode cX4_pass 79 = .ok (.if_icmp .ge 15, 3) := dk_162 0 15 (dk_at dksX4_pass_3 11 rfl rfl)
theorem dX4_pass_82 : decode cX4_pass 82 = .ok (.aload_n 0, 1) := dk_42 (dk_at dksX4_pass_3 14 rfl rfl)
theorem dX4_pass_83 : decode cX4_pass 83 = .ok (.iload_n 2, 1) := dk_28 (dk_at dksX4_pass_3 15 rfl rfl)
theorem dX4_pass_84 : decode cX4_pass 84 = .ok (.iload_n 3, 1) := dk_29 (dk_at dksX4_pass_3 16 rfl rfl)
theorem dX4_pass_85 : decode cX4_pass 85 = .ok (.invokevirtual 112, 3) := dk_182 0 112 (dk_at dksX4_pass_3 17 rfl rfl)
theorem dX4_pass_88 : decode cX4_pass 88 = .ok (.iinc 5 1, 3) := dk_132 5 1 (dk_at dksX4_pass_3 20 rfl rfl)
theorem dX4_pass_91 : decode cX4_pass 91 = .ok (.goto (-15), 3) := dk_167 255 241 (dk_at dksX4_pass_4 0 rfl rfl)
theorem dX4_pass_94 : decode cX4_pass 94 = .ok (.aload_n 0, 1) := dk_42 (dk_at dksX4_pass_4 3 rfl rfl)
theorem dX4_pass_95 : decode cX4_pass 95 = .ok (.getfield 109, 3) := dk_180 0 109 (dk_at dksX4_pass_4 4 rfl rfl)
theorem dX4_pass_98 : decode cX4_pass 98 = .ok (.ireturn, 1) := dk_172 (dk_at dksX4_pass_4 7 rfl rfl)
abbrev cX4_passOne : ByteArray := prog_10_method_15_code
def yX4_passOne : MethodName := ⟨RX4, "passOne", "(II)V"⟩
def dkwX4_passOne_11 : List UInt8 := [42, 89, 180, 0, 109, 4, 96, 181, 0, 109, 177]
abbrev dktX4_passOne_11 : List UInt8 := dkwX4_passOne_11 ++ []
def dkwX4_passOne_10 : List UInt8 := [180, 0, 65, 29, 46, 100, 104, 16, 12, 108, 96, 79, 132, 4, 1, 167, 255, 188, 132, 3, 1, 167, 255, 171]
abbrev dktX4_passOne_10 : List UInt8 := dkwX4_passOne_10 ++ dktX4_passOne_11
def dkwX4_passOne_9 : List UInt8 := [29, 46, 104, 21, 4, 96, 182, 0, 138, 42, 180, 0, 62, 29, 46, 42, 180, 0, 109, 4, 96, 42]
abbrev dktX4_passOne_9 : List UInt8 := dkwX4_passOne_9 ++ dktX4_passOne_10
def dkwX4_passOne_8 : List UInt8 := [180, 0, 68, 17, 11, 184, 29, 104, 8, 42, 180, 0, 109, 104, 96, 21, 4, 96, 42, 8, 42, 180, 0, 59]
abbrev dktX4_passOne_8 : List UInt8 := dkwX4_passOne_8 ++ dktX4_passOne_9
def dkwX4_passOne_7 : List UInt8 := [167, 255, 208, 3, 62, 29, 42, 180, 0, 135, 162, 0, 83, 3, 54, 4, 21, 4, 8, 162, 0, 68, 42]
abbrev dktX4_passOne_7 : List UInt8 := dkwX4_passOne_7 ++ dktX4_passOne_8
def dkwX4_passOne_6 : List UInt8 := [104, 42, 180, 0, 46, 29, 46, 96, 46, 155, 0, 7, 4, 167, 0, 4, 3, 96, 79, 132, 3, 1]
abbrev dktX4_passOne_6 : List UInt8 := dkwX4_passOne_6 ++ dktX4_passOne_7
def dkwX4_passOne_5 : List UInt8 := [180, 0, 132, 162, 0, 46, 42, 180, 0, 53, 29, 92, 46, 42, 180, 0, 34, 8, 42, 180, 0, 43, 29, 46]
abbrev dktX4_passOne_5 : List UInt8 := dkwX4_passOne_5 ++ dktX4_passOne_6
def dkwX4_passOne_4 : List UInt8 := [3, 62, 29, 16, 25, 162, 0, 15, 42, 29, 27, 182, 0, 129, 132, 3, 1, 167, 255, 241, 3, 62, 29, 42]
abbrev dktX4_passOne_4 : List UInt8 := dkwX4_passOne_4 ++ dktX4_passOne_5
def dkwX4_passOne_3 : List UInt8 := [162, 0, 14, 42, 29, 182, 0, 123, 132, 3, 1, 167, 255, 242, 27, 16, 236, 163, 0, 7, 42, 182, 0, 126]
abbrev dktX4_passOne_3 : List UInt8 := dkwX4_passOne_3 ++ dktX4_passOne_4
def dkwX4_passOne_2 : List UInt8 := [29, 16, 125, 162, 0, 14, 42, 29, 182, 0, 120, 132, 3, 1, 167, 255, 242, 3, 62, 29, 16, 25]
abbrev dktX4_passOne_2 : List UInt8 := dkwX4_passOne_2 ++ dktX4_passOne_3
def dkwX4_passOne_1 : List UInt8 := [46, 28, 96, 184, 0, 98, 167, 0, 4, 3, 79, 132, 3, 1, 167, 255, 220, 42, 27, 182, 0, 116, 3, 62]
abbrev dktX4_passOne_1 : List UInt8 := dkwX4_passOne_1 ++ dktX4_passOne_2
def dkwX4_passOne_0 : List UInt8 := [3, 62, 29, 16, 25, 162, 0, 36, 42, 180, 0, 16, 29, 27, 156, 0, 19, 16, 9, 42, 180, 0, 16, 29]
abbrev dktX4_passOne_0 : List UInt8 := dkwX4_passOne_0 ++ dktX4_passOne_1
theorem dksX4_passOne_0 : cX4_passOne.data.toList.drop 0 = dktX4_passOne_0 := by decide +kernel
theorem dksX4_passOne_1 : cX4_passOne.data.toList.drop 24 = dktX4_passOne_1 := dk_seg dksX4_passOne_0 24 rfl rfl
theorem dksX4_passOne_2 : cX4_passOne.data.toList.drop 48 = dktX4_passOne_2 := dk_seg dksX4_passOne_1 24 rfl rfl
theorem dksX4_passOne_3 : cX4_passOne.data.toList.drop 70 = dktX4_passOne_3 := dk_seg dksX4_passOne_2 22 rfl rfl
theorem dksX4_passOne_4 : cX4_passOne.data.toList.drop 94 = dktX4_passOne_4 := dk_seg dksX4_passOne_3 24 rfl rfl
theorem dksX4_passOne_5 : cX4_passOne.data.toList.drop 118 = dktX4_passOne_5 := dk_seg dksX4_passOne_4 24 rfl rfl
theorem dksX4_passOne_6 : cX4_passOne.data.toList.drop 142 = dktX4_passOne_6 := dk_seg dksX4_passOne_5 24 rfl rfl
theorem dksX4_passOne_7 : cX4_passOne.data.toList.drop 164 = dktX4_passOne_7 := dk_seg dksX4_passOne_6 22 rfl rfl
theorem dksX4_passOne_8 : cX4_passOne.data.toList.drop 187 = dktX4_passOne_8 := dk_seg dksX4_passOne_7 23 rfl rfl
theorem dksX4_passOne_9 : cX4_passOne.data.toList.drop 211 = dktX4_passOne_9 := dk_seg dksX4_passOne_8 24 rfl rfl
theorem dksX4_passOne_10 : cX4_passOne.data.toList.drop 233 = dktX4_passOne_10 := dk_seg dksX4_passOne_9 22 rfl rfl
theorem dksX4_passOne_11 : cX4_passOne.data.toList.drop 257 = dktX4_passOne_11 := dk_seg dksX4_passOne_10 24 rfl rfl
theorem dX4_passOne_0 : decode cX4_passOne 0 = .ok (.iconst 0, 1) := dk_3 (dk_at dksX4_passOne_0 0 rfl rfl)
theorem dX4_passOne_1 : decode cX4_passOne 1 = .ok (.istore_n 3, 1) := dk_62 (dk_at dksX4_passOne_0 1 rfl rfl)
theorem dX4_passOne_2 : decode cX4_passOne 2 = .ok (.iload_n 3, 1) := dk_29 (dk_at dksX4_passOne_0 2 rfl rfl)
theorem dX4_passOne_3 : decode cX4_passOne 3 = .ok (.bipush 25, 2) := dk_16 25 (dk_at dksX4_passOne_0 3 rfl rfl)
theorem dX4_passOne_5 : decode cX4_passOne 5 = .ok (.if_icmp .ge 36, 3) := dk_162 0 36 (dk_at dksX4_passOne_0 5 rfl rfl)
theorem dX4_passOne_8 : decode cX4_passOne 8 = .ok (.aload_n 0, 1) := dk_42 (dk_at dksX4_passOne_0 8 rfl rfl)
theorem dX4_passOne_9 : decode cX4_passOne 9 = .ok (.getfield 16, 3) := dk_180 0 16 (dk_at dksX4_passOne_0 9 rfl rfl)
theorem dX4_passOne_12 : decode cX4_passOne 12 = .ok (.iload_n 3, 1) := dk_29 (dk_at dksX4_passOne_0 12 rfl rfl)
theorem dX4_passOne_13 : decode cX4_passOne 13 = .ok (.iload_n 1, 1) := dk_27 (dk_at dksX4_passOne_0 13 rfl rfl)
theorem dX4_passOne_14 : decode cX4_passOne 14 = .ok (.ifCond .ge 19, 3) := dk_156 0 19 (dk_at dksX4_passOne_0 14 rfl rfl)
theorem dX4_passOne_17 : decode cX4_passOne 17 = .ok (.bipush 9, 2) := dk_16 9 (dk_at dksX4_passOne_0 17 rfl rfl)
theorem dX4_passOne_19 : decode cX4_passOne 19 = .ok (.aload_n 0, 1) := dk_42 (dk_at dksX4_passOne_0 19 rfl rfl)
theorem dX4_passOne_20 : decode cX4_passOne 20 = .ok (.getfield 16, 3) := dk_180 0 16 (dk_at dksX4_passOne_0 20 rfl rfl)
theorem dX4_passOne_23 : decode cX4_passOne 23 = .ok (.iload_n 3, 1) := dk_29 (dk_at dksX4_passOne_0 23 rfl rfl)
theorem dX4_passOne_24 : decode cX4_passOne 24 = .ok (.iaload, 1) := dk_46 (dk_at dksX4_passOne_1 0 rfl rfl)
theorem dX4_passOne_25 : decode cX4_passOne 25 = .ok (.iload_n 2, 1) := dk_28 (dk_at dksX4_passOne_1 1 rfl rfl)
theorem dX4_passOne_26 : decode cX4_passOne 26 = .ok (.iadd, 1) := dk_96 (dk_at dksX4_passOne_1 2 rfl rfl)
theorem dX4_passOne_27 : decode cX4_passOne 27 = .ok (.invokestatic 98, 3) := dk_184 0 98 (dk_at dksX4_passOne_1 3 rfl rfl)
theorem dX4_passOne_30 : decode cX4_passOne 30 = .ok (.goto 4, 3) := dk_167 0 4 (dk_at dksX4_passOne_1 6 rfl rfl)
theorem dX4_passOne_33 : decode cX4_passOne 33 = .ok (.iconst 0, 1) := dk_3 (dk_at dksX4_passOne_1 9 rfl rfl)
theorem dX4_passOne_34 : decode cX4_passOne 34 = .ok (.iastore, 1) := dk_79 (dk_at dksX4_passOne_1 10 rfl rfl)
theorem dX4_passOne_35 : decode cX4_passOne 35 = .ok (.iinc 3 1, 3) := dk_132 3 1 (dk_at dksX4_passOne_1 11 rfl rfl)
theorem dX4_passOne_38 : decode cX4_passOne 38 = .ok (.goto (-36), 3) := dk_167 255 220 (dk_at dksX4_passOne_1 14 rfl rfl)
theorem dX4_passOne_41 : decode cX4_passOne 41 = .ok (.aload_n 0, 1) := dk_42 (dk_at dksX4_passOne_1 17 rfl rfl)
theorem dX4_passOne_42 : decode cX4_passOne 42 = .ok (.iload_n 1, 1) := dk_27 (dk_at dksX4_passOne_1 18 rfl rfl)
theorem dX4_passOne_43 : decode cX4_passOne 43 = .ok (.invokevirtual 116, 3) := dk_182 0 116 (dk_at dksX4_passOne_1 19 rfl rfl)
theorem dX4_passOne_46 : decode cX4_passOne 46 = .ok (.iconst 0, 1) := dk_3 (dk_at dksX4_passOne_1 22 rfl rfl)
theorem dX4_passOne_47 : decode cX4_passOne 47 = .ok (.istore_n 3, 1) := dk_62 (dk_at dksX4_passOne_1 23 rfl rfl)
theorem dX4_passOne_48 : decode cX4_passOne 48 = .ok (.iload_n 3, 1) := dk_29 (dk_at dksX4_passOne_2 0 rfl rfl)
theorem dX4_passOne_49 : decode cX4_passOne 49 = .ok (.bipush 125, 2) := dk_16 125 (dk_at dksX4_passOne_2 1 rfl rfl)
theorem dX4_passOne_51 : decode cX4_passOne 51 = .ok (.if_icmp .ge 14, 3) := dk_162 0 14 (dk_at dksX4_passOne_2 3 rfl rfl)
theorem dX4_passOne_54 : decode cX4_passOne 54 = .ok (.aload_n 0, 1) := dk_42 (dk_at dksX4_passOne_2 6 rfl rfl)
theorem dX4_passOne_55 : decode cX4_passOne 55 = .ok (.iload_n 3, 1) := dk_29 (dk_at dksX4_passOne_2 7 rfl rfl)
theorem dX4_passOne_56 : decode cX4_passOne 56 = .ok (.invokevirtual 120, 3) := dk_182 0 120 (dk_at dksX4_passOne_2 8 rfl rfl)
theorem dX4_passOne_59 : decode cX4_passOne 59 = .ok (.iinc 3 1, 3) := dk_132 3 1 (dk_at dksX4_passOne_2 11 rfl rfl)
theorem dX4_passOne_62 : decode cX4_passOne 62 = .ok (.goto (-14), 3) := dk_167 255 242 (dk_at dksX4_passOne_2 14 rfl rfl)
theorem dX4_passOne_65 : decode cX4_passOne 65 = .ok (.iconst 0, 1) := dk_3 (dk_at dksX4_passOne_2 17 rfl rfl)
theorem dX4_passOne_66 : decode cX4_passOne 66 = .ok (.istore_n 3, 1) := dk_62 (dk_at dksX4_passOne_2 18 rfl rfl)
theorem dX4_passOne_67 : decode cX4_passOne 67 = .ok (.iload_n 3, 1) := dk_29 (dk_at dksX4_passOne_2 19 rfl rfl)
theorem dX4_passOne_68 : decode cX4_passOne 68 = .ok (.bipush 25, 2) := dk_16 25 (dk_at dksX4_passOne_2 20 rfl rfl)
theorem dX4_passOne_70 : decode cX4_passOne 70 = .ok (.if_icmp .ge 14, 3) := dk_162 0 14 (dk_at dksX4_passOne_3 0 rfl rfl)
theorem dX4_passOne_73 : decode cX4_passOne 73 = .ok (.aload_n 0, 1) := dk_42 (dk_at dksX4_passOne_3 3 rfl rfl)
theorem dX4_passOne_74 : decode cX4_passOne 74 = .ok (.iload_n 3, 1) := dk_29 (dk_at dksX4_passOne_3 4 rfl rfl)
theorem dX4_passOne_75 : decode cX4_passOne 75 = .ok (.invokevirtual 123, 3) := dk_182 0 123 (dk_at dksX4_passOne_3 5 rfl rfl)
theorem dX4_passOne_78 : decode cX4_passOne 78 = .ok (.iinc 3 1, 3) := dk_132 3 1 (dk_at dksX4_passOne_3 8 rfl rfl)
theorem dX4_passOne_81 : decode cX4_passOne 81 = .ok (.goto (-14), 3) := dk_167 255 242 (dk_at dksX4_passOne_3 11 rfl rfl)
theorem dX4_passOne_84 : decode cX4_passOne 84 = .ok (.iload_n 1, 1) := dk_27 (dk_at dksX4_passOne_3 14 rfl rfl)
theorem dX4_passOne_85 : decode cX4_passOne 85 = .ok (.bipush (-20), 2) := dk_16 236 (dk_at dksX4_passOne_3 15 rfl rfl)
theorem dX4_passOne_87 : decode cX4_passOne 87 = .ok (.if_icmp .gt 7, 3) := dk_163 0 7 (dk_at dksX4_passOne_3 17 rfl rfl)
theorem dX4_passOne_90 : decode cX4_passOne 90 = .ok (.aload_n 0, 1) := dk_42 (dk_at dksX4_passOne_3 20 rfl rfl)
theorem dX4_passOne_91 : decode cX4_passOne 91 = .ok (.invokevirtual 126, 3) := dk_182 0 126 (dk_at dksX4_passOne_3 21 rfl rfl)
theorem dX4_passOne_94 : decode cX4_passOne 94 = .ok (.iconst 0, 1) := dk_3 (dk_at dksX4_passOne_4 0 rfl rfl)
theorem dX4_passOne_95 : decode cX4_passOne 95 = .ok (.istore_n 3, 1) := dk_62 (dk_at dksX4_passOne_4 1 rfl rfl)
theorem dX4_passOne_96 : decode cX4_passOne 96 = .ok (.iload_n 3, 1) := dk_29 (dk_at dksX4_passOne_4 2 rfl rfl)
theorem dX4_passOne_97 : decode cX4_passOne 97 = .ok (.bipush 25, 2) := dk_16 25 (dk_at dksX4_passOne_4 3 rfl rfl)
theorem dX4_passOne_99 : decode cX4_passOne 99 = .ok (.if_icmp .ge 15, 3) := dk_162 0 15 (dk_at dksX4_passOne_4 5 rfl rfl)
theorem dX4_passOne_102 : decode cX4_passOne 102 = .ok (.aload_n 0, 1) := dk_42 (dk_at dksX4_passOne_4 8 rfl rfl)
theorem dX4_passOne_103 : decode cX4_passOne 103 = .ok (.iload_n 3, 1) := dk_29 (dk_at dksX4_passOne_4 9 rfl rfl)
theorem dX4_passOne_104 : decode cX4_passOne 104 = .ok (.iload_n 1, 1) := dk_27 (dk_at dksX4_passOne_4 10 rfl rfl)
theorem dX4_passOne_105 : decode cX4_passOne 105 = .ok (.invokevirtual 129, 3) := dk_182 0 129 (dk_at dksX4_passOne_4 11 rfl rfl)
theorem dX4_passOne_108 : decode cX4_passOne 108 = .ok (.iinc 3 1, 3) := dk_132 3 1 (dk_at dksX4_passOne_4 14 rfl rfl)
theorem dX4_passOne_111 : decode cX4_passOne 111 = .ok (.goto (-15), 3) := dk_167 255 241 (dk_at dksX4_passOne_4 17 rfl rfl)
theorem dX4_passOne_114 : decode cX4_passOne 114 = .ok (.iconst 0, 1) := dk_3 (dk_at dksX4_passOne_4 20 rfl rfl)
theorem dX4_passOne_115 : decode cX4_passOne 115 = .ok (.istore_n 3, 1) := dk_62 (dk_at dksX4_passOne_4 21 rfl rfl)
theorem dX4_passOne_116 : decode cX4_passOne 116 = .ok (.iload_n 3, 1) := dk_29 (dk_at dksX4_passOne_4 22 rfl rfl)
theorem dX4_passOne_117 : decode cX4_passOne 117 = .ok (.aload_n 0, 1) := dk_42 (dk_at dksX4_passOne_4 23 rfl rfl)
theorem dX4_passOne_118 : decode cX4_passOne 118 = .ok (.getfield 132, 3) := dk_180 0 132 (dk_at dksX4_passOne_5 0 rfl rfl)
theorem dX4_passOne_121 : decode cX4_passOne 121 = .ok (.if_icmp .ge 46, 3) := dk_162 0 46 (dk_at dksX4_passOne_5 3 rfl rfl)
theorem dX4_passOne_124 : decode cX4_passOne 124 = .ok (.aload_n 0, 1) := dk_42 (dk_at dksX4_passOne_5 6 rfl rfl)
theorem dX4_passOne_125 : decode cX4_passOne 125 = .ok (.getfield 53, 3) := dk_180 0 53 (dk_at dksX4_passOne_5 7 rfl rfl)
theorem dX4_passOne_128 : decode cX4_passOne 128 = .ok (.iload_n 3, 1) := dk_29 (dk_at dksX4_passOne_5 10 rfl rfl)
theorem dX4_passOne_129 : decode cX4_passOne 129 = .ok (.dup2, 1) := dk_92 (dk_at dksX4_passOne_5 11 rfl rfl)
theorem dX4_passOne_130 : decode cX4_passOne 130 = .ok (.iaload, 1) := dk_46 (dk_at dksX4_passOne_5 12 rfl rfl)
theorem dX4_passOne_131 : decode cX4_passOne 131 = .ok (.aload_n 0, 1) := dk_42 (dk_at dksX4_passOne_5 13 rfl rfl)
theorem dX4_passOne_132 : decode cX4_passOne 132 = .ok (.getfield 34, 3) := dk_180 0 34 (dk_at dksX4_passOne_5 14 rfl rfl)
theorem dX4_passOne_135 : decode cX4_passOne 135 = .ok (.iconst 5, 1) := dk_8 (dk_at dksX4_passOne_5 17 rfl rfl)
theorem dX4_passOne_136 : decode cX4_passOne 136 = .ok (.aload_n 0, 1) := dk_42 (dk_at dksX4_passOne_5 18 rfl rfl)
theorem dX4_passOne_137 : decode cX4_passOne 137 = .ok (.getfield 43, 3) := dk_180 0 43 (dk_at dksX4_passOne_5 19 rfl rfl)
theorem dX4_passOne_140 : decode cX4_passOne 140 = .ok (.iload_n 3, 1) := dk_29 (dk_at dksX4_passOne_5 22 rfl rfl)
theorem dX4_passOne_141 : decode cX4_passOne 141 = .ok (.iaload, 1) := dk_46 (dk_at dksX4_passOne_5 23 rfl rfl)
theorem dX4_passOne_142 : decode cX4_passOne 142 = .ok (.imul, 1) := dk_104 (dk_at dksX4_passOne_6 0 rfl rfl)
theorem dX4_passOne_143 : decode cX4_passOne 143 = .ok (.aload_n 0, 1) := dk_42 (dk_at dksX4_passOne_6 1 rfl rfl)
theorem dX4_passOne_144 : decode cX4_passOne 144 = .ok (.getfield 46, 3) := dk_180 0 46 (dk_at dksX4_passOne_6 2 rfl rfl)
theorem dX4_passOne_147 : decode cX4_passOne 147 = .ok (.iload_n 3, 1) := dk_29 (dk_at dksX4_passOne_6 5 rfl rfl)
theorem dX4_passOne_148 : decode cX4_passOne 148 = .ok (.iaload, 1) := dk_46 (dk_at dksX4_passOne_6 6 rfl rfl)
theorem dX4_passOne_149 : decode cX4_passOne 149 = .ok (.iadd, 1) := dk_96 (dk_at dksX4_passOne_6 7 rfl rfl)
theorem dX4_passOne_150 : decode cX4_passOne 150 = .ok (.iaload, 1) := dk_46 (dk_at dksX4_passOne_6 8 rfl rfl)
theorem dX4_passOne_151 : decode cX4_passOne 151 = .ok (.ifCond .lt 7, 3) := dk_155 0 7 (dk_at dksX4_passOne_6 9 rfl rfl)
theorem dX4_passOne_154 : decode cX4_passOne 154 = .ok (.iconst 1, 1) := dk_4 (dk_at dksX4_passOne_6 12 rfl rfl)
theorem dX4_passOne_155 : decode cX4_passOne 155 = .ok (.goto 4, 3) := dk_167 0 4 (dk_at dksX4_passOne_6 13 rfl rfl)
theorem dX4_passOne_158 : decode cX4_passOne 158 = .ok (.iconst 0, 1) := dk_3 (dk_at dksX4_passOne_6 16 rfl rfl)
theorem dX4_passOne_159 : decode cX4_passOne 159 = .ok (.iadd, 1) := dk_96 (dk_at dksX4_passOne_6 17 rfl rfl)
theorem dX4_passOne_160 : decode cX4_passOne 160 = .ok (.iastore, 1) := dk_79 (dk_at dksX4_passOne_6 18 rfl rfl)
theorem dX4_passOne_161 : decode cX4_passOne 161 = .ok (.iinc 3 1, 3) := dk_132 3 1 (dk_at dksX4_passOne_6 19 rfl rfl)
theorem dX4_passOne_164 : decode cX4_passOne 164 = .ok (.goto (-48), 3) := dk_167 255 208 (dk_at dksX4_passOne_7 0 rfl rfl)
theorem dX4_passOne_167 : decode cX4_passOne 167 = .ok (.iconst 0, 1) := dk_3 (dk_at dksX4_passOne_7 3 rfl rfl)
theorem dX4_passOne_168 : decode cX4_passOne 168 = .ok (.istore_n 3, 1) := dk_62 (dk_at dksX4_passOne_7 4 rfl rfl)
theorem dX4_passOne_169 : decode cX4_passOne 169 = .ok (.iload_n 3, 1) := dk_29 (dk_at dksX4_passOne_7 5 rfl rfl)
theorem dX4_passOne_170 : decode cX4_passOne 170 = .ok (.aload_n 0, 1) := dk_42 (dk_at dksX4_passOne_7 6 rfl rfl)
theorem dX4_passOne_171 : decode cX4_passOne 171 = .ok (.getfield 135, 3) := dk_180 0 135 (dk_at dksX4_passOne_7 7 rfl rfl)
theorem dX4_passOne_174 : decode cX4_passOne 174 = .ok (.if_icmp .ge 83, 3) := dk_162 0 83 (dk_at dksX4_passOne_7 10 rfl rfl)
theorem dX4_passOne_177 : decode cX4_passOne 177 = .ok (.iconst 0, 1) := dk_3 (dk_at dksX4_passOne_7 13 rfl rfl)
theorem dX4_passOne_178 : decode cX4_passOne 178 = .ok (.istore 4, 2) := dk_54 4 (dk_at dksX4_passOne_7 14 rfl rfl)
theorem dX4_passOne_180 : decode cX4_passOne 180 = .ok (.iload 4, 2) := dk_21 4 (dk_at dksX4_passOne_7 16 rfl rfl)
theorem dX4_passOne_182 : decode cX4_passOne 182 = .ok (.iconst 5, 1) := dk_8 (dk_at dksX4_passOne_7 18 rfl rfl)
theorem dX4_passOne_183 : decode cX4_passOne 183 = .ok (.if_icmp .ge 68, 3) := dk_162 0 68 (dk_at dksX4_passOne_7 19 rfl rfl)
theorem dX4_passOne_186 : decode cX4_passOne 186 = .ok (.aload_n 0, 1) := dk_42 (dk_at dksX4_passOne_7 22 rfl rfl)
theorem dX4_passOne_187 : decode cX4_passOne 187 = .ok (.getfield 68, 3) := dk_180 0 68 (dk_at dksX4_passOne_8 0 rfl rfl)
theorem dX4_passOne_190 : decode cX4_passOne 190 = .ok (.sipush 3000, 3) := dk_17 11 184 (dk_at dksX4_passOne_8 3 rfl rfl)
theorem dX4_passOne_193 : decode cX4_passOne 193 = .ok (.iload_n 3, 1) := dk_29 (dk_at dksX4_passOne_8 6 rfl rfl)
theorem dX4_passOne_194 : decode cX4_passOne 194 = .ok (.imul, 1) := dk_104 (dk_at dksX4_passOne_8 7 rfl rfl)
theorem dX4_passOne_195 : decode cX4_passOne 195 = .ok (.iconst 5, 1) := dk_8 (dk_at dksX4_passOne_8 8 rfl rfl)
theorem dX4_passOne_196 : decode cX4_passOne 196 = .ok (.aload_n 0, 1) := dk_42 (dk_at dksX4_passOne_8 9 rfl rfl)
theorem dX4_passOne_197 : decode cX4_passOne 197 = .ok (.getfield 109, 3) := dk_180 0 109 (dk_at dksX4_passOne_8 10 rfl rfl)
theorem dX4_passOne_200 : decode cX4_passOne 200 = .ok (.imul, 1) := dk_104 (dk_at dksX4_passOne_8 13 rfl rfl)
theorem dX4_passOne_201 : decode cX4_passOne 201 = .ok (.iadd, 1) := dk_96 (dk_at dksX4_passOne_8 14 rfl rfl)
theorem dX4_passOne_202 : decode cX4_passOne 202 = .ok (.iload 4, 2) := dk_21 4 (dk_at dksX4_passOne_8 15 rfl rfl)
theorem dX4_passOne_204 : decode cX4_passOne 204 = .ok (.iadd, 1) := dk_96 (dk_at dksX4_passOne_8 17 rfl rfl)
theorem dX4_passOne_205 : decode cX4_passOne 205 = .ok (.aload_n 0, 1) := dk_42 (dk_at dksX4_passOne_8 18 rfl rfl)
theorem dX4_passOne_206 : decode cX4_passOne 206 = .ok (.iconst 5, 1) := dk_8 (dk_at dksX4_passOne_8 19 rfl rfl)
theorem dX4_passOne_207 : decode cX4_passOne 207 = .ok (.aload_n 0, 1) := dk_42 (dk_at dksX4_passOne_8 20 rfl rfl)
theorem dX4_passOne_208 : decode cX4_passOne 208 = .ok (.getfield 59, 3) := dk_180 0 59 (dk_at dksX4_passOne_8 21 rfl rfl)
theorem dX4_passOne_211 : decode cX4_passOne 211 = .ok (.iload_n 3, 1) := dk_29 (dk_at dksX4_passOne_9 0 rfl rfl)
theorem dX4_passOne_212 : decode cX4_passOne 212 = .ok (.iaload, 1) := dk_46 (dk_at dksX4_passOne_9 1 rfl rfl)
theorem dX4_passOne_213 : decode cX4_passOne 213 = .ok (.imul, 1) := dk_104 (dk_at dksX4_passOne_9 2 rfl rfl)
theorem dX4_passOne_214 : decode cX4_passOne 214 = .ok (.iload 4, 2) := dk_21 4 (dk_at dksX4_passOne_9 3 rfl rfl)
theorem dX4_passOne_216 : decode cX4_passOne 216 = .ok (.iadd, 1) := dk_96 (dk_at dksX4_passOne_9 5 rfl rfl)
theorem dX4_passOne_217 : decode cX4_passOne 217 = .ok (.invokevirtual 138, 3) := dk_182 0 138 (dk_at dksX4_passOne_9 6 rfl rfl)
theorem dX4_passOne_220 : decode cX4_passOne 220 = .ok (.aload_n 0, 1) := dk_42 (dk_at dksX4_passOne_9 9 rfl rfl)
theorem dX4_passOne_221 : decode cX4_passOne 221 = .ok (.getfield 62, 3) := dk_180 0 62 (dk_at dksX4_passOne_9 10 rfl rfl)
theorem dX4_passOne_224 : decode cX4_passOne 224 = .ok (.iload_n 3, 1) := dk_29 (dk_at dksX4_passOne_9 13 rfl rfl)
theorem dX4_passOne_225 : decode cX4_passOne 225 = .ok (.iaload, 1) := dk_46 (dk_at dksX4_passOne_9 14 rfl rfl)
theorem dX4_passOne_226 : decode cX4_passOne 226 = .ok (.aload_n 0, 1) := dk_42 (dk_at dksX4_passOne_9 15 rfl rfl)
theorem dX4_passOne_227 : decode cX4_passOne 227 = .ok (.getfield 109, 3) := dk_180 0 109 (dk_at dksX4_passOne_9 16 rfl rfl)
theorem dX4_passOne_230 : decode cX4_passOne 230 = .ok (.iconst 1, 1) := dk_4 (dk_at dksX4_passOne_9 19 rfl rfl)
theorem dX4_passOne_231 : decode cX4_passOne 231 = .ok (.iadd, 1) := dk_96 (dk_at dksX4_passOne_9 20 rfl rfl)
theorem dX4_passOne_232 : decode cX4_passOne 232 = .ok (.aload_n 0, 1) := dk_42 (dk_at dksX4_passOne_9 21 rfl rfl)
theorem dX4_passOne_233 : decode cX4_passOne 233 = .ok (.getfield 65, 3) := dk_180 0 65 (dk_at dksX4_passOne_10 0 rfl rfl)
theorem dX4_passOne_236 : decode cX4_passOne 236 = .ok (.iload_n 3, 1) := dk_29 (dk_at dksX4_passOne_10 3 rfl rfl)
theorem dX4_passOne_237 : decode cX4_passOne 237 = .ok (.iaload, 1) := dk_46 (dk_at dksX4_passOne_10 4 rfl rfl)
theorem dX4_passOne_238 : decode cX4_passOne 238 = .ok (.isub, 1) := dk_100 (dk_at dksX4_passOne_10 5 rfl rfl)
theorem dX4_passOne_239 : decode cX4_passOne 239 = .ok (.imul, 1) := dk_104 (dk_at dksX4_passOne_10 6 rfl rfl)
theorem dX4_passOne_240 : decode cX4_passOne 240 = .ok (.bipush 12, 2) := dk_16 12 (dk_at dksX4_passOne_10 7 rfl rfl)
theorem dX4_passOne_242 : decode cX4_passOne 242 = .ok (.idiv, 1) := dk_108 (dk_at dksX4_passOne_10 9 rfl rfl)
theorem dX4_passOne_243 : decode cX4_passOne 243 = .ok (.iadd, 1) := dk_96 (dk_at dksX4_passOne_10 10 rfl rfl)
theorem dX4_passOne_244 : decode cX4_passOne 244 = .ok (.iastore, 1) := dk_79 (dk_at dksX4_passOne_10 11 rfl rfl)
theorem dX4_passOne_245 : decode cX4_passOne 245 = .ok (.iinc 4 1, 3) := dk_132 4 1 (dk_at dksX4_passOne_10 12 rfl rfl)
theorem dX4_passOne_248 : decode cX4_passOne 248 = .ok (.goto (-68), 3) := dk_167 255 188 (dk_at dksX4_passOne_10 15 rfl rfl)
theorem dX4_passOne_251 : decode cX4_passOne 251 = .ok (.iinc 3 1, 3) := dk_132 3 1 (dk_at dksX4_passOne_10 18 rfl rfl)
theorem dX4_passOne_254 : decode cX4_passOne 254 = .ok (.goto (-85), 3) := dk_167 255 171 (dk_at dksX4_passOne_10 21 rfl rfl)
theorem dX4_passOne_257 : decode cX4_passOne 257 = .ok (.aload_n 0, 1) := dk_42 (dk_at dksX4_passOne_11 0 rfl rfl)
theorem dX4_passOne_258 : decode cX4_passOne 258 = .ok (.dup, 1) := dk_89 (dk_at dksX4_passOne_11 1 rfl rfl)
theorem dX4_passOne_259 : decode cX4_passOne 259 = .ok (.getfield 109, 3) := dk_180 0 109 (dk_at dksX4_passOne_11 2 rfl rfl)
theorem dX4_passOne_262 : decode cX4_passOne 262 = .ok (.iconst 1, 1) := dk_4 (dk_at dksX4_passOne_11 5 rfl rfl)
theorem dX4_passOne_263 : decode cX4_passOne 263 = .ok (.iadd, 1) := dk_96 (dk_at dksX4_passOne_11 6 rfl rfl)
theorem dX4_passOne_264 : decode cX4_passOne 264 = .ok (.putfield 109, 3) := dk_181 0 109 (dk_at dksX4_passOne_11 7 rfl rfl)
theorem dX4_passOne_267 : decode cX4_passOne 267 = .ok (.return_, 1) := dk_177 (dk_at dksX4_passOne_11 10 rfl rfl)
abbrev cX4_lesser : ByteArray := prog_10_method_6_code
def yX4_lesser : MethodName := ⟨RX4, "lesser", "(II)I"⟩
def dkwX4_lesser_0 : List UInt8 := [26, 27, 162, 0, 7, 26, 167, 0, 4, 27, 172]
abbrev dktX4_lesser_0 : List UInt8 := dkwX4_lesser_0 ++ []
theorem dksX4_lesser_0 : cX4_lesser.data.toList.drop 0 = dktX4_lesser_0 := by decide +kernel
theorem dX4_lesser_0 : decode cX4_lesser 0 = .ok (.iload_n 0, 1) := dk_26 (dk_at dksX4_lesser_0 0 rfl rfl)
theorem dX4_lesser_1 : decode cX4_lesser 1 = .ok (.iload_n 1, 1) := dk_27 (dk_at dksX4_lesser_0 1 rfl rfl)
theorem dX4_lesser_2 : decode cX4_lesser 2 = .ok (.if_icmp .ge 7, 3) := dk_162 0 7 (dk_at dksX4_lesser_0 2 rfl rfl)
theorem dX4_lesser_5 : decode cX4_lesser 5 = .ok (.iload_n 0, 1) := dk_26 (dk_at dksX4_lesser_0 5 rfl rfl)
theorem dX4_lesser_6 : decode cX4_lesser 6 = .ok (.goto 4, 3) := dk_167 0 4 (dk_at dksX4_lesser_0 6 rfl rfl)
theorem dX4_lesser_9 : decode cX4_lesser 9 = .ok (.iload_n 1, 1) := dk_27 (dk_at dksX4_lesser_0 9 rfl rfl)
theorem dX4_lesser_10 : decode cX4_lesser 10 = .ok (.ireturn, 1) := dk_172 (dk_at dksX4_lesser_0 10 rfl rfl)
abbrev cX4_heat : ByteArray := prog_10_method_17_code
def yX4_heat : MethodName := ⟨RX4, "heat", "(I)V"⟩
def dkwX4_heat_10 : List UInt8 := [132, 2, 1, 167, 255, 213, 177]
abbrev dktX4_heat_10 : List UInt8 := dkwX4_heat_10 ++ []
def dkwX4_heat_9 : List UInt8 := [180, 0, 49, 28, 51, 153, 0, 11, 27, 156, 0, 7, 3, 167, 0, 6, 17, 1, 44, 182, 0, 148]
abbrev dktX4_heat_9 : List UInt8 := dkwX4_heat_9 ++ dktX4_heat_10
def dkwX4_heat_8 : List UInt8 := [167, 255, 94, 3, 61, 28, 42, 180, 0, 132, 162, 0, 41, 42, 8, 42, 180, 0, 43, 28, 46, 104, 42]
abbrev dktX4_heat_8 : List UInt8 := dkwX4_heat_8 ++ dktX4_heat_9
def dkwX4_heat_7 : List UInt8 := [21, 6, 96, 79, 132, 5, 1, 167, 255, 195, 42, 8, 28, 104, 7, 96, 16, 10, 182, 0, 148, 132, 2, 1]
abbrev dktX4_heat_7 : List UInt8 := dkwX4_heat_7 ++ dktX4_heat_8
def dkwX4_heat_6 : List UInt8 := [54, 6, 42, 180, 0, 34, 21, 5, 92, 46, 21, 6, 100, 79, 42, 180, 0, 34, 21, 5, 4, 96, 92, 46]
abbrev dktX4_heat_6 : List UInt8 := dkwX4_heat_6 ++ dktX4_heat_7
def dkwX4_heat_5 : List UInt8 := [96, 162, 0, 57, 16, 20, 42, 180, 0, 40, 21, 5, 46, 42, 180, 0, 40, 21, 5, 4, 96, 46, 100, 104]
abbrev dktX4_heat_5 : List UInt8 := dkwX4_heat_5 ++ dktX4_heat_6
def dkwX4_heat_4 : List UInt8 := [42, 180, 0, 40, 8, 28, 104, 46, 100, 104, 182, 0, 148, 8, 28, 104, 54, 5, 21, 5, 8, 28, 104, 7]
abbrev dktX4_heat_4 : List UInt8 := dkwX4_heat_4 ++ dktX4_heat_5
def dkwX4_heat_3 : List UInt8 := [182, 0, 142, 153, 0, 11, 3, 27, 184, 0, 145, 167, 0, 4, 27, 54, 4, 42, 8, 28, 104, 29, 21, 4]
abbrev dktX4_heat_3 : List UInt8 := dkwX4_heat_3 ++ dktX4_heat_4
def dkwX4_heat_2 : List UInt8 := [16, 60, 5, 42, 180, 0, 16, 28, 46, 96, 5, 42, 180, 0, 19, 28, 46, 104, 96, 108, 62, 42, 28]
abbrev dktX4_heat_2 : List UInt8 := dkwX4_heat_2 ++ dktX4_heat_3
def dkwX4_heat_1 : List UInt8 := [167, 255, 236, 3, 61, 28, 16, 25, 162, 0, 162, 42, 28, 182, 0, 142, 153, 0, 8, 16, 30, 167, 0, 23]
abbrev dktX4_heat_1 : List UInt8 := dkwX4_heat_1 ++ dktX4_heat_2
def dkwX4_heat_0 : List UInt8 := [3, 61, 28, 16, 125, 162, 0, 20, 42, 180, 0, 40, 28, 42, 28, 182, 0, 138, 79, 132, 2, 1]
abbrev dktX4_heat_0 : List UInt8 := dkwX4_heat_0 ++ dktX4_heat_1
theorem dksX4_heat_0 : cX4_heat.data.toList.drop 0 = dktX4_heat_0 := by decide +kernel
theorem dksX4_heat_1 : cX4_heat.data.toList.drop 22 = dktX4_heat_1 := dk_seg dksX4_heat_0 22 rfl rfl
theorem dksX4_heat_2 : cX4_heat.data.toList.drop 46 = dktX4_heat_2 := dk_seg dksX4_heat_1 24 rfl rfl
theorem dksX4_heat_3 : cX4_heat.data.toList.drop 69 = dktX4_heat_3 := dk_seg dksX4_heat_2 23 rfl rfl
theorem dksX4_heat_4 : cX4_heat.data.toList.drop 93 = dktX4_heat_4 := dk_seg dksX4_heat_3 24 rfl rfl
theorem dksX4_heat_5 : cX4_heat.data.toList.drop 117 = dktX4_heat_5 := dk_seg dksX4_heat_4 24 rfl rfl
theorem dksX4_heat_6 : cX4_heat.data.toList.drop 141 = dktX4_heat_6 := dk_seg dksX4_heat_5 24 rfl rfl
theorem dksX4_heat_7 : cX4_heat.data.toList.drop 165 = dktX4_heat_7 := dk_seg dksX4_heat_6 24 rfl rfl
theorem dksX4_heat_8 : cX4_heat.data.toList.drop 189 = dktX4_heat_8 := dk_seg dksX4_heat_7 24 rfl rfl
theorem dksX4_heat_9 : cX4_heat.data.toList.drop 212 = dktX4_heat_9 := dk_seg dksX4_heat_8 23 rfl rfl
theorem dksX4_heat_10 : cX4_heat.data.toList.drop 234 = dktX4_heat_10 := dk_seg dksX4_heat_9 22 rfl rfl
theorem dX4_heat_0 : decode cX4_heat 0 = .ok (.iconst 0, 1) := dk_3 (dk_at dksX4_heat_0 0 rfl rfl)
theorem dX4_heat_1 : decode cX4_heat 1 = .ok (.istore_n 2, 1) := dk_61 (dk_at dksX4_heat_0 1 rfl rfl)
theorem dX4_heat_2 : decode cX4_heat 2 = .ok (.iload_n 2, 1) := dk_28 (dk_at dksX4_heat_0 2 rfl rfl)
theorem dX4_heat_3 : decode cX4_heat 3 = .ok (.bipush 125, 2) := dk_16 125 (dk_at dksX4_heat_0 3 rfl rfl)
theorem dX4_heat_5 : decode cX4_heat 5 = .ok (.if_icmp .ge 20, 3) := dk_162 0 20 (dk_at dksX4_heat_0 5 rfl rfl)
theorem dX4_heat_8 : decode cX4_heat 8 = .ok (.aload_n 0, 1) := dk_42 (dk_at dksX4_heat_0 8 rfl rfl)
theorem dX4_heat_9 : decode cX4_heat 9 = .ok (.getfield 40, 3) := dk_180 0 40 (dk_at dksX4_heat_0 9 rfl rfl)
theorem dX4_heat_12 : decode cX4_heat 12 = .ok (.iload_n 2, 1) := dk_28 (dk_at dksX4_heat_0 12 rfl rfl)
theorem dX4_heat_13 : decode cX4_heat 13 = .ok (.aload_n 0, 1) := dk_42 (dk_at dksX4_heat_0 13 rfl rfl)
theorem dX4_heat_14 : decode cX4_heat 14 = .ok (.iload_n 2, 1) := dk_28 (dk_at dksX4_heat_0 14 rfl rfl)
theorem dX4_heat_15 : decode cX4_heat 15 = .ok (.invokevirtual 138, 3) := dk_182 0 138 (dk_at dksX4_heat_0 15 rfl rfl)
theorem dX4_heat_18 : decode cX4_heat 18 = .ok (.iastore, 1) := dk_79 (dk_at dksX4_heat_0 18 rfl rfl)
theorem dX4_heat_19 : decode cX4_heat 19 = .ok (.iinc 2 1, 3) := dk_132 2 1 (dk_at dksX4_heat_0 19 rfl rfl)
theorem dX4_heat_22 : decode cX4_heat 22 = .ok (.goto (-20), 3) := dk_167 255 236 (dk_at dksX4_heat_1 0 rfl rfl)
theorem dX4_heat_25 : decode cX4_heat 25 = .ok (.iconst 0, 1) := dk_3 (dk_at dksX4_heat_1 3 rfl rfl)
theorem dX4_heat_26 : decode cX4_heat 26 = .ok (.istore_n 2, 1) := dk_61 (dk_at dksX4_heat_1 4 rfl rfl)
theorem dX4_heat_27 : decode cX4_heat 27 = .ok (.iload_n 2, 1) := dk_28 (dk_at dksX4_heat_1 5 rfl rfl)
theorem dX4_heat_28 : decode cX4_heat 28 = .ok (.bipush 25, 2) := dk_16 25 (dk_at dksX4_heat_1 6 rfl rfl)
theorem dX4_heat_30 : decode cX4_heat 30 = .ok (.if_icmp .ge 162, 3) := dk_162 0 162 (dk_at dksX4_heat_1 8 rfl rfl)
theorem dX4_heat_33 : decode cX4_heat 33 = .ok (.aload_n 0, 1) := dk_42 (dk_at dksX4_heat_1 11 rfl rfl)
theorem dX4_heat_34 : decode cX4_heat 34 = .ok (.iload_n 2, 1) := dk_28 (dk_at dksX4_heat_1 12 rfl rfl)
theorem dX4_heat_35 : decode cX4_heat 35 = .ok (.invokevirtual 142, 3) := dk_182 0 142 (dk_at dksX4_heat_1 13 rfl rfl)
theorem dX4_heat_38 : decode cX4_heat 38 = .ok (.ifCond .eq 8, 3) := dk_153 0 8 (dk_at dksX4_heat_1 16 rfl rfl)
theorem dX4_heat_41 : decode cX4_heat 41 = .ok (.bipush 30, 2) := dk_16 30 (dk_at dksX4_heat_1 19 rfl rfl)
theorem dX4_heat_43 : decode cX4_heat 43 = .ok (.goto 23, 3) := dk_167 0 23 (dk_at dksX4_heat_1 21 rfl rfl)
theorem dX4_heat_46 : decode cX4_heat 46 = .ok (.bipush 60, 2) := dk_16 60 (dk_at dksX4_heat_2 0 rfl rfl)
theorem dX4_heat_48 : decode cX4_heat 48 = .ok (.iconst 2, 1) := dk_5 (dk_at dksX4_heat_2 2 rfl rfl)
theorem dX4_heat_49 : decode cX4_heat 49 = .ok (.aload_n 0, 1) := dk_42 (dk_at dksX4_heat_2 3 rfl rfl)
theorem dX4_heat_50 : decode cX4_heat 50 = .ok (.getfield 16, 3) := dk_180 0 16 (dk_at dksX4_heat_2 4 rfl rfl)
theorem dX4_heat_53 : decode cX4_heat 53 = .ok (.iload_n 2, 1) := dk_28 (dk_at dksX4_heat_2 7 rfl rfl)
theorem dX4_heat_54 : decode cX4_heat 54 = .ok (.iaload, 1) := dk_46 (dk_at dksX4_heat_2 8 rfl rfl)
theorem dX4_heat_55 : decode cX4_heat 55 = .ok (.iadd, 1) := dk_96 (dk_at dksX4_heat_2 9 rfl rfl)
theorem dX4_heat_56 : decode cX4_heat 56 = .ok (.iconst 2, 1) := dk_5 (dk_at dksX4_heat_2 10 rfl rfl)
theorem dX4_heat_57 : decode cX4_heat 57 = .ok (.aload_n 0, 1) := dk_42 (dk_at dksX4_heat_2 11 rfl rfl)
theorem dX4_heat_58 : decode cX4_heat 58 = .ok (.getfield 19, 3) := dk_180 0 19 (dk_at dksX4_heat_2 12 rfl rfl)
theorem dX4_heat_61 : decode cX4_heat 61 = .ok (.iload_n 2, 1) := dk_28 (dk_at dksX4_heat_2 15 rfl rfl)
theorem dX4_heat_62 : decode cX4_heat 62 = .ok (.iaload, 1) := dk_46 (dk_at dksX4_heat_2 16 rfl rfl)
theorem dX4_heat_63 : decode cX4_heat 63 = .ok (.imul, 1) := dk_104 (dk_at dksX4_heat_2 17 rfl rfl)
theorem dX4_heat_64 : decode cX4_heat 64 = .ok (.iadd, 1) := dk_96 (dk_at dksX4_heat_2 18 rfl rfl)
theorem dX4_heat_65 : decode cX4_heat 65 = .ok (.idiv, 1) := dk_108 (dk_at dksX4_heat_2 19 rfl rfl)
theorem dX4_heat_66 : decode cX4_heat 66 = .ok (.istore_n 3, 1) := dk_62 (dk_at dksX4_heat_2 20 rfl rfl)
theorem dX4_heat_67 : decode cX4_heat 67 = .ok (.aload_n 0, 1) := dk_42 (dk_at dksX4_heat_2 21 rfl rfl)
theorem dX4_heat_68 : decode cX4_heat 68 = .ok (.iload_n 2, 1) := dk_28 (dk_at dksX4_heat_2 22 rfl rfl)
theorem dX4_heat_69 : decode cX4_heat 69 = .ok (.invokevirtual 142, 3) := dk_182 0 142 (dk_at dksX4_heat_3 0 rfl rfl)
theorem dX4_heat_72 : decode cX4_heat 72 = .ok (.ifCond .eq 11, 3) := dk_153 0 11 (dk_at dksX4_heat_3 3 rfl rfl)
theorem dX4_heat_75 : decode cX4_heat 75 = .ok (.iconst 0, 1) := dk_3 (dk_at dksX4_heat_3 6 rfl rfl)
theorem dX4_heat_76 : decode cX4_heat 76 = .ok (.iload_n 1, 1) := dk_27 (dk_at dksX4_heat_3 7 rfl rfl)
theorem dX4_heat_77 : decode cX4_heat 77 = .ok (.invokestatic 145, 3) := dk_184 0 145 (dk_at dksX4_heat_3 8 rfl rfl)
theorem dX4_heat_80 : decode cX4_heat 80 = .ok (.goto 4, 3) := dk_167 0 4 (dk_at dksX4_heat_3 11 rfl rfl)
theorem dX4_heat_83 : decode cX4_heat 83 = .ok (.iload_n 1, 1) := dk_27 (dk_at dksX4_heat_3 14 rfl rfl)
theorem dX4_heat_84 : decode cX4_heat 84 = .ok (.istore 4, 2) := dk_54 4 (dk_at dksX4_heat_3 15 rfl rfl)
theorem dX4_heat_86 : decode cX4_heat 86 = .ok (.aload_n 0, 1) := dk_42 (dk_at dksX4_heat_3 17 rfl rfl)
theorem dX4_heat_87 : decode cX4_heat 87 = .ok (.iconst 5, 1) := dk_8 (dk_at dksX4_heat_3 18 rfl rfl)
theorem dX4_heat_88 : decode cX4_heat 88 = .ok (.iload_n 2, 1) := dk_28 (dk_at dksX4_heat_3 19 rfl rfl)
theorem dX4_heat_89 : decode cX4_heat 89 = .ok (.imul, 1) := dk_104 (dk_at dksX4_heat_3 20 rfl rfl)
theorem dX4_heat_90 : decode cX4_heat 90 = .ok (.iload_n 3, 1) := dk_29 (dk_at dksX4_heat_3 21 rfl rfl)
theorem dX4_heat_91 : decode cX4_heat 91 = .ok (.iload 4, 2) := dk_21 4 (dk_at dksX4_heat_3 22 rfl rfl)
theorem dX4_heat_93 : decode cX4_heat 93 = .ok (.aload_n 0, 1) := dk_42 (dk_at dksX4_heat_4 0 rfl rfl)
theorem dX4_heat_94 : decode cX4_heat 94 = .ok (.getfield 40, 3) := dk_180 0 40 (dk_at dksX4_heat_4 1 rfl rfl)
theorem dX4_heat_97 : decode cX4_heat 97 = .ok (.iconst 5, 1) := dk_8 (dk_at dksX4_heat_4 4 rfl rfl)
theorem dX4_heat_98 : decode cX4_heat 98 = .ok (.iload_n 2, 1) := dk_28 (dk_at dksX4_heat_4 5 rfl rfl)
theorem dX4_heat_99 : decode cX4_heat 99 = .ok (.imul, 1) := dk_104 (dk_at dksX4_heat_4 6 rfl rfl)
theorem dX4_heat_100 : decode cX4_heat 100 = .ok (.iaload, 1) := dk_46 (dk_at dksX4_heat_4 7 rfl rfl)
theorem dX4_heat_101 : decode cX4_heat 101 = .ok (.isub, 1) := dk_100 (dk_at dksX4_heat_4 8 rfl rfl)
theorem dX4_heat_102 : decode cX4_heat 102 = .ok (.imul, 1) := dk_104 (dk_at dksX4_heat_4 9 rfl rfl)
theorem dX4_heat_103 : decode cX4_heat 103 = .ok (.invokevirtual 148, 3) := dk_182 0 148 (dk_at dksX4_heat_4 10 rfl rfl)
theorem dX4_heat_106 : decode cX4_heat 106 = .ok (.iconst 5, 1) := dk_8 (dk_at dksX4_heat_4 13 rfl rfl)
theorem dX4_heat_107 : decode cX4_heat 107 = .ok (.iload_n 2, 1) := dk_28 (dk_at dksX4_heat_4 14 rfl rfl)
theorem dX4_heat_108 : decode cX4_heat 108 = .ok (.imul, 1) := dk_104 (dk_at dksX4_heat_4 15 rfl rfl)
theorem dX4_heat_109 : decode cX4_heat 109 = .ok (.istore 5, 2) := dk_54 5 (dk_at dksX4_heat_4 16 rfl rfl)
theorem dX4_heat_111 : decode cX4_heat 111 = .ok (.iload 5, 2) := dk_21 5 (dk_at dksX4_heat_4 18 rfl rfl)
theorem dX4_heat_113 : decode cX4_heat 113 = .ok (.iconst 5, 1) := dk_8 (dk_at dksX4_heat_4 20 rfl rfl)
theorem dX4_heat_114 : decode cX4_heat 114 = .ok (.iload_n 2, 1) := dk_28 (dk_at dksX4_heat_4 21 rfl rfl)
theorem dX4_heat_115 : decode cX4_heat 115 = .ok (.imul, 1) := dk_104 (dk_at dksX4_heat_4 22 rfl rfl)
theorem dX4_heat_116 : decode cX4_heat 116 = .ok (.iconst 4, 1) := dk_7 (dk_at dksX4_heat_4 23 rfl rfl)
theorem dX4_heat_117 : decode cX4_heat 117 = .ok (.iadd, 1) := dk_96 (dk_at dksX4_heat_5 0 rfl rfl)
theorem dX4_heat_118 : decode cX4_heat 118 = .ok (.if_icmp .ge 57, 3) := dk_162 0 57 (dk_at dksX4_heat_5 1 rfl rfl)
theorem dX4_heat_121 : decode cX4_heat 121 = .ok (.bipush 20, 2) := dk_16 20 (dk_at dksX4_heat_5 4 rfl rfl)
theorem dX4_heat_123 : decode cX4_heat 123 = .ok (.aload_n 0, 1) := dk_42 (dk_at dksX4_heat_5 6 rfl rfl)
theorem dX4_heat_124 : decode cX4_heat 124 = .ok (.getfield 40, 3) := dk_180 0 40 (dk_at dksX4_heat_5 7 rfl rfl)
theorem dX4_heat_127 : decode cX4_heat 127 = .ok (.iload 5, 2) := dk_21 5 (dk_at dksX4_heat_5 10 rfl rfl)
theorem dX4_heat_129 : decode cX4_heat 129 = .ok (.iaload, 1) := dk_46 (dk_at dksX4_heat_5 12 rfl rfl)
theorem dX4_heat_130 : decode cX4_heat 130 = .ok (.aload_n 0, 1) := dk_42 (dk_at dksX4_heat_5 13 rfl rfl)
theorem dX4_heat_131 : decode cX4_heat 131 = .ok (.getfield 40, 3) := dk_180 0 40 (dk_at dksX4_heat_5 14 rfl rfl)
theorem dX4_heat_134 : decode cX4_heat 134 = .ok (.iload 5, 2) := dk_21 5 (dk_at dksX4_heat_5 17 rfl rfl)
theorem dX4_heat_136 : decode cX4_heat 136 = .ok (.iconst 1, 1) := dk_4 (dk_at dksX4_heat_5 19 rfl rfl)
theorem dX4_heat_137 : decode cX4_heat 137 = .ok (.iadd, 1) := dk_96 (dk_at dksX4_heat_5 20 rfl rfl)
theorem dX4_heat_138 : decode cX4_heat 138 = .ok (.iaload, 1) := dk_46 (dk_at dksX4_heat_5 21 rfl rfl)
theorem dX4_heat_139 : decode cX4_heat 139 = .ok (.isub, 1) := dk_100 (dk_at dksX4_heat_5 22 rfl rfl)
theorem dX4_heat_140 : decode cX4_heat 140 = .ok (.imul, 1) := dk_104 (dk_at dksX4_heat_5 23 rfl rfl)
theorem dX4_heat_141 : decode cX4_heat 141 = .ok (.istore 6, 2) := dk_54 6 (dk_at dksX4_heat_6 0 rfl rfl)
theorem dX4_heat_143 : decode cX4_heat 143 = .ok (.aload_n 0, 1) := dk_42 (dk_at dksX4_heat_6 2 rfl rfl)
theorem dX4_heat_144 : decode cX4_heat 144 = .ok (.getfield 34, 3) := dk_180 0 34 (dk_at dksX4_heat_6 3 rfl rfl)
theorem dX4_heat_147 : decode cX4_heat 147 = .ok (.iload 5, 2) := dk_21 5 (dk_at dksX4_heat_6 6 rfl rfl)
theorem dX4_heat_149 : decode cX4_heat 149 = .ok (.dup2, 1) := dk_92 (dk_at dksX4_heat_6 8 rfl rfl)
theorem dX4_heat_150 : decode cX4_heat 150 = .ok (.iaload, 1) := dk_46 (dk_at dksX4_heat_6 9 rfl rfl)
theorem dX4_heat_151 : decode cX4_heat 151 = .ok (.iload 6, 2) := dk_21 6 (dk_at dksX4_heat_6 10 rfl rfl)
theorem dX4_heat_153 : decode cX4_heat 153 = .ok (.isub, 1) := dk_100 (dk_at dksX4_heat_6 12 rfl rfl)
theorem dX4_heat_154 : decode cX4_heat 154 = .ok (.iastore, 1) := dk_79 (dk_at dksX4_heat_6 13 rfl rfl)
theorem dX4_heat_155 : decode cX4_heat 155 = .ok (.aload_n 0, 1) := dk_42 (dk_at dksX4_heat_6 14 rfl rfl)
theorem dX4_heat_156 : decode cX4_heat 156 = .ok (.getfield 34, 3) := dk_180 0 34 (dk_at dksX4_heat_6 15 rfl rfl)
theorem dX4_heat_159 : decode cX4_heat 159 = .ok (.iload 5, 2) := dk_21 5 (dk_at dksX4_heat_6 18 rfl rfl)
theorem dX4_heat_161 : decode cX4_heat 161 = .ok (.iconst 1, 1) := dk_4 (dk_at dksX4_heat_6 20 rfl rfl)
theorem dX4_heat_162 : decode cX4_heat 162 = .ok (.iadd, 1) := dk_96 (dk_at dksX4_heat_6 21 rfl rfl)
theorem dX4_heat_163 : decode cX4_heat 163 = .ok (.dup2, 1) := dk_92 (dk_at dksX4_heat_6 22 rfl rfl)
theorem dX4_heat_164 : decode cX4_heat 164 = .ok (.iaload, 1) := dk_46 (dk_at dksX4_heat_6 23 rfl rfl)
theorem dX4_heat_165 : decode cX4_heat 165 = .ok (.iload 6, 2) := dk_21 6 (dk_at dksX4_heat_7 0 rfl rfl)
theorem dX4_heat_167 : decode cX4_heat 167 = .ok (.iadd, 1) := dk_96 (dk_at dksX4_heat_7 2 rfl rfl)
theorem dX4_heat_168 : decode cX4_heat 168 = .ok (.iastore, 1) := dk_79 (dk_at dksX4_heat_7 3 rfl rfl)
theorem dX4_heat_169 : decode cX4_heat 169 = .ok (.iinc 5 1, 3) := dk_132 5 1 (dk_at dksX4_heat_7 4 rfl rfl)
theorem dX4_heat_172 : decode cX4_heat 172 = .ok (.goto (-61), 3) := dk_167 255 195 (dk_at dksX4_heat_7 7 rfl rfl)
theorem dX4_heat_175 : decode cX4_heat 175 = .ok (.aload_n 0, 1) := dk_42 (dk_at dksX4_heat_7 10 rfl rfl)
theorem dX4_heat_176 : decode cX4_heat 176 = .ok (.iconst 5, 1) := dk_8 (dk_at dksX4_heat_7 11 rfl rfl)
theorem dX4_heat_177 : decode cX4_heat 177 = .ok (.iload_n 2, 1) := dk_28 (dk_at dksX4_heat_7 12 rfl rfl)
theorem dX4_heat_178 : decode cX4_heat 178 = .ok (.imul, 1) := dk_104 (dk_at dksX4_heat_7 13 rfl rfl)
theorem dX4_heat_179 : decode cX4_heat 179 = .ok (.iconst 4, 1) := dk_7 (dk_at dksX4_heat_7 14 rfl rfl)
theorem dX4_heat_180 : decode cX4_heat 180 = .ok (.iadd, 1) := dk_96 (dk_at dksX4_heat_7 15 rfl rfl)
theorem dX4_heat_181 : decode cX4_heat 181 = .ok (.bipush 10, 2) := dk_16 10 (dk_at dksX4_heat_7 16 rfl rfl)
theorem dX4_heat_183 : decode cX4_heat 183 = .ok (.invokevirtual 148, 3) := dk_182 0 148 (dk_at dksX4_heat_7 18 rfl rfl)
theorem dX4_heat_186 : decode cX4_heat 186 = .ok (.iinc 2 1, 3) := dk_132 2 1 (dk_at dksX4_heat_7 21 rfl rfl)
theorem dX4_heat_189 : decode cX4_heat 189 = .ok (.goto (-162), 3) := dk_167 255 94 (dk_at dksX4_heat_8 0 rfl rfl)
theorem dX4_heat_192 : decode cX4_heat 192 = .ok (.iconst 0, 1) := dk_3 (dk_at dksX4_heat_8 3 rfl rfl)
theorem dX4_heat_193 : decode cX4_heat 193 = .ok (.istore_n 2, 1) := dk_61 (dk_at dksX4_heat_8 4 rfl rfl)
theorem dX4_heat_194 : decode cX4_heat 194 = .ok (.iload_n 2, 1) := dk_28 (dk_at dksX4_heat_8 5 rfl rfl)
theorem dX4_heat_195 : decode cX4_heat 195 = .ok (.aload_n 0, 1) := dk_42 (dk_at dksX4_heat_8 6 rfl rfl)
theorem dX4_heat_196 : decode cX4_heat 196 = .ok (.getfield 132, 3) := dk_180 0 132 (dk_at dksX4_heat_8 7 rfl rfl)
theorem dX4_heat_199 : decode cX4_heat 199 = .ok (.if_icmp .ge 41, 3) := dk_162 0 41 (dk_at dksX4_heat_8 10 rfl rfl)
theorem dX4_heat_202 : decode cX4_heat 202 = .ok (.aload_n 0, 1) := dk_42 (dk_at dksX4_heat_8 13 rfl rfl)
theorem dX4_heat_203 : decode cX4_heat 203 = .ok (.iconst 5, 1) := dk_8 (dk_at dksX4_heat_8 14 rfl rfl)
theorem dX4_heat_204 : decode cX4_heat 204 = .ok (.aload_n 0, 1) := dk_42 (dk_at dksX4_heat_8 15 rfl rfl)
theorem dX4_heat_205 : decode cX4_heat 205 = .ok (.getfield 43, 3) := dk_180 0 43 (dk_at dksX4_heat_8 16 rfl rfl)
theorem dX4_heat_208 : decode cX4_heat 208 = .ok (.iload_n 2, 1) := dk_28 (dk_at dksX4_heat_8 19 rfl rfl)
theorem dX4_heat_209 : decode cX4_heat 209 = .ok (.iaload, 1) := dk_46 (dk_at dksX4_heat_8 20 rfl rfl)
theorem dX4_heat_210 : decode cX4_heat 210 = .ok (.imul, 1) := dk_104 (dk_at dksX4_heat_8 21 rfl rfl)
theorem dX4_heat_211 : decode cX4_heat 211 = .ok (.aload_n 0, 1) := dk_42 (dk_at dksX4_heat_8 22 rfl rfl)
theorem dX4_heat_212 : decode cX4_heat 212 = .ok (.getfield 49, 3) := dk_180 0 49 (dk_at dksX4_heat_9 0 rfl rfl)
theorem dX4_heat_215 : decode cX4_heat 215 = .ok (.iload_n 2, 1) := dk_28 (dk_at dksX4_heat_9 3 rfl rfl)
theorem dX4_heat_216 : decode cX4_heat 216 = .ok (.baload, 1) := dk_51 (dk_at dksX4_heat_9 4 rfl rfl)
theorem dX4_heat_217 : decode cX4_heat 217 = .ok (.ifCond .eq 11, 3) := dk_153 0 11 (dk_at dksX4_heat_9 5 rfl rfl)
theorem dX4_heat_220 : decode cX4_heat 220 = .ok (.iload_n 1, 1) := dk_27 (dk_at dksX4_heat_9 8 rfl rfl)
theorem dX4_heat_221 : decode cX4_heat 221 = .ok (.ifCond .ge 7, 3) := dk_156 0 7 (dk_at dksX4_heat_9 9 rfl rfl)
theorem dX4_heat_224 : decode cX4_heat 224 = .ok (.iconst 0, 1) := dk_3 (dk_at dksX4_heat_9 12 rfl rfl)
theorem dX4_heat_225 : decode cX4_heat 225 = .ok (.goto 6, 3) := dk_167 0 6 (dk_at dksX4_heat_9 13 rfl rfl)
theorem dX4_heat_228 : decode cX4_heat 228 = .ok (.sipush 300, 3) := dk_17 1 44 (dk_at dksX4_heat_9 16 rfl rfl)
theorem dX4_heat_231 : decode cX4_heat 231 = .ok (.invokevirtual 148, 3) := dk_182 0 148 (dk_at dksX4_heat_9 19 rfl rfl)
theorem dX4_heat_234 : decode cX4_heat 234 = .ok (.iinc 2 1, 3) := dk_132 2 1 (dk_at dksX4_heat_10 0 rfl rfl)
theorem dX4_heat_237 : decode cX4_heat 237 = .ok (.goto (-43), 3) := dk_167 255 213 (dk_at dksX4_heat_10 3 rfl rfl)
theorem dX4_heat_240 : decode cX4_heat 240 = .ok (.return_, 1) := dk_177 (dk_at dksX4_heat_10 6 rfl rfl)
abbrev cX4_degreesOf : ByteArray := prog_10_method_8_code
def yX4_degreesOf : MethodName := ⟨RX4, "degreesOf", "(I)I"⟩
def dkwX4_degreesOf_2 : List UInt8 := [180, 0, 34, 27, 46, 28, 100, 16, 100, 108, 167, 0, 4, 3, 172]
abbrev dktX4_degreesOf_2 : List UInt8 := dkwX4_degreesOf_2 ++ []
def dkwX4_degreesOf_1 : List UInt8 := [156, 0, 13, 42, 180, 0, 34, 27, 46, 16, 100, 108, 172, 42, 180, 0, 34, 27, 46, 28, 164, 0, 17, 42]
abbrev dktX4_degreesOf_1 : List UInt8 := dkwX4_degreesOf_1 ++ dktX4_degreesOf_2
def dkwX4_degreesOf_0 : List UInt8 := [17, 3, 232, 42, 180, 0, 28, 27, 46, 42, 180, 0, 31, 27, 46, 96, 104, 61, 42, 180, 0, 34, 27, 46]
abbrev dktX4_degreesOf_0 : List UInt8 := dkwX4_degreesOf_0 ++ dktX4_degreesOf_1
theorem dksX4_degreesOf_0 : cX4_degreesOf.data.toList.drop 0 = dktX4_degreesOf_0 := by decide +kernel
theorem dksX4_degreesOf_1 : cX4_degreesOf.data.toList.drop 24 = dktX4_degreesOf_1 := dk_seg dksX4_degreesOf_0 24 rfl rfl
theorem dksX4_degreesOf_2 : cX4_degreesOf.data.toList.drop 48 = dktX4_degreesOf_2 := dk_seg dksX4_degreesOf_1 24 rfl rfl
theorem dX4_degreesOf_0 : decode cX4_degreesOf 0 = .ok (.sipush 1000, 3) := dk_17 3 232 (dk_at dksX4_degreesOf_0 0 rfl rfl)
theorem dX4_degreesOf_3 : decode cX4_degreesOf 3 = .ok (.aload_n 0, 1) := dk_42 (dk_at dksX4_degreesOf_0 3 rfl rfl)
theorem dX4_degreesOf_4 : decode cX4_degreesOf 4 = .ok (.getfield 28, 3) := dk_180 0 28 (dk_at dksX4_degreesOf_0 4 rfl rfl)
theorem dX4_degreesOf_7 : decode cX4_degreesOf 7 = .ok (.iload_n 1, 1) := dk_27 (dk_at dksX4_degreesOf_0 7 rfl rfl)
theorem dX4_degreesOf_8 : decode cX4_degreesOf 8 = .ok (.iaload, 1) := dk_46 (dk_at dksX4_degreesOf_0 8 rfl rfl)
theorem dX4_degreesOf_9 : decode cX4_degreesOf 9 = .ok (.aload_n 0, 1) := dk_42 (dk_at dksX4_degreesOf_0 9 rfl rfl)
theorem dX4_degreesOf_10 : decode cX4_degreesOf 10 = .ok (.getfield 31, 3) := dk_180 0 31 (dk_at dksX4_degreesOf_0 10 rfl rfl)
theorem dX4_degreesOf_13 : decode cX4_degreesOf 13 = .ok (.iload_n 1, 1) := dk_27 (dk_at dksX4_degreesOf_0 13 rfl rfl)
theorem dX4_degreesOf_14 : decode cX4_degreesOf 14 = .ok (.iaload, 1) := dk_46 (dk_at dksX4_degreesOf_0 14 rfl rfl)
theorem dX4_degreesOf_15 : decode cX4_degreesOf 15 = .ok (.iadd, 1) := dk_96 (dk_at dksX4_degreesOf_0 15 rfl rfl)
theorem dX4_degreesOf_16 : decode cX4_degreesOf 16 = .ok (.imul, 1) := dk_104 (dk_at dksX4_degreesOf_0 16 rfl rfl)
theorem dX4_degreesOf_17 : decode cX4_degreesOf 17 = .ok (.istore_n 2, 1) := dk_61 (dk_at dksX4_degreesOf_0 17 rfl rfl)
theorem dX4_degreesOf_18 : decode cX4_degreesOf 18 = .ok (.aload_n 0, 1) := dk_42 (dk_at dksX4_degreesOf_0 18 rfl rfl)
theorem dX4_degreesOf_19 : decode cX4_degreesOf 19 = .ok (.getfield 34, 3) := dk_180 0 34 (dk_at dksX4_degreesOf_0 19 rfl rfl)
theorem dX4_degreesOf_22 : decode cX4_degreesOf 22 = .ok (.iload_n 1, 1) := dk_27 (dk_at dksX4_degreesOf_0 22 rfl rfl)
theorem dX4_degreesOf_23 : decode cX4_degreesOf 23 = .ok (.iaload, 1) := dk_46 (dk_at dksX4_degreesOf_0 23 rfl rfl)
theorem dX4_degreesOf_24 : decode cX4_degreesOf 24 = .ok (.ifCond .ge 13, 3) := dk_156 0 13 (dk_at dksX4_degreesOf_1 0 rfl rfl)
theorem dX4_degreesOf_27 : decode cX4_degreesOf 27 = .ok (.aload_n 0, 1) := dk_42 (dk_at dksX4_degreesOf_1 3 rfl rfl)
theorem dX4_degreesOf_28 : decode cX4_degreesOf 28 = .ok (.getfield 34, 3) := dk_180 0 34 (dk_at dksX4_degreesOf_1 4 rfl rfl)
theorem dX4_degreesOf_31 : decode cX4_degreesOf 31 = .ok (.iload_n 1, 1) := dk_27 (dk_at dksX4_degreesOf_1 7 rfl rfl)
theorem dX4_degreesOf_32 : decode cX4_degreesOf 32 = .ok (.iaload, 1) := dk_46 (dk_at dksX4_degreesOf_1 8 rfl rfl)
theorem dX4_degreesOf_33 : decode cX4_degreesOf 33 = .ok (.bipush 100, 2) := dk_16 100 (dk_at dksX4_degreesOf_1 9 rfl rfl)
theorem dX4_degreesOf_35 : decode cX4_degreesOf 35 = .ok (.idiv, 1) := dk_108 (dk_at dksX4_degreesOf_1 11 rfl rfl)
theorem dX4_degreesOf_36 : decode cX4_degreesOf 36 = .ok (.ireturn, 1) := dk_172 (dk_at dksX4_degreesOf_1 12 rfl rfl)
theorem dX4_degreesOf_37 : decode cX4_degreesOf 37 = .ok (.aload_n 0, 1) := dk_42 (dk_at dksX4_degreesOf_1 13 rfl rfl)
theorem dX4_degreesOf_38 : decode cX4_degreesOf 38 = .ok (.getfield 34, 3) := dk_180 0 34 (dk_at dksX4_degreesOf_1 14 rfl rfl)
theorem dX4_degreesOf_41 : decode cX4_degreesOf 41 = .ok (.iload_n 1, 1) := dk_27 (dk_at dksX4_degreesOf_1 17 rfl rfl)
theorem dX4_degreesOf_42 : decode cX4_degreesOf 42 = .ok (.iaload, 1) := dk_46 (dk_at dksX4_degreesOf_1 18 rfl rfl)
theorem dX4_degreesOf_43 : decode cX4_degreesOf 43 = .ok (.iload_n 2, 1) := dk_28 (dk_at dksX4_degreesOf_1 19 rfl rfl)
theorem dX4_degreesOf_44 : decode cX4_degreesOf 44 = .ok (.if_icmp .le 17, 3) := dk_164 0 17 (dk_at dksX4_degreesOf_1 20 rfl rfl)
theorem dX4_degreesOf_47 : decode cX4_degreesOf 47 = .ok (.aload_n 0, 1) := dk_42 (dk_at dksX4_degreesOf_1 23 rfl rfl)
theorem dX4_degreesOf_48 : decode cX4_degreesOf 48 = .ok (.getfield 34, 3) := dk_180 0 34 (dk_at dksX4_degreesOf_2 0 rfl rfl)
theorem dX4_degreesOf_51 : decode cX4_degreesOf 51 = .ok (.iload_n 1, 1) := dk_27 (dk_at dksX4_degreesOf_2 3 rfl rfl)
theorem dX4_degreesOf_52 : decode cX4_degreesOf 52 = .ok (.iaload, 1) := dk_46 (dk_at dksX4_degreesOf_2 4 rfl rfl)
theorem dX4_degreesOf_53 : decode cX4_degreesOf 53 = .ok (.iload_n 2, 1) := dk_28 (dk_at dksX4_degreesOf_2 5 rfl rfl)
theorem dX4_degreesOf_54 : decode cX4_degreesOf 54 = .ok (.isub, 1) := dk_100 (dk_at dksX4_degreesOf_2 6 rfl rfl)
theorem dX4_degreesOf_55 : decode cX4_degreesOf 55 = .ok (.bipush 100, 2) := dk_16 100 (dk_at dksX4_degreesOf_2 7 rfl rfl)
theorem dX4_degreesOf_57 : decode cX4_degreesOf 57 = .ok (.idiv, 1) := dk_108 (dk_at dksX4_degreesOf_2 9 rfl rfl)
theorem dX4_degreesOf_58 : decode cX4_degreesOf 58 = .ok (.goto 4, 3) := dk_167 0 4 (dk_at dksX4_degreesOf_2 10 rfl rfl)
theorem dX4_degreesOf_61 : decode cX4_degreesOf 61 = .ok (.iconst 0, 1) := dk_3 (dk_at dksX4_degreesOf_2 13 rfl rfl)
theorem dX4_degreesOf_62 : decode cX4_degreesOf 62 = .ok (.ireturn, 1) := dk_172 (dk_at dksX4_degreesOf_2 14 rfl rfl)
abbrev cX4_isLake : ByteArray := prog_10_method_10_code
def yX4_isLake : MethodName := ⟨RX4, "isLake", "(I)Z"⟩
def dkwX4_isLake_0 : List UInt8 := [42, 180, 0, 13, 27, 46, 5, 164, 0, 7, 4, 167, 0, 4, 3, 172]
abbrev dktX4_isLake_0 : List UInt8 := dkwX4_isLake_0 ++ []
theorem dksX4_isLake_0 : cX4_isLake.data.toList.drop 0 = dktX4_isLake_0 := by decide +kernel
theorem dX4_isLake_0 : decode cX4_isLake 0 = .ok (.aload_n 0, 1) := dk_42 (dk_at dksX4_isLake_0 0 rfl rfl)
theorem dX4_isLake_1 : decode cX4_isLake 1 = .ok (.getfield 13, 3) := dk_180 0 13 (dk_at dksX4_isLake_0 1 rfl rfl)
theorem dX4_isLake_4 : decode cX4_isLake 4 = .ok (.iload_n 1, 1) := dk_27 (dk_at dksX4_isLake_0 4 rfl rfl)
theorem dX4_isLake_5 : decode cX4_isLake 5 = .ok (.iaload, 1) := dk_46 (dk_at dksX4_isLake_0 5 rfl rfl)
theorem dX4_isLake_6 : decode cX4_isLake 6 = .ok (.iconst 2, 1) := dk_5 (dk_at dksX4_isLake_0 6 rfl rfl)
theorem dX4_isLake_7 : decode cX4_isLake 7 = .ok (.if_icmp .le 7, 3) := dk_164 0 7 (dk_at dksX4_isLake_0 7 rfl rfl)
theorem dX4_isLake_10 : decode cX4_isLake 10 = .ok (.iconst 1, 1) := dk_4 (dk_at dksX4_isLake_0 10 rfl rfl)
theorem dX4_isLake_11 : decode cX4_isLake 11 = .ok (.goto 4, 3) := dk_167 0 4 (dk_at dksX4_isLake_0 11 rfl rfl)
theorem dX4_isLake_14 : decode cX4_isLake 14 = .ok (.iconst 0, 1) := dk_3 (dk_at dksX4_isLake_0 14 rfl rfl)
theorem dX4_isLake_15 : decode cX4_isLake 15 = .ok (.ireturn, 1) := dk_172 (dk_at dksX4_isLake_0 15 rfl rfl)
abbrev cX4_greater : ByteArray := prog_10_method_7_code
def yX4_greater : MethodName := ⟨RX4, "greater", "(II)I"⟩
def dkwX4_greater_0 : List UInt8 := [26, 27, 164, 0, 7, 26, 167, 0, 4, 27, 172]
abbrev dktX4_greater_0 : List UInt8 := dkwX4_greater_0 ++ []
theorem dksX4_greater_0 : cX4_greater.data.toList.drop 0 = dktX4_greater_0 := by decide +kernel
theorem dX4_greater_0 : decode cX4_greater 0 = .ok (.iload_n 0, 1) := dk_26 (dk_at dksX4_greater_0 0 rfl rfl)
theorem dX4_greater_1 : decode cX4_greater 1 = .ok (.iload_n 1, 1) := dk_27 (dk_at dksX4_greater_0 1 rfl rfl)
theorem dX4_greater_2 : decode cX4_greater 2 = .ok (.if_icmp .le 7, 3) := dk_164 0 7 (dk_at dksX4_greater_0 2 rfl rfl)
theorem dX4_greater_5 : decode cX4_greater 5 = .ok (.iload_n 0, 1) := dk_26 (dk_at dksX4_greater_0 5 rfl rfl)
theorem dX4_greater_6 : decode cX4_greater 6 = .ok (.goto 4, 3) := dk_167 0 4 (dk_at dksX4_greater_0 6 rfl rfl)
theorem dX4_greater_9 : decode cX4_greater 9 = .ok (.iload_n 1, 1) := dk_27 (dk_at dksX4_greater_0 9 rfl rfl)
theorem dX4_greater_10 : decode cX4_greater 10 = .ok (.ireturn, 1) := dk_172 (dk_at dksX4_greater_0 10 rfl rfl)
abbrev cX4_bring : ByteArray := prog_10_method_16_code
def yX4_bring : MethodName := ⟨RX4, "bring", "(II)V"⟩
def dkwX4_bring_0 : List UInt8 := [42, 180, 0, 34, 27, 92, 46, 28, 96, 79, 42, 89, 180, 0, 76, 28, 133, 97, 181, 0, 76, 177]
abbrev dktX4_bring_0 : List UInt8 := dkwX4_bring_0 ++ []
theorem dksX4_bring_0 : cX4_bring.data.toList.drop 0 = dktX4_bring_0 := by decide +kernel
theorem dX4_bring_0 : decode cX4_bring 0 = .ok (.aload_n 0, 1) := dk_42 (dk_at dksX4_bring_0 0 rfl rfl)
theorem dX4_bring_1 : decode cX4_bring 1 = .ok (.getfield 34, 3) := dk_180 0 34 (dk_at dksX4_bring_0 1 rfl rfl)
theorem dX4_bring_4 : decode cX4_bring 4 = .ok (.iload_n 1, 1) := dk_27 (dk_at dksX4_bring_0 4 rfl rfl)
theorem dX4_bring_5 : decode cX4_bring 5 = .ok (.dup2, 1) := dk_92 (dk_at dksX4_bring_0 5 rfl rfl)
theorem dX4_bring_6 : decode cX4_bring 6 = .ok (.iaload, 1) := dk_46 (dk_at dksX4_bring_0 6 rfl rfl)
theorem dX4_bring_7 : decode cX4_bring 7 = .ok (.iload_n 2, 1) := dk_28 (dk_at dksX4_bring_0 7 rfl rfl)
theorem dX4_bring_8 : decode cX4_bring 8 = .ok (.iadd, 1) := dk_96 (dk_at dksX4_bring_0 8 rfl rfl)
theorem dX4_bring_9 : decode cX4_bring 9 = .ok (.iastore, 1) := dk_79 (dk_at dksX4_bring_0 9 rfl rfl)
theorem dX4_bring_10 : decode cX4_bring 10 = .ok (.aload_n 0, 1) := dk_42 (dk_at dksX4_bring_0 10 rfl rfl)
theorem dX4_bring_11 : decode cX4_bring 11 = .ok (.dup, 1) := dk_89 (dk_at dksX4_bring_0 11 rfl rfl)
theorem dX4_bring_12 : decode cX4_bring 12 = .ok (.getfield 76, 3) := dk_180 0 76 (dk_at dksX4_bring_0 12 rfl rfl)
theorem dX4_bring_15 : decode cX4_bring 15 = .ok (.iload_n 2, 1) := dk_28 (dk_at dksX4_bring_0 15 rfl rfl)
theorem dX4_bring_16 : decode cX4_bring 16 = .ok (.i2l, 1) := dk_133 (dk_at dksX4_bring_0 16 rfl rfl)
theorem dX4_bring_17 : decode cX4_bring 17 = .ok (.ladd, 1) := dk_97 (dk_at dksX4_bring_0 17 rfl rfl)
theorem dX4_bring_18 : decode cX4_bring 18 = .ok (.putfield 76, 3) := dk_181 0 76 (dk_at dksX4_bring_0 18 rfl rfl)
theorem dX4_bring_21 : decode cX4_bring 21 = .ok (.return_, 1) := dk_177 (dk_at dksX4_bring_0 21 rfl rfl)
abbrev cX4_sink : ByteArray := prog_10_method_18_code
def yX4_sink : MethodName := ⟨RX4, "sink", "(I)V"⟩
def dkwX4_sink_2 : List UInt8 := [92, 46, 28, 100, 79, 42, 180, 0, 13, 27, 8, 108, 92, 46, 28, 96, 79, 177]
abbrev dktX4_sink_2 : List UInt8 := dkwX4_sink_2 ++ []
def dkwX4_sink_1 : List UInt8 := [28, 100, 79, 42, 180, 0, 34, 27, 92, 46, 17, 3, 232, 28, 104, 100, 79, 42, 180, 0, 7, 27, 8, 108]
abbrev dktX4_sink_1 : List UInt8 := dkwX4_sink_1 ++ dktX4_sink_2
def dkwX4_sink_0 : List UInt8 := [3, 42, 27, 182, 0, 151, 42, 180, 0, 28, 27, 46, 100, 184, 0, 145, 61, 42, 180, 0, 31, 27, 92, 46]
abbrev dktX4_sink_0 : List UInt8 := dkwX4_sink_0 ++ dktX4_sink_1
theorem dksX4_sink_0 : cX4_sink.data.toList.drop 0 = dktX4_sink_0 := by decide +kernel
theorem dksX4_sink_1 : cX4_sink.data.toList.drop 24 = dktX4_sink_1 := dk_seg dksX4_sink_0 24 rfl rfl
theorem dksX4_sink_2 : cX4_sink.data.toList.drop 48 = dktX4_sink_2 := dk_seg dksX4_sink_1 24 rfl rfl
theorem dX4_sink_0 : decode cX4_sink 0 = .ok (.iconst 0, 1) := dk_3 (dk_at dksX4_sink_0 0 rfl rfl)
theorem dX4_sink_1 : decode cX4_sink 1 = .ok (.aload_n 0, 1) := dk_42 (dk_at dksX4_sink_0 1 rfl rfl)
theorem dX4_sink_2 : decode cX4_sink 2 = .ok (.iload_n 1, 1) := dk_27 (dk_at dksX4_sink_0 2 rfl rfl)
theorem dX4_sink_3 : decode cX4_sink 3 = .ok (.invokevirtual 151, 3) := dk_182 0 151 (dk_at dksX4_sink_0 3 rfl rfl)
theorem dX4_sink_6 : decode cX4_sink 6 = .ok (.aload_n 0, 1) := dk_42 (dk_at dksX4_sink_0 6 rfl rfl)
theorem dX4_sink_7 : decode cX4_sink 7 = .ok (.getfield 28, 3) := dk_180 0 28 (dk_at dksX4_sink_0 7 rfl rfl)
theorem dX4_sink_10 : decode cX4_sink 10 = .ok (.iload_n 1, 1) := dk_27 (dk_at dksX4_sink_0 10 rfl rfl)
theorem dX4_sink_11 : decode cX4_sink 11 = .ok (.iaload, 1) := dk_46 (dk_at dksX4_sink_0 11 rfl rfl)
theorem dX4_sink_12 : decode cX4_sink 12 = .ok (.isub, 1) := dk_100 (dk_at dksX4_sink_0 12 rfl rfl)
theorem dX4_sink_13 : decode cX4_sink 13 = .ok (.invokestatic 145, 3) := dk_184 0 145 (dk_at dksX4_sink_0 13 rfl rfl)
theorem dX4_sink_16 : decode cX4_sink 16 = .ok (.istore_n 2, 1) := dk_61 (dk_at dksX4_sink_0 16 rfl rfl)
theorem dX4_sink_17 : decode cX4_sink 17 = .ok (.aload_n 0, 1) := dk_42 (dk_at dksX4_sink_0 17 rfl rfl)
theorem dX4_sink_18 : decode cX4_sink 18 = .ok (.getfield 31, 3) := dk_180 0 31 (dk_at dksX4_sink_0 18 rfl rfl)
theorem dX4_sink_21 : decode cX4_sink 21 = .ok (.iload_n 1, 1) := dk_27 (dk_at dksX4_sink_0 21 rfl rfl)
theorem dX4_sink_22 : decode cX4_sink 22 = .ok (.dup2, 1) := dk_92 (dk_at dksX4_sink_0 22 rfl rfl)
theorem dX4_sink_23 : decode cX4_sink 23 = .ok (.iaload, 1) := dk_46 (dk_at dksX4_sink_0 23 rfl rfl)
theorem dX4_sink_24 : decode cX4_sink 24 = .ok (.iload_n 2, 1) := dk_28 (dk_at dksX4_sink_1 0 rfl rfl)
theorem dX4_sink_25 : decode cX4_sink 25 = .ok (.isub, 1) := dk_100 (dk_at dksX4_sink_1 1 rfl rfl)
theorem dX4_sink_26 : decode cX4_sink 26 = .ok (.iastore, 1) := dk_79 (dk_at dksX4_sink_1 2 rfl rfl)
theorem dX4_sink_27 : decode cX4_sink 27 = .ok (.aload_n 0, 1) := dk_42 (dk_at dksX4_sink_1 3 rfl rfl)
theorem dX4_sink_28 : decode cX4_sink 28 = .ok (.getfield 34, 3) := dk_180 0 34 (dk_at dksX4_sink_1 4 rfl rfl)
theorem dX4_sink_31 : decode cX4_sink 31 = .ok (.iload_n 1, 1) := dk_27 (dk_at dksX4_sink_1 7 rfl rfl)
theorem dX4_sink_32 : decode cX4_sink 32 = .ok (.dup2, 1) := dk_92 (dk_at dksX4_sink_1 8 rfl rfl)
theorem dX4_sink_33 : decode cX4_sink 33 = .ok (.iaload, 1) := dk_46 (dk_at dksX4_sink_1 9 rfl rfl)
theorem dX4_sink_34 : decode cX4_sink 34 = .ok (.sipush 1000, 3) := dk_17 3 232 (dk_at dksX4_sink_1 10 rfl rfl)
theorem dX4_sink_37 : decode cX4_sink 37 = .ok (.iload_n 2, 1) := dk_28 (dk_at dksX4_sink_1 13 rfl rfl)
theorem dX4_sink_38 : decode cX4_sink 38 = .ok (.imul, 1) := dk_104 (dk_at dksX4_sink_1 14 rfl rfl)
theorem dX4_sink_39 : decode cX4_sink 39 = .ok (.isub, 1) := dk_100 (dk_at dksX4_sink_1 15 rfl rfl)
theorem dX4_sink_40 : decode cX4_sink 40 = .ok (.iastore, 1) := dk_79 (dk_at dksX4_sink_1 16 rfl rfl)
theorem dX4_sink_41 : decode cX4_sink 41 = .ok (.aload_n 0, 1) := dk_42 (dk_at dksX4_sink_1 17 rfl rfl)
theorem dX4_sink_42 : decode cX4_sink 42 = .ok (.getfield 7, 3) := dk_180 0 7 (dk_at dksX4_sink_1 18 rfl rfl)
theorem dX4_sink_45 : decode cX4_sink 45 = .ok (.iload_n 1, 1) := dk_27 (dk_at dksX4_sink_1 21 rfl rfl)
theorem dX4_sink_46 : decode cX4_sink 46 = .ok (.iconst 5, 1) := dk_8 (dk_at dksX4_sink_1 22 rfl rfl)
theorem dX4_sink_47 : decode cX4_sink 47 = .ok (.idiv, 1) := dk_108 (dk_at dksX4_sink_1 23 rfl rfl)
theorem dX4_sink_48 : decode cX4_sink 48 = .ok (.dup2, 1) := dk_92 (dk_at dksX4_sink_2 0 rfl rfl)
theorem dX4_sink_49 : decode cX4_sink 49 = .ok (.iaload, 1) := dk_46 (dk_at dksX4_sink_2 1 rfl rfl)
theorem dX4_sink_50 : decode cX4_sink 50 = .ok (.iload_n 2, 1) := dk_28 (dk_at dksX4_sink_2 2 rfl rfl)
theorem dX4_sink_51 : decode cX4_sink 51 = .ok (.isub, 1) := dk_100 (dk_at dksX4_sink_2 3 rfl rfl)
theorem dX4_sink_52 : decode cX4_sink 52 = .ok (.iastore, 1) := dk_79 (dk_at dksX4_sink_2 4 rfl rfl)
theorem dX4_sink_53 : decode cX4_sink 53 = .ok (.aload_n 0, 1) := dk_42 (dk_at dksX4_sink_2 5 rfl rfl)
theorem dX4_sink_54 : decode cX4_sink 54 = .ok (.getfield 13, 3) := dk_180 0 13 (dk_at dksX4_sink_2 6 rfl rfl)
theorem dX4_sink_57 : decode cX4_sink 57 = .ok (.iload_n 1, 1) := dk_27 (dk_at dksX4_sink_2 9 rfl rfl)
theorem dX4_sink_58 : decode cX4_sink 58 = .ok (.iconst 5, 1) := dk_8 (dk_at dksX4_sink_2 10 rfl rfl)
theorem dX4_sink_59 : decode cX4_sink 59 = .ok (.idiv, 1) := dk_108 (dk_at dksX4_sink_2 11 rfl rfl)
theorem dX4_sink_60 : decode cX4_sink 60 = .ok (.dup2, 1) := dk_92 (dk_at dksX4_sink_2 12 rfl rfl)
theorem dX4_sink_61 : decode cX4_sink 61 = .ok (.iaload, 1) := dk_46 (dk_at dksX4_sink_2 13 rfl rfl)
theorem dX4_sink_62 : decode cX4_sink 62 = .ok (.iload_n 2, 1) := dk_28 (dk_at dksX4_sink_2 14 rfl rfl)
theorem dX4_sink_63 : decode cX4_sink 63 = .ok (.iadd, 1) := dk_96 (dk_at dksX4_sink_2 15 rfl rfl)
theorem dX4_sink_64 : decode cX4_sink 64 = .ok (.iastore, 1) := dk_79 (dk_at dksX4_sink_2 16 rfl rfl)
theorem dX4_sink_65 : decode cX4_sink 65 = .ok (.return_, 1) := dk_177 (dk_at dksX4_sink_2 17 rfl rfl)
abbrev cX4_melted : ByteArray := prog_10_method_9_code
def yX4_melted : MethodName := ⟨RX4, "melted", "(I)I"⟩
def dkwX4_melted_1 : List UInt8 := [180, 0, 31, 27, 46, 96, 42, 180, 0, 34, 27, 46, 17, 3, 232, 108, 184, 0, 98, 172]
abbrev dktX4_melted_1 : List UInt8 := dkwX4_melted_1 ++ []
def dkwX4_melted_0 : List UInt8 := [42, 180, 0, 34, 27, 46, 17, 3, 232, 162, 0, 7, 3, 167, 0, 29, 42, 180, 0, 28, 27, 46, 42]
abbrev dktX4_melted_0 : List UInt8 := dkwX4_melted_0 ++ dktX4_melted_1
theorem dksX4_melted_0 : cX4_melted.data.toList.drop 0 = dktX4_melted_0 := by decide +kernel
theorem dksX4_melted_1 : cX4_melted.data.toList.drop 23 = dktX4_melted_1 := dk_seg dksX4_melted_0 23 rfl rfl
theorem dX4_melted_0 : decode cX4_melted 0 = .ok (.aload_n 0, 1) := dk_42 (dk_at dksX4_melted_0 0 rfl rfl)
theorem dX4_melted_1 : decode cX4_melted 1 = .ok (.getfield 34, 3) := dk_180 0 34 (dk_at dksX4_melted_0 1 rfl rfl)
theorem dX4_melted_4 : decode cX4_melted 4 = .ok (.iload_n 1, 1) := dk_27 (dk_at dksX4_melted_0 4 rfl rfl)
theorem dX4_melted_5 : decode cX4_melted 5 = .ok (.iaload, 1) := dk_46 (dk_at dksX4_melted_0 5 rfl rfl)
theorem dX4_melted_6 : decode cX4_melted 6 = .ok (.sipush 1000, 3) := dk_17 3 232 (dk_at dksX4_melted_0 6 rfl rfl)
theorem dX4_melted_9 : decode cX4_melted 9 = .ok (.if_icmp .ge 7, 3) := dk_162 0 7 (dk_at dksX4_melted_0 9 rfl rfl)
theorem dX4_melted_12 : decode cX4_melted 12 = .ok (.iconst 0, 1) := dk_3 (dk_at dksX4_melted_0 12 rfl rfl)
theorem dX4_melted_13 : decode cX4_melted 13 = .ok (.goto 29, 3) := dk_167 0 29 (dk_at dksX4_melted_0 13 rfl rfl)
theorem dX4_melted_16 : decode cX4_melted 16 = .ok (.aload_n 0, 1) := dk_42 (dk_at dksX4_melted_0 16 rfl rfl)
theorem dX4_melted_17 : decode cX4_melted 17 = .ok (.getfield 28, 3) := dk_180 0 28 (dk_at dksX4_melted_0 17 rfl rfl)
theorem dX4_melted_20 : decode cX4_melted 20 = .ok (.iload_n 1, 1) := dk_27 (dk_at dksX4_melted_0 20 rfl rfl)
theorem dX4_melted_21 : decode cX4_melted 21 = .ok (.iaload, 1) := dk_46 (dk_at dksX4_melted_0 21 rfl rfl)
theorem dX4_melted_22 : decode cX4_melted 22 = .ok (.aload_n 0, 1) := dk_42 (dk_at dksX4_melted_0 22 rfl rfl)
theorem dX4_melted_23 : decode cX4_melted 23 = .ok (.getfield 31, 3) := dk_180 0 31 (dk_at dksX4_melted_1 0 rfl rfl)
theorem dX4_melted_26 : decode cX4_melted 26 = .ok (.iload_n 1, 1) := dk_27 (dk_at dksX4_melted_1 3 rfl rfl)
theorem dX4_melted_27 : decode cX4_melted 27 = .ok (.iaload, 1) := dk_46 (dk_at dksX4_melted_1 4 rfl rfl)
theorem dX4_melted_28 : decode cX4_melted 28 = .ok (.iadd, 1) := dk_96 (dk_at dksX4_melted_1 5 rfl rfl)
theorem dX4_melted_29 : decode cX4_melted 29 = .ok (.aload_n 0, 1) := dk_42 (dk_at dksX4_melted_1 6 rfl rfl)
theorem dX4_melted_30 : decode cX4_melted 30 = .ok (.getfield 34, 3) := dk_180 0 34 (dk_at dksX4_melted_1 7 rfl rfl)
theorem dX4_melted_33 : decode cX4_melted 33 = .ok (.iload_n 1, 1) := dk_27 (dk_at dksX4_melted_1 10 rfl rfl)
theorem dX4_melted_34 : decode cX4_melted 34 = .ok (.iaload, 1) := dk_46 (dk_at dksX4_melted_1 11 rfl rfl)
theorem dX4_melted_35 : decode cX4_melted 35 = .ok (.sipush 1000, 3) := dk_17 3 232 (dk_at dksX4_melted_1 12 rfl rfl)
theorem dX4_melted_38 : decode cX4_melted 38 = .ok (.idiv, 1) := dk_108 (dk_at dksX4_melted_1 15 rfl rfl)
theorem dX4_melted_39 : decode cX4_melted 39 = .ok (.invokestatic 98, 3) := dk_184 0 98 (dk_at dksX4_melted_1 16 rfl rfl)
theorem dX4_melted_42 : decode cX4_melted 42 = .ok (.ireturn, 1) := dk_172 (dk_at dksX4_melted_1 19 rfl rfl)
abbrev cX4_flow : ByteArray := prog_10_method_19_code
def yX4_flow : MethodName := ⟨RX4, "flow", "(I)V"⟩
def dkwX4_flow_6 : List UInt8 := [180, 0, 13, 28, 92, 46, 21, 4, 96, 79, 177]
abbrev dktX4_flow_6 : List UInt8 := dkwX4_flow_6 ++ []
def dkwX4_flow_5 : List UInt8 := [27, 46, 29, 5, 108, 184, 0, 98, 54, 4, 42, 180, 0, 13, 27, 92, 46, 21, 4, 100, 79, 42]
abbrev dktX4_flow_5 : List UInt8 := dkwX4_flow_5 ++ dktX4_flow_6
def dkwX4_flow_4 : List UInt8 := [42, 180, 0, 7, 28, 46, 100, 42, 180, 0, 13, 28, 46, 100, 62, 29, 4, 164, 0, 39, 42, 180, 0, 13]
abbrev dktX4_flow_4 : List UInt8 := dkwX4_flow_4 ++ dktX4_flow_5
def dkwX4_flow_3 : List UInt8 := [167, 0, 4, 28, 61, 132, 3, 1, 167, 255, 180, 42, 180, 0, 7, 27, 46, 42, 180, 0, 13, 27, 46, 96]
abbrev dktX4_flow_3 : List UInt8 := dkwX4_flow_3 ++ dktX4_flow_4
def dkwX4_flow_2 : List UInt8 := [42, 180, 0, 13, 28, 46, 96, 162, 0, 7, 4, 167, 0, 4, 3, 54, 5, 21, 5, 153, 0, 8, 21, 4]
abbrev dktX4_flow_2 : List UInt8 := dkwX4_flow_2 ++ dktX4_flow_3
def dkwX4_flow_1 : List UInt8 := [159, 0, 34, 42, 180, 0, 7, 21, 4, 46, 42, 180, 0, 13, 21, 4, 46, 96, 42, 180, 0, 7, 28, 46]
abbrev dktX4_flow_1 : List UInt8 := dkwX4_flow_1 ++ dktX4_flow_2
def dkwX4_flow_0 : List UInt8 := [2, 61, 3, 62, 29, 7, 162, 0, 77, 27, 29, 184, 0, 154, 54, 4, 21, 4, 2, 159, 0, 43, 28, 2]
abbrev dktX4_flow_0 : List UInt8 := dkwX4_flow_0 ++ dktX4_flow_1
theorem dksX4_flow_0 : cX4_flow.data.toList.drop 0 = dktX4_flow_0 := by decide +kernel
theorem dksX4_flow_1 : cX4_flow.data.toList.drop 24 = dktX4_flow_1 := dk_seg dksX4_flow_0 24 rfl rfl
theorem dksX4_flow_2 : cX4_flow.data.toList.drop 48 = dktX4_flow_2 := dk_seg dksX4_flow_1 24 rfl rfl
theorem dksX4_flow_3 : cX4_flow.data.toList.drop 72 = dktX4_flow_3 := dk_seg dksX4_flow_2 24 rfl rfl
theorem dksX4_flow_4 : cX4_flow.data.toList.drop 96 = dktX4_flow_4 := dk_seg dksX4_flow_3 24 rfl rfl
theorem dksX4_flow_5 : cX4_flow.data.toList.drop 120 = dktX4_flow_5 := dk_seg dksX4_flow_4 24 rfl rfl
theorem dksX4_flow_6 : cX4_flow.data.toList.drop 142 = dktX4_flow_6 := dk_seg dksX4_flow_5 22 rfl rfl
theorem dX4_flow_0 : decode cX4_flow 0 = .ok (.iconst (-1), 1) := dk_2 (dk_at dksX4_flow_0 0 rfl rfl)
theorem dX4_flow_1 : decode cX4_flow 1 = .ok (.istore_n 2, 1) := dk_61 (dk_at dksX4_flow_0 1 rfl rfl)
theorem dX4_flow_2 : decode cX4_flow 2 = .ok (.iconst 0, 1) := dk_3 (dk_at dksX4_flow_0 2 rfl rfl)
theorem dX4_flow_3 : decode cX4_flow 3 = .ok (.istore_n 3, 1) := dk_62 (dk_at dksX4_flow_0 3 rfl rfl)
theorem dX4_flow_4 : decode cX4_flow 4 = .ok (.iload_n 3, 1) := dk_29 (dk_at dksX4_flow_0 4 rfl rfl)
theorem dX4_flow_5 : decode cX4_flow 5 = .ok (.iconst 4, 1) := dk_7 (dk_at dksX4_flow_0 5 rfl rfl)
theorem dX4_flow_6 : decode cX4_flow 6 = .ok (.if_icmp .ge 77, 3) := dk_162 0 77 (dk_at dksX4_flow_0 6 rfl rfl)
theorem dX4_flow_9 : decode cX4_flow 9 = .ok (.iload_n 1, 1) := dk_27 (dk_at dksX4_flow_0 9 rfl rfl)
theorem dX4_flow_10 : decode cX4_flow 10 = .ok (.iload_n 3, 1) := dk_29 (dk_at dksX4_flow_0 10 rfl rfl)
theorem dX4_flow_11 : decode cX4_flow 11 = .ok (.invokestatic 154, 3) := dk_184 0 154 (dk_at dksX4_flow_0 11 rfl rfl)
theorem dX4_flow_14 : decode cX4_flow 14 = .ok (.istore 4, 2) := dk_54 4 (dk_at dksX4_flow_0 14 rfl rfl)
theorem dX4_flow_16 : decode cX4_flow 16 = .ok (.iload 4, 2) := dk_21 4 (dk_at dksX4_flow_0 16 rfl rfl)
theorem dX4_flow_18 : decode cX4_flow 18 = .ok (.iconst (-1), 1) := dk_2 (dk_at dksX4_flow_0 18 rfl rfl)
theorem dX4_flow_19 : decode cX4_flow 19 = .ok (.if_icmp .eq 43, 3) := dk_159 0 43 (dk_at dksX4_flow_0 19 rfl rfl)
theorem dX4_flow_22 : decode cX4_flow 22 = .ok (.iload_n 2, 1) := dk_28 (dk_at dksX4_flow_0 22 rfl rfl)
theorem dX4_flow_23 : decode cX4_flow 23 = .ok (.iconst (-1), 1) := dk_2 (dk_at dksX4_flow_0 23 rfl rfl)
theorem dX4_flow_24 : decode cX4_flow 24 = .ok (.if_icmp .eq 34, 3) := dk_159 0 34 (dk_at dksX4_flow_1 0 rfl rfl)
theorem dX4_flow_27 : decode cX4_flow 27 = .ok (.aload_n 0, 1) := dk_42 (dk_at dksX4_flow_1 3 rfl rfl)
theorem dX4_flow_28 : decode cX4_flow 28 = .ok (.getfield 7, 3) := dk_180 0 7 (dk_at dksX4_flow_1 4 rfl rfl)
theorem dX4_flow_31 : decode cX4_flow 31 = .ok (.iload 4, 2) := dk_21 4 (dk_at dksX4_flow_1 7 rfl rfl)
theorem dX4_flow_33 : decode cX4_flow 33 = .ok (.iaload, 1) := dk_46 (dk_at dksX4_flow_1 9 rfl rfl)
theorem dX4_flow_34 : decode cX4_flow 34 = .ok (.aload_n 0, 1) := dk_42 (dk_at dksX4_flow_1 10 rfl rfl)
theorem dX4_flow_35 : decode cX4_flow 35 = .ok (.getfield 13, 3) := dk_180 0 13 (dk_at dksX4_flow_1 11 rfl rfl)
theorem dX4_flow_38 : decode cX4_flow 38 = .ok (.iload 4, 2) := dk_21 4 (dk_at dksX4_flow_1 14 rfl rfl)
theorem dX4_flow_40 : decode cX4_flow 40 = .ok (.iaload, 1) := dk_46 (dk_at dksX4_flow_1 16 rfl rfl)
theorem dX4_flow_41 : decode cX4_flow 41 = .ok (.iadd, 1) := dk_96 (dk_at dksX4_flow_1 17 rfl rfl)
theorem dX4_flow_42 : decode cX4_flow 42 = .ok (.aload_n 0, 1) := dk_42 (dk_at dksX4_flow_1 18 rfl rfl)
theorem dX4_flow_43 : decode cX4_flow 43 = .ok (.getfield 7, 3) := dk_180 0 7 (dk_at dksX4_flow_1 19 rfl rfl)
theorem dX4_flow_46 : decode cX4_flow 46 = .ok (.iload_n 2, 1) := dk_28 (dk_at dksX4_flow_1 22 rfl rfl)
theorem dX4_flow_47 : decode cX4_flow 47 = .ok (.iaload, 1) := dk_46 (dk_at dksX4_flow_1 23 rfl rfl)
theorem dX4_flow_48 : decode cX4_flow 48 = .ok (.aload_n 0, 1) := dk_42 (dk_at dksX4_flow_2 0 rfl rfl)
theorem dX4_flow_49 : decode cX4_flow 49 = .ok (.getfield 13, 3) := dk_180 0 13 (dk_at dksX4_flow_2 1 rfl rfl)
theorem dX4_flow_52 : decode cX4_flow 52 = .ok (.iload_n 2, 1) := dk_28 (dk_at dksX4_flow_2 4 rfl rfl)
theorem dX4_flow_53 : decode cX4_flow 53 = .ok (.iaload, 1) := dk_46 (dk_at dksX4_flow_2 5 rfl rfl)
theorem dX4_flow_54 : decode cX4_flow 54 = .ok (.iadd, 1) := dk_96 (dk_at dksX4_flow_2 6 rfl rfl)
theorem dX4_flow_55 : decode cX4_flow 55 = .ok (.if_icmp .ge 7, 3) := dk_162 0 7 (dk_at dksX4_flow_2 7 rfl rfl)
theorem dX4_flow_58 : decode cX4_flow 58 = .ok (.iconst 1, 1) := dk_4 (dk_at dksX4_flow_2 10 rfl rfl)
theorem dX4_flow_59 : decode cX4_flow 59 = .ok (.goto 4, 3) := dk_167 0 4 (dk_at dksX4_flow_2 11 rfl rfl)
theorem dX4_flow_62 : decode cX4_flow 62 = .ok (.iconst 0, 1) := dk_3 (dk_at dksX4_flow_2 14 rfl rfl)
theorem dX4_flow_63 : decode cX4_flow 63 = .ok (.istore 5, 2) := dk_54 5 (dk_at dksX4_flow_2 15 rfl rfl)
theorem dX4_flow_65 : decode cX4_flow 65 = .ok (.iload 5, 2) := dk_21 5 (dk_at dksX4_flow_2 17 rfl rfl)
theorem dX4_flow_67 : decode cX4_flow 67 = .ok (.ifCond .eq 8, 3) := dk_153 0 8 (dk_at dksX4_flow_2 19 rfl rfl)
theorem dX4_flow_70 : decode cX4_flow 70 = .ok (.iload 4, 2) := dk_21 4 (dk_at dksX4_flow_2 22 rfl rfl)
theorem dX4_flow_72 : decode cX4_flow 72 = .ok (.goto 4, 3) := dk_167 0 4 (dk_at dksX4_flow_3 0 rfl rfl)
theorem dX4_flow_75 : decode cX4_flow 75 = .ok (.iload_n 2, 1) := dk_28 (dk_at dksX4_flow_3 3 rfl rfl)
theorem dX4_flow_76 : decode cX4_flow 76 = .ok (.istore_n 2, 1) := dk_61 (dk_at dksX4_flow_3 4 rfl rfl)
theorem dX4_flow_77 : decode cX4_flow 77 = .ok (.iinc 3 1, 3) := dk_132 3 1 (dk_at dksX4_flow_3 5 rfl rfl)
theorem dX4_flow_80 : decode cX4_flow 80 = .ok (.goto (-76), 3) := dk_167 255 180 (dk_at dksX4_flow_3 8 rfl rfl)
theorem dX4_flow_83 : decode cX4_flow 83 = .ok (.aload_n 0, 1) := dk_42 (dk_at dksX4_flow_3 11 rfl rfl)
theorem dX4_flow_84 : decode cX4_flow 84 = .ok (.getfield 7, 3) := dk_180 0 7 (dk_at dksX4_flow_3 12 rfl rfl)
theorem dX4_flow_87 : decode cX4_flow 87 = .ok (.iload_n 1, 1) := dk_27 (dk_at dksX4_flow_3 15 rfl rfl)
theorem dX4_flow_88 : decode cX4_flow 88 = .ok (.iaload, 1) := dk_46 (dk_at dksX4_flow_3 16 rfl rfl)
theorem dX4_flow_89 : decode cX4_flow 89 = .ok (.aload_n 0, 1) := dk_42 (dk_at dksX4_flow_3 17 rfl rfl)
theorem dX4_flow_90 : decode cX4_flow 90 = .ok (.getfield 13, 3) := dk_180 0 13 (dk_at dksX4_flow_3 18 rfl rfl)
theorem dX4_flow_93 : decode cX4_flow 93 = .ok (.iload_n 1, 1) := dk_27 (dk_at dksX4_flow_3 21 rfl rfl)
theorem dX4_flow_94 : decode cX4_flow 94 = .ok (.iaload, 1) := dk_46 (dk_at dksX4_flow_3 22 rfl rfl)
theorem dX4_flow_95 : decode cX4_flow 95 = .ok (.iadd, 1) := dk_96 (dk_at dksX4_flow_3 23 rfl rfl)
theorem dX4_flow_96 : decode cX4_flow 96 = .ok (.aload_n 0, 1) := dk_42 (dk_at dksX4_flow_4 0 rfl rfl)
theorem dX4_flow_97 : decode cX4_flow 97 = .ok (.getfield 7, 3) := dk_180 0 7 (dk_at dksX4_flow_4 1 rfl rfl)
theorem dX4_flow_100 : decode cX4_flow 100 = .ok (.iload_n 2, 1) := dk_28 (dk_at dksX4_flow_4 4 rfl rfl)
theorem dX4_flow_101 : decode cX4_flow 101 = .ok (.iaload, 1) := dk_46 (dk_at dksX4_flow_4 5 rfl rfl)
theorem dX4_flow_102 : decode cX4_flow 102 = .ok (.isub, 1) := dk_100 (dk_at dksX4_flow_4 6 rfl rfl)
theorem dX4_flow_103 : decode cX4_flow 103 = .ok (.aload_n 0, 1) := dk_42 (dk_at dksX4_flow_4 7 rfl rfl)
theorem dX4_flow_104 : decode cX4_flow 104 = .ok (.getfield 13, 3) := dk_180 0 13 (dk_at dksX4_flow_4 8 rfl rfl)
theorem dX4_flow_107 : decode cX4_flow 107 = .ok (.iload_n 2, 1) := dk_28 (dk_at dksX4_flow_4 11 rfl rfl)
theorem dX4_flow_108 : decode cX4_flow 108 = .ok (.iaload, 1) := dk_46 (dk_at dksX4_flow_4 12 rfl rfl)
theorem dX4_flow_109 : decode cX4_flow 109 = .ok (.isub, 1) := dk_100 (dk_at dksX4_flow_4 13 rfl rfl)
theorem dX4_flow_110 : decode cX4_flow 110 = .ok (.istore_n 3, 1) := dk_62 (dk_at dksX4_flow_4 14 rfl rfl)
theorem dX4_flow_111 : decode cX4_flow 111 = .ok (.iload_n 3, 1) := dk_29 (dk_at dksX4_flow_4 15 rfl rfl)
theorem dX4_flow_112 : decode cX4_flow 112 = .ok (.iconst 1, 1) := dk_4 (dk_at dksX4_flow_4 16 rfl rfl)
theorem dX4_flow_113 : decode cX4_flow 113 = .ok (.if_icmp .le 39, 3) := dk_164 0 39 (dk_at dksX4_flow_4 17 rfl rfl)
theorem dX4_flow_116 : decode cX4_flow 116 = .ok (.aload_n 0, 1) := dk_42 (dk_at dksX4_flow_4 20 rfl rfl)
theorem dX4_flow_117 : decode cX4_flow 117 = .ok (.getfield 13, 3) := dk_180 0 13 (dk_at dksX4_flow_4 21 rfl rfl)
theorem dX4_flow_120 : decode cX4_flow 120 = .ok (.iload_n 1, 1) := dk_27 (dk_at dksX4_flow_5 0 rfl rfl)
theorem dX4_flow_121 : decode cX4_flow 121 = .ok (.iaload, 1) := dk_46 (dk_at dksX4_flow_5 1 rfl rfl)
theorem dX4_flow_122 : decode cX4_flow 122 = .ok (.iload_n 3, 1) := dk_29 (dk_at dksX4_flow_5 2 rfl rfl)
theorem dX4_flow_123 : decode cX4_flow 123 = .ok (.iconst 2, 1) := dk_5 (dk_at dksX4_flow_5 3 rfl rfl)
theorem dX4_flow_124 : decode cX4_flow 124 = .ok (.idiv, 1) := dk_108 (dk_at dksX4_flow_5 4 rfl rfl)
theorem dX4_flow_125 : decode cX4_flow 125 = .ok (.invokestatic 98, 3) := dk_184 0 98 (dk_at dksX4_flow_5 5 rfl rfl)
theorem dX4_flow_128 : decode cX4_flow 128 = .ok (.istore 4, 2) := dk_54 4 (dk_at dksX4_flow_5 8 rfl rfl)
theorem dX4_flow_130 : decode cX4_flow 130 = .ok (.aload_n 0, 1) := dk_42 (dk_at dksX4_flow_5 10 rfl rfl)
theorem dX4_flow_131 : decode cX4_flow 131 = .ok (.getfield 13, 3) := dk_180 0 13 (dk_at dksX4_flow_5 11 rfl rfl)
theorem dX4_flow_134 : decode cX4_flow 134 = .ok (.iload_n 1, 1) := dk_27 (dk_at dksX4_flow_5 14 rfl rfl)
theorem dX4_flow_135 : decode cX4_flow 135 = .ok (.dup2, 1) := dk_92 (dk_at dksX4_flow_5 15 rfl rfl)
theorem dX4_flow_136 : decode cX4_flow 136 = .ok (.iaload, 1) := dk_46 (dk_at dksX4_flow_5 16 rfl rfl)
theorem dX4_flow_137 : decode cX4_flow 137 = .ok (.iload 4, 2) := dk_21 4 (dk_at dksX4_flow_5 17 rfl rfl)
theorem dX4_flow_139 : decode cX4_flow 139 = .ok (.isub, 1) := dk_100 (dk_at dksX4_flow_5 19 rfl rfl)
theorem dX4_flow_140 : decode cX4_flow 140 = .ok (.iastore, 1) := dk_79 (dk_at dksX4_flow_5 20 rfl rfl)
theorem dX4_flow_141 : decode cX4_flow 141 = .ok (.aload_n 0, 1) := dk_42 (dk_at dksX4_flow_5 21 rfl rfl)
theorem dX4_flow_142 : decode cX4_flow 142 = .ok (.getfield 13, 3) := dk_180 0 13 (dk_at dksX4_flow_6 0 rfl rfl)
theorem dX4_flow_145 : decode cX4_flow 145 = .ok (.iload_n 2, 1) := dk_28 (dk_at dksX4_flow_6 3 rfl rfl)
theorem dX4_flow_146 : decode cX4_flow 146 = .ok (.dup2, 1) := dk_92 (dk_at dksX4_flow_6 4 rfl rfl)
theorem dX4_flow_147 : decode cX4_flow 147 = .ok (.iaload, 1) := dk_46 (dk_at dksX4_flow_6 5 rfl rfl)
theorem dX4_flow_148 : decode cX4_flow 148 = .ok (.iload 4, 2) := dk_21 4 (dk_at dksX4_flow_6 6 rfl rfl)
theorem dX4_flow_150 : decode cX4_flow 150 = .ok (.iadd, 1) := dk_96 (dk_at dksX4_flow_6 8 rfl rfl)
theorem dX4_flow_151 : decode cX4_flow 151 = .ok (.iastore, 1) := dk_79 (dk_at dksX4_flow_6 9 rfl rfl)
theorem dX4_flow_152 : decode cX4_flow 152 = .ok (.return_, 1) := dk_177 (dk_at dksX4_flow_6 10 rfl rfl)
abbrev cX4_beside : ByteArray := prog_10_method_11_code
def yX4_beside : MethodName := ⟨RX4, "beside", "(II)I"⟩
def dkwX4_beside_2 : List UInt8 := [2, 167, 0, 6, 26, 4, 96, 172, 26, 16, 19, 164, 0, 7, 2, 167, 0, 6, 26, 8, 96, 172]
abbrev dktX4_beside_2 : List UInt8 := dkwX4_beside_2 ++ []
def dkwX4_beside_1 : List UInt8 := [112, 154, 0, 7, 2, 167, 0, 6, 26, 4, 100, 172, 27, 5, 160, 0, 18, 26, 8, 112, 7, 160, 0, 7]
abbrev dktX4_beside_1 : List UInt8 := dkwX4_beside_1 ++ dktX4_beside_2
def dkwX4_beside_0 : List UInt8 := [27, 154, 0, 16, 26, 8, 162, 0, 7, 2, 167, 0, 6, 26, 8, 100, 172, 27, 4, 160, 0, 17, 26, 8]
abbrev dktX4_beside_0 : List UInt8 := dkwX4_beside_0 ++ dktX4_beside_1
theorem dksX4_beside_0 : cX4_beside.data.toList.drop 0 = dktX4_beside_0 := by decide +kernel
theorem dksX4_beside_1 : cX4_beside.data.toList.drop 24 = dktX4_beside_1 := dk_seg dksX4_beside_0 24 rfl rfl
theorem dksX4_beside_2 : cX4_beside.data.toList.drop 48 = dktX4_beside_2 := dk_seg dksX4_beside_1 24 rfl rfl
theorem dX4_beside_0 : decode cX4_beside 0 = .ok (.iload_n 1, 1) := dk_27 (dk_at dksX4_beside_0 0 rfl rfl)
theorem dX4_beside_1 : decode cX4_beside 1 = .ok (.ifCond .ne 16, 3) := dk_154 0 16 (dk_at dksX4_beside_0 1 rfl rfl)
theorem dX4_beside_4 : decode cX4_beside 4 = .ok (.iload_n 0, 1) := dk_26 (dk_at dksX4_beside_0 4 rfl rfl)
theorem dX4_beside_5 : decode cX4_beside 5 = .ok (.iconst 5, 1) := dk_8 (dk_at dksX4_beside_0 5 rfl rfl)
theorem dX4_beside_6 : decode cX4_beside 6 = .ok (.if_icmp .ge 7, 3) := dk_162 0 7 (dk_at dksX4_beside_0 6 rfl rfl)
theorem dX4_beside_9 : decode cX4_beside 9 = .ok (.iconst (-1), 1) := dk_2 (dk_at dksX4_beside_0 9 rfl rfl)
theorem dX4_beside_10 : decode cX4_beside 10 = .ok (.goto 6, 3) := dk_167 0 6 (dk_at dksX4_beside_0 10 rfl rfl)
theorem dX4_beside_13 : decode cX4_beside 13 = .ok (.iload_n 0, 1) := dk_26 (dk_at dksX4_beside_0 13 rfl rfl)
theorem dX4_beside_14 : decode cX4_beside 14 = .ok (.iconst 5, 1) := dk_8 (dk_at dksX4_beside_0 14 rfl rfl)
theorem dX4_beside_15 : decode cX4_beside 15 = .ok (.isub, 1) := dk_100 (dk_at dksX4_beside_0 15 rfl rfl)
theorem dX4_beside_16 : decode cX4_beside 16 = .ok (.ireturn, 1) := dk_172 (dk_at dksX4_beside_0 16 rfl rfl)
theorem dX4_beside_17 : decode cX4_beside 17 = .ok (.iload_n 1, 1) := dk_27 (dk_at dksX4_beside_0 17 rfl rfl)
theorem dX4_beside_18 : decode cX4_beside 18 = .ok (.iconst 1, 1) := dk_4 (dk_at dksX4_beside_0 18 rfl rfl)
theorem dX4_beside_19 : decode cX4_beside 19 = .ok (.if_icmp .ne 17, 3) := dk_160 0 17 (dk_at dksX4_beside_0 19 rfl rfl)
theorem dX4_beside_22 : decode cX4_beside 22 = .ok (.iload_n 0, 1) := dk_26 (dk_at dksX4_beside_0 22 rfl rfl)
theorem dX4_beside_23 : decode cX4_beside 23 = .ok (.iconst 5, 1) := dk_8 (dk_at dksX4_beside_0 23 rfl rfl)
theorem dX4_beside_24 : decode cX4_beside 24 = .ok (.irem, 1) := dk_112 (dk_at dksX4_beside_1 0 rfl rfl)
theorem dX4_beside_25 : decode cX4_beside 25 = .ok (.ifCond .ne 7, 3) := dk_154 0 7 (dk_at dksX4_beside_1 1 rfl rfl)
theorem dX4_beside_28 : decode cX4_beside 28 = .ok (.iconst (-1), 1) := dk_2 (dk_at dksX4_beside_1 4 rfl rfl)
theorem dX4_beside_29 : decode cX4_beside 29 = .ok (.goto 6, 3) := dk_167 0 6 (dk_at dksX4_beside_1 5 rfl rfl)
theorem dX4_beside_32 : decode cX4_beside 32 = .ok (.iload_n 0, 1) := dk_26 (dk_at dksX4_beside_1 8 rfl rfl)
theorem dX4_beside_33 : decode cX4_beside 33 = .ok (.iconst 1, 1) := dk_4 (dk_at dksX4_beside_1 9 rfl rfl)
theorem dX4_beside_34 : decode cX4_beside 34 = .ok (.isub, 1) := dk_100 (dk_at dksX4_beside_1 10 rfl rfl)
theorem dX4_beside_35 : decode cX4_beside 35 = .ok (.ireturn, 1) := dk_172 (dk_at dksX4_beside_1 11 rfl rfl)
theorem dX4_beside_36 : decode cX4_beside 36 = .ok (.iload_n 1, 1) := dk_27 (dk_at dksX4_beside_1 12 rfl rfl)
theorem dX4_beside_37 : decode cX4_beside 37 = .ok (.iconst 2, 1) := dk_5 (dk_at dksX4_beside_1 13 rfl rfl)
theorem dX4_beside_38 : decode cX4_beside 38 = .ok (.if_icmp .ne 18, 3) := dk_160 0 18 (dk_at dksX4_beside_1 14 rfl rfl)
theorem dX4_beside_41 : decode cX4_beside 41 = .ok (.iload_n 0, 1) := dk_26 (dk_at dksX4_beside_1 17 rfl rfl)
theorem dX4_beside_42 : decode cX4_beside 42 = .ok (.iconst 5, 1) := dk_8 (dk_at dksX4_beside_1 18 rfl rfl)
theorem dX4_beside_43 : decode cX4_beside 43 = .ok (.irem, 1) := dk_112 (dk_at dksX4_beside_1 19 rfl rfl)
theorem dX4_beside_44 : decode cX4_beside 44 = .ok (.iconst 4, 1) := dk_7 (dk_at dksX4_beside_1 20 rfl rfl)
theorem dX4_beside_45 : decode cX4_beside 45 = .ok (.if_icmp .ne 7, 3) := dk_160 0 7 (dk_at dksX4_beside_1 21 rfl rfl)
theorem dX4_beside_48 : decode cX4_beside 48 = .ok (.iconst (-1), 1) := dk_2 (dk_at dksX4_beside_2 0 rfl rfl)
theorem dX4_beside_49 : decode cX4_beside 49 = .ok (.goto 6, 3) := dk_167 0 6 (dk_at dksX4_beside_2 1 rfl rfl)
theorem dX4_beside_52 : decode cX4_beside 52 = .ok (.iload_n 0, 1) := dk_26 (dk_at dksX4_beside_2 4 rfl rfl)
theorem dX4_beside_53 : decode cX4_beside 53 = .ok (.iconst 1, 1) := dk_4 (dk_at dksX4_beside_2 5 rfl rfl)
theorem dX4_beside_54 : decode cX4_beside 54 = .ok (.iadd, 1) := dk_96 (dk_at dksX4_beside_2 6 rfl rfl)
theorem dX4_beside_55 : decode cX4_beside 55 = .ok (.ireturn, 1) := dk_172 (dk_at dksX4_beside_2 7 rfl rfl)
theorem dX4_beside_56 : decode cX4_beside 56 = .ok (.iload_n 0, 1) := dk_26 (dk_at dksX4_beside_2 8 rfl rfl)
theorem dX4_beside_57 : decode cX4_beside 57 = .ok (.bipush 19, 2) := dk_16 19 (dk_at dksX4_beside_2 9 rfl rfl)
theorem dX4_beside_59 : decode cX4_beside 59 = .ok (.if_icmp .le 7, 3) := dk_164 0 7 (dk_at dksX4_beside_2 11 rfl rfl)
theorem dX4_beside_62 : decode cX4_beside 62 = .ok (.iconst (-1), 1) := dk_2 (dk_at dksX4_beside_2 14 rfl rfl)
theorem dX4_beside_63 : decode cX4_beside 63 = .ok (.goto 6, 3) := dk_167 0 6 (dk_at dksX4_beside_2 15 rfl rfl)
theorem dX4_beside_66 : decode cX4_beside 66 = .ok (.iload_n 0, 1) := dk_26 (dk_at dksX4_beside_2 18 rfl rfl)
theorem dX4_beside_67 : decode cX4_beside 67 = .ok (.iconst 5, 1) := dk_8 (dk_at dksX4_beside_2 19 rfl rfl)
theorem dX4_beside_68 : decode cX4_beside 68 = .ok (.iadd, 1) := dk_96 (dk_at dksX4_beside_2 20 rfl rfl)
theorem dX4_beside_69 : decode cX4_beside 69 = .ok (.ireturn, 1) := dk_172 (dk_at dksX4_beside_2 21 rfl rfl)
abbrev cX4_crack : ByteArray := prog_10_method_20_code
def yX4_crack : MethodName := ⟨RX4, "crack", "()V"⟩
def dkwX4_crack_5 : List UInt8 := [79, 42, 180, 0, 34, 28, 92, 46, 17, 3, 232, 96, 79, 177]
abbrev dktX4_crack_5 : List UInt8 := dkwX4_crack_5 ++ []
def dkwX4_crack_4 : List UInt8 := [92, 46, 4, 100, 79, 42, 180, 0, 31, 28, 92, 46, 4, 96, 79, 42, 180, 0, 7, 27, 92, 46, 4, 96]
abbrev dktX4_crack_4 : List UInt8 := dkwX4_crack_4 ++ dktX4_crack_5
def dkwX4_crack_3 : List UInt8 := [180, 0, 13, 27, 46, 158, 0, 56, 42, 180, 0, 31, 28, 46, 16, 9, 162, 0, 45, 42, 180, 0, 13, 27]
abbrev dktX4_crack_3 : List UInt8 := dkwX4_crack_3 ++ dktX4_crack_4
def dkwX4_crack_2 : List UInt8 := [61, 42, 28, 182, 0, 138, 16, 246, 164, 0, 4, 177, 42, 180, 0, 22, 27, 92, 46, 4, 96, 79, 42]
abbrev dktX4_crack_2 : List UInt8 := dkwX4_crack_2 ++ dktX4_crack_3
def dkwX4_crack_1 : List UInt8 := [96, 182, 0, 138, 162, 0, 7, 28, 167, 0, 4, 27, 60, 132, 2, 1, 167, 255, 220, 8, 27, 104, 4, 96]
abbrev dktX4_crack_1 : List UInt8 := dkwX4_crack_1 ++ dktX4_crack_2
def dkwX4_crack_0 : List UInt8 := [3, 60, 4, 61, 28, 16, 25, 162, 0, 36, 42, 8, 28, 104, 4, 96, 182, 0, 138, 42, 8, 27, 104, 4]
abbrev dktX4_crack_0 : List UInt8 := dkwX4_crack_0 ++ dktX4_crack_1
theorem dksX4_crack_0 : cX4_crack.data.toList.drop 0 = dktX4_crack_0 := by decide +kernel
theorem dksX4_crack_1 : cX4_crack.data.toList.drop 24 = dktX4_crack_1 := dk_seg dksX4_crack_0 24 rfl rfl
theorem dksX4_crack_2 : cX4_crack.data.toList.drop 48 = dktX4_crack_2 := dk_seg dksX4_crack_1 24 rfl rfl
theorem dksX4_crack_3 : cX4_crack.data.toList.drop 71 = dktX4_crack_3 := dk_seg dksX4_crack_2 23 rfl rfl
theorem dksX4_crack_4 : cX4_crack.data.toList.drop 95 = dktX4_crack_4 := dk_seg dksX4_crack_3 24 rfl rfl
theorem dksX4_crack_5 : cX4_crack.data.toList.drop 119 = dktX4_crack_5 := dk_seg dksX4_crack_4 24 rfl rfl
theorem dX4_crack_0 : decode cX4_crack 0 = .ok (.iconst 0, 1) := dk_3 (dk_at dksX4_crack_0 0 rfl rfl)
theorem dX4_crack_1 : decode cX4_crack 1 = .ok (.istore_n 1, 1) := dk_60 (dk_at dksX4_crack_0 1 rfl rfl)
theorem dX4_crack_2 : decode cX4_crack 2 = .ok (.iconst 1, 1) := dk_4 (dk_at dksX4_crack_0 2 rfl rfl)
theorem dX4_crack_3 : decode cX4_crack 3 = .ok (.istore_n 2, 1) := dk_61 (dk_at dksX4_crack_0 3 rfl rfl)
theorem dX4_crack_4 : decode cX4_crack 4 = .ok (.iload_n 2, 1) := dk_28 (dk_at dksX4_crack_0 4 rfl rfl)
theorem dX4_crack_5 : decode cX4_crack 5 = .ok (.bipush 25, 2) := dk_16 25 (dk_at dksX4_crack_0 5 rfl rfl)
theorem dX4_crack_7 : decode cX4_crack 7 = .ok (.if_icmp .ge 36, 3) := dk_162 0 36 (dk_at dksX4_crack_0 7 rfl rfl)
theorem dX4_crack_10 : decode cX4_crack 10 = .ok (.aload_n 0, 1) := dk_42 (dk_at dksX4_crack_0 10 rfl rfl)
theorem dX4_crack_11 : decode cX4_crack 11 = .ok (.iconst 5, 1) := dk_8 (dk_at dksX4_crack_0 11 rfl rfl)
theorem dX4_crack_12 : decode cX4_crack 12 = .ok (.iload_n 2, 1) := dk_28 (dk_at dksX4_crack_0 12 rfl rfl)
theorem dX4_crack_13 : decode cX4_crack 13 = .ok (.imul, 1) := dk_104 (dk_at dksX4_crack_0 13 rfl rfl)
theorem dX4_crack_14 : decode cX4_crack 14 = .ok (.iconst 1, 1) := dk_4 (dk_at dksX4_crack_0 14 rfl rfl)
theorem dX4_crack_15 : decode cX4_crack 15 = .ok (.iadd, 1) := dk_96 (dk_at dksX4_crack_0 15 rfl rfl)
theorem dX4_crack_16 : decode cX4_crack 16 = .ok (.invokevirtual 138, 3) := dk_182 0 138 (dk_at dksX4_crack_0 16 rfl rfl)
theorem dX4_crack_19 : decode cX4_crack 19 = .ok (.aload_n 0, 1) := dk_42 (dk_at dksX4_crack_0 19 rfl rfl)
theorem dX4_crack_20 : decode cX4_crack 20 = .ok (.iconst 5, 1) := dk_8 (dk_at dksX4_crack_0 20 rfl rfl)
theorem dX4_crack_21 : decode cX4_crack 21 = .ok (.iload_n 1, 1) := dk_27 (dk_at dksX4_crack_0 21 rfl rfl)
theorem dX4_crack_22 : decode cX4_crack 22 = .ok (.imul, 1) := dk_104 (dk_at dksX4_crack_0 22 rfl rfl)
theorem dX4_crack_23 : decode cX4_crack 23 = .ok (.iconst 1, 1) := dk_4 (dk_at dksX4_crack_0 23 rfl rfl)
theorem dX4_crack_24 : decode cX4_crack 24 = .ok (.iadd, 1) := dk_96 (dk_at dksX4_crack_1 0 rfl rfl)
theorem dX4_crack_25 : decode cX4_crack 25 = .ok (.invokevirtual 138, 3) := dk_182 0 138 (dk_at dksX4_crack_1 1 rfl rfl)
theorem dX4_crack_28 : decode cX4_crack 28 = .ok (.if_icmp .ge 7, 3) := dk_162 0 7 (dk_at dksX4_crack_1 4 rfl rfl)
theorem dX4_crack_31 : decode cX4_crack 31 = .ok (.iload_n 2, 1) := dk_28 (dk_at dksX4_crack_1 7 rfl rfl)
theorem dX4_crack_32 : decode cX4_crack 32 = .ok (.goto 4, 3) := dk_167 0 4 (dk_at dksX4_crack_1 8 rfl rfl)
theorem dX4_crack_35 : decode cX4_crack 35 = .ok (.iload_n 1, 1) := dk_27 (dk_at dksX4_crack_1 11 rfl rfl)
theorem dX4_crack_36 : decode cX4_crack 36 = .ok (.istore_n 1, 1) := dk_60 (dk_at dksX4_crack_1 12 rfl rfl)
theorem dX4_crack_37 : decode cX4_crack 37 = .ok (.iinc 2 1, 3) := dk_132 2 1 (dk_at dksX4_crack_1 13 rfl rfl)
theorem dX4_crack_40 : decode cX4_crack 40 = .ok (.goto (-36), 3) := dk_167 255 220 (dk_at dksX4_crack_1 16 rfl rfl)
theorem dX4_crack_43 : decode cX4_crack 43 = .ok (.iconst 5, 1) := dk_8 (dk_at dksX4_crack_1 19 rfl rfl)
theorem dX4_crack_44 : decode cX4_crack 44 = .ok (.iload_n 1, 1) := dk_27 (dk_at dksX4_crack_1 20 rfl rfl)
theorem dX4_crack_45 : decode cX4_crack 45 = .ok (.imul, 1) := dk_104 (dk_at dksX4_crack_1 21 rfl rfl)
theorem dX4_crack_46 : decode cX4_crack 46 = .ok (.iconst 1, 1) := dk_4 (dk_at dksX4_crack_1 22 rfl rfl)
theorem dX4_crack_47 : decode cX4_crack 47 = .ok (.iadd, 1) := dk_96 (dk_at dksX4_crack_1 23 rfl rfl)
theorem dX4_crack_48 : decode cX4_crack 48 = .ok (.istore_n 2, 1) := dk_61 (dk_at dksX4_crack_2 0 rfl rfl)
theorem dX4_crack_49 : decode cX4_crack 49 = .ok (.aload_n 0, 1) := dk_42 (dk_at dksX4_crack_2 1 rfl rfl)
theorem dX4_crack_50 : decode cX4_crack 50 = .ok (.iload_n 2, 1) := dk_28 (dk_at dksX4_crack_2 2 rfl rfl)
theorem dX4_crack_51 : decode cX4_crack 51 = .ok (.invokevirtual 138, 3) := dk_182 0 138 (dk_at dksX4_crack_2 3 rfl rfl)
theorem dX4_crack_54 : decode cX4_crack 54 = .ok (.bipush (-10), 2) := dk_16 246 (dk_at dksX4_crack_2 6 rfl rfl)
theorem dX4_crack_56 : decode cX4_crack 56 = .ok (.if_icmp .le 4, 3) := dk_164 0 4 (dk_at dksX4_crack_2 8 rfl rfl)
theorem dX4_crack_59 : decode cX4_crack 59 = .ok (.return_, 1) := dk_177 (dk_at dksX4_crack_2 11 rfl rfl)
theorem dX4_crack_60 : decode cX4_crack 60 = .ok (.aload_n 0, 1) := dk_42 (dk_at dksX4_crack_2 12 rfl rfl)
theorem dX4_crack_61 : decode cX4_crack 61 = .ok (.getfield 22, 3) := dk_180 0 22 (dk_at dksX4_crack_2 13 rfl rfl)
theorem dX4_crack_64 : decode cX4_crack 64 = .ok (.iload_n 1, 1) := dk_27 (dk_at dksX4_crack_2 16 rfl rfl)
theorem dX4_crack_65 : decode cX4_crack 65 = .ok (.dup2, 1) := dk_92 (dk_at dksX4_crack_2 17 rfl rfl)
theorem dX4_crack_66 : decode cX4_crack 66 = .ok (.iaload, 1) := dk_46 (dk_at dksX4_crack_2 18 rfl rfl)
theorem dX4_crack_67 : decode cX4_crack 67 = .ok (.iconst 1, 1) := dk_4 (dk_at dksX4_crack_2 19 rfl rfl)
theorem dX4_crack_68 : decode cX4_crack 68 = .ok (.iadd, 1) := dk_96 (dk_at dksX4_crack_2 20 rfl rfl)
theorem dX4_crack_69 : decode cX4_crack 69 = .ok (.iastore, 1) := dk_79 (dk_at dksX4_crack_2 21 rfl rfl)
theorem dX4_crack_70 : decode cX4_crack 70 = .ok (.aload_n 0, 1) := dk_42 (dk_at dksX4_crack_2 22 rfl rfl)
theorem dX4_crack_71 : decode cX4_crack 71 = .ok (.getfield 13, 3) := dk_180 0 13 (dk_at dksX4_crack_3 0 rfl rfl)
theorem dX4_crack_74 : decode cX4_crack 74 = .ok (.iload_n 1, 1) := dk_27 (dk_at dksX4_crack_3 3 rfl rfl)
theorem dX4_crack_75 : decode cX4_crack 75 = .ok (.iaload, 1) := dk_46 (dk_at dksX4_crack_3 4 rfl rfl)
theorem dX4_crack_76 : decode cX4_crack 76 = .ok (.ifCond .le 56, 3) := dk_158 0 56 (dk_at dksX4_crack_3 5 rfl rfl)
theorem dX4_crack_79 : decode cX4_crack 79 = .ok (.aload_n 0, 1) := dk_42 (dk_at dksX4_crack_3 8 rfl rfl)
theorem dX4_crack_80 : decode cX4_crack 80 = .ok (.getfield 31, 3) := dk_180 0 31 (dk_at dksX4_crack_3 9 rfl rfl)
theorem dX4_crack_83 : decode cX4_crack 83 = .ok (.iload_n 2, 1) := dk_28 (dk_at dksX4_crack_3 12 rfl rfl)
theorem dX4_crack_84 : decode cX4_crack 84 = .ok (.iaload, 1) := dk_46 (dk_at dksX4_crack_3 13 rfl rfl)
theorem dX4_crack_85 : decode cX4_crack 85 = .ok (.bipush 9, 2) := dk_16 9 (dk_at dksX4_crack_3 14 rfl rfl)
theorem dX4_crack_87 : decode cX4_crack 87 = .ok (.if_icmp .ge 45, 3) := dk_162 0 45 (dk_at dksX4_crack_3 16 rfl rfl)
theorem dX4_crack_90 : decode cX4_crack 90 = .ok (.aload_n 0, 1) := dk_42 (dk_at dksX4_crack_3 19 rfl rfl)
theorem dX4_crack_91 : decode cX4_crack 91 = .ok (.getfield 13, 3) := dk_180 0 13 (dk_at dksX4_crack_3 20 rfl rfl)
theorem dX4_crack_94 : decode cX4_crack 94 = .ok (.iload_n 1, 1) := dk_27 (dk_at dksX4_crack_3 23 rfl rfl)
theorem dX4_crack_95 : decode cX4_crack 95 = .ok (.dup2, 1) := dk_92 (dk_at dksX4_crack_4 0 rfl rfl)
theorem dX4_crack_96 : decode cX4_crack 96 = .ok (.iaload, 1) := dk_46 (dk_at dksX4_crack_4 1 rfl rfl)
theorem dX4_crack_97 : decode cX4_crack 97 = .ok (.iconst 1, 1) := dk_4 (dk_at dksX4_crack_4 2 rfl rfl)
theorem dX4_crack_98 : decode cX4_crack 98 = .ok (.isub, 1) := dk_100 (dk_at dksX4_crack_4 3 rfl rfl)
theorem dX4_crack_99 : decode cX4_crack 99 = .ok (.iastore, 1) := dk_79 (dk_at dksX4_crack_4 4 rfl rfl)
theorem dX4_crack_100 : decode cX4_crack 100 = .ok (.aload_n 0, 1) := dk_42 (dk_at dksX4_crack_4 5 rfl rfl)
theorem dX4_crack_101 : decode cX4_crack 101 = .ok (.getfield 31, 3) := dk_180 0 31 (dk_at dksX4_crack_4 6 rfl rfl)
theorem dX4_crack_104 : decode cX4_crack 104 = .ok (.iload_n 2, 1) := dk_28 (dk_at dksX4_crack_4 9 rfl rfl)
theorem dX4_crack_105 : decode cX4_crack 105 = .ok (.dup2, 1) := dk_92 (dk_at dksX4_crack_4 10 rfl rfl)
theorem dX4_crack_106 : decode cX4_crack 106 = .ok (.iaload, 1) := dk_46 (dk_at dksX4_crack_4 11 rfl rfl)
theorem dX4_crack_107 : decode cX4_crack 107 = .ok (.iconst 1, 1) := dk_4 (dk_at dksX4_crack_4 12 rfl rfl)
theorem dX4_crack_108 : decode cX4_crack 108 = .ok (.iadd, 1) := dk_96 (dk_at dksX4_crack_4 13 rfl rfl)
theorem dX4_crack_109 : decode cX4_crack 109 = .ok (.iastore, 1) := dk_79 (dk_at dksX4_crack_4 14 rfl rfl)
theorem dX4_crack_110 : decode cX4_crack 110 = .ok (.aload_n 0, 1) := dk_42 (dk_at dksX4_crack_4 15 rfl rfl)
theorem dX4_crack_111 : decode cX4_crack 111 = .ok (.getfield 7, 3) := dk_180 0 7 (dk_at dksX4_crack_4 16 rfl rfl)
theorem dX4_crack_114 : decode cX4_crack 114 = .ok (.iload_n 1, 1) := dk_27 (dk_at dksX4_crack_4 19 rfl rfl)
theorem dX4_crack_115 : decode cX4_crack 115 = .ok (.dup2, 1) := dk_92 (dk_at dksX4_crack_4 20 rfl rfl)
theorem dX4_crack_116 : decode cX4_crack 116 = .ok (.iaload, 1) := dk_46 (dk_at dksX4_crack_4 21 rfl rfl)
theorem dX4_crack_117 : decode cX4_crack 117 = .ok (.iconst 1, 1) := dk_4 (dk_at dksX4_crack_4 22 rfl rfl)
theorem dX4_crack_118 : decode cX4_crack 118 = .ok (.iadd, 1) := dk_96 (dk_at dksX4_crack_4 23 rfl rfl)
theorem dX4_crack_119 : decode cX4_crack 119 = .ok (.iastore, 1) := dk_79 (dk_at dksX4_crack_5 0 rfl rfl)
theorem dX4_crack_120 : decode cX4_crack 120 = .ok (.aload_n 0, 1) := dk_42 (dk_at dksX4_crack_5 1 rfl rfl)
theorem dX4_crack_121 : decode cX4_crack 121 = .ok (.getfield 34, 3) := dk_180 0 34 (dk_at dksX4_crack_5 2 rfl rfl)
theorem dX4_crack_124 : decode cX4_crack 124 = .ok (.iload_n 2, 1) := dk_28 (dk_at dksX4_crack_5 5 rfl rfl)
theorem dX4_crack_125 : decode cX4_crack 125 = .ok (.dup2, 1) := dk_92 (dk_at dksX4_crack_5 6 rfl rfl)
theorem dX4_crack_126 : decode cX4_crack 126 = .ok (.iaload, 1) := dk_46 (dk_at dksX4_crack_5 7 rfl rfl)
theorem dX4_crack_127 : decode cX4_crack 127 = .ok (.sipush 1000, 3) := dk_17 3 232 (dk_at dksX4_crack_5 8 rfl rfl)
theorem dX4_crack_130 : decode cX4_crack 130 = .ok (.iadd, 1) := dk_96 (dk_at dksX4_crack_5 11 rfl rfl)
theorem dX4_crack_131 : decode cX4_crack 131 = .ok (.iastore, 1) := dk_79 (dk_at dksX4_crack_5 12 rfl rfl)
theorem dX4_crack_132 : decode cX4_crack 132 = .ok (.return_, 1) := dk_177 (dk_at dksX4_crack_5 13 rfl rfl)
abbrev cX4_wake : ByteArray := prog_10_method_21_code
def yX4_wake : MethodName := ⟨RX4, "wake", "(II)V"⟩
def dkwX4_wake_7 : List UInt8 := [46, 96, 79, 177]
abbrev dktX4_wake_7 : List UInt8 := dkwX4_wake_7 ++ []
def dkwX4_wake_6 : List UInt8 := [180, 0, 19, 27, 46, 133, 101, 181, 0, 162, 42, 180, 0, 37, 8, 27, 104, 92, 46, 42, 180, 0, 19, 27]
abbrev dktX4_wake_6 : List UInt8 := dkwX4_wake_6 ++ dktX4_wake_7
def dkwX4_wake_5 : List UInt8 := [132, 3, 1, 167, 255, 142, 28, 158, 0, 44, 42, 27, 182, 0, 142, 154, 0, 36, 42, 89, 180, 0, 162, 42]
abbrev dktX4_wake_5 : List UInt8 := dkwX4_wake_5 ++ dktX4_wake_6
def dkwX4_wake_4 : List UInt8 := [180, 0, 162, 42, 27, 182, 0, 142, 153, 0, 7, 9, 167, 0, 6, 21, 5, 133, 97, 181, 0, 162]
abbrev dktX4_wake_4 : List UInt8 := dkwX4_wake_4 ++ dktX4_wake_5
def dkwX4_wake_3 : List UInt8 := [180, 0, 159, 42, 27, 182, 0, 142, 153, 0, 9, 21, 5, 133, 167, 0, 4, 9, 97, 181, 0, 159, 42, 89]
abbrev dktX4_wake_3 : List UInt8 := dkwX4_wake_3 ++ dktX4_wake_4
def dkwX4_wake_2 : List UInt8 := [180, 0, 37, 29, 46, 184, 0, 98, 54, 5, 42, 180, 0, 37, 29, 92, 46, 21, 5, 100, 79, 42, 89]
abbrev dktX4_wake_2 : List UInt8 := dkwX4_wake_2 ++ dktX4_wake_3
def dkwX4_wake_1 : List UInt8 := [158, 0, 93, 21, 4, 133, 42, 180, 0, 37, 29, 46, 133, 105, 20, 0, 157, 109, 136, 54, 5, 21, 5, 42]
abbrev dktX4_wake_1 : List UInt8 := dkwX4_wake_1 ++ dktX4_wake_2
def dkwX4_wake_0 : List UInt8 := [8, 27, 104, 62, 29, 8, 27, 104, 8, 96, 162, 0, 111, 42, 29, 182, 0, 138, 54, 4, 21, 4]
abbrev dktX4_wake_0 : List UInt8 := dkwX4_wake_0 ++ dktX4_wake_1
theorem dksX4_wake_0 : cX4_wake.data.toList.drop 0 = dktX4_wake_0 := by decide +kernel
theorem dksX4_wake_1 : cX4_wake.data.toList.drop 22 = dktX4_wake_1 := dk_seg dksX4_wake_0 22 rfl rfl
theorem dksX4_wake_2 : cX4_wake.data.toList.drop 46 = dktX4_wake_2 := dk_seg dksX4_wake_1 24 rfl rfl
theorem dksX4_wake_3 : cX4_wake.data.toList.drop 69 = dktX4_wake_3 := dk_seg dksX4_wake_2 23 rfl rfl
theorem dksX4_wake_4 : cX4_wake.data.toList.drop 93 = dktX4_wake_4 := dk_seg dksX4_wake_3 24 rfl rfl
theorem dksX4_wake_5 : cX4_wake.data.toList.drop 115 = dktX4_wake_5 := dk_seg dksX4_wake_4 22 rfl rfl
theorem dksX4_wake_6 : cX4_wake.data.toList.drop 139 = dktX4_wake_6 := dk_seg dksX4_wake_5 24 rfl rfl
theorem dksX4_wake_7 : cX4_wake.data.toList.drop 163 = dktX4_wake_7 := dk_seg dksX4_wake_6 24 rfl rfl
theorem dX4_wake_0 : decode cX4_wake 0 = .ok (.iconst 5, 1) := dk_8 (dk_at dksX4_wake_0 0 rfl rfl)
theorem dX4_wake_1 : decode cX4_wake 1 = .ok (.iload_n 1, 1) := dk_27 (dk_at dksX4_wake_0 1 rfl rfl)
theorem dX4_wake_2 : decode cX4_wake 2 = .ok (.imul, 1) := dk_104 (dk_at dksX4_wake_0 2 rfl rfl)
theorem dX4_wake_3 : decode cX4_wake 3 = .ok (.istore_n 3, 1) := dk_62 (dk_at dksX4_wake_0 3 rfl rfl)
theorem dX4_wake_4 : decode cX4_wake 4 = .ok (.iload_n 3, 1) := dk_29 (dk_at dksX4_wake_0 4 rfl rfl)
theorem dX4_wake_5 : decode cX4_wake 5 = .ok (.iconst 5, 1) := dk_8 (dk_at dksX4_wake_0 5 rfl rfl)
theorem dX4_wake_6 : decode cX4_wake 6 = .ok (.iload_n 1, 1) := dk_27 (dk_at dksX4_wake_0 6 rfl rfl)
theorem dX4_wake_7 : decode cX4_wake 7 = .ok (.imul, 1) := dk_104 (dk_at dksX4_wake_0 7 rfl rfl)
theorem dX4_wake_8 : decode cX4_wake 8 = .ok (.iconst 5, 1) := dk_8 (dk_at dksX4_wake_0 8 rfl rfl)
theorem dX4_wake_9 : decode cX4_wake 9 = .ok (.iadd, 1) := dk_96 (dk_at dksX4_wake_0 9 rfl rfl)
theorem dX4_wake_10 : decode cX4_wake 10 = .ok (.if_icmp .ge 111, 3) := dk_162 0 111 (dk_at dksX4_wake_0 10 rfl rfl)
theorem dX4_wake_13 : decode cX4_wake 13 = .ok (.aload_n 0, 1) := dk_42 (dk_at dksX4_wake_0 13 rfl rfl)
theorem dX4_wake_14 : decode cX4_wake 14 = .ok (.iload_n 3, 1) := dk_29 (dk_at dksX4_wake_0 14 rfl rfl)
theorem dX4_wake_15 : decode cX4_wake 15 = .ok (.invokevirtual 138, 3) := dk_182 0 138 (dk_at dksX4_wake_0 15 rfl rfl)
theorem dX4_wake_18 : decode cX4_wake 18 = .ok (.istore 4, 2) := dk_54 4 (dk_at dksX4_wake_0 18 rfl rfl)
theorem dX4_wake_20 : decode cX4_wake 20 = .ok (.iload 4, 2) := dk_21 4 (dk_at dksX4_wake_0 20 rfl rfl)
theorem dX4_wake_22 : decode cX4_wake 22 = .ok (.ifCond .le 93, 3) := dk_158 0 93 (dk_at dksX4_wake_1 0 rfl rfl)
theorem dX4_wake_25 : decode cX4_wake 25 = .ok (.iload 4, 2) := dk_21 4 (dk_at dksX4_wake_1 3 rfl rfl)
theorem dX4_wake_27 : decode cX4_wake 27 = .ok (.i2l, 1) := dk_133 (dk_at dksX4_wake_1 5 rfl rfl)
theorem dX4_wake_28 : decode cX4_wake 28 = .ok (.aload_n 0, 1) := dk_42 (dk_at dksX4_wake_1 6 rfl rfl)
theorem dX4_wake_29 : decode cX4_wake 29 = .ok (.getfield 37, 3) := dk_180 0 37 (dk_at dksX4_wake_1 7 rfl rfl)
theorem dX4_wake_32 : decode cX4_wake 32 = .ok (.iload_n 3, 1) := dk_29 (dk_at dksX4_wake_1 10 rfl rfl)
theorem dX4_wake_33 : decode cX4_wake 33 = .ok (.iaload, 1) := dk_46 (dk_at dksX4_wake_1 11 rfl rfl)
theorem dX4_wake_34 : decode cX4_wake 34 = .ok (.i2l, 1) := dk_133 (dk_at dksX4_wake_1 12 rfl rfl)
theorem dX4_wake_35 : decode cX4_wake 35 = .ok (.lmul, 1) := dk_105 (dk_at dksX4_wake_1 13 rfl rfl)
theorem dX4_wake_36 : decode cX4_wake 36 = .ok (.ldc2_w 157, 3) := dk_20 0 157 (dk_at dksX4_wake_1 14 rfl rfl)
theorem dX4_wake_39 : decode cX4_wake 39 = .ok (.ldiv, 1) := dk_109 (dk_at dksX4_wake_1 17 rfl rfl)
theorem dX4_wake_40 : decode cX4_wake 40 = .ok (.l2i, 1) := dk_136 (dk_at dksX4_wake_1 18 rfl rfl)
theorem dX4_wake_41 : decode cX4_wake 41 = .ok (.istore 5, 2) := dk_54 5 (dk_at dksX4_wake_1 19 rfl rfl)
theorem dX4_wake_43 : decode cX4_wake 43 = .ok (.iload 5, 2) := dk_21 5 (dk_at dksX4_wake_1 21 rfl rfl)
theorem dX4_wake_45 : decode cX4_wake 45 = .ok (.aload_n 0, 1) := dk_42 (dk_at dksX4_wake_1 23 rfl rfl)
theorem dX4_wake_46 : decode cX4_wake 46 = .ok (.getfield 37, 3) := dk_180 0 37 (dk_at dksX4_wake_2 0 rfl rfl)
theorem dX4_wake_49 : decode cX4_wake 49 = .ok (.iload_n 3, 1) := dk_29 (dk_at dksX4_wake_2 3 rfl rfl)
theorem dX4_wake_50 : decode cX4_wake 50 = .ok (.iaload, 1) := dk_46 (dk_at dksX4_wake_2 4 rfl rfl)
theorem dX4_wake_51 : decode cX4_wake 51 = .ok (.invokestatic 98, 3) := dk_184 0 98 (dk_at dksX4_wake_2 5 rfl rfl)
theorem dX4_wake_54 : decode cX4_wake 54 = .ok (.istore 5, 2) := dk_54 5 (dk_at dksX4_wake_2 8 rfl rfl)
theorem dX4_wake_56 : decode cX4_wake 56 = .ok (.aload_n 0, 1) := dk_42 (dk_at dksX4_wake_2 10 rfl rfl)
theorem dX4_wake_57 : decode cX4_wake 57 = .ok (.getfield 37, 3) := dk_180 0 37 (dk_at dksX4_wake_2 11 rfl rfl)
theorem dX4_wake_60 : decode cX4_wake 60 = .ok (.iload_n 3, 1) := dk_29 (dk_at dksX4_wake_2 14 rfl rfl)
theorem dX4_wake_61 : decode cX4_wake 61 = .ok (.dup2, 1) := dk_92 (dk_at dksX4_wake_2 15 rfl rfl)
theorem dX4_wake_62 : decode cX4_wake 62 = .ok (.iaload, 1) := dk_46 (dk_at dksX4_wake_2 16 rfl rfl)
theorem dX4_wake_63 : decode cX4_wake 63 = .ok (.iload 5, 2) := dk_21 5 (dk_at dksX4_wake_2 17 rfl rfl)
theorem dX4_wake_65 : decode cX4_wake 65 = .ok (.isub, 1) := dk_100 (dk_at dksX4_wake_2 19 rfl rfl)
theorem dX4_wake_66 : decode cX4_wake 66 = .ok (.iastore, 1) := dk_79 (dk_at dksX4_wake_2 20 rfl rfl)
theorem dX4_wake_67 : decode cX4_wake 67 = .ok (.aload_n 0, 1) := dk_42 (dk_at dksX4_wake_2 21 rfl rfl)
theorem dX4_wake_68 : decode cX4_wake 68 = .ok (.dup, 1) := dk_89 (dk_at dksX4_wake_2 22 rfl rfl)
theorem dX4_wake_69 : decode cX4_wake 69 = .ok (.getfield 159, 3) := dk_180 0 159 (dk_at dksX4_wake_3 0 rfl rfl)
theorem dX4_wake_72 : decode cX4_wake 72 = .ok (.aload_n 0, 1) := dk_42 (dk_at dksX4_wake_3 3 rfl rfl)
theorem dX4_wake_73 : decode cX4_wake 73 = .ok (.iload_n 1, 1) := dk_27 (dk_at dksX4_wake_3 4 rfl rfl)
theorem dX4_wake_74 : decode cX4_wake 74 = .ok (.invokevirtual 142, 3) := dk_182 0 142 (dk_at dksX4_wake_3 5 rfl rfl)
theorem dX4_wake_77 : decode cX4_wake 77 = .ok (.ifCond .eq 9, 3) := dk_153 0 9 (dk_at dksX4_wake_3 8 rfl rfl)
theorem dX4_wake_80 : decode cX4_wake 80 = .ok (.iload 5, 2) := dk_21 5 (dk_at dksX4_wake_3 11 rfl rfl)
theorem dX4_wake_82 : decode cX4_wake 82 = .ok (.i2l, 1) := dk_133 (dk_at dksX4_wake_3 13 rfl rfl)
theorem dX4_wake_83 : decode cX4_wake 83 = .ok (.goto 4, 3) := dk_167 0 4 (dk_at dksX4_wake_3 14 rfl rfl)
theorem dX4_wake_86 : decode cX4_wake 86 = .ok (.lconst 0, 1) := dk_9 (dk_at dksX4_wake_3 17 rfl rfl)
theorem dX4_wake_87 : decode cX4_wake 87 = .ok (.ladd, 1) := dk_97 (dk_at dksX4_wake_3 18 rfl rfl)
theorem dX4_wake_88 : decode cX4_wake 88 = .ok (.putfield 159, 3) := dk_181 0 159 (dk_at dksX4_wake_3 19 rfl rfl)
theorem dX4_wake_91 : decode cX4_wake 91 = .ok (.aload_n 0, 1) := dk_42 (dk_at dksX4_wake_3 22 rfl rfl)
theorem dX4_wake_92 : decode cX4_wake 92 = .ok (.dup, 1) := dk_89 (dk_at dksX4_wake_3 23 rfl rfl)
theorem dX4_wake_93 : decode cX4_wake 93 = .ok (.getfield 162, 3) := dk_180 0 162 (dk_at dksX4_wake_4 0 rfl rfl)
theorem dX4_wake_96 : decode cX4_wake 96 = .ok (.aload_n 0, 1) := dk_42 (dk_at dksX4_wake_4 3 rfl rfl)
theorem dX4_wake_97 : decode cX4_wake 97 = .ok (.iload_n 1, 1) := dk_27 (dk_at dksX4_wake_4 4 rfl rfl)
theorem dX4_wake_98 : decode cX4_wake 98 = .ok (.invokevirtual 142, 3) := dk_182 0 142 (dk_at dksX4_wake_4 5 rfl rfl)
theorem dX4_wake_101 : decode cX4_wake 101 = .ok (.ifCond .eq 7, 3) := dk_153 0 7 (dk_at dksX4_wake_4 8 rfl rfl)
theorem dX4_wake_104 : decode cX4_wake 104 = .ok (.lconst 0, 1) := dk_9 (dk_at dksX4_wake_4 11 rfl rfl)
theorem dX4_wake_105 : decode cX4_wake 105 = .ok (.goto 6, 3) := dk_167 0 6 (dk_at dksX4_wake_4 12 rfl rfl)
theorem dX4_wake_108 : decode cX4_wake 108 = .ok (.iload 5, 2) := dk_21 5 (dk_at dksX4_wake_4 15 rfl rfl)
theorem dX4_wake_110 : decode cX4_wake 110 = .ok (.i2l, 1) := dk_133 (dk_at dksX4_wake_4 17 rfl rfl)
theorem dX4_wake_111 : decode cX4_wake 111 = .ok (.ladd, 1) := dk_97 (dk_at dksX4_wake_4 18 rfl rfl)
theorem dX4_wake_112 : decode cX4_wake 112 = .ok (.putfield 162, 3) := dk_181 0 162 (dk_at dksX4_wake_4 19 rfl rfl)
theorem dX4_wake_115 : decode cX4_wake 115 = .ok (.iinc 3 1, 3) := dk_132 3 1 (dk_at dksX4_wake_5 0 rfl rfl)
theorem dX4_wake_118 : decode cX4_wake 118 = .ok (.goto (-114), 3) := dk_167 255 142 (dk_at dksX4_wake_5 3 rfl rfl)
theorem dX4_wake_121 : decode cX4_wake 121 = .ok (.iload_n 2, 1) := dk_28 (dk_at dksX4_wake_5 6 rfl rfl)
theorem dX4_wake_122 : decode cX4_wake 122 = .ok (.ifCond .le 44, 3) := dk_158 0 44 (dk_at dksX4_wake_5 7 rfl rfl)
theorem dX4_wake_125 : decode cX4_wake 125 = .ok (.aload_n 0, 1) := dk_42 (dk_at dksX4_wake_5 10 rfl rfl)
theorem dX4_wake_126 : decode cX4_wake 126 = .ok (.iload_n 1, 1) := dk_27 (dk_at dksX4_wake_5 11 rfl rfl)
theorem dX4_wake_127 : decode cX4_wake 127 = .ok (.invokevirtual 142, 3) := dk_182 0 142 (dk_at dksX4_wake_5 12 rfl rfl)
theorem dX4_wake_130 : decode cX4_wake 130 = .ok (.ifCond .ne 36, 3) := dk_154 0 36 (dk_at dksX4_wake_5 15 rfl rfl)
theorem dX4_wake_133 : decode cX4_wake 133 = .ok (.aload_n 0, 1) := dk_42 (dk_at dksX4_wake_5 18 rfl rfl)
theorem dX4_wake_134 : decode cX4_wake 134 = .ok (.dup, 1) := dk_89 (dk_at dksX4_wake_5 19 rfl rfl)
theorem dX4_wake_135 : decode cX4_wake 135 = .ok (.getfield 162, 3) := dk_180 0 162 (dk_at dksX4_wake_5 20 rfl rfl)
theorem dX4_wake_138 : decode cX4_wake 138 = .ok (.aload_n 0, 1) := dk_42 (dk_at dksX4_wake_5 23 rfl rfl)
theorem dX4_wake_139 : decode cX4_wake 139 = .ok (.getfield 19, 3) := dk_180 0 19 (dk_at dksX4_wake_6 0 rfl rfl)
theorem dX4_wake_142 : decode cX4_wake 142 = .ok (.iload_n 1, 1) := dk_27 (dk_at dksX4_wake_6 3 rfl rfl)
theorem dX4_wake_143 : decode cX4_wake 143 = .ok (.iaload, 1) := dk_46 (dk_at dksX4_wake_6 4 rfl rfl)
theorem dX4_wake_144 : decode cX4_wake 144 = .ok (.i2l, 1) := dk_133 (dk_at dksX4_wake_6 5 rfl rfl)
theorem dX4_wake_145 : decode cX4_wake 145 = .ok (.lsub, 1) := dk_101 (dk_at dksX4_wake_6 6 rfl rfl)
theorem dX4_wake_146 : decode cX4_wake 146 = .ok (.putfield 162, 3) := dk_181 0 162 (dk_at dksX4_wake_6 7 rfl rfl)
theorem dX4_wake_149 : decode cX4_wake 149 = .ok (.aload_n 0, 1) := dk_42 (dk_at dksX4_wake_6 10 rfl rfl)
theorem dX4_wake_150 : decode cX4_wake 150 = .ok (.getfield 37, 3) := dk_180 0 37 (dk_at dksX4_wake_6 11 rfl rfl)
theorem dX4_wake_153 : decode cX4_wake 153 = .ok (.iconst 5, 1) := dk_8 (dk_at dksX4_wake_6 14 rfl rfl)
theorem dX4_wake_154 : decode cX4_wake 154 = .ok (.iload_n 1, 1) := dk_27 (dk_at dksX4_wake_6 15 rfl rfl)
theorem dX4_wake_155 : decode cX4_wake 155 = .ok (.imul, 1) := dk_104 (dk_at dksX4_wake_6 16 rfl rfl)
theorem dX4_wake_156 : decode cX4_wake 156 = .ok (.dup2, 1) := dk_92 (dk_at dksX4_wake_6 17 rfl rfl)
theorem dX4_wake_157 : decode cX4_wake 157 = .ok (.iaload, 1) := dk_46 (dk_at dksX4_wake_6 18 rfl rfl)
theorem dX4_wake_158 : decode cX4_wake 158 = .ok (.aload_n 0, 1) := dk_42 (dk_at dksX4_wake_6 19 rfl rfl)
theorem dX4_wake_159 : decode cX4_wake 159 = .ok (.getfield 19, 3) := dk_180 0 19 (dk_at dksX4_wake_6 20 rfl rfl)
theorem dX4_wake_162 : decode cX4_wake 162 = .ok (.iload_n 1, 1) := dk_27 (dk_at dksX4_wake_6 23 rfl rfl)
theorem dX4_wake_163 : decode cX4_wake 163 = .ok (.iaload, 1) := dk_46 (dk_at dksX4_wake_7 0 rfl rfl)
theorem dX4_wake_164 : decode cX4_wake 164 = .ok (.iadd, 1) := dk_96 (dk_at dksX4_wake_7 1 rfl rfl)
theorem dX4_wake_165 : decode cX4_wake 165 = .ok (.iastore, 1) := dk_79 (dk_at dksX4_wake_7 2 rfl rfl)
theorem dX4_wake_166 : decode cX4_wake 166 = .ok (.return_, 1) := dk_177 (dk_at dksX4_wake_7 3 rfl rfl)
abbrev cX4_fire : ByteArray := prog_10_method_22_code
def yX4_fire : MethodName := ⟨RX4, "fire", "(I)I"⟩
def dkwX4_fire_3 : List UInt8 := [92, 46, 29, 100, 79, 42, 89, 180, 0, 162, 29, 133, 97, 181, 0, 162, 29, 172]
abbrev dktX4_fire_3 : List UInt8 := dkwX4_fire_3 ++ []
def dkwX4_fire_2 : List UInt8 := [180, 0, 37, 8, 27, 104, 46, 5, 108, 62, 42, 180, 0, 19, 27, 3, 79, 42, 180, 0, 37, 8, 27, 104]
abbrev dktX4_fire_2 : List UInt8 := dkwX4_fire_2 ++ dktX4_fire_3
def dkwX4_fire_1 : List UInt8 := [180, 0, 16, 27, 46, 158, 0, 7, 5, 167, 0, 4, 3, 182, 0, 106, 153, 0, 5, 3, 172, 42]
abbrev dktX4_fire_1 : List UInt8 := dkwX4_fire_1 ++ dktX4_fire_2
def dkwX4_fire_0 : List UInt8 := [27, 184, 0, 102, 61, 42, 28, 154, 0, 7, 4, 167, 0, 25, 42, 27, 182, 0, 142, 154, 0, 12, 42]
abbrev dktX4_fire_0 : List UInt8 := dkwX4_fire_0 ++ dktX4_fire_1
theorem dksX4_fire_0 : cX4_fire.data.toList.drop 0 = dktX4_fire_0 := by decide +kernel
theorem dksX4_fire_1 : cX4_fire.data.toList.drop 23 = dktX4_fire_1 := dk_seg dksX4_fire_0 23 rfl rfl
theorem dksX4_fire_2 : cX4_fire.data.toList.drop 45 = dktX4_fire_2 := dk_seg dksX4_fire_1 22 rfl rfl
theorem dksX4_fire_3 : cX4_fire.data.toList.drop 69 = dktX4_fire_3 := dk_seg dksX4_fire_2 24 rfl rfl
theorem dX4_fire_0 : decode cX4_fire 0 = .ok (.iload_n 1, 1) := dk_27 (dk_at dksX4_fire_0 0 rfl rfl)
theorem dX4_fire_1 : decode cX4_fire 1 = .ok (.invokestatic 102, 3) := dk_184 0 102 (dk_at dksX4_fire_0 1 rfl rfl)
theorem dX4_fire_4 : decode cX4_fire 4 = .ok (.istore_n 2, 1) := dk_61 (dk_at dksX4_fire_0 4 rfl rfl)
theorem dX4_fire_5 : decode cX4_fire 5 = .ok (.aload_n 0, 1) := dk_42 (dk_at dksX4_fire_0 5 rfl rfl)
theorem dX4_fire_6 : decode cX4_fire 6 = .ok (.iload_n 2, 1) := dk_28 (dk_at dksX4_fire_0 6 rfl rfl)
theorem dX4_fire_7 : decode cX4_fire 7 = .ok (.ifCond .ne 7, 3) := dk_154 0 7 (dk_at dksX4_fire_0 7 rfl rfl)
theorem dX4_fire_10 : decode cX4_fire 10 = .ok (.iconst 1, 1) := dk_4 (dk_at dksX4_fire_0 10 rfl rfl)
theorem dX4_fire_11 : decode cX4_fire 11 = .ok (.goto 25, 3) := dk_167 0 25 (dk_at dksX4_fire_0 11 rfl rfl)
theorem dX4_fire_14 : decode cX4_fire 14 = .ok (.aload_n 0, 1) := dk_42 (dk_at dksX4_fire_0 14 rfl rfl)
theorem dX4_fire_15 : decode cX4_fire 15 = .ok (.iload_n 1, 1) := dk_27 (dk_at dksX4_fire_0 15 rfl rfl)
theorem dX4_fire_16 : decode cX4_fire 16 = .ok (.invokevirtual 142, 3) := dk_182 0 142 (dk_at dksX4_fire_0 16 rfl rfl)
theorem dX4_fire_19 : decode cX4_fire 19 = .ok (.ifCond .ne 12, 3) := dk_154 0 12 (dk_at dksX4_fire_0 19 rfl rfl)
theorem dX4_fire_22 : decode cX4_fire 22 = .ok (.aload_n 0, 1) := dk_42 (dk_at dksX4_fire_0 22 rfl rfl)
theorem dX4_fire_23 : decode cX4_fire 23 = .ok (.getfield 16, 3) := dk_180 0 16 (dk_at dksX4_fire_1 0 rfl rfl)
theorem dX4_fire_26 : decode cX4_fire 26 = .ok (.iload_n 1, 1) := dk_27 (dk_at dksX4_fire_1 3 rfl rfl)
theorem dX4_fire_27 : decode cX4_fire 27 = .ok (.iaload, 1) := dk_46 (dk_at dksX4_fire_1 4 rfl rfl)
theorem dX4_fire_28 : decode cX4_fire 28 = .ok (.ifCond .le 7, 3) := dk_158 0 7 (dk_at dksX4_fire_1 5 rfl rfl)
theorem dX4_fire_31 : decode cX4_fire 31 = .ok (.iconst 2, 1) := dk_5 (dk_at dksX4_fire_1 8 rfl rfl)
theorem dX4_fire_32 : decode cX4_fire 32 = .ok (.goto 4, 3) := dk_167 0 4 (dk_at dksX4_fire_1 9 rfl rfl)
theorem dX4_fire_35 : decode cX4_fire 35 = .ok (.iconst 0, 1) := dk_3 (dk_at dksX4_fire_1 12 rfl rfl)
theorem dX4_fire_36 : decode cX4_fire 36 = .ok (.invokevirtual 106, 3) := dk_182 0 106 (dk_at dksX4_fire_1 13 rfl rfl)
theorem dX4_fire_39 : decode cX4_fire 39 = .ok (.ifCond .eq 5, 3) := dk_153 0 5 (dk_at dksX4_fire_1 16 rfl rfl)
theorem dX4_fire_42 : decode cX4_fire 42 = .ok (.iconst 0, 1) := dk_3 (dk_at dksX4_fire_1 19 rfl rfl)
theorem dX4_fire_43 : decode cX4_fire 43 = .ok (.ireturn, 1) := dk_172 (dk_at dksX4_fire_1 20 rfl rfl)
theorem dX4_fire_44 : decode cX4_fire 44 = .ok (.aload_n 0, 1) := dk_42 (dk_at dksX4_fire_1 21 rfl rfl)
theorem dX4_fire_45 : decode cX4_fire 45 = .ok (.getfield 37, 3) := dk_180 0 37 (dk_at dksX4_fire_2 0 rfl rfl)
theorem dX4_fire_48 : decode cX4_fire 48 = .ok (.iconst 5, 1) := dk_8 (dk_at dksX4_fire_2 3 rfl rfl)
theorem dX4_fire_49 : decode cX4_fire 49 = .ok (.iload_n 1, 1) := dk_27 (dk_at dksX4_fire_2 4 rfl rfl)
theorem dX4_fire_50 : decode cX4_fire 50 = .ok (.imul, 1) := dk_104 (dk_at dksX4_fire_2 5 rfl rfl)
theorem dX4_fire_51 : decode cX4_fire 51 = .ok (.iaload, 1) := dk_46 (dk_at dksX4_fire_2 6 rfl rfl)
theorem dX4_fire_52 : decode cX4_fire 52 = .ok (.iconst 2, 1) := dk_5 (dk_at dksX4_fire_2 7 rfl rfl)
theorem dX4_fire_53 : decode cX4_fire 53 = .ok (.idiv, 1) := dk_108 (dk_at dksX4_fire_2 8 rfl rfl)
theorem dX4_fire_54 : decode cX4_fire 54 = .ok (.istore_n 3, 1) := dk_62 (dk_at dksX4_fire_2 9 rfl rfl)
theorem dX4_fire_55 : decode cX4_fire 55 = .ok (.aload_n 0, 1) := dk_42 (dk_at dksX4_fire_2 10 rfl rfl)
theorem dX4_fire_56 : decode cX4_fire 56 = .ok (.getfield 19, 3) := dk_180 0 19 (dk_at dksX4_fire_2 11 rfl rfl)
theorem dX4_fire_59 : decode cX4_fire 59 = .ok (.iload_n 1, 1) := dk_27 (dk_at dksX4_fire_2 14 rfl rfl)
theorem dX4_fire_60 : decode cX4_fire 60 = .ok (.iconst 0, 1) := dk_3 (dk_at dksX4_fire_2 15 rfl rfl)
theorem dX4_fire_61 : decode cX4_fire 61 = .ok (.iastore, 1) := dk_79 (dk_at dksX4_fire_2 16 rfl rfl)
theorem dX4_fire_62 : decode cX4_fire 62 = .ok (.aload_n 0, 1) := dk_42 (dk_at dksX4_fire_2 17 rfl rfl)
theorem dX4_fire_63 : decode cX4_fire 63 = .ok (.getfield 37, 3) := dk_180 0 37 (dk_at dksX4_fire_2 18 rfl rfl)
theorem dX4_fire_66 : decode cX4_fire 66 = .ok (.iconst 5, 1) := dk_8 (dk_at dksX4_fire_2 21 rfl rfl)
theorem dX4_fire_67 : decode cX4_fire 67 = .ok (.iload_n 1, 1) := dk_27 (dk_at dksX4_fire_2 22 rfl rfl)
theorem dX4_fire_68 : decode cX4_fire 68 = .ok (.imul, 1) := dk_104 (dk_at dksX4_fire_2 23 rfl rfl)
theorem dX4_fire_69 : decode cX4_fire 69 = .ok (.dup2, 1) := dk_92 (dk_at dksX4_fire_3 0 rfl rfl)
theorem dX4_fire_70 : decode cX4_fire 70 = .ok (.iaload, 1) := dk_46 (dk_at dksX4_fire_3 1 rfl rfl)
theorem dX4_fire_71 : decode cX4_fire 71 = .ok (.iload_n 3, 1) := dk_29 (dk_at dksX4_fire_3 2 rfl rfl)
theorem dX4_fire_72 : decode cX4_fire 72 = .ok (.isub, 1) := dk_100 (dk_at dksX4_fire_3 3 rfl rfl)
theorem dX4_fire_73 : decode cX4_fire 73 = .ok (.iastore, 1) := dk_79 (dk_at dksX4_fire_3 4 rfl rfl)
theorem dX4_fire_74 : decode cX4_fire 74 = .ok (.aload_n 0, 1) := dk_42 (dk_at dksX4_fire_3 5 rfl rfl)
theorem dX4_fire_75 : decode cX4_fire 75 = .ok (.dup, 1) := dk_89 (dk_at dksX4_fire_3 6 rfl rfl)
theorem dX4_fire_76 : decode cX4_fire 76 = .ok (.getfield 162, 3) := dk_180 0 162 (dk_at dksX4_fire_3 7 rfl rfl)
theorem dX4_fire_79 : decode cX4_fire 79 = .ok (.iload_n 3, 1) := dk_29 (dk_at dksX4_fire_3 10 rfl rfl)
theorem dX4_fire_80 : decode cX4_fire 80 = .ok (.i2l, 1) := dk_133 (dk_at dksX4_fire_3 11 rfl rfl)
theorem dX4_fire_81 : decode cX4_fire 81 = .ok (.ladd, 1) := dk_97 (dk_at dksX4_fire_3 12 rfl rfl)
theorem dX4_fire_82 : decode cX4_fire 82 = .ok (.putfield 162, 3) := dk_181 0 162 (dk_at dksX4_fire_3 13 rfl rfl)
theorem dX4_fire_85 : decode cX4_fire 85 = .ok (.iload_n 3, 1) := dk_29 (dk_at dksX4_fire_3 16 rfl rfl)
theorem dX4_fire_86 : decode cX4_fire 86 = .ok (.ireturn, 1) := dk_172 (dk_at dksX4_fire_3 17 rfl rfl)
abbrev cX4_breach : ByteArray := prog_10_method_24_code
def yX4_breach : MethodName := ⟨RX4, "breach", "(I)I"⟩
def dkwX4_breach_5 : List UInt8 := [132, 4, 1, 167, 255, 181, 42, 89, 180, 0, 168, 29, 133, 97, 181, 0, 168, 29, 172]
abbrev dktX4_breach_5 : List UInt8 := dkwX4_breach_5 ++ []
def dkwX4_breach_4 : List UInt8 := [62, 42, 180, 0, 13, 21, 4, 21, 5, 153, 0, 7, 3, 167, 0, 10, 42, 180, 0, 13, 21, 4, 46, 79]
abbrev dktX4_breach_4 : List UInt8 := dkwX4_breach_4 ++ dktX4_breach_5
def dkwX4_breach_3 : List UInt8 := [167, 0, 4, 3, 54, 5, 29, 21, 5, 153, 0, 13, 42, 180, 0, 13, 21, 4, 46, 167, 0, 4, 3, 96]
abbrev dktX4_breach_3 : List UInt8 := dkwX4_breach_3 ++ dktX4_breach_4
def dkwX4_breach_2 : List UInt8 := [16, 25, 162, 0, 74, 42, 180, 0, 25, 21, 4, 46, 42, 180, 0, 25, 27, 46, 160, 0, 7, 4]
abbrev dktX4_breach_2 : List UInt8 := dkwX4_breach_2 ++ dktX4_breach_3
def dkwX4_breach_1 : List UInt8 := [167, 0, 4, 3, 182, 0, 106, 153, 0, 5, 3, 172, 42, 182, 0, 165, 3, 62, 3, 54, 4, 21, 4]
abbrev dktX4_breach_1 : List UInt8 := dkwX4_breach_1 ++ dktX4_breach_2
def dkwX4_breach_0 : List UInt8 := [27, 184, 0, 102, 61, 42, 28, 154, 0, 7, 4, 167, 0, 17, 42, 180, 0, 13, 27, 46, 154, 0, 7, 5]
abbrev dktX4_breach_0 : List UInt8 := dkwX4_breach_0 ++ dktX4_breach_1
theorem dksX4_breach_0 : cX4_breach.data.toList.drop 0 = dktX4_breach_0 := by decide +kernel
theorem dksX4_breach_1 : cX4_breach.data.toList.drop 24 = dktX4_breach_1 := dk_seg dksX4_breach_0 24 rfl rfl
theorem dksX4_breach_2 : cX4_breach.data.toList.drop 47 = dktX4_breach_2 := dk_seg dksX4_breach_1 23 rfl rfl
theorem dksX4_breach_3 : cX4_breach.data.toList.drop 69 = dktX4_breach_3 := dk_seg dksX4_breach_2 22 rfl rfl
theorem dksX4_breach_4 : cX4_breach.data.toList.drop 93 = dktX4_breach_4 := dk_seg dksX4_breach_3 24 rfl rfl
theorem dksX4_breach_5 : cX4_breach.data.toList.drop 117 = dktX4_breach_5 := dk_seg dksX4_breach_4 24 rfl rfl
theorem dX4_breach_0 : decode cX4_breach 0 = .ok (.iload_n 1, 1) := dk_27 (dk_at dksX4_breach_0 0 rfl rfl)
theorem dX4_breach_1 : decode cX4_breach 1 = .ok (.invokestatic 102, 3) := dk_184 0 102 (dk_at dksX4_breach_0 1 rfl rfl)
theorem dX4_breach_4 : decode cX4_breach 4 = .ok (.istore_n 2, 1) := dk_61 (dk_at dksX4_breach_0 4 rfl rfl)
theorem dX4_breach_5 : decode cX4_breach 5 = .ok (.aload_n 0, 1) := dk_42 (dk_at dksX4_breach_0 5 rfl rfl)
theorem dX4_breach_6 : decode cX4_breach 6 = .ok (.iload_n 2, 1) := dk_28 (dk_at dksX4_breach_0 6 rfl rfl)
theorem dX4_breach_7 : decode cX4_breach 7 = .ok (.ifCond .ne 7, 3) := dk_154 0 7 (dk_at dksX4_breach_0 7 rfl rfl)
theorem dX4_breach_10 : decode cX4_breach 10 = .ok (.iconst 1, 1) := dk_4 (dk_at dksX4_breach_0 10 rfl rfl)
theorem dX4_breach_11 : decode cX4_breach 11 = .ok (.goto 17, 3) := dk_167 0 17 (dk_at dksX4_breach_0 11 rfl rfl)
theorem dX4_breach_14 : decode cX4_breach 14 = .ok (.aload_n 0, 1) := dk_42 (dk_at dksX4_breach_0 14 rfl rfl)
theorem dX4_breach_15 : decode cX4_breach 15 = .ok (.getfield 13, 3) := dk_180 0 13 (dk_at dksX4_breach_0 15 rfl rfl)
theorem dX4_breach_18 : decode cX4_breach 18 = .ok (.iload_n 1, 1) := dk_27 (dk_at dksX4_breach_0 18 rfl rfl)
theorem dX4_breach_19 : decode cX4_breach 19 = .ok (.iaload, 1) := dk_46 (dk_at dksX4_breach_0 19 rfl rfl)
theorem dX4_breach_20 : decode cX4_breach 20 = .ok (.ifCond .ne 7, 3) := dk_154 0 7 (dk_at dksX4_breach_0 20 rfl rfl)
theorem dX4_breach_23 : decode cX4_breach 23 = .ok (.iconst 2, 1) := dk_5 (dk_at dksX4_breach_0 23 rfl rfl)
theorem dX4_breach_24 : decode cX4_breach 24 = .ok (.goto 4, 3) := dk_167 0 4 (dk_at dksX4_breach_1 0 rfl rfl)
theorem dX4_breach_27 : decode cX4_breach 27 = .ok (.iconst 0, 1) := dk_3 (dk_at dksX4_breach_1 3 rfl rfl)
theorem dX4_breach_28 : decode cX4_breach 28 = .ok (.invokevirtual 106, 3) := dk_182 0 106 (dk_at dksX4_breach_1 4 rfl rfl)
theorem dX4_breach_31 : decode cX4_breach 31 = .ok (.ifCond .eq 5, 3) := dk_153 0 5 (dk_at dksX4_breach_1 7 rfl rfl)
theorem dX4_breach_34 : decode cX4_breach 34 = .ok (.iconst 0, 1) := dk_3 (dk_at dksX4_breach_1 10 rfl rfl)
theorem dX4_breach_35 : decode cX4_breach 35 = .ok (.ireturn, 1) := dk_172 (dk_at dksX4_breach_1 11 rfl rfl)
theorem dX4_breach_36 : decode cX4_breach 36 = .ok (.aload_n 0, 1) := dk_42 (dk_at dksX4_breach_1 12 rfl rfl)
theorem dX4_breach_37 : decode cX4_breach 37 = .ok (.invokevirtual 165, 3) := dk_182 0 165 (dk_at dksX4_breach_1 13 rfl rfl)
theorem dX4_breach_40 : decode cX4_breach 40 = .ok (.iconst 0, 1) := dk_3 (dk_at dksX4_breach_1 16 rfl rfl)
theorem dX4_breach_41 : decode cX4_breach 41 = .ok (.istore_n 3, 1) := dk_62 (dk_at dksX4_breach_1 17 rfl rfl)
theorem dX4_breach_42 : decode cX4_breach 42 = .ok (.iconst 0, 1) := dk_3 (dk_at dksX4_breach_1 18 rfl rfl)
theorem dX4_breach_43 : decode cX4_breach 43 = .ok (.istore 4, 2) := dk_54 4 (dk_at dksX4_breach_1 19 rfl rfl)
theorem dX4_breach_45 : decode cX4_breach 45 = .ok (.iload 4, 2) := dk_21 4 (dk_at dksX4_breach_1 21 rfl rfl)
theorem dX4_breach_47 : decode cX4_breach 47 = .ok (.bipush 25, 2) := dk_16 25 (dk_at dksX4_breach_2 0 rfl rfl)
theorem dX4_breach_49 : decode cX4_breach 49 = .ok (.if_icmp .ge 74, 3) := dk_162 0 74 (dk_at dksX4_breach_2 2 rfl rfl)
theorem dX4_breach_52 : decode cX4_breach 52 = .ok (.aload_n 0, 1) := dk_42 (dk_at dksX4_breach_2 5 rfl rfl)
theorem dX4_breach_53 : decode cX4_breach 53 = .ok (.getfield 25, 3) := dk_180 0 25 (dk_at dksX4_breach_2 6 rfl rfl)
theorem dX4_breach_56 : decode cX4_breach 56 = .ok (.iload 4, 2) := dk_21 4 (dk_at dksX4_breach_2 9 rfl rfl)
theorem dX4_breach_58 : decode cX4_breach 58 = .ok (.iaload, 1) := dk_46 (dk_at dksX4_breach_2 11 rfl rfl)
theorem dX4_breach_59 : decode cX4_breach 59 = .ok (.aload_n 0, 1) := dk_42 (dk_at dksX4_breach_2 12 rfl rfl)
theorem dX4_breach_60 : decode cX4_breach 60 = .ok (.getfield 25, 3) := dk_180 0 25 (dk_at dksX4_breach_2 13 rfl rfl)
theorem dX4_breach_63 : decode cX4_breach 63 = .ok (.iload_n 1, 1) := dk_27 (dk_at dksX4_breach_2 16 rfl rfl)
theorem dX4_breach_64 : decode cX4_breach 64 = .ok (.iaload, 1) := dk_46 (dk_at dksX4_breach_2 17 rfl rfl)
theorem dX4_breach_65 : decode cX4_breach 65 = .ok (.if_icmp .ne 7, 3) := dk_160 0 7 (dk_at dksX4_breach_2 18 rfl rfl)
theorem dX4_breach_68 : decode cX4_breach 68 = .ok (.iconst 1, 1) := dk_4 (dk_at dksX4_breach_2 21 rfl rfl)
theorem dX4_breach_69 : decode cX4_breach 69 = .ok (.goto 4, 3) := dk_167 0 4 (dk_at dksX4_breach_3 0 rfl rfl)
theorem dX4_breach_72 : decode cX4_breach 72 = .ok (.iconst 0, 1) := dk_3 (dk_at dksX4_breach_3 3 rfl rfl)
theorem dX4_breach_73 : decode cX4_breach 73 = .ok (.istore 5, 2) := dk_54 5 (dk_at dksX4_breach_3 4 rfl rfl)
theorem dX4_breach_75 : decode cX4_breach 75 = .ok (.iload_n 3, 1) := dk_29 (dk_at dksX4_breach_3 6 rfl rfl)
theorem dX4_breach_76 : decode cX4_breach 76 = .ok (.iload 5, 2) := dk_21 5 (dk_at dksX4_breach_3 7 rfl rfl)
theorem dX4_breach_78 : decode cX4_breach 78 = .ok (.ifCond .eq 13, 3) := dk_153 0 13 (dk_at dksX4_breach_3 9 rfl rfl)
theorem dX4_breach_81 : decode cX4_breach 81 = .ok (.aload_n 0, 1) := dk_42 (dk_at dksX4_breach_3 12 rfl rfl)
theorem dX4_breach_82 : decode cX4_breach 82 = .ok (.getfield 13, 3) := dk_180 0 13 (dk_at dksX4_breach_3 13 rfl rfl)
theorem dX4_breach_85 : decode cX4_breach 85 = .ok (.iload 4, 2) := dk_21 4 (dk_at dksX4_breach_3 16 rfl rfl)
theorem dX4_breach_87 : decode cX4_breach 87 = .ok (.iaload, 1) := dk_46 (dk_at dksX4_breach_3 18 rfl rfl)
theorem dX4_breach_88 : decode cX4_breach 88 = .ok (.goto 4, 3) := dk_167 0 4 (dk_at dksX4_breach_3 19 rfl rfl)
theorem dX4_breach_91 : decode cX4_breach 91 = .ok (.iconst 0, 1) := dk_3 (dk_at dksX4_breach_3 22 rfl rfl)
theorem dX4_breach_92 : decode cX4_breach 92 = .ok (.iadd, 1) := dk_96 (dk_at dksX4_breach_3 23 rfl rfl)
theorem dX4_breach_93 : decode cX4_breach 93 = .ok (.istore_n 3, 1) := dk_62 (dk_at dksX4_breach_4 0 rfl rfl)
theorem dX4_breach_94 : decode cX4_breach 94 = .ok (.aload_n 0, 1) := dk_42 (dk_at dksX4_breach_4 1 rfl rfl)
theorem dX4_breach_95 : decode cX4_breach 95 = .ok (.getfield 13, 3) := dk_180 0 13 (dk_at dksX4_breach_4 2 rfl rfl)
theorem dX4_breach_98 : decode cX4_breach 98 = .ok (.iload 4, 2) := dk_21 4 (dk_at dksX4_breach_4 5 rfl rfl)
theorem dX4_breach_100 : decode cX4_breach 100 = .ok (.iload 5, 2) := dk_21 5 (dk_at dksX4_breach_4 7 rfl rfl)
theorem dX4_breach_102 : decode cX4_breach 102 = .ok (.ifCond .eq 7, 3) := dk_153 0 7 (dk_at dksX4_breach_4 9 rfl rfl)
theorem dX4_breach_105 : decode cX4_breach 105 = .ok (.iconst 0, 1) := dk_3 (dk_at dksX4_breach_4 12 rfl rfl)
theorem dX4_breach_106 : decode cX4_breach 106 = .ok (.goto 10, 3) := dk_167 0 10 (dk_at dksX4_breach_4 13 rfl rfl)
theorem dX4_breach_109 : decode cX4_breach 109 = .ok (.aload_n 0, 1) := dk_42 (dk_at dksX4_breach_4 16 rfl rfl)
theorem dX4_breach_110 : decode cX4_breach 110 = .ok (.getfield 13, 3) := dk_180 0 13 (dk_at dksX4_breach_4 17 rfl rfl)
theorem dX4_breach_113 : decode cX4_breach 113 = .ok (.iload 4, 2) := dk_21 4 (dk_at dksX4_breach_4 20 rfl rfl)
theorem dX4_breach_115 : decode cX4_breach 115 = .ok (.iaload, 1) := dk_46 (dk_at dksX4_breach_4 22 rfl rfl)
theorem dX4_breach_116 : decode cX4_breach 116 = .ok (.iastore, 1) := dk_79 (dk_at dksX4_breach_4 23 rfl rfl)
theorem dX4_breach_117 : decode cX4_breach 117 = .ok (.iinc 4 1, 3) := dk_132 4 1 (dk_at dksX4_breach_5 0 rfl rfl)
theorem dX4_breach_120 : decode cX4_breach 120 = .ok (.goto (-75), 3) := dk_167 255 181 (dk_at dksX4_breach_5 3 rfl rfl)
theorem dX4_breach_123 : decode cX4_breach 123 = .ok (.aload_n 0, 1) := dk_42 (dk_at dksX4_breach_5 6 rfl rfl)
theorem dX4_breach_124 : decode cX4_breach 124 = .ok (.dup, 1) := dk_89 (dk_at dksX4_breach_5 7 rfl rfl)
theorem dX4_breach_125 : decode cX4_breach 125 = .ok (.getfield 168, 3) := dk_180 0 168 (dk_at dksX4_breach_5 8 rfl rfl)
theorem dX4_breach_128 : decode cX4_breach 128 = .ok (.iload_n 3, 1) := dk_29 (dk_at dksX4_breach_5 11 rfl rfl)
theorem dX4_breach_129 : decode cX4_breach 129 = .ok (.i2l, 1) := dk_133 (dk_at dksX4_breach_5 12 rfl rfl)
theorem dX4_breach_130 : decode cX4_breach 130 = .ok (.ladd, 1) := dk_97 (dk_at dksX4_breach_5 13 rfl rfl)
theorem dX4_breach_131 : decode cX4_breach 131 = .ok (.putfield 168, 3) := dk_181 0 168 (dk_at dksX4_breach_5 14 rfl rfl)
theorem dX4_breach_134 : decode cX4_breach 134 = .ok (.iload_n 3, 1) := dk_29 (dk_at dksX4_breach_5 17 rfl rfl)
theorem dX4_breach_135 : decode cX4_breach 135 = .ok (.ireturn, 1) := dk_172 (dk_at dksX4_breach_5 18 rfl rfl)
abbrev cX4_gather : ByteArray := prog_10_method_23_code
def yX4_gather : MethodName := ⟨RX4, "gather", "()V"⟩
def dkwX4_gather_5 : List UInt8 := [79, 4, 60, 132, 2, 1, 167, 255, 176, 167, 255, 165, 177]
abbrev dktX4_gather_5 : List UInt8 := dkwX4_gather_5 ++ []
def dkwX4_gather_4 : List UInt8 := [21, 4, 46, 42, 180, 0, 25, 29, 46, 162, 0, 18, 42, 180, 0, 25, 29, 42, 180, 0, 25, 21, 4, 46]
abbrev dktX4_gather_4 : List UInt8 := dkwX4_gather_4 ++ dktX4_gather_5
def dkwX4_gather_3 : List UInt8 := [180, 0, 25, 29, 46, 2, 159, 0, 45, 42, 180, 0, 25, 21, 4, 46, 2, 159, 0, 34, 42, 180, 0, 25]
abbrev dktX4_gather_3 : List UInt8 := dkwX4_gather_3 ++ dktX4_gather_4
def dkwX4_gather_2 : List UInt8 := [162, 0, 80, 28, 7, 108, 62, 29, 28, 7, 112, 184, 0, 154, 54, 4, 21, 4, 2, 159, 0, 55, 42]
abbrev dktX4_gather_2 : List UInt8 := dkwX4_gather_2 ++ dktX4_gather_3
def dkwX4_gather_1 : List UInt8 := [167, 0, 4, 2, 79, 132, 1, 1, 167, 255, 227, 4, 60, 27, 153, 0, 93, 3, 60, 3, 61, 28, 16, 100]
abbrev dktX4_gather_1 : List UInt8 := dkwX4_gather_1 ++ dktX4_gather_2
def dkwX4_gather_0 : List UInt8 := [3, 60, 27, 16, 25, 162, 0, 29, 42, 180, 0, 25, 27, 42, 180, 0, 13, 27, 46, 158, 0, 7, 27]
abbrev dktX4_gather_0 : List UInt8 := dkwX4_gather_0 ++ dktX4_gather_1
theorem dksX4_gather_0 : cX4_gather.data.toList.drop 0 = dktX4_gather_0 := by decide +kernel
theorem dksX4_gather_1 : cX4_gather.data.toList.drop 23 = dktX4_gather_1 := dk_seg dksX4_gather_0 23 rfl rfl
theorem dksX4_gather_2 : cX4_gather.data.toList.drop 47 = dktX4_gather_2 := dk_seg dksX4_gather_1 24 rfl rfl
theorem dksX4_gather_3 : cX4_gather.data.toList.drop 70 = dktX4_gather_3 := dk_seg dksX4_gather_2 23 rfl rfl
theorem dksX4_gather_4 : cX4_gather.data.toList.drop 94 = dktX4_gather_4 := dk_seg dksX4_gather_3 24 rfl rfl
theorem dksX4_gather_5 : cX4_gather.data.toList.drop 118 = dktX4_gather_5 := dk_seg dksX4_gather_4 24 rfl rfl
theorem dX4_gather_0 : decode cX4_gather 0 = .ok (.iconst 0, 1) := dk_3 (dk_at dksX4_gather_0 0 rfl rfl)
theorem dX4_gather_1 : decode cX4_gather 1 = .ok (.istore_n 1, 1) := dk_60 (dk_at dksX4_gather_0 1 rfl rfl)
theorem dX4_gather_2 : decode cX4_gather 2 = .ok (.iload_n 1, 1) := dk_27 (dk_at dksX4_gather_0 2 rfl rfl)
theorem dX4_gather_3 : decode cX4_gather 3 = .ok (.bipush 25, 2) := dk_16 25 (dk_at dksX4_gather_0 3 rfl rfl)
theorem dX4_gather_5 : decode cX4_gather 5 = .ok (.if_icmp .ge 29, 3) := dk_162 0 29 (dk_at dksX4_gather_0 5 rfl rfl)
theorem dX4_gather_8 : decode cX4_gather 8 = .ok (.aload_n 0, 1) := dk_42 (dk_at dksX4_gather_0 8 rfl rfl)
theorem dX4_gather_9 : decode cX4_gather 9 = .ok (.getfield 25, 3) := dk_180 0 25 (dk_at dksX4_gather_0 9 rfl rfl)
theorem dX4_gather_12 : decode cX4_gather 12 = .ok (.iload_n 1, 1) := dk_27 (dk_at dksX4_gather_0 12 rfl rfl)
theorem dX4_gather_13 : decode cX4_gather 13 = .ok (.aload_n 0, 1) := dk_42 (dk_at dksX4_gather_0 13 rfl rfl)
theorem dX4_gather_14 : decode cX4_gather 14 = .ok (.getfield 13, 3) := dk_180 0 13 (dk_at dksX4_gather_0 14 rfl rfl)
theorem dX4_gather_17 : decode cX4_gather 17 = .ok (.iload_n 1, 1) := dk_27 (dk_at dksX4_gather_0 17 rfl rfl)
theorem dX4_gather_18 : decode cX4_gather 18 = .ok (.iaload, 1) := dk_46 (dk_at dksX4_gather_0 18 rfl rfl)
theorem dX4_gather_19 : decode cX4_gather 19 = .ok (.ifCond .le 7, 3) := dk_158 0 7 (dk_at dksX4_gather_0 19 rfl rfl)
theorem dX4_gather_22 : decode cX4_gather 22 = .ok (.iload_n 1, 1) := dk_27 (dk_at dksX4_gather_0 22 rfl rfl)
theorem dX4_gather_23 : decode cX4_gather 23 = .ok (.goto 4, 3) := dk_167 0 4 (dk_at dksX4_gather_1 0 rfl rfl)
theorem dX4_gather_26 : decode cX4_gather 26 = .ok (.iconst (-1), 1) := dk_2 (dk_at dksX4_gather_1 3 rfl rfl)
theorem dX4_gather_27 : decode cX4_gather 27 = .ok (.iastore, 1) := dk_79 (dk_at dksX4_gather_1 4 rfl rfl)
theorem dX4_gather_28 : decode cX4_gather 28 = .ok (.iinc 1 1, 3) := dk_132 1 1 (dk_at dksX4_gather_1 5 rfl rfl)
theorem dX4_gather_31 : decode cX4_gather 31 = .ok (.goto (-29), 3) := dk_167 255 227 (dk_at dksX4_gather_1 8 rfl rfl)
theorem dX4_gather_34 : decode cX4_gather 34 = .ok (.iconst 1, 1) := dk_4 (dk_at dksX4_gather_1 11 rfl rfl)
theorem dX4_gather_35 : decode cX4_gather 35 = .ok (.istore_n 1, 1) := dk_60 (dk_at dksX4_gather_1 12 rfl rfl)
theorem dX4_gather_36 : decode cX4_gather 36 = .ok (.iload_n 1, 1) := dk_27 (dk_at dksX4_gather_1 13 rfl rfl)
theorem dX4_gather_37 : decode cX4_gather 37 = .ok (.ifCond .eq 93, 3) := dk_153 0 93 (dk_at dksX4_gather_1 14 rfl rfl)
theorem dX4_gather_40 : decode cX4_gather 40 = .ok (.iconst 0, 1) := dk_3 (dk_at dksX4_gather_1 17 rfl rfl)
theorem dX4_gather_41 : decode cX4_gather 41 = .ok (.istore_n 1, 1) := dk_60 (dk_at dksX4_gather_1 18 rfl rfl)
theorem dX4_gather_42 : decode cX4_gather 42 = .ok (.iconst 0, 1) := dk_3 (dk_at dksX4_gather_1 19 rfl rfl)
theorem dX4_gather_43 : decode cX4_gather 43 = .ok (.istore_n 2, 1) := dk_61 (dk_at dksX4_gather_1 20 rfl rfl)
theorem dX4_gather_44 : decode cX4_gather 44 = .ok (.iload_n 2, 1) := dk_28 (dk_at dksX4_gather_1 21 rfl rfl)
theorem dX4_gather_45 : decode cX4_gather 45 = .ok (.bipush 100, 2) := dk_16 100 (dk_at dksX4_gather_1 22 rfl rfl)
theorem dX4_gather_47 : decode cX4_gather 47 = .ok (.if_icmp .ge 80, 3) := dk_162 0 80 (dk_at dksX4_gather_2 0 rfl rfl)
theorem dX4_gather_50 : decode cX4_gather 50 = .ok (.iload_n 2, 1) := dk_28 (dk_at dksX4_gather_2 3 rfl rfl)
theorem dX4_gather_51 : decode cX4_gather 51 = .ok (.iconst 4, 1) := dk_7 (dk_at dksX4_gather_2 4 rfl rfl)
theorem dX4_gather_52 : decode cX4_gather 52 = .ok (.idiv, 1) := dk_108 (dk_at dksX4_gather_2 5 rfl rfl)
theorem dX4_gather_53 : decode cX4_gather 53 = .ok (.istore_n 3, 1) := dk_62 (dk_at dksX4_gather_2 6 rfl rfl)
theorem dX4_gather_54 : decode cX4_gather 54 = .ok (.iload_n 3, 1) := dk_29 (dk_at dksX4_gather_2 7 rfl rfl)
theorem dX4_gather_55 : decode cX4_gather 55 = .ok (.iload_n 2, 1) := dk_28 (dk_at dksX4_gather_2 8 rfl rfl)
theorem dX4_gather_56 : decode cX4_gather 56 = .ok (.iconst 4, 1) := dk_7 (dk_at dksX4_gather_2 9 rfl rfl)
theorem dX4_gather_57 : decode cX4_gather 57 = .ok (.irem, 1) := dk_112 (dk_at dksX4_gather_2 10 rfl rfl)
theorem dX4_gather_58 : decode cX4_gather 58 = .ok (.invokestatic 154, 3) := dk_184 0 154 (dk_at dksX4_gather_2 11 rfl rfl)
theorem dX4_gather_61 : decode cX4_gather 61 = .ok (.istore 4, 2) := dk_54 4 (dk_at dksX4_gather_2 14 rfl rfl)
theorem dX4_gather_63 : decode cX4_gather 63 = .ok (.iload 4, 2) := dk_21 4 (dk_at dksX4_gather_2 16 rfl rfl)
theorem dX4_gather_65 : decode cX4_gather 65 = .ok (.iconst (-1), 1) := dk_2 (dk_at dksX4_gather_2 18 rfl rfl)
theorem dX4_gather_66 : decode cX4_gather 66 = .ok (.if_icmp .eq 55, 3) := dk_159 0 55 (dk_at dksX4_gather_2 19 rfl rfl)
theorem dX4_gather_69 : decode cX4_gather 69 = .ok (.aload_n 0, 1) := dk_42 (dk_at dksX4_gather_2 22 rfl rfl)
theorem dX4_gather_70 : decode cX4_gather 70 = .ok (.getfield 25, 3) := dk_180 0 25 (dk_at dksX4_gather_3 0 rfl rfl)
theorem dX4_gather_73 : decode cX4_gather 73 = .ok (.iload_n 3, 1) := dk_29 (dk_at dksX4_gather_3 3 rfl rfl)
theorem dX4_gather_74 : decode cX4_gather 74 = .ok (.iaload, 1) := dk_46 (dk_at dksX4_gather_3 4 rfl rfl)
theorem dX4_gather_75 : decode cX4_gather 75 = .ok (.iconst (-1), 1) := dk_2 (dk_at dksX4_gather_3 5 rfl rfl)
theorem dX4_gather_76 : decode cX4_gather 76 = .ok (.if_icmp .eq 45, 3) := dk_159 0 45 (dk_at dksX4_gather_3 6 rfl rfl)
theorem dX4_gather_79 : decode cX4_gather 79 = .ok (.aload_n 0, 1) := dk_42 (dk_at dksX4_gather_3 9 rfl rfl)
theorem dX4_gather_80 : decode cX4_gather 80 = .ok (.getfield 25, 3) := dk_180 0 25 (dk_at dksX4_gather_3 10 rfl rfl)
theorem dX4_gather_83 : decode cX4_gather 83 = .ok (.iload 4, 2) := dk_21 4 (dk_at dksX4_gather_3 13 rfl rfl)
theorem dX4_gather_85 : decode cX4_gather 85 = .ok (.iaload, 1) := dk_46 (dk_at dksX4_gather_3 15 rfl rfl)
theorem dX4_gather_86 : decode cX4_gather 86 = .ok (.iconst (-1), 1) := dk_2 (dk_at dksX4_gather_3 16 rfl rfl)
theorem dX4_gather_87 : decode cX4_gather 87 = .ok (.if_icmp .eq 34, 3) := dk_159 0 34 (dk_at dksX4_gather_3 17 rfl rfl)
theorem dX4_gather_90 : decode cX4_gather 90 = .ok (.aload_n 0, 1) := dk_42 (dk_at dksX4_gather_3 20 rfl rfl)
theorem dX4_gather_91 : decode cX4_gather 91 = .ok (.getfield 25, 3) := dk_180 0 25 (dk_at dksX4_gather_3 21 rfl rfl)
theorem dX4_gather_94 : decode cX4_gather 94 = .ok (.iload 4, 2) := dk_21 4 (dk_at dksX4_gather_4 0 rfl rfl)
theorem dX4_gather_96 : decode cX4_gather 96 = .ok (.iaload, 1) := dk_46 (dk_at dksX4_gather_4 2 rfl rfl)
theorem dX4_gather_97 : decode cX4_gather 97 = .ok (.aload_n 0, 1) := dk_42 (dk_at dksX4_gather_4 3 rfl rfl)
theorem dX4_gather_98 : decode cX4_gather 98 = .ok (.getfield 25, 3) := dk_180 0 25 (dk_at dksX4_gather_4 4 rfl rfl)
theorem dX4_gather_101 : decode cX4_gather 101 = .ok (.iload_n 3, 1) := dk_29 (dk_at dksX4_gather_4 7 rfl rfl)
theorem dX4_gather_102 : decode cX4_gather 102 = .ok (.iaload, 1) := dk_46 (dk_at dksX4_gather_4 8 rfl rfl)
theorem dX4_gather_103 : decode cX4_gather 103 = .ok (.if_icmp .ge 18, 3) := dk_162 0 18 (dk_at dksX4_gather_4 9 rfl rfl)
theorem dX4_gather_106 : decode cX4_gather 106 = .ok (.aload_n 0, 1) := dk_42 (dk_at dksX4_gather_4 12 rfl rfl)
theorem dX4_gather_107 : decode cX4_gather 107 = .ok (.getfield 25, 3) := dk_180 0 25 (dk_at dksX4_gather_4 13 rfl rfl)
theorem dX4_gather_110 : decode cX4_gather 110 = .ok (.iload_n 3, 1) := dk_29 (dk_at dksX4_gather_4 16 rfl rfl)
theorem dX4_gather_111 : decode cX4_gather 111 = .ok (.aload_n 0, 1) := dk_42 (dk_at dksX4_gather_4 17 rfl rfl)
theorem dX4_gather_112 : decode cX4_gather 112 = .ok (.getfield 25, 3) := dk_180 0 25 (dk_at dksX4_gather_4 18 rfl rfl)
theorem dX4_gather_115 : decode cX4_gather 115 = .ok (.iload 4, 2) := dk_21 4 (dk_at dksX4_gather_4 21 rfl rfl)
theorem dX4_gather_117 : decode cX4_gather 117 = .ok (.iaload, 1) := dk_46 (dk_at dksX4_gather_4 23 rfl rfl)
theorem dX4_gather_118 : decode cX4_gather 118 = .ok (.iastore, 1) := dk_79 (dk_at dksX4_gather_5 0 rfl rfl)
theorem dX4_gather_119 : decode cX4_gather 119 = .ok (.iconst 1, 1) := dk_4 (dk_at dksX4_gather_5 1 rfl rfl)
theorem dX4_gather_120 : decode cX4_gather 120 = .ok (.istore_n 1, 1) := dk_60 (dk_at dksX4_gather_5 2 rfl rfl)
theorem dX4_gather_121 : decode cX4_gather 121 = .ok (.iinc 2 1, 3) := dk_132 2 1 (dk_at dksX4_gather_5 3 rfl rfl)
theorem dX4_gather_124 : decode cX4_gather 124 = .ok (.goto (-80), 3) := dk_167 255 176 (dk_at dksX4_gather_5 6 rfl rfl)
theorem dX4_gather_127 : decode cX4_gather 127 = .ok (.goto (-91), 3) := dk_167 255 165 (dk_at dksX4_gather_5 9 rfl rfl)
theorem dX4_gather_130 : decode cX4_gather 130 = .ok (.return_, 1) := dk_177 (dk_at dksX4_gather_5 12 rfl rfl)
abbrev cX4_house : ByteArray := prog_10_method_26_code
def yX4_house : MethodName := ⟨RX4, "house", "(IIZ)I"⟩
def dkwX4_house_5 : List UInt8 := [180, 0, 132, 4, 96, 181, 0, 132, 42, 180, 0, 132, 4, 100, 172]
abbrev dktX4_house_5 : List UInt8 := dkwX4_house_5 ++ []
def dkwX4_house_4 : List UInt8 := [180, 0, 49, 42, 180, 0, 132, 29, 84, 42, 180, 0, 56, 42, 180, 0, 132, 42, 180, 0, 109, 79, 42, 89]
abbrev dktX4_house_4 : List UInt8 := dkwX4_house_4 ++ dktX4_house_5
def dkwX4_house_3 : List UInt8 := [172, 42, 180, 0, 43, 42, 180, 0, 132, 27, 79, 42, 180, 0, 46, 42, 180, 0, 132, 28, 79, 42]
abbrev dktX4_house_3 : List UInt8 := dkwX4_house_3 ++ dktX4_house_4
def dkwX4_house_2 : List UInt8 := [154, 0, 12, 42, 180, 0, 132, 16, 10, 160, 0, 7, 5, 167, 0, 4, 3, 182, 0, 106, 153, 0, 5, 3]
abbrev dktX4_house_2 : List UInt8 := dkwX4_house_2 ++ dktX4_house_3
def dkwX4_house_1 : List UInt8 := [21, 4, 154, 0, 7, 4, 167, 0, 34, 42, 27, 182, 0, 171, 2, 160, 0, 20, 42, 27, 182, 0, 142]
abbrev dktX4_house_1 : List UInt8 := dkwX4_house_1 ++ dktX4_house_2
def dkwX4_house_0 : List UInt8 := [27, 184, 0, 102, 153, 0, 16, 28, 4, 7, 184, 0, 94, 153, 0, 7, 4, 167, 0, 4, 3, 54, 4, 42]
abbrev dktX4_house_0 : List UInt8 := dkwX4_house_0 ++ dktX4_house_1
theorem dksX4_house_0 : cX4_house.data.toList.drop 0 = dktX4_house_0 := by decide +kernel
theorem dksX4_house_1 : cX4_house.data.toList.drop 24 = dktX4_house_1 := dk_seg dksX4_house_0 24 rfl rfl
theorem dksX4_house_2 : cX4_house.data.toList.drop 47 = dktX4_house_2 := dk_seg dksX4_house_1 23 rfl rfl
theorem dksX4_house_3 : cX4_house.data.toList.drop 71 = dktX4_house_3 := dk_seg dksX4_house_2 24 rfl rfl
theorem dksX4_house_4 : cX4_house.data.toList.drop 93 = dktX4_house_4 := dk_seg dksX4_house_3 22 rfl rfl
theorem dksX4_house_5 : cX4_house.data.toList.drop 117 = dktX4_house_5 := dk_seg dksX4_house_4 24 rfl rfl
theorem dX4_house_0 : decode cX4_house 0 = .ok (.iload_n 1, 1) := dk_27 (dk_at dksX4_house_0 0 rfl rfl)
theorem dX4_house_1 : decode cX4_house 1 = .ok (.invokestatic 102, 3) := dk_184 0 102 (dk_at dksX4_house_0 1 rfl rfl)
theorem dX4_house_4 : decode cX4_house 4 = .ok (.ifCond .eq 16, 3) := dk_153 0 16 (dk_at dksX4_house_0 4 rfl rfl)
theorem dX4_house_7 : decode cX4_house 7 = .ok (.iload_n 2, 1) := dk_28 (dk_at dksX4_house_0 7 rfl rfl)
theorem dX4_house_8 : decode cX4_house 8 = .ok (.iconst 1, 1) := dk_4 (dk_at dksX4_house_0 8 rfl rfl)
theorem dX4_house_9 : decode cX4_house 9 = .ok (.iconst 4, 1) := dk_7 (dk_at dksX4_house_0 9 rfl rfl)
theorem dX4_house_10 : decode cX4_house 10 = .ok (.invokestatic 94, 3) := dk_184 0 94 (dk_at dksX4_house_0 10 rfl rfl)
theorem dX4_house_13 : decode cX4_house 13 = .ok (.ifCond .eq 7, 3) := dk_153 0 7 (dk_at dksX4_house_0 13 rfl rfl)
theorem dX4_house_16 : decode cX4_house 16 = .ok (.iconst 1, 1) := dk_4 (dk_at dksX4_house_0 16 rfl rfl)
theorem dX4_house_17 : decode cX4_house 17 = .ok (.goto 4, 3) := dk_167 0 4 (dk_at dksX4_house_0 17 rfl rfl)
theorem dX4_house_20 : decode cX4_house 20 = .ok (.iconst 0, 1) := dk_3 (dk_at dksX4_house_0 20 rfl rfl)
theorem dX4_house_21 : decode cX4_house 21 = .ok (.istore 4, 2) := dk_54 4 (dk_at dksX4_house_0 21 rfl rfl)
theorem dX4_house_23 : decode cX4_house 23 = .ok (.aload_n 0, 1) := dk_42 (dk_at dksX4_house_0 23 rfl rfl)
theorem dX4_house_24 : decode cX4_house 24 = .ok (.iload 4, 2) := dk_21 4 (dk_at dksX4_house_1 0 rfl rfl)
theorem dX4_house_26 : decode cX4_house 26 = .ok (.ifCond .ne 7, 3) := dk_154 0 7 (dk_at dksX4_house_1 2 rfl rfl)
theorem dX4_house_29 : decode cX4_house 29 = .ok (.iconst 1, 1) := dk_4 (dk_at dksX4_house_1 5 rfl rfl)
theorem dX4_house_30 : decode cX4_house 30 = .ok (.goto 34, 3) := dk_167 0 34 (dk_at dksX4_house_1 6 rfl rfl)
theorem dX4_house_33 : decode cX4_house 33 = .ok (.aload_n 0, 1) := dk_42 (dk_at dksX4_house_1 9 rfl rfl)
theorem dX4_house_34 : decode cX4_house 34 = .ok (.iload_n 1, 1) := dk_27 (dk_at dksX4_house_1 10 rfl rfl)
theorem dX4_house_35 : decode cX4_house 35 = .ok (.invokevirtual 171, 3) := dk_182 0 171 (dk_at dksX4_house_1 11 rfl rfl)
theorem dX4_house_38 : decode cX4_house 38 = .ok (.iconst (-1), 1) := dk_2 (dk_at dksX4_house_1 14 rfl rfl)
theorem dX4_house_39 : decode cX4_house 39 = .ok (.if_icmp .ne 20, 3) := dk_160 0 20 (dk_at dksX4_house_1 15 rfl rfl)
theorem dX4_house_42 : decode cX4_house 42 = .ok (.aload_n 0, 1) := dk_42 (dk_at dksX4_house_1 18 rfl rfl)
theorem dX4_house_43 : decode cX4_house 43 = .ok (.iload_n 1, 1) := dk_27 (dk_at dksX4_house_1 19 rfl rfl)
theorem dX4_house_44 : decode cX4_house 44 = .ok (.invokevirtual 142, 3) := dk_182 0 142 (dk_at dksX4_house_1 20 rfl rfl)
theorem dX4_house_47 : decode cX4_house 47 = .ok (.ifCond .ne 12, 3) := dk_154 0 12 (dk_at dksX4_house_2 0 rfl rfl)
theorem dX4_house_50 : decode cX4_house 50 = .ok (.aload_n 0, 1) := dk_42 (dk_at dksX4_house_2 3 rfl rfl)
theorem dX4_house_51 : decode cX4_house 51 = .ok (.getfield 132, 3) := dk_180 0 132 (dk_at dksX4_house_2 4 rfl rfl)
theorem dX4_house_54 : decode cX4_house 54 = .ok (.bipush 10, 2) := dk_16 10 (dk_at dksX4_house_2 7 rfl rfl)
theorem dX4_house_56 : decode cX4_house 56 = .ok (.if_icmp .ne 7, 3) := dk_160 0 7 (dk_at dksX4_house_2 9 rfl rfl)
theorem dX4_house_59 : decode cX4_house 59 = .ok (.iconst 2, 1) := dk_5 (dk_at dksX4_house_2 12 rfl rfl)
theorem dX4_house_60 : decode cX4_house 60 = .ok (.goto 4, 3) := dk_167 0 4 (dk_at dksX4_house_2 13 rfl rfl)
theorem dX4_house_63 : decode cX4_house 63 = .ok (.iconst 0, 1) := dk_3 (dk_at dksX4_house_2 16 rfl rfl)
theorem dX4_house_64 : decode cX4_house 64 = .ok (.invokevirtual 106, 3) := dk_182 0 106 (dk_at dksX4_house_2 17 rfl rfl)
theorem dX4_house_67 : decode cX4_house 67 = .ok (.ifCond .eq 5, 3) := dk_153 0 5 (dk_at dksX4_house_2 20 rfl rfl)
theorem dX4_house_70 : decode cX4_house 70 = .ok (.iconst 0, 1) := dk_3 (dk_at dksX4_house_2 23 rfl rfl)
theorem dX4_house_71 : decode cX4_house 71 = .ok (.ireturn, 1) := dk_172 (dk_at dksX4_house_3 0 rfl rfl)
theorem dX4_house_72 : decode cX4_house 72 = .ok (.aload_n 0, 1) := dk_42 (dk_at dksX4_house_3 1 rfl rfl)
theorem dX4_house_73 : decode cX4_house 73 = .ok (.getfield 43, 3) := dk_180 0 43 (dk_at dksX4_house_3 2 rfl rfl)
theorem dX4_house_76 : decode cX4_house 76 = .ok (.aload_n 0, 1) := dk_42 (dk_at dksX4_house_3 5 rfl rfl)
theorem dX4_house_77 : decode cX4_house 77 = .ok (.getfield 132, 3) := dk_180 0 132 (dk_at dksX4_house_3 6 rfl rfl)
theorem dX4_house_80 : decode cX4_house 80 = .ok (.iload_n 1, 1) := dk_27 (dk_at dksX4_house_3 9 rfl rfl)
theorem dX4_house_81 : decode cX4_house 81 = .ok (.iastore, 1) := dk_79 (dk_at dksX4_house_3 10 rfl rfl)
theorem dX4_house_82 : decode cX4_house 82 = .ok (.aload_n 0, 1) := dk_42 (dk_at dksX4_house_3 11 rfl rfl)
theorem dX4_house_83 : decode cX4_house 83 = .ok (.getfield 46, 3) := dk_180 0 46 (dk_at dksX4_house_3 12 rfl rfl)
theorem dX4_house_86 : decode cX4_house 86 = .ok (.aload_n 0, 1) := dk_42 (dk_at dksX4_house_3 15 rfl rfl)
theorem dX4_house_87 : decode cX4_house 87 = .ok (.getfield 132, 3) := dk_180 0 132 (dk_at dksX4_house_3 16 rfl rfl)
theorem dX4_house_90 : decode cX4_house 90 = .ok (.iload_n 2, 1) := dk_28 (dk_at dksX4_house_3 19 rfl rfl)
theorem dX4_house_91 : decode cX4_house 91 = .ok (.iastore, 1) := dk_79 (dk_at dksX4_house_3 20 rfl rfl)
theorem dX4_house_92 : decode cX4_house 92 = .ok (.aload_n 0, 1) := dk_42 (dk_at dksX4_house_3 21 rfl rfl)
theorem dX4_house_93 : decode cX4_house 93 = .ok (.getfield 49, 3) := dk_180 0 49 (dk_at dksX4_house_4 0 rfl rfl)
theorem dX4_house_96 : decode cX4_house 96 = .ok (.aload_n 0, 1) := dk_42 (dk_at dksX4_house_4 3 rfl rfl)
theorem dX4_house_97 : decode cX4_house 97 = .ok (.getfield 132, 3) := dk_180 0 132 (dk_at dksX4_house_4 4 rfl rfl)
theorem dX4_house_100 : decode cX4_house 100 = .ok (.iload_n 3, 1) := dk_29 (dk_at dksX4_house_4 7 rfl rfl)
theorem dX4_house_101 : decode cX4_house 101 = .ok (.bastore, 1) := dk_84 (dk_at dksX4_house_4 8 rfl rfl)
theorem dX4_house_102 : decode cX4_house 102 = .ok (.aload_n 0, 1) := dk_42 (dk_at dksX4_house_4 9 rfl rfl)
theorem dX4_house_103 : decode cX4_house 103 = .ok (.getfield 56, 3) := dk_180 0 56 (dk_at dksX4_house_4 10 rfl rfl)
theorem dX4_house_106 : decode cX4_house 106 = .ok (.aload_n 0, 1) := dk_42 (dk_at dksX4_house_4 13 rfl rfl)
theorem dX4_house_107 : decode cX4_house 107 = .ok (.getfield 132, 3) := dk_180 0 132 (dk_at dksX4_house_4 14 rfl rfl)
theorem dX4_house_110 : decode cX4_house 110 = .ok (.aload_n 0, 1) := dk_42 (dk_at dksX4_house_4 17 rfl rfl)
theorem dX4_house_111 : decode cX4_house 111 = .ok (.getfield 109, 3) := dk_180 0 109 (dk_at dksX4_house_4 18 rfl rfl)
theorem dX4_house_114 : decode cX4_house 114 = .ok (.iastore, 1) := dk_79 (dk_at dksX4_house_4 21 rfl rfl)
theorem dX4_house_115 : decode cX4_house 115 = .ok (.aload_n 0, 1) := dk_42 (dk_at dksX4_house_4 22 rfl rfl)
theorem dX4_house_116 : decode cX4_house 116 = .ok (.dup, 1) := dk_89 (dk_at dksX4_house_4 23 rfl rfl)
theorem dX4_house_117 : decode cX4_house 117 = .ok (.getfield 132, 3) := dk_180 0 132 (dk_at dksX4_house_5 0 rfl rfl)
theorem dX4_house_120 : decode cX4_house 120 = .ok (.iconst 1, 1) := dk_4 (dk_at dksX4_house_5 3 rfl rfl)
theorem dX4_house_121 : decode cX4_house 121 = .ok (.iadd, 1) := dk_96 (dk_at dksX4_house_5 4 rfl rfl)
theorem dX4_house_122 : decode cX4_house 122 = .ok (.putfield 132, 3) := dk_181 0 132 (dk_at dksX4_house_5 5 rfl rfl)
theorem dX4_house_125 : decode cX4_house 125 = .ok (.aload_n 0, 1) := dk_42 (dk_at dksX4_house_5 8 rfl rfl)
theorem dX4_house_126 : decode cX4_house 126 = .ok (.getfield 132, 3) := dk_180 0 132 (dk_at dksX4_house_5 9 rfl rfl)
theorem dX4_house_129 : decode cX4_house 129 = .ok (.iconst 1, 1) := dk_4 (dk_at dksX4_house_5 12 rfl rfl)
theorem dX4_house_130 : decode cX4_house 130 = .ok (.isub, 1) := dk_100 (dk_at dksX4_house_5 13 rfl rfl)
theorem dX4_house_131 : decode cX4_house 131 = .ok (.ireturn, 1) := dk_172 (dk_at dksX4_house_5 14 rfl rfl)
abbrev cX4_houseIn : ByteArray := prog_10_method_25_code
def yX4_houseIn : MethodName := ⟨RX4, "houseIn", "(I)I"⟩
def dkwX4_houseIn_1 : List UInt8 := [167, 0, 4, 28, 61, 132, 3, 1, 167, 255, 229, 28, 172]
abbrev dktX4_houseIn_1 : List UInt8 := dkwX4_houseIn_1 ++ []
def dkwX4_houseIn_0 : List UInt8 := [2, 61, 3, 62, 29, 42, 180, 0, 132, 162, 0, 25, 42, 180, 0, 43, 29, 46, 27, 160, 0, 7, 29]
abbrev dktX4_houseIn_0 : List UInt8 := dkwX4_houseIn_0 ++ dktX4_houseIn_1
theorem dksX4_houseIn_0 : cX4_houseIn.data.toList.drop 0 = dktX4_houseIn_0 := by decide +kernel
theorem dksX4_houseIn_1 : cX4_houseIn.data.toList.drop 23 = dktX4_houseIn_1 := dk_seg dksX4_houseIn_0 23 rfl rfl
theorem dX4_houseIn_0 : decode cX4_houseIn 0 = .ok (.iconst (-1), 1) := dk_2 (dk_at dksX4_houseIn_0 0 rfl rfl)
theorem dX4_houseIn_1 : decode cX4_houseIn 1 = .ok (.istore_n 2, 1) := dk_61 (dk_at dksX4_houseIn_0 1 rfl rfl)
theorem dX4_houseIn_2 : decode cX4_houseIn 2 = .ok (.iconst 0, 1) := dk_3 (dk_at dksX4_houseIn_0 2 rfl rfl)
theorem dX4_houseIn_3 : decode cX4_houseIn 3 = .ok (.istore_n 3, 1) := dk_62 (dk_at dksX4_houseIn_0 3 rfl rfl)
theorem dX4_houseIn_4 : decode cX4_houseIn 4 = .ok (.iload_n 3, 1) := dk_29 (dk_at dksX4_houseIn_0 4 rfl rfl)
theorem dX4_houseIn_5 : decode cX4_houseIn 5 = .ok (.aload_n 0, 1) := dk_42 (dk_at dksX4_houseIn_0 5 rfl rfl)
theorem dX4_houseIn_6 : decode cX4_houseIn 6 = .ok (.getfield 132, 3) := dk_180 0 132 (dk_at dksX4_houseIn_0 6 rfl rfl)
theorem dX4_houseIn_9 : decode cX4_houseIn 9 = .ok (.if_icmp .ge 25, 3) := dk_162 0 25 (dk_at dksX4_houseIn_0 9 rfl rfl)
theorem dX4_houseIn_12 : decode cX4_houseIn 12 = .ok (.aload_n 0, 1) := dk_42 (dk_at dksX4_houseIn_0 12 rfl rfl)
theorem dX4_houseIn_13 : decode cX4_houseIn 13 = .ok (.getfield 43, 3) := dk_180 0 43 (dk_at dksX4_houseIn_0 13 rfl rfl)
theorem dX4_houseIn_16 : decode cX4_houseIn 16 = .ok (.iload_n 3, 1) := dk_29 (dk_at dksX4_houseIn_0 16 rfl rfl)
theorem dX4_houseIn_17 : decode cX4_houseIn 17 = .ok (.iaload, 1) := dk_46 (dk_at dksX4_houseIn_0 17 rfl rfl)
theorem dX4_houseIn_18 : decode cX4_houseIn 18 = .ok (.iload_n 1, 1) := dk_27 (dk_at dksX4_houseIn_0 18 rfl rfl)
theorem dX4_houseIn_19 : decode cX4_houseIn 19 = .ok (.if_icmp .ne 7, 3) := dk_160 0 7 (dk_at dksX4_houseIn_0 19 rfl rfl)
theorem dX4_houseIn_22 : decode cX4_houseIn 22 = .ok (.iload_n 3, 1) := dk_29 (dk_at dksX4_houseIn_0 22 rfl rfl)
theorem dX4_houseIn_23 : decode cX4_houseIn 23 = .ok (.goto 4, 3) := dk_167 0 4 (dk_at dksX4_houseIn_1 0 rfl rfl)
theorem dX4_houseIn_26 : decode cX4_houseIn 26 = .ok (.iload_n 2, 1) := dk_28 (dk_at dksX4_houseIn_1 3 rfl rfl)
theorem dX4_houseIn_27 : decode cX4_houseIn 27 = .ok (.istore_n 2, 1) := dk_61 (dk_at dksX4_houseIn_1 4 rfl rfl)
theorem dX4_houseIn_28 : decode cX4_houseIn 28 = .ok (.iinc 3 1, 3) := dk_132 3 1 (dk_at dksX4_houseIn_1 5 rfl rfl)
theorem dX4_houseIn_31 : decode cX4_houseIn 31 = .ok (.goto (-27), 3) := dk_167 255 229 (dk_at dksX4_houseIn_1 8 rfl rfl)
theorem dX4_houseIn_34 : decode cX4_houseIn 34 = .ok (.iload_n 2, 1) := dk_28 (dk_at dksX4_houseIn_1 11 rfl rfl)
theorem dX4_houseIn_35 : decode cX4_houseIn 35 = .ok (.ireturn, 1) := dk_172 (dk_at dksX4_houseIn_1 12 rfl rfl)
abbrev cX4_borehole : ByteArray := prog_10_method_27_code
def yX4_borehole : MethodName := ⟨RX4, "borehole", "(II)I"⟩
def dkwX4_borehole_4 : List UInt8 := [180, 0, 135, 4, 100, 172]
abbrev dktX4_borehole_4 : List UInt8 := dkwX4_borehole_4 ++ []
def dkwX4_borehole_3 : List UInt8 := [180, 0, 65, 42, 180, 0, 135, 42, 180, 0, 109, 79, 42, 89, 180, 0, 135, 4, 96, 181, 0, 135, 42]
abbrev dktX4_borehole_3 : List UInt8 := dkwX4_borehole_3 ++ dktX4_borehole_4
def dkwX4_borehole_2 : List UInt8 := [172, 42, 180, 0, 59, 42, 180, 0, 135, 27, 79, 42, 180, 0, 62, 42, 180, 0, 135, 28, 79, 42]
abbrev dktX4_borehole_2 : List UInt8 := dkwX4_borehole_2 ++ dktX4_borehole_3
def dkwX4_borehole_1 : List UInt8 := [167, 0, 17, 42, 180, 0, 135, 16, 10, 160, 0, 7, 6, 167, 0, 4, 3, 182, 0, 106, 153, 0, 5, 3]
abbrev dktX4_borehole_1 : List UInt8 := dkwX4_borehole_1 ++ dktX4_borehole_2
def dkwX4_borehole_0 : List UInt8 := [42, 27, 184, 0, 102, 154, 0, 7, 4, 167, 0, 32, 28, 16, 244, 16, 12, 184, 0, 94, 154, 0, 7, 5]
abbrev dktX4_borehole_0 : List UInt8 := dkwX4_borehole_0 ++ dktX4_borehole_1
theorem dksX4_borehole_0 : cX4_borehole.data.toList.drop 0 = dktX4_borehole_0 := by decide +kernel
theorem dksX4_borehole_1 : cX4_borehole.data.toList.drop 24 = dktX4_borehole_1 := dk_seg dksX4_borehole_0 24 rfl rfl
theorem dksX4_borehole_2 : cX4_borehole.data.toList.drop 48 = dktX4_borehole_2 := dk_seg dksX4_borehole_1 24 rfl rfl
theorem dksX4_borehole_3 : cX4_borehole.data.toList.drop 70 = dktX4_borehole_3 := dk_seg dksX4_borehole_2 22 rfl rfl
theorem dksX4_borehole_4 : cX4_borehole.data.toList.drop 93 = dktX4_borehole_4 := dk_seg dksX4_borehole_3 23 rfl rfl
theorem dX4_borehole_0 : decode cX4_borehole 0 = .ok (.aload_n 0, 1) := dk_42 (dk_at dksX4_borehole_0 0 rfl rfl)
theorem dX4_borehole_1 : decode cX4_borehole 1 = .ok (.iload_n 1, 1) := dk_27 (dk_at dksX4_borehole_0 1 rfl rfl)
theorem dX4_borehole_2 : decode cX4_borehole 2 = .ok (.invokestatic 102, 3) := dk_184 0 102 (dk_at dksX4_borehole_0 2 rfl rfl)
theorem dX4_borehole_5 : decode cX4_borehole 5 = .ok (.ifCond .ne 7, 3) := dk_154 0 7 (dk_at dksX4_borehole_0 5 rfl rfl)
theorem dX4_borehole_8 : decode cX4_borehole 8 = .ok (.iconst 1, 1) := dk_4 (dk_at dksX4_borehole_0 8 rfl rfl)
theorem dX4_borehole_9 : decode cX4_borehole 9 = .ok (.goto 32, 3) := dk_167 0 32 (dk_at dksX4_borehole_0 9 rfl rfl)
theorem dX4_borehole_12 : decode cX4_borehole 12 = .ok (.iload_n 2, 1) := dk_28 (dk_at dksX4_borehole_0 12 rfl rfl)
theorem dX4_borehole_13 : decode cX4_borehole 13 = .ok (.bipush (-12), 2) := dk_16 244 (dk_at dksX4_borehole_0 13 rfl rfl)
theorem dX4_borehole_15 : decode cX4_borehole 15 = .ok (.bipush 12, 2) := dk_16 12 (dk_at dksX4_borehole_0 15 rfl rfl)
theorem dX4_borehole_17 : decode cX4_borehole 17 = .ok (.invokestatic 94, 3) := dk_184 0 94 (dk_at dksX4_borehole_0 17 rfl rfl)
theorem dX4_borehole_20 : decode cX4_borehole 20 = .ok (.ifCond .ne 7, 3) := dk_154 0 7 (dk_at dksX4_borehole_0 20 rfl rfl)
theorem dX4_borehole_23 : decode cX4_borehole 23 = .ok (.iconst 2, 1) := dk_5 (dk_at dksX4_borehole_0 23 rfl rfl)
theorem dX4_borehole_24 : decode cX4_borehole 24 = .ok (.goto 17, 3) := dk_167 0 17 (dk_at dksX4_borehole_1 0 rfl rfl)
theorem dX4_borehole_27 : decode cX4_borehole 27 = .ok (.aload_n 0, 1) := dk_42 (dk_at dksX4_borehole_1 3 rfl rfl)
theorem dX4_borehole_28 : decode cX4_borehole 28 = .ok (.getfield 135, 3) := dk_180 0 135 (dk_at dksX4_borehole_1 4 rfl rfl)
theorem dX4_borehole_31 : decode cX4_borehole 31 = .ok (.bipush 10, 2) := dk_16 10 (dk_at dksX4_borehole_1 7 rfl rfl)
theorem dX4_borehole_33 : decode cX4_borehole 33 = .ok (.if_icmp .ne 7, 3) := dk_160 0 7 (dk_at dksX4_borehole_1 9 rfl rfl)
theorem dX4_borehole_36 : decode cX4_borehole 36 = .ok (.iconst 3, 1) := dk_6 (dk_at dksX4_borehole_1 12 rfl rfl)
theorem dX4_borehole_37 : decode cX4_borehole 37 = .ok (.goto 4, 3) := dk_167 0 4 (dk_at dksX4_borehole_1 13 rfl rfl)
theorem dX4_borehole_40 : decode cX4_borehole 40 = .ok (.iconst 0, 1) := dk_3 (dk_at dksX4_borehole_1 16 rfl rfl)
theorem dX4_borehole_41 : decode cX4_borehole 41 = .ok (.invokevirtual 106, 3) := dk_182 0 106 (dk_at dksX4_borehole_1 17 rfl rfl)
theorem dX4_borehole_44 : decode cX4_borehole 44 = .ok (.ifCond .eq 5, 3) := dk_153 0 5 (dk_at dksX4_borehole_1 20 rfl rfl)
theorem dX4_borehole_47 : decode cX4_borehole 47 = .ok (.iconst 0, 1) := dk_3 (dk_at dksX4_borehole_1 23 rfl rfl)
theorem dX4_borehole_48 : decode cX4_borehole 48 = .ok (.ireturn, 1) := dk_172 (dk_at dksX4_borehole_2 0 rfl rfl)
theorem dX4_borehole_49 : decode cX4_borehole 49 = .ok (.aload_n 0, 1) := dk_42 (dk_at dksX4_borehole_2 1 rfl rfl)
theorem dX4_borehole_50 : decode cX4_borehole 50 = .ok (.getfield 59, 3) := dk_180 0 59 (dk_at dksX4_borehole_2 2 rfl rfl)
theorem dX4_borehole_53 : decode cX4_borehole 53 = .ok (.aload_n 0, 1) := dk_42 (dk_at dksX4_borehole_2 5 rfl rfl)
theorem dX4_borehole_54 : decode cX4_borehole 54 = .ok (.getfield 135, 3) := dk_180 0 135 (dk_at dksX4_borehole_2 6 rfl rfl)
theorem dX4_borehole_57 : decode cX4_borehole 57 = .ok (.iload_n 1, 1) := dk_27 (dk_at dksX4_borehole_2 9 rfl rfl)
theorem dX4_borehole_58 : decode cX4_borehole 58 = .ok (.iastore, 1) := dk_79 (dk_at dksX4_borehole_2 10 rfl rfl)
theorem dX4_borehole_59 : decode cX4_borehole 59 = .ok (.aload_n 0, 1) := dk_42 (dk_at dksX4_borehole_2 11 rfl rfl)
theorem dX4_borehole_60 : decode cX4_borehole 60 = .ok (.getfield 62, 3) := dk_180 0 62 (dk_at dksX4_borehole_2 12 rfl rfl)
theorem dX4_borehole_63 : decode cX4_borehole 63 = .ok (.aload_n 0, 1) := dk_42 (dk_at dksX4_borehole_2 15 rfl rfl)
theorem dX4_borehole_64 : decode cX4_borehole 64 = .ok (.getfield 135, 3) := dk_180 0 135 (dk_at dksX4_borehole_2 16 rfl rfl)
theorem dX4_borehole_67 : decode cX4_borehole 67 = .ok (.iload_n 2, 1) := dk_28 (dk_at dksX4_borehole_2 19 rfl rfl)
theorem dX4_borehole_68 : decode cX4_borehole 68 = .ok (.iastore, 1) := dk_79 (dk_at dksX4_borehole_2 20 rfl rfl)
theorem dX4_borehole_69 : decode cX4_borehole 69 = .ok (.aload_n 0, 1) := dk_42 (dk_at dksX4_borehole_2 21 rfl rfl)
theorem dX4_borehole_70 : decode cX4_borehole 70 = .ok (.getfield 65, 3) := dk_180 0 65 (dk_at dksX4_borehole_3 0 rfl rfl)
theorem dX4_borehole_73 : decode cX4_borehole 73 = .ok (.aload_n 0, 1) := dk_42 (dk_at dksX4_borehole_3 3 rfl rfl)
theorem dX4_borehole_74 : decode cX4_borehole 74 = .ok (.getfield 135, 3) := dk_180 0 135 (dk_at dksX4_borehole_3 4 rfl rfl)
theorem dX4_borehole_77 : decode cX4_borehole 77 = .ok (.aload_n 0, 1) := dk_42 (dk_at dksX4_borehole_3 7 rfl rfl)
theorem dX4_borehole_78 : decode cX4_borehole 78 = .ok (.getfield 109, 3) := dk_180 0 109 (dk_at dksX4_borehole_3 8 rfl rfl)
theorem dX4_borehole_81 : decode cX4_borehole 81 = .ok (.iastore, 1) := dk_79 (dk_at dksX4_borehole_3 11 rfl rfl)
theorem dX4_borehole_82 : decode cX4_borehole 82 = .ok (.aload_n 0, 1) := dk_42 (dk_at dksX4_borehole_3 12 rfl rfl)
theorem dX4_borehole_83 : decode cX4_borehole 83 = .ok (.dup, 1) := dk_89 (dk_at dksX4_borehole_3 13 rfl rfl)
theorem dX4_borehole_84 : decode cX4_borehole 84 = .ok (.getfield 135, 3) := dk_180 0 135 (dk_at dksX4_borehole_3 14 rfl rfl)
theorem dX4_borehole_87 : decode cX4_borehole 87 = .ok (.iconst 1, 1) := dk_4 (dk_at dksX4_borehole_3 17 rfl rfl)
theorem dX4_borehole_88 : decode cX4_borehole 88 = .ok (.iadd, 1) := dk_96 (dk_at dksX4_borehole_3 18 rfl rfl)
theorem dX4_borehole_89 : decode cX4_borehole 89 = .ok (.putfield 135, 3) := dk_181 0 135 (dk_at dksX4_borehole_3 19 rfl rfl)
theorem dX4_borehole_92 : decode cX4_borehole 92 = .ok (.aload_n 0, 1) := dk_42 (dk_at dksX4_borehole_3 22 rfl rfl)
theorem dX4_borehole_93 : decode cX4_borehole 93 = .ok (.getfield 135, 3) := dk_180 0 135 (dk_at dksX4_borehole_4 0 rfl rfl)
theorem dX4_borehole_96 : decode cX4_borehole 96 = .ok (.iconst 1, 1) := dk_4 (dk_at dksX4_borehole_4 3 rfl rfl)
theorem dX4_borehole_97 : decode cX4_borehole 97 = .ok (.isub, 1) := dk_100 (dk_at dksX4_borehole_4 4 rfl rfl)
theorem dX4_borehole_98 : decode cX4_borehole 98 = .ok (.ireturn, 1) := dk_172 (dk_at dksX4_borehole_4 5 rfl rfl)
abbrev cX4_claim : ByteArray := prog_10_method_30_code
def yX4_claim : MethodName := ⟨RX4, "claim", "(I)I"⟩
def dkwX4_claim_2 : List UInt8 := [182, 0, 180, 79, 42, 89, 180, 0, 177, 4, 96, 181, 0, 177, 42, 180, 0, 177, 4, 100, 172]
abbrev dktX4_claim_2 : List UInt8 := dkwX4_claim_2 ++ []
def dkwX4_claim_1 : List UInt8 := [5, 167, 0, 4, 3, 182, 0, 106, 153, 0, 5, 3, 172, 42, 180, 0, 71, 42, 180, 0, 177, 42, 27]
abbrev dktX4_claim_1 : List UInt8 := dkwX4_claim_1 ++ dktX4_claim_2
def dkwX4_claim_0 : List UInt8 := [42, 27, 182, 0, 174, 61, 42, 28, 154, 0, 7, 4, 167, 0, 17, 42, 180, 0, 177, 16, 40, 160, 0, 7]
abbrev dktX4_claim_0 : List UInt8 := dkwX4_claim_0 ++ dktX4_claim_1
theorem dksX4_claim_0 : cX4_claim.data.toList.drop 0 = dktX4_claim_0 := by decide +kernel
theorem dksX4_claim_1 : cX4_claim.data.toList.drop 24 = dktX4_claim_1 := dk_seg dksX4_claim_0 24 rfl rfl
theorem dksX4_claim_2 : cX4_claim.data.toList.drop 47 = dktX4_claim_2 := dk_seg dksX4_claim_1 23 rfl rfl
theorem dX4_claim_0 : decode cX4_claim 0 = .ok (.aload_n 0, 1) := dk_42 (dk_at dksX4_claim_0 0 rfl rfl)
theorem dX4_claim_1 : decode cX4_claim 1 = .ok (.iload_n 1, 1) := dk_27 (dk_at dksX4_claim_0 1 rfl rfl)
theorem dX4_claim_2 : decode cX4_claim 2 = .ok (.invokevirtual 174, 3) := dk_182 0 174 (dk_at dksX4_claim_0 2 rfl rfl)
theorem dX4_claim_5 : decode cX4_claim 5 = .ok (.istore_n 2, 1) := dk_61 (dk_at dksX4_claim_0 5 rfl rfl)
theorem dX4_claim_6 : decode cX4_claim 6 = .ok (.aload_n 0, 1) := dk_42 (dk_at dksX4_claim_0 6 rfl rfl)
theorem dX4_claim_7 : decode cX4_claim 7 = .ok (.iload_n 2, 1) := dk_28 (dk_at dksX4_claim_0 7 rfl rfl)
theorem dX4_claim_8 : decode cX4_claim 8 = .ok (.ifCond .ne 7, 3) := dk_154 0 7 (dk_at dksX4_claim_0 8 rfl rfl)
theorem dX4_claim_11 : decode cX4_claim 11 = .ok (.iconst 1, 1) := dk_4 (dk_at dksX4_claim_0 11 rfl rfl)
theorem dX4_claim_12 : decode cX4_claim 12 = .ok (.goto 17, 3) := dk_167 0 17 (dk_at dksX4_claim_0 12 rfl rfl)
theorem dX4_claim_15 : decode cX4_claim 15 = .ok (.aload_n 0, 1) := dk_42 (dk_at dksX4_claim_0 15 rfl rfl)
theorem dX4_claim_16 : decode cX4_claim 16 = .ok (.getfield 177, 3) := dk_180 0 177 (dk_at dksX4_claim_0 16 rfl rfl)
theorem dX4_claim_19 : decode cX4_claim 19 = .ok (.bipush 40, 2) := dk_16 40 (dk_at dksX4_claim_0 19 rfl rfl)
theorem dX4_claim_21 : decode cX4_claim 21 = .ok (.if_icmp .ne 7, 3) := dk_160 0 7 (dk_at dksX4_claim_0 21 rfl rfl)
theorem dX4_claim_24 : decode cX4_claim 24 = .ok (.iconst 2, 1) := dk_5 (dk_at dksX4_claim_1 0 rfl rfl)
theorem dX4_claim_25 : decode cX4_claim 25 = .ok (.goto 4, 3) := dk_167 0 4 (dk_at dksX4_claim_1 1 rfl rfl)
theorem dX4_claim_28 : decode cX4_claim 28 = .ok (.iconst 0, 1) := dk_3 (dk_at dksX4_claim_1 4 rfl rfl)
theorem dX4_claim_29 : decode cX4_claim 29 = .ok (.invokevirtual 106, 3) := dk_182 0 106 (dk_at dksX4_claim_1 5 rfl rfl)
theorem dX4_claim_32 : decode cX4_claim 32 = .ok (.ifCond .eq 5, 3) := dk_153 0 5 (dk_at dksX4_claim_1 8 rfl rfl)
theorem dX4_claim_35 : decode cX4_claim 35 = .ok (.iconst 0, 1) := dk_3 (dk_at dksX4_claim_1 11 rfl rfl)
theorem dX4_claim_36 : decode cX4_claim 36 = .ok (.ireturn, 1) := dk_172 (dk_at dksX4_claim_1 12 rfl rfl)
theorem dX4_claim_37 : decode cX4_claim 37 = .ok (.aload_n 0, 1) := dk_42 (dk_at dksX4_claim_1 13 rfl rfl)
theorem dX4_claim_38 : decode cX4_claim 38 = .ok (.getfield 71, 3) := dk_180 0 71 (dk_at dksX4_claim_1 14 rfl rfl)
theorem dX4_claim_41 : decode cX4_claim 41 = .ok (.aload_n 0, 1) := dk_42 (dk_at dksX4_claim_1 17 rfl rfl)
theorem dX4_claim_42 : decode cX4_claim 42 = .ok (.getfield 177, 3) := dk_180 0 177 (dk_at dksX4_claim_1 18 rfl rfl)
theorem dX4_claim_45 : decode cX4_claim 45 = .ok (.aload_n 0, 1) := dk_42 (dk_at dksX4_claim_1 21 rfl rfl)
theorem dX4_claim_46 : decode cX4_claim 46 = .ok (.iload_n 1, 1) := dk_27 (dk_at dksX4_claim_1 22 rfl rfl)
theorem dX4_claim_47 : decode cX4_claim 47 = .ok (.invokevirtual 180, 3) := dk_182 0 180 (dk_at dksX4_claim_2 0 rfl rfl)
theorem dX4_claim_50 : decode cX4_claim 50 = .ok (.iastore, 1) := dk_79 (dk_at dksX4_claim_2 3 rfl rfl)
theorem dX4_claim_51 : decode cX4_claim 51 = .ok (.aload_n 0, 1) := dk_42 (dk_at dksX4_claim_2 4 rfl rfl)
theorem dX4_claim_52 : decode cX4_claim 52 = .ok (.dup, 1) := dk_89 (dk_at dksX4_claim_2 5 rfl rfl)
theorem dX4_claim_53 : decode cX4_claim 53 = .ok (.getfield 177, 3) := dk_180 0 177 (dk_at dksX4_claim_2 6 rfl rfl)
theorem dX4_claim_56 : decode cX4_claim 56 = .ok (.iconst 1, 1) := dk_4 (dk_at dksX4_claim_2 9 rfl rfl)
theorem dX4_claim_57 : decode cX4_claim 57 = .ok (.iadd, 1) := dk_96 (dk_at dksX4_claim_2 10 rfl rfl)
theorem dX4_claim_58 : decode cX4_claim 58 = .ok (.putfield 177, 3) := dk_181 0 177 (dk_at dksX4_claim_2 11 rfl rfl)
theorem dX4_claim_61 : decode cX4_claim 61 = .ok (.aload_n 0, 1) := dk_42 (dk_at dksX4_claim_2 14 rfl rfl)
theorem dX4_claim_62 : decode cX4_claim 62 = .ok (.getfield 177, 3) := dk_180 0 177 (dk_at dksX4_claim_2 15 rfl rfl)
theorem dX4_claim_65 : decode cX4_claim 65 = .ok (.iconst 1, 1) := dk_4 (dk_at dksX4_claim_2 18 rfl rfl)
theorem dX4_claim_66 : decode cX4_claim 66 = .ok (.isub, 1) := dk_100 (dk_at dksX4_claim_2 19 rfl rfl)
theorem dX4_claim_67 : decode cX4_claim 67 = .ok (.ireturn, 1) := dk_172 (dk_at dksX4_claim_2 20 rfl rfl)
abbrev cX4_isHouse : ByteArray := prog_10_method_28_code
def yX4_isHouse : MethodName := ⟨RX4, "isHouse", "(I)Z"⟩
def dkwX4_isHouse_0 : List UInt8 := [27, 3, 42, 180, 0, 132, 4, 100, 184, 0, 94, 172]
abbrev dktX4_isHouse_0 : List UInt8 := dkwX4_isHouse_0 ++ []
theorem dksX4_isHouse_0 : cX4_isHouse.data.toList.drop 0 = dktX4_isHouse_0 := by decide +kernel
theorem dX4_isHouse_0 : decode cX4_isHouse 0 = .ok (.iload_n 1, 1) := dk_27 (dk_at dksX4_isHouse_0 0 rfl rfl)
theorem dX4_isHouse_1 : decode cX4_isHouse 1 = .ok (.iconst 0, 1) := dk_3 (dk_at dksX4_isHouse_0 1 rfl rfl)
theorem dX4_isHouse_2 : decode cX4_isHouse 2 = .ok (.aload_n 0, 1) := dk_42 (dk_at dksX4_isHouse_0 2 rfl rfl)
theorem dX4_isHouse_3 : decode cX4_isHouse 3 = .ok (.getfield 132, 3) := dk_180 0 132 (dk_at dksX4_isHouse_0 3 rfl rfl)
theorem dX4_isHouse_6 : decode cX4_isHouse 6 = .ok (.iconst 1, 1) := dk_4 (dk_at dksX4_isHouse_0 6 rfl rfl)
theorem dX4_isHouse_7 : decode cX4_isHouse 7 = .ok (.isub, 1) := dk_100 (dk_at dksX4_isHouse_0 7 rfl rfl)
theorem dX4_isHouse_8 : decode cX4_isHouse 8 = .ok (.invokestatic 94, 3) := dk_184 0 94 (dk_at dksX4_isHouse_0 8 rfl rfl)
theorem dX4_isHouse_11 : decode cX4_isHouse 11 = .ok (.ireturn, 1) := dk_172 (dk_at dksX4_isHouse_0 11 rfl rfl)
abbrev cX4_worth : ByteArray := prog_10_method_29_code
def yX4_worth : MethodName := ⟨RX4, "worth", "(I)I"⟩
def dkwX4_worth_6 : List UInt8 := [27, 46, 28, 184, 0, 98, 104, 172]
abbrev dktX4_worth_6 : List UInt8 := dkwX4_worth_6 ++ []
def dkwX4_worth_5 : List UInt8 := [21, 4, 153, 0, 7, 4, 167, 0, 4, 3, 96, 61, 132, 3, 1, 167, 255, 135, 16, 100, 42, 180, 0, 53]
abbrev dktX4_worth_5 : List UInt8 := dkwX4_worth_5 ++ dktX4_worth_6
def dkwX4_worth_4 : List UInt8 := [180, 0, 46, 27, 46, 96, 46, 155, 0, 7, 4, 167, 0, 4, 3, 54, 4, 132, 5, 1, 167, 255, 168, 28]
abbrev dktX4_worth_4 : List UInt8 := dkwX4_worth_4 ++ dktX4_worth_5
def dkwX4_worth_3 : List UInt8 := [154, 0, 33, 21, 6, 153, 0, 32, 42, 180, 0, 68, 17, 11, 184, 21, 5, 104, 8, 29, 104, 96, 42]
abbrev dktX4_worth_3 : List UInt8 := dkwX4_worth_3 ++ dktX4_worth_4
def dkwX4_worth_2 : List UInt8 := [160, 0, 18, 42, 180, 0, 65, 21, 5, 46, 29, 163, 0, 7, 4, 167, 0, 4, 3, 54, 6, 21, 4]
abbrev dktX4_worth_2 : List UInt8 := dkwX4_worth_2 ++ dktX4_worth_3
def dkwX4_worth_1 : List UInt8 := [21, 5, 42, 180, 0, 135, 162, 0, 85, 42, 180, 0, 59, 21, 5, 46, 42, 180, 0, 43, 27, 46]
abbrev dktX4_worth_1 : List UInt8 := dkwX4_worth_1 ++ dktX4_worth_2
def dkwX4_worth_0 : List UInt8 := [3, 61, 42, 180, 0, 56, 27, 46, 62, 29, 42, 180, 0, 109, 162, 0, 119, 3, 54, 4, 3, 54, 5]
abbrev dktX4_worth_0 : List UInt8 := dkwX4_worth_0 ++ dktX4_worth_1
theorem dksX4_worth_0 : cX4_worth.data.toList.drop 0 = dktX4_worth_0 := by decide +kernel
theorem dksX4_worth_1 : cX4_worth.data.toList.drop 23 = dktX4_worth_1 := dk_seg dksX4_worth_0 23 rfl rfl
theorem dksX4_worth_2 : cX4_worth.data.toList.drop 45 = dktX4_worth_2 := dk_seg dksX4_worth_1 22 rfl rfl
theorem dksX4_worth_3 : cX4_worth.data.toList.drop 68 = dktX4_worth_3 := dk_seg dksX4_worth_2 23 rfl rfl
theorem dksX4_worth_4 : cX4_worth.data.toList.drop 91 = dktX4_worth_4 := dk_seg dksX4_worth_3 23 rfl rfl
theorem dksX4_worth_5 : cX4_worth.data.toList.drop 115 = dktX4_worth_5 := dk_seg dksX4_worth_4 24 rfl rfl
theorem dksX4_worth_6 : cX4_worth.data.toList.drop 139 = dktX4_worth_6 := dk_seg dksX4_worth_5 24 rfl rfl
theorem dX4_worth_0 : decode cX4_worth 0 = .ok (.iconst 0, 1) := dk_3 (dk_at dksX4_worth_0 0 rfl rfl)
theorem dX4_worth_1 : decode cX4_worth 1 = .ok (.istore_n 2, 1) := dk_61 (dk_at dksX4_worth_0 1 rfl rfl)
theorem dX4_worth_2 : decode cX4_worth 2 = .ok (.aload_n 0, 1) := dk_42 (dk_at dksX4_worth_0 2 rfl rfl)
theorem dX4_worth_3 : decode cX4_worth 3 = .ok (.getfield 56, 3) := dk_180 0 56 (dk_at dksX4_worth_0 3 rfl rfl)
theorem dX4_worth_6 : decode cX4_worth 6 = .ok (.iload_n 1, 1) := dk_27 (dk_at dksX4_worth_0 6 rfl rfl)
theorem dX4_worth_7 : decode cX4_worth 7 = .ok (.iaload, 1) := dk_46 (dk_at dksX4_worth_0 7 rfl rfl)
theorem dX4_worth_8 : decode cX4_worth 8 = .ok (.istore_n 3, 1) := dk_62 (dk_at dksX4_worth_0 8 rfl rfl)
theorem dX4_worth_9 : decode cX4_worth 9 = .ok (.iload_n 3, 1) := dk_29 (dk_at dksX4_worth_0 9 rfl rfl)
theorem dX4_worth_10 : decode cX4_worth 10 = .ok (.aload_n 0, 1) := dk_42 (dk_at dksX4_worth_0 10 rfl rfl)
theorem dX4_worth_11 : decode cX4_worth 11 = .ok (.getfield 109, 3) := dk_180 0 109 (dk_at dksX4_worth_0 11 rfl rfl)
theorem dX4_worth_14 : decode cX4_worth 14 = .ok (.if_icmp .ge 119, 3) := dk_162 0 119 (dk_at dksX4_worth_0 14 rfl rfl)
theorem dX4_worth_17 : decode cX4_worth 17 = .ok (.iconst 0, 1) := dk_3 (dk_at dksX4_worth_0 17 rfl rfl)
theorem dX4_worth_18 : decode cX4_worth 18 = .ok (.istore 4, 2) := dk_54 4 (dk_at dksX4_worth_0 18 rfl rfl)
theorem dX4_worth_20 : decode cX4_worth 20 = .ok (.iconst 0, 1) := dk_3 (dk_at dksX4_worth_0 20 rfl rfl)
theorem dX4_worth_21 : decode cX4_worth 21 = .ok (.istore 5, 2) := dk_54 5 (dk_at dksX4_worth_0 21 rfl rfl)
theorem dX4_worth_23 : decode cX4_worth 23 = .ok (.iload 5, 2) := dk_21 5 (dk_at dksX4_worth_1 0 rfl rfl)
theorem dX4_worth_25 : decode cX4_worth 25 = .ok (.aload_n 0, 1) := dk_42 (dk_at dksX4_worth_1 2 rfl rfl)
theorem dX4_worth_26 : decode cX4_worth 26 = .ok (.getfield 135, 3) := dk_180 0 135 (dk_at dksX4_worth_1 3 rfl rfl)
theorem dX4_worth_29 : decode cX4_worth 29 = .ok (.if_icmp .ge 85, 3) := dk_162 0 85 (dk_at dksX4_worth_1 6 rfl rfl)
theorem dX4_worth_32 : decode cX4_worth 32 = .ok (.aload_n 0, 1) := dk_42 (dk_at dksX4_worth_1 9 rfl rfl)
theorem dX4_worth_33 : decode cX4_worth 33 = .ok (.getfield 59, 3) := dk_180 0 59 (dk_at dksX4_worth_1 10 rfl rfl)
theorem dX4_worth_36 : decode cX4_worth 36 = .ok (.iload 5, 2) := dk_21 5 (dk_at dksX4_worth_1 13 rfl rfl)
theorem dX4_worth_38 : decode cX4_worth 38 = .ok (.iaload, 1) := dk_46 (dk_at dksX4_worth_1 15 rfl rfl)
theorem dX4_worth_39 : decode cX4_worth 39 = .ok (.aload_n 0, 1) := dk_42 (dk_at dksX4_worth_1 16 rfl rfl)
theorem dX4_worth_40 : decode cX4_worth 40 = .ok (.getfield 43, 3) := dk_180 0 43 (dk_at dksX4_worth_1 17 rfl rfl)
theorem dX4_worth_43 : decode cX4_worth 43 = .ok (.iload_n 1, 1) := dk_27 (dk_at dksX4_worth_1 20 rfl rfl)
theorem dX4_worth_44 : decode cX4_worth 44 = .ok (.iaload, 1) := dk_46 (dk_at dksX4_worth_1 21 rfl rfl)
theorem dX4_worth_45 : decode cX4_worth 45 = .ok (.if_icmp .ne 18, 3) := dk_160 0 18 (dk_at dksX4_worth_2 0 rfl rfl)
theorem dX4_worth_48 : decode cX4_worth 48 = .ok (.aload_n 0, 1) := dk_42 (dk_at dksX4_worth_2 3 rfl rfl)
theorem dX4_worth_49 : decode cX4_worth 49 = .ok (.getfield 65, 3) := dk_180 0 65 (dk_at dksX4_worth_2 4 rfl rfl)
theorem dX4_worth_52 : decode cX4_worth 52 = .ok (.iload 5, 2) := dk_21 5 (dk_at dksX4_worth_2 7 rfl rfl)
theorem dX4_worth_54 : decode cX4_worth 54 = .ok (.iaload, 1) := dk_46 (dk_at dksX4_worth_2 9 rfl rfl)
theorem dX4_worth_55 : decode cX4_worth 55 = .ok (.iload_n 3, 1) := dk_29 (dk_at dksX4_worth_2 10 rfl rfl)
theorem dX4_worth_56 : decode cX4_worth 56 = .ok (.if_icmp .gt 7, 3) := dk_163 0 7 (dk_at dksX4_worth_2 11 rfl rfl)
theorem dX4_worth_59 : decode cX4_worth 59 = .ok (.iconst 1, 1) := dk_4 (dk_at dksX4_worth_2 14 rfl rfl)
theorem dX4_worth_60 : decode cX4_worth 60 = .ok (.goto 4, 3) := dk_167 0 4 (dk_at dksX4_worth_2 15 rfl rfl)
theorem dX4_worth_63 : decode cX4_worth 63 = .ok (.iconst 0, 1) := dk_3 (dk_at dksX4_worth_2 18 rfl rfl)
theorem dX4_worth_64 : decode cX4_worth 64 = .ok (.istore 6, 2) := dk_54 6 (dk_at dksX4_worth_2 19 rfl rfl)
theorem dX4_worth_66 : decode cX4_worth 66 = .ok (.iload 4, 2) := dk_21 4 (dk_at dksX4_worth_2 21 rfl rfl)
theorem dX4_worth_68 : decode cX4_worth 68 = .ok (.ifCond .ne 33, 3) := dk_154 0 33 (dk_at dksX4_worth_3 0 rfl rfl)
theorem dX4_worth_71 : decode cX4_worth 71 = .ok (.iload 6, 2) := dk_21 6 (dk_at dksX4_worth_3 3 rfl rfl)
theorem dX4_worth_73 : decode cX4_worth 73 = .ok (.ifCond .eq 32, 3) := dk_153 0 32 (dk_at dksX4_worth_3 5 rfl rfl)
theorem dX4_worth_76 : decode cX4_worth 76 = .ok (.aload_n 0, 1) := dk_42 (dk_at dksX4_worth_3 8 rfl rfl)
theorem dX4_worth_77 : decode cX4_worth 77 = .ok (.getfield 68, 3) := dk_180 0 68 (dk_at dksX4_worth_3 9 rfl rfl)
theorem dX4_worth_80 : decode cX4_worth 80 = .ok (.sipush 3000, 3) := dk_17 11 184 (dk_at dksX4_worth_3 12 rfl rfl)
theorem dX4_worth_83 : decode cX4_worth 83 = .ok (.iload 5, 2) := dk_21 5 (dk_at dksX4_worth_3 15 rfl rfl)
theorem dX4_worth_85 : decode cX4_worth 85 = .ok (.imul, 1) := dk_104 (dk_at dksX4_worth_3 17 rfl rfl)
theorem dX4_worth_86 : decode cX4_worth 86 = .ok (.iconst 5, 1) := dk_8 (dk_at dksX4_worth_3 18 rfl rfl)
theorem dX4_worth_87 : decode cX4_worth 87 = .ok (.iload_n 3, 1) := dk_29 (dk_at dksX4_worth_3 19 rfl rfl)
theorem dX4_worth_88 : decode cX4_worth 88 = .ok (.imul, 1) := dk_104 (dk_at dksX4_worth_3 20 rfl rfl)
theorem dX4_worth_89 : decode cX4_worth 89 = .ok (.iadd, 1) := dk_96 (dk_at dksX4_worth_3 21 rfl rfl)
theorem dX4_worth_90 : decode cX4_worth 90 = .ok (.aload_n 0, 1) := dk_42 (dk_at dksX4_worth_3 22 rfl rfl)
theorem dX4_worth_91 : decode cX4_worth 91 = .ok (.getfield 46, 3) := dk_180 0 46 (dk_at dksX4_worth_4 0 rfl rfl)
theorem dX4_worth_94 : decode cX4_worth 94 = .ok (.iload_n 1, 1) := dk_27 (dk_at dksX4_worth_4 3 rfl rfl)
theorem dX4_worth_95 : decode cX4_worth 95 = .ok (.iaload, 1) := dk_46 (dk_at dksX4_worth_4 4 rfl rfl)
theorem dX4_worth_96 : decode cX4_worth 96 = .ok (.iadd, 1) := dk_96 (dk_at dksX4_worth_4 5 rfl rfl)
theorem dX4_worth_97 : decode cX4_worth 97 = .ok (.iaload, 1) := dk_46 (dk_at dksX4_worth_4 6 rfl rfl)
theorem dX4_worth_98 : decode cX4_worth 98 = .ok (.ifCond .lt 7, 3) := dk_155 0 7 (dk_at dksX4_worth_4 7 rfl rfl)
theorem dX4_worth_101 : decode cX4_worth 101 = .ok (.iconst 1, 1) := dk_4 (dk_at dksX4_worth_4 10 rfl rfl)
theorem dX4_worth_102 : decode cX4_worth 102 = .ok (.goto 4, 3) := dk_167 0 4 (dk_at dksX4_worth_4 11 rfl rfl)
theorem dX4_worth_105 : decode cX4_worth 105 = .ok (.iconst 0, 1) := dk_3 (dk_at dksX4_worth_4 14 rfl rfl)
theorem dX4_worth_106 : decode cX4_worth 106 = .ok (.istore 4, 2) := dk_54 4 (dk_at dksX4_worth_4 15 rfl rfl)
theorem dX4_worth_108 : decode cX4_worth 108 = .ok (.iinc 5 1, 3) := dk_132 5 1 (dk_at dksX4_worth_4 17 rfl rfl)
theorem dX4_worth_111 : decode cX4_worth 111 = .ok (.goto (-88), 3) := dk_167 255 168 (dk_at dksX4_worth_4 20 rfl rfl)
theorem dX4_worth_114 : decode cX4_worth 114 = .ok (.iload_n 2, 1) := dk_28 (dk_at dksX4_worth_4 23 rfl rfl)
theorem dX4_worth_115 : decode cX4_worth 115 = .ok (.iload 4, 2) := dk_21 4 (dk_at dksX4_worth_5 0 rfl rfl)
theorem dX4_worth_117 : decode cX4_worth 117 = .ok (.ifCond .eq 7, 3) := dk_153 0 7 (dk_at dksX4_worth_5 2 rfl rfl)
theorem dX4_worth_120 : decode cX4_worth 120 = .ok (.iconst 1, 1) := dk_4 (dk_at dksX4_worth_5 5 rfl rfl)
theorem dX4_worth_121 : decode cX4_worth 121 = .ok (.goto 4, 3) := dk_167 0 4 (dk_at dksX4_worth_5 6 rfl rfl)
theorem dX4_worth_124 : decode cX4_worth 124 = .ok (.iconst 0, 1) := dk_3 (dk_at dksX4_worth_5 9 rfl rfl)
theorem dX4_worth_125 : decode cX4_worth 125 = .ok (.iadd, 1) := dk_96 (dk_at dksX4_worth_5 10 rfl rfl)
theorem dX4_worth_126 : decode cX4_worth 126 = .ok (.istore_n 2, 1) := dk_61 (dk_at dksX4_worth_5 11 rfl rfl)
theorem dX4_worth_127 : decode cX4_worth 127 = .ok (.iinc 3 1, 3) := dk_132 3 1 (dk_at dksX4_worth_5 12 rfl rfl)
theorem dX4_worth_130 : decode cX4_worth 130 = .ok (.goto (-121), 3) := dk_167 255 135 (dk_at dksX4_worth_5 15 rfl rfl)
theorem dX4_worth_133 : decode cX4_worth 133 = .ok (.bipush 100, 2) := dk_16 100 (dk_at dksX4_worth_5 18 rfl rfl)
theorem dX4_worth_135 : decode cX4_worth 135 = .ok (.aload_n 0, 1) := dk_42 (dk_at dksX4_worth_5 20 rfl rfl)
theorem dX4_worth_136 : decode cX4_worth 136 = .ok (.getfield 53, 3) := dk_180 0 53 (dk_at dksX4_worth_5 21 rfl rfl)
theorem dX4_worth_139 : decode cX4_worth 139 = .ok (.iload_n 1, 1) := dk_27 (dk_at dksX4_worth_6 0 rfl rfl)
theorem dX4_worth_140 : decode cX4_worth 140 = .ok (.iaload, 1) := dk_46 (dk_at dksX4_worth_6 1 rfl rfl)
theorem dX4_worth_141 : decode cX4_worth 141 = .ok (.iload_n 2, 1) := dk_28 (dk_at dksX4_worth_6 2 rfl rfl)
theorem dX4_worth_142 : decode cX4_worth 142 = .ok (.invokestatic 98, 3) := dk_184 0 98 (dk_at dksX4_worth_6 3 rfl rfl)
theorem dX4_worth_145 : decode cX4_worth 145 = .ok (.imul, 1) := dk_104 (dk_at dksX4_worth_6 6 rfl rfl)
theorem dX4_worth_146 : decode cX4_worth 146 = .ok (.ireturn, 1) := dk_172 (dk_at dksX4_worth_6 7 rfl rfl)
abbrev cX4_month : ByteArray := prog_10_method_31_code
def yX4_month : MethodName := ⟨RX4, "month", "()I"⟩
def dkwX4_month_0 : List UInt8 := [42, 3, 181, 0, 90, 42, 180, 0, 109, 172]
abbrev dktX4_month_0 : List UInt8 := dkwX4_month_0 ++ []
theorem dksX4_month_0 : cX4_month.data.toList.drop 0 = dktX4_month_0 := by decide +kernel
theorem dX4_month_0 : decode cX4_month 0 = .ok (.aload_n 0, 1) := dk_42 (dk_at dksX4_month_0 0 rfl rfl)
theorem dX4_month_1 : decode cX4_month 1 = .ok (.iconst 0, 1) := dk_3 (dk_at dksX4_month_0 1 rfl rfl)
theorem dX4_month_2 : decode cX4_month 2 = .ok (.putfield 90, 3) := dk_181 0 90 (dk_at dksX4_month_0 2 rfl rfl)
theorem dX4_month_5 : decode cX4_month 5 = .ok (.aload_n 0, 1) := dk_42 (dk_at dksX4_month_0 5 rfl rfl)
theorem dX4_month_6 : decode cX4_month 6 = .ok (.getfield 109, 3) := dk_180 0 109 (dk_at dksX4_month_0 6 rfl rfl)
theorem dX4_month_9 : decode cX4_month 9 = .ok (.ireturn, 1) := dk_172 (dk_at dksX4_month_0 9 rfl rfl)
abbrev cX4_cellOf : ByteArray := prog_10_method_34_code
def yX4_cellOf : MethodName := ⟨RX4, "cellOf", "(II)I"⟩
def dkwX4_cellOf_5 : List UInt8 := [16, 6, 160, 0, 11, 42, 27, 182, 0, 183, 167, 0, 8, 42, 27, 182, 0, 186, 172]
abbrev dktX4_cellOf_5 : List UInt8 := dkwX4_cellOf_5 ++ []
def dkwX4_cellOf_4 : List UInt8 := [42, 180, 0, 22, 27, 46, 167, 0, 35, 28, 8, 160, 0, 11, 42, 27, 182, 0, 171, 167, 0, 22, 28]
abbrev dktX4_cellOf_4 : List UInt8 := dkwX4_cellOf_4 ++ dktX4_cellOf_5
def dkwX4_cellOf_3 : List UInt8 := [160, 0, 12, 42, 180, 0, 16, 27, 46, 167, 0, 9, 42, 180, 0, 19, 27, 46, 172, 28, 7, 160, 0, 12]
abbrev dktX4_cellOf_3 : List UInt8 := dkwX4_cellOf_3 ++ dktX4_cellOf_4
def dkwX4_cellOf_2 : List UInt8 := [180, 0, 7, 27, 46, 167, 0, 37, 28, 4, 160, 0, 12, 42, 180, 0, 13, 27, 46, 167, 0, 23, 28, 5]
abbrev dktX4_cellOf_2 : List UInt8 := dkwX4_cellOf_2 ++ dktX4_cellOf_3
def dkwX4_cellOf_1 : List UInt8 := [167, 0, 4, 3, 182, 0, 106, 153, 0, 5, 3, 172, 28, 7, 162, 0, 51, 28, 154, 0, 12, 42]
abbrev dktX4_cellOf_1 : List UInt8 := dkwX4_cellOf_1 ++ dktX4_cellOf_2
def dkwX4_cellOf_0 : List UInt8 := [42, 27, 184, 0, 102, 154, 0, 7, 4, 167, 0, 18, 28, 3, 16, 7, 184, 0, 94, 154, 0, 7, 5]
abbrev dktX4_cellOf_0 : List UInt8 := dkwX4_cellOf_0 ++ dktX4_cellOf_1
theorem dksX4_cellOf_0 : cX4_cellOf.data.toList.drop 0 = dktX4_cellOf_0 := by decide +kernel
theorem dksX4_cellOf_1 : cX4_cellOf.data.toList.drop 23 = dktX4_cellOf_1 := dk_seg dksX4_cellOf_0 23 rfl rfl
theorem dksX4_cellOf_2 : cX4_cellOf.data.toList.drop 45 = dktX4_cellOf_2 := dk_seg dksX4_cellOf_1 22 rfl rfl
theorem dksX4_cellOf_3 : cX4_cellOf.data.toList.drop 69 = dktX4_cellOf_3 := dk_seg dksX4_cellOf_2 24 rfl rfl
theorem dksX4_cellOf_4 : cX4_cellOf.data.toList.drop 93 = dktX4_cellOf_4 := dk_seg dksX4_cellOf_3 24 rfl rfl
theorem dksX4_cellOf_5 : cX4_cellOf.data.toList.drop 116 = dktX4_cellOf_5 := dk_seg dksX4_cellOf_4 23 rfl rfl
theorem dX4_cellOf_0 : decode cX4_cellOf 0 = .ok (.aload_n 0, 1) := dk_42 (dk_at dksX4_cellOf_0 0 rfl rfl)
theorem dX4_cellOf_1 : decode cX4_cellOf 1 = .ok (.iload_n 1, 1) := dk_27 (dk_at dksX4_cellOf_0 1 rfl rfl)
theorem dX4_cellOf_2 : decode cX4_cellOf 2 = .ok (.invokestatic 102, 3) := dk_184 0 102 (dk_at dksX4_cellOf_0 2 rfl rfl)
theorem dX4_cellOf_5 : decode cX4_cellOf 5 = .ok (.ifCond .ne 7, 3) := dk_154 0 7 (dk_at dksX4_cellOf_0 5 rfl rfl)
theorem dX4_cellOf_8 : decode cX4_cellOf 8 = .ok (.iconst 1, 1) := dk_4 (dk_at dksX4_cellOf_0 8 rfl rfl)
theorem dX4_cellOf_9 : decode cX4_cellOf 9 = .ok (.goto 18, 3) := dk_167 0 18 (dk_at dksX4_cellOf_0 9 rfl rfl)
theorem dX4_cellOf_12 : decode cX4_cellOf 12 = .ok (.iload_n 2, 1) := dk_28 (dk_at dksX4_cellOf_0 12 rfl rfl)
theorem dX4_cellOf_13 : decode cX4_cellOf 13 = .ok (.iconst 0, 1) := dk_3 (dk_at dksX4_cellOf_0 13 rfl rfl)
theorem dX4_cellOf_14 : decode cX4_cellOf 14 = .ok (.bipush 7, 2) := dk_16 7 (dk_at dksX4_cellOf_0 14 rfl rfl)
theorem dX4_cellOf_16 : decode cX4_cellOf 16 = .ok (.invokestatic 94, 3) := dk_184 0 94 (dk_at dksX4_cellOf_0 16 rfl rfl)
theorem dX4_cellOf_19 : decode cX4_cellOf 19 = .ok (.ifCond .ne 7, 3) := dk_154 0 7 (dk_at dksX4_cellOf_0 19 rfl rfl)
theorem dX4_cellOf_22 : decode cX4_cellOf 22 = .ok (.iconst 2, 1) := dk_5 (dk_at dksX4_cellOf_0 22 rfl rfl)
theorem dX4_cellOf_23 : decode cX4_cellOf 23 = .ok (.goto 4, 3) := dk_167 0 4 (dk_at dksX4_cellOf_1 0 rfl rfl)
theorem dX4_cellOf_26 : decode cX4_cellOf 26 = .ok (.iconst 0, 1) := dk_3 (dk_at dksX4_cellOf_1 3 rfl rfl)
theorem dX4_cellOf_27 : decode cX4_cellOf 27 = .ok (.invokevirtual 106, 3) := dk_182 0 106 (dk_at dksX4_cellOf_1 4 rfl rfl)
theorem dX4_cellOf_30 : decode cX4_cellOf 30 = .ok (.ifCond .eq 5, 3) := dk_153 0 5 (dk_at dksX4_cellOf_1 7 rfl rfl)
theorem dX4_cellOf_33 : decode cX4_cellOf 33 = .ok (.iconst 0, 1) := dk_3 (dk_at dksX4_cellOf_1 10 rfl rfl)
theorem dX4_cellOf_34 : decode cX4_cellOf 34 = .ok (.ireturn, 1) := dk_172 (dk_at dksX4_cellOf_1 11 rfl rfl)
theorem dX4_cellOf_35 : decode cX4_cellOf 35 = .ok (.iload_n 2, 1) := dk_28 (dk_at dksX4_cellOf_1 12 rfl rfl)
theorem dX4_cellOf_36 : decode cX4_cellOf 36 = .ok (.iconst 4, 1) := dk_7 (dk_at dksX4_cellOf_1 13 rfl rfl)
theorem dX4_cellOf_37 : decode cX4_cellOf 37 = .ok (.if_icmp .ge 51, 3) := dk_162 0 51 (dk_at dksX4_cellOf_1 14 rfl rfl)
theorem dX4_cellOf_40 : decode cX4_cellOf 40 = .ok (.iload_n 2, 1) := dk_28 (dk_at dksX4_cellOf_1 17 rfl rfl)
theorem dX4_cellOf_41 : decode cX4_cellOf 41 = .ok (.ifCond .ne 12, 3) := dk_154 0 12 (dk_at dksX4_cellOf_1 18 rfl rfl)
theorem dX4_cellOf_44 : decode cX4_cellOf 44 = .ok (.aload_n 0, 1) := dk_42 (dk_at dksX4_cellOf_1 21 rfl rfl)
theorem dX4_cellOf_45 : decode cX4_cellOf 45 = .ok (.getfield 7, 3) := dk_180 0 7 (dk_at dksX4_cellOf_2 0 rfl rfl)
theorem dX4_cellOf_48 : decode cX4_cellOf 48 = .ok (.iload_n 1, 1) := dk_27 (dk_at dksX4_cellOf_2 3 rfl rfl)
theorem dX4_cellOf_49 : decode cX4_cellOf 49 = .ok (.iaload, 1) := dk_46 (dk_at dksX4_cellOf_2 4 rfl rfl)
theorem dX4_cellOf_50 : decode cX4_cellOf 50 = .ok (.goto 37, 3) := dk_167 0 37 (dk_at dksX4_cellOf_2 5 rfl rfl)
theorem dX4_cellOf_53 : decode cX4_cellOf 53 = .ok (.iload_n 2, 1) := dk_28 (dk_at dksX4_cellOf_2 8 rfl rfl)
theorem dX4_cellOf_54 : decode cX4_cellOf 54 = .ok (.iconst 1, 1) := dk_4 (dk_at dksX4_cellOf_2 9 rfl rfl)
theorem dX4_cellOf_55 : decode cX4_cellOf 55 = .ok (.if_icmp .ne 12, 3) := dk_160 0 12 (dk_at dksX4_cellOf_2 10 rfl rfl)
theorem dX4_cellOf_58 : decode cX4_cellOf 58 = .ok (.aload_n 0, 1) := dk_42 (dk_at dksX4_cellOf_2 13 rfl rfl)
theorem dX4_cellOf_59 : decode cX4_cellOf 59 = .ok (.getfield 13, 3) := dk_180 0 13 (dk_at dksX4_cellOf_2 14 rfl rfl)
theorem dX4_cellOf_62 : decode cX4_cellOf 62 = .ok (.iload_n 1, 1) := dk_27 (dk_at dksX4_cellOf_2 17 rfl rfl)
theorem dX4_cellOf_63 : decode cX4_cellOf 63 = .ok (.iaload, 1) := dk_46 (dk_at dksX4_cellOf_2 18 rfl rfl)
theorem dX4_cellOf_64 : decode cX4_cellOf 64 = .ok (.goto 23, 3) := dk_167 0 23 (dk_at dksX4_cellOf_2 19 rfl rfl)
theorem dX4_cellOf_67 : decode cX4_cellOf 67 = .ok (.iload_n 2, 1) := dk_28 (dk_at dksX4_cellOf_2 22 rfl rfl)
theorem dX4_cellOf_68 : decode cX4_cellOf 68 = .ok (.iconst 2, 1) := dk_5 (dk_at dksX4_cellOf_2 23 rfl rfl)
theorem dX4_cellOf_69 : decode cX4_cellOf 69 = .ok (.if_icmp .ne 12, 3) := dk_160 0 12 (dk_at dksX4_cellOf_3 0 rfl rfl)
theorem dX4_cellOf_72 : decode cX4_cellOf 72 = .ok (.aload_n 0, 1) := dk_42 (dk_at dksX4_cellOf_3 3 rfl rfl)
theorem dX4_cellOf_73 : decode cX4_cellOf 73 = .ok (.getfield 16, 3) := dk_180 0 16 (dk_at dksX4_cellOf_3 4 rfl rfl)
theorem dX4_cellOf_76 : decode cX4_cellOf 76 = .ok (.iload_n 1, 1) := dk_27 (dk_at dksX4_cellOf_3 7 rfl rfl)
theorem dX4_cellOf_77 : decode cX4_cellOf 77 = .ok (.iaload, 1) := dk_46 (dk_at dksX4_cellOf_3 8 rfl rfl)
theorem dX4_cellOf_78 : decode cX4_cellOf 78 = .ok (.goto 9, 3) := dk_167 0 9 (dk_at dksX4_cellOf_3 9 rfl rfl)
theorem dX4_cellOf_81 : decode cX4_cellOf 81 = .ok (.aload_n 0, 1) := dk_42 (dk_at dksX4_cellOf_3 12 rfl rfl)
theorem dX4_cellOf_82 : decode cX4_cellOf 82 = .ok (.getfield 19, 3) := dk_180 0 19 (dk_at dksX4_cellOf_3 13 rfl rfl)
theorem dX4_cellOf_85 : decode cX4_cellOf 85 = .ok (.iload_n 1, 1) := dk_27 (dk_at dksX4_cellOf_3 16 rfl rfl)
theorem dX4_cellOf_86 : decode cX4_cellOf 86 = .ok (.iaload, 1) := dk_46 (dk_at dksX4_cellOf_3 17 rfl rfl)
theorem dX4_cellOf_87 : decode cX4_cellOf 87 = .ok (.ireturn, 1) := dk_172 (dk_at dksX4_cellOf_3 18 rfl rfl)
theorem dX4_cellOf_88 : decode cX4_cellOf 88 = .ok (.iload_n 2, 1) := dk_28 (dk_at dksX4_cellOf_3 19 rfl rfl)
theorem dX4_cellOf_89 : decode cX4_cellOf 89 = .ok (.iconst 4, 1) := dk_7 (dk_at dksX4_cellOf_3 20 rfl rfl)
theorem dX4_cellOf_90 : decode cX4_cellOf 90 = .ok (.if_icmp .ne 12, 3) := dk_160 0 12 (dk_at dksX4_cellOf_3 21 rfl rfl)
theorem dX4_cellOf_93 : decode cX4_cellOf 93 = .ok (.aload_n 0, 1) := dk_42 (dk_at dksX4_cellOf_4 0 rfl rfl)
theorem dX4_cellOf_94 : decode cX4_cellOf 94 = .ok (.getfield 22, 3) := dk_180 0 22 (dk_at dksX4_cellOf_4 1 rfl rfl)
theorem dX4_cellOf_97 : decode cX4_cellOf 97 = .ok (.iload_n 1, 1) := dk_27 (dk_at dksX4_cellOf_4 4 rfl rfl)
theorem dX4_cellOf_98 : decode cX4_cellOf 98 = .ok (.iaload, 1) := dk_46 (dk_at dksX4_cellOf_4 5 rfl rfl)
theorem dX4_cellOf_99 : decode cX4_cellOf 99 = .ok (.goto 35, 3) := dk_167 0 35 (dk_at dksX4_cellOf_4 6 rfl rfl)
theorem dX4_cellOf_102 : decode cX4_cellOf 102 = .ok (.iload_n 2, 1) := dk_28 (dk_at dksX4_cellOf_4 9 rfl rfl)
theorem dX4_cellOf_103 : decode cX4_cellOf 103 = .ok (.iconst 5, 1) := dk_8 (dk_at dksX4_cellOf_4 10 rfl rfl)
theorem dX4_cellOf_104 : decode cX4_cellOf 104 = .ok (.if_icmp .ne 11, 3) := dk_160 0 11 (dk_at dksX4_cellOf_4 11 rfl rfl)
theorem dX4_cellOf_107 : decode cX4_cellOf 107 = .ok (.aload_n 0, 1) := dk_42 (dk_at dksX4_cellOf_4 14 rfl rfl)
theorem dX4_cellOf_108 : decode cX4_cellOf 108 = .ok (.iload_n 1, 1) := dk_27 (dk_at dksX4_cellOf_4 15 rfl rfl)
theorem dX4_cellOf_109 : decode cX4_cellOf 109 = .ok (.invokevirtual 171, 3) := dk_182 0 171 (dk_at dksX4_cellOf_4 16 rfl rfl)
theorem dX4_cellOf_112 : decode cX4_cellOf 112 = .ok (.goto 22, 3) := dk_167 0 22 (dk_at dksX4_cellOf_4 19 rfl rfl)
theorem dX4_cellOf_115 : decode cX4_cellOf 115 = .ok (.iload_n 2, 1) := dk_28 (dk_at dksX4_cellOf_4 22 rfl rfl)
theorem dX4_cellOf_116 : decode cX4_cellOf 116 = .ok (.bipush 6, 2) := dk_16 6 (dk_at dksX4_cellOf_5 0 rfl rfl)
theorem dX4_cellOf_118 : decode cX4_cellOf 118 = .ok (.if_icmp .ne 11, 3) := dk_160 0 11 (dk_at dksX4_cellOf_5 2 rfl rfl)
theorem dX4_cellOf_121 : decode cX4_cellOf 121 = .ok (.aload_n 0, 1) := dk_42 (dk_at dksX4_cellOf_5 5 rfl rfl)
theorem dX4_cellOf_122 : decode cX4_cellOf 122 = .ok (.iload_n 1, 1) := dk_27 (dk_at dksX4_cellOf_5 6 rfl rfl)
theorem dX4_cellOf_123 : decode cX4_cellOf 123 = .ok (.invokevirtual 183, 3) := dk_182 0 183 (dk_at dksX4_cellOf_5 7 rfl rfl)
theorem dX4_cellOf_126 : decode cX4_cellOf 126 = .ok (.goto 8, 3) := dk_167 0 8 (dk_at dksX4_cellOf_5 10 rfl rfl)
theorem dX4_cellOf_129 : decode cX4_cellOf 129 = .ok (.aload_n 0, 1) := dk_42 (dk_at dksX4_cellOf_5 13 rfl rfl)
theorem dX4_cellOf_130 : decode cX4_cellOf 130 = .ok (.iload_n 1, 1) := dk_27 (dk_at dksX4_cellOf_5 14 rfl rfl)
theorem dX4_cellOf_131 : decode cX4_cellOf 131 = .ok (.invokevirtual 186, 3) := dk_182 0 186 (dk_at dksX4_cellOf_5 15 rfl rfl)
theorem dX4_cellOf_134 : decode cX4_cellOf 134 = .ok (.ireturn, 1) := dk_172 (dk_at dksX4_cellOf_5 18 rfl rfl)
abbrev cX4_lakeOf : ByteArray := prog_10_method_32_code
def yX4_lakeOf : MethodName := ⟨RX4, "lakeOf", "(I)I"⟩
def dkwX4_lakeOf_2 : List UInt8 := [61, 132, 3, 1, 167, 255, 214, 28, 172]
abbrev dktX4_lakeOf_2 : List UInt8 := dkwX4_lakeOf_2 ++ []
def dkwX4_lakeOf_1 : List UInt8 := [159, 0, 22, 42, 180, 0, 25, 29, 46, 42, 180, 0, 25, 27, 46, 160, 0, 7, 4, 167, 0, 4, 3, 96]
abbrev dktX4_lakeOf_1 : List UInt8 := dkwX4_lakeOf_1 ++ dktX4_lakeOf_2
def dkwX4_lakeOf_0 : List UInt8 := [42, 182, 0, 165, 3, 61, 3, 62, 29, 16, 25, 162, 0, 42, 28, 42, 180, 0, 25, 27, 46, 2]
abbrev dktX4_lakeOf_0 : List UInt8 := dkwX4_lakeOf_0 ++ dktX4_lakeOf_1
theorem dksX4_lakeOf_0 : cX4_lakeOf.data.toList.drop 0 = dktX4_lakeOf_0 := by decide +kernel
theorem dksX4_lakeOf_1 : cX4_lakeOf.data.toList.drop 22 = dktX4_lakeOf_1 := dk_seg dksX4_lakeOf_0 22 rfl rfl
theorem dksX4_lakeOf_2 : cX4_lakeOf.data.toList.drop 46 = dktX4_lakeOf_2 := dk_seg dksX4_lakeOf_1 24 rfl rfl
theorem dX4_lakeOf_0 : decode cX4_lakeOf 0 = .ok (.aload_n 0, 1) := dk_42 (dk_at dksX4_lakeOf_0 0 rfl rfl)
theorem dX4_lakeOf_1 : decode cX4_lakeOf 1 = .ok (.invokevirtual 165, 3) := dk_182 0 165 (dk_at dksX4_lakeOf_0 1 rfl rfl)
theorem dX4_lakeOf_4 : decode cX4_lakeOf 4 = .ok (.iconst 0, 1) := dk_3 (dk_at dksX4_lakeOf_0 4 rfl rfl)
theorem dX4_lakeOf_5 : decode cX4_lakeOf 5 = .ok (.istore_n 2, 1) := dk_61 (dk_at dksX4_lakeOf_0 5 rfl rfl)
theorem dX4_lakeOf_6 : decode cX4_lakeOf 6 = .ok (.iconst 0, 1) := dk_3 (dk_at dksX4_lakeOf_0 6 rfl rfl)
theorem dX4_lakeOf_7 : decode cX4_lakeOf 7 = .ok (.istore_n 3, 1) := dk_62 (dk_at dksX4_lakeOf_0 7 rfl rfl)
theorem dX4_lakeOf_8 : decode cX4_lakeOf 8 = .ok (.iload_n 3, 1) := dk_29 (dk_at dksX4_lakeOf_0 8 rfl rfl)
theorem dX4_lakeOf_9 : decode cX4_lakeOf 9 = .ok (.bipush 25, 2) := dk_16 25 (dk_at dksX4_lakeOf_0 9 rfl rfl)
theorem dX4_lakeOf_11 : decode cX4_lakeOf 11 = .ok (.if_icmp .ge 42, 3) := dk_162 0 42 (dk_at dksX4_lakeOf_0 11 rfl rfl)
theorem dX4_lakeOf_14 : decode cX4_lakeOf 14 = .ok (.iload_n 2, 1) := dk_28 (dk_at dksX4_lakeOf_0 14 rfl rfl)
theorem dX4_lakeOf_15 : decode cX4_lakeOf 15 = .ok (.aload_n 0, 1) := dk_42 (dk_at dksX4_lakeOf_0 15 rfl rfl)
theorem dX4_lakeOf_16 : decode cX4_lakeOf 16 = .ok (.getfield 25, 3) := dk_180 0 25 (dk_at dksX4_lakeOf_0 16 rfl rfl)
theorem dX4_lakeOf_19 : decode cX4_lakeOf 19 = .ok (.iload_n 1, 1) := dk_27 (dk_at dksX4_lakeOf_0 19 rfl rfl)
theorem dX4_lakeOf_20 : decode cX4_lakeOf 20 = .ok (.iaload, 1) := dk_46 (dk_at dksX4_lakeOf_0 20 rfl rfl)
theorem dX4_lakeOf_21 : decode cX4_lakeOf 21 = .ok (.iconst (-1), 1) := dk_2 (dk_at dksX4_lakeOf_0 21 rfl rfl)
theorem dX4_lakeOf_22 : decode cX4_lakeOf 22 = .ok (.if_icmp .eq 22, 3) := dk_159 0 22 (dk_at dksX4_lakeOf_1 0 rfl rfl)
theorem dX4_lakeOf_25 : decode cX4_lakeOf 25 = .ok (.aload_n 0, 1) := dk_42 (dk_at dksX4_lakeOf_1 3 rfl rfl)
theorem dX4_lakeOf_26 : decode cX4_lakeOf 26 = .ok (.getfield 25, 3) := dk_180 0 25 (dk_at dksX4_lakeOf_1 4 rfl rfl)
theorem dX4_lakeOf_29 : decode cX4_lakeOf 29 = .ok (.iload_n 3, 1) := dk_29 (dk_at dksX4_lakeOf_1 7 rfl rfl)
theorem dX4_lakeOf_30 : decode cX4_lakeOf 30 = .ok (.iaload, 1) := dk_46 (dk_at dksX4_lakeOf_1 8 rfl rfl)
theorem dX4_lakeOf_31 : decode cX4_lakeOf 31 = .ok (.aload_n 0, 1) := dk_42 (dk_at dksX4_lakeOf_1 9 rfl rfl)
theorem dX4_lakeOf_32 : decode cX4_lakeOf 32 = .ok (.getfield 25, 3) := dk_180 0 25 (dk_at dksX4_lakeOf_1 10 rfl rfl)
theorem dX4_lakeOf_35 : decode cX4_lakeOf 35 = .ok (.iload_n 1, 1) := dk_27 (dk_at dksX4_lakeOf_1 13 rfl rfl)
theorem dX4_lakeOf_36 : decode cX4_lakeOf 36 = .ok (.iaload, 1) := dk_46 (dk_at dksX4_lakeOf_1 14 rfl rfl)
theorem dX4_lakeOf_37 : decode cX4_lakeOf 37 = .ok (.if_icmp .ne 7, 3) := dk_160 0 7 (dk_at dksX4_lakeOf_1 15 rfl rfl)
theorem dX4_lakeOf_40 : decode cX4_lakeOf 40 = .ok (.iconst 1, 1) := dk_4 (dk_at dksX4_lakeOf_1 18 rfl rfl)
theorem dX4_lakeOf_41 : decode cX4_lakeOf 41 = .ok (.goto 4, 3) := dk_167 0 4 (dk_at dksX4_lakeOf_1 19 rfl rfl)
theorem dX4_lakeOf_44 : decode cX4_lakeOf 44 = .ok (.iconst 0, 1) := dk_3 (dk_at dksX4_lakeOf_1 22 rfl rfl)
theorem dX4_lakeOf_45 : decode cX4_lakeOf 45 = .ok (.iadd, 1) := dk_96 (dk_at dksX4_lakeOf_1 23 rfl rfl)
theorem dX4_lakeOf_46 : decode cX4_lakeOf 46 = .ok (.istore_n 2, 1) := dk_61 (dk_at dksX4_lakeOf_2 0 rfl rfl)
theorem dX4_lakeOf_47 : decode cX4_lakeOf 47 = .ok (.iinc 3 1, 3) := dk_132 3 1 (dk_at dksX4_lakeOf_2 1 rfl rfl)
theorem dX4_lakeOf_50 : decode cX4_lakeOf 50 = .ok (.goto (-42), 3) := dk_167 255 214 (dk_at dksX4_lakeOf_2 4 rfl rfl)
theorem dX4_lakeOf_53 : decode cX4_lakeOf 53 = .ok (.iload_n 2, 1) := dk_28 (dk_at dksX4_lakeOf_2 7 rfl rfl)
theorem dX4_lakeOf_54 : decode cX4_lakeOf 54 = .ok (.ireturn, 1) := dk_172 (dk_at dksX4_lakeOf_2 8 rfl rfl)
abbrev cX4_thawed : ByteArray := prog_10_method_33_code
def yX4_thawed : MethodName := ⟨RX4, "thawed", "(I)I"⟩
def dkwX4_thawed_1 : List UInt8 := [167, 255, 235, 28, 172]
abbrev dktX4_thawed_1 : List UInt8 := dkwX4_thawed_1 ++ []
def dkwX4_thawed_0 : List UInt8 := [3, 61, 28, 8, 162, 0, 22, 42, 180, 0, 34, 8, 27, 104, 28, 96, 46, 155, 0, 9, 132, 2, 1]
abbrev dktX4_thawed_0 : List UInt8 := dkwX4_thawed_0 ++ dktX4_thawed_1
theorem dksX4_thawed_0 : cX4_thawed.data.toList.drop 0 = dktX4_thawed_0 := by decide +kernel
theorem dksX4_thawed_1 : cX4_thawed.data.toList.drop 23 = dktX4_thawed_1 := dk_seg dksX4_thawed_0 23 rfl rfl
theorem dX4_thawed_0 : decode cX4_thawed 0 = .ok (.iconst 0, 1) := dk_3 (dk_at dksX4_thawed_0 0 rfl rfl)
theorem dX4_thawed_1 : decode cX4_thawed 1 = .ok (.istore_n 2, 1) := dk_61 (dk_at dksX4_thawed_0 1 rfl rfl)
theorem dX4_thawed_2 : decode cX4_thawed 2 = .ok (.iload_n 2, 1) := dk_28 (dk_at dksX4_thawed_0 2 rfl rfl)
theorem dX4_thawed_3 : decode cX4_thawed 3 = .ok (.iconst 5, 1) := dk_8 (dk_at dksX4_thawed_0 3 rfl rfl)
theorem dX4_thawed_4 : decode cX4_thawed 4 = .ok (.if_icmp .ge 22, 3) := dk_162 0 22 (dk_at dksX4_thawed_0 4 rfl rfl)
theorem dX4_thawed_7 : decode cX4_thawed 7 = .ok (.aload_n 0, 1) := dk_42 (dk_at dksX4_thawed_0 7 rfl rfl)
theorem dX4_thawed_8 : decode cX4_thawed 8 = .ok (.getfield 34, 3) := dk_180 0 34 (dk_at dksX4_thawed_0 8 rfl rfl)
theorem dX4_thawed_11 : decode cX4_thawed 11 = .ok (.iconst 5, 1) := dk_8 (dk_at dksX4_thawed_0 11 rfl rfl)
theorem dX4_thawed_12 : decode cX4_thawed 12 = .ok (.iload_n 1, 1) := dk_27 (dk_at dksX4_thawed_0 12 rfl rfl)
theorem dX4_thawed_13 : decode cX4_thawed 13 = .ok (.imul, 1) := dk_104 (dk_at dksX4_thawed_0 13 rfl rfl)
theorem dX4_thawed_14 : decode cX4_thawed 14 = .ok (.iload_n 2, 1) := dk_28 (dk_at dksX4_thawed_0 14 rfl rfl)
theorem dX4_thawed_15 : decode cX4_thawed 15 = .ok (.iadd, 1) := dk_96 (dk_at dksX4_thawed_0 15 rfl rfl)
theorem dX4_thawed_16 : decode cX4_thawed 16 = .ok (.iaload, 1) := dk_46 (dk_at dksX4_thawed_0 16 rfl rfl)
theorem dX4_thawed_17 : decode cX4_thawed 17 = .ok (.ifCond .lt 9, 3) := dk_155 0 9 (dk_at dksX4_thawed_0 17 rfl rfl)
theorem dX4_thawed_20 : decode cX4_thawed 20 = .ok (.iinc 2 1, 3) := dk_132 2 1 (dk_at dksX4_thawed_0 20 rfl rfl)
theorem dX4_thawed_23 : decode cX4_thawed 23 = .ok (.goto (-21), 3) := dk_167 255 235 (dk_at dksX4_thawed_1 0 rfl rfl)
theorem dX4_thawed_26 : decode cX4_thawed 26 = .ok (.iload_n 2, 1) := dk_28 (dk_at dksX4_thawed_1 3 rfl rfl)
theorem dX4_thawed_27 : decode cX4_thawed 27 = .ok (.ireturn, 1) := dk_172 (dk_at dksX4_thawed_1 4 rfl rfl)
abbrev cX4_layerOf : ByteArray := prog_10_method_35_code
def yX4_layerOf : MethodName := ⟨RX4, "layerOf", "(III)I"⟩
def dkwX4_layerOf_5 : List UInt8 := [7, 160, 0, 13, 42, 180, 0, 37, 21, 5, 46, 167, 0, 9, 42, 21, 5, 182, 0, 151, 172]
abbrev dktX4_layerOf_5 : List UInt8 := dkwX4_layerOf_5 ++ []
def dkwX4_layerOf_4 : List UInt8 := [42, 180, 0, 28, 21, 5, 46, 172, 29, 6, 160, 0, 13, 42, 180, 0, 31, 21, 5, 46, 167, 0, 24, 29]
abbrev dktX4_layerOf_4 : List UInt8 := dkwX4_layerOf_4 ++ dktX4_layerOf_5
def dkwX4_layerOf_3 : List UInt8 := [42, 21, 5, 182, 0, 138, 167, 0, 25, 29, 4, 160, 0, 13, 42, 180, 0, 34, 21, 5, 46, 167, 0, 10]
abbrev dktX4_layerOf_3 : List UInt8 := dkwX4_layerOf_3 ++ dktX4_layerOf_4
def dkwX4_layerOf_2 : List UInt8 := [182, 0, 106, 153, 0, 5, 3, 172, 8, 27, 104, 28, 96, 54, 5, 29, 6, 162, 0, 39, 29, 154, 0, 12]
abbrev dktX4_layerOf_2 : List UInt8 := dkwX4_layerOf_2 ++ dktX4_layerOf_3
def dkwX4_layerOf_1 : List UInt8 := [21, 4, 154, 0, 7, 4, 167, 0, 17, 29, 3, 8, 184, 0, 94, 154, 0, 7, 5, 167, 0, 4, 3]
abbrev dktX4_layerOf_1 : List UInt8 := dkwX4_layerOf_1 ++ dktX4_layerOf_2
def dkwX4_layerOf_0 : List UInt8 := [27, 184, 0, 102, 153, 0, 16, 28, 3, 7, 184, 0, 94, 153, 0, 7, 4, 167, 0, 4, 3, 54, 4, 42]
abbrev dktX4_layerOf_0 : List UInt8 := dkwX4_layerOf_0 ++ dktX4_layerOf_1
theorem dksX4_layerOf_0 : cX4_layerOf.data.toList.drop 0 = dktX4_layerOf_0 := by decide +kernel
theorem dksX4_layerOf_1 : cX4_layerOf.data.toList.drop 24 = dktX4_layerOf_1 := dk_seg dksX4_layerOf_0 24 rfl rfl
theorem dksX4_layerOf_2 : cX4_layerOf.data.toList.drop 47 = dktX4_layerOf_2 := dk_seg dksX4_layerOf_1 23 rfl rfl
theorem dksX4_layerOf_3 : cX4_layerOf.data.toList.drop 71 = dktX4_layerOf_3 := dk_seg dksX4_layerOf_2 24 rfl rfl
theorem dksX4_layerOf_4 : cX4_layerOf.data.toList.drop 95 = dktX4_layerOf_4 := dk_seg dksX4_layerOf_3 24 rfl rfl
theorem dksX4_layerOf_5 : cX4_layerOf.data.toList.drop 119 = dktX4_layerOf_5 := dk_seg dksX4_layerOf_4 24 rfl rfl
theorem dX4_layerOf_0 : decode cX4_layerOf 0 = .ok (.iload_n 1, 1) := dk_27 (dk_at dksX4_layerOf_0 0 rfl rfl)
theorem dX4_layerOf_1 : decode cX4_layerOf 1 = .ok (.invokestatic 102, 3) := dk_184 0 102 (dk_at dksX4_layerOf_0 1 rfl rfl)
theorem dX4_layerOf_4 : decode cX4_layerOf 4 = .ok (.ifCond .eq 16, 3) := dk_153 0 16 (dk_at dksX4_layerOf_0 4 rfl rfl)
theorem dX4_layerOf_7 : decode cX4_layerOf 7 = .ok (.iload_n 2, 1) := dk_28 (dk_at dksX4_layerOf_0 7 rfl rfl)
theorem dX4_layerOf_8 : decode cX4_layerOf 8 = .ok (.iconst 0, 1) := dk_3 (dk_at dksX4_layerOf_0 8 rfl rfl)
theorem dX4_layerOf_9 : decode cX4_layerOf 9 = .ok (.iconst 4, 1) := dk_7 (dk_at dksX4_layerOf_0 9 rfl rfl)
theorem dX4_layerOf_10 : decode cX4_layerOf 10 = .ok (.invokestatic 94, 3) := dk_184 0 94 (dk_at dksX4_layerOf_0 10 rfl rfl)
theorem dX4_layerOf_13 : decode cX4_layerOf 13 = .ok (.ifCond .eq 7, 3) := dk_153 0 7 (dk_at dksX4_layerOf_0 13 rfl rfl)
theorem dX4_layerOf_16 : decode cX4_layerOf 16 = .ok (.iconst 1, 1) := dk_4 (dk_at dksX4_layerOf_0 16 rfl rfl)
theorem dX4_layerOf_17 : decode cX4_layerOf 17 = .ok (.goto 4, 3) := dk_167 0 4 (dk_at dksX4_layerOf_0 17 rfl rfl)
theorem dX4_layerOf_20 : decode cX4_layerOf 20 = .ok (.iconst 0, 1) := dk_3 (dk_at dksX4_layerOf_0 20 rfl rfl)
theorem dX4_layerOf_21 : decode cX4_layerOf 21 = .ok (.istore 4, 2) := dk_54 4 (dk_at dksX4_layerOf_0 21 rfl rfl)
theorem dX4_layerOf_23 : decode cX4_layerOf 23 = .ok (.aload_n 0, 1) := dk_42 (dk_at dksX4_layerOf_0 23 rfl rfl)
theorem dX4_layerOf_24 : decode cX4_layerOf 24 = .ok (.iload 4, 2) := dk_21 4 (dk_at dksX4_layerOf_1 0 rfl rfl)
theorem dX4_layerOf_26 : decode cX4_layerOf 26 = .ok (.ifCond .ne 7, 3) := dk_154 0 7 (dk_at dksX4_layerOf_1 2 rfl rfl)
theorem dX4_layerOf_29 : decode cX4_layerOf 29 = .ok (.iconst 1, 1) := dk_4 (dk_at dksX4_layerOf_1 5 rfl rfl)
theorem dX4_layerOf_30 : decode cX4_layerOf 30 = .ok (.goto 17, 3) := dk_167 0 17 (dk_at dksX4_layerOf_1 6 rfl rfl)
theorem dX4_layerOf_33 : decode cX4_layerOf 33 = .ok (.iload_n 3, 1) := dk_29 (dk_at dksX4_layerOf_1 9 rfl rfl)
theorem dX4_layerOf_34 : decode cX4_layerOf 34 = .ok (.iconst 0, 1) := dk_3 (dk_at dksX4_layerOf_1 10 rfl rfl)
theorem dX4_layerOf_35 : decode cX4_layerOf 35 = .ok (.iconst 5, 1) := dk_8 (dk_at dksX4_layerOf_1 11 rfl rfl)
theorem dX4_layerOf_36 : decode cX4_layerOf 36 = .ok (.invokestatic 94, 3) := dk_184 0 94 (dk_at dksX4_layerOf_1 12 rfl rfl)
theorem dX4_layerOf_39 : decode cX4_layerOf 39 = .ok (.ifCond .ne 7, 3) := dk_154 0 7 (dk_at dksX4_layerOf_1 15 rfl rfl)
theorem dX4_layerOf_42 : decode cX4_layerOf 42 = .ok (.iconst 2, 1) := dk_5 (dk_at dksX4_layerOf_1 18 rfl rfl)
theorem dX4_layerOf_43 : decode cX4_layerOf 43 = .ok (.goto 4, 3) := dk_167 0 4 (dk_at dksX4_layerOf_1 19 rfl rfl)
theorem dX4_layerOf_46 : decode cX4_layerOf 46 = .ok (.iconst 0, 1) := dk_3 (dk_at dksX4_layerOf_1 22 rfl rfl)
theorem dX4_layerOf_47 : decode cX4_layerOf 47 = .ok (.invokevirtual 106, 3) := dk_182 0 106 (dk_at dksX4_layerOf_2 0 rfl rfl)
theorem dX4_layerOf_50 : decode cX4_layerOf 50 = .ok (.ifCond .eq 5, 3) := dk_153 0 5 (dk_at dksX4_layerOf_2 3 rfl rfl)
theorem dX4_layerOf_53 : decode cX4_layerOf 53 = .ok (.iconst 0, 1) := dk_3 (dk_at dksX4_layerOf_2 6 rfl rfl)
theorem dX4_layerOf_54 : decode cX4_layerOf 54 = .ok (.ireturn, 1) := dk_172 (dk_at dksX4_layerOf_2 7 rfl rfl)
theorem dX4_layerOf_55 : decode cX4_layerOf 55 = .ok (.iconst 5, 1) := dk_8 (dk_at dksX4_layerOf_2 8 rfl rfl)
theorem dX4_layerOf_56 : decode cX4_layerOf 56 = .ok (.iload_n 1, 1) := dk_27 (dk_at dksX4_layerOf_2 9 rfl rfl)
theorem dX4_layerOf_57 : decode cX4_layerOf 57 = .ok (.imul, 1) := dk_104 (dk_at dksX4_layerOf_2 10 rfl rfl)
theorem dX4_layerOf_58 : decode cX4_layerOf 58 = .ok (.iload_n 2, 1) := dk_28 (dk_at dksX4_layerOf_2 11 rfl rfl)
theorem dX4_layerOf_59 : decode cX4_layerOf 59 = .ok (.iadd, 1) := dk_96 (dk_at dksX4_layerOf_2 12 rfl rfl)
theorem dX4_layerOf_60 : decode cX4_layerOf 60 = .ok (.istore 5, 2) := dk_54 5 (dk_at dksX4_layerOf_2 13 rfl rfl)
theorem dX4_layerOf_62 : decode cX4_layerOf 62 = .ok (.iload_n 3, 1) := dk_29 (dk_at dksX4_layerOf_2 15 rfl rfl)
theorem dX4_layerOf_63 : decode cX4_layerOf 63 = .ok (.iconst 3, 1) := dk_6 (dk_at dksX4_layerOf_2 16 rfl rfl)
theorem dX4_layerOf_64 : decode cX4_layerOf 64 = .ok (.if_icmp .ge 39, 3) := dk_162 0 39 (dk_at dksX4_layerOf_2 17 rfl rfl)
theorem dX4_layerOf_67 : decode cX4_layerOf 67 = .ok (.iload_n 3, 1) := dk_29 (dk_at dksX4_layerOf_2 20 rfl rfl)
theorem dX4_layerOf_68 : decode cX4_layerOf 68 = .ok (.ifCond .ne 12, 3) := dk_154 0 12 (dk_at dksX4_layerOf_2 21 rfl rfl)
theorem dX4_layerOf_71 : decode cX4_layerOf 71 = .ok (.aload_n 0, 1) := dk_42 (dk_at dksX4_layerOf_3 0 rfl rfl)
theorem dX4_layerOf_72 : decode cX4_layerOf 72 = .ok (.iload 5, 2) := dk_21 5 (dk_at dksX4_layerOf_3 1 rfl rfl)
theorem dX4_layerOf_74 : decode cX4_layerOf 74 = .ok (.invokevirtual 138, 3) := dk_182 0 138 (dk_at dksX4_layerOf_3 3 rfl rfl)
theorem dX4_layerOf_77 : decode cX4_layerOf 77 = .ok (.goto 25, 3) := dk_167 0 25 (dk_at dksX4_layerOf_3 6 rfl rfl)
theorem dX4_layerOf_80 : decode cX4_layerOf 80 = .ok (.iload_n 3, 1) := dk_29 (dk_at dksX4_layerOf_3 9 rfl rfl)
theorem dX4_layerOf_81 : decode cX4_layerOf 81 = .ok (.iconst 1, 1) := dk_4 (dk_at dksX4_layerOf_3 10 rfl rfl)
theorem dX4_layerOf_82 : decode cX4_layerOf 82 = .ok (.if_icmp .ne 13, 3) := dk_160 0 13 (dk_at dksX4_layerOf_3 11 rfl rfl)
theorem dX4_layerOf_85 : decode cX4_layerOf 85 = .ok (.aload_n 0, 1) := dk_42 (dk_at dksX4_layerOf_3 14 rfl rfl)
theorem dX4_layerOf_86 : decode cX4_layerOf 86 = .ok (.getfield 34, 3) := dk_180 0 34 (dk_at dksX4_layerOf_3 15 rfl rfl)
theorem dX4_layerOf_89 : decode cX4_layerOf 89 = .ok (.iload 5, 2) := dk_21 5 (dk_at dksX4_layerOf_3 18 rfl rfl)
theorem dX4_layerOf_91 : decode cX4_layerOf 91 = .ok (.iaload, 1) := dk_46 (dk_at dksX4_layerOf_3 20 rfl rfl)
theorem dX4_layerOf_92 : decode cX4_layerOf 92 = .ok (.goto 10, 3) := dk_167 0 10 (dk_at dksX4_layerOf_3 21 rfl rfl)
theorem dX4_layerOf_95 : decode cX4_layerOf 95 = .ok (.aload_n 0, 1) := dk_42 (dk_at dksX4_layerOf_4 0 rfl rfl)
theorem dX4_layerOf_96 : decode cX4_layerOf 96 = .ok (.getfield 28, 3) := dk_180 0 28 (dk_at dksX4_layerOf_4 1 rfl rfl)
theorem dX4_layerOf_99 : decode cX4_layerOf 99 = .ok (.iload 5, 2) := dk_21 5 (dk_at dksX4_layerOf_4 4 rfl rfl)
theorem dX4_layerOf_101 : decode cX4_layerOf 101 = .ok (.iaload, 1) := dk_46 (dk_at dksX4_layerOf_4 6 rfl rfl)
theorem dX4_layerOf_102 : decode cX4_layerOf 102 = .ok (.ireturn, 1) := dk_172 (dk_at dksX4_layerOf_4 7 rfl rfl)
theorem dX4_layerOf_103 : decode cX4_layerOf 103 = .ok (.iload_n 3, 1) := dk_29 (dk_at dksX4_layerOf_4 8 rfl rfl)
theorem dX4_layerOf_104 : decode cX4_layerOf 104 = .ok (.iconst 3, 1) := dk_6 (dk_at dksX4_layerOf_4 9 rfl rfl)
theorem dX4_layerOf_105 : decode cX4_layerOf 105 = .ok (.if_icmp .ne 13, 3) := dk_160 0 13 (dk_at dksX4_layerOf_4 10 rfl rfl)
theorem dX4_layerOf_108 : decode cX4_layerOf 108 = .ok (.aload_n 0, 1) := dk_42 (dk_at dksX4_layerOf_4 13 rfl rfl)
theorem dX4_layerOf_109 : decode cX4_layerOf 109 = .ok (.getfield 31, 3) := dk_180 0 31 (dk_at dksX4_layerOf_4 14 rfl rfl)
theorem dX4_layerOf_112 : decode cX4_layerOf 112 = .ok (.iload 5, 2) := dk_21 5 (dk_at dksX4_layerOf_4 17 rfl rfl)
theorem dX4_layerOf_114 : decode cX4_layerOf 114 = .ok (.iaload, 1) := dk_46 (dk_at dksX4_layerOf_4 19 rfl rfl)
theorem dX4_layerOf_115 : decode cX4_layerOf 115 = .ok (.goto 24, 3) := dk_167 0 24 (dk_at dksX4_layerOf_4 20 rfl rfl)
theorem dX4_layerOf_118 : decode cX4_layerOf 118 = .ok (.iload_n 3, 1) := dk_29 (dk_at dksX4_layerOf_4 23 rfl rfl)
theorem dX4_layerOf_119 : decode cX4_layerOf 119 = .ok (.iconst 4, 1) := dk_7 (dk_at dksX4_layerOf_5 0 rfl rfl)
theorem dX4_layerOf_120 : decode cX4_layerOf 120 = .ok (.if_icmp .ne 13, 3) := dk_160 0 13 (dk_at dksX4_layerOf_5 1 rfl rfl)
theorem dX4_layerOf_123 : decode cX4_layerOf 123 = .ok (.aload_n 0, 1) := dk_42 (dk_at dksX4_layerOf_5 4 rfl rfl)
theorem dX4_layerOf_124 : decode cX4_layerOf 124 = .ok (.getfield 37, 3) := dk_180 0 37 (dk_at dksX4_layerOf_5 5 rfl rfl)
theorem dX4_layerOf_127 : decode cX4_layerOf 127 = .ok (.iload 5, 2) := dk_21 5 (dk_at dksX4_layerOf_5 8 rfl rfl)
theorem dX4_layerOf_129 : decode cX4_layerOf 129 = .ok (.iaload, 1) := dk_46 (dk_at dksX4_layerOf_5 10 rfl rfl)
theorem dX4_layerOf_130 : decode cX4_layerOf 130 = .ok (.goto 9, 3) := dk_167 0 9 (dk_at dksX4_layerOf_5 11 rfl rfl)
theorem dX4_layerOf_133 : decode cX4_layerOf 133 = .ok (.aload_n 0, 1) := dk_42 (dk_at dksX4_layerOf_5 14 rfl rfl)
theorem dX4_layerOf_134 : decode cX4_layerOf 134 = .ok (.iload 5, 2) := dk_21 5 (dk_at dksX4_layerOf_5 15 rfl rfl)
theorem dX4_layerOf_136 : decode cX4_layerOf 136 = .ok (.invokevirtual 151, 3) := dk_182 0 151 (dk_at dksX4_layerOf_5 17 rfl rfl)
theorem dX4_layerOf_139 : decode cX4_layerOf 139 = .ok (.ireturn, 1) := dk_172 (dk_at dksX4_layerOf_5 20 rfl rfl)
abbrev cX4_neighbour : ByteArray := prog_10_method_36_code
def yX4_neighbour : MethodName := ⟨RX4, "neighbour", "(II)I"⟩
def dkwX4_neighbour_3 : List UInt8 := [159, 0, 7, 4, 167, 0, 4, 3, 96, 54, 4, 132, 5, 1, 167, 255, 204, 29, 172]
abbrev dktX4_neighbour_3 : List UInt8 := dkwX4_neighbour_3 ++ []
def dkwX4_neighbour_2 : List UInt8 := [21, 6, 2, 159, 0, 14, 21, 4, 28, 160, 0, 8, 21, 6, 167, 0, 4, 29, 62, 21, 4, 21, 6, 2]
abbrev dktX4_neighbour_2 : List UInt8 := dkwX4_neighbour_2 ++ dktX4_neighbour_3
def dkwX4_neighbour_1 : List UInt8 := [172, 2, 62, 3, 54, 4, 3, 54, 5, 21, 5, 7, 162, 0, 52, 27, 21, 5, 184, 0, 154, 54, 6]
abbrev dktX4_neighbour_1 : List UInt8 := dkwX4_neighbour_1 ++ dktX4_neighbour_2
def dkwX4_neighbour_0 : List UInt8 := [42, 27, 184, 0, 102, 153, 0, 11, 28, 155, 0, 7, 3, 167, 0, 4, 4, 182, 0, 106, 153, 0, 5, 3]
abbrev dktX4_neighbour_0 : List UInt8 := dkwX4_neighbour_0 ++ dktX4_neighbour_1
theorem dksX4_neighbour_0 : cX4_neighbour.data.toList.drop 0 = dktX4_neighbour_0 := by decide +kernel
theorem dksX4_neighbour_1 : cX4_neighbour.data.toList.drop 24 = dktX4_neighbour_1 := dk_seg dksX4_neighbour_0 24 rfl rfl
theorem dksX4_neighbour_2 : cX4_neighbour.data.toList.drop 47 = dktX4_neighbour_2 := dk_seg dksX4_neighbour_1 23 rfl rfl
theorem dksX4_neighbour_3 : cX4_neighbour.data.toList.drop 71 = dktX4_neighbour_3 := dk_seg dksX4_neighbour_2 24 rfl rfl
theorem dX4_neighbour_0 : decode cX4_neighbour 0 = .ok (.aload_n 0, 1) := dk_42 (dk_at dksX4_neighbour_0 0 rfl rfl)
theorem dX4_neighbour_1 : decode cX4_neighbour 1 = .ok (.iload_n 1, 1) := dk_27 (dk_at dksX4_neighbour_0 1 rfl rfl)
theorem dX4_neighbour_2 : decode cX4_neighbour 2 = .ok (.invokestatic 102, 3) := dk_184 0 102 (dk_at dksX4_neighbour_0 2 rfl rfl)
theorem dX4_neighbour_5 : decode cX4_neighbour 5 = .ok (.ifCond .eq 11, 3) := dk_153 0 11 (dk_at dksX4_neighbour_0 5 rfl rfl)
theorem dX4_neighbour_8 : decode cX4_neighbour 8 = .ok (.iload_n 2, 1) := dk_28 (dk_at dksX4_neighbour_0 8 rfl rfl)
theorem dX4_neighbour_9 : decode cX4_neighbour 9 = .ok (.ifCond .lt 7, 3) := dk_155 0 7 (dk_at dksX4_neighbour_0 9 rfl rfl)
theorem dX4_neighbour_12 : decode cX4_neighbour 12 = .ok (.iconst 0, 1) := dk_3 (dk_at dksX4_neighbour_0 12 rfl rfl)
theorem dX4_neighbour_13 : decode cX4_neighbour 13 = .ok (.goto 4, 3) := dk_167 0 4 (dk_at dksX4_neighbour_0 13 rfl rfl)
theorem dX4_neighbour_16 : decode cX4_neighbour 16 = .ok (.iconst 1, 1) := dk_4 (dk_at dksX4_neighbour_0 16 rfl rfl)
theorem dX4_neighbour_17 : decode cX4_neighbour 17 = .ok (.invokevirtual 106, 3) := dk_182 0 106 (dk_at dksX4_neighbour_0 17 rfl rfl)
theorem dX4_neighbour_20 : decode cX4_neighbour 20 = .ok (.ifCond .eq 5, 3) := dk_153 0 5 (dk_at dksX4_neighbour_0 20 rfl rfl)
theorem dX4_neighbour_23 : decode cX4_neighbour 23 = .ok (.iconst 0, 1) := dk_3 (dk_at dksX4_neighbour_0 23 rfl rfl)
theorem dX4_neighbour_24 : decode cX4_neighbour 24 = .ok (.ireturn, 1) := dk_172 (dk_at dksX4_neighbour_1 0 rfl rfl)
theorem dX4_neighbour_25 : decode cX4_neighbour 25 = .ok (.iconst (-1), 1) := dk_2 (dk_at dksX4_neighbour_1 1 rfl rfl)
theorem dX4_neighbour_26 : decode cX4_neighbour 26 = .ok (.istore_n 3, 1) := dk_62 (dk_at dksX4_neighbour_1 2 rfl rfl)
theorem dX4_neighbour_27 : decode cX4_neighbour 27 = .ok (.iconst 0, 1) := dk_3 (dk_at dksX4_neighbour_1 3 rfl rfl)
theorem dX4_neighbour_28 : decode cX4_neighbour 28 = .ok (.istore 4, 2) := dk_54 4 (dk_at dksX4_neighbour_1 4 rfl rfl)
theorem dX4_neighbour_30 : decode cX4_neighbour 30 = .ok (.iconst 0, 1) := dk_3 (dk_at dksX4_neighbour_1 6 rfl rfl)
theorem dX4_neighbour_31 : decode cX4_neighbour 31 = .ok (.istore 5, 2) := dk_54 5 (dk_at dksX4_neighbour_1 7 rfl rfl)
theorem dX4_neighbour_33 : decode cX4_neighbour 33 = .ok (.iload 5, 2) := dk_21 5 (dk_at dksX4_neighbour_1 9 rfl rfl)
theorem dX4_neighbour_35 : decode cX4_neighbour 35 = .ok (.iconst 4, 1) := dk_7 (dk_at dksX4_neighbour_1 11 rfl rfl)
theorem dX4_neighbour_36 : decode cX4_neighbour 36 = .ok (.if_icmp .ge 52, 3) := dk_162 0 52 (dk_at dksX4_neighbour_1 12 rfl rfl)
theorem dX4_neighbour_39 : decode cX4_neighbour 39 = .ok (.iload_n 1, 1) := dk_27 (dk_at dksX4_neighbour_1 15 rfl rfl)
theorem dX4_neighbour_40 : decode cX4_neighbour 40 = .ok (.iload 5, 2) := dk_21 5 (dk_at dksX4_neighbour_1 16 rfl rfl)
theorem dX4_neighbour_42 : decode cX4_neighbour 42 = .ok (.invokestatic 154, 3) := dk_184 0 154 (dk_at dksX4_neighbour_1 18 rfl rfl)
theorem dX4_neighbour_45 : decode cX4_neighbour 45 = .ok (.istore 6, 2) := dk_54 6 (dk_at dksX4_neighbour_1 21 rfl rfl)
theorem dX4_neighbour_47 : decode cX4_neighbour 47 = .ok (.iload 6, 2) := dk_21 6 (dk_at dksX4_neighbour_2 0 rfl rfl)
theorem dX4_neighbour_49 : decode cX4_neighbour 49 = .ok (.iconst (-1), 1) := dk_2 (dk_at dksX4_neighbour_2 2 rfl rfl)
theorem dX4_neighbour_50 : decode cX4_neighbour 50 = .ok (.if_icmp .eq 14, 3) := dk_159 0 14 (dk_at dksX4_neighbour_2 3 rfl rfl)
theorem dX4_neighbour_53 : decode cX4_neighbour 53 = .ok (.iload 4, 2) := dk_21 4 (dk_at dksX4_neighbour_2 6 rfl rfl)
theorem dX4_neighbour_55 : decode cX4_neighbour 55 = .ok (.iload_n 2, 1) := dk_28 (dk_at dksX4_neighbour_2 8 rfl rfl)
theorem dX4_neighbour_56 : decode cX4_neighbour 56 = .ok (.if_icmp .ne 8, 3) := dk_160 0 8 (dk_at dksX4_neighbour_2 9 rfl rfl)
theorem dX4_neighbour_59 : decode cX4_neighbour 59 = .ok (.iload 6, 2) := dk_21 6 (dk_at dksX4_neighbour_2 12 rfl rfl)
theorem dX4_neighbour_61 : decode cX4_neighbour 61 = .ok (.goto 4, 3) := dk_167 0 4 (dk_at dksX4_neighbour_2 14 rfl rfl)
theorem dX4_neighbour_64 : decode cX4_neighbour 64 = .ok (.iload_n 3, 1) := dk_29 (dk_at dksX4_neighbour_2 17 rfl rfl)
theorem dX4_neighbour_65 : decode cX4_neighbour 65 = .ok (.istore_n 3, 1) := dk_62 (dk_at dksX4_neighbour_2 18 rfl rfl)
theorem dX4_neighbour_66 : decode cX4_neighbour 66 = .ok (.iload 4, 2) := dk_21 4 (dk_at dksX4_neighbour_2 19 rfl rfl)
theorem dX4_neighbour_68 : decode cX4_neighbour 68 = .ok (.iload 6, 2) := dk_21 6 (dk_at dksX4_neighbour_2 21 rfl rfl)
theorem dX4_neighbour_70 : decode cX4_neighbour 70 = .ok (.iconst (-1), 1) := dk_2 (dk_at dksX4_neighbour_2 23 rfl rfl)
theorem dX4_neighbour_71 : decode cX4_neighbour 71 = .ok (.if_icmp .eq 7, 3) := dk_159 0 7 (dk_at dksX4_neighbour_3 0 rfl rfl)
theorem dX4_neighbour_74 : decode cX4_neighbour 74 = .ok (.iconst 1, 1) := dk_4 (dk_at dksX4_neighbour_3 3 rfl rfl)
theorem dX4_neighbour_75 : decode cX4_neighbour 75 = .ok (.goto 4, 3) := dk_167 0 4 (dk_at dksX4_neighbour_3 4 rfl rfl)
theorem dX4_neighbour_78 : decode cX4_neighbour 78 = .ok (.iconst 0, 1) := dk_3 (dk_at dksX4_neighbour_3 7 rfl rfl)
theorem dX4_neighbour_79 : decode cX4_neighbour 79 = .ok (.iadd, 1) := dk_96 (dk_at dksX4_neighbour_3 8 rfl rfl)
theorem dX4_neighbour_80 : decode cX4_neighbour 80 = .ok (.istore 4, 2) := dk_54 4 (dk_at dksX4_neighbour_3 9 rfl rfl)
theorem dX4_neighbour_82 : decode cX4_neighbour 82 = .ok (.iinc 5 1, 3) := dk_132 5 1 (dk_at dksX4_neighbour_3 11 rfl rfl)
theorem dX4_neighbour_85 : decode cX4_neighbour 85 = .ok (.goto (-52), 3) := dk_167 255 204 (dk_at dksX4_neighbour_3 14 rfl rfl)
theorem dX4_neighbour_88 : decode cX4_neighbour 88 = .ok (.iload_n 3, 1) := dk_29 (dk_at dksX4_neighbour_3 17 rfl rfl)
theorem dX4_neighbour_89 : decode cX4_neighbour 89 = .ok (.ireturn, 1) := dk_172 (dk_at dksX4_neighbour_3 18 rfl rfl)
abbrev cX4_lakes : ByteArray := prog_10_method_37_code
def yX4_lakes : MethodName := ⟨RX4, "lakes", "()I"⟩
def dkwX4_lakes_3 : List UInt8 := [153, 0, 7, 4, 167, 0, 4, 3, 96, 60, 132, 2, 1, 167, 255, 187, 27, 172]
abbrev dktX4_lakes_3 : List UInt8 := dkwX4_lakes_3 ++ []
def dkwX4_lakes_2 : List UInt8 := [21, 4, 182, 0, 142, 153, 0, 7, 4, 167, 0, 4, 3, 62, 132, 4, 1, 167, 255, 216, 27, 29]
abbrev dktX4_lakes_2 : List UInt8 := dkwX4_lakes_2 ++ dktX4_lakes_3
def dkwX4_lakes_1 : List UInt8 := [21, 4, 16, 25, 162, 0, 39, 29, 154, 0, 23, 42, 180, 0, 25, 21, 4, 46, 28, 160, 0, 16, 42]
abbrev dktX4_lakes_1 : List UInt8 := dkwX4_lakes_1 ++ dktX4_lakes_2
def dkwX4_lakes_0 : List UInt8 := [42, 3, 181, 0, 90, 42, 182, 0, 165, 3, 60, 3, 61, 28, 16, 25, 162, 0, 69, 3, 62, 3, 54, 4]
abbrev dktX4_lakes_0 : List UInt8 := dkwX4_lakes_0 ++ dktX4_lakes_1
theorem dksX4_lakes_0 : cX4_lakes.data.toList.drop 0 = dktX4_lakes_0 := by decide +kernel
theorem dksX4_lakes_1 : cX4_lakes.data.toList.drop 24 = dktX4_lakes_1 := dk_seg dksX4_lakes_0 24 rfl rfl
theorem dksX4_lakes_2 : cX4_lakes.data.toList.drop 47 = dktX4_lakes_2 := dk_seg dksX4_lakes_1 23 rfl rfl
theorem dksX4_lakes_3 : cX4_lakes.data.toList.drop 69 = dktX4_lakes_3 := dk_seg dksX4_lakes_2 22 rfl rfl
theorem dX4_lakes_0 : decode cX4_lakes 0 = .ok (.aload_n 0, 1) := dk_42 (dk_at dksX4_lakes_0 0 rfl rfl)
theorem dX4_lakes_1 : decode cX4_lakes 1 = .ok (.iconst 0, 1) := dk_3 (dk_at dksX4_lakes_0 1 rfl rfl)
theorem dX4_lakes_2 : decode cX4_lakes 2 = .ok (.putfield 90, 3) := dk_181 0 90 (dk_at dksX4_lakes_0 2 rfl rfl)
theorem dX4_lakes_5 : decode cX4_lakes 5 = .ok (.aload_n 0, 1) := dk_42 (dk_at dksX4_lakes_0 5 rfl rfl)
theorem dX4_lakes_6 : decode cX4_lakes 6 = .ok (.invokevirtual 165, 3) := dk_182 0 165 (dk_at dksX4_lakes_0 6 rfl rfl)
theorem dX4_lakes_9 : decode cX4_lakes 9 = .ok (.iconst 0, 1) := dk_3 (dk_at dksX4_lakes_0 9 rfl rfl)
theorem dX4_lakes_10 : decode cX4_lakes 10 = .ok (.istore_n 1, 1) := dk_60 (dk_at dksX4_lakes_0 10 rfl rfl)
theorem dX4_lakes_11 : decode cX4_lakes 11 = .ok (.iconst 0, 1) := dk_3 (dk_at dksX4_lakes_0 11 rfl rfl)
theorem dX4_lakes_12 : decode cX4_lakes 12 = .ok (.istore_n 2, 1) := dk_61 (dk_at dksX4_lakes_0 12 rfl rfl)
theorem dX4_lakes_13 : decode cX4_lakes 13 = .ok (.iload_n 2, 1) := dk_28 (dk_at dksX4_lakes_0 13 rfl rfl)
theorem dX4_lakes_14 : decode cX4_lakes 14 = .ok (.bipush 25, 2) := dk_16 25 (dk_at dksX4_lakes_0 14 rfl rfl)
theorem dX4_lakes_16 : decode cX4_lakes 16 = .ok (.if_icmp .ge 69, 3) := dk_162 0 69 (dk_at dksX4_lakes_0 16 rfl rfl)
theorem dX4_lakes_19 : decode cX4_lakes 19 = .ok (.iconst 0, 1) := dk_3 (dk_at dksX4_lakes_0 19 rfl rfl)
theorem dX4_lakes_20 : decode cX4_lakes 20 = .ok (.istore_n 3, 1) := dk_62 (dk_at dksX4_lakes_0 20 rfl rfl)
theorem dX4_lakes_21 : decode cX4_lakes 21 = .ok (.iconst 0, 1) := dk_3 (dk_at dksX4_lakes_0 21 rfl rfl)
theorem dX4_lakes_22 : decode cX4_lakes 22 = .ok (.istore 4, 2) := dk_54 4 (dk_at dksX4_lakes_0 22 rfl rfl)
theorem dX4_lakes_24 : decode cX4_lakes 24 = .ok (.iload 4, 2) := dk_21 4 (dk_at dksX4_lakes_1 0 rfl rfl)
theorem dX4_lakes_26 : decode cX4_lakes 26 = .ok (.bipush 25, 2) := dk_16 25 (dk_at dksX4_lakes_1 2 rfl rfl)
theorem dX4_lakes_28 : decode cX4_lakes 28 = .ok (.if_icmp .ge 39, 3) := dk_162 0 39 (dk_at dksX4_lakes_1 4 rfl rfl)
theorem dX4_lakes_31 : decode cX4_lakes 31 = .ok (.iload_n 3, 1) := dk_29 (dk_at dksX4_lakes_1 7 rfl rfl)
theorem dX4_lakes_32 : decode cX4_lakes 32 = .ok (.ifCond .ne 23, 3) := dk_154 0 23 (dk_at dksX4_lakes_1 8 rfl rfl)
theorem dX4_lakes_35 : decode cX4_lakes 35 = .ok (.aload_n 0, 1) := dk_42 (dk_at dksX4_lakes_1 11 rfl rfl)
theorem dX4_lakes_36 : decode cX4_lakes 36 = .ok (.getfield 25, 3) := dk_180 0 25 (dk_at dksX4_lakes_1 12 rfl rfl)
theorem dX4_lakes_39 : decode cX4_lakes 39 = .ok (.iload 4, 2) := dk_21 4 (dk_at dksX4_lakes_1 15 rfl rfl)
theorem dX4_lakes_41 : decode cX4_lakes 41 = .ok (.iaload, 1) := dk_46 (dk_at dksX4_lakes_1 17 rfl rfl)
theorem dX4_lakes_42 : decode cX4_lakes 42 = .ok (.iload_n 2, 1) := dk_28 (dk_at dksX4_lakes_1 18 rfl rfl)
theorem dX4_lakes_43 : decode cX4_lakes 43 = .ok (.if_icmp .ne 16, 3) := dk_160 0 16 (dk_at dksX4_lakes_1 19 rfl rfl)
theorem dX4_lakes_46 : decode cX4_lakes 46 = .ok (.aload_n 0, 1) := dk_42 (dk_at dksX4_lakes_1 22 rfl rfl)
theorem dX4_lakes_47 : decode cX4_lakes 47 = .ok (.iload 4, 2) := dk_21 4 (dk_at dksX4_lakes_2 0 rfl rfl)
theorem dX4_lakes_49 : decode cX4_lakes 49 = .ok (.invokevirtual 142, 3) := dk_182 0 142 (dk_at dksX4_lakes_2 2 rfl rfl)
theorem dX4_lakes_52 : decode cX4_lakes 52 = .ok (.ifCond .eq 7, 3) := dk_153 0 7 (dk_at dksX4_lakes_2 5 rfl rfl)
theorem dX4_lakes_55 : decode cX4_lakes 55 = .ok (.iconst 1, 1) := dk_4 (dk_at dksX4_lakes_2 8 rfl rfl)
theorem dX4_lakes_56 : decode cX4_lakes 56 = .ok (.goto 4, 3) := dk_167 0 4 (dk_at dksX4_lakes_2 9 rfl rfl)
theorem dX4_lakes_59 : decode cX4_lakes 59 = .ok (.iconst 0, 1) := dk_3 (dk_at dksX4_lakes_2 12 rfl rfl)
theorem dX4_lakes_60 : decode cX4_lakes 60 = .ok (.istore_n 3, 1) := dk_62 (dk_at dksX4_lakes_2 13 rfl rfl)
theorem dX4_lakes_61 : decode cX4_lakes 61 = .ok (.iinc 4 1, 3) := dk_132 4 1 (dk_at dksX4_lakes_2 14 rfl rfl)
theorem dX4_lakes_64 : decode cX4_lakes 64 = .ok (.goto (-40), 3) := dk_167 255 216 (dk_at dksX4_lakes_2 17 rfl rfl)
theorem dX4_lakes_67 : decode cX4_lakes 67 = .ok (.iload_n 1, 1) := dk_27 (dk_at dksX4_lakes_2 20 rfl rfl)
theorem dX4_lakes_68 : decode cX4_lakes 68 = .ok (.iload_n 3, 1) := dk_29 (dk_at dksX4_lakes_2 21 rfl rfl)
theorem dX4_lakes_69 : decode cX4_lakes 69 = .ok (.ifCond .eq 7, 3) := dk_153 0 7 (dk_at dksX4_lakes_3 0 rfl rfl)
theorem dX4_lakes_72 : decode cX4_lakes 72 = .ok (.iconst 1, 1) := dk_4 (dk_at dksX4_lakes_3 3 rfl rfl)
theorem dX4_lakes_73 : decode cX4_lakes 73 = .ok (.goto 4, 3) := dk_167 0 4 (dk_at dksX4_lakes_3 4 rfl rfl)
theorem dX4_lakes_76 : decode cX4_lakes 76 = .ok (.iconst 0, 1) := dk_3 (dk_at dksX4_lakes_3 7 rfl rfl)
theorem dX4_lakes_77 : decode cX4_lakes 77 = .ok (.iadd, 1) := dk_96 (dk_at dksX4_lakes_3 8 rfl rfl)
theorem dX4_lakes_78 : decode cX4_lakes 78 = .ok (.istore_n 1, 1) := dk_60 (dk_at dksX4_lakes_3 9 rfl rfl)
theorem dX4_lakes_79 : decode cX4_lakes 79 = .ok (.iinc 2 1, 3) := dk_132 2 1 (dk_at dksX4_lakes_3 10 rfl rfl)
theorem dX4_lakes_82 : decode cX4_lakes 82 = .ok (.goto (-69), 3) := dk_167 255 187 (dk_at dksX4_lakes_3 13 rfl rfl)
theorem dX4_lakes_85 : decode cX4_lakes 85 = .ok (.iload_n 1, 1) := dk_27 (dk_at dksX4_lakes_3 16 rfl rfl)
theorem dX4_lakes_86 : decode cX4_lakes 86 = .ok (.ireturn, 1) := dk_172 (dk_at dksX4_lakes_3 17 rfl rfl)
abbrev cX4_houseOf : ByteArray := prog_10_method_38_code
def yX4_houseOf : MethodName := ⟨RX4, "houseOf", "(II)I"⟩
def dkwX4_houseOf_4 : List UInt8 := [172]
abbrev dktX4_houseOf_4 : List UInt8 := dkwX4_houseOf_4 ++ []
def dkwX4_houseOf_3 : List UInt8 := [27, 46, 167, 0, 22, 28, 6, 160, 0, 12, 42, 180, 0, 56, 27, 46, 167, 0, 8, 42, 27, 182, 0, 180]
abbrev dktX4_houseOf_3 : List UInt8 := dkwX4_houseOf_3 ++ dktX4_houseOf_4
def dkwX4_houseOf_2 : List UInt8 := [180, 0, 43, 27, 46, 167, 0, 9, 42, 180, 0, 46, 27, 46, 172, 28, 5, 160, 0, 12, 42, 180, 0, 53]
abbrev dktX4_houseOf_2 : List UInt8 := dkwX4_houseOf_2 ++ dktX4_houseOf_3
def dkwX4_houseOf_1 : List UInt8 := [167, 0, 4, 3, 182, 0, 106, 153, 0, 5, 3, 172, 28, 5, 162, 0, 23, 28, 154, 0, 12, 42]
abbrev dktX4_houseOf_1 : List UInt8 := dkwX4_houseOf_1 ++ dktX4_houseOf_2
def dkwX4_houseOf_0 : List UInt8 := [42, 42, 27, 182, 0, 174, 154, 0, 7, 4, 167, 0, 17, 28, 3, 7, 184, 0, 94, 154, 0, 7, 5]
abbrev dktX4_houseOf_0 : List UInt8 := dkwX4_houseOf_0 ++ dktX4_houseOf_1
theorem dksX4_houseOf_0 : cX4_houseOf.data.toList.drop 0 = dktX4_houseOf_0 := by decide +kernel
theorem dksX4_houseOf_1 : cX4_houseOf.data.toList.drop 23 = dktX4_houseOf_1 := dk_seg dksX4_houseOf_0 23 rfl rfl
theorem dksX4_houseOf_2 : cX4_houseOf.data.toList.drop 45 = dktX4_houseOf_2 := dk_seg dksX4_houseOf_1 22 rfl rfl
theorem dksX4_houseOf_3 : cX4_houseOf.data.toList.drop 69 = dktX4_houseOf_3 := dk_seg dksX4_houseOf_2 24 rfl rfl
theorem dksX4_houseOf_4 : cX4_houseOf.data.toList.drop 93 = dktX4_houseOf_4 := dk_seg dksX4_houseOf_3 24 rfl rfl
theorem dX4_houseOf_0 : decode cX4_houseOf 0 = .ok (.aload_n 0, 1) := dk_42 (dk_at dksX4_houseOf_0 0 rfl rfl)
theorem dX4_houseOf_1 : decode cX4_houseOf 1 = .ok (.aload_n 0, 1) := dk_42 (dk_at dksX4_houseOf_0 1 rfl rfl)
theorem dX4_houseOf_2 : decode cX4_houseOf 2 = .ok (.iload_n 1, 1) := dk_27 (dk_at dksX4_houseOf_0 2 rfl rfl)
theorem dX4_houseOf_3 : decode cX4_houseOf 3 = .ok (.invokevirtual 174, 3) := dk_182 0 174 (dk_at dksX4_houseOf_0 3 rfl rfl)
theorem dX4_houseOf_6 : decode cX4_houseOf 6 = .ok (.ifCond .ne 7, 3) := dk_154 0 7 (dk_at dksX4_houseOf_0 6 rfl rfl)
theorem dX4_houseOf_9 : decode cX4_houseOf 9 = .ok (.iconst 1, 1) := dk_4 (dk_at dksX4_houseOf_0 9 rfl rfl)
theorem dX4_houseOf_10 : decode cX4_houseOf 10 = .ok (.goto 17, 3) := dk_167 0 17 (dk_at dksX4_houseOf_0 10 rfl rfl)
theorem dX4_houseOf_13 : decode cX4_houseOf 13 = .ok (.iload_n 2, 1) := dk_28 (dk_at dksX4_houseOf_0 13 rfl rfl)
theorem dX4_houseOf_14 : decode cX4_houseOf 14 = .ok (.iconst 0, 1) := dk_3 (dk_at dksX4_houseOf_0 14 rfl rfl)
theorem dX4_houseOf_15 : decode cX4_houseOf 15 = .ok (.iconst 4, 1) := dk_7 (dk_at dksX4_houseOf_0 15 rfl rfl)
theorem dX4_houseOf_16 : decode cX4_houseOf 16 = .ok (.invokestatic 94, 3) := dk_184 0 94 (dk_at dksX4_houseOf_0 16 rfl rfl)
theorem dX4_houseOf_19 : decode cX4_houseOf 19 = .ok (.ifCond .ne 7, 3) := dk_154 0 7 (dk_at dksX4_houseOf_0 19 rfl rfl)
theorem dX4_houseOf_22 : decode cX4_houseOf 22 = .ok (.iconst 2, 1) := dk_5 (dk_at dksX4_houseOf_0 22 rfl rfl)
theorem dX4_houseOf_23 : decode cX4_houseOf 23 = .ok (.goto 4, 3) := dk_167 0 4 (dk_at dksX4_houseOf_1 0 rfl rfl)
theorem dX4_houseOf_26 : decode cX4_houseOf 26 = .ok (.iconst 0, 1) := dk_3 (dk_at dksX4_houseOf_1 3 rfl rfl)
theorem dX4_houseOf_27 : decode cX4_houseOf 27 = .ok (.invokevirtual 106, 3) := dk_182 0 106 (dk_at dksX4_houseOf_1 4 rfl rfl)
theorem dX4_houseOf_30 : decode cX4_houseOf 30 = .ok (.ifCond .eq 5, 3) := dk_153 0 5 (dk_at dksX4_houseOf_1 7 rfl rfl)
theorem dX4_houseOf_33 : decode cX4_houseOf 33 = .ok (.iconst 0, 1) := dk_3 (dk_at dksX4_houseOf_1 10 rfl rfl)
theorem dX4_houseOf_34 : decode cX4_houseOf 34 = .ok (.ireturn, 1) := dk_172 (dk_at dksX4_houseOf_1 11 rfl rfl)
theorem dX4_houseOf_35 : decode cX4_houseOf 35 = .ok (.iload_n 2, 1) := dk_28 (dk_at dksX4_houseOf_1 12 rfl rfl)
theorem dX4_houseOf_36 : decode cX4_houseOf 36 = .ok (.iconst 2, 1) := dk_5 (dk_at dksX4_houseOf_1 13 rfl rfl)
theorem dX4_houseOf_37 : decode cX4_houseOf 37 = .ok (.if_icmp .ge 23, 3) := dk_162 0 23 (dk_at dksX4_houseOf_1 14 rfl rfl)
theorem dX4_houseOf_40 : decode cX4_houseOf 40 = .ok (.iload_n 2, 1) := dk_28 (dk_at dksX4_houseOf_1 17 rfl rfl)
theorem dX4_houseOf_41 : decode cX4_houseOf 41 = .ok (.ifCond .ne 12, 3) := dk_154 0 12 (dk_at dksX4_houseOf_1 18 rfl rfl)
theorem dX4_houseOf_44 : decode cX4_houseOf 44 = .ok (.aload_n 0, 1) := dk_42 (dk_at dksX4_houseOf_1 21 rfl rfl)
theorem dX4_houseOf_45 : decode cX4_houseOf 45 = .ok (.getfield 43, 3) := dk_180 0 43 (dk_at dksX4_houseOf_2 0 rfl rfl)
theorem dX4_houseOf_48 : decode cX4_houseOf 48 = .ok (.iload_n 1, 1) := dk_27 (dk_at dksX4_houseOf_2 3 rfl rfl)
theorem dX4_houseOf_49 : decode cX4_houseOf 49 = .ok (.iaload, 1) := dk_46 (dk_at dksX4_houseOf_2 4 rfl rfl)
theorem dX4_houseOf_50 : decode cX4_houseOf 50 = .ok (.goto 9, 3) := dk_167 0 9 (dk_at dksX4_houseOf_2 5 rfl rfl)
theorem dX4_houseOf_53 : decode cX4_houseOf 53 = .ok (.aload_n 0, 1) := dk_42 (dk_at dksX4_houseOf_2 8 rfl rfl)
theorem dX4_houseOf_54 : decode cX4_houseOf 54 = .ok (.getfield 46, 3) := dk_180 0 46 (dk_at dksX4_houseOf_2 9 rfl rfl)
theorem dX4_houseOf_57 : decode cX4_houseOf 57 = .ok (.iload_n 1, 1) := dk_27 (dk_at dksX4_houseOf_2 12 rfl rfl)
theorem dX4_houseOf_58 : decode cX4_houseOf 58 = .ok (.iaload, 1) := dk_46 (dk_at dksX4_houseOf_2 13 rfl rfl)
theorem dX4_houseOf_59 : decode cX4_houseOf 59 = .ok (.ireturn, 1) := dk_172 (dk_at dksX4_houseOf_2 14 rfl rfl)
theorem dX4_houseOf_60 : decode cX4_houseOf 60 = .ok (.iload_n 2, 1) := dk_28 (dk_at dksX4_houseOf_2 15 rfl rfl)
theorem dX4_houseOf_61 : decode cX4_houseOf 61 = .ok (.iconst 2, 1) := dk_5 (dk_at dksX4_houseOf_2 16 rfl rfl)
theorem dX4_houseOf_62 : decode cX4_houseOf 62 = .ok (.if_icmp .ne 12, 3) := dk_160 0 12 (dk_at dksX4_houseOf_2 17 rfl rfl)
theorem dX4_houseOf_65 : decode cX4_houseOf 65 = .ok (.aload_n 0, 1) := dk_42 (dk_at dksX4_houseOf_2 20 rfl rfl)
theorem dX4_houseOf_66 : decode cX4_houseOf 66 = .ok (.getfield 53, 3) := dk_180 0 53 (dk_at dksX4_houseOf_2 21 rfl rfl)
theorem dX4_houseOf_69 : decode cX4_houseOf 69 = .ok (.iload_n 1, 1) := dk_27 (dk_at dksX4_houseOf_3 0 rfl rfl)
theorem dX4_houseOf_70 : decode cX4_houseOf 70 = .ok (.iaload, 1) := dk_46 (dk_at dksX4_houseOf_3 1 rfl rfl)
theorem dX4_houseOf_71 : decode cX4_houseOf 71 = .ok (.goto 22, 3) := dk_167 0 22 (dk_at dksX4_houseOf_3 2 rfl rfl)
theorem dX4_houseOf_74 : decode cX4_houseOf 74 = .ok (.iload_n 2, 1) := dk_28 (dk_at dksX4_houseOf_3 5 rfl rfl)
theorem dX4_houseOf_75 : decode cX4_houseOf 75 = .ok (.iconst 3, 1) := dk_6 (dk_at dksX4_houseOf_3 6 rfl rfl)
theorem dX4_houseOf_76 : decode cX4_houseOf 76 = .ok (.if_icmp .ne 12, 3) := dk_160 0 12 (dk_at dksX4_houseOf_3 7 rfl rfl)
theorem dX4_houseOf_79 : decode cX4_houseOf 79 = .ok (.aload_n 0, 1) := dk_42 (dk_at dksX4_houseOf_3 10 rfl rfl)
theorem dX4_houseOf_80 : decode cX4_houseOf 80 = .ok (.getfield 56, 3) := dk_180 0 56 (dk_at dksX4_houseOf_3 11 rfl rfl)
theorem dX4_houseOf_83 : decode cX4_houseOf 83 = .ok (.iload_n 1, 1) := dk_27 (dk_at dksX4_houseOf_3 14 rfl rfl)
theorem dX4_houseOf_84 : decode cX4_houseOf 84 = .ok (.iaload, 1) := dk_46 (dk_at dksX4_houseOf_3 15 rfl rfl)
theorem dX4_houseOf_85 : decode cX4_houseOf 85 = .ok (.goto 8, 3) := dk_167 0 8 (dk_at dksX4_houseOf_3 16 rfl rfl)
theorem dX4_houseOf_88 : decode cX4_houseOf 88 = .ok (.aload_n 0, 1) := dk_42 (dk_at dksX4_houseOf_3 19 rfl rfl)
theorem dX4_houseOf_89 : decode cX4_houseOf 89 = .ok (.iload_n 1, 1) := dk_27 (dk_at dksX4_houseOf_3 20 rfl rfl)
theorem dX4_houseOf_90 : decode cX4_houseOf 90 = .ok (.invokevirtual 180, 3) := dk_182 0 180 (dk_at dksX4_houseOf_3 21 rfl rfl)
theorem dX4_houseOf_93 : decode cX4_houseOf 93 = .ok (.ireturn, 1) := dk_172 (dk_at dksX4_houseOf_4 0 rfl rfl)
abbrev cX4_reading : ByteArray := prog_10_method_39_code
def yX4_reading : MethodName := ⟨RX4, "reading", "(III)I"⟩
def dkwX4_reading_3 : List UInt8 := [180, 0, 68, 17, 11, 184, 27, 104, 8, 28, 104, 96, 29, 96, 46, 172]
abbrev dktX4_reading_3 : List UInt8 := dkwX4_reading_3 ++ []
def dkwX4_reading_2 : List UInt8 := [54, 4, 42, 21, 4, 153, 0, 7, 3, 167, 0, 4, 4, 182, 0, 106, 153, 0, 7, 3, 167, 0, 19, 42]
abbrev dktX4_reading_2 : List UInt8 := dkwX4_reading_2 ++ dktX4_reading_3
def dkwX4_reading_1 : List UInt8 := [42, 180, 0, 65, 27, 46, 42, 180, 0, 109, 4, 100, 184, 0, 94, 153, 0, 7, 4, 167, 0, 4, 3]
abbrev dktX4_reading_1 : List UInt8 := dkwX4_reading_1 ++ dktX4_reading_2
def dkwX4_reading_0 : List UInt8 := [27, 3, 42, 180, 0, 135, 4, 100, 184, 0, 94, 153, 0, 35, 29, 3, 7, 184, 0, 94, 153, 0, 26, 28]
abbrev dktX4_reading_0 : List UInt8 := dkwX4_reading_0 ++ dktX4_reading_1
theorem dksX4_reading_0 : cX4_reading.data.toList.drop 0 = dktX4_reading_0 := by decide +kernel
theorem dksX4_reading_1 : cX4_reading.data.toList.drop 24 = dktX4_reading_1 := dk_seg dksX4_reading_0 24 rfl rfl
theorem dksX4_reading_2 : cX4_reading.data.toList.drop 47 = dktX4_reading_2 := dk_seg dksX4_reading_1 23 rfl rfl
theorem dksX4_reading_3 : cX4_reading.data.toList.drop 71 = dktX4_reading_3 := dk_seg dksX4_reading_2 24 rfl rfl
theorem dX4_reading_0 : decode cX4_reading 0 = .ok (.iload_n 1, 1) := dk_27 (dk_at dksX4_reading_0 0 rfl rfl)
theorem dX4_reading_1 : decode cX4_reading 1 = .ok (.iconst 0, 1) := dk_3 (dk_at dksX4_reading_0 1 rfl rfl)
theorem dX4_reading_2 : decode cX4_reading 2 = .ok (.aload_n 0, 1) := dk_42 (dk_at dksX4_reading_0 2 rfl rfl)
theorem dX4_reading_3 : decode cX4_reading 3 = .ok (.getfield 135, 3) := dk_180 0 135 (dk_at dksX4_reading_0 3 rfl rfl)
theorem dX4_reading_6 : decode cX4_reading 6 = .ok (.iconst 1, 1) := dk_4 (dk_at dksX4_reading_0 6 rfl rfl)
theorem dX4_reading_7 : decode cX4_reading 7 = .ok (.isub, 1) := dk_100 (dk_at dksX4_reading_0 7 rfl rfl)
theorem dX4_reading_8 : decode cX4_reading 8 = .ok (.invokestatic 94, 3) := dk_184 0 94 (dk_at dksX4_reading_0 8 rfl rfl)
theorem dX4_reading_11 : decode cX4_reading 11 = .ok (.ifCond .eq 35, 3) := dk_153 0 35 (dk_at dksX4_reading_0 11 rfl rfl)
theorem dX4_reading_14 : decode cX4_reading 14 = .ok (.iload_n 3, 1) := dk_29 (dk_at dksX4_reading_0 14 rfl rfl)
theorem dX4_reading_15 : decode cX4_reading 15 = .ok (.iconst 0, 1) := dk_3 (dk_at dksX4_reading_0 15 rfl rfl)
theorem dX4_reading_16 : decode cX4_reading 16 = .ok (.iconst 4, 1) := dk_7 (dk_at dksX4_reading_0 16 rfl rfl)
theorem dX4_reading_17 : decode cX4_reading 17 = .ok (.invokestatic 94, 3) := dk_184 0 94 (dk_at dksX4_reading_0 17 rfl rfl)
theorem dX4_reading_20 : decode cX4_reading 20 = .ok (.ifCond .eq 26, 3) := dk_153 0 26 (dk_at dksX4_reading_0 20 rfl rfl)
theorem dX4_reading_23 : decode cX4_reading 23 = .ok (.iload_n 2, 1) := dk_28 (dk_at dksX4_reading_0 23 rfl rfl)
theorem dX4_reading_24 : decode cX4_reading 24 = .ok (.aload_n 0, 1) := dk_42 (dk_at dksX4_reading_1 0 rfl rfl)
theorem dX4_reading_25 : decode cX4_reading 25 = .ok (.getfield 65, 3) := dk_180 0 65 (dk_at dksX4_reading_1 1 rfl rfl)
theorem dX4_reading_28 : decode cX4_reading 28 = .ok (.iload_n 1, 1) := dk_27 (dk_at dksX4_reading_1 4 rfl rfl)
theorem dX4_reading_29 : decode cX4_reading 29 = .ok (.iaload, 1) := dk_46 (dk_at dksX4_reading_1 5 rfl rfl)
theorem dX4_reading_30 : decode cX4_reading 30 = .ok (.aload_n 0, 1) := dk_42 (dk_at dksX4_reading_1 6 rfl rfl)
theorem dX4_reading_31 : decode cX4_reading 31 = .ok (.getfield 109, 3) := dk_180 0 109 (dk_at dksX4_reading_1 7 rfl rfl)
theorem dX4_reading_34 : decode cX4_reading 34 = .ok (.iconst 1, 1) := dk_4 (dk_at dksX4_reading_1 10 rfl rfl)
theorem dX4_reading_35 : decode cX4_reading 35 = .ok (.isub, 1) := dk_100 (dk_at dksX4_reading_1 11 rfl rfl)
theorem dX4_reading_36 : decode cX4_reading 36 = .ok (.invokestatic 94, 3) := dk_184 0 94 (dk_at dksX4_reading_1 12 rfl rfl)
theorem dX4_reading_39 : decode cX4_reading 39 = .ok (.ifCond .eq 7, 3) := dk_153 0 7 (dk_at dksX4_reading_1 15 rfl rfl)
theorem dX4_reading_42 : decode cX4_reading 42 = .ok (.iconst 1, 1) := dk_4 (dk_at dksX4_reading_1 18 rfl rfl)
theorem dX4_reading_43 : decode cX4_reading 43 = .ok (.goto 4, 3) := dk_167 0 4 (dk_at dksX4_reading_1 19 rfl rfl)
theorem dX4_reading_46 : decode cX4_reading 46 = .ok (.iconst 0, 1) := dk_3 (dk_at dksX4_reading_1 22 rfl rfl)
theorem dX4_reading_47 : decode cX4_reading 47 = .ok (.istore 4, 2) := dk_54 4 (dk_at dksX4_reading_2 0 rfl rfl)
theorem dX4_reading_49 : decode cX4_reading 49 = .ok (.aload_n 0, 1) := dk_42 (dk_at dksX4_reading_2 2 rfl rfl)
theorem dX4_reading_50 : decode cX4_reading 50 = .ok (.iload 4, 2) := dk_21 4 (dk_at dksX4_reading_2 3 rfl rfl)
theorem dX4_reading_52 : decode cX4_reading 52 = .ok (.ifCond .eq 7, 3) := dk_153 0 7 (dk_at dksX4_reading_2 5 rfl rfl)
theorem dX4_reading_55 : decode cX4_reading 55 = .ok (.iconst 0, 1) := dk_3 (dk_at dksX4_reading_2 8 rfl rfl)
theorem dX4_reading_56 : decode cX4_reading 56 = .ok (.goto 4, 3) := dk_167 0 4 (dk_at dksX4_reading_2 9 rfl rfl)
theorem dX4_reading_59 : decode cX4_reading 59 = .ok (.iconst 1, 1) := dk_4 (dk_at dksX4_reading_2 12 rfl rfl)
theorem dX4_reading_60 : decode cX4_reading 60 = .ok (.invokevirtual 106, 3) := dk_182 0 106 (dk_at dksX4_reading_2 13 rfl rfl)
theorem dX4_reading_63 : decode cX4_reading 63 = .ok (.ifCond .eq 7, 3) := dk_153 0 7 (dk_at dksX4_reading_2 16 rfl rfl)
theorem dX4_reading_66 : decode cX4_reading 66 = .ok (.iconst 0, 1) := dk_3 (dk_at dksX4_reading_2 19 rfl rfl)
theorem dX4_reading_67 : decode cX4_reading 67 = .ok (.goto 19, 3) := dk_167 0 19 (dk_at dksX4_reading_2 20 rfl rfl)
theorem dX4_reading_70 : decode cX4_reading 70 = .ok (.aload_n 0, 1) := dk_42 (dk_at dksX4_reading_2 23 rfl rfl)
theorem dX4_reading_71 : decode cX4_reading 71 = .ok (.getfield 68, 3) := dk_180 0 68 (dk_at dksX4_reading_3 0 rfl rfl)
theorem dX4_reading_74 : decode cX4_reading 74 = .ok (.sipush 3000, 3) := dk_17 11 184 (dk_at dksX4_reading_3 3 rfl rfl)
theorem dX4_reading_77 : decode cX4_reading 77 = .ok (.iload_n 1, 1) := dk_27 (dk_at dksX4_reading_3 6 rfl rfl)
theorem dX4_reading_78 : decode cX4_reading 78 = .ok (.imul, 1) := dk_104 (dk_at dksX4_reading_3 7 rfl rfl)
theorem dX4_reading_79 : decode cX4_reading 79 = .ok (.iconst 5, 1) := dk_8 (dk_at dksX4_reading_3 8 rfl rfl)
theorem dX4_reading_80 : decode cX4_reading 80 = .ok (.iload_n 2, 1) := dk_28 (dk_at dksX4_reading_3 9 rfl rfl)
theorem dX4_reading_81 : decode cX4_reading 81 = .ok (.imul, 1) := dk_104 (dk_at dksX4_reading_3 10 rfl rfl)
theorem dX4_reading_82 : decode cX4_reading 82 = .ok (.iadd, 1) := dk_96 (dk_at dksX4_reading_3 11 rfl rfl)
theorem dX4_reading_83 : decode cX4_reading 83 = .ok (.iload_n 3, 1) := dk_29 (dk_at dksX4_reading_3 12 rfl rfl)
theorem dX4_reading_84 : decode cX4_reading 84 = .ok (.iadd, 1) := dk_96 (dk_at dksX4_reading_3 13 rfl rfl)
theorem dX4_reading_85 : decode cX4_reading 85 = .ok (.iaload, 1) := dk_46 (dk_at dksX4_reading_3 14 rfl rfl)
theorem dX4_reading_86 : decode cX4_reading 86 = .ok (.ireturn, 1) := dk_172 (dk_at dksX4_reading_3 15 rfl rfl)
abbrev cX4_claimOf : ByteArray := prog_10_method_40_code
def yX4_claimOf : MethodName := ⟨RX4, "claimOf", "(I)I"⟩
def dkwX4_claimOf_1 : List UInt8 := [153, 0, 7, 3, 167, 0, 9, 42, 180, 0, 71, 27, 46, 172]
abbrev dktX4_claimOf_1 : List UInt8 := dkwX4_claimOf_1 ++ []
def dkwX4_claimOf_0 : List UInt8 := [42, 27, 3, 42, 180, 0, 177, 4, 100, 184, 0, 94, 153, 0, 7, 3, 167, 0, 4, 4, 182, 0, 106]
abbrev dktX4_claimOf_0 : List UInt8 := dkwX4_claimOf_0 ++ dktX4_claimOf_1
theorem dksX4_claimOf_0 : cX4_claimOf.data.toList.drop 0 = dktX4_claimOf_0 := by decide +kernel
theorem dksX4_claimOf_1 : cX4_claimOf.data.toList.drop 23 = dktX4_claimOf_1 := dk_seg dksX4_claimOf_0 23 rfl rfl
theorem dX4_claimOf_0 : decode cX4_claimOf 0 = .ok (.aload_n 0, 1) := dk_42 (dk_at dksX4_claimOf_0 0 rfl rfl)
theorem dX4_claimOf_1 : decode cX4_claimOf 1 = .ok (.iload_n 1, 1) := dk_27 (dk_at dksX4_claimOf_0 1 rfl rfl)
theorem dX4_claimOf_2 : decode cX4_claimOf 2 = .ok (.iconst 0, 1) := dk_3 (dk_at dksX4_claimOf_0 2 rfl rfl)
theorem dX4_claimOf_3 : decode cX4_claimOf 3 = .ok (.aload_n 0, 1) := dk_42 (dk_at dksX4_claimOf_0 3 rfl rfl)
theorem dX4_claimOf_4 : decode cX4_claimOf 4 = .ok (.getfield 177, 3) := dk_180 0 177 (dk_at dksX4_claimOf_0 4 rfl rfl)
theorem dX4_claimOf_7 : decode cX4_claimOf 7 = .ok (.iconst 1, 1) := dk_4 (dk_at dksX4_claimOf_0 7 rfl rfl)
theorem dX4_claimOf_8 : decode cX4_claimOf 8 = .ok (.isub, 1) := dk_100 (dk_at dksX4_claimOf_0 8 rfl rfl)
theorem dX4_claimOf_9 : decode cX4_claimOf 9 = .ok (.invokestatic 94, 3) := dk_184 0 94 (dk_at dksX4_claimOf_0 9 rfl rfl)
theorem dX4_claimOf_12 : decode cX4_claimOf 12 = .ok (.ifCond .eq 7, 3) := dk_153 0 7 (dk_at dksX4_claimOf_0 12 rfl rfl)
theorem dX4_claimOf_15 : decode cX4_claimOf 15 = .ok (.iconst 0, 1) := dk_3 (dk_at dksX4_claimOf_0 15 rfl rfl)
theorem dX4_claimOf_16 : decode cX4_claimOf 16 = .ok (.goto 4, 3) := dk_167 0 4 (dk_at dksX4_claimOf_0 16 rfl rfl)
theorem dX4_claimOf_19 : decode cX4_claimOf 19 = .ok (.iconst 1, 1) := dk_4 (dk_at dksX4_claimOf_0 19 rfl rfl)
theorem dX4_claimOf_20 : decode cX4_claimOf 20 = .ok (.invokevirtual 106, 3) := dk_182 0 106 (dk_at dksX4_claimOf_0 20 rfl rfl)
theorem dX4_claimOf_23 : decode cX4_claimOf 23 = .ok (.ifCond .eq 7, 3) := dk_153 0 7 (dk_at dksX4_claimOf_1 0 rfl rfl)
theorem dX4_claimOf_26 : decode cX4_claimOf 26 = .ok (.iconst 0, 1) := dk_3 (dk_at dksX4_claimOf_1 3 rfl rfl)
theorem dX4_claimOf_27 : decode cX4_claimOf 27 = .ok (.goto 9, 3) := dk_167 0 9 (dk_at dksX4_claimOf_1 4 rfl rfl)
theorem dX4_claimOf_30 : decode cX4_claimOf 30 = .ok (.aload_n 0, 1) := dk_42 (dk_at dksX4_claimOf_1 7 rfl rfl)
theorem dX4_claimOf_31 : decode cX4_claimOf 31 = .ok (.getfield 71, 3) := dk_180 0 71 (dk_at dksX4_claimOf_1 8 rfl rfl)
theorem dX4_claimOf_34 : decode cX4_claimOf 34 = .ok (.iload_n 1, 1) := dk_27 (dk_at dksX4_claimOf_1 11 rfl rfl)
theorem dX4_claimOf_35 : decode cX4_claimOf 35 = .ok (.iaload, 1) := dk_46 (dk_at dksX4_claimOf_1 12 rfl rfl)
theorem dX4_claimOf_36 : decode cX4_claimOf 36 = .ok (.ireturn, 1) := dk_172 (dk_at dksX4_claimOf_1 13 rfl rfl)
abbrev cX4_claimAnew : ByteArray := prog_10_method_41_code
def yX4_claimAnew : MethodName := ⟨RX4, "claimAnew", "(I)I"⟩
def dkwX4_claimAnew_0 : List UInt8 := [42, 27, 182, 0, 189, 172]
abbrev dktX4_claimAnew_0 : List UInt8 := dkwX4_claimAnew_0 ++ []
theorem dksX4_claimAnew_0 : cX4_claimAnew.data.toList.drop 0 = dktX4_claimAnew_0 := by decide +kernel
theorem dX4_claimAnew_0 : decode cX4_claimAnew 0 = .ok (.aload_n 0, 1) := dk_42 (dk_at dksX4_claimAnew_0 0 rfl rfl)
theorem dX4_claimAnew_1 : decode cX4_claimAnew 1 = .ok (.iload_n 1, 1) := dk_27 (dk_at dksX4_claimAnew_0 1 rfl rfl)
theorem dX4_claimAnew_2 : decode cX4_claimAnew 2 = .ok (.invokevirtual 189, 3) := dk_182 0 189 (dk_at dksX4_claimAnew_0 2 rfl rfl)
theorem dX4_claimAnew_5 : decode cX4_claimAnew 5 = .ok (.ireturn, 1) := dk_172 (dk_at dksX4_claimAnew_0 5 rfl rfl)
abbrev cX4_balance : ByteArray := prog_10_method_43_code
def yX4_balance : MethodName := ⟨RX4, "balance", "(II)J"⟩
def dkwX4_balance_5 : List UInt8 := [5, 160, 0, 8, 22, 5, 167, 0, 13, 33, 42, 27, 182, 0, 192, 101, 22, 5, 101, 173]
abbrev dktX4_balance_5 : List UInt8 := dkwX4_balance_5 ++ []
def dkwX4_balance_4 : List UInt8 := [55, 5, 28, 154, 0, 11, 42, 27, 182, 0, 192, 167, 0, 32, 28, 4, 160, 0, 7, 33, 167, 0, 23, 28]
abbrev dktX4_balance_4 : List UInt8 := dkwX4_balance_4 ++ dktX4_balance_5
def dkwX4_balance_3 : List UInt8 := [167, 0, 24, 27, 4, 160, 0, 10, 42, 180, 0, 168, 167, 0, 12, 42, 180, 0, 162, 42, 180, 0, 159, 97]
abbrev dktX4_balance_3 : List UInt8 := dkwX4_balance_3 ++ dktX4_balance_4
def dkwX4_balance_2 : List UInt8 := [42, 180, 0, 82, 167, 0, 7, 42, 180, 0, 87, 66, 27, 154, 0, 14, 20, 0, 157, 42, 180, 0, 168, 105]
abbrev dktX4_balance_2 : List UInt8 := dkwX4_balance_2 ++ dktX4_balance_3
def dkwX4_balance_1 : List UInt8 := [182, 0, 106, 153, 0, 5, 9, 173, 27, 154, 0, 10, 42, 180, 0, 76, 167, 0, 19, 27, 4, 160, 0, 10]
abbrev dktX4_balance_1 : List UInt8 := dkwX4_balance_1 ++ dktX4_balance_2
def dkwX4_balance_0 : List UInt8 := [42, 27, 3, 5, 184, 0, 94, 153, 0, 16, 28, 3, 6, 184, 0, 94, 153, 0, 7, 3, 167, 0, 4, 4]
abbrev dktX4_balance_0 : List UInt8 := dkwX4_balance_0 ++ dktX4_balance_1
theorem dksX4_balance_0 : cX4_balance.data.toList.drop 0 = dktX4_balance_0 := by decide +kernel
theorem dksX4_balance_1 : cX4_balance.data.toList.drop 24 = dktX4_balance_1 := dk_seg dksX4_balance_0 24 rfl rfl
theorem dksX4_balance_2 : cX4_balance.data.toList.drop 48 = dktX4_balance_2 := dk_seg dksX4_balance_1 24 rfl rfl
theorem dksX4_balance_3 : cX4_balance.data.toList.drop 72 = dktX4_balance_3 := dk_seg dksX4_balance_2 24 rfl rfl
theorem dksX4_balance_4 : cX4_balance.data.toList.drop 96 = dktX4_balance_4 := dk_seg dksX4_balance_3 24 rfl rfl
theorem dksX4_balance_5 : cX4_balance.data.toList.drop 120 = dktX4_balance_5 := dk_seg dksX4_balance_4 24 rfl rfl
theorem dX4_balance_0 : decode cX4_balance 0 = .ok (.aload_n 0, 1) := dk_42 (dk_at dksX4_balance_0 0 rfl rfl)
theorem dX4_balance_1 : decode cX4_balance 1 = .ok (.iload_n 1, 1) := dk_27 (dk_at dksX4_balance_0 1 rfl rfl)
theorem dX4_balance_2 : decode cX4_balance 2 = .ok (.iconst 0, 1) := dk_3 (dk_at dksX4_balance_0 2 rfl rfl)
theorem dX4_balance_3 : decode cX4_balance 3 = .ok (.iconst 2, 1) := dk_5 (dk_at dksX4_balance_0 3 rfl rfl)
theorem dX4_balance_4 : decode cX4_balance 4 = .ok (.invokestatic 94, 3) := dk_184 0 94 (dk_at dksX4_balance_0 4 rfl rfl)
theorem dX4_balance_7 : decode cX4_balance 7 = .ok (.ifCond .eq 16, 3) := dk_153 0 16 (dk_at dksX4_balance_0 7 rfl rfl)
theorem dX4_balance_10 : decode cX4_balance 10 = .ok (.iload_n 2, 1) := dk_28 (dk_at dksX4_balance_0 10 rfl rfl)
theorem dX4_balance_11 : decode cX4_balance 11 = .ok (.iconst 0, 1) := dk_3 (dk_at dksX4_balance_0 11 rfl rfl)
theorem dX4_balance_12 : decode cX4_balance 12 = .ok (.iconst 3, 1) := dk_6 (dk_at dksX4_balance_0 12 rfl rfl)
theorem dX4_balance_13 : decode cX4_balance 13 = .ok (.invokestatic 94, 3) := dk_184 0 94 (dk_at dksX4_balance_0 13 rfl rfl)
theorem dX4_balance_16 : decode cX4_balance 16 = .ok (.ifCond .eq 7, 3) := dk_153 0 7 (dk_at dksX4_balance_0 16 rfl rfl)
theorem dX4_balance_19 : decode cX4_balance 19 = .ok (.iconst 0, 1) := dk_3 (dk_at dksX4_balance_0 19 rfl rfl)
theorem dX4_balance_20 : decode cX4_balance 20 = .ok (.goto 4, 3) := dk_167 0 4 (dk_at dksX4_balance_0 20 rfl rfl)
theorem dX4_balance_23 : decode cX4_balance 23 = .ok (.iconst 1, 1) := dk_4 (dk_at dksX4_balance_0 23 rfl rfl)
theorem dX4_balance_24 : decode cX4_balance 24 = .ok (.invokevirtual 106, 3) := dk_182 0 106 (dk_at dksX4_balance_1 0 rfl rfl)
theorem dX4_balance_27 : decode cX4_balance 27 = .ok (.ifCond .eq 5, 3) := dk_153 0 5 (dk_at dksX4_balance_1 3 rfl rfl)
theorem dX4_balance_30 : decode cX4_balance 30 = .ok (.lconst 0, 1) := dk_9 (dk_at dksX4_balance_1 6 rfl rfl)
theorem dX4_balance_31 : decode cX4_balance 31 = .ok (.lreturn, 1) := dk_173 (dk_at dksX4_balance_1 7 rfl rfl)
theorem dX4_balance_32 : decode cX4_balance 32 = .ok (.iload_n 1, 1) := dk_27 (dk_at dksX4_balance_1 8 rfl rfl)
theorem dX4_balance_33 : decode cX4_balance 33 = .ok (.ifCond .ne 10, 3) := dk_154 0 10 (dk_at dksX4_balance_1 9 rfl rfl)
theorem dX4_balance_36 : decode cX4_balance 36 = .ok (.aload_n 0, 1) := dk_42 (dk_at dksX4_balance_1 12 rfl rfl)
theorem dX4_balance_37 : decode cX4_balance 37 = .ok (.getfield 76, 3) := dk_180 0 76 (dk_at dksX4_balance_1 13 rfl rfl)
theorem dX4_balance_40 : decode cX4_balance 40 = .ok (.goto 19, 3) := dk_167 0 19 (dk_at dksX4_balance_1 16 rfl rfl)
theorem dX4_balance_43 : decode cX4_balance 43 = .ok (.iload_n 1, 1) := dk_27 (dk_at dksX4_balance_1 19 rfl rfl)
theorem dX4_balance_44 : decode cX4_balance 44 = .ok (.iconst 1, 1) := dk_4 (dk_at dksX4_balance_1 20 rfl rfl)
theorem dX4_balance_45 : decode cX4_balance 45 = .ok (.if_icmp .ne 10, 3) := dk_160 0 10 (dk_at dksX4_balance_1 21 rfl rfl)
theorem dX4_balance_48 : decode cX4_balance 48 = .ok (.aload_n 0, 1) := dk_42 (dk_at dksX4_balance_2 0 rfl rfl)
theorem dX4_balance_49 : decode cX4_balance 49 = .ok (.getfield 82, 3) := dk_180 0 82 (dk_at dksX4_balance_2 1 rfl rfl)
theorem dX4_balance_52 : decode cX4_balance 52 = .ok (.goto 7, 3) := dk_167 0 7 (dk_at dksX4_balance_2 4 rfl rfl)
theorem dX4_balance_55 : decode cX4_balance 55 = .ok (.aload_n 0, 1) := dk_42 (dk_at dksX4_balance_2 7 rfl rfl)
theorem dX4_balance_56 : decode cX4_balance 56 = .ok (.getfield 87, 3) := dk_180 0 87 (dk_at dksX4_balance_2 8 rfl rfl)
theorem dX4_balance_59 : decode cX4_balance 59 = .ok (.lstore_n 3, 1) := dk_66 (dk_at dksX4_balance_2 11 rfl rfl)
theorem dX4_balance_60 : decode cX4_balance 60 = .ok (.iload_n 1, 1) := dk_27 (dk_at dksX4_balance_2 12 rfl rfl)
theorem dX4_balance_61 : decode cX4_balance 61 = .ok (.ifCond .ne 14, 3) := dk_154 0 14 (dk_at dksX4_balance_2 13 rfl rfl)
theorem dX4_balance_64 : decode cX4_balance 64 = .ok (.ldc2_w 157, 3) := dk_20 0 157 (dk_at dksX4_balance_2 16 rfl rfl)
theorem dX4_balance_67 : decode cX4_balance 67 = .ok (.aload_n 0, 1) := dk_42 (dk_at dksX4_balance_2 19 rfl rfl)
theorem dX4_balance_68 : decode cX4_balance 68 = .ok (.getfield 168, 3) := dk_180 0 168 (dk_at dksX4_balance_2 20 rfl rfl)
theorem dX4_balance_71 : decode cX4_balance 71 = .ok (.lmul, 1) := dk_105 (dk_at dksX4_balance_2 23 rfl rfl)
theorem dX4_balance_72 : decode cX4_balance 72 = .ok (.goto 24, 3) := dk_167 0 24 (dk_at dksX4_balance_3 0 rfl rfl)
theorem dX4_balance_75 : decode cX4_balance 75 = .ok (.iload_n 1, 1) := dk_27 (dk_at dksX4_balance_3 3 rfl rfl)
theorem dX4_balance_76 : decode cX4_balance 76 = .ok (.iconst 1, 1) := dk_4 (dk_at dksX4_balance_3 4 rfl rfl)
theorem dX4_balance_77 : decode cX4_balance 77 = .ok (.if_icmp .ne 10, 3) := dk_160 0 10 (dk_at dksX4_balance_3 5 rfl rfl)
theorem dX4_balance_80 : decode cX4_balance 80 = .ok (.aload_n 0, 1) := dk_42 (dk_at dksX4_balance_3 8 rfl rfl)
theorem dX4_balance_81 : decode cX4_balance 81 = .ok (.getfield 168, 3) := dk_180 0 168 (dk_at dksX4_balance_3 9 rfl rfl)
theorem dX4_balance_84 : decode cX4_balance 84 = .ok (.goto 12, 3) := dk_167 0 12 (dk_at dksX4_balance_3 12 rfl rfl)
theorem dX4_balance_87 : decode cX4_balance 87 = .ok (.aload_n 0, 1) := dk_42 (dk_at dksX4_balance_3 15 rfl rfl)
theorem dX4_balance_88 : decode cX4_balance 88 = .ok (.getfield 162, 3) := dk_180 0 162 (dk_at dksX4_balance_3 16 rfl rfl)
theorem dX4_balance_91 : decode cX4_balance 91 = .ok (.aload_n 0, 1) := dk_42 (dk_at dksX4_balance_3 19 rfl rfl)
theorem dX4_balance_92 : decode cX4_balance 92 = .ok (.getfield 159, 3) := dk_180 0 159 (dk_at dksX4_balance_3 20 rfl rfl)
theorem dX4_balance_95 : decode cX4_balance 95 = .ok (.ladd, 1) := dk_97 (dk_at dksX4_balance_3 23 rfl rfl)
theorem dX4_balance_96 : decode cX4_balance 96 = .ok (.lstore 5, 2) := dk_55 5 (dk_at dksX4_balance_4 0 rfl rfl)
theorem dX4_balance_98 : decode cX4_balance 98 = .ok (.iload_n 2, 1) := dk_28 (dk_at dksX4_balance_4 2 rfl rfl)
theorem dX4_balance_99 : decode cX4_balance 99 = .ok (.ifCond .ne 11, 3) := dk_154 0 11 (dk_at dksX4_balance_4 3 rfl rfl)
theorem dX4_balance_102 : decode cX4_balance 102 = .ok (.aload_n 0, 1) := dk_42 (dk_at dksX4_balance_4 6 rfl rfl)
theorem dX4_balance_103 : decode cX4_balance 103 = .ok (.iload_n 1, 1) := dk_27 (dk_at dksX4_balance_4 7 rfl rfl)
theorem dX4_balance_104 : decode cX4_balance 104 = .ok (.invokevirtual 192, 3) := dk_182 0 192 (dk_at dksX4_balance_4 8 rfl rfl)
theorem dX4_balance_107 : decode cX4_balance 107 = .ok (.goto 32, 3) := dk_167 0 32 (dk_at dksX4_balance_4 11 rfl rfl)
theorem dX4_balance_110 : decode cX4_balance 110 = .ok (.iload_n 2, 1) := dk_28 (dk_at dksX4_balance_4 14 rfl rfl)
theorem dX4_balance_111 : decode cX4_balance 111 = .ok (.iconst 1, 1) := dk_4 (dk_at dksX4_balance_4 15 rfl rfl)
theorem dX4_balance_112 : decode cX4_balance 112 = .ok (.if_icmp .ne 7, 3) := dk_160 0 7 (dk_at dksX4_balance_4 16 rfl rfl)
theorem dX4_balance_115 : decode cX4_balance 115 = .ok (.lload_n 3, 1) := dk_33 (dk_at dksX4_balance_4 19 rfl rfl)
theorem dX4_balance_116 : decode cX4_balance 116 = .ok (.goto 23, 3) := dk_167 0 23 (dk_at dksX4_balance_4 20 rfl rfl)
theorem dX4_balance_119 : decode cX4_balance 119 = .ok (.iload_n 2, 1) := dk_28 (dk_at dksX4_balance_4 23 rfl rfl)
theorem dX4_balance_120 : decode cX4_balance 120 = .ok (.iconst 2, 1) := dk_5 (dk_at dksX4_balance_5 0 rfl rfl)
theorem dX4_balance_121 : decode cX4_balance 121 = .ok (.if_icmp .ne 8, 3) := dk_160 0 8 (dk_at dksX4_balance_5 1 rfl rfl)
theorem dX4_balance_124 : decode cX4_balance 124 = .ok (.lload 5, 2) := dk_22 5 (dk_at dksX4_balance_5 4 rfl rfl)
theorem dX4_balance_126 : decode cX4_balance 126 = .ok (.goto 13, 3) := dk_167 0 13 (dk_at dksX4_balance_5 6 rfl rfl)
theorem dX4_balance_129 : decode cX4_balance 129 = .ok (.lload_n 3, 1) := dk_33 (dk_at dksX4_balance_5 9 rfl rfl)
theorem dX4_balance_130 : decode cX4_balance 130 = .ok (.aload_n 0, 1) := dk_42 (dk_at dksX4_balance_5 10 rfl rfl)
theorem dX4_balance_131 : decode cX4_balance 131 = .ok (.iload_n 1, 1) := dk_27 (dk_at dksX4_balance_5 11 rfl rfl)
theorem dX4_balance_132 : decode cX4_balance 132 = .ok (.invokevirtual 192, 3) := dk_182 0 192 (dk_at dksX4_balance_5 12 rfl rfl)
theorem dX4_balance_135 : decode cX4_balance 135 = .ok (.lsub, 1) := dk_101 (dk_at dksX4_balance_5 15 rfl rfl)
theorem dX4_balance_136 : decode cX4_balance 136 = .ok (.lload 5, 2) := dk_22 5 (dk_at dksX4_balance_5 16 rfl rfl)
theorem dX4_balance_138 : decode cX4_balance 138 = .ok (.lsub, 1) := dk_101 (dk_at dksX4_balance_5 18 rfl rfl)
theorem dX4_balance_139 : decode cX4_balance 139 = .ok (.lreturn, 1) := dk_173 (dk_at dksX4_balance_5 19 rfl rfl)
abbrev cX4_inLand : ByteArray := prog_10_method_42_code
def yX4_inLand : MethodName := ⟨RX4, "inLand", "(I)J"⟩
def dkwX4_inLand_5 : List UInt8 := [132, 4, 1, 167, 255, 207, 32, 173]
abbrev dktX4_inLand_5 : List UInt8 := dkwX4_inLand_5 ++ []
def dkwX4_inLand_4 : List UInt8 := [167, 0, 20, 27, 4, 160, 0, 14, 42, 180, 0, 13, 21, 4, 46, 133, 167, 0, 4, 9, 97, 65]
abbrev dktX4_inLand_4 : List UInt8 := dkwX4_inLand_4 ++ dktX4_inLand_5
def dkwX4_inLand_3 : List UInt8 := [21, 4, 16, 25, 162, 0, 48, 32, 27, 154, 0, 18, 17, 3, 232, 42, 180, 0, 13, 21, 4, 46, 104, 133]
abbrev dktX4_inLand_3 : List UInt8 := dkwX4_inLand_3 ++ dktX4_inLand_4
def dkwX4_inLand_2 : List UInt8 := [133, 167, 0, 11, 42, 180, 0, 37, 21, 4, 46, 133, 97, 65, 132, 4, 1, 167, 255, 196, 3, 54, 4]
abbrev dktX4_inLand_2 : List UInt8 := dkwX4_inLand_2 ++ dktX4_inLand_3
def dkwX4_inLand_1 : List UInt8 := [133, 167, 0, 35, 27, 4, 160, 0, 22, 42, 180, 0, 28, 21, 4, 46, 42, 180, 0, 31, 21, 4, 46, 96]
abbrev dktX4_inLand_1 : List UInt8 := dkwX4_inLand_1 ++ dktX4_inLand_2
def dkwX4_inLand_0 : List UInt8 := [9, 65, 3, 54, 4, 21, 4, 16, 125, 162, 0, 59, 32, 27, 154, 0, 14, 42, 180, 0, 34, 21, 4, 46]
abbrev dktX4_inLand_0 : List UInt8 := dkwX4_inLand_0 ++ dktX4_inLand_1
theorem dksX4_inLand_0 : cX4_inLand.data.toList.drop 0 = dktX4_inLand_0 := by decide +kernel
theorem dksX4_inLand_1 : cX4_inLand.data.toList.drop 24 = dktX4_inLand_1 := dk_seg dksX4_inLand_0 24 rfl rfl
theorem dksX4_inLand_2 : cX4_inLand.data.toList.drop 48 = dktX4_inLand_2 := dk_seg dksX4_inLand_1 24 rfl rfl
theorem dksX4_inLand_3 : cX4_inLand.data.toList.drop 71 = dktX4_inLand_3 := dk_seg dksX4_inLand_2 23 rfl rfl
theorem dksX4_inLand_4 : cX4_inLand.data.toList.drop 95 = dktX4_inLand_4 := dk_seg dksX4_inLand_3 24 rfl rfl
theorem dksX4_inLand_5 : cX4_inLand.data.toList.drop 117 = dktX4_inLand_5 := dk_seg dksX4_inLand_4 22 rfl rfl
theorem dX4_inLand_0 : decode cX4_inLand 0 = .ok (.lconst 0, 1) := dk_9 (dk_at dksX4_inLand_0 0 rfl rfl)
theorem dX4_inLand_1 : decode cX4_inLand 1 = .ok (.lstore_n 2, 1) := dk_65 (dk_at dksX4_inLand_0 1 rfl rfl)
theorem dX4_inLand_2 : decode cX4_inLand 2 = .ok (.iconst 0, 1) := dk_3 (dk_at dksX4_inLand_0 2 rfl rfl)
theorem dX4_inLand_3 : decode cX4_inLand 3 = .ok (.istore 4, 2) := dk_54 4 (dk_at dksX4_inLand_0 3 rfl rfl)
theorem dX4_inLand_5 : decode cX4_inLand 5 = .ok (.iload 4, 2) := dk_21 4 (dk_at dksX4_inLand_0 5 rfl rfl)
theorem dX4_inLand_7 : decode cX4_inLand 7 = .ok (.bipush 125, 2) := dk_16 125 (dk_at dksX4_inLand_0 7 rfl rfl)
theorem dX4_inLand_9 : decode cX4_inLand 9 = .ok (.if_icmp .ge 59, 3) := dk_162 0 59 (dk_at dksX4_inLand_0 9 rfl rfl)
theorem dX4_inLand_12 : decode cX4_inLand 12 = .ok (.lload_n 2, 1) := dk_32 (dk_at dksX4_inLand_0 12 rfl rfl)
theorem dX4_inLand_13 : decode cX4_inLand 13 = .ok (.iload_n 1, 1) := dk_27 (dk_at dksX4_inLand_0 13 rfl rfl)
theorem dX4_inLand_14 : decode cX4_inLand 14 = .ok (.ifCond .ne 14, 3) := dk_154 0 14 (dk_at dksX4_inLand_0 14 rfl rfl)
theorem dX4_inLand_17 : decode cX4_inLand 17 = .ok (.aload_n 0, 1) := dk_42 (dk_at dksX4_inLand_0 17 rfl rfl)
theorem dX4_inLand_18 : decode cX4_inLand 18 = .ok (.getfield 34, 3) := dk_180 0 34 (dk_at dksX4_inLand_0 18 rfl rfl)
theorem dX4_inLand_21 : decode cX4_inLand 21 = .ok (.iload 4, 2) := dk_21 4 (dk_at dksX4_inLand_0 21 rfl rfl)
theorem dX4_inLand_23 : decode cX4_inLand 23 = .ok (.iaload, 1) := dk_46 (dk_at dksX4_inLand_0 23 rfl rfl)
theorem dX4_inLand_24 : decode cX4_inLand 24 = .ok (.i2l, 1) := dk_133 (dk_at dksX4_inLand_1 0 rfl rfl)
theorem dX4_inLand_25 : decode cX4_inLand 25 = .ok (.goto 35, 3) := dk_167 0 35 (dk_at dksX4_inLand_1 1 rfl rfl)
theorem dX4_inLand_28 : decode cX4_inLand 28 = .ok (.iload_n 1, 1) := dk_27 (dk_at dksX4_inLand_1 4 rfl rfl)
theorem dX4_inLand_29 : decode cX4_inLand 29 = .ok (.iconst 1, 1) := dk_4 (dk_at dksX4_inLand_1 5 rfl rfl)
theorem dX4_inLand_30 : decode cX4_inLand 30 = .ok (.if_icmp .ne 22, 3) := dk_160 0 22 (dk_at dksX4_inLand_1 6 rfl rfl)
theorem dX4_inLand_33 : decode cX4_inLand 33 = .ok (.aload_n 0, 1) := dk_42 (dk_at dksX4_inLand_1 9 rfl rfl)
theorem dX4_inLand_34 : decode cX4_inLand 34 = .ok (.getfield 28, 3) := dk_180 0 28 (dk_at dksX4_inLand_1 10 rfl rfl)
theorem dX4_inLand_37 : decode cX4_inLand 37 = .ok (.iload 4, 2) := dk_21 4 (dk_at dksX4_inLand_1 13 rfl rfl)
theorem dX4_inLand_39 : decode cX4_inLand 39 = .ok (.iaload, 1) := dk_46 (dk_at dksX4_inLand_1 15 rfl rfl)
theorem dX4_inLand_40 : decode cX4_inLand 40 = .ok (.aload_n 0, 1) := dk_42 (dk_at dksX4_inLand_1 16 rfl rfl)
theorem dX4_inLand_41 : decode cX4_inLand 41 = .ok (.getfield 31, 3) := dk_180 0 31 (dk_at dksX4_inLand_1 17 rfl rfl)
theorem dX4_inLand_44 : decode cX4_inLand 44 = .ok (.iload 4, 2) := dk_21 4 (dk_at dksX4_inLand_1 20 rfl rfl)
theorem dX4_inLand_46 : decode cX4_inLand 46 = .ok (.iaload, 1) := dk_46 (dk_at dksX4_inLand_1 22 rfl rfl)
theorem dX4_inLand_47 : decode cX4_inLand 47 = .ok (.iadd, 1) := dk_96 (dk_at dksX4_inLand_1 23 rfl rfl)
theorem dX4_inLand_48 : decode cX4_inLand 48 = .ok (.i2l, 1) := dk_133 (dk_at dksX4_inLand_2 0 rfl rfl)
theorem dX4_inLand_49 : decode cX4_inLand 49 = .ok (.goto 11, 3) := dk_167 0 11 (dk_at dksX4_inLand_2 1 rfl rfl)
theorem dX4_inLand_52 : decode cX4_inLand 52 = .ok (.aload_n 0, 1) := dk_42 (dk_at dksX4_inLand_2 4 rfl rfl)
theorem dX4_inLand_53 : decode cX4_inLand 53 = .ok (.getfield 37, 3) := dk_180 0 37 (dk_at dksX4_inLand_2 5 rfl rfl)
theorem dX4_inLand_56 : decode cX4_inLand 56 = .ok (.iload 4, 2) := dk_21 4 (dk_at dksX4_inLand_2 8 rfl rfl)
theorem dX4_inLand_58 : decode cX4_inLand 58 = .ok (.iaload, 1) := dk_46 (dk_at dksX4_inLand_2 10 rfl rfl)
theorem dX4_inLand_59 : decode cX4_inLand 59 = .ok (.i2l, 1) := dk_133 (dk_at dksX4_inLand_2 11 rfl rfl)
theorem dX4_inLand_60 : decode cX4_inLand 60 = .ok (.ladd, 1) := dk_97 (dk_at dksX4_inLand_2 12 rfl rfl)
theorem dX4_inLand_61 : decode cX4_inLand 61 = .ok (.lstore_n 2, 1) := dk_65 (dk_at dksX4_inLand_2 13 rfl rfl)
theorem dX4_inLand_62 : decode cX4_inLand 62 = .ok (.iinc 4 1, 3) := dk_132 4 1 (dk_at dksX4_inLand_2 14 rfl rfl)
theorem dX4_inLand_65 : decode cX4_inLand 65 = .ok (.goto (-60), 3) := dk_167 255 196 (dk_at dksX4_inLand_2 17 rfl rfl)
theorem dX4_inLand_68 : decode cX4_inLand 68 = .ok (.iconst 0, 1) := dk_3 (dk_at dksX4_inLand_2 20 rfl rfl)
theorem dX4_inLand_69 : decode cX4_inLand 69 = .ok (.istore 4, 2) := dk_54 4 (dk_at dksX4_inLand_2 21 rfl rfl)
theorem dX4_inLand_71 : decode cX4_inLand 71 = .ok (.iload 4, 2) := dk_21 4 (dk_at dksX4_inLand_3 0 rfl rfl)
theorem dX4_inLand_73 : decode cX4_inLand 73 = .ok (.bipush 25, 2) := dk_16 25 (dk_at dksX4_inLand_3 2 rfl rfl)
theorem dX4_inLand_75 : decode cX4_inLand 75 = .ok (.if_icmp .ge 48, 3) := dk_162 0 48 (dk_at dksX4_inLand_3 4 rfl rfl)
theorem dX4_inLand_78 : decode cX4_inLand 78 = .ok (.lload_n 2, 1) := dk_32 (dk_at dksX4_inLand_3 7 rfl rfl)
theorem dX4_inLand_79 : decode cX4_inLand 79 = .ok (.iload_n 1, 1) := dk_27 (dk_at dksX4_inLand_3 8 rfl rfl)
theorem dX4_inLand_80 : decode cX4_inLand 80 = .ok (.ifCond .ne 18, 3) := dk_154 0 18 (dk_at dksX4_inLand_3 9 rfl rfl)
theorem dX4_inLand_83 : decode cX4_inLand 83 = .ok (.sipush 1000, 3) := dk_17 3 232 (dk_at dksX4_inLand_3 12 rfl rfl)
theorem dX4_inLand_86 : decode cX4_inLand 86 = .ok (.aload_n 0, 1) := dk_42 (dk_at dksX4_inLand_3 15 rfl rfl)
theorem dX4_inLand_87 : decode cX4_inLand 87 = .ok (.getfield 13, 3) := dk_180 0 13 (dk_at dksX4_inLand_3 16 rfl rfl)
theorem dX4_inLand_90 : decode cX4_inLand 90 = .ok (.iload 4, 2) := dk_21 4 (dk_at dksX4_inLand_3 19 rfl rfl)
theorem dX4_inLand_92 : decode cX4_inLand 92 = .ok (.iaload, 1) := dk_46 (dk_at dksX4_inLand_3 21 rfl rfl)
theorem dX4_inLand_93 : decode cX4_inLand 93 = .ok (.imul, 1) := dk_104 (dk_at dksX4_inLand_3 22 rfl rfl)
theorem dX4_inLand_94 : decode cX4_inLand 94 = .ok (.i2l, 1) := dk_133 (dk_at dksX4_inLand_3 23 rfl rfl)
theorem dX4_inLand_95 : decode cX4_inLand 95 = .ok (.goto 20, 3) := dk_167 0 20 (dk_at dksX4_inLand_4 0 rfl rfl)
theorem dX4_inLand_98 : decode cX4_inLand 98 = .ok (.iload_n 1, 1) := dk_27 (dk_at dksX4_inLand_4 3 rfl rfl)
theorem dX4_inLand_99 : decode cX4_inLand 99 = .ok (.iconst 1, 1) := dk_4 (dk_at dksX4_inLand_4 4 rfl rfl)
theorem dX4_inLand_100 : decode cX4_inLand 100 = .ok (.if_icmp .ne 14, 3) := dk_160 0 14 (dk_at dksX4_inLand_4 5 rfl rfl)
theorem dX4_inLand_103 : decode cX4_inLand 103 = .ok (.aload_n 0, 1) := dk_42 (dk_at dksX4_inLand_4 8 rfl rfl)
theorem dX4_inLand_104 : decode cX4_inLand 104 = .ok (.getfield 13, 3) := dk_180 0 13 (dk_at dksX4_inLand_4 9 rfl rfl)
theorem dX4_inLand_107 : decode cX4_inLand 107 = .ok (.iload 4, 2) := dk_21 4 (dk_at dksX4_inLand_4 12 rfl rfl)
theorem dX4_inLand_109 : decode cX4_inLand 109 = .ok (.iaload, 1) := dk_46 (dk_at dksX4_inLand_4 14 rfl rfl)
theorem dX4_inLand_110 : decode cX4_inLand 110 = .ok (.i2l, 1) := dk_133 (dk_at dksX4_inLand_4 15 rfl rfl)
theorem dX4_inLand_111 : decode cX4_inLand 111 = .ok (.goto 4, 3) := dk_167 0 4 (dk_at dksX4_inLand_4 16 rfl rfl)
theorem dX4_inLand_114 : decode cX4_inLand 114 = .ok (.lconst 0, 1) := dk_9 (dk_at dksX4_inLand_4 19 rfl rfl)
theorem dX4_inLand_115 : decode cX4_inLand 115 = .ok (.ladd, 1) := dk_97 (dk_at dksX4_inLand_4 20 rfl rfl)
theorem dX4_inLand_116 : decode cX4_inLand 116 = .ok (.lstore_n 2, 1) := dk_65 (dk_at dksX4_inLand_4 21 rfl rfl)
theorem dX4_inLand_117 : decode cX4_inLand 117 = .ok (.iinc 4 1, 3) := dk_132 4 1 (dk_at dksX4_inLand_5 0 rfl rfl)
theorem dX4_inLand_120 : decode cX4_inLand 120 = .ok (.goto (-49), 3) := dk_167 255 207 (dk_at dksX4_inLand_5 3 rfl rfl)
theorem dX4_inLand_123 : decode cX4_inLand 123 = .ok (.lload_n 2, 1) := dk_32 (dk_at dksX4_inLand_5 6 rfl rfl)
theorem dX4_inLand_124 : decode cX4_inLand 124 = .ok (.lreturn, 1) := dk_173 (dk_at dksX4_inLand_5 7 rfl rfl)
abbrev cX4_air : ByteArray := prog_10_method_44_code
def yX4_air : MethodName := ⟨RX4, "air", "(I)J"⟩
def dkwX4_air_1 : List UInt8 := [167, 0, 18, 27, 154, 0, 10, 42, 180, 0, 162, 167, 0, 7, 42, 180, 0, 159, 173]
abbrev dktX4_air_1 : List UInt8 := dkwX4_air_1 ++ []
def dkwX4_air_0 : List UInt8 := [42, 27, 3, 4, 184, 0, 94, 153, 0, 7, 3, 167, 0, 4, 4, 182, 0, 106, 153, 0, 7, 9]
abbrev dktX4_air_0 : List UInt8 := dkwX4_air_0 ++ dktX4_air_1
theorem dksX4_air_0 : cX4_air.data.toList.drop 0 = dktX4_air_0 := by decide +kernel
theorem dksX4_air_1 : cX4_air.data.toList.drop 22 = dktX4_air_1 := dk_seg dksX4_air_0 22 rfl rfl
theorem dX4_air_0 : decode cX4_air 0 = .ok (.aload_n 0, 1) := dk_42 (dk_at dksX4_air_0 0 rfl rfl)
theorem dX4_air_1 : decode cX4_air 1 = .ok (.iload_n 1, 1) := dk_27 (dk_at dksX4_air_0 1 rfl rfl)
theorem dX4_air_2 : decode cX4_air 2 = .ok (.iconst 0, 1) := dk_3 (dk_at dksX4_air_0 2 rfl rfl)
theorem dX4_air_3 : decode cX4_air 3 = .ok (.iconst 1, 1) := dk_4 (dk_at dksX4_air_0 3 rfl rfl)
theorem dX4_air_4 : decode cX4_air 4 = .ok (.invokestatic 94, 3) := dk_184 0 94 (dk_at dksX4_air_0 4 rfl rfl)
theorem dX4_air_7 : decode cX4_air 7 = .ok (.ifCond .eq 7, 3) := dk_153 0 7 (dk_at dksX4_air_0 7 rfl rfl)
theorem dX4_air_10 : decode cX4_air 10 = .ok (.iconst 0, 1) := dk_3 (dk_at dksX4_air_0 10 rfl rfl)
theorem dX4_air_11 : decode cX4_air 11 = .ok (.goto 4, 3) := dk_167 0 4 (dk_at dksX4_air_0 11 rfl rfl)
theorem dX4_air_14 : decode cX4_air 14 = .ok (.iconst 1, 1) := dk_4 (dk_at dksX4_air_0 14 rfl rfl)
theorem dX4_air_15 : decode cX4_air 15 = .ok (.invokevirtual 106, 3) := dk_182 0 106 (dk_at dksX4_air_0 15 rfl rfl)
theorem dX4_air_18 : decode cX4_air 18 = .ok (.ifCond .eq 7, 3) := dk_153 0 7 (dk_at dksX4_air_0 18 rfl rfl)
theorem dX4_air_21 : decode cX4_air 21 = .ok (.lconst 0, 1) := dk_9 (dk_at dksX4_air_0 21 rfl rfl)
theorem dX4_air_22 : decode cX4_air 22 = .ok (.goto 18, 3) := dk_167 0 18 (dk_at dksX4_air_1 0 rfl rfl)
theorem dX4_air_25 : decode cX4_air 25 = .ok (.iload_n 1, 1) := dk_27 (dk_at dksX4_air_1 3 rfl rfl)
theorem dX4_air_26 : decode cX4_air 26 = .ok (.ifCond .ne 10, 3) := dk_154 0 10 (dk_at dksX4_air_1 4 rfl rfl)
theorem dX4_air_29 : decode cX4_air 29 = .ok (.aload_n 0, 1) := dk_42 (dk_at dksX4_air_1 7 rfl rfl)
theorem dX4_air_30 : decode cX4_air 30 = .ok (.getfield 162, 3) := dk_180 0 162 (dk_at dksX4_air_1 8 rfl rfl)
theorem dX4_air_33 : decode cX4_air 33 = .ok (.goto 7, 3) := dk_167 0 7 (dk_at dksX4_air_1 11 rfl rfl)
theorem dX4_air_36 : decode cX4_air 36 = .ok (.aload_n 0, 1) := dk_42 (dk_at dksX4_air_1 14 rfl rfl)
theorem dX4_air_37 : decode cX4_air 37 = .ok (.getfield 159, 3) := dk_180 0 159 (dk_at dksX4_air_1 15 rfl rfl)
theorem dX4_air_40 : decode cX4_air 40 = .ok (.lreturn, 1) := dk_173 (dk_at dksX4_air_1 18 rfl rfl)
theorem q41 : (Jvm.Cond.initialized "WakegroundModel") ∈ lw_all := lw_g (lw_at lw_m1 7 rfl) rfl
theorem q718 : (Jvm.Cond.selects "WakegroundModel" ({ cls := "java/lang/Object", name := "getClass", desc := "()Ljava/lang/Class;" } : Jvm.MethodName) ({ cls := "java/lang/Object", name := "getClass", desc := "()Ljava/lang/Class;" } : Jvm.MethodName)) ∈ lw_all := lw_g (lw_at lw_m3 204 rfl) rfl
theorem q840 : (Jvm.Cond.selects "WakegroundModel" ({ cls := "java/lang/Object", name := "equals", desc := "(Ljava/lang/Object;)Z" } : Jvm.MethodName) ({ cls := "java/lang/Object", name := "equals", desc := "(Ljava/lang/Object;)Z" } : Jvm.MethodName)) ∈ lw_all := lw_g (lw_at lw_m4 86 rfl) rfl
theorem q928 : (Jvm.Cond.instantiable "WakegroundModel" (32 : Nat)) ∈ lw_all := lw_g (lw_at lw_m4 174 rfl) rfl
theorem q930 : (Jvm.Cond.instanceMethod ({ cls := "WakegroundModel", name := "<init>", desc := "()V" } : Jvm.MethodName)) ∈ lw_all := lw_g (lw_at lw_m4 176 rfl) rfl
theorem q931 : (Jvm.Cond.code ({ cls := "WakegroundModel", name := "<init>", desc := "()V" } : Jvm.MethodName) prog_10_method_1_code (4 : Nat) (Option.none : Option Jvm.ClassFile.FieldType)) ∈ lw_all := lw_g (lw_at lw_m4 177 rfl) rfl
theorem q932 : (Jvm.Cond.methodLink "WakegroundModel" (1 : Nat) ({ cls := "java/lang/Object", name := "<init>", desc := "()V" } : Jvm.MethodName)) ∈ lw_all := lw_g (lw_at lw_m4 178 rfl) rfl
theorem q933 : (Jvm.Cond.constantLong "WakegroundModel" (74 : Nat) (-125000 : Int64)) ∈ lw_all := lw_g (lw_at lw_m4 179 rfl) rfl
theorem q934 : (Jvm.Cond.constantLong "WakegroundModel" (80 : Nat) (800 : Int64)) ∈ lw_all := lw_g (lw_at lw_m4 180 rfl) rfl
theorem q935 : (Jvm.Cond.constantLong "WakegroundModel" (85 : Nat) (50000 : Int64)) ∈ lw_all := lw_g (lw_at lw_m4 181 rfl) rfl
theorem q936 : (Jvm.Cond.fieldLink "WakegroundModel" (90 : Nat) "WakegroundModel" "refusal" "I") ∈ lw_all := lw_g (lw_at lw_m4 182 rfl) rfl
theorem q937 : (Jvm.Cond.fieldLink "WakegroundModel" (109 : Nat) "WakegroundModel" "month" "I") ∈ lw_all := lw_g (lw_at lw_m4 183 rfl) rfl
theorem q938 : (Jvm.Cond.fieldLink "WakegroundModel" (7 : Nat) "WakegroundModel" "height" "[I") ∈ lw_all := lw_g (lw_at lw_m4 184 rfl) rfl
theorem q939 : (Jvm.Cond.fieldLink "WakegroundModel" (13 : Nat) "WakegroundModel" "water" "[I") ∈ lw_all := lw_g (lw_at lw_m4 185 rfl) rfl
theorem q940 : (Jvm.Cond.fieldLink "WakegroundModel" (16 : Nat) "WakegroundModel" "snow" "[I") ∈ lw_all := lw_g (lw_at lw_m4 186 rfl) rfl
theorem q941 : (Jvm.Cond.fieldLink "WakegroundModel" (19 : Nat) "WakegroundModel" "moss" "[I") ∈ lw_all := lw_g (lw_at lw_m4 187 rfl) rfl
theorem q942 : (Jvm.Cond.fieldLink "WakegroundModel" (22 : Nat) "WakegroundModel" "wedges" "[I") ∈ lw_all := lw_g (lw_at lw_m4 188 rfl) rfl
theorem q943 : (Jvm.Cond.fieldLink "WakegroundModel" (25 : Nat) "WakegroundModel" "label" "[I") ∈ lw_all := lw_g (lw_at lw_m4 189 rfl) rfl
theorem q944 : (Jvm.Cond.fieldLink "WakegroundModel" (28 : Nat) "WakegroundModel" "pore" "[I") ∈ lw_all := lw_g (lw_at lw_m4 190 rfl) rfl
theorem q945 : (Jvm.Cond.fieldLink "WakegroundModel" (31 : Nat) "WakegroundModel" "excess" "[I") ∈ lw_all := lw_g (lw_at lw_m4 191 rfl) rfl
theorem q946 : (Jvm.Cond.fieldLink "WakegroundModel" (34 : Nat) "WakegroundModel" "energy" "[I") ∈ lw_all := lw_g (lw_at lw_m4 192 rfl) rfl
theorem q947 : (Jvm.Cond.fieldLink "WakegroundModel" (37 : Nat) "WakegroundModel" "carbon" "[I") ∈ lw_all := lw_g (lw_at lw_m4 193 rfl) rfl
theorem q948 : (Jvm.Cond.fieldLink "WakegroundModel" (40 : Nat) "WakegroundModel" "degrees" "[I") ∈ lw_all := lw_g (lw_at lw_m4 194 rfl) rfl
theorem q949 : (Jvm.Cond.fieldLink "WakegroundModel" (132 : Nat) "WakegroundModel" "houses" "I") ∈ lw_all := lw_g (lw_at lw_m4 195 rfl) rfl
theorem q950 : (Jvm.Cond.fieldLink "WakegroundModel" (43 : Nat) "WakegroundModel" "houseCell" "[I") ∈ lw_all := lw_g (lw_at lw_m4 196 rfl) rfl
theorem q951 : (Jvm.Cond.fieldLink "WakegroundModel" (46 : Nat) "WakegroundModel" "pile" "[I") ∈ lw_all := lw_g (lw_at lw_m4 197 rfl) rfl
theorem q952 : (Jvm.Cond.fieldLink "WakegroundModel" (49 : Nat) "WakegroundModel" "isCooled" "[Z") ∈ lw_all := lw_g (lw_at lw_m4 198 rfl) rfl
theorem q953 : (Jvm.Cond.fieldLink "WakegroundModel" (53 : Nat) "WakegroundModel" "tilt" "[I") ∈ lw_all := lw_g (lw_at lw_m4 199 rfl) rfl
theorem q954 : (Jvm.Cond.fieldLink "WakegroundModel" (56 : Nat) "WakegroundModel" "built" "[I") ∈ lw_all := lw_g (lw_at lw_m4 200 rfl) rfl
theorem q955 : (Jvm.Cond.fieldLink "WakegroundModel" (135 : Nat) "WakegroundModel" "holes" "I") ∈ lw_all := lw_g (lw_at lw_m4 201 rfl) rfl
theorem q956 : (Jvm.Cond.fieldLink "WakegroundModel" (59 : Nat) "WakegroundModel" "holeCell" "[I") ∈ lw_all := lw_g (lw_at lw_m4 202 rfl) rfl
theorem q957 : (Jvm.Cond.fieldLink "WakegroundModel" (62 : Nat) "WakegroundModel" "drift" "[I") ∈ lw_all := lw_g (lw_at lw_m4 203 rfl) rfl
theorem q958 : (Jvm.Cond.fieldLink "WakegroundModel" (65 : Nat) "WakegroundModel" "sunk" "[I") ∈ lw_all := lw_g (lw_at lw_m4 204 rfl) rfl
theorem q959 : (Jvm.Cond.fieldLink "WakegroundModel" (68 : Nat) "WakegroundModel" "read" "[I") ∈ lw_all := lw_g (lw_at lw_m4 205 rfl) rfl
theorem q960 : (Jvm.Cond.fieldLink "WakegroundModel" (177 : Nat) "WakegroundModel" "claims" "I") ∈ lw_all := lw_g (lw_at lw_m4 206 rfl) rfl
theorem q961 : (Jvm.Cond.fieldLink "WakegroundModel" (71 : Nat) "WakegroundModel" "claimed" "[I") ∈ lw_all := lw_g (lw_at lw_m4 207 rfl) rfl
theorem q962 : (Jvm.Cond.fieldLink "WakegroundModel" (76 : Nat) "WakegroundModel" "heatIn" "J") ∈ lw_all := lw_g (lw_at lw_m4 208 rfl) rfl
theorem q963 : (Jvm.Cond.fieldLink "WakegroundModel" (82 : Nat) "WakegroundModel" "waterIn" "J") ∈ lw_all := lw_g (lw_at lw_m4 209 rfl) rfl
theorem q964 : (Jvm.Cond.fieldLink "WakegroundModel" (87 : Nat) "WakegroundModel" "carbonIn" "J") ∈ lw_all := lw_g (lw_at lw_m4 210 rfl) rfl
theorem q965 : (Jvm.Cond.fieldLink "WakegroundModel" (168 : Nat) "WakegroundModel" "drained" "J") ∈ lw_all := lw_g (lw_at lw_m4 211 rfl) rfl
theorem q966 : (Jvm.Cond.fieldLink "WakegroundModel" (162 : Nat) "WakegroundModel" "smoke" "J") ∈ lw_all := lw_g (lw_at lw_m4 212 rfl) rfl
theorem q967 : (Jvm.Cond.fieldLink "WakegroundModel" (159 : Nat) "WakegroundModel" "marsh" "J") ∈ lw_all := lw_g (lw_at lw_m4 213 rfl) rfl
theorem q968 : (Jvm.Cond.lays "WakegroundModel" "WakegroundModel" "refusal" "I") ∈ lw_all := lw_g (lw_at lw_m4 214 rfl) rfl
theorem q969 : (Jvm.Cond.soleField "WakegroundModel" "refusal") ∈ lw_all := lw_g (lw_at lw_m4 215 rfl) rfl
theorem q970 : (Jvm.Cond.lays "WakegroundModel" "WakegroundModel" "month" "I") ∈ lw_all := lw_g (lw_at lw_m4 216 rfl) rfl
theorem q971 : (Jvm.Cond.soleField "WakegroundModel" "month") ∈ lw_all := lw_g (lw_at lw_m4 217 rfl) rfl
theorem q972 : (Jvm.Cond.laysFinal "WakegroundModel" "WakegroundModel" "height" "[I") ∈ lw_all := lw_g (lw_at lw_m4 218 rfl) rfl
theorem q973 : (Jvm.Cond.soleField "WakegroundModel" "height") ∈ lw_all := lw_g (lw_at lw_m4 219 rfl) rfl
theorem q974 : (Jvm.Cond.laysFinal "WakegroundModel" "WakegroundModel" "water" "[I") ∈ lw_all := lw_g (lw_at lw_m4 220 rfl) rfl
theorem q975 : (Jvm.Cond.soleField "WakegroundModel" "water") ∈ lw_all := lw_g (lw_at lw_m4 221 rfl) rfl
theorem q976 : (Jvm.Cond.laysFinal "WakegroundModel" "WakegroundModel" "snow" "[I") ∈ lw_all := lw_g (lw_at lw_m4 222 rfl) rfl
theorem q977 : (Jvm.Cond.soleField "WakegroundModel" "snow") ∈ lw_all := lw_g (lw_at lw_m4 223 rfl) rfl
theorem q978 : (Jvm.Cond.laysFinal "WakegroundModel" "WakegroundModel" "moss" "[I") ∈ lw_all := lw_g (lw_at lw_m4 224 rfl) rfl
theorem q979 : (Jvm.Cond.soleField "WakegroundModel" "moss") ∈ lw_all := lw_g (lw_at lw_m4 225 rfl) rfl
theorem q980 : (Jvm.Cond.laysFinal "WakegroundModel" "WakegroundModel" "wedges" "[I") ∈ lw_all := lw_g (lw_at lw_m4 226 rfl) rfl
theorem q981 : (Jvm.Cond.soleField "WakegroundModel" "wedges") ∈ lw_all := lw_g (lw_at lw_m4 227 rfl) rfl
theorem q982 : (Jvm.Cond.laysFinal "WakegroundModel" "WakegroundModel" "label" "[I") ∈ lw_all := lw_g (lw_at lw_m4 228 rfl) rfl
theorem q983 : (Jvm.Cond.soleField "WakegroundModel" "label") ∈ lw_all := lw_g (lw_at lw_m4 229 rfl) rfl
theorem q984 : (Jvm.Cond.laysFinal "WakegroundModel" "WakegroundModel" "pore" "[I") ∈ lw_all := lw_g (lw_at lw_m4 230 rfl) rfl
theorem q985 : (Jvm.Cond.soleField "WakegroundModel" "pore") ∈ lw_all := lw_g (lw_at lw_m4 231 rfl) rfl
theorem q986 : (Jvm.Cond.laysFinal "WakegroundModel" "WakegroundModel" "excess" "[I") ∈ lw_all := lw_g (lw_at lw_m4 232 rfl) rfl
theorem q987 : (Jvm.Cond.soleField "WakegroundModel" "excess") ∈ lw_all := lw_g (lw_at lw_m4 233 rfl) rfl
theorem q988 : (Jvm.Cond.laysFinal "WakegroundModel" "WakegroundModel" "energy" "[I") ∈ lw_all := lw_g (lw_at lw_m4 234 rfl) rfl
theorem q989 : (Jvm.Cond.soleField "WakegroundModel" "energy") ∈ lw_all := lw_g (lw_at lw_m4 235 rfl) rfl
theorem q990 : (Jvm.Cond.laysFinal "WakegroundModel" "WakegroundModel" "carbon" "[I") ∈ lw_all := lw_g (lw_at lw_m4 236 rfl) rfl
theorem q991 : (Jvm.Cond.soleField "WakegroundModel" "carbon") ∈ lw_all := lw_g (lw_at lw_m4 237 rfl) rfl
theorem q992 : (Jvm.Cond.laysFinal "WakegroundModel" "WakegroundModel" "degrees" "[I") ∈ lw_all := lw_g (lw_at lw_m4 238 rfl) rfl
theorem q993 : (Jvm.Cond.soleField "WakegroundModel" "degrees") ∈ lw_all := lw_g (lw_at lw_m4 239 rfl) rfl
theorem q994 : (Jvm.Cond.lays "WakegroundModel" "WakegroundModel" "houses" "I") ∈ lw_all := lw_g (lw_at lw_m5 0 rfl) rfl
theorem q995 : (Jvm.Cond.soleField "WakegroundModel" "houses") ∈ lw_all := lw_g (lw_at lw_m5 1 rfl) rfl
theorem q996 : (Jvm.Cond.laysFinal "WakegroundModel" "WakegroundModel" "houseCell" "[I") ∈ lw_all := lw_g (lw_at lw_m5 2 rfl) rfl
theorem q997 : (Jvm.Cond.soleField "WakegroundModel" "houseCell") ∈ lw_all := lw_g (lw_at lw_m5 3 rfl) rfl
theorem q998 : (Jvm.Cond.laysFinal "WakegroundModel" "WakegroundModel" "pile" "[I") ∈ lw_all := lw_g (lw_at lw_m5 4 rfl) rfl
theorem q999 : (Jvm.Cond.soleField "WakegroundModel" "pile") ∈ lw_all := lw_g (lw_at lw_m5 5 rfl) rfl
theorem q1000 : (Jvm.Cond.laysFinal "WakegroundModel" "WakegroundModel" "isCooled" "[Z") ∈ lw_all := lw_g (lw_at lw_m5 6 rfl) rfl
theorem q1001 : (Jvm.Cond.soleField "WakegroundModel" "isCooled") ∈ lw_all := lw_g (lw_at lw_m5 7 rfl) rfl
theorem q1002 : (Jvm.Cond.laysFinal "WakegroundModel" "WakegroundModel" "tilt" "[I") ∈ lw_all := lw_g (lw_at lw_m5 8 rfl) rfl
theorem q1003 : (Jvm.Cond.soleField "WakegroundModel" "tilt") ∈ lw_all := lw_g (lw_at lw_m5 9 rfl) rfl
theorem q1004 : (Jvm.Cond.laysFinal "WakegroundModel" "WakegroundModel" "built" "[I") ∈ lw_all := lw_g (lw_at lw_m5 10 rfl) rfl
theorem q1005 : (Jvm.Cond.soleField "WakegroundModel" "built") ∈ lw_all := lw_g (lw_at lw_m5 11 rfl) rfl
theorem q1006 : (Jvm.Cond.lays "WakegroundModel" "WakegroundModel" "holes" "I") ∈ lw_all := lw_g (lw_at lw_m5 12 rfl) rfl
theorem q1007 : (Jvm.Cond.soleField "WakegroundModel" "holes") ∈ lw_all := lw_g (lw_at lw_m5 13 rfl) rfl
theorem q1008 : (Jvm.Cond.laysFinal "WakegroundModel" "WakegroundModel" "holeCell" "[I") ∈ lw_all := lw_g (lw_at lw_m5 14 rfl) rfl
theorem q1009 : (Jvm.Cond.soleField "WakegroundModel" "holeCell") ∈ lw_all := lw_g (lw_at lw_m5 15 rfl) rfl
theorem q1010 : (Jvm.Cond.laysFinal "WakegroundModel" "WakegroundModel" "drift" "[I") ∈ lw_all := lw_g (lw_at lw_m5 16 rfl) rfl
theorem q1011 : (Jvm.Cond.soleField "WakegroundModel" "drift") ∈ lw_all := lw_g (lw_at lw_m5 17 rfl) rfl
theorem q1012 : (Jvm.Cond.laysFinal "WakegroundModel" "WakegroundModel" "sunk" "[I") ∈ lw_all := lw_g (lw_at lw_m5 18 rfl) rfl
theorem q1013 : (Jvm.Cond.soleField "WakegroundModel" "sunk") ∈ lw_all := lw_g (lw_at lw_m5 19 rfl) rfl
theorem q1014 : (Jvm.Cond.laysFinal "WakegroundModel" "WakegroundModel" "read" "[I") ∈ lw_all := lw_g (lw_at lw_m5 20 rfl) rfl
theorem q1015 : (Jvm.Cond.soleField "WakegroundModel" "read") ∈ lw_all := lw_g (lw_at lw_m5 21 rfl) rfl
theorem q1016 : (Jvm.Cond.lays "WakegroundModel" "WakegroundModel" "claims" "I") ∈ lw_all := lw_g (lw_at lw_m5 22 rfl) rfl
theorem q1017 : (Jvm.Cond.soleField "WakegroundModel" "claims") ∈ lw_all := lw_g (lw_at lw_m5 23 rfl) rfl
theorem q1018 : (Jvm.Cond.laysFinal "WakegroundModel" "WakegroundModel" "claimed" "[I") ∈ lw_all := lw_g (lw_at lw_m5 24 rfl) rfl
theorem q1019 : (Jvm.Cond.soleField "WakegroundModel" "claimed") ∈ lw_all := lw_g (lw_at lw_m5 25 rfl) rfl
theorem q1020 : (Jvm.Cond.lays "WakegroundModel" "WakegroundModel" "heatIn" "J") ∈ lw_all := lw_g (lw_at lw_m5 26 rfl) rfl
theorem q1021 : (Jvm.Cond.soleField "WakegroundModel" "heatIn") ∈ lw_all := lw_g (lw_at lw_m5 27 rfl) rfl
theorem q1022 : (Jvm.Cond.lays "WakegroundModel" "WakegroundModel" "waterIn" "J") ∈ lw_all := lw_g (lw_at lw_m5 28 rfl) rfl
theorem q1023 : (Jvm.Cond.soleField "WakegroundModel" "waterIn") ∈ lw_all := lw_g (lw_at lw_m5 29 rfl) rfl
theorem q1024 : (Jvm.Cond.lays "WakegroundModel" "WakegroundModel" "carbonIn" "J") ∈ lw_all := lw_g (lw_at lw_m5 30 rfl) rfl
theorem q1025 : (Jvm.Cond.soleField "WakegroundModel" "carbonIn") ∈ lw_all := lw_g (lw_at lw_m5 31 rfl) rfl
theorem q1026 : (Jvm.Cond.lays "WakegroundModel" "WakegroundModel" "drained" "J") ∈ lw_all := lw_g (lw_at lw_m5 32 rfl) rfl
theorem q1027 : (Jvm.Cond.soleField "WakegroundModel" "drained") ∈ lw_all := lw_g (lw_at lw_m5 33 rfl) rfl
theorem q1028 : (Jvm.Cond.lays "WakegroundModel" "WakegroundModel" "smoke" "J") ∈ lw_all := lw_g (lw_at lw_m5 34 rfl) rfl
theorem q1029 : (Jvm.Cond.soleField "WakegroundModel" "smoke") ∈ lw_all := lw_g (lw_at lw_m5 35 rfl) rfl
theorem q1030 : (Jvm.Cond.lays "WakegroundModel" "WakegroundModel" "marsh" "J") ∈ lw_all := lw_g (lw_at lw_m5 36 rfl) rfl
theorem q1031 : (Jvm.Cond.soleField "WakegroundModel" "marsh") ∈ lw_all := lw_g (lw_at lw_m5 37 rfl) rfl
theorem q1032 : (Jvm.Cond.superclass "WakegroundModel" "java/lang/Object") ∈ lw_all := lw_g (lw_at lw_m5 38 rfl) rfl
theorem q1034 : (Jvm.Cond.instanceMethod ({ cls := "WakegroundModel", name := "thrown", desc := "()I" } : Jvm.MethodName)) ∈ lw_all := lw_g (lw_at lw_m5 40 rfl) rfl
theorem q1035 : (Jvm.Cond.selects "WakegroundModel" ({ cls := "WakegroundModel", name := "thrown", desc := "()I" } : Jvm.MethodName) ({ cls := "WakegroundModel", name := "thrown", desc := "()I" } : Jvm.MethodName)) ∈ lw_all := lw_g (lw_at lw_m5 41 rfl) rfl
theorem q1036 : (Jvm.Cond.code ({ cls := "WakegroundModel", name := "thrown", desc := "()I" } : Jvm.MethodName) prog_10_method_2_code (1 : Nat) (Option.some Jvm.ClassFile.FieldType.int)) ∈ lw_all := lw_g (lw_at lw_m5 42 rfl) rfl
theorem q1038 : (Jvm.Cond.instanceMethod ({ cls := "WakegroundModel", name := "ground", desc := "(IIIIII)V" } : Jvm.MethodName)) ∈ lw_all := lw_g (lw_at lw_m5 44 rfl) rfl
theorem q1039 : (Jvm.Cond.selects "WakegroundModel" ({ cls := "WakegroundModel", name := "ground", desc := "(IIIIII)V" } : Jvm.MethodName) ({ cls := "WakegroundModel", name := "ground", desc := "(IIIIII)V" } : Jvm.MethodName)) ∈ lw_all := lw_g (lw_at lw_m5 45 rfl) rfl
theorem q1040 : (Jvm.Cond.code ({ cls := "WakegroundModel", name := "ground", desc := "(IIIIII)V" } : Jvm.MethodName) prog_10_method_12_code (10 : Nat) (Option.none : Option Jvm.ClassFile.FieldType)) ∈ lw_all := lw_g (lw_at lw_m5 46 rfl) rfl
theorem q1041 : (Jvm.Cond.methodLink "WakegroundModel" (102 : Nat) ({ cls := "WakegroundModel", name := "isCell", desc := "(I)Z" } : Jvm.MethodName)) ∈ lw_all := lw_g (lw_at lw_m5 47 rfl) rfl
theorem q1042 : (Jvm.Cond.static ({ cls := "WakegroundModel", name := "isCell", desc := "(I)Z" } : Jvm.MethodName)) ∈ lw_all := lw_g (lw_at lw_m5 48 rfl) rfl
theorem q1043 : (Jvm.Cond.code ({ cls := "WakegroundModel", name := "isCell", desc := "(I)Z" } : Jvm.MethodName) prog_10_method_5_code (1 : Nat) (Option.some Jvm.ClassFile.FieldType.boolean)) ∈ lw_all := lw_g (lw_at lw_m5 49 rfl) rfl
theorem q1044 : (Jvm.Cond.methodLink "WakegroundModel" (94 : Nat) ({ cls := "WakegroundModel", name := "within", desc := "(III)Z" } : Jvm.MethodName)) ∈ lw_all := lw_g (lw_at lw_m5 50 rfl) rfl
theorem q1045 : (Jvm.Cond.static ({ cls := "WakegroundModel", name := "within", desc := "(III)Z" } : Jvm.MethodName)) ∈ lw_all := lw_g (lw_at lw_m5 51 rfl) rfl
theorem q1046 : (Jvm.Cond.code ({ cls := "WakegroundModel", name := "within", desc := "(III)Z" } : Jvm.MethodName) prog_10_method_4_code (3 : Nat) (Option.some Jvm.ClassFile.FieldType.boolean)) ∈ lw_all := lw_g (lw_at lw_m5 52 rfl) rfl
theorem q1047 : (Jvm.Cond.methodLink "WakegroundModel" (106 : Nat) ({ cls := "WakegroundModel", name := "refused", desc := "(I)Z" } : Jvm.MethodName)) ∈ lw_all := lw_g (lw_at lw_m5 53 rfl) rfl
theorem q1048 : (Jvm.Cond.privateMethod ({ cls := "WakegroundModel", name := "refused", desc := "(I)Z" } : Jvm.MethodName)) ∈ lw_tbl := lw_at lw_m5 54 rfl
theorem q1049 : (Jvm.Cond.instanceMethod ({ cls := "WakegroundModel", name := "refused", desc := "(I)Z" } : Jvm.MethodName)) ∈ lw_all := lw_g (lw_at lw_m5 55 rfl) rfl
theorem q1050 : (Jvm.Cond.code ({ cls := "WakegroundModel", name := "refused", desc := "(I)Z" } : Jvm.MethodName) prog_10_method_3_code (2 : Nat) (Option.some Jvm.ClassFile.FieldType.boolean)) ∈ lw_all := lw_g (lw_at lw_m5 56 rfl) rfl
theorem q1052 : (Jvm.Cond.instanceMethod ({ cls := "WakegroundModel", name := "moss", desc := "(II)I" } : Jvm.MethodName)) ∈ lw_all := lw_g (lw_at lw_m5 58 rfl) rfl
theorem q1053 : (Jvm.Cond.selects "WakegroundModel" ({ cls := "WakegroundModel", name := "moss", desc := "(II)I" } : Jvm.MethodName) ({ cls := "WakegroundModel", name := "moss", desc := "(II)I" } : Jvm.MethodName)) ∈ lw_all := lw_g (lw_at lw_m5 59 rfl) rfl
theorem q1054 : (Jvm.Cond.code ({ cls := "WakegroundModel", name := "moss", desc := "(II)I" } : Jvm.MethodName) prog_10_method_13_code (4 : Nat) (Option.some Jvm.ClassFile.FieldType.int)) ∈ lw_all := lw_g (lw_at lw_m5 60 rfl) rfl
theorem q1056 : (Jvm.Cond.instanceMethod ({ cls := "WakegroundModel", name := "pass", desc := "(III)I" } : Jvm.MethodName)) ∈ lw_all := lw_g (lw_at lw_m5 62 rfl) rfl
theorem q1057 : (Jvm.Cond.selects "WakegroundModel" ({ cls := "WakegroundModel", name := "pass", desc := "(III)I" } : Jvm.MethodName) ({ cls := "WakegroundModel", name := "pass", desc := "(III)I" } : Jvm.MethodName)) ∈ lw_all := lw_g (lw_at lw_m5 63 rfl) rfl
theorem q1058 : (Jvm.Cond.code ({ cls := "WakegroundModel", name := "pass", desc := "(III)I" } : Jvm.MethodName) prog_10_method_14_code (6 : Nat) (Option.some Jvm.ClassFile.FieldType.int)) ∈ lw_all := lw_g (lw_at lw_m5 64 rfl) rfl
theorem q1059 : (Jvm.Cond.methodLink "WakegroundModel" (112 : Nat) ({ cls := "WakegroundModel", name := "passOne", desc := "(II)V" } : Jvm.MethodName)) ∈ lw_all := lw_g (lw_at lw_m5 65 rfl) rfl
theorem q1060 : (Jvm.Cond.privateMethod ({ cls := "WakegroundModel", name := "passOne", desc := "(II)V" } : Jvm.MethodName)) ∈ lw_tbl := lw_at lw_m5 66 rfl
theorem q1061 : (Jvm.Cond.instanceMethod ({ cls := "WakegroundModel", name := "passOne", desc := "(II)V" } : Jvm.MethodName)) ∈ lw_all := lw_g (lw_at lw_m5 67 rfl) rfl
theorem q1062 : (Jvm.Cond.code ({ cls := "WakegroundModel", name := "passOne", desc := "(II)V" } : Jvm.MethodName) prog_10_method_15_code (5 : Nat) (Option.none : Option Jvm.ClassFile.FieldType)) ∈ lw_all := lw_g (lw_at lw_m5 68 rfl) rfl
theorem q1063 : (Jvm.Cond.methodLink "WakegroundModel" (98 : Nat) ({ cls := "WakegroundModel", name := "lesser", desc := "(II)I" } : Jvm.MethodName)) ∈ lw_all := lw_g (lw_at lw_m5 69 rfl) rfl
theorem q1064 : (Jvm.Cond.static ({ cls := "WakegroundModel", name := "lesser", desc := "(II)I" } : Jvm.MethodName)) ∈ lw_all := lw_g (lw_at lw_m5 70 rfl) rfl
theorem q1065 : (Jvm.Cond.code ({ cls := "WakegroundModel", name := "lesser", desc := "(II)I" } : Jvm.MethodName) prog_10_method_6_code (2 : Nat) (Option.some Jvm.ClassFile.FieldType.int)) ∈ lw_all := lw_g (lw_at lw_m5 71 rfl) rfl
theorem q1066 : (Jvm.Cond.methodLink "WakegroundModel" (116 : Nat) ({ cls := "WakegroundModel", name := "heat", desc := "(I)V" } : Jvm.MethodName)) ∈ lw_all := lw_g (lw_at lw_m5 72 rfl) rfl
theorem q1067 : (Jvm.Cond.privateMethod ({ cls := "WakegroundModel", name := "heat", desc := "(I)V" } : Jvm.MethodName)) ∈ lw_tbl := lw_at lw_m5 73 rfl
theorem q1068 : (Jvm.Cond.instanceMethod ({ cls := "WakegroundModel", name := "heat", desc := "(I)V" } : Jvm.MethodName)) ∈ lw_all := lw_g (lw_at lw_m5 74 rfl) rfl
theorem q1069 : (Jvm.Cond.code ({ cls := "WakegroundModel", name := "heat", desc := "(I)V" } : Jvm.MethodName) prog_10_method_17_code (7 : Nat) (Option.none : Option Jvm.ClassFile.FieldType)) ∈ lw_all := lw_g (lw_at lw_m5 75 rfl) rfl
theorem q1070 : (Jvm.Cond.methodLink "WakegroundModel" (138 : Nat) ({ cls := "WakegroundModel", name := "degreesOf", desc := "(I)I" } : Jvm.MethodName)) ∈ lw_all := lw_g (lw_at lw_m5 76 rfl) rfl
theorem q1071 : (Jvm.Cond.privateMethod ({ cls := "WakegroundModel", name := "degreesOf", desc := "(I)I" } : Jvm.MethodName)) ∈ lw_tbl := lw_at lw_m5 77 rfl
theorem q1072 : (Jvm.Cond.instanceMethod ({ cls := "WakegroundModel", name := "degreesOf", desc := "(I)I" } : Jvm.MethodName)) ∈ lw_all := lw_g (lw_at lw_m5 78 rfl) rfl
theorem q1073 : (Jvm.Cond.code ({ cls := "WakegroundModel", name := "degreesOf", desc := "(I)I" } : Jvm.MethodName) prog_10_method_8_code (3 : Nat) (Option.some Jvm.ClassFile.FieldType.int)) ∈ lw_all := lw_g (lw_at lw_m5 79 rfl) rfl
theorem q1074 : (Jvm.Cond.methodLink "WakegroundModel" (142 : Nat) ({ cls := "WakegroundModel", name := "isLake", desc := "(I)Z" } : Jvm.MethodName)) ∈ lw_all := lw_g (lw_at lw_m5 80 rfl) rfl
theorem q1075 : (Jvm.Cond.privateMethod ({ cls := "WakegroundModel", name := "isLake", desc := "(I)Z" } : Jvm.MethodName)) ∈ lw_tbl := lw_at lw_m5 81 rfl
theorem q1076 : (Jvm.Cond.instanceMethod ({ cls := "WakegroundModel", name := "isLake", desc := "(I)Z" } : Jvm.MethodName)) ∈ lw_all := lw_g (lw_at lw_m5 82 rfl) rfl
theorem q1077 : (Jvm.Cond.code ({ cls := "WakegroundModel", name := "isLake", desc := "(I)Z" } : Jvm.MethodName) prog_10_method_10_code (2 : Nat) (Option.some Jvm.ClassFile.FieldType.boolean)) ∈ lw_all := lw_g (lw_at lw_m5 83 rfl) rfl
theorem q1078 : (Jvm.Cond.methodLink "WakegroundModel" (145 : Nat) ({ cls := "WakegroundModel", name := "greater", desc := "(II)I" } : Jvm.MethodName)) ∈ lw_all := lw_g (lw_at lw_m5 84 rfl) rfl
theorem q1079 : (Jvm.Cond.static ({ cls := "WakegroundModel", name := "greater", desc := "(II)I" } : Jvm.MethodName)) ∈ lw_all := lw_g (lw_at lw_m5 85 rfl) rfl
theorem q1080 : (Jvm.Cond.code ({ cls := "WakegroundModel", name := "greater", desc := "(II)I" } : Jvm.MethodName) prog_10_method_7_code (2 : Nat) (Option.some Jvm.ClassFile.FieldType.int)) ∈ lw_all := lw_g (lw_at lw_m5 86 rfl) rfl
theorem q1081 : (Jvm.Cond.methodLink "WakegroundModel" (148 : Nat) ({ cls := "WakegroundModel", name := "bring", desc := "(II)V" } : Jvm.MethodName)) ∈ lw_all := lw_g (lw_at lw_m5 87 rfl) rfl
theorem q1082 : (Jvm.Cond.privateMethod ({ cls := "WakegroundModel", name := "bring", desc := "(II)V" } : Jvm.MethodName)) ∈ lw_tbl := lw_at lw_m5 88 rfl
theorem q1083 : (Jvm.Cond.instanceMethod ({ cls := "WakegroundModel", name := "bring", desc := "(II)V" } : Jvm.MethodName)) ∈ lw_all := lw_g (lw_at lw_m5 89 rfl) rfl
theorem q1084 : (Jvm.Cond.code ({ cls := "WakegroundModel", name := "bring", desc := "(II)V" } : Jvm.MethodName) prog_10_method_16_code (3 : Nat) (Option.none : Option Jvm.ClassFile.FieldType)) ∈ lw_all := lw_g (lw_at lw_m5 90 rfl) rfl
theorem q1085 : (Jvm.Cond.methodLink "WakegroundModel" (120 : Nat) ({ cls := "WakegroundModel", name := "sink", desc := "(I)V" } : Jvm.MethodName)) ∈ lw_all := lw_g (lw_at lw_m5 91 rfl) rfl
theorem q1086 : (Jvm.Cond.privateMethod ({ cls := "WakegroundModel", name := "sink", desc := "(I)V" } : Jvm.MethodName)) ∈ lw_tbl := lw_at lw_m5 92 rfl
theorem q1087 : (Jvm.Cond.instanceMethod ({ cls := "WakegroundModel", name := "sink", desc := "(I)V" } : Jvm.MethodName)) ∈ lw_all := lw_g (lw_at lw_m5 93 rfl) rfl
theorem q1088 : (Jvm.Cond.code ({ cls := "WakegroundModel", name := "sink", desc := "(I)V" } : Jvm.MethodName) prog_10_method_18_code (3 : Nat) (Option.none : Option Jvm.ClassFile.FieldType)) ∈ lw_all := lw_g (lw_at lw_m5 94 rfl) rfl
theorem q1089 : (Jvm.Cond.methodLink "WakegroundModel" (151 : Nat) ({ cls := "WakegroundModel", name := "melted", desc := "(I)I" } : Jvm.MethodName)) ∈ lw_all := lw_g (lw_at lw_m5 95 rfl) rfl
theorem q1090 : (Jvm.Cond.privateMethod ({ cls := "WakegroundModel", name := "melted", desc := "(I)I" } : Jvm.MethodName)) ∈ lw_tbl := lw_at lw_m5 96 rfl
theorem q1091 : (Jvm.Cond.instanceMethod ({ cls := "WakegroundModel", name := "melted", desc := "(I)I" } : Jvm.MethodName)) ∈ lw_all := lw_g (lw_at lw_m5 97 rfl) rfl
theorem q1092 : (Jvm.Cond.code ({ cls := "WakegroundModel", name := "melted", desc := "(I)I" } : Jvm.MethodName) prog_10_method_9_code (2 : Nat) (Option.some Jvm.ClassFile.FieldType.int)) ∈ lw_all := lw_g (lw_at lw_m5 98 rfl) rfl
theorem q1093 : (Jvm.Cond.methodLink "WakegroundModel" (123 : Nat) ({ cls := "WakegroundModel", name := "flow", desc := "(I)V" } : Jvm.MethodName)) ∈ lw_all := lw_g (lw_at lw_m5 99 rfl) rfl
theorem q1094 : (Jvm.Cond.privateMethod ({ cls := "WakegroundModel", name := "flow", desc := "(I)V" } : Jvm.MethodName)) ∈ lw_tbl := lw_at lw_m5 100 rfl
theorem q1095 : (Jvm.Cond.instanceMethod ({ cls := "WakegroundModel", name := "flow", desc := "(I)V" } : Jvm.MethodName)) ∈ lw_all := lw_g (lw_at lw_m5 101 rfl) rfl
theorem q1096 : (Jvm.Cond.code ({ cls := "WakegroundModel", name := "flow", desc := "(I)V" } : Jvm.MethodName) prog_10_method_19_code (6 : Nat) (Option.none : Option Jvm.ClassFile.FieldType)) ∈ lw_all := lw_g (lw_at lw_m5 102 rfl) rfl
theorem q1097 : (Jvm.Cond.methodLink "WakegroundModel" (154 : Nat) ({ cls := "WakegroundModel", name := "beside", desc := "(II)I" } : Jvm.MethodName)) ∈ lw_all := lw_g (lw_at lw_m5 103 rfl) rfl
theorem q1098 : (Jvm.Cond.static ({ cls := "WakegroundModel", name := "beside", desc := "(II)I" } : Jvm.MethodName)) ∈ lw_all := lw_g (lw_at lw_m5 104 rfl) rfl
theorem q1099 : (Jvm.Cond.code ({ cls := "WakegroundModel", name := "beside", desc := "(II)I" } : Jvm.MethodName) prog_10_method_11_code (2 : Nat) (Option.some Jvm.ClassFile.FieldType.int)) ∈ lw_all := lw_g (lw_at lw_m5 105 rfl) rfl
theorem q1100 : (Jvm.Cond.methodLink "WakegroundModel" (126 : Nat) ({ cls := "WakegroundModel", name := "crack", desc := "()V" } : Jvm.MethodName)) ∈ lw_all := lw_g (lw_at lw_m5 106 rfl) rfl
theorem q1101 : (Jvm.Cond.privateMethod ({ cls := "WakegroundModel", name := "crack", desc := "()V" } : Jvm.MethodName)) ∈ lw_tbl := lw_at lw_m5 107 rfl
theorem q1102 : (Jvm.Cond.instanceMethod ({ cls := "WakegroundModel", name := "crack", desc := "()V" } : Jvm.MethodName)) ∈ lw_all := lw_g (lw_at lw_m5 108 rfl) rfl
theorem q1103 : (Jvm.Cond.code ({ cls := "WakegroundModel", name := "crack", desc := "()V" } : Jvm.MethodName) prog_10_method_20_code (3 : Nat) (Option.none : Option Jvm.ClassFile.FieldType)) ∈ lw_all := lw_g (lw_at lw_m5 109 rfl) rfl
theorem q1104 : (Jvm.Cond.methodLink "WakegroundModel" (129 : Nat) ({ cls := "WakegroundModel", name := "wake", desc := "(II)V" } : Jvm.MethodName)) ∈ lw_all := lw_g (lw_at lw_m5 110 rfl) rfl
theorem q1105 : (Jvm.Cond.privateMethod ({ cls := "WakegroundModel", name := "wake", desc := "(II)V" } : Jvm.MethodName)) ∈ lw_tbl := lw_at lw_m5 111 rfl
theorem q1106 : (Jvm.Cond.instanceMethod ({ cls := "WakegroundModel", name := "wake", desc := "(II)V" } : Jvm.MethodName)) ∈ lw_all := lw_g (lw_at lw_m5 112 rfl) rfl
theorem q1107 : (Jvm.Cond.code ({ cls := "WakegroundModel", name := "wake", desc := "(II)V" } : Jvm.MethodName) prog_10_method_21_code (6 : Nat) (Option.none : Option Jvm.ClassFile.FieldType)) ∈ lw_all := lw_g (lw_at lw_m5 113 rfl) rfl
theorem q1108 : (Jvm.Cond.constantLong "WakegroundModel" (157 : Nat) (1000 : Int64)) ∈ lw_all := lw_g (lw_at lw_m5 114 rfl) rfl
theorem q1110 : (Jvm.Cond.instanceMethod ({ cls := "WakegroundModel", name := "fire", desc := "(I)I" } : Jvm.MethodName)) ∈ lw_all := lw_g (lw_at lw_m5 116 rfl) rfl
theorem q1111 : (Jvm.Cond.selects "WakegroundModel" ({ cls := "WakegroundModel", name := "fire", desc := "(I)I" } : Jvm.MethodName) ({ cls := "WakegroundModel", name := "fire", desc := "(I)I" } : Jvm.MethodName)) ∈ lw_all := lw_g (lw_at lw_m5 117 rfl) rfl
theorem q1112 : (Jvm.Cond.code ({ cls := "WakegroundModel", name := "fire", desc := "(I)I" } : Jvm.MethodName) prog_10_method_22_code (4 : Nat) (Option.some Jvm.ClassFile.FieldType.int)) ∈ lw_all := lw_g (lw_at lw_m5 118 rfl) rfl
theorem q1114 : (Jvm.Cond.instanceMethod ({ cls := "WakegroundModel", name := "breach", desc := "(I)I" } : Jvm.MethodName)) ∈ lw_all := lw_g (lw_at lw_m5 120 rfl) rfl
theorem q1115 : (Jvm.Cond.selects "WakegroundModel" ({ cls := "WakegroundModel", name := "breach", desc := "(I)I" } : Jvm.MethodName) ({ cls := "WakegroundModel", name := "breach", desc := "(I)I" } : Jvm.MethodName)) ∈ lw_all := lw_g (lw_at lw_m5 121 rfl) rfl
theorem q1116 : (Jvm.Cond.code ({ cls := "WakegroundModel", name := "breach", desc := "(I)I" } : Jvm.MethodName) prog_10_method_24_code (6 : Nat) (Option.some Jvm.ClassFile.FieldType.int)) ∈ lw_all := lw_g (lw_at lw_m5 122 rfl) rfl
theorem q1117 : (Jvm.Cond.methodLink "WakegroundModel" (165 : Nat) ({ cls := "WakegroundModel", name := "gather", desc := "()V" } : Jvm.MethodName)) ∈ lw_all := lw_g (lw_at lw_m5 123 rfl) rfl
theorem q1118 : (Jvm.Cond.privateMethod ({ cls := "WakegroundModel", name := "gather", desc := "()V" } : Jvm.MethodName)) ∈ lw_tbl := lw_at lw_m5 124 rfl
theorem q1119 : (Jvm.Cond.instanceMethod ({ cls := "WakegroundModel", name := "gather", desc := "()V" } : Jvm.MethodName)) ∈ lw_all := lw_g (lw_at lw_m5 125 rfl) rfl
theorem q1120 : (Jvm.Cond.code ({ cls := "WakegroundModel", name := "gather", desc := "()V" } : Jvm.MethodName) prog_10_method_23_code (5 : Nat) (Option.none : Option Jvm.ClassFile.FieldType)) ∈ lw_all := lw_g (lw_at lw_m5 126 rfl) rfl
theorem q1122 : (Jvm.Cond.instanceMethod ({ cls := "WakegroundModel", name := "house", desc := "(IIZ)I" } : Jvm.MethodName)) ∈ lw_all := lw_g (lw_at lw_m5 128 rfl) rfl
theorem q1123 : (Jvm.Cond.selects "WakegroundModel" ({ cls := "WakegroundModel", name := "house", desc := "(IIZ)I" } : Jvm.MethodName) ({ cls := "WakegroundModel", name := "house", desc := "(IIZ)I" } : Jvm.MethodName)) ∈ lw_all := lw_g (lw_at lw_m5 129 rfl) rfl
theorem q1124 : (Jvm.Cond.code ({ cls := "WakegroundModel", name := "house", desc := "(IIZ)I" } : Jvm.MethodName) prog_10_method_26_code (5 : Nat) (Option.some Jvm.ClassFile.FieldType.int)) ∈ lw_all := lw_g (lw_at lw_m5 130 rfl) rfl
theorem q1125 : (Jvm.Cond.methodLink "WakegroundModel" (171 : Nat) ({ cls := "WakegroundModel", name := "houseIn", desc := "(I)I" } : Jvm.MethodName)) ∈ lw_all := lw_g (lw_at lw_m5 131 rfl) rfl
theorem q1126 : (Jvm.Cond.privateMethod ({ cls := "WakegroundModel", name := "houseIn", desc := "(I)I" } : Jvm.MethodName)) ∈ lw_tbl := lw_at lw_m5 132 rfl
theorem q1127 : (Jvm.Cond.instanceMethod ({ cls := "WakegroundModel", name := "houseIn", desc := "(I)I" } : Jvm.MethodName)) ∈ lw_all := lw_g (lw_at lw_m5 133 rfl) rfl
theorem q1128 : (Jvm.Cond.code ({ cls := "WakegroundModel", name := "houseIn", desc := "(I)I" } : Jvm.MethodName) prog_10_method_25_code (4 : Nat) (Option.some Jvm.ClassFile.FieldType.int)) ∈ lw_all := lw_g (lw_at lw_m5 134 rfl) rfl
theorem q1130 : (Jvm.Cond.instanceMethod ({ cls := "WakegroundModel", name := "borehole", desc := "(II)I" } : Jvm.MethodName)) ∈ lw_all := lw_g (lw_at lw_m5 136 rfl) rfl
theorem q1131 : (Jvm.Cond.selects "WakegroundModel" ({ cls := "WakegroundModel", name := "borehole", desc := "(II)I" } : Jvm.MethodName) ({ cls := "WakegroundModel", name := "borehole", desc := "(II)I" } : Jvm.MethodName)) ∈ lw_all := lw_g (lw_at lw_m5 137 rfl) rfl
theorem q1132 : (Jvm.Cond.code ({ cls := "WakegroundModel", name := "borehole", desc := "(II)I" } : Jvm.MethodName) prog_10_method_27_code (3 : Nat) (Option.some Jvm.ClassFile.FieldType.int)) ∈ lw_all := lw_g (lw_at lw_m5 138 rfl) rfl
theorem q1134 : (Jvm.Cond.instanceMethod ({ cls := "WakegroundModel", name := "claim", desc := "(I)I" } : Jvm.MethodName)) ∈ lw_all := lw_g (lw_at lw_m5 140 rfl) rfl
theorem q1135 : (Jvm.Cond.selects "WakegroundModel" ({ cls := "WakegroundModel", name := "claim", desc := "(I)I" } : Jvm.MethodName) ({ cls := "WakegroundModel", name := "claim", desc := "(I)I" } : Jvm.MethodName)) ∈ lw_all := lw_g (lw_at lw_m5 141 rfl) rfl
theorem q1136 : (Jvm.Cond.code ({ cls := "WakegroundModel", name := "claim", desc := "(I)I" } : Jvm.MethodName) prog_10_method_30_code (3 : Nat) (Option.some Jvm.ClassFile.FieldType.int)) ∈ lw_all := lw_g (lw_at lw_m5 142 rfl) rfl
theorem q1137 : (Jvm.Cond.methodLink "WakegroundModel" (174 : Nat) ({ cls := "WakegroundModel", name := "isHouse", desc := "(I)Z" } : Jvm.MethodName)) ∈ lw_all := lw_g (lw_at lw_m5 143 rfl) rfl
theorem q1138 : (Jvm.Cond.privateMethod ({ cls := "WakegroundModel", name := "isHouse", desc := "(I)Z" } : Jvm.MethodName)) ∈ lw_tbl := lw_at lw_m5 144 rfl
theorem q1139 : (Jvm.Cond.instanceMethod ({ cls := "WakegroundModel", name := "isHouse", desc := "(I)Z" } : Jvm.MethodName)) ∈ lw_all := lw_g (lw_at lw_m5 145 rfl) rfl
theorem q1140 : (Jvm.Cond.code ({ cls := "WakegroundModel", name := "isHouse", desc := "(I)Z" } : Jvm.MethodName) prog_10_method_28_code (2 : Nat) (Option.some Jvm.ClassFile.FieldType.boolean)) ∈ lw_all := lw_g (lw_at lw_m5 146 rfl) rfl
theorem q1141 : (Jvm.Cond.methodLink "WakegroundModel" (180 : Nat) ({ cls := "WakegroundModel", name := "worth", desc := "(I)I" } : Jvm.MethodName)) ∈ lw_all := lw_g (lw_at lw_m5 147 rfl) rfl
theorem q1142 : (Jvm.Cond.privateMethod ({ cls := "WakegroundModel", name := "worth", desc := "(I)I" } : Jvm.MethodName)) ∈ lw_tbl := lw_at lw_m5 148 rfl
theorem q1143 : (Jvm.Cond.instanceMethod ({ cls := "WakegroundModel", name := "worth", desc := "(I)I" } : Jvm.MethodName)) ∈ lw_all := lw_g (lw_at lw_m5 149 rfl) rfl
theorem q1144 : (Jvm.Cond.code ({ cls := "WakegroundModel", name := "worth", desc := "(I)I" } : Jvm.MethodName) prog_10_method_29_code (7 : Nat) (Option.some Jvm.ClassFile.FieldType.int)) ∈ lw_all := lw_g (lw_at lw_m5 150 rfl) rfl
theorem q1146 : (Jvm.Cond.instanceMethod ({ cls := "WakegroundModel", name := "month", desc := "()I" } : Jvm.MethodName)) ∈ lw_all := lw_g (lw_at lw_m5 152 rfl) rfl
theorem q1147 : (Jvm.Cond.selects "WakegroundModel" ({ cls := "WakegroundModel", name := "month", desc := "()I" } : Jvm.MethodName) ({ cls := "WakegroundModel", name := "month", desc := "()I" } : Jvm.MethodName)) ∈ lw_all := lw_g (lw_at lw_m5 153 rfl) rfl
theorem q1148 : (Jvm.Cond.code ({ cls := "WakegroundModel", name := "month", desc := "()I" } : Jvm.MethodName) prog_10_method_31_code (1 : Nat) (Option.some Jvm.ClassFile.FieldType.int)) ∈ lw_all := lw_g (lw_at lw_m5 154 rfl) rfl
theorem q1150 : (Jvm.Cond.instanceMethod ({ cls := "WakegroundModel", name := "cellOf", desc := "(II)I" } : Jvm.MethodName)) ∈ lw_all := lw_g (lw_at lw_m5 156 rfl) rfl
theorem q1151 : (Jvm.Cond.selects "WakegroundModel" ({ cls := "WakegroundModel", name := "cellOf", desc := "(II)I" } : Jvm.MethodName) ({ cls := "WakegroundModel", name := "cellOf", desc := "(II)I" } : Jvm.MethodName)) ∈ lw_all := lw_g (lw_at lw_m5 157 rfl) rfl
theorem q1152 : (Jvm.Cond.code ({ cls := "WakegroundModel", name := "cellOf", desc := "(II)I" } : Jvm.MethodName) prog_10_method_34_code (3 : Nat) (Option.some Jvm.ClassFile.FieldType.int)) ∈ lw_all := lw_g (lw_at lw_m5 158 rfl) rfl
theorem q1153 : (Jvm.Cond.methodLink "WakegroundModel" (183 : Nat) ({ cls := "WakegroundModel", name := "lakeOf", desc := "(I)I" } : Jvm.MethodName)) ∈ lw_all := lw_g (lw_at lw_m5 159 rfl) rfl
theorem q1154 : (Jvm.Cond.privateMethod ({ cls := "WakegroundModel", name := "lakeOf", desc := "(I)I" } : Jvm.MethodName)) ∈ lw_tbl := lw_at lw_m5 160 rfl
theorem q1155 : (Jvm.Cond.instanceMethod ({ cls := "WakegroundModel", name := "lakeOf", desc := "(I)I" } : Jvm.MethodName)) ∈ lw_all := lw_g (lw_at lw_m5 161 rfl) rfl
theorem q1156 : (Jvm.Cond.code ({ cls := "WakegroundModel", name := "lakeOf", desc := "(I)I" } : Jvm.MethodName) prog_10_method_32_code (4 : Nat) (Option.some Jvm.ClassFile.FieldType.int)) ∈ lw_all := lw_g (lw_at lw_m5 162 rfl) rfl
theorem q1157 : (Jvm.Cond.methodLink "WakegroundModel" (186 : Nat) ({ cls := "WakegroundModel", name := "thawed", desc := "(I)I" } : Jvm.MethodName)) ∈ lw_all := lw_g (lw_at lw_m5 163 rfl) rfl
theorem q1158 : (Jvm.Cond.privateMethod ({ cls := "WakegroundModel", name := "thawed", desc := "(I)I" } : Jvm.MethodName)) ∈ lw_tbl := lw_at lw_m5 164 rfl
theorem q1159 : (Jvm.Cond.instanceMethod ({ cls := "WakegroundModel", name := "thawed", desc := "(I)I" } : Jvm.MethodName)) ∈ lw_all := lw_g (lw_at lw_m5 165 rfl) rfl
theorem q1160 : (Jvm.Cond.code ({ cls := "WakegroundModel", name := "thawed", desc := "(I)I" } : Jvm.MethodName) prog_10_method_33_code (3 : Nat) (Option.some Jvm.ClassFile.FieldType.int)) ∈ lw_all := lw_g (lw_at lw_m5 166 rfl) rfl
theorem q1162 : (Jvm.Cond.instanceMethod ({ cls := "WakegroundModel", name := "layerOf", desc := "(III)I" } : Jvm.MethodName)) ∈ lw_all := lw_g (lw_at lw_m5 168 rfl) rfl
theorem q1163 : (Jvm.Cond.selects "WakegroundModel" ({ cls := "WakegroundModel", name := "layerOf", desc := "(III)I" } : Jvm.MethodName) ({ cls := "WakegroundModel", name := "layerOf", desc := "(III)I" } : Jvm.MethodName)) ∈ lw_all := lw_g (lw_at lw_m5 169 rfl) rfl
theorem q1164 : (Jvm.Cond.code ({ cls := "WakegroundModel", name := "layerOf", desc := "(III)I" } : Jvm.MethodName) prog_10_method_35_code (6 : Nat) (Option.some Jvm.ClassFile.FieldType.int)) ∈ lw_all := lw_g (lw_at lw_m5 170 rfl) rfl
theorem q1166 : (Jvm.Cond.instanceMethod ({ cls := "WakegroundModel", name := "neighbour", desc := "(II)I" } : Jvm.MethodName)) ∈ lw_all := lw_g (lw_at lw_m5 172 rfl) rfl
theorem q1167 : (Jvm.Cond.selects "WakegroundModel" ({ cls := "WakegroundModel", name := "neighbour", desc := "(II)I" } : Jvm.MethodName) ({ cls := "WakegroundModel", name := "neighbour", desc := "(II)I" } : Jvm.MethodName)) ∈ lw_all := lw_g (lw_at lw_m5 173 rfl) rfl
theorem q1168 : (Jvm.Cond.code ({ cls := "WakegroundModel", name := "neighbour", desc := "(II)I" } : Jvm.MethodName) prog_10_method_36_code (7 : Nat) (Option.some Jvm.ClassFile.FieldType.int)) ∈ lw_all := lw_g (lw_at lw_m5 174 rfl) rfl
theorem q1170 : (Jvm.Cond.instanceMethod ({ cls := "WakegroundModel", name := "lakes", desc := "()I" } : Jvm.MethodName)) ∈ lw_all := lw_g (lw_at lw_m5 176 rfl) rfl
theorem q1171 : (Jvm.Cond.selects "WakegroundModel" ({ cls := "WakegroundModel", name := "lakes", desc := "()I" } : Jvm.MethodName) ({ cls := "WakegroundModel", name := "lakes", desc := "()I" } : Jvm.MethodName)) ∈ lw_all := lw_g (lw_at lw_m5 177 rfl) rfl
theorem q1172 : (Jvm.Cond.code ({ cls := "WakegroundModel", name := "lakes", desc := "()I" } : Jvm.MethodName) prog_10_method_37_code (5 : Nat) (Option.some Jvm.ClassFile.FieldType.int)) ∈ lw_all := lw_g (lw_at lw_m5 178 rfl) rfl
theorem q1174 : (Jvm.Cond.instanceMethod ({ cls := "WakegroundModel", name := "houseOf", desc := "(II)I" } : Jvm.MethodName)) ∈ lw_all := lw_g (lw_at lw_m5 180 rfl) rfl
theorem q1175 : (Jvm.Cond.selects "WakegroundModel" ({ cls := "WakegroundModel", name := "houseOf", desc := "(II)I" } : Jvm.MethodName) ({ cls := "WakegroundModel", name := "houseOf", desc := "(II)I" } : Jvm.MethodName)) ∈ lw_all := lw_g (lw_at lw_m5 181 rfl) rfl
theorem q1176 : (Jvm.Cond.code ({ cls := "WakegroundModel", name := "houseOf", desc := "(II)I" } : Jvm.MethodName) prog_10_method_38_code (3 : Nat) (Option.some Jvm.ClassFile.FieldType.int)) ∈ lw_all := lw_g (lw_at lw_m5 182 rfl) rfl
theorem q1178 : (Jvm.Cond.instanceMethod ({ cls := "WakegroundModel", name := "reading", desc := "(III)I" } : Jvm.MethodName)) ∈ lw_all := lw_g (lw_at lw_m5 184 rfl) rfl
theorem q1179 : (Jvm.Cond.selects "WakegroundModel" ({ cls := "WakegroundModel", name := "reading", desc := "(III)I" } : Jvm.MethodName) ({ cls := "WakegroundModel", name := "reading", desc := "(III)I" } : Jvm.MethodName)) ∈ lw_all := lw_g (lw_at lw_m5 185 rfl) rfl
theorem q1180 : (Jvm.Cond.code ({ cls := "WakegroundModel", name := "reading", desc := "(III)I" } : Jvm.MethodName) prog_10_method_39_code (5 : Nat) (Option.some Jvm.ClassFile.FieldType.int)) ∈ lw_all := lw_g (lw_at lw_m5 186 rfl) rfl
theorem q1182 : (Jvm.Cond.instanceMethod ({ cls := "WakegroundModel", name := "claimOf", desc := "(I)I" } : Jvm.MethodName)) ∈ lw_all := lw_g (lw_at lw_m5 188 rfl) rfl
theorem q1183 : (Jvm.Cond.selects "WakegroundModel" ({ cls := "WakegroundModel", name := "claimOf", desc := "(I)I" } : Jvm.MethodName) ({ cls := "WakegroundModel", name := "claimOf", desc := "(I)I" } : Jvm.MethodName)) ∈ lw_all := lw_g (lw_at lw_m5 189 rfl) rfl
theorem q1184 : (Jvm.Cond.code ({ cls := "WakegroundModel", name := "claimOf", desc := "(I)I" } : Jvm.MethodName) prog_10_method_40_code (2 : Nat) (Option.some Jvm.ClassFile.FieldType.int)) ∈ lw_all := lw_g (lw_at lw_m5 190 rfl) rfl
theorem q1186 : (Jvm.Cond.instanceMethod ({ cls := "WakegroundModel", name := "claimAnew", desc := "(I)I" } : Jvm.MethodName)) ∈ lw_all := lw_g (lw_at lw_m5 192 rfl) rfl
theorem q1187 : (Jvm.Cond.selects "WakegroundModel" ({ cls := "WakegroundModel", name := "claimAnew", desc := "(I)I" } : Jvm.MethodName) ({ cls := "WakegroundModel", name := "claimAnew", desc := "(I)I" } : Jvm.MethodName)) ∈ lw_all := lw_g (lw_at lw_m5 193 rfl) rfl
theorem q1188 : (Jvm.Cond.code ({ cls := "WakegroundModel", name := "claimAnew", desc := "(I)I" } : Jvm.MethodName) prog_10_method_41_code (2 : Nat) (Option.some Jvm.ClassFile.FieldType.int)) ∈ lw_all := lw_g (lw_at lw_m5 194 rfl) rfl
theorem q1189 : (Jvm.Cond.methodLink "WakegroundModel" (189 : Nat) ({ cls := "WakegroundModel", name := "claimOf", desc := "(I)I" } : Jvm.MethodName)) ∈ lw_all := lw_g (lw_at lw_m5 195 rfl) rfl
theorem q1191 : (Jvm.Cond.instanceMethod ({ cls := "WakegroundModel", name := "balance", desc := "(II)J" } : Jvm.MethodName)) ∈ lw_all := lw_g (lw_at lw_m5 197 rfl) rfl
theorem q1192 : (Jvm.Cond.selects "WakegroundModel" ({ cls := "WakegroundModel", name := "balance", desc := "(II)J" } : Jvm.MethodName) ({ cls := "WakegroundModel", name := "balance", desc := "(II)J" } : Jvm.MethodName)) ∈ lw_all := lw_g (lw_at lw_m5 198 rfl) rfl
theorem q1193 : (Jvm.Cond.code ({ cls := "WakegroundModel", name := "balance", desc := "(II)J" } : Jvm.MethodName) prog_10_method_43_code (7 : Nat) (Option.some Jvm.ClassFile.FieldType.long)) ∈ lw_all := lw_g (lw_at lw_m5 199 rfl) rfl
theorem q1194 : (Jvm.Cond.methodLink "WakegroundModel" (192 : Nat) ({ cls := "WakegroundModel", name := "inLand", desc := "(I)J" } : Jvm.MethodName)) ∈ lw_all := lw_g (lw_at lw_m5 200 rfl) rfl
theorem q1195 : (Jvm.Cond.privateMethod ({ cls := "WakegroundModel", name := "inLand", desc := "(I)J" } : Jvm.MethodName)) ∈ lw_tbl := lw_at lw_m5 201 rfl
theorem q1196 : (Jvm.Cond.instanceMethod ({ cls := "WakegroundModel", name := "inLand", desc := "(I)J" } : Jvm.MethodName)) ∈ lw_all := lw_g (lw_at lw_m5 202 rfl) rfl
theorem q1197 : (Jvm.Cond.code ({ cls := "WakegroundModel", name := "inLand", desc := "(I)J" } : Jvm.MethodName) prog_10_method_42_code (5 : Nat) (Option.some Jvm.ClassFile.FieldType.long)) ∈ lw_all := lw_g (lw_at lw_m5 203 rfl) rfl
theorem q1199 : (Jvm.Cond.instanceMethod ({ cls := "WakegroundModel", name := "air", desc := "(I)J" } : Jvm.MethodName)) ∈ lw_all := lw_g (lw_at lw_m5 205 rfl) rfl
theorem q1200 : (Jvm.Cond.selects "WakegroundModel" ({ cls := "WakegroundModel", name := "air", desc := "(I)J" } : Jvm.MethodName) ({ cls := "WakegroundModel", name := "air", desc := "(I)J" } : Jvm.MethodName)) ∈ lw_all := lw_g (lw_at lw_m5 206 rfl) rfl
theorem q1201 : (Jvm.Cond.code ({ cls := "WakegroundModel", name := "air", desc := "(I)J" } : Jvm.MethodName) prog_10_method_44_code (2 : Nat) (Option.some Jvm.ClassFile.FieldType.long)) ∈ lw_all := lw_g (lw_at lw_m5 207 rfl) rfl
theorem q1212 : (Jvm.Cond.castable "WakegroundModel" "java/lang/Object") ∈ lw_tbl := lw_at lw_m5 218 rfl
theorem in_X4 : ∀ w ∈ wsX40, w ∈ lw_all := lw_in wsX40 [968, 970, 972, 974, 976, 978, 980, 982, 984, 986, 988, 990, 992, 994, 996, 998, 1000, 1002, 1004, 1006, 1008, 1010, 1012, 1014, 1016, 1018, 1020, 1022, 1024, 1026, 1028, 1030] (by decide +kernel) (by decide +kernel)
