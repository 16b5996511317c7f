/-! Wakeground$Cell -/
set_option maxRecDepth 100000
def RX2 : String := "Wakeground$Cell"
def TX2 : u_T := fun k => match k with
  | 0 => ("Wakeground$Cell", "number", "I", true)
  | 1 => ("Wakeground$Cell", "layers", "[LWakeground$Layer;", true)
  | 2 => ("Wakeground$Cell", "height", "I", false)
  | 3 => ("Wakeground$Cell", "water", "I", false)
  | 4 => ("Wakeground$Cell", "snow", "I", false)
  | 5 => ("Wakeground$Cell", "moss", "I", false)
  | 6 => ("Wakeground$Cell", "wedges", "I", false)
  | 7 => ("Wakeground$Cell", "house", "LWakeground$House;", false)
  | _ => ("Wakeground$Cell", "this$0", "LWakeground;", true)
def tyX2 : Nat → FieldType := fun k => match k with
  | 0 => .int
  | 1 => .array (.object "Wakeground$Layer")
  | 2 => .int
  | 3 => .int
  | 4 => .int
  | 5 => .int
  | 6 => .int
  | 7 => .object "Wakeground$House"
  | _ => .object "Wakeground"
abbrev wsX20 : List Cond := u_ws RX2 TX2 9
theorem nmX2 : ∀ a, a < 9 → ∀ b, b < 9 → a ≠ b → (TX2 a).2.1 ≠ (TX2 b).2.1 := by decide +kernel
theorem tyX2_ok : ∀ k, k < 9 → parseFieldDescriptor (TX2 k).2.2.1 = some (tyX2 k) := by decide +kernel
abbrev cX2_init : ByteArray := prog_4_method_1_code
def yX2_init : MethodName := ⟨RX2, "<init>", "(LWakeground;I)V"⟩
def dkwX2_init_3 : List UInt8 := [167, 0, 13, 29, 5, 160, 0, 7, 6, 167, 0, 4, 3, 181, 0, 32, 132, 3, 1, 167, 255, 202, 177]
abbrev dktX2_init_3 : List UInt8 := dkwX2_init_3 ++ []
def dkwX2_init_2 : List UInt8 := [89, 183, 0, 31, 83, 42, 180, 0, 17, 29, 50, 29, 4, 159, 0, 8, 29, 6, 160, 0, 7, 5]
abbrev dktX2_init_2 : List UInt8 := dkwX2_init_2 ++ dktX2_init_3
def dkwX2_init_1 : List UInt8 := [5, 181, 0, 25, 42, 28, 181, 0, 28, 3, 62, 29, 8, 162, 0, 55, 42, 180, 0, 17, 29, 187, 0, 15]
abbrev dktX2_init_1 : List UInt8 := dkwX2_init_1 ++ dktX2_init_2
def dkwX2_init_0 : List UInt8 := [42, 43, 181, 0, 3, 42, 183, 0, 9, 42, 8, 189, 0, 15, 181, 0, 17, 42, 16, 100, 181, 0, 21, 42]
abbrev dktX2_init_0 : List UInt8 := dkwX2_init_0 ++ dktX2_init_1
theorem dksX2_init_0 : cX2_init.data.toList.drop 0 = dktX2_init_0 := by decide +kernel
theorem dksX2_init_1 : cX2_init.data.toList.drop 24 = dktX2_init_1 := dk_seg dksX2_init_0 24 rfl rfl
theorem dksX2_init_2 : cX2_init.data.toList.drop 48 = dktX2_init_2 := dk_seg dksX2_init_1 24 rfl rfl
theorem dksX2_init_3 : cX2_init.data.toList.drop 70 = dktX2_init_3 := dk_seg dksX2_init_2 22 rfl rfl
theorem dX2_init_0 : decode cX2_init 0 = .ok (.aload_n 0, 1) := dk_42 (dk_at dksX2_init_0 0 rfl rfl)
theorem dX2_init_1 : decode cX2_init 1 = .ok (.aload_n 1, 1) := dk_43 (dk_at dksX2_init_0 1 rfl rfl)
theorem dX2_init_2 : decode cX2_init 2 = .ok (.putfield 3, 3) := dk_181 0 3 (dk_at dksX2_init_0 2 rfl rfl)
theorem dX2_init_5 : decode cX2_init 5 = .ok (.aload_n 0, 1) := dk_42 (dk_at dksX2_init_0 5 rfl rfl)
theorem dX2_init_6 : decode cX2_init 6 = .ok (.invokespecial 9, 3) := dk_183 0 9 (dk_at dksX2_init_0 6 rfl rfl)
theorem dX2_init_9 : decode cX2_init 9 = .ok (.aload_n 0, 1) := dk_42 (dk_at dksX2_init_0 9 rfl rfl)
theorem dX2_init_10 : decode cX2_init 10 = .ok (.iconst 5, 1) := dk_8 (dk_at dksX2_init_0 10 rfl rfl)
theorem dX2_init_11 : decode cX2_init 11 = .ok (.anewarray 15, 3) := dk_189 0 15 (dk_at dksX2_init_0 11 rfl rfl)
theorem dX2_init_14 : decode cX2_init 14 = .ok (.putfield 17, 3) := dk_181 0 17 (dk_at dksX2_init_0 14 rfl rfl)
theorem dX2_init_17 : decode cX2_init 17 = .ok (.aload_n 0, 1) := dk_42 (dk_at dksX2_init_0 17 rfl rfl)
theorem dX2_init_18 : decode cX2_init 18 = .ok (.bipush 100, 2) := dk_16 100 (dk_at dksX2_init_0 18 rfl rfl)
theorem dX2_init_20 : decode cX2_init 20 = .ok (.putfield 21, 3) := dk_181 0 21 (dk_at dksX2_init_0 20 rfl rfl)
theorem dX2_init_23 : decode cX2_init 23 = .ok (.aload_n 0, 1) := dk_42 (dk_at dksX2_init_0 23 rfl rfl)
theorem dX2_init_24 : decode cX2_init 24 = .ok (.iconst 2, 1) := dk_5 (dk_at dksX2_init_1 0 rfl rfl)
theorem dX2_init_25 : decode cX2_init 25 = .ok (.putfield 25, 3) := dk_181 0 25 (dk_at dksX2_init_1 1 rfl rfl)
theorem dX2_init_28 : decode cX2_init 28 = .ok (.aload_n 0, 1) := dk_42 (dk_at dksX2_init_1 4 rfl rfl)
theorem dX2_init_29 : decode cX2_init 29 = .ok (.iload_n 2, 1) := dk_28 (dk_at dksX2_init_1 5 rfl rfl)
theorem dX2_init_30 : decode cX2_init 30 = .ok (.putfield 28, 3) := dk_181 0 28 (dk_at dksX2_init_1 6 rfl rfl)
theorem dX2_init_33 : decode cX2_init 33 = .ok (.iconst 0, 1) := dk_3 (dk_at dksX2_init_1 9 rfl rfl)
theorem dX2_init_34 : decode cX2_init 34 = .ok (.istore_n 3, 1) := dk_62 (dk_at dksX2_init_1 10 rfl rfl)
theorem dX2_init_35 : decode cX2_init 35 = .ok (.iload_n 3, 1) := dk_29 (dk_at dksX2_init_1 11 rfl rfl)
theorem dX2_init_36 : decode cX2_init 36 = .ok (.iconst 5, 1) := dk_8 (dk_at dksX2_init_1 12 rfl rfl)
theorem dX2_init_37 : decode cX2_init 37 = .ok (.if_icmp .ge 55, 3) := dk_162 0 55 (dk_at dksX2_init_1 13 rfl rfl)
theorem dX2_init_40 : decode cX2_init 40 = .ok (.aload_n 0, 1) := dk_42 (dk_at dksX2_init_1 16 rfl rfl)
theorem dX2_init_41 : decode cX2_init 41 = .ok (.getfield 17, 3) := dk_180 0 17 (dk_at dksX2_init_1 17 rfl rfl)
theorem dX2_init_44 : decode cX2_init 44 = .ok (.iload_n 3, 1) := dk_29 (dk_at dksX2_init_1 20 rfl rfl)
theorem dX2_init_45 : decode cX2_init 45 = .ok (.new 15, 3) := dk_187 0 15 (dk_at dksX2_init_1 21 rfl rfl)
theorem dX2_init_48 : decode cX2_init 48 = .ok (.dup, 1) := dk_89 (dk_at dksX2_init_2 0 rfl rfl)
theorem dX2_init_49 : decode cX2_init 49 = .ok (.invokespecial 31, 3) := dk_183 0 31 (dk_at dksX2_init_2 1 rfl rfl)
theorem dX2_init_52 : decode cX2_init 52 = .ok (.aastore, 1) := dk_83 (dk_at dksX2_init_2 4 rfl rfl)
theorem dX2_init_53 : decode cX2_init 53 = .ok (.aload_n 0, 1) := dk_42 (dk_at dksX2_init_2 5 rfl rfl)
theorem dX2_init_54 : decode cX2_init 54 = .ok (.getfield 17, 3) := dk_180 0 17 (dk_at dksX2_init_2 6 rfl rfl)
theorem dX2_init_57 : decode cX2_init 57 = .ok (.iload_n 3, 1) := dk_29 (dk_at dksX2_init_2 9 rfl rfl)
theorem dX2_init_58 : decode cX2_init 58 = .ok (.aaload, 1) := dk_50 (dk_at dksX2_init_2 10 rfl rfl)
theorem dX2_init_59 : decode cX2_init 59 = .ok (.iload_n 3, 1) := dk_29 (dk_at dksX2_init_2 11 rfl rfl)
theorem dX2_init_60 : decode cX2_init 60 = .ok (.iconst 1, 1) := dk_4 (dk_at dksX2_init_2 12 rfl rfl)
theorem dX2_init_61 : decode cX2_init 61 = .ok (.if_icmp .eq 8, 3) := dk_159 0 8 (dk_at dksX2_init_2 13 rfl rfl)
theorem dX2_init_64 : decode cX2_init 64 = .ok (.iload_n 3, 1) := dk_29 (dk_at dksX2_init_2 16 rfl rfl)
theorem dX2_init_65 : decode cX2_init 65 = .ok (.iconst 3, 1) := dk_6 (dk_at dksX2_init_2 17 rfl rfl)
theorem dX2_init_66 : decode cX2_init 66 = .ok (.if_icmp .ne 7, 3) := dk_160 0 7 (dk_at dksX2_init_2 18 rfl rfl)
theorem dX2_init_69 : decode cX2_init 69 = .ok (.iconst 2, 1) := dk_5 (dk_at dksX2_init_2 21 rfl rfl)
theorem dX2_init_70 : decode cX2_init 70 = .ok (.goto 13, 3) := dk_167 0 13 (dk_at dksX2_init_3 0 rfl rfl)
theorem dX2_init_73 : decode cX2_init 73 = .ok (.iload_n 3, 1) := dk_29 (dk_at dksX2_init_3 3 rfl rfl)
theorem dX2_init_74 : decode cX2_init 74 = .ok (.iconst 2, 1) := dk_5 (dk_at dksX2_init_3 4 rfl rfl)
theorem dX2_init_75 : decode cX2_init 75 = .ok (.if_icmp .ne 7, 3) := dk_160 0 7 (dk_at dksX2_init_3 5 rfl rfl)
theorem dX2_init_78 : decode cX2_init 78 = .ok (.iconst 3, 1) := dk_6 (dk_at dksX2_init_3 8 rfl rfl)
theorem dX2_init_79 : decode cX2_init 79 = .ok (.goto 4, 3) := dk_167 0 4 (dk_at dksX2_init_3 9 rfl rfl)
theorem dX2_init_82 : decode cX2_init 82 = .ok (.iconst 0, 1) := dk_3 (dk_at dksX2_init_3 12 rfl rfl)
theorem dX2_init_83 : decode cX2_init 83 = .ok (.putfield 32, 3) := dk_181 0 32 (dk_at dksX2_init_3 13 rfl rfl)
theorem dX2_init_86 : decode cX2_init 86 = .ok (.iinc 3 1, 3) := dk_132 3 1 (dk_at dksX2_init_3 16 rfl rfl)
theorem dX2_init_89 : decode cX2_init 89 = .ok (.goto (-54), 3) := dk_167 255 202 (dk_at dksX2_init_3 19 rfl rfl)
theorem dX2_init_92 : decode cX2_init 92 = .ok (.return_, 1) := dk_177 (dk_at dksX2_init_3 22 rfl rfl)
abbrev cX2_isLake : ByteArray := prog_4_method_2_code
def yX2_isLake : MethodName := ⟨RX2, "isLake", "()Z"⟩
def dkwX2_isLake_0 : List UInt8 := [42, 180, 0, 35, 6, 161, 0, 7, 4, 167, 0, 4, 3, 172]
abbrev dktX2_isLake_0 : List UInt8 := dkwX2_isLake_0 ++ []
theorem dksX2_isLake_0 : cX2_isLake.data.toList.drop 0 = dktX2_isLake_0 := by decide +kernel
theorem dX2_isLake_0 : decode cX2_isLake 0 = .ok (.aload_n 0, 1) := dk_42 (dk_at dksX2_isLake_0 0 rfl rfl)
theorem dX2_isLake_1 : decode cX2_isLake 1 = .ok (.getfield 35, 3) := dk_180 0 35 (dk_at dksX2_isLake_0 1 rfl rfl)
theorem dX2_isLake_4 : decode cX2_isLake 4 = .ok (.iconst 3, 1) := dk_6 (dk_at dksX2_isLake_0 4 rfl rfl)
theorem dX2_isLake_5 : decode cX2_isLake 5 = .ok (.if_icmp .lt 7, 3) := dk_161 0 7 (dk_at dksX2_isLake_0 5 rfl rfl)
theorem dX2_isLake_8 : decode cX2_isLake 8 = .ok (.iconst 1, 1) := dk_4 (dk_at dksX2_isLake_0 8 rfl rfl)
theorem dX2_isLake_9 : decode cX2_isLake 9 = .ok (.goto 4, 3) := dk_167 0 4 (dk_at dksX2_isLake_0 9 rfl rfl)
theorem dX2_isLake_12 : decode cX2_isLake 12 = .ok (.iconst 0, 1) := dk_3 (dk_at dksX2_isLake_0 12 rfl rfl)
theorem dX2_isLake_13 : decode cX2_isLake 13 = .ok (.ireturn, 1) := dk_172 (dk_at dksX2_isLake_0 13 rfl rfl)
abbrev cX2_lead : ByteArray := prog_4_method_5_code
def yX2_lead : MethodName := ⟨RX2, "lead", "(I)I"⟩
def dkwX2_lead_7 : List UInt8 := [180, 0, 67, 16, 10, 96, 181, 0, 67, 29, 21, 4, 96, 16, 10, 96, 172]
abbrev dktX2_lead_7 : List UInt8 := dkwX2_lead_7 ++ []
def dkwX2_lead_6 : List UInt8 := [50, 89, 180, 0, 67, 21, 7, 96, 181, 0, 67, 132, 5, 1, 167, 255, 191, 42, 180, 0, 17, 7, 50, 89]
abbrev dktX2_lead_6 : List UInt8 := dkwX2_lead_6 ++ dktX2_lead_7
def dkwX2_lead_5 : List UInt8 := [180, 0, 17, 21, 5, 4, 100, 50, 89, 180, 0, 67, 21, 7, 100, 181, 0, 67, 42, 180, 0, 17, 21, 5]
abbrev dktX2_lead_5 : List UInt8 := dkwX2_lead_5 ++ dktX2_lead_6
def dkwX2_lead_4 : List UInt8 := [162, 0, 65, 42, 21, 5, 182, 0, 42, 54, 6, 16, 20, 28, 21, 6, 100, 104, 54, 7, 21, 6, 61, 42]
abbrev dktX2_lead_4 : List UInt8 := dkwX2_lead_4 ++ dktX2_lead_5
def dkwX2_lead_3 : List UInt8 := [180, 0, 17, 3, 50, 89, 180, 0, 67, 29, 21, 4, 96, 96, 181, 0, 67, 4, 54, 5, 21, 5, 8]
abbrev dktX2_lead_3 : List UInt8 := dkwX2_lead_3 ++ dktX2_lead_4
def dkwX2_lead_2 : List UInt8 := [42, 180, 0, 58, 199, 0, 7, 3, 167, 0, 11, 42, 180, 0, 58, 27, 182, 0, 62, 54, 4, 42]
abbrev dktX2_lead_2 : List UInt8 := dkwX2_lead_2 ++ dktX2_lead_3
def dkwX2_lead_1 : List UInt8 := [167, 0, 23, 16, 60, 5, 42, 180, 0, 55, 96, 5, 42, 180, 0, 25, 104, 96, 108, 27, 28, 100, 104, 62]
abbrev dktX2_lead_1 : List UInt8 := dkwX2_lead_1 ++ dktX2_lead_2
def dkwX2_lead_0 : List UInt8 := [42, 3, 182, 0, 42, 61, 42, 182, 0, 45, 153, 0, 16, 16, 30, 3, 27, 184, 0, 49, 28, 100, 104]
abbrev dktX2_lead_0 : List UInt8 := dkwX2_lead_0 ++ dktX2_lead_1
theorem dksX2_lead_0 : cX2_lead.data.toList.drop 0 = dktX2_lead_0 := by decide +kernel
theorem dksX2_lead_1 : cX2_lead.data.toList.drop 23 = dktX2_lead_1 := dk_seg dksX2_lead_0 23 rfl rfl
theorem dksX2_lead_2 : cX2_lead.data.toList.drop 47 = dktX2_lead_2 := dk_seg dksX2_lead_1 24 rfl rfl
theorem dksX2_lead_3 : cX2_lead.data.toList.drop 69 = dktX2_lead_3 := dk_seg dksX2_lead_2 22 rfl rfl
theorem dksX2_lead_4 : cX2_lead.data.toList.drop 92 = dktX2_lead_4 := dk_seg dksX2_lead_3 23 rfl rfl
theorem dksX2_lead_5 : cX2_lead.data.toList.drop 116 = dktX2_lead_5 := dk_seg dksX2_lead_4 24 rfl rfl
theorem dksX2_lead_6 : cX2_lead.data.toList.drop 140 = dktX2_lead_6 := dk_seg dksX2_lead_5 24 rfl rfl
theorem dksX2_lead_7 : cX2_lead.data.toList.drop 164 = dktX2_lead_7 := dk_seg dksX2_lead_6 24 rfl rfl
theorem dX2_lead_0 : decode cX2_lead 0 = .ok (.aload_n 0, 1) := dk_42 (dk_at dksX2_lead_0 0 rfl rfl)
theorem dX2_lead_1 : decode cX2_lead 1 = .ok (.iconst 0, 1) := dk_3 (dk_at dksX2_lead_0 1 rfl rfl)
theorem dX2_lead_2 : decode cX2_lead 2 = .ok (.invokevirtual 42, 3) := dk_182 0 42 (dk_at dksX2_lead_0 2 rfl rfl)
theorem dX2_lead_5 : decode cX2_lead 5 = .ok (.istore_n 2, 1) := dk_61 (dk_at dksX2_lead_0 5 rfl rfl)
theorem dX2_lead_6 : decode cX2_lead 6 = .ok (.aload_n 0, 1) := dk_42 (dk_at dksX2_lead_0 6 rfl rfl)
theorem dX2_lead_7 : decode cX2_lead 7 = .ok (.invokevirtual 45, 3) := dk_182 0 45 (dk_at dksX2_lead_0 7 rfl rfl)
theorem dX2_lead_10 : decode cX2_lead 10 = .ok (.ifCond .eq 16, 3) := dk_153 0 16 (dk_at dksX2_lead_0 10 rfl rfl)
theorem dX2_lead_13 : decode cX2_lead 13 = .ok (.bipush 30, 2) := dk_16 30 (dk_at dksX2_lead_0 13 rfl rfl)
theorem dX2_lead_15 : decode cX2_lead 15 = .ok (.iconst 0, 1) := dk_3 (dk_at dksX2_lead_0 15 rfl rfl)
theorem dX2_lead_16 : decode cX2_lead 16 = .ok (.iload_n 1, 1) := dk_27 (dk_at dksX2_lead_0 16 rfl rfl)
theorem dX2_lead_17 : decode cX2_lead 17 = .ok (.invokestatic 49, 3) := dk_184 0 49 (dk_at dksX2_lead_0 17 rfl rfl)
theorem dX2_lead_20 : decode cX2_lead 20 = .ok (.iload_n 2, 1) := dk_28 (dk_at dksX2_lead_0 20 rfl rfl)
theorem dX2_lead_21 : decode cX2_lead 21 = .ok (.isub, 1) := dk_100 (dk_at dksX2_lead_0 21 rfl rfl)
theorem dX2_lead_22 : decode cX2_lead 22 = .ok (.imul, 1) := dk_104 (dk_at dksX2_lead_0 22 rfl rfl)
theorem dX2_lead_23 : decode cX2_lead 23 = .ok (.goto 23, 3) := dk_167 0 23 (dk_at dksX2_lead_1 0 rfl rfl)
theorem dX2_lead_26 : decode cX2_lead 26 = .ok (.bipush 60, 2) := dk_16 60 (dk_at dksX2_lead_1 3 rfl rfl)
theorem dX2_lead_28 : decode cX2_lead 28 = .ok (.iconst 2, 1) := dk_5 (dk_at dksX2_lead_1 5 rfl rfl)
theorem dX2_lead_29 : decode cX2_lead 29 = .ok (.aload_n 0, 1) := dk_42 (dk_at dksX2_lead_1 6 rfl rfl)
theorem dX2_lead_30 : decode cX2_lead 30 = .ok (.getfield 55, 3) := dk_180 0 55 (dk_at dksX2_lead_1 7 rfl rfl)
theorem dX2_lead_33 : decode cX2_lead 33 = .ok (.iadd, 1) := dk_96 (dk_at dksX2_lead_1 10 rfl rfl)
theorem dX2_lead_34 : decode cX2_lead 34 = .ok (.iconst 2, 1) := dk_5 (dk_at dksX2_lead_1 11 rfl rfl)
theorem dX2_lead_35 : decode cX2_lead 35 = .ok (.aload_n 0, 1) := dk_42 (dk_at dksX2_lead_1 12 rfl rfl)
theorem dX2_lead_36 : decode cX2_lead 36 = .ok (.getfield 25, 3) := dk_180 0 25 (dk_at dksX2_lead_1 13 rfl rfl)
theorem dX2_lead_39 : decode cX2_lead 39 = .ok (.imul, 1) := dk_104 (dk_at dksX2_lead_1 16 rfl rfl)
theorem dX2_lead_40 : decode cX2_lead 40 = .ok (.iadd, 1) := dk_96 (dk_at dksX2_lead_1 17 rfl rfl)
theorem dX2_lead_41 : decode cX2_lead 41 = .ok (.idiv, 1) := dk_108 (dk_at dksX2_lead_1 18 rfl rfl)
theorem dX2_lead_42 : decode cX2_lead 42 = .ok (.iload_n 1, 1) := dk_27 (dk_at dksX2_lead_1 19 rfl rfl)
theorem dX2_lead_43 : decode cX2_lead 43 = .ok (.iload_n 2, 1) := dk_28 (dk_at dksX2_lead_1 20 rfl rfl)
theorem dX2_lead_44 : decode cX2_lead 44 = .ok (.isub, 1) := dk_100 (dk_at dksX2_lead_1 21 rfl rfl)
theorem dX2_lead_45 : decode cX2_lead 45 = .ok (.imul, 1) := dk_104 (dk_at dksX2_lead_1 22 rfl rfl)
theorem dX2_lead_46 : decode cX2_lead 46 = .ok (.istore_n 3, 1) := dk_62 (dk_at dksX2_lead_1 23 rfl rfl)
theorem dX2_lead_47 : decode cX2_lead 47 = .ok (.aload_n 0, 1) := dk_42 (dk_at dksX2_lead_2 0 rfl rfl)
theorem dX2_lead_48 : decode cX2_lead 48 = .ok (.getfield 58, 3) := dk_180 0 58 (dk_at dksX2_lead_2 1 rfl rfl)
theorem dX2_lead_51 : decode cX2_lead 51 = .ok (.ifnonnull 7, 3) := dk_199 0 7 (dk_at dksX2_lead_2 4 rfl rfl)
theorem dX2_lead_54 : decode cX2_lead 54 = .ok (.iconst 0, 1) := dk_3 (dk_at dksX2_lead_2 7 rfl rfl)
theorem dX2_lead_55 : decode cX2_lead 55 = .ok (.goto 11, 3) := dk_167 0 11 (dk_at dksX2_lead_2 8 rfl rfl)
theorem dX2_lead_58 : decode cX2_lead 58 = .ok (.aload_n 0, 1) := dk_42 (dk_at dksX2_lead_2 11 rfl rfl)
theorem dX2_lead_59 : decode cX2_lead 59 = .ok (.getfield 58, 3) := dk_180 0 58 (dk_at dksX2_lead_2 12 rfl rfl)
theorem dX2_lead_62 : decode cX2_lead 62 = .ok (.iload_n 1, 1) := dk_27 (dk_at dksX2_lead_2 15 rfl rfl)
theorem dX2_lead_63 : decode cX2_lead 63 = .ok (.invokevirtual 62, 3) := dk_182 0 62 (dk_at dksX2_lead_2 16 rfl rfl)
theorem dX2_lead_66 : decode cX2_lead 66 = .ok (.istore 4, 2) := dk_54 4 (dk_at dksX2_lead_2 19 rfl rfl)
theorem dX2_lead_68 : decode cX2_lead 68 = .ok (.aload_n 0, 1) := dk_42 (dk_at dksX2_lead_2 21 rfl rfl)
theorem dX2_lead_69 : decode cX2_lead 69 = .ok (.getfield 17, 3) := dk_180 0 17 (dk_at dksX2_lead_3 0 rfl rfl)
theorem dX2_lead_72 : decode cX2_lead 72 = .ok (.iconst 0, 1) := dk_3 (dk_at dksX2_lead_3 3 rfl rfl)
theorem dX2_lead_73 : decode cX2_lead 73 = .ok (.aaload, 1) := dk_50 (dk_at dksX2_lead_3 4 rfl rfl)
theorem dX2_lead_74 : decode cX2_lead 74 = .ok (.dup, 1) := dk_89 (dk_at dksX2_lead_3 5 rfl rfl)
theorem dX2_lead_75 : decode cX2_lead 75 = .ok (.getfield 67, 3) := dk_180 0 67 (dk_at dksX2_lead_3 6 rfl rfl)
theorem dX2_lead_78 : decode cX2_lead 78 = .ok (.iload_n 3, 1) := dk_29 (dk_at dksX2_lead_3 9 rfl rfl)
theorem dX2_lead_79 : decode cX2_lead 79 = .ok (.iload 4, 2) := dk_21 4 (dk_at dksX2_lead_3 10 rfl rfl)
theorem dX2_lead_81 : decode cX2_lead 81 = .ok (.iadd, 1) := dk_96 (dk_at dksX2_lead_3 12 rfl rfl)
theorem dX2_lead_82 : decode cX2_lead 82 = .ok (.iadd, 1) := dk_96 (dk_at dksX2_lead_3 13 rfl rfl)
theorem dX2_lead_83 : decode cX2_lead 83 = .ok (.putfield 67, 3) := dk_181 0 67 (dk_at dksX2_lead_3 14 rfl rfl)
theorem dX2_lead_86 : decode cX2_lead 86 = .ok (.iconst 1, 1) := dk_4 (dk_at dksX2_lead_3 17 rfl rfl)
theorem dX2_lead_87 : decode cX2_lead 87 = .ok (.istore 5, 2) := dk_54 5 (dk_at dksX2_lead_3 18 rfl rfl)
theorem dX2_lead_89 : decode cX2_lead 89 = .ok (.iload 5, 2) := dk_21 5 (dk_at dksX2_lead_3 20 rfl rfl)
theorem dX2_lead_91 : decode cX2_lead 91 = .ok (.iconst 5, 1) := dk_8 (dk_at dksX2_lead_3 22 rfl rfl)
theorem dX2_lead_92 : decode cX2_lead 92 = .ok (.if_icmp .ge 65, 3) := dk_162 0 65 (dk_at dksX2_lead_4 0 rfl rfl)
theorem dX2_lead_95 : decode cX2_lead 95 = .ok (.aload_n 0, 1) := dk_42 (dk_at dksX2_lead_4 3 rfl rfl)
theorem dX2_lead_96 : decode cX2_lead 96 = .ok (.iload 5, 2) := dk_21 5 (dk_at dksX2_lead_4 4 rfl rfl)
theorem dX2_lead_98 : decode cX2_lead 98 = .ok (.invokevirtual 42, 3) := dk_182 0 42 (dk_at dksX2_lead_4 6 rfl rfl)
theorem dX2_lead_101 : decode cX2_lead 101 = .ok (.istore 6, 2) := dk_54 6 (dk_at dksX2_lead_4 9 rfl rfl)
theorem dX2_lead_103 : decode cX2_lead 103 = .ok (.bipush 20, 2) := dk_16 20 (dk_at dksX2_lead_4 11 rfl rfl)
theorem dX2_lead_105 : decode cX2_lead 105 = .ok (.iload_n 2, 1) := dk_28 (dk_at dksX2_lead_4 13 rfl rfl)
theorem dX2_lead_106 : decode cX2_lead 106 = .ok (.iload 6, 2) := dk_21 6 (dk_at dksX2_lead_4 14 rfl rfl)
theorem dX2_lead_108 : decode cX2_lead 108 = .ok (.isub, 1) := dk_100 (dk_at dksX2_lead_4 16 rfl rfl)
theorem dX2_lead_109 : decode cX2_lead 109 = .ok (.imul, 1) := dk_104 (dk_at dksX2_lead_4 17 rfl rfl)
theorem dX2_lead_110 : decode cX2_lead 110 = .ok (.istore 7, 2) := dk_54 7 (dk_at dksX2_lead_4 18 rfl rfl)
theorem dX2_lead_112 : decode cX2_lead 112 = .ok (.iload 6, 2) := dk_21 6 (dk_at dksX2_lead_4 20 rfl rfl)
theorem dX2_lead_114 : decode cX2_lead 114 = .ok (.istore_n 2, 1) := dk_61 (dk_at dksX2_lead_4 22 rfl rfl)
theorem dX2_lead_115 : decode cX2_lead 115 = .ok (.aload_n 0, 1) := dk_42 (dk_at dksX2_lead_4 23 rfl rfl)
theorem dX2_lead_116 : decode cX2_lead 116 = .ok (.getfield 17, 3) := dk_180 0 17 (dk_at dksX2_lead_5 0 rfl rfl)
theorem dX2_lead_119 : decode cX2_lead 119 = .ok (.iload 5, 2) := dk_21 5 (dk_at dksX2_lead_5 3 rfl rfl)
theorem dX2_lead_121 : decode cX2_lead 121 = .ok (.iconst 1, 1) := dk_4 (dk_at dksX2_lead_5 5 rfl rfl)
theorem dX2_lead_122 : decode cX2_lead 122 = .ok (.isub, 1) := dk_100 (dk_at dksX2_lead_5 6 rfl rfl)
theorem dX2_lead_123 : decode cX2_lead 123 = .ok (.aaload, 1) := dk_50 (dk_at dksX2_lead_5 7 rfl rfl)
theorem dX2_lead_124 : decode cX2_lead 124 = .ok (.dup, 1) := dk_89 (dk_at dksX2_lead_5 8 rfl rfl)
theorem dX2_lead_125 : decode cX2_lead 125 = .ok (.getfield 67, 3) := dk_180 0 67 (dk_at dksX2_lead_5 9 rfl rfl)
theorem dX2_lead_128 : decode cX2_lead 128 = .ok (.iload 7, 2) := dk_21 7 (dk_at dksX2_lead_5 12 rfl rfl)
theorem dX2_lead_130 : decode cX2_lead 130 = .ok (.isub, 1) := dk_100 (dk_at dksX2_lead_5 14 rfl rfl)
theorem dX2_lead_131 : decode cX2_lead 131 = .ok (.putfield 67, 3) := dk_181 0 67 (dk_at dksX2_lead_5 15 rfl rfl)
theorem dX2_lead_134 : decode cX2_lead 134 = .ok (.aload_n 0, 1) := dk_42 (dk_at dksX2_lead_5 18 rfl rfl)
theorem dX2_lead_135 : decode cX2_lead 135 = .ok (.getfield 17, 3) := dk_180 0 17 (dk_at dksX2_lead_5 19 rfl rfl)
theorem dX2_lead_138 : decode cX2_lead 138 = .ok (.iload 5, 2) := dk_21 5 (dk_at dksX2_lead_5 22 rfl rfl)
theorem dX2_lead_140 : decode cX2_lead 140 = .ok (.aaload, 1) := dk_50 (dk_at dksX2_lead_6 0 rfl rfl)
theorem dX2_lead_141 : decode cX2_lead 141 = .ok (.dup, 1) := dk_89 (dk_at dksX2_lead_6 1 rfl rfl)
theorem dX2_lead_142 : decode cX2_lead 142 = .ok (.getfield 67, 3) := dk_180 0 67 (dk_at dksX2_lead_6 2 rfl rfl)
theorem dX2_lead_145 : decode cX2_lead 145 = .ok (.iload 7, 2) := dk_21 7 (dk_at dksX2_lead_6 5 rfl rfl)
theorem dX2_lead_147 : decode cX2_lead 147 = .ok (.iadd, 1) := dk_96 (dk_at dksX2_lead_6 7 rfl rfl)
theorem dX2_lead_148 : decode cX2_lead 148 = .ok (.putfield 67, 3) := dk_181 0 67 (dk_at dksX2_lead_6 8 rfl rfl)
theorem dX2_lead_151 : decode cX2_lead 151 = .ok (.iinc 5 1, 3) := dk_132 5 1 (dk_at dksX2_lead_6 11 rfl rfl)
theorem dX2_lead_154 : decode cX2_lead 154 = .ok (.goto (-65), 3) := dk_167 255 191 (dk_at dksX2_lead_6 14 rfl rfl)
theorem dX2_lead_157 : decode cX2_lead 157 = .ok (.aload_n 0, 1) := dk_42 (dk_at dksX2_lead_6 17 rfl rfl)
theorem dX2_lead_158 : decode cX2_lead 158 = .ok (.getfield 17, 3) := dk_180 0 17 (dk_at dksX2_lead_6 18 rfl rfl)
theorem dX2_lead_161 : decode cX2_lead 161 = .ok (.iconst 4, 1) := dk_7 (dk_at dksX2_lead_6 21 rfl rfl)
theorem dX2_lead_162 : decode cX2_lead 162 = .ok (.aaload, 1) := dk_50 (dk_at dksX2_lead_6 22 rfl rfl)
theorem dX2_lead_163 : decode cX2_lead 163 = .ok (.dup, 1) := dk_89 (dk_at dksX2_lead_6 23 rfl rfl)
theorem dX2_lead_164 : decode cX2_lead 164 = .ok (.getfield 67, 3) := dk_180 0 67 (dk_at dksX2_lead_7 0 rfl rfl)
theorem dX2_lead_167 : decode cX2_lead 167 = .ok (.bipush 10, 2) := dk_16 10 (dk_at dksX2_lead_7 3 rfl rfl)
theorem dX2_lead_169 : decode cX2_lead 169 = .ok (.iadd, 1) := dk_96 (dk_at dksX2_lead_7 5 rfl rfl)
theorem dX2_lead_170 : decode cX2_lead 170 = .ok (.putfield 67, 3) := dk_181 0 67 (dk_at dksX2_lead_7 6 rfl rfl)
theorem dX2_lead_173 : decode cX2_lead 173 = .ok (.iload_n 3, 1) := dk_29 (dk_at dksX2_lead_7 9 rfl rfl)
theorem dX2_lead_174 : decode cX2_lead 174 = .ok (.iload 4, 2) := dk_21 4 (dk_at dksX2_lead_7 10 rfl rfl)
theorem dX2_lead_176 : decode cX2_lead 176 = .ok (.iadd, 1) := dk_96 (dk_at dksX2_lead_7 12 rfl rfl)
theorem dX2_lead_177 : decode cX2_lead 177 = .ok (.bipush 10, 2) := dk_16 10 (dk_at dksX2_lead_7 13 rfl rfl)
theorem dX2_lead_179 : decode cX2_lead 179 = .ok (.iadd, 1) := dk_96 (dk_at dksX2_lead_7 15 rfl rfl)
theorem dX2_lead_180 : decode cX2_lead 180 = .ok (.ireturn, 1) := dk_172 (dk_at dksX2_lead_7 16 rfl rfl)
abbrev cX2_temperature : ByteArray := prog_4_method_4_code
def yX2_temperature : MethodName := ⟨RX2, "temperature", "(I)I"⟩
def dkwX2_temperature_0 : List UInt8 := [42, 180, 0, 17, 27, 50, 182, 0, 38, 172]
abbrev dktX2_temperature_0 : List UInt8 := dkwX2_temperature_0 ++ []
theorem dksX2_temperature_0 : cX2_temperature.data.toList.drop 0 = dktX2_temperature_0 := by decide +kernel
theorem dX2_temperature_0 : decode cX2_temperature 0 = .ok (.aload_n 0, 1) := dk_42 (dk_at dksX2_temperature_0 0 rfl rfl)
theorem dX2_temperature_1 : decode cX2_temperature 1 = .ok (.getfield 17, 3) := dk_180 0 17 (dk_at dksX2_temperature_0 1 rfl rfl)
theorem dX2_temperature_4 : decode cX2_temperature 4 = .ok (.iload_n 1, 1) := dk_27 (dk_at dksX2_temperature_0 4 rfl rfl)
theorem dX2_temperature_5 : decode cX2_temperature 5 = .ok (.aaload, 1) := dk_50 (dk_at dksX2_temperature_0 5 rfl rfl)
theorem dX2_temperature_6 : decode cX2_temperature 6 = .ok (.invokevirtual 38, 3) := dk_182 0 38 (dk_at dksX2_temperature_0 6 rfl rfl)
theorem dX2_temperature_9 : decode cX2_temperature 9 = .ok (.ireturn, 1) := dk_172 (dk_at dksX2_temperature_0 9 rfl rfl)
abbrev cX2_melt : ByteArray := prog_4_method_6_code
def yX2_melt : MethodName := ⟨RX2, "melt", "()V"⟩
def dkwX2_melt_1 : List UInt8 := [181, 0, 21, 42, 89, 180, 0, 35, 28, 96, 181, 0, 35, 132, 1, 1, 167, 255, 218, 177]
abbrev dktX2_melt_1 : List UInt8 := dkwX2_melt_1 ++ []
def dkwX2_melt_0 : List UInt8 := [3, 60, 27, 8, 162, 0, 39, 42, 180, 0, 17, 27, 50, 182, 0, 70, 61, 42, 89, 180, 0, 21, 28, 100]
abbrev dktX2_melt_0 : List UInt8 := dkwX2_melt_0 ++ dktX2_melt_1
theorem dksX2_melt_0 : cX2_melt.data.toList.drop 0 = dktX2_melt_0 := by decide +kernel
theorem dksX2_melt_1 : cX2_melt.data.toList.drop 24 = dktX2_melt_1 := dk_seg dksX2_melt_0 24 rfl rfl
theorem dX2_melt_0 : decode cX2_melt 0 = .ok (.iconst 0, 1) := dk_3 (dk_at dksX2_melt_0 0 rfl rfl)
theorem dX2_melt_1 : decode cX2_melt 1 = .ok (.istore_n 1, 1) := dk_60 (dk_at dksX2_melt_0 1 rfl rfl)
theorem dX2_melt_2 : decode cX2_melt 2 = .ok (.iload_n 1, 1) := dk_27 (dk_at dksX2_melt_0 2 rfl rfl)
theorem dX2_melt_3 : decode cX2_melt 3 = .ok (.iconst 5, 1) := dk_8 (dk_at dksX2_melt_0 3 rfl rfl)
theorem dX2_melt_4 : decode cX2_melt 4 = .ok (.if_icmp .ge 39, 3) := dk_162 0 39 (dk_at dksX2_melt_0 4 rfl rfl)
theorem dX2_melt_7 : decode cX2_melt 7 = .ok (.aload_n 0, 1) := dk_42 (dk_at dksX2_melt_0 7 rfl rfl)
theorem dX2_melt_8 : decode cX2_melt 8 = .ok (.getfield 17, 3) := dk_180 0 17 (dk_at dksX2_melt_0 8 rfl rfl)
theorem dX2_melt_11 : decode cX2_melt 11 = .ok (.iload_n 1, 1) := dk_27 (dk_at dksX2_melt_0 11 rfl rfl)
theorem dX2_melt_12 : decode cX2_melt 12 = .ok (.aaload, 1) := dk_50 (dk_at dksX2_melt_0 12 rfl rfl)
theorem dX2_melt_13 : decode cX2_melt 13 = .ok (.invokevirtual 70, 3) := dk_182 0 70 (dk_at dksX2_melt_0 13 rfl rfl)
theorem dX2_melt_16 : decode cX2_melt 16 = .ok (.istore_n 2, 1) := dk_61 (dk_at dksX2_melt_0 16 rfl rfl)
theorem dX2_melt_17 : decode cX2_melt 17 = .ok (.aload_n 0, 1) := dk_42 (dk_at dksX2_melt_0 17 rfl rfl)
theorem dX2_melt_18 : decode cX2_melt 18 = .ok (.dup, 1) := dk_89 (dk_at dksX2_melt_0 18 rfl rfl)
theorem dX2_melt_19 : decode cX2_melt 19 = .ok (.getfield 21, 3) := dk_180 0 21 (dk_at dksX2_melt_0 19 rfl rfl)
theorem dX2_melt_22 : decode cX2_melt 22 = .ok (.iload_n 2, 1) := dk_28 (dk_at dksX2_melt_0 22 rfl rfl)
theorem dX2_melt_23 : decode cX2_melt 23 = .ok (.isub, 1) := dk_100 (dk_at dksX2_melt_0 23 rfl rfl)
theorem dX2_melt_24 : decode cX2_melt 24 = .ok (.putfield 21, 3) := dk_181 0 21 (dk_at dksX2_melt_1 0 rfl rfl)
theorem dX2_melt_27 : decode cX2_melt 27 = .ok (.aload_n 0, 1) := dk_42 (dk_at dksX2_melt_1 3 rfl rfl)
theorem dX2_melt_28 : decode cX2_melt 28 = .ok (.dup, 1) := dk_89 (dk_at dksX2_melt_1 4 rfl rfl)
theorem dX2_melt_29 : decode cX2_melt 29 = .ok (.getfield 35, 3) := dk_180 0 35 (dk_at dksX2_melt_1 5 rfl rfl)
theorem dX2_melt_32 : decode cX2_melt 32 = .ok (.iload_n 2, 1) := dk_28 (dk_at dksX2_melt_1 8 rfl rfl)
theorem dX2_melt_33 : decode cX2_melt 33 = .ok (.iadd, 1) := dk_96 (dk_at dksX2_melt_1 9 rfl rfl)
theorem dX2_melt_34 : decode cX2_melt 34 = .ok (.putfield 35, 3) := dk_181 0 35 (dk_at dksX2_melt_1 10 rfl rfl)
theorem dX2_melt_37 : decode cX2_melt 37 = .ok (.iinc 1 1, 3) := dk_132 1 1 (dk_at dksX2_melt_1 13 rfl rfl)
theorem dX2_melt_40 : decode cX2_melt 40 = .ok (.goto (-38), 3) := dk_167 255 218 (dk_at dksX2_melt_1 16 rfl rfl)
theorem dX2_melt_43 : decode cX2_melt 43 = .ok (.return_, 1) := dk_177 (dk_at dksX2_melt_1 19 rfl rfl)
abbrev cX2_flow : ByteArray := prog_4_method_7_code
def yX2_flow : MethodName := ⟨RX2, "flow", "()V"⟩
def dkwX2_flow_5 : List UInt8 := [181, 0, 35, 177]
abbrev dktX2_flow_5 : List UInt8 := dkwX2_flow_5 ++ []
def dkwX2_flow_4 : List UInt8 := [108, 184, 0, 99, 62, 42, 89, 180, 0, 35, 29, 100, 181, 0, 35, 43, 89, 180, 0, 35, 29, 96]
abbrev dktX2_flow_4 : List UInt8 := dkwX2_flow_4 ++ dktX2_flow_5
def dkwX2_flow_3 : List UInt8 := [182, 0, 96, 43, 182, 0, 96, 100, 61, 28, 5, 162, 0, 7, 3, 167, 0, 13, 42, 180, 0, 35, 28, 5]
abbrev dktX2_flow_3 : List UInt8 := dkwX2_flow_3 ++ dktX2_flow_4
def dkwX2_flow_2 : List UInt8 := [165, 0, 14, 45, 182, 0, 96, 43, 182, 0, 96, 162, 0, 7, 45, 167, 0, 4, 43, 76, 167, 255, 204, 42]
abbrev dktX2_flow_2 : List UInt8 := dkwX2_flow_2 ++ dktX2_flow_3
def dkwX2_flow_1 : List UInt8 := [180, 0, 3, 180, 0, 83, 44, 185, 0, 87, 1, 0, 192, 0, 91, 182, 0, 93, 50, 78, 43, 42]
abbrev dktX2_flow_1 : List UInt8 := dkwX2_flow_1 ++ dktX2_flow_2
def dkwX2_flow_0 : List UInt8 := [42, 76, 187, 0, 73, 89, 42, 180, 0, 28, 183, 0, 75, 77, 44, 185, 0, 78, 1, 0, 153, 0, 49, 42]
abbrev dktX2_flow_0 : List UInt8 := dkwX2_flow_0 ++ dktX2_flow_1
theorem dksX2_flow_0 : cX2_flow.data.toList.drop 0 = dktX2_flow_0 := by decide +kernel
theorem dksX2_flow_1 : cX2_flow.data.toList.drop 24 = dktX2_flow_1 := dk_seg dksX2_flow_0 24 rfl rfl
theorem dksX2_flow_2 : cX2_flow.data.toList.drop 46 = dktX2_flow_2 := dk_seg dksX2_flow_1 22 rfl rfl
theorem dksX2_flow_3 : cX2_flow.data.toList.drop 70 = dktX2_flow_3 := dk_seg dksX2_flow_2 24 rfl rfl
theorem dksX2_flow_4 : cX2_flow.data.toList.drop 94 = dktX2_flow_4 := dk_seg dksX2_flow_3 24 rfl rfl
theorem dksX2_flow_5 : cX2_flow.data.toList.drop 116 = dktX2_flow_5 := dk_seg dksX2_flow_4 22 rfl rfl
theorem dX2_flow_0 : decode cX2_flow 0 = .ok (.aload_n 0, 1) := dk_42 (dk_at dksX2_flow_0 0 rfl rfl)
theorem dX2_flow_1 : decode cX2_flow 1 = .ok (.astore_n 1, 1) := dk_76 (dk_at dksX2_flow_0 1 rfl rfl)
theorem dX2_flow_2 : decode cX2_flow 2 = .ok (.new 73, 3) := dk_187 0 73 (dk_at dksX2_flow_0 2 rfl rfl)
theorem dX2_flow_5 : decode cX2_flow 5 = .ok (.dup, 1) := dk_89 (dk_at dksX2_flow_0 5 rfl rfl)
theorem dX2_flow_6 : decode cX2_flow 6 = .ok (.aload_n 0, 1) := dk_42 (dk_at dksX2_flow_0 6 rfl rfl)
theorem dX2_flow_7 : decode cX2_flow 7 = .ok (.getfield 28, 3) := dk_180 0 28 (dk_at dksX2_flow_0 7 rfl rfl)
theorem dX2_flow_10 : decode cX2_flow 10 = .ok (.invokespecial 75, 3) := dk_183 0 75 (dk_at dksX2_flow_0 10 rfl rfl)
theorem dX2_flow_13 : decode cX2_flow 13 = .ok (.astore_n 2, 1) := dk_77 (dk_at dksX2_flow_0 13 rfl rfl)
theorem dX2_flow_14 : decode cX2_flow 14 = .ok (.aload_n 2, 1) := dk_44 (dk_at dksX2_flow_0 14 rfl rfl)
theorem dX2_flow_15 : decode cX2_flow 15 = .ok (.invokeinterface 78 1, 5) := by decide +kernel
theorem dX2_flow_20 : decode cX2_flow 20 = .ok (.ifCond .eq 49, 3) := dk_153 0 49 (dk_at dksX2_flow_0 20 rfl rfl)
theorem dX2_flow_23 : decode cX2_flow 23 = .ok (.aload_n 0, 1) := dk_42 (dk_at dksX2_flow_0 23 rfl rfl)
theorem dX2_flow_24 : decode cX2_flow 24 = .ok (.getfield 3, 3) := dk_180 0 3 (dk_at dksX2_flow_1 0 rfl rfl)
theorem dX2_flow_27 : decode cX2_flow 27 = .ok (.getfield 83, 3) := dk_180 0 83 (dk_at dksX2_flow_1 3 rfl rfl)
theorem dX2_flow_30 : decode cX2_flow 30 = .ok (.aload_n 2, 1) := dk_44 (dk_at dksX2_flow_1 6 rfl rfl)
theorem dX2_flow_31 : decode cX2_flow 31 = .ok (.invokeinterface 87 1, 5) := by decide +kernel
theorem dX2_flow_36 : decode cX2_flow 36 = .ok (.checkcast 91, 3) := dk_192 0 91 (dk_at dksX2_flow_1 12 rfl rfl)
theorem dX2_flow_39 : decode cX2_flow 39 = .ok (.invokevirtual 93, 3) := dk_182 0 93 (dk_at dksX2_flow_1 15 rfl rfl)
theorem dX2_flow_42 : decode cX2_flow 42 = .ok (.aaload, 1) := dk_50 (dk_at dksX2_flow_1 18 rfl rfl)
theorem dX2_flow_43 : decode cX2_flow 43 = .ok (.astore_n 3, 1) := dk_78 (dk_at dksX2_flow_1 19 rfl rfl)
theorem dX2_flow_44 : decode cX2_flow 44 = .ok (.aload_n 1, 1) := dk_43 (dk_at dksX2_flow_1 20 rfl rfl)
theorem dX2_flow_45 : decode cX2_flow 45 = .ok (.aload_n 0, 1) := dk_42 (dk_at dksX2_flow_1 21 rfl rfl)
theorem dX2_flow_46 : decode cX2_flow 46 = .ok (.if_acmp .eq 14, 3) := dk_165 0 14 (dk_at dksX2_flow_2 0 rfl rfl)
theorem dX2_flow_49 : decode cX2_flow 49 = .ok (.aload_n 3, 1) := dk_45 (dk_at dksX2_flow_2 3 rfl rfl)
theorem dX2_flow_50 : decode cX2_flow 50 = .ok (.invokevirtual 96, 3) := dk_182 0 96 (dk_at dksX2_flow_2 4 rfl rfl)
theorem dX2_flow_53 : decode cX2_flow 53 = .ok (.aload_n 1, 1) := dk_43 (dk_at dksX2_flow_2 7 rfl rfl)
theorem dX2_flow_54 : decode cX2_flow 54 = .ok (.invokevirtual 96, 3) := dk_182 0 96 (dk_at dksX2_flow_2 8 rfl rfl)
theorem dX2_flow_57 : decode cX2_flow 57 = .ok (.if_icmp .ge 7, 3) := dk_162 0 7 (dk_at dksX2_flow_2 11 rfl rfl)
theorem dX2_flow_60 : decode cX2_flow 60 = .ok (.aload_n 3, 1) := dk_45 (dk_at dksX2_flow_2 14 rfl rfl)
theorem dX2_flow_61 : decode cX2_flow 61 = .ok (.goto 4, 3) := dk_167 0 4 (dk_at dksX2_flow_2 15 rfl rfl)
theorem dX2_flow_64 : decode cX2_flow 64 = .ok (.aload_n 1, 1) := dk_43 (dk_at dksX2_flow_2 18 rfl rfl)
theorem dX2_flow_65 : decode cX2_flow 65 = .ok (.astore_n 1, 1) := dk_76 (dk_at dksX2_flow_2 19 rfl rfl)
theorem dX2_flow_66 : decode cX2_flow 66 = .ok (.goto (-52), 3) := dk_167 255 204 (dk_at dksX2_flow_2 20 rfl rfl)
theorem dX2_flow_69 : decode cX2_flow 69 = .ok (.aload_n 0, 1) := dk_42 (dk_at dksX2_flow_2 23 rfl rfl)
theorem dX2_flow_70 : decode cX2_flow 70 = .ok (.invokevirtual 96, 3) := dk_182 0 96 (dk_at dksX2_flow_3 0 rfl rfl)
theorem dX2_flow_73 : decode cX2_flow 73 = .ok (.aload_n 1, 1) := dk_43 (dk_at dksX2_flow_3 3 rfl rfl)
theorem dX2_flow_74 : decode cX2_flow 74 = .ok (.invokevirtual 96, 3) := dk_182 0 96 (dk_at dksX2_flow_3 4 rfl rfl)
theorem dX2_flow_77 : decode cX2_flow 77 = .ok (.isub, 1) := dk_100 (dk_at dksX2_flow_3 7 rfl rfl)
theorem dX2_flow_78 : decode cX2_flow 78 = .ok (.istore_n 2, 1) := dk_61 (dk_at dksX2_flow_3 8 rfl rfl)
theorem dX2_flow_79 : decode cX2_flow 79 = .ok (.iload_n 2, 1) := dk_28 (dk_at dksX2_flow_3 9 rfl rfl)
theorem dX2_flow_80 : decode cX2_flow 80 = .ok (.iconst 2, 1) := dk_5 (dk_at dksX2_flow_3 10 rfl rfl)
theorem dX2_flow_81 : decode cX2_flow 81 = .ok (.if_icmp .ge 7, 3) := dk_162 0 7 (dk_at dksX2_flow_3 11 rfl rfl)
theorem dX2_flow_84 : decode cX2_flow 84 = .ok (.iconst 0, 1) := dk_3 (dk_at dksX2_flow_3 14 rfl rfl)
theorem dX2_flow_85 : decode cX2_flow 85 = .ok (.goto 13, 3) := dk_167 0 13 (dk_at dksX2_flow_3 15 rfl rfl)
theorem dX2_flow_88 : decode cX2_flow 88 = .ok (.aload_n 0, 1) := dk_42 (dk_at dksX2_flow_3 18 rfl rfl)
theorem dX2_flow_89 : decode cX2_flow 89 = .ok (.getfield 35, 3) := dk_180 0 35 (dk_at dksX2_flow_3 19 rfl rfl)
theorem dX2_flow_92 : decode cX2_flow 92 = .ok (.iload_n 2, 1) := dk_28 (dk_at dksX2_flow_3 22 rfl rfl)
theorem dX2_flow_93 : decode cX2_flow 93 = .ok (.iconst 2, 1) := dk_5 (dk_at dksX2_flow_3 23 rfl rfl)
theorem dX2_flow_94 : decode cX2_flow 94 = .ok (.idiv, 1) := dk_108 (dk_at dksX2_flow_4 0 rfl rfl)
theorem dX2_flow_95 : decode cX2_flow 95 = .ok (.invokestatic 99, 3) := dk_184 0 99 (dk_at dksX2_flow_4 1 rfl rfl)
theorem dX2_flow_98 : decode cX2_flow 98 = .ok (.istore_n 3, 1) := dk_62 (dk_at dksX2_flow_4 4 rfl rfl)
theorem dX2_flow_99 : decode cX2_flow 99 = .ok (.aload_n 0, 1) := dk_42 (dk_at dksX2_flow_4 5 rfl rfl)
theorem dX2_flow_100 : decode cX2_flow 100 = .ok (.dup, 1) := dk_89 (dk_at dksX2_flow_4 6 rfl rfl)
theorem dX2_flow_101 : decode cX2_flow 101 = .ok (.getfield 35, 3) := dk_180 0 35 (dk_at dksX2_flow_4 7 rfl rfl)
theorem dX2_flow_104 : decode cX2_flow 104 = .ok (.iload_n 3, 1) := dk_29 (dk_at dksX2_flow_4 10 rfl rfl)
theorem dX2_flow_105 : decode cX2_flow 105 = .ok (.isub, 1) := dk_100 (dk_at dksX2_flow_4 11 rfl rfl)
theorem dX2_flow_106 : decode cX2_flow 106 = .ok (.putfield 35, 3) := dk_181 0 35 (dk_at dksX2_flow_4 12 rfl rfl)
theorem dX2_flow_109 : decode cX2_flow 109 = .ok (.aload_n 1, 1) := dk_43 (dk_at dksX2_flow_4 15 rfl rfl)
theorem dX2_flow_110 : decode cX2_flow 110 = .ok (.dup, 1) := dk_89 (dk_at dksX2_flow_4 16 rfl rfl)
theorem dX2_flow_111 : decode cX2_flow 111 = .ok (.getfield 35, 3) := dk_180 0 35 (dk_at dksX2_flow_4 17 rfl rfl)
theorem dX2_flow_114 : decode cX2_flow 114 = .ok (.iload_n 3, 1) := dk_29 (dk_at dksX2_flow_4 20 rfl rfl)
theorem dX2_flow_115 : decode cX2_flow 115 = .ok (.iadd, 1) := dk_96 (dk_at dksX2_flow_4 21 rfl rfl)
theorem dX2_flow_116 : decode cX2_flow 116 = .ok (.putfield 35, 3) := dk_181 0 35 (dk_at dksX2_flow_5 0 rfl rfl)
theorem dX2_flow_119 : decode cX2_flow 119 = .ok (.return_, 1) := dk_177 (dk_at dksX2_flow_5 3 rfl rfl)
abbrev cX2_level : ByteArray := prog_4_method_3_code
def yX2_level : MethodName := ⟨RX2, "level", "()I"⟩
def dkwX2_level_0 : List UInt8 := [42, 180, 0, 21, 42, 180, 0, 35, 96, 172]
abbrev dktX2_level_0 : List UInt8 := dkwX2_level_0 ++ []
theorem dksX2_level_0 : cX2_level.data.toList.drop 0 = dktX2_level_0 := by decide +kernel
theorem dX2_level_0 : decode cX2_level 0 = .ok (.aload_n 0, 1) := dk_42 (dk_at dksX2_level_0 0 rfl rfl)
theorem dX2_level_1 : decode cX2_level 1 = .ok (.getfield 21, 3) := dk_180 0 21 (dk_at dksX2_level_0 1 rfl rfl)
theorem dX2_level_4 : decode cX2_level 4 = .ok (.aload_n 0, 1) := dk_42 (dk_at dksX2_level_0 4 rfl rfl)
theorem dX2_level_5 : decode cX2_level 5 = .ok (.getfield 35, 3) := dk_180 0 35 (dk_at dksX2_level_0 5 rfl rfl)
theorem dX2_level_8 : decode cX2_level 8 = .ok (.iadd, 1) := dk_96 (dk_at dksX2_level_0 8 rfl rfl)
theorem dX2_level_9 : decode cX2_level 9 = .ok (.ireturn, 1) := dk_172 (dk_at dksX2_level_0 9 rfl rfl)
abbrev cX2_crack : ByteArray := prog_4_method_8_code
def yX2_crack : MethodName := ⟨RX2, "crack", "()V"⟩
def dkwX2_crack_3 : List UInt8 := [181, 0, 21, 177]
abbrev dktX2_crack_3 : List UInt8 := dkwX2_crack_3 ++ []
def dkwX2_crack_2 : List UInt8 := [4, 96, 181, 0, 32, 43, 89, 180, 0, 67, 17, 3, 232, 96, 181, 0, 67, 42, 89, 180, 0, 21, 4, 96]
abbrev dktX2_crack_2 : List UInt8 := dkwX2_crack_2 ++ dktX2_crack_3
def dkwX2_crack_1 : List UInt8 := [43, 180, 0, 32, 16, 9, 162, 0, 45, 42, 89, 180, 0, 35, 4, 100, 181, 0, 35, 43, 89, 180, 0, 32]
abbrev dktX2_crack_1 : List UInt8 := dkwX2_crack_1 ++ dktX2_crack_2
def dkwX2_crack_0 : List UInt8 := [42, 89, 180, 0, 102, 4, 96, 181, 0, 102, 42, 180, 0, 17, 4, 50, 76, 42, 180, 0, 35, 158, 0, 54]
abbrev dktX2_crack_0 : List UInt8 := dkwX2_crack_0 ++ dktX2_crack_1
theorem dksX2_crack_0 : cX2_crack.data.toList.drop 0 = dktX2_crack_0 := by decide +kernel
theorem dksX2_crack_1 : cX2_crack.data.toList.drop 24 = dktX2_crack_1 := dk_seg dksX2_crack_0 24 rfl rfl
theorem dksX2_crack_2 : cX2_crack.data.toList.drop 48 = dktX2_crack_2 := dk_seg dksX2_crack_1 24 rfl rfl
theorem dksX2_crack_3 : cX2_crack.data.toList.drop 72 = dktX2_crack_3 := dk_seg dksX2_crack_2 24 rfl rfl
theorem dX2_crack_0 : decode cX2_crack 0 = .ok (.aload_n 0, 1) := dk_42 (dk_at dksX2_crack_0 0 rfl rfl)
theorem dX2_crack_1 : decode cX2_crack 1 = .ok (.dup, 1) := dk_89 (dk_at dksX2_crack_0 1 rfl rfl)
theorem dX2_crack_2 : decode cX2_crack 2 = .ok (.getfield 102, 3) := dk_180 0 102 (dk_at dksX2_crack_0 2 rfl rfl)
theorem dX2_crack_5 : decode cX2_crack 5 = .ok (.iconst 1, 1) := dk_4 (dk_at dksX2_crack_0 5 rfl rfl)
theorem dX2_crack_6 : decode cX2_crack 6 = .ok (.iadd, 1) := dk_96 (dk_at dksX2_crack_0 6 rfl rfl)
theorem dX2_crack_7 : decode cX2_crack 7 = .ok (.putfield 102, 3) := dk_181 0 102 (dk_at dksX2_crack_0 7 rfl rfl)
theorem dX2_crack_10 : decode cX2_crack 10 = .ok (.aload_n 0, 1) := dk_42 (dk_at dksX2_crack_0 10 rfl rfl)
theorem dX2_crack_11 : decode cX2_crack 11 = .ok (.getfield 17, 3) := dk_180 0 17 (dk_at dksX2_crack_0 11 rfl rfl)
theorem dX2_crack_14 : decode cX2_crack 14 = .ok (.iconst 1, 1) := dk_4 (dk_at dksX2_crack_0 14 rfl rfl)
theorem dX2_crack_15 : decode cX2_crack 15 = .ok (.aaload, 1) := dk_50 (dk_at dksX2_crack_0 15 rfl rfl)
theorem dX2_crack_16 : decode cX2_crack 16 = .ok (.astore_n 1, 1) := dk_76 (dk_at dksX2_crack_0 16 rfl rfl)
theorem dX2_crack_17 : decode cX2_crack 17 = .ok (.aload_n 0, 1) := dk_42 (dk_at dksX2_crack_0 17 rfl rfl)
theorem dX2_crack_18 : decode cX2_crack 18 = .ok (.getfield 35, 3) := dk_180 0 35 (dk_at dksX2_crack_0 18 rfl rfl)
theorem dX2_crack_21 : decode cX2_crack 21 = .ok (.ifCond .le 54, 3) := dk_158 0 54 (dk_at dksX2_crack_0 21 rfl rfl)
theorem dX2_crack_24 : decode cX2_crack 24 = .ok (.aload_n 1, 1) := dk_43 (dk_at dksX2_crack_1 0 rfl rfl)
theorem dX2_crack_25 : decode cX2_crack 25 = .ok (.getfield 32, 3) := dk_180 0 32 (dk_at dksX2_crack_1 1 rfl rfl)
theorem dX2_crack_28 : decode cX2_crack 28 = .ok (.bipush 9, 2) := dk_16 9 (dk_at dksX2_crack_1 4 rfl rfl)
theorem dX2_crack_30 : decode cX2_crack 30 = .ok (.if_icmp .ge 45, 3) := dk_162 0 45 (dk_at dksX2_crack_1 6 rfl rfl)
theorem dX2_crack_33 : decode cX2_crack 33 = .ok (.aload_n 0, 1) := dk_42 (dk_at dksX2_crack_1 9 rfl rfl)
theorem dX2_crack_34 : decode cX2_crack 34 = .ok (.dup, 1) := dk_89 (dk_at dksX2_crack_1 10 rfl rfl)
theorem dX2_crack_35 : decode cX2_crack 35 = .ok (.getfield 35, 3) := dk_180 0 35 (dk_at dksX2_crack_1 11 rfl rfl)
theorem dX2_crack_38 : decode cX2_crack 38 = .ok (.iconst 1, 1) := dk_4 (dk_at dksX2_crack_1 14 rfl rfl)
theorem dX2_crack_39 : decode cX2_crack 39 = .ok (.isub, 1) := dk_100 (dk_at dksX2_crack_1 15 rfl rfl)
theorem dX2_crack_40 : decode cX2_crack 40 = .ok (.putfield 35, 3) := dk_181 0 35 (dk_at dksX2_crack_1 16 rfl rfl)
theorem dX2_crack_43 : decode cX2_crack 43 = .ok (.aload_n 1, 1) := dk_43 (dk_at dksX2_crack_1 19 rfl rfl)
theorem dX2_crack_44 : decode cX2_crack 44 = .ok (.dup, 1) := dk_89 (dk_at dksX2_crack_1 20 rfl rfl)
theorem dX2_crack_45 : decode cX2_crack 45 = .ok (.getfield 32, 3) := dk_180 0 32 (dk_at dksX2_crack_1 21 rfl rfl)
theorem dX2_crack_48 : decode cX2_crack 48 = .ok (.iconst 1, 1) := dk_4 (dk_at dksX2_crack_2 0 rfl rfl)
theorem dX2_crack_49 : decode cX2_crack 49 = .ok (.iadd, 1) := dk_96 (dk_at dksX2_crack_2 1 rfl rfl)
theorem dX2_crack_50 : decode cX2_crack 50 = .ok (.putfield 32, 3) := dk_181 0 32 (dk_at dksX2_crack_2 2 rfl rfl)
theorem dX2_crack_53 : decode cX2_crack 53 = .ok (.aload_n 1, 1) := dk_43 (dk_at dksX2_crack_2 5 rfl rfl)
theorem dX2_crack_54 : decode cX2_crack 54 = .ok (.dup, 1) := dk_89 (dk_at dksX2_crack_2 6 rfl rfl)
theorem dX2_crack_55 : decode cX2_crack 55 = .ok (.getfield 67, 3) := dk_180 0 67 (dk_at dksX2_crack_2 7 rfl rfl)
theorem dX2_crack_58 : decode cX2_crack 58 = .ok (.sipush 1000, 3) := dk_17 3 232 (dk_at dksX2_crack_2 10 rfl rfl)
theorem dX2_crack_61 : decode cX2_crack 61 = .ok (.iadd, 1) := dk_96 (dk_at dksX2_crack_2 13 rfl rfl)
theorem dX2_crack_62 : decode cX2_crack 62 = .ok (.putfield 67, 3) := dk_181 0 67 (dk_at dksX2_crack_2 14 rfl rfl)
theorem dX2_crack_65 : decode cX2_crack 65 = .ok (.aload_n 0, 1) := dk_42 (dk_at dksX2_crack_2 17 rfl rfl)
theorem dX2_crack_66 : decode cX2_crack 66 = .ok (.dup, 1) := dk_89 (dk_at dksX2_crack_2 18 rfl rfl)
theorem dX2_crack_67 : decode cX2_crack 67 = .ok (.getfield 21, 3) := dk_180 0 21 (dk_at dksX2_crack_2 19 rfl rfl)
theorem dX2_crack_70 : decode cX2_crack 70 = .ok (.iconst 1, 1) := dk_4 (dk_at dksX2_crack_2 22 rfl rfl)
theorem dX2_crack_71 : decode cX2_crack 71 = .ok (.iadd, 1) := dk_96 (dk_at dksX2_crack_2 23 rfl rfl)
theorem dX2_crack_72 : decode cX2_crack 72 = .ok (.putfield 21, 3) := dk_181 0 21 (dk_at dksX2_crack_3 0 rfl rfl)
theorem dX2_crack_75 : decode cX2_crack 75 = .ok (.return_, 1) := dk_177 (dk_at dksX2_crack_3 3 rfl rfl)
abbrev cX2_live : ByteArray := prog_4_method_9_code
def yX2_live : MethodName := ⟨RX2, "live", "(I)V"⟩
def dkwX2_live_4 : List UInt8 := [177]
abbrev dktX2_live_4 : List UInt8 := dkwX2_live_4 ++ []
def dkwX2_live_3 : List UInt8 := [180, 0, 25, 133, 101, 80, 42, 180, 0, 17, 3, 50, 89, 180, 0, 112, 42, 180, 0, 25, 96, 181, 0, 112]
abbrev dktX2_live_3 : List UInt8 := dkwX2_live_3 ++ dktX2_live_4
def dkwX2_live_2 : List UInt8 := [27, 158, 0, 45, 42, 182, 0, 45, 154, 0, 38, 42, 180, 0, 3, 180, 0, 105, 3, 92, 47, 42]
abbrev dktX2_live_2 : List UInt8 := dkwX2_live_2 ++ dktX2_live_3
def dkwX2_live_1 : List UInt8 := [180, 0, 105, 28, 92, 47, 42, 180, 0, 17, 29, 50, 182, 0, 109, 133, 97, 80, 132, 3, 1, 167, 255, 226]
abbrev dktX2_live_1 : List UInt8 := dkwX2_live_1 ++ dktX2_live_2
def dkwX2_live_0 : List UInt8 := [42, 182, 0, 45, 153, 0, 7, 4, 167, 0, 4, 3, 61, 3, 62, 29, 8, 162, 0, 31, 42, 180, 0, 3]
abbrev dktX2_live_0 : List UInt8 := dkwX2_live_0 ++ dktX2_live_1
theorem dksX2_live_0 : cX2_live.data.toList.drop 0 = dktX2_live_0 := by decide +kernel
theorem dksX2_live_1 : cX2_live.data.toList.drop 24 = dktX2_live_1 := dk_seg dksX2_live_0 24 rfl rfl
theorem dksX2_live_2 : cX2_live.data.toList.drop 48 = dktX2_live_2 := dk_seg dksX2_live_1 24 rfl rfl
theorem dksX2_live_3 : cX2_live.data.toList.drop 70 = dktX2_live_3 := dk_seg dksX2_live_2 22 rfl rfl
theorem dksX2_live_4 : cX2_live.data.toList.drop 94 = dktX2_live_4 := dk_seg dksX2_live_3 24 rfl rfl
theorem dX2_live_0 : decode cX2_live 0 = .ok (.aload_n 0, 1) := dk_42 (dk_at dksX2_live_0 0 rfl rfl)
theorem dX2_live_1 : decode cX2_live 1 = .ok (.invokevirtual 45, 3) := dk_182 0 45 (dk_at dksX2_live_0 1 rfl rfl)
theorem dX2_live_4 : decode cX2_live 4 = .ok (.ifCond .eq 7, 3) := dk_153 0 7 (dk_at dksX2_live_0 4 rfl rfl)
theorem dX2_live_7 : decode cX2_live 7 = .ok (.iconst 1, 1) := dk_4 (dk_at dksX2_live_0 7 rfl rfl)
theorem dX2_live_8 : decode cX2_live 8 = .ok (.goto 4, 3) := dk_167 0 4 (dk_at dksX2_live_0 8 rfl rfl)
theorem dX2_live_11 : decode cX2_live 11 = .ok (.iconst 0, 1) := dk_3 (dk_at dksX2_live_0 11 rfl rfl)
theorem dX2_live_12 : decode cX2_live 12 = .ok (.istore_n 2, 1) := dk_61 (dk_at dksX2_live_0 12 rfl rfl)
theorem dX2_live_13 : decode cX2_live 13 = .ok (.iconst 0, 1) := dk_3 (dk_at dksX2_live_0 13 rfl rfl)
theorem dX2_live_14 : decode cX2_live 14 = .ok (.istore_n 3, 1) := dk_62 (dk_at dksX2_live_0 14 rfl rfl)
theorem dX2_live_15 : decode cX2_live 15 = .ok (.iload_n 3, 1) := dk_29 (dk_at dksX2_live_0 15 rfl rfl)
theorem dX2_live_16 : decode cX2_live 16 = .ok (.iconst 5, 1) := dk_8 (dk_at dksX2_live_0 16 rfl rfl)
theorem dX2_live_17 : decode cX2_live 17 = .ok (.if_icmp .ge 31, 3) := dk_162 0 31 (dk_at dksX2_live_0 17 rfl rfl)
theorem dX2_live_20 : decode cX2_live 20 = .ok (.aload_n 0, 1) := dk_42 (dk_at dksX2_live_0 20 rfl rfl)
theorem dX2_live_21 : decode cX2_live 21 = .ok (.getfield 3, 3) := dk_180 0 3 (dk_at dksX2_live_0 21 rfl rfl)
theorem dX2_live_24 : decode cX2_live 24 = .ok (.getfield 105, 3) := dk_180 0 105 (dk_at dksX2_live_1 0 rfl rfl)
theorem dX2_live_27 : decode cX2_live 27 = .ok (.iload_n 2, 1) := dk_28 (dk_at dksX2_live_1 3 rfl rfl)
theorem dX2_live_28 : decode cX2_live 28 = .ok (.dup2, 1) := dk_92 (dk_at dksX2_live_1 4 rfl rfl)
theorem dX2_live_29 : decode cX2_live 29 = .ok (.laload, 1) := dk_47 (dk_at dksX2_live_1 5 rfl rfl)
theorem dX2_live_30 : decode cX2_live 30 = .ok (.aload_n 0, 1) := dk_42 (dk_at dksX2_live_1 6 rfl rfl)
theorem dX2_live_31 : decode cX2_live 31 = .ok (.getfield 17, 3) := dk_180 0 17 (dk_at dksX2_live_1 7 rfl rfl)
theorem dX2_live_34 : decode cX2_live 34 = .ok (.iload_n 3, 1) := dk_29 (dk_at dksX2_live_1 10 rfl rfl)
theorem dX2_live_35 : decode cX2_live 35 = .ok (.aaload, 1) := dk_50 (dk_at dksX2_live_1 11 rfl rfl)
theorem dX2_live_36 : decode cX2_live 36 = .ok (.invokevirtual 109, 3) := dk_182 0 109 (dk_at dksX2_live_1 12 rfl rfl)
theorem dX2_live_39 : decode cX2_live 39 = .ok (.i2l, 1) := dk_133 (dk_at dksX2_live_1 15 rfl rfl)
theorem dX2_live_40 : decode cX2_live 40 = .ok (.ladd, 1) := dk_97 (dk_at dksX2_live_1 16 rfl rfl)
theorem dX2_live_41 : decode cX2_live 41 = .ok (.lastore, 1) := dk_80 (dk_at dksX2_live_1 17 rfl rfl)
theorem dX2_live_42 : decode cX2_live 42 = .ok (.iinc 3 1, 3) := dk_132 3 1 (dk_at dksX2_live_1 18 rfl rfl)
theorem dX2_live_45 : decode cX2_live 45 = .ok (.goto (-30), 3) := dk_167 255 226 (dk_at dksX2_live_1 21 rfl rfl)
theorem dX2_live_48 : decode cX2_live 48 = .ok (.iload_n 1, 1) := dk_27 (dk_at dksX2_live_2 0 rfl rfl)
theorem dX2_live_49 : decode cX2_live 49 = .ok (.ifCond .le 45, 3) := dk_158 0 45 (dk_at dksX2_live_2 1 rfl rfl)
theorem dX2_live_52 : decode cX2_live 52 = .ok (.aload_n 0, 1) := dk_42 (dk_at dksX2_live_2 4 rfl rfl)
theorem dX2_live_53 : decode cX2_live 53 = .ok (.invokevirtual 45, 3) := dk_182 0 45 (dk_at dksX2_live_2 5 rfl rfl)
theorem dX2_live_56 : decode cX2_live 56 = .ok (.ifCond .ne 38, 3) := dk_154 0 38 (dk_at dksX2_live_2 8 rfl rfl)
theorem dX2_live_59 : decode cX2_live 59 = .ok (.aload_n 0, 1) := dk_42 (dk_at dksX2_live_2 11 rfl rfl)
theorem dX2_live_60 : decode cX2_live 60 = .ok (.getfield 3, 3) := dk_180 0 3 (dk_at dksX2_live_2 12 rfl rfl)
theorem dX2_live_63 : decode cX2_live 63 = .ok (.getfield 105, 3) := dk_180 0 105 (dk_at dksX2_live_2 15 rfl rfl)
theorem dX2_live_66 : decode cX2_live 66 = .ok (.iconst 0, 1) := dk_3 (dk_at dksX2_live_2 18 rfl rfl)
theorem dX2_live_67 : decode cX2_live 67 = .ok (.dup2, 1) := dk_92 (dk_at dksX2_live_2 19 rfl rfl)
theorem dX2_live_68 : decode cX2_live 68 = .ok (.laload, 1) := dk_47 (dk_at dksX2_live_2 20 rfl rfl)
theorem dX2_live_69 : decode cX2_live 69 = .ok (.aload_n 0, 1) := dk_42 (dk_at dksX2_live_2 21 rfl rfl)
theorem dX2_live_70 : decode cX2_live 70 = .ok (.getfield 25, 3) := dk_180 0 25 (dk_at dksX2_live_3 0 rfl rfl)
theorem dX2_live_73 : decode cX2_live 73 = .ok (.i2l, 1) := dk_133 (dk_at dksX2_live_3 3 rfl rfl)
theorem dX2_live_74 : decode cX2_live 74 = .ok (.lsub, 1) := dk_101 (dk_at dksX2_live_3 4 rfl rfl)
theorem dX2_live_75 : decode cX2_live 75 = .ok (.lastore, 1) := dk_80 (dk_at dksX2_live_3 5 rfl rfl)
theorem dX2_live_76 : decode cX2_live 76 = .ok (.aload_n 0, 1) := dk_42 (dk_at dksX2_live_3 6 rfl rfl)
theorem dX2_live_77 : decode cX2_live 77 = .ok (.getfield 17, 3) := dk_180 0 17 (dk_at dksX2_live_3 7 rfl rfl)
theorem dX2_live_80 : decode cX2_live 80 = .ok (.iconst 0, 1) := dk_3 (dk_at dksX2_live_3 10 rfl rfl)
theorem dX2_live_81 : decode cX2_live 81 = .ok (.aaload, 1) := dk_50 (dk_at dksX2_live_3 11 rfl rfl)
theorem dX2_live_82 : decode cX2_live 82 = .ok (.dup, 1) := dk_89 (dk_at dksX2_live_3 12 rfl rfl)
theorem dX2_live_83 : decode cX2_live 83 = .ok (.getfield 112, 3) := dk_180 0 112 (dk_at dksX2_live_3 13 rfl rfl)
theorem dX2_live_86 : decode cX2_live 86 = .ok (.aload_n 0, 1) := dk_42 (dk_at dksX2_live_3 16 rfl rfl)
theorem dX2_live_87 : decode cX2_live 87 = .ok (.getfield 25, 3) := dk_180 0 25 (dk_at dksX2_live_3 17 rfl rfl)
theorem dX2_live_90 : decode cX2_live 90 = .ok (.iadd, 1) := dk_96 (dk_at dksX2_live_3 20 rfl rfl)
theorem dX2_live_91 : decode cX2_live 91 = .ok (.putfield 112, 3) := dk_181 0 112 (dk_at dksX2_live_3 21 rfl rfl)
theorem dX2_live_94 : decode cX2_live 94 = .ok (.return_, 1) := dk_177 (dk_at dksX2_live_4 0 rfl rfl)
abbrev cX2_thawed : ByteArray := prog_4_method_10_code
def yX2_thawed : MethodName := ⟨RX2, "thawed", "()I"⟩
def dkwX2_thawed_1 : List UInt8 := [167, 255, 236, 27, 172]
abbrev dktX2_thawed_1 : List UInt8 := dkwX2_thawed_1 ++ []
def dkwX2_thawed_0 : List UInt8 := [3, 60, 27, 8, 162, 0, 21, 42, 180, 0, 17, 27, 50, 182, 0, 115, 153, 0, 9, 132, 1, 1]
abbrev dktX2_thawed_0 : List UInt8 := dkwX2_thawed_0 ++ dktX2_thawed_1
theorem dksX2_thawed_0 : cX2_thawed.data.toList.drop 0 = dktX2_thawed_0 := by decide +kernel
theorem dksX2_thawed_1 : cX2_thawed.data.toList.drop 22 = dktX2_thawed_1 := dk_seg dksX2_thawed_0 22 rfl rfl
theorem dX2_thawed_0 : decode cX2_thawed 0 = .ok (.iconst 0, 1) := dk_3 (dk_at dksX2_thawed_0 0 rfl rfl)
theorem dX2_thawed_1 : decode cX2_thawed 1 = .ok (.istore_n 1, 1) := dk_60 (dk_at dksX2_thawed_0 1 rfl rfl)
theorem dX2_thawed_2 : decode cX2_thawed 2 = .ok (.iload_n 1, 1) := dk_27 (dk_at dksX2_thawed_0 2 rfl rfl)
theorem dX2_thawed_3 : decode cX2_thawed 3 = .ok (.iconst 5, 1) := dk_8 (dk_at dksX2_thawed_0 3 rfl rfl)
theorem dX2_thawed_4 : decode cX2_thawed 4 = .ok (.if_icmp .ge 21, 3) := dk_162 0 21 (dk_at dksX2_thawed_0 4 rfl rfl)
theorem dX2_thawed_7 : decode cX2_thawed 7 = .ok (.aload_n 0, 1) := dk_42 (dk_at dksX2_thawed_0 7 rfl rfl)
theorem dX2_thawed_8 : decode cX2_thawed 8 = .ok (.getfield 17, 3) := dk_180 0 17 (dk_at dksX2_thawed_0 8 rfl rfl)
theorem dX2_thawed_11 : decode cX2_thawed 11 = .ok (.iload_n 1, 1) := dk_27 (dk_at dksX2_thawed_0 11 rfl rfl)
theorem dX2_thawed_12 : decode cX2_thawed 12 = .ok (.aaload, 1) := dk_50 (dk_at dksX2_thawed_0 12 rfl rfl)
theorem dX2_thawed_13 : decode cX2_thawed 13 = .ok (.invokevirtual 115, 3) := dk_182 0 115 (dk_at dksX2_thawed_0 13 rfl rfl)
theorem dX2_thawed_16 : decode cX2_thawed 16 = .ok (.ifCond .eq 9, 3) := dk_153 0 9 (dk_at dksX2_thawed_0 16 rfl rfl)
theorem dX2_thawed_19 : decode cX2_thawed 19 = .ok (.iinc 1 1, 3) := dk_132 1 1 (dk_at dksX2_thawed_0 19 rfl rfl)
theorem dX2_thawed_22 : decode cX2_thawed 22 = .ok (.goto (-20), 3) := dk_167 255 236 (dk_at dksX2_thawed_1 0 rfl rfl)
theorem dX2_thawed_25 : decode cX2_thawed 25 = .ok (.iload_n 1, 1) := dk_27 (dk_at dksX2_thawed_1 3 rfl rfl)
theorem dX2_thawed_26 : decode cX2_thawed 26 = .ok (.ireturn, 1) := dk_172 (dk_at dksX2_thawed_1 4 rfl rfl)
theorem q39 : (Jvm.Cond.initialized "Wakeground$Cell") ∈ lw_all := lw_g (lw_at lw_m1 5 rfl) rfl
theorem q101 : (Jvm.Cond.instantiable "Wakeground$Cell" (9 : Nat)) ∈ lw_all := lw_g (lw_at lw_m1 67 rfl) rfl
theorem q103 : (Jvm.Cond.instanceMethod ({ cls := "Wakeground$Cell", name := "<init>", desc := "(LWakeground;I)V" } : Jvm.MethodName)) ∈ lw_all := lw_g (lw_at lw_m1 69 rfl) rfl
theorem q104 : (Jvm.Cond.code ({ cls := "Wakeground$Cell", name := "<init>", desc := "(LWakeground;I)V" } : Jvm.MethodName) prog_4_method_1_code (4 : Nat) (Option.none : Option Jvm.ClassFile.FieldType)) ∈ lw_all := lw_g (lw_at lw_m1 70 rfl) rfl
theorem q105 : (Jvm.Cond.methodLink "Wakeground$Cell" (9 : Nat) ({ cls := "java/lang/Object", name := "<init>", desc := "()V" } : Jvm.MethodName)) ∈ lw_all := lw_g (lw_at lw_m1 71 rfl) rfl
theorem q106 : (Jvm.Cond.classLink "Wakeground$Cell" (15 : Nat) "Wakeground$Layer") ∈ lw_all := lw_g (lw_at lw_m1 72 rfl) rfl
theorem q109 : (Jvm.Cond.methodLinkNest "Wakeground$Cell" (31 : Nat) ({ cls := "Wakeground$Layer", name := "<init>", desc := "()V" } : Jvm.MethodName) "Wakeground") ∈ lw_tbl := lw_at lw_m1 75 rfl
theorem q115 : (Jvm.Cond.fieldLink "Wakeground$Cell" (32 : Nat) "Wakeground$Layer" "excess" "I") ∈ lw_all := lw_g (lw_at lw_m1 81 rfl) rfl
theorem q119 : (Jvm.Cond.fieldLink "Wakeground$Cell" (67 : Nat) "Wakeground$Layer" "energy" "I") ∈ lw_all := lw_g (lw_at lw_m1 85 rfl) rfl
theorem q123 : (Jvm.Cond.fieldLink "Wakeground$Cell" (112 : Nat) "Wakeground$Layer" "carbon" "I") ∈ lw_all := lw_g (lw_at lw_m1 89 rfl) rfl
theorem q136 : (Jvm.Cond.fieldLink "Wakeground$Cell" (28 : Nat) "Wakeground$Cell" "number" "I") ∈ lw_all := lw_g (lw_at lw_m1 102 rfl) rfl
theorem q138 : (Jvm.Cond.fieldLink "Wakeground$Cell" (17 : Nat) "Wakeground$Cell" "layers" "[LWakeground$Layer;") ∈ lw_all := lw_g (lw_at lw_m1 104 rfl) rfl
theorem q141 : (Jvm.Cond.fieldLink "Wakeground$Cell" (21 : Nat) "Wakeground$Cell" "height" "I") ∈ lw_all := lw_g (lw_at lw_m1 107 rfl) rfl
theorem q143 : (Jvm.Cond.fieldLink "Wakeground$Cell" (35 : Nat) "Wakeground$Cell" "water" "I") ∈ lw_all := lw_g (lw_at lw_m1 109 rfl) rfl
theorem q145 : (Jvm.Cond.fieldLink "Wakeground$Cell" (55 : Nat) "Wakeground$Cell" "snow" "I") ∈ lw_all := lw_g (lw_at lw_m1 111 rfl) rfl
theorem q147 : (Jvm.Cond.fieldLink "Wakeground$Cell" (25 : Nat) "Wakeground$Cell" "moss" "I") ∈ lw_all := lw_g (lw_at lw_m1 113 rfl) rfl
theorem q149 : (Jvm.Cond.fieldLink "Wakeground$Cell" (102 : Nat) "Wakeground$Cell" "wedges" "I") ∈ lw_all := lw_g (lw_at lw_m1 115 rfl) rfl
theorem q151 : (Jvm.Cond.fieldLink "Wakeground$Cell" (58 : Nat) "Wakeground$Cell" "house" "LWakeground$House;") ∈ lw_all := lw_g (lw_at lw_m1 117 rfl) rfl
theorem q153 : (Jvm.Cond.fieldLink "Wakeground$Cell" (3 : Nat) "Wakeground$Cell" "this$0" "LWakeground;") ∈ lw_all := lw_g (lw_at lw_m1 119 rfl) rfl
theorem q154 : (Jvm.Cond.laysFinal "Wakeground$Cell" "Wakeground$Cell" "number" "I") ∈ lw_all := lw_g (lw_at lw_m1 120 rfl) rfl
theorem q155 : (Jvm.Cond.soleField "Wakeground$Cell" "number") ∈ lw_all := lw_g (lw_at lw_m1 121 rfl) rfl
theorem q156 : (Jvm.Cond.laysFinal "Wakeground$Cell" "Wakeground$Cell" "layers" "[LWakeground$Layer;") ∈ lw_all := lw_g (lw_at lw_m1 122 rfl) rfl
theorem q157 : (Jvm.Cond.soleField "Wakeground$Cell" "layers") ∈ lw_all := lw_g (lw_at lw_m1 123 rfl) rfl
theorem q158 : (Jvm.Cond.lays "Wakeground$Cell" "Wakeground$Cell" "height" "I") ∈ lw_all := lw_g (lw_at lw_m1 124 rfl) rfl
theorem q159 : (Jvm.Cond.soleField "Wakeground$Cell" "height") ∈ lw_all := lw_g (lw_at lw_m1 125 rfl) rfl
theorem q160 : (Jvm.Cond.lays "Wakeground$Cell" "Wakeground$Cell" "water" "I") ∈ lw_all := lw_g (lw_at lw_m1 126 rfl) rfl
theorem q161 : (Jvm.Cond.soleField "Wakeground$Cell" "water") ∈ lw_all := lw_g (lw_at lw_m1 127 rfl) rfl
theorem q162 : (Jvm.Cond.lays "Wakeground$Cell" "Wakeground$Cell" "snow" "I") ∈ lw_all := lw_g (lw_at lw_m1 128 rfl) rfl
theorem q163 : (Jvm.Cond.soleField "Wakeground$Cell" "snow") ∈ lw_all := lw_g (lw_at lw_m1 129 rfl) rfl
theorem q164 : (Jvm.Cond.lays "Wakeground$Cell" "Wakeground$Cell" "moss" "I") ∈ lw_all := lw_g (lw_at lw_m1 130 rfl) rfl
theorem q165 : (Jvm.Cond.soleField "Wakeground$Cell" "moss") ∈ lw_all := lw_g (lw_at lw_m1 131 rfl) rfl
theorem q166 : (Jvm.Cond.lays "Wakeground$Cell" "Wakeground$Cell" "wedges" "I") ∈ lw_all := lw_g (lw_at lw_m1 132 rfl) rfl
theorem q167 : (Jvm.Cond.soleField "Wakeground$Cell" "wedges") ∈ lw_all := lw_g (lw_at lw_m1 133 rfl) rfl
theorem q168 : (Jvm.Cond.lays "Wakeground$Cell" "Wakeground$Cell" "house" "LWakeground$House;") ∈ lw_all := lw_g (lw_at lw_m1 134 rfl) rfl
theorem q169 : (Jvm.Cond.soleField "Wakeground$Cell" "house") ∈ lw_all := lw_g (lw_at lw_m1 135 rfl) rfl
theorem q170 : (Jvm.Cond.laysFinal "Wakeground$Cell" "Wakeground$Cell" "this$0" "LWakeground;") ∈ lw_all := lw_g (lw_at lw_m1 136 rfl) rfl
theorem q171 : (Jvm.Cond.soleField "Wakeground$Cell" "this$0") ∈ lw_all := lw_g (lw_at lw_m1 137 rfl) rfl
theorem q172 : (Jvm.Cond.superclass "Wakeground$Cell" "java/lang/Object") ∈ lw_all := lw_g (lw_at lw_m1 138 rfl) rfl
theorem q179 : (Jvm.Cond.fieldLinkNest "Wakeground$Cell" (83 : Nat) "Wakeground" "land" "[LWakeground$Cell;" "Wakeground") ∈ lw_tbl := lw_at lw_m1 145 rfl
theorem q184 : (Jvm.Cond.fieldLinkNest "Wakeground$Cell" (105 : Nat) "Wakeground" "gases" "[J" "Wakeground") ∈ lw_tbl := lw_at lw_m1 150 rfl
theorem q368 : (Jvm.Cond.instanceMethod ({ cls := "Wakeground$Cell", name := "isLake", desc := "()Z" } : Jvm.MethodName)) ∈ lw_all := lw_g (lw_at lw_m2 94 rfl) rfl
theorem q369 : (Jvm.Cond.selects "Wakeground$Cell" ({ cls := "Wakeground$Cell", name := "isLake", desc := "()Z" } : Jvm.MethodName) ({ cls := "Wakeground$Cell", name := "isLake", desc := "()Z" } : Jvm.MethodName)) ∈ lw_all := lw_g (lw_at lw_m2 95 rfl) rfl
theorem q370 : (Jvm.Cond.code ({ cls := "Wakeground$Cell", name := "isLake", desc := "()Z" } : Jvm.MethodName) prog_4_method_2_code (1 : Nat) (Option.some Jvm.ClassFile.FieldType.boolean)) ∈ lw_all := lw_g (lw_at lw_m2 96 rfl) rfl
theorem q500 : (Jvm.Cond.instanceMethod ({ cls := "Wakeground$Cell", name := "lead", desc := "(I)I" } : Jvm.MethodName)) ∈ lw_all := lw_g (lw_at lw_m2 226 rfl) rfl
theorem q501 : (Jvm.Cond.selects "Wakeground$Cell" ({ cls := "Wakeground$Cell", name := "lead", desc := "(I)I" } : Jvm.MethodName) ({ cls := "Wakeground$Cell", name := "lead", desc := "(I)I" } : Jvm.MethodName)) ∈ lw_all := lw_g (lw_at lw_m2 227 rfl) rfl
theorem q502 : (Jvm.Cond.code ({ cls := "Wakeground$Cell", name := "lead", desc := "(I)I" } : Jvm.MethodName) prog_4_method_5_code (8 : Nat) (Option.some Jvm.ClassFile.FieldType.int)) ∈ lw_all := lw_g (lw_at lw_m2 228 rfl) rfl
theorem q503 : (Jvm.Cond.methodLink "Wakeground$Cell" (42 : Nat) ({ cls := "Wakeground$Cell", name := "temperature", desc := "(I)I" } : Jvm.MethodName)) ∈ lw_all := lw_g (lw_at lw_m2 229 rfl) rfl
theorem q504 : (Jvm.Cond.instanceMethod ({ cls := "Wakeground$Cell", name := "temperature", desc := "(I)I" } : Jvm.MethodName)) ∈ lw_all := lw_g (lw_at lw_m2 230 rfl) rfl
theorem q505 : (Jvm.Cond.selects "Wakeground$Cell" ({ cls := "Wakeground$Cell", name := "temperature", desc := "(I)I" } : Jvm.MethodName) ({ cls := "Wakeground$Cell", name := "temperature", desc := "(I)I" } : Jvm.MethodName)) ∈ lw_all := lw_g (lw_at lw_m2 231 rfl) rfl
theorem q506 : (Jvm.Cond.code ({ cls := "Wakeground$Cell", name := "temperature", desc := "(I)I" } : Jvm.MethodName) prog_4_method_4_code (2 : Nat) (Option.some Jvm.ClassFile.FieldType.int)) ∈ lw_all := lw_g (lw_at lw_m2 232 rfl) rfl
theorem q507 : (Jvm.Cond.methodLink "Wakeground$Cell" (38 : Nat) ({ cls := "Wakeground$Layer", name := "temperature", desc := "()I" } : Jvm.MethodName)) ∈ lw_all := lw_g (lw_at lw_m2 233 rfl) rfl
theorem q511 : (Jvm.Cond.methodLink "Wakeground$Cell" (45 : Nat) ({ cls := "Wakeground$Cell", name := "isLake", desc := "()Z" } : Jvm.MethodName)) ∈ lw_all := lw_g (lw_at lw_m2 237 rfl) rfl
theorem q512 : (Jvm.Cond.methodLink "Wakeground$Cell" (49 : Nat) ({ cls := "java/lang/Math", name := "max", desc := "(II)I" } : Jvm.MethodName)) ∈ lw_all := lw_g (lw_at lw_m2 238 rfl) rfl
theorem q515 : (Jvm.Cond.methodLink "Wakeground$Cell" (62 : Nat) ({ cls := "Wakeground$House", name := "heats", desc := "(I)I" } : Jvm.MethodName)) ∈ lw_all := lw_g (lw_at lw_m3 1 rfl) rfl
theorem q520 : (Jvm.Cond.instanceMethod ({ cls := "Wakeground$Cell", name := "melt", desc := "()V" } : Jvm.MethodName)) ∈ lw_all := lw_g (lw_at lw_m3 6 rfl) rfl
theorem q521 : (Jvm.Cond.selects "Wakeground$Cell" ({ cls := "Wakeground$Cell", name := "melt", desc := "()V" } : Jvm.MethodName) ({ cls := "Wakeground$Cell", name := "melt", desc := "()V" } : Jvm.MethodName)) ∈ lw_all := lw_g (lw_at lw_m3 7 rfl) rfl
theorem q522 : (Jvm.Cond.code ({ cls := "Wakeground$Cell", name := "melt", desc := "()V" } : Jvm.MethodName) prog_4_method_6_code (3 : Nat) (Option.none : Option Jvm.ClassFile.FieldType)) ∈ lw_all := lw_g (lw_at lw_m3 8 rfl) rfl
theorem q523 : (Jvm.Cond.methodLink "Wakeground$Cell" (70 : Nat) ({ cls := "Wakeground$Layer", name := "drip", desc := "()I" } : Jvm.MethodName)) ∈ lw_all := lw_g (lw_at lw_m3 9 rfl) rfl
theorem q537 : (Jvm.Cond.instanceMethod ({ cls := "Wakeground$Cell", name := "flow", desc := "()V" } : Jvm.MethodName)) ∈ lw_all := lw_g (lw_at lw_m3 23 rfl) rfl
theorem q538 : (Jvm.Cond.selects "Wakeground$Cell" ({ cls := "Wakeground$Cell", name := "flow", desc := "()V" } : Jvm.MethodName) ({ cls := "Wakeground$Cell", name := "flow", desc := "()V" } : Jvm.MethodName)) ∈ lw_all := lw_g (lw_at lw_m3 24 rfl) rfl
theorem q539 : (Jvm.Cond.code ({ cls := "Wakeground$Cell", name := "flow", desc := "()V" } : Jvm.MethodName) prog_4_method_7_code (4 : Nat) (Option.none : Option Jvm.ClassFile.FieldType)) ∈ lw_all := lw_g (lw_at lw_m3 25 rfl) rfl
theorem q540 : (Jvm.Cond.classLink "Wakeground$Cell" (73 : Nat) "Wakeground$Around") ∈ lw_all := lw_g (lw_at lw_m3 26 rfl) rfl
theorem q541 : (Jvm.Cond.methodLink "Wakeground$Cell" (75 : Nat) ({ cls := "Wakeground$Around", name := "<init>", desc := "(I)V" } : Jvm.MethodName)) ∈ lw_all := lw_g (lw_at lw_m3 27 rfl) rfl
theorem q542 : (Jvm.Cond.interfaceEntry "Wakeground$Cell" (78 : Nat)) ∈ lw_tbl := lw_at lw_m3 28 rfl
theorem q543 : (Jvm.Cond.methodLink "Wakeground$Cell" (78 : Nat) ({ cls := "java/util/Iterator", name := "hasNext", desc := "()Z" } : Jvm.MethodName)) ∈ lw_all := lw_g (lw_at lw_m3 29 rfl) rfl
theorem q544 : (Jvm.Cond.interfaceEntry "Wakeground$Cell" (87 : Nat)) ∈ lw_tbl := lw_at lw_m3 30 rfl
theorem q545 : (Jvm.Cond.methodLink "Wakeground$Cell" (87 : Nat) ({ cls := "java/util/Iterator", name := "next", desc := "()Ljava/lang/Object;" } : Jvm.MethodName)) ∈ lw_all := lw_g (lw_at lw_m3 31 rfl) rfl
theorem q546 : (Jvm.Cond.classLink "Wakeground$Cell" (91 : Nat) "java/lang/Integer") ∈ lw_all := lw_g (lw_at lw_m3 32 rfl) rfl
theorem q547 : (Jvm.Cond.methodLink "Wakeground$Cell" (93 : Nat) ({ cls := "java/lang/Integer", name := "intValue", desc := "()I" } : Jvm.MethodName)) ∈ lw_all := lw_g (lw_at lw_m3 33 rfl) rfl
theorem q548 : (Jvm.Cond.methodLink "Wakeground$Cell" (96 : Nat) ({ cls := "Wakeground$Cell", name := "level", desc := "()I" } : Jvm.MethodName)) ∈ lw_all := lw_g (lw_at lw_m3 34 rfl) rfl
theorem q549 : (Jvm.Cond.instanceMethod ({ cls := "Wakeground$Cell", name := "level", desc := "()I" } : Jvm.MethodName)) ∈ lw_all := lw_g (lw_at lw_m3 35 rfl) rfl
theorem q550 : (Jvm.Cond.selects "Wakeground$Cell" ({ cls := "Wakeground$Cell", name := "level", desc := "()I" } : Jvm.MethodName) ({ cls := "Wakeground$Cell", name := "level", desc := "()I" } : Jvm.MethodName)) ∈ lw_all := lw_g (lw_at lw_m3 36 rfl) rfl
theorem q551 : (Jvm.Cond.code ({ cls := "Wakeground$Cell", name := "level", desc := "()I" } : Jvm.MethodName) prog_4_method_3_code (1 : Nat) (Option.some Jvm.ClassFile.FieldType.int)) ∈ lw_all := lw_g (lw_at lw_m3 37 rfl) rfl
theorem q552 : (Jvm.Cond.methodLink "Wakeground$Cell" (99 : Nat) ({ cls := "java/lang/Math", name := "min", desc := "(II)I" } : Jvm.MethodName)) ∈ lw_all := lw_g (lw_at lw_m3 38 rfl) rfl
theorem q559 : (Jvm.Cond.instanceMethod ({ cls := "Wakeground$Cell", name := "crack", desc := "()V" } : Jvm.MethodName)) ∈ lw_all := lw_g (lw_at lw_m3 45 rfl) rfl
theorem q560 : (Jvm.Cond.selects "Wakeground$Cell" ({ cls := "Wakeground$Cell", name := "crack", desc := "()V" } : Jvm.MethodName) ({ cls := "Wakeground$Cell", name := "crack", desc := "()V" } : Jvm.MethodName)) ∈ lw_all := lw_g (lw_at lw_m3 46 rfl) rfl
theorem q561 : (Jvm.Cond.code ({ cls := "Wakeground$Cell", name := "crack", desc := "()V" } : Jvm.MethodName) prog_4_method_8_code (2 : Nat) (Option.none : Option Jvm.ClassFile.FieldType)) ∈ lw_all := lw_g (lw_at lw_m3 47 rfl) rfl
theorem q563 : (Jvm.Cond.instanceMethod ({ cls := "Wakeground$Cell", name := "live", desc := "(I)V" } : Jvm.MethodName)) ∈ lw_all := lw_g (lw_at lw_m3 49 rfl) rfl
theorem q564 : (Jvm.Cond.selects "Wakeground$Cell" ({ cls := "Wakeground$Cell", name := "live", desc := "(I)V" } : Jvm.MethodName) ({ cls := "Wakeground$Cell", name := "live", desc := "(I)V" } : Jvm.MethodName)) ∈ lw_all := lw_g (lw_at lw_m3 50 rfl) rfl
theorem q565 : (Jvm.Cond.code ({ cls := "Wakeground$Cell", name := "live", desc := "(I)V" } : Jvm.MethodName) prog_4_method_9_code (4 : Nat) (Option.none : Option Jvm.ClassFile.FieldType)) ∈ lw_all := lw_g (lw_at lw_m3 51 rfl) rfl
theorem q566 : (Jvm.Cond.methodLink "Wakeground$Cell" (109 : Nat) ({ cls := "Wakeground$Layer", name := "wake", desc := "()I" } : Jvm.MethodName)) ∈ lw_all := lw_g (lw_at lw_m3 52 rfl) rfl
theorem q714 : (Jvm.Cond.selects "Wakeground$Cell" ({ cls := "java/lang/Object", name := "getClass", desc := "()Ljava/lang/Class;" } : Jvm.MethodName) ({ cls := "java/lang/Object", name := "getClass", desc := "()Ljava/lang/Class;" } : Jvm.MethodName)) ∈ lw_all := lw_g (lw_at lw_m3 200 rfl) rfl
theorem q836 : (Jvm.Cond.selects "Wakeground$Cell" ({ cls := "java/lang/Object", name := "equals", desc := "(Ljava/lang/Object;)Z" } : Jvm.MethodName) ({ cls := "java/lang/Object", name := "equals", desc := "(Ljava/lang/Object;)Z" } : Jvm.MethodName)) ∈ lw_all := lw_g (lw_at lw_m4 82 rfl) rfl
theorem q860 : (Jvm.Cond.instanceMethod ({ cls := "Wakeground$Cell", name := "thawed", desc := "()I" } : Jvm.MethodName)) ∈ lw_all := lw_g (lw_at lw_m4 106 rfl) rfl
theorem q861 : (Jvm.Cond.selects "Wakeground$Cell" ({ cls := "Wakeground$Cell", name := "thawed", desc := "()I" } : Jvm.MethodName) ({ cls := "Wakeground$Cell", name := "thawed", desc := "()I" } : Jvm.MethodName)) ∈ lw_all := lw_g (lw_at lw_m4 107 rfl) rfl
theorem q862 : (Jvm.Cond.code ({ cls := "Wakeground$Cell", name := "thawed", desc := "()I" } : Jvm.MethodName) prog_4_method_10_code (2 : Nat) (Option.some Jvm.ClassFile.FieldType.int)) ∈ lw_all := lw_g (lw_at lw_m4 108 rfl) rfl
theorem q863 : (Jvm.Cond.methodLink "Wakeground$Cell" (115 : Nat) ({ cls := "Wakeground$Layer", name := "isThawed", desc := "()Z" } : Jvm.MethodName)) ∈ lw_all := lw_g (lw_at lw_m4 109 rfl) rfl
theorem q1208 : (Jvm.Cond.castable "Wakeground$Cell" "java/lang/Object") ∈ lw_tbl := lw_at lw_m5 214 rfl
theorem in_X2 : ∀ w ∈ wsX20, w ∈ lw_all := lw_in wsX20 [154, 156, 158, 160, 162, 164, 166, 168, 170] (by decide +kernel) (by decide +kernel)
/-! Wakeground$Layer -/
set_option maxRecDepth 100000
def RX3 : String := "Wakeground$Layer"
def TX3 : u_T := fun k => match k with
  | 0 => ("Wakeground$Layer", "pore", "I", false)
  | 1 => ("Wakeground$Layer", "excess", "I", false)
  | 2 => ("Wakeground$Layer", "energy", "I", false)
  | _ => ("Wakeground$Layer", "carbon", "I", false)
def tyX3 : Nat → FieldType := fun k => match k with
  | 0 => .int
  | 1 => .int
  | 2 => .int
  | _ => .int
abbrev wsX30 : List Cond := u_ws RX3 TX3 4
theorem nmX3 : ∀ a, a < 4 → ∀ b, b < 4 → a ≠ b → (TX3 a).2.1 ≠ (TX3 b).2.1 := by decide +kernel
theorem tyX3_ok : ∀ k, k < 4 → parseFieldDescriptor (TX3 k).2.2.1 = some (tyX3 k) := by decide +kernel
abbrev cX3_init : ByteArray := prog_7_method_1_code
def yX3_init : MethodName := ⟨RX3, "<init>", "()V"⟩
def dkwX3_init_0 : List UInt8 := [42, 183, 0, 3, 42, 8, 181, 0, 9, 42, 17, 252, 24, 181, 0, 15, 42, 17, 1, 144, 181, 0, 18, 177]
abbrev dktX3_init_0 : List UInt8 := dkwX3_init_0 ++ []
theorem dksX3_init_0 : cX3_init.data.toList.drop 0 = dktX3_init_0 := by decide +kernel
theorem dX3_init_0 : decode cX3_init 0 = .ok (.aload_n 0, 1) := dk_42 (dk_at dksX3_init_0 0 rfl rfl)
theorem dX3_init_1 : decode cX3_init 1 = .ok (.invokespecial 3, 3) := dk_183 0 3 (dk_at dksX3_init_0 1 rfl rfl)
theorem dX3_init_4 : decode cX3_init 4 = .ok (.aload_n 0, 1) := dk_42 (dk_at dksX3_init_0 4 rfl rfl)
theorem dX3_init_5 : decode cX3_init 5 = .ok (.iconst 5, 1) := dk_8 (dk_at dksX3_init_0 5 rfl rfl)
theorem dX3_init_6 : decode cX3_init 6 = .ok (.putfield 9, 3) := dk_181 0 9 (dk_at dksX3_init_0 6 rfl rfl)
theorem dX3_init_9 : decode cX3_init 9 = .ok (.aload_n 0, 1) := dk_42 (dk_at dksX3_init_0 9 rfl rfl)
theorem dX3_init_10 : decode cX3_init 10 = .ok (.sipush (-1000), 3) := dk_17 252 24 (dk_at dksX3_init_0 10 rfl rfl)
theorem dX3_init_13 : decode cX3_init 13 = .ok (.putfield 15, 3) := dk_181 0 15 (dk_at dksX3_init_0 13 rfl rfl)
theorem dX3_init_16 : decode cX3_init 16 = .ok (.aload_n 0, 1) := dk_42 (dk_at dksX3_init_0 16 rfl rfl)
theorem dX3_init_17 : decode cX3_init 17 = .ok (.sipush 400, 3) := dk_17 1 144 (dk_at dksX3_init_0 17 rfl rfl)
theorem dX3_init_20 : decode cX3_init 20 = .ok (.putfield 18, 3) := dk_181 0 18 (dk_at dksX3_init_0 20 rfl rfl)
theorem dX3_init_23 : decode cX3_init 23 = .ok (.return_, 1) := dk_177 (dk_at dksX3_init_0 23 rfl rfl)
abbrev cX3_temperature : ByteArray := prog_7_method_2_code
def yX3_temperature : MethodName := ⟨RX3, "temperature", "()I"⟩
def dkwX3_temperature_2 : List UInt8 := [16, 100, 108, 167, 0, 4, 3, 172]
abbrev dktX3_temperature_2 : List UInt8 := dkwX3_temperature_2 ++ []
def dkwX3_temperature_1 : List UInt8 := [180, 0, 15, 16, 100, 108, 167, 0, 24, 42, 180, 0, 15, 27, 164, 0, 15, 42, 180, 0, 15, 27, 100]
abbrev dktX3_temperature_1 : List UInt8 := dkwX3_temperature_1 ++ dktX3_temperature_2
def dkwX3_temperature_0 : List UInt8 := [17, 3, 232, 42, 180, 0, 9, 42, 180, 0, 21, 96, 104, 60, 42, 180, 0, 15, 156, 0, 13, 42]
abbrev dktX3_temperature_0 : List UInt8 := dkwX3_temperature_0 ++ dktX3_temperature_1
theorem dksX3_temperature_0 : cX3_temperature.data.toList.drop 0 = dktX3_temperature_0 := by decide +kernel
theorem dksX3_temperature_1 : cX3_temperature.data.toList.drop 22 = dktX3_temperature_1 := dk_seg dksX3_temperature_0 22 rfl rfl
theorem dksX3_temperature_2 : cX3_temperature.data.toList.drop 45 = dktX3_temperature_2 := dk_seg dksX3_temperature_1 23 rfl rfl
theorem dX3_temperature_0 : decode cX3_temperature 0 = .ok (.sipush 1000, 3) := dk_17 3 232 (dk_at dksX3_temperature_0 0 rfl rfl)
theorem dX3_temperature_3 : decode cX3_temperature 3 = .ok (.aload_n 0, 1) := dk_42 (dk_at dksX3_temperature_0 3 rfl rfl)
theorem dX3_temperature_4 : decode cX3_temperature 4 = .ok (.getfield 9, 3) := dk_180 0 9 (dk_at dksX3_temperature_0 4 rfl rfl)
theorem dX3_temperature_7 : decode cX3_temperature 7 = .ok (.aload_n 0, 1) := dk_42 (dk_at dksX3_temperature_0 7 rfl rfl)
theorem dX3_temperature_8 : decode cX3_temperature 8 = .ok (.getfield 21, 3) := dk_180 0 21 (dk_at dksX3_temperature_0 8 rfl rfl)
theorem dX3_temperature_11 : decode cX3_temperature 11 = .ok (.iadd, 1) := dk_96 (dk_at dksX3_temperature_0 11 rfl rfl)
theorem dX3_temperature_12 : decode cX3_temperature 12 = .ok (.imul, 1) := dk_104 (dk_at dksX3_temperature_0 12 rfl rfl)
theorem dX3_temperature_13 : decode cX3_temperature 13 = .ok (.istore_n 1, 1) := dk_60 (dk_at dksX3_temperature_0 13 rfl rfl)
theorem dX3_temperature_14 : decode cX3_temperature 14 = .ok (.aload_n 0, 1) := dk_42 (dk_at dksX3_temperature_0 14 rfl rfl)
theorem dX3_temperature_15 : decode cX3_temperature 15 = .ok (.getfield 15, 3) := dk_180 0 15 (dk_at dksX3_temperature_0 15 rfl rfl)
theorem dX3_temperature_18 : decode cX3_temperature 18 = .ok (.ifCond .ge 13, 3) := dk_156 0 13 (dk_at dksX3_temperature_0 18 rfl rfl)
theorem dX3_temperature_21 : decode cX3_temperature 21 = .ok (.aload_n 0, 1) := dk_42 (dk_at dksX3_temperature_0 21 rfl rfl)
theorem dX3_temperature_22 : decode cX3_temperature 22 = .ok (.getfield 15, 3) := dk_180 0 15 (dk_at dksX3_temperature_1 0 rfl rfl)
theorem dX3_temperature_25 : decode cX3_temperature 25 = .ok (.bipush 100, 2) := dk_16 100 (dk_at dksX3_temperature_1 3 rfl rfl)
theorem dX3_temperature_27 : decode cX3_temperature 27 = .ok (.idiv, 1) := dk_108 (dk_at dksX3_temperature_1 5 rfl rfl)
theorem dX3_temperature_28 : decode cX3_temperature 28 = .ok (.goto 24, 3) := dk_167 0 24 (dk_at dksX3_temperature_1 6 rfl rfl)
theorem dX3_temperature_31 : decode cX3_temperature 31 = .ok (.aload_n 0, 1) := dk_42 (dk_at dksX3_temperature_1 9 rfl rfl)
theorem dX3_temperature_32 : decode cX3_temperature 32 = .ok (.getfield 15, 3) := dk_180 0 15 (dk_at dksX3_temperature_1 10 rfl rfl)
theorem dX3_temperature_35 : decode cX3_temperature 35 = .ok (.iload_n 1, 1) := dk_27 (dk_at dksX3_temperature_1 13 rfl rfl)
theorem dX3_temperature_36 : decode cX3_temperature 36 = .ok (.if_icmp .le 15, 3) := dk_164 0 15 (dk_at dksX3_temperature_1 14 rfl rfl)
theorem dX3_temperature_39 : decode cX3_temperature 39 = .ok (.aload_n 0, 1) := dk_42 (dk_at dksX3_temperature_1 17 rfl rfl)
theorem dX3_temperature_40 : decode cX3_temperature 40 = .ok (.getfield 15, 3) := dk_180 0 15 (dk_at dksX3_temperature_1 18 rfl rfl)
theorem dX3_temperature_43 : decode cX3_temperature 43 = .ok (.iload_n 1, 1) := dk_27 (dk_at dksX3_temperature_1 21 rfl rfl)
theorem dX3_temperature_44 : decode cX3_temperature 44 = .ok (.isub, 1) := dk_100 (dk_at dksX3_temperature_1 22 rfl rfl)
theorem dX3_temperature_45 : decode cX3_temperature 45 = .ok (.bipush 100, 2) := dk_16 100 (dk_at dksX3_temperature_2 0 rfl rfl)
theorem dX3_temperature_47 : decode cX3_temperature 47 = .ok (.idiv, 1) := dk_108 (dk_at dksX3_temperature_2 2 rfl rfl)
theorem dX3_temperature_48 : decode cX3_temperature 48 = .ok (.goto 4, 3) := dk_167 0 4 (dk_at dksX3_temperature_2 3 rfl rfl)
theorem dX3_temperature_51 : decode cX3_temperature 51 = .ok (.iconst 0, 1) := dk_3 (dk_at dksX3_temperature_2 6 rfl rfl)
theorem dX3_temperature_52 : decode cX3_temperature 52 = .ok (.ireturn, 1) := dk_172 (dk_at dksX3_temperature_2 7 rfl rfl)
abbrev cX3_drip : ByteArray := prog_7_method_5_code
def yX3_drip : MethodName := ⟨RX3, "drip", "()I"⟩
def dkwX3_drip_1 : List UInt8 := [42, 89, 180, 0, 15, 17, 3, 232, 27, 104, 100, 181, 0, 15, 27, 172]
abbrev dktX3_drip_1 : List UInt8 := dkwX3_drip_1 ++ []
def dkwX3_drip_0 : List UInt8 := [3, 42, 182, 0, 36, 42, 180, 0, 9, 100, 184, 0, 33, 60, 42, 89, 180, 0, 21, 27, 100, 181, 0, 21]
abbrev dktX3_drip_0 : List UInt8 := dkwX3_drip_0 ++ dktX3_drip_1
theorem dksX3_drip_0 : cX3_drip.data.toList.drop 0 = dktX3_drip_0 := by decide +kernel
theorem dksX3_drip_1 : cX3_drip.data.toList.drop 24 = dktX3_drip_1 := dk_seg dksX3_drip_0 24 rfl rfl
theorem dX3_drip_0 : decode cX3_drip 0 = .ok (.iconst 0, 1) := dk_3 (dk_at dksX3_drip_0 0 rfl rfl)
theorem dX3_drip_1 : decode cX3_drip 1 = .ok (.aload_n 0, 1) := dk_42 (dk_at dksX3_drip_0 1 rfl rfl)
theorem dX3_drip_2 : decode cX3_drip 2 = .ok (.invokevirtual 36, 3) := dk_182 0 36 (dk_at dksX3_drip_0 2 rfl rfl)
theorem dX3_drip_5 : decode cX3_drip 5 = .ok (.aload_n 0, 1) := dk_42 (dk_at dksX3_drip_0 5 rfl rfl)
theorem dX3_drip_6 : decode cX3_drip 6 = .ok (.getfield 9, 3) := dk_180 0 9 (dk_at dksX3_drip_0 6 rfl rfl)
theorem dX3_drip_9 : decode cX3_drip 9 = .ok (.isub, 1) := dk_100 (dk_at dksX3_drip_0 9 rfl rfl)
theorem dX3_drip_10 : decode cX3_drip 10 = .ok (.invokestatic 33, 3) := dk_184 0 33 (dk_at dksX3_drip_0 10 rfl rfl)
theorem dX3_drip_13 : decode cX3_drip 13 = .ok (.istore_n 1, 1) := dk_60 (dk_at dksX3_drip_0 13 rfl rfl)
theorem dX3_drip_14 : decode cX3_drip 14 = .ok (.aload_n 0, 1) := dk_42 (dk_at dksX3_drip_0 14 rfl rfl)
theorem dX3_drip_15 : decode cX3_drip 15 = .ok (.dup, 1) := dk_89 (dk_at dksX3_drip_0 15 rfl rfl)
theorem dX3_drip_16 : decode cX3_drip 16 = .ok (.getfield 21, 3) := dk_180 0 21 (dk_at dksX3_drip_0 16 rfl rfl)
theorem dX3_drip_19 : decode cX3_drip 19 = .ok (.iload_n 1, 1) := dk_27 (dk_at dksX3_drip_0 19 rfl rfl)
theorem dX3_drip_20 : decode cX3_drip 20 = .ok (.isub, 1) := dk_100 (dk_at dksX3_drip_0 20 rfl rfl)
theorem dX3_drip_21 : decode cX3_drip 21 = .ok (.putfield 21, 3) := dk_181 0 21 (dk_at dksX3_drip_0 21 rfl rfl)
theorem dX3_drip_24 : decode cX3_drip 24 = .ok (.aload_n 0, 1) := dk_42 (dk_at dksX3_drip_1 0 rfl rfl)
theorem dX3_drip_25 : decode cX3_drip 25 = .ok (.dup, 1) := dk_89 (dk_at dksX3_drip_1 1 rfl rfl)
theorem dX3_drip_26 : decode cX3_drip 26 = .ok (.getfield 15, 3) := dk_180 0 15 (dk_at dksX3_drip_1 2 rfl rfl)
theorem dX3_drip_29 : decode cX3_drip 29 = .ok (.sipush 1000, 3) := dk_17 3 232 (dk_at dksX3_drip_1 5 rfl rfl)
theorem dX3_drip_32 : decode cX3_drip 32 = .ok (.iload_n 1, 1) := dk_27 (dk_at dksX3_drip_1 8 rfl rfl)
theorem dX3_drip_33 : decode cX3_drip 33 = .ok (.imul, 1) := dk_104 (dk_at dksX3_drip_1 9 rfl rfl)
theorem dX3_drip_34 : decode cX3_drip 34 = .ok (.isub, 1) := dk_100 (dk_at dksX3_drip_1 10 rfl rfl)
theorem dX3_drip_35 : decode cX3_drip 35 = .ok (.putfield 15, 3) := dk_181 0 15 (dk_at dksX3_drip_1 11 rfl rfl)
theorem dX3_drip_38 : decode cX3_drip 38 = .ok (.iload_n 1, 1) := dk_27 (dk_at dksX3_drip_1 14 rfl rfl)
theorem dX3_drip_39 : decode cX3_drip 39 = .ok (.ireturn, 1) := dk_172 (dk_at dksX3_drip_1 15 rfl rfl)
abbrev cX3_melted : ByteArray := prog_7_method_4_code
def yX3_melted : MethodName := ⟨RX3, "melted", "()I"⟩
def dkwX3_melted_1 : List UInt8 := [184, 0, 33, 172]
abbrev dktX3_melted_1 : List UInt8 := dkwX3_melted_1 ++ []
def dkwX3_melted_0 : List UInt8 := [3, 42, 180, 0, 9, 42, 180, 0, 21, 96, 42, 180, 0, 15, 17, 3, 232, 184, 0, 24, 184, 0, 30]
abbrev dktX3_melted_0 : List UInt8 := dkwX3_melted_0 ++ dktX3_melted_1
theorem dksX3_melted_0 : cX3_melted.data.toList.drop 0 = dktX3_melted_0 := by decide +kernel
theorem dksX3_melted_1 : cX3_melted.data.toList.drop 23 = dktX3_melted_1 := dk_seg dksX3_melted_0 23 rfl rfl
theorem dX3_melted_0 : decode cX3_melted 0 = .ok (.iconst 0, 1) := dk_3 (dk_at dksX3_melted_0 0 rfl rfl)
theorem dX3_melted_1 : decode cX3_melted 1 = .ok (.aload_n 0, 1) := dk_42 (dk_at dksX3_melted_0 1 rfl rfl)
theorem dX3_melted_2 : decode cX3_melted 2 = .ok (.getfield 9, 3) := dk_180 0 9 (dk_at dksX3_melted_0 2 rfl rfl)
theorem dX3_melted_5 : decode cX3_melted 5 = .ok (.aload_n 0, 1) := dk_42 (dk_at dksX3_melted_0 5 rfl rfl)
theorem dX3_melted_6 : decode cX3_melted 6 = .ok (.getfield 21, 3) := dk_180 0 21 (dk_at dksX3_melted_0 6 rfl rfl)
theorem dX3_melted_9 : decode cX3_melted 9 = .ok (.iadd, 1) := dk_96 (dk_at dksX3_melted_0 9 rfl rfl)
theorem dX3_melted_10 : decode cX3_melted 10 = .ok (.aload_n 0, 1) := dk_42 (dk_at dksX3_melted_0 10 rfl rfl)
theorem dX3_melted_11 : decode cX3_melted 11 = .ok (.getfield 15, 3) := dk_180 0 15 (dk_at dksX3_melted_0 11 rfl rfl)
theorem dX3_melted_14 : decode cX3_melted 14 = .ok (.sipush 1000, 3) := dk_17 3 232 (dk_at dksX3_melted_0 14 rfl rfl)
theorem dX3_melted_17 : decode cX3_melted 17 = .ok (.invokestatic 24, 3) := dk_184 0 24 (dk_at dksX3_melted_0 17 rfl rfl)
theorem dX3_melted_20 : decode cX3_melted 20 = .ok (.invokestatic 30, 3) := dk_184 0 30 (dk_at dksX3_melted_0 20 rfl rfl)
theorem dX3_melted_23 : decode cX3_melted 23 = .ok (.invokestatic 33, 3) := dk_184 0 33 (dk_at dksX3_melted_1 0 rfl rfl)
theorem dX3_melted_26 : decode cX3_melted 26 = .ok (.ireturn, 1) := dk_172 (dk_at dksX3_melted_1 3 rfl rfl)
abbrev cX3_wake : ByteArray := prog_7_method_6_code
def yX3_wake : MethodName := ⟨RX3, "wake", "()I"⟩
def dkwX3_wake_1 : List UInt8 := [133, 105, 20, 0, 43, 109, 184, 0, 45, 136, 61, 42, 89, 180, 0, 18, 28, 100, 181, 0, 18, 28, 172]
abbrev dktX3_wake_1 : List UInt8 := dkwX3_wake_1 ++ []
def dkwX3_wake_0 : List UInt8 := [42, 182, 0, 40, 60, 27, 157, 0, 7, 3, 167, 0, 24, 42, 180, 0, 18, 133, 27, 133, 42, 180, 0, 18]
abbrev dktX3_wake_0 : List UInt8 := dkwX3_wake_0 ++ dktX3_wake_1
theorem dksX3_wake_0 : cX3_wake.data.toList.drop 0 = dktX3_wake_0 := by decide +kernel
theorem dksX3_wake_1 : cX3_wake.data.toList.drop 24 = dktX3_wake_1 := dk_seg dksX3_wake_0 24 rfl rfl
theorem dX3_wake_0 : decode cX3_wake 0 = .ok (.aload_n 0, 1) := dk_42 (dk_at dksX3_wake_0 0 rfl rfl)
theorem dX3_wake_1 : decode cX3_wake 1 = .ok (.invokevirtual 40, 3) := dk_182 0 40 (dk_at dksX3_wake_0 1 rfl rfl)
theorem dX3_wake_4 : decode cX3_wake 4 = .ok (.istore_n 1, 1) := dk_60 (dk_at dksX3_wake_0 4 rfl rfl)
theorem dX3_wake_5 : decode cX3_wake 5 = .ok (.iload_n 1, 1) := dk_27 (dk_at dksX3_wake_0 5 rfl rfl)
theorem dX3_wake_6 : decode cX3_wake 6 = .ok (.ifCond .gt 7, 3) := dk_157 0 7 (dk_at dksX3_wake_0 6 rfl rfl)
theorem dX3_wake_9 : decode cX3_wake 9 = .ok (.iconst 0, 1) := dk_3 (dk_at dksX3_wake_0 9 rfl rfl)
theorem dX3_wake_10 : decode cX3_wake 10 = .ok (.goto 24, 3) := dk_167 0 24 (dk_at dksX3_wake_0 10 rfl rfl)
theorem dX3_wake_13 : decode cX3_wake 13 = .ok (.aload_n 0, 1) := dk_42 (dk_at dksX3_wake_0 13 rfl rfl)
theorem dX3_wake_14 : decode cX3_wake 14 = .ok (.getfield 18, 3) := dk_180 0 18 (dk_at dksX3_wake_0 14 rfl rfl)
theorem dX3_wake_17 : decode cX3_wake 17 = .ok (.i2l, 1) := dk_133 (dk_at dksX3_wake_0 17 rfl rfl)
theorem dX3_wake_18 : decode cX3_wake 18 = .ok (.iload_n 1, 1) := dk_27 (dk_at dksX3_wake_0 18 rfl rfl)
theorem dX3_wake_19 : decode cX3_wake 19 = .ok (.i2l, 1) := dk_133 (dk_at dksX3_wake_0 19 rfl rfl)
theorem dX3_wake_20 : decode cX3_wake 20 = .ok (.aload_n 0, 1) := dk_42 (dk_at dksX3_wake_0 20 rfl rfl)
theorem dX3_wake_21 : decode cX3_wake 21 = .ok (.getfield 18, 3) := dk_180 0 18 (dk_at dksX3_wake_0 21 rfl rfl)
theorem dX3_wake_24 : decode cX3_wake 24 = .ok (.i2l, 1) := dk_133 (dk_at dksX3_wake_1 0 rfl rfl)
theorem dX3_wake_25 : decode cX3_wake 25 = .ok (.lmul, 1) := dk_105 (dk_at dksX3_wake_1 1 rfl rfl)
theorem dX3_wake_26 : decode cX3_wake 26 = .ok (.ldc2_w 43, 3) := dk_20 0 43 (dk_at dksX3_wake_1 2 rfl rfl)
theorem dX3_wake_29 : decode cX3_wake 29 = .ok (.ldiv, 1) := dk_109 (dk_at dksX3_wake_1 5 rfl rfl)
theorem dX3_wake_30 : decode cX3_wake 30 = .ok (.invokestatic 45, 3) := dk_184 0 45 (dk_at dksX3_wake_1 6 rfl rfl)
theorem dX3_wake_33 : decode cX3_wake 33 = .ok (.l2i, 1) := dk_136 (dk_at dksX3_wake_1 9 rfl rfl)
theorem dX3_wake_34 : decode cX3_wake 34 = .ok (.istore_n 2, 1) := dk_61 (dk_at dksX3_wake_1 10 rfl rfl)
theorem dX3_wake_35 : decode cX3_wake 35 = .ok (.aload_n 0, 1) := dk_42 (dk_at dksX3_wake_1 11 rfl rfl)
theorem dX3_wake_36 : decode cX3_wake 36 = .ok (.dup, 1) := dk_89 (dk_at dksX3_wake_1 12 rfl rfl)
theorem dX3_wake_37 : decode cX3_wake 37 = .ok (.getfield 18, 3) := dk_180 0 18 (dk_at dksX3_wake_1 13 rfl rfl)
theorem dX3_wake_40 : decode cX3_wake 40 = .ok (.iload_n 2, 1) := dk_28 (dk_at dksX3_wake_1 16 rfl rfl)
theorem dX3_wake_41 : decode cX3_wake 41 = .ok (.isub, 1) := dk_100 (dk_at dksX3_wake_1 17 rfl rfl)
theorem dX3_wake_42 : decode cX3_wake 42 = .ok (.putfield 18, 3) := dk_181 0 18 (dk_at dksX3_wake_1 18 rfl rfl)
theorem dX3_wake_45 : decode cX3_wake 45 = .ok (.iload_n 2, 1) := dk_28 (dk_at dksX3_wake_1 21 rfl rfl)
theorem dX3_wake_46 : decode cX3_wake 46 = .ok (.ireturn, 1) := dk_172 (dk_at dksX3_wake_1 22 rfl rfl)
abbrev cX3_isThawed : ByteArray := prog_7_method_3_code
def yX3_isThawed : MethodName := ⟨RX3, "isThawed", "()Z"⟩
def dkwX3_isThawed_0 : List UInt8 := [42, 180, 0, 15, 155, 0, 7, 4, 167, 0, 4, 3, 172]
abbrev dktX3_isThawed_0 : List UInt8 := dkwX3_isThawed_0 ++ []
theorem dksX3_isThawed_0 : cX3_isThawed.data.toList.drop 0 = dktX3_isThawed_0 := by decide +kernel
theorem dX3_isThawed_0 : decode cX3_isThawed 0 = .ok (.aload_n 0, 1) := dk_42 (dk_at dksX3_isThawed_0 0 rfl rfl)
theorem dX3_isThawed_1 : decode cX3_isThawed 1 = .ok (.getfield 15, 3) := dk_180 0 15 (dk_at dksX3_isThawed_0 1 rfl rfl)
theorem dX3_isThawed_4 : decode cX3_isThawed 4 = .ok (.ifCond .lt 7, 3) := dk_155 0 7 (dk_at dksX3_isThawed_0 4 rfl rfl)
theorem dX3_isThawed_7 : decode cX3_isThawed 7 = .ok (.iconst 1, 1) := dk_4 (dk_at dksX3_isThawed_0 7 rfl rfl)
theorem dX3_isThawed_8 : decode cX3_isThawed 8 = .ok (.goto 4, 3) := dk_167 0 4 (dk_at dksX3_isThawed_0 8 rfl rfl)
theorem dX3_isThawed_11 : decode cX3_isThawed 11 = .ok (.iconst 0, 1) := dk_3 (dk_at dksX3_isThawed_0 11 rfl rfl)
theorem dX3_isThawed_12 : decode cX3_isThawed 12 = .ok (.ireturn, 1) := dk_172 (dk_at dksX3_isThawed_0 12 rfl rfl)
theorem q40 : (Jvm.Cond.initialized "Wakeground$Layer") ∈ lw_all := lw_g (lw_at lw_m1 6 rfl) rfl
theorem q108 : (Jvm.Cond.instantiable "Wakeground$Layer" (4 : Nat)) ∈ lw_all := lw_g (lw_at lw_m1 74 rfl) rfl
theorem q110 : (Jvm.Cond.instanceMethod ({ cls := "Wakeground$Layer", name := "<init>", desc := "()V" } : Jvm.MethodName)) ∈ lw_all := lw_g (lw_at lw_m1 76 rfl) rfl
theorem q111 : (Jvm.Cond.code ({ cls := "Wakeground$Layer", name := "<init>", desc := "()V" } : Jvm.MethodName) prog_7_method_1_code (1 : Nat) (Option.none : Option Jvm.ClassFile.FieldType)) ∈ lw_all := lw_g (lw_at lw_m1 77 rfl) rfl
theorem q112 : (Jvm.Cond.methodLink "Wakeground$Layer" (3 : Nat) ({ cls := "java/lang/Object", name := "<init>", desc := "()V" } : Jvm.MethodName)) ∈ lw_all := lw_g (lw_at lw_m1 78 rfl) rfl
theorem q113 : (Jvm.Cond.fieldLink "Wakeground$Layer" (9 : Nat) "Wakeground$Layer" "pore" "I") ∈ lw_all := lw_g (lw_at lw_m1 79 rfl) rfl
theorem q116 : (Jvm.Cond.fieldLink "Wakeground$Layer" (21 : Nat) "Wakeground$Layer" "excess" "I") ∈ lw_all := lw_g (lw_at lw_m1 82 rfl) rfl
theorem q118 : (Jvm.Cond.fieldLink "Wakeground$Layer" (15 : Nat) "Wakeground$Layer" "energy" "I") ∈ lw_all := lw_g (lw_at lw_m1 84 rfl) rfl
theorem q121 : (Jvm.Cond.fieldLink "Wakeground$Layer" (18 : Nat) "Wakeground$Layer" "carbon" "I") ∈ lw_all := lw_g (lw_at lw_m1 87 rfl) rfl
theorem q124 : (Jvm.Cond.lays "Wakeground$Layer" "Wakeground$Layer" "pore" "I") ∈ lw_all := lw_g (lw_at lw_m1 90 rfl) rfl
theorem q125 : (Jvm.Cond.soleField "Wakeground$Layer" "pore") ∈ lw_all := lw_g (lw_at lw_m1 91 rfl) rfl
theorem q126 : (Jvm.Cond.lays "Wakeground$Layer" "Wakeground$Layer" "excess" "I") ∈ lw_all := lw_g (lw_at lw_m1 92 rfl) rfl
theorem q127 : (Jvm.Cond.soleField "Wakeground$Layer" "excess") ∈ lw_all := lw_g (lw_at lw_m1 93 rfl) rfl
theorem q128 : (Jvm.Cond.lays "Wakeground$Layer" "Wakeground$Layer" "energy" "I") ∈ lw_all := lw_g (lw_at lw_m1 94 rfl) rfl
theorem q129 : (Jvm.Cond.soleField "Wakeground$Layer" "energy") ∈ lw_all := lw_g (lw_at lw_m1 95 rfl) rfl
theorem q130 : (Jvm.Cond.lays "Wakeground$Layer" "Wakeground$Layer" "carbon" "I") ∈ lw_all := lw_g (lw_at lw_m1 96 rfl) rfl
theorem q131 : (Jvm.Cond.soleField "Wakeground$Layer" "carbon") ∈ lw_all := lw_g (lw_at lw_m1 97 rfl) rfl
theorem q132 : (Jvm.Cond.superclass "Wakeground$Layer" "java/lang/Object") ∈ lw_all := lw_g (lw_at lw_m1 98 rfl) rfl
theorem q508 : (Jvm.Cond.instanceMethod ({ cls := "Wakeground$Layer", name := "temperature", desc := "()I" } : Jvm.MethodName)) ∈ lw_all := lw_g (lw_at lw_m2 234 rfl) rfl
theorem q509 : (Jvm.Cond.selects "Wakeground$Layer" ({ cls := "Wakeground$Layer", name := "temperature", desc := "()I" } : Jvm.MethodName) ({ cls := "Wakeground$Layer", name := "temperature", desc := "()I" } : Jvm.MethodName)) ∈ lw_all := lw_g (lw_at lw_m2 235 rfl) rfl
theorem q510 : (Jvm.Cond.code ({ cls := "Wakeground$Layer", name := "temperature", desc := "()I" } : Jvm.MethodName) prog_7_method_2_code (2 : Nat) (Option.some Jvm.ClassFile.FieldType.int)) ∈ lw_all := lw_g (lw_at lw_m2 236 rfl) rfl
theorem q524 : (Jvm.Cond.instanceMethod ({ cls := "Wakeground$Layer", name := "drip", desc := "()I" } : Jvm.MethodName)) ∈ lw_all := lw_g (lw_at lw_m3 10 rfl) rfl
theorem q525 : (Jvm.Cond.selects "Wakeground$Layer" ({ cls := "Wakeground$Layer", name := "drip", desc := "()I" } : Jvm.MethodName) ({ cls := "Wakeground$Layer", name := "drip", desc := "()I" } : Jvm.MethodName)) ∈ lw_all := lw_g (lw_at lw_m3 11 rfl) rfl
theorem q526 : (Jvm.Cond.code ({ cls := "Wakeground$Layer", name := "drip", desc := "()I" } : Jvm.MethodName) prog_7_method_5_code (2 : Nat) (Option.some Jvm.ClassFile.FieldType.int)) ∈ lw_all := lw_g (lw_at lw_m3 12 rfl) rfl
theorem q527 : (Jvm.Cond.methodLink "Wakeground$Layer" (36 : Nat) ({ cls := "Wakeground$Layer", name := "melted", desc := "()I" } : Jvm.MethodName)) ∈ lw_all := lw_g (lw_at lw_m3 13 rfl) rfl
theorem q528 : (Jvm.Cond.instanceMethod ({ cls := "Wakeground$Layer", name := "melted", desc := "()I" } : Jvm.MethodName)) ∈ lw_all := lw_g (lw_at lw_m3 14 rfl) rfl
theorem q529 : (Jvm.Cond.selects "Wakeground$Layer" ({ cls := "Wakeground$Layer", name := "melted", desc := "()I" } : Jvm.MethodName) ({ cls := "Wakeground$Layer", name := "melted", desc := "()I" } : Jvm.MethodName)) ∈ lw_all := lw_g (lw_at lw_m3 15 rfl) rfl
theorem q530 : (Jvm.Cond.code ({ cls := "Wakeground$Layer", name := "melted", desc := "()I" } : Jvm.MethodName) prog_7_method_4_code (1 : Nat) (Option.some Jvm.ClassFile.FieldType.int)) ∈ lw_all := lw_g (lw_at lw_m3 16 rfl) rfl
theorem q531 : (Jvm.Cond.methodLink "Wakeground$Layer" (24 : Nat) ({ cls := "java/lang/Math", name := "floorDiv", desc := "(II)I" } : Jvm.MethodName)) ∈ lw_all := lw_g (lw_at lw_m3 17 rfl) rfl
theorem q534 : (Jvm.Cond.methodLink "Wakeground$Layer" (30 : Nat) ({ cls := "java/lang/Math", name := "min", desc := "(II)I" } : Jvm.MethodName)) ∈ lw_all := lw_g (lw_at lw_m3 20 rfl) rfl
theorem q535 : (Jvm.Cond.methodLink "Wakeground$Layer" (33 : Nat) ({ cls := "java/lang/Math", name := "max", desc := "(II)I" } : Jvm.MethodName)) ∈ lw_all := lw_g (lw_at lw_m3 21 rfl) rfl
theorem q567 : (Jvm.Cond.instanceMethod ({ cls := "Wakeground$Layer", name := "wake", desc := "()I" } : Jvm.MethodName)) ∈ lw_all := lw_g (lw_at lw_m3 53 rfl) rfl
theorem q568 : (Jvm.Cond.selects "Wakeground$Layer" ({ cls := "Wakeground$Layer", name := "wake", desc := "()I" } : Jvm.MethodName) ({ cls := "Wakeground$Layer", name := "wake", desc := "()I" } : Jvm.MethodName)) ∈ lw_all := lw_g (lw_at lw_m3 54 rfl) rfl
theorem q569 : (Jvm.Cond.code ({ cls := "Wakeground$Layer", name := "wake", desc := "()I" } : Jvm.MethodName) prog_7_method_6_code (3 : Nat) (Option.some Jvm.ClassFile.FieldType.int)) ∈ lw_all := lw_g (lw_at lw_m3 55 rfl) rfl
theorem q570 : (Jvm.Cond.methodLink "Wakeground$Layer" (40 : Nat) ({ cls := "Wakeground$Layer", name := "temperature", desc := "()I" } : Jvm.MethodName)) ∈ lw_all := lw_g (lw_at lw_m3 56 rfl) rfl
theorem q571 : (Jvm.Cond.constantLong "Wakeground$Layer" (43 : Nat) (1000 : Int64)) ∈ lw_all := lw_g (lw_at lw_m3 57 rfl) rfl
theorem q572 : (Jvm.Cond.methodLink "Wakeground$Layer" (45 : Nat) ({ cls := "java/lang/Math", name := "min", desc := "(JJ)J" } : Jvm.MethodName)) ∈ lw_all := lw_g (lw_at lw_m3 58 rfl) rfl
theorem q621 : (Jvm.Cond.instanceMethod ({ cls := "Wakeground$Layer", name := "isThawed", desc := "()Z" } : Jvm.MethodName)) ∈ lw_all := lw_g (lw_at lw_m3 107 rfl) rfl
theorem q622 : (Jvm.Cond.selects "Wakeground$Layer" ({ cls := "Wakeground$Layer", name := "isThawed", desc := "()Z" } : Jvm.MethodName) ({ cls := "Wakeground$Layer", name := "isThawed", desc := "()Z" } : Jvm.MethodName)) ∈ lw_all := lw_g (lw_at lw_m3 108 rfl) rfl
theorem q623 : (Jvm.Cond.code ({ cls := "Wakeground$Layer", name := "isThawed", desc := "()Z" } : Jvm.MethodName) prog_7_method_3_code (1 : Nat) (Option.some Jvm.ClassFile.FieldType.boolean)) ∈ lw_all := lw_g (lw_at lw_m3 109 rfl) rfl
theorem q717 : (Jvm.Cond.selects "Wakeground$Layer" ({ cls := "java/lang/Object", name := "getClass", desc := "()Ljava/lang/Class;" } : Jvm.MethodName) ({ cls := "java/lang/Object", name := "getClass", desc := "()Ljava/lang/Class;" } : Jvm.MethodName)) ∈ lw_all := lw_g (lw_at lw_m3 203 rfl) rfl
theorem q839 : (Jvm.Cond.selects "Wakeground$Layer" ({ cls := "java/lang/Object", name := "equals", desc := "(Ljava/lang/Object;)Z" } : Jvm.MethodName) ({ cls := "java/lang/Object", name := "equals", desc := "(Ljava/lang/Object;)Z" } : Jvm.MethodName)) ∈ lw_all := lw_g (lw_at lw_m4 85 rfl) rfl
theorem q1209 : (Jvm.Cond.castable "Wakeground$Layer" "java/lang/Object") ∈ lw_tbl := lw_at lw_m5 215 rfl
theorem in_X3 : ∀ w ∈ wsX30, w ∈ lw_all := lw_in wsX30 [124, 126, 128, 130] (by decide +kernel) (by decide +kernel)
/-! Wakeground$Around -/
set_option maxRecDepth 100000
def RX5 : String := "Wakeground$Around"
def TX5 : u_T := fun k => match k with
  | 0 => ("Wakeground$Around", "cell", "I", true)
  | _ => ("Wakeground$Around", "next", "I", false)
def tyX5 : Nat → FieldType := fun k => match k with
  | 0 => .int
  | _ => .int
abbrev wsX50 : List Cond := u_ws RX5 TX5 2
theorem nmX5 : ∀ a, a < 2 → ∀ b, b < 2 → a ≠ b → (TX5 a).2.1 ≠ (TX5 b).2.1 := by decide +kernel
theorem tyX5_ok : ∀ k, k < 2 → parseFieldDescriptor (TX5 k).2.2.1 = some (tyX5 k) := by decide +kernel
abbrev cX5_init : ByteArray := prog_2_method_1_code
def yX5_init : MethodName := ⟨RX5, "<init>", "(I)V"⟩
def dkwX5_init_0 : List UInt8 := [42, 183, 0, 3, 42, 27, 181, 0, 9, 42, 182, 0, 15, 177]
abbrev dktX5_init_0 : List UInt8 := dkwX5_init_0 ++ []
theorem dksX5_init_0 : cX5_init.data.toList.drop 0 = dktX5_init_0 := by decide +kernel
theorem dX5_init_0 : decode cX5_init 0 = .ok (.aload_n 0, 1) := dk_42 (dk_at dksX5_init_0 0 rfl rfl)
theorem dX5_init_1 : decode cX5_init 1 = .ok (.invokespecial 3, 3) := dk_183 0 3 (dk_at dksX5_init_0 1 rfl rfl)
theorem dX5_init_4 : decode cX5_init 4 = .ok (.aload_n 0, 1) := dk_42 (dk_at dksX5_init_0 4 rfl rfl)
theorem dX5_init_5 : decode cX5_init 5 = .ok (.iload_n 1, 1) := dk_27 (dk_at dksX5_init_0 5 rfl rfl)
theorem dX5_init_6 : decode cX5_init 6 = .ok (.putfield 9, 3) := dk_181 0 9 (dk_at dksX5_init_0 6 rfl rfl)
theorem dX5_init_9 : decode cX5_init 9 = .ok (.aload_n 0, 1) := dk_42 (dk_at dksX5_init_0 9 rfl rfl)
theorem dX5_init_10 : decode cX5_init 10 = .ok (.invokevirtual 15, 3) := dk_182 0 15 (dk_at dksX5_init_0 10 rfl rfl)
theorem dX5_init_13 : decode cX5_init 13 = .ok (.return_, 1) := dk_177 (dk_at dksX5_init_0 13 rfl rfl)
abbrev cX5_skip : ByteArray := prog_2_method_3_code
def yX5_skip : MethodName := ⟨RX5, "skip", "()V"⟩
def dkwX5_skip_1 : List UInt8 := [96, 181, 0, 22, 167, 255, 228, 177]
abbrev dktX5_skip_1 : List UInt8 := dkwX5_skip_1 ++ []
def dkwX5_skip_0 : List UInt8 := [42, 180, 0, 22, 178, 0, 18, 190, 162, 0, 23, 42, 182, 0, 28, 154, 0, 16, 42, 89, 180, 0, 22, 4]
abbrev dktX5_skip_0 : List UInt8 := dkwX5_skip_0 ++ dktX5_skip_1
theorem dksX5_skip_0 : cX5_skip.data.toList.drop 0 = dktX5_skip_0 := by decide +kernel
theorem dksX5_skip_1 : cX5_skip.data.toList.drop 24 = dktX5_skip_1 := dk_seg dksX5_skip_0 24 rfl rfl
theorem dX5_skip_0 : decode cX5_skip 0 = .ok (.aload_n 0, 1) := dk_42 (dk_at dksX5_skip_0 0 rfl rfl)
theorem dX5_skip_1 : decode cX5_skip 1 = .ok (.getfield 22, 3) := dk_180 0 22 (dk_at dksX5_skip_0 1 rfl rfl)
theorem dX5_skip_4 : decode cX5_skip 4 = .ok (.getstatic 18, 3) := dk_178 0 18 (dk_at dksX5_skip_0 4 rfl rfl)
theorem dX5_skip_7 : decode cX5_skip 7 = .ok (.arraylength, 1) := dk_190 (dk_at dksX5_skip_0 7 rfl rfl)
theorem dX5_skip_8 : decode cX5_skip 8 = .ok (.if_icmp .ge 23, 3) := dk_162 0 23 (dk_at dksX5_skip_0 8 rfl rfl)
theorem dX5_skip_11 : decode cX5_skip 11 = .ok (.aload_n 0, 1) := dk_42 (dk_at dksX5_skip_0 11 rfl rfl)
theorem dX5_skip_12 : decode cX5_skip 12 = .ok (.invokevirtual 28, 3) := dk_182 0 28 (dk_at dksX5_skip_0 12 rfl rfl)
theorem dX5_skip_15 : decode cX5_skip 15 = .ok (.ifCond .ne 16, 3) := dk_154 0 16 (dk_at dksX5_skip_0 15 rfl rfl)
theorem dX5_skip_18 : decode cX5_skip 18 = .ok (.aload_n 0, 1) := dk_42 (dk_at dksX5_skip_0 18 rfl rfl)
theorem dX5_skip_19 : decode cX5_skip 19 = .ok (.dup, 1) := dk_89 (dk_at dksX5_skip_0 19 rfl rfl)
theorem dX5_skip_20 : decode cX5_skip 20 = .ok (.getfield 22, 3) := dk_180 0 22 (dk_at dksX5_skip_0 20 rfl rfl)
theorem dX5_skip_23 : decode cX5_skip 23 = .ok (.iconst 1, 1) := dk_4 (dk_at dksX5_skip_0 23 rfl rfl)
theorem dX5_skip_24 : decode cX5_skip 24 = .ok (.iadd, 1) := dk_96 (dk_at dksX5_skip_1 0 rfl rfl)
theorem dX5_skip_25 : decode cX5_skip 25 = .ok (.putfield 22, 3) := dk_181 0 22 (dk_at dksX5_skip_1 1 rfl rfl)
theorem dX5_skip_28 : decode cX5_skip 28 = .ok (.goto (-28), 3) := dk_167 255 228 (dk_at dksX5_skip_1 4 rfl rfl)
theorem dX5_skip_31 : decode cX5_skip 31 = .ok (.return_, 1) := dk_177 (dk_at dksX5_skip_1 7 rfl rfl)
abbrev cX5_isOn : ByteArray := prog_2_method_2_code
def yX5_isOn : MethodName := ⟨RX5, "isOn", "()Z"⟩
def dkwX5_isOn_2 : List UInt8 := [8, 162, 0, 7, 4, 167, 0, 4, 3, 172]
abbrev dktX5_isOn_2 : List UInt8 := dkwX5_isOn_2 ++ []
def dkwX5_isOn_1 : List UInt8 := [178, 0, 25, 42, 180, 0, 22, 46, 96, 61, 27, 155, 0, 21, 27, 8, 162, 0, 16, 28, 155, 0, 12, 28]
abbrev dktX5_isOn_1 : List UInt8 := dkwX5_isOn_1 ++ dktX5_isOn_2
def dkwX5_isOn_0 : List UInt8 := [42, 180, 0, 9, 8, 108, 178, 0, 18, 42, 180, 0, 22, 46, 96, 60, 42, 180, 0, 9, 8, 112]
abbrev dktX5_isOn_0 : List UInt8 := dkwX5_isOn_0 ++ dktX5_isOn_1
theorem dksX5_isOn_0 : cX5_isOn.data.toList.drop 0 = dktX5_isOn_0 := by decide +kernel
theorem dksX5_isOn_1 : cX5_isOn.data.toList.drop 22 = dktX5_isOn_1 := dk_seg dksX5_isOn_0 22 rfl rfl
theorem dksX5_isOn_2 : cX5_isOn.data.toList.drop 46 = dktX5_isOn_2 := dk_seg dksX5_isOn_1 24 rfl rfl
theorem dX5_isOn_0 : decode cX5_isOn 0 = .ok (.aload_n 0, 1) := dk_42 (dk_at dksX5_isOn_0 0 rfl rfl)
theorem dX5_isOn_1 : decode cX5_isOn 1 = .ok (.getfield 9, 3) := dk_180 0 9 (dk_at dksX5_isOn_0 1 rfl rfl)
theorem dX5_isOn_4 : decode cX5_isOn 4 = .ok (.iconst 5, 1) := dk_8 (dk_at dksX5_isOn_0 4 rfl rfl)
theorem dX5_isOn_5 : decode cX5_isOn 5 = .ok (.idiv, 1) := dk_108 (dk_at dksX5_isOn_0 5 rfl rfl)
theorem dX5_isOn_6 : decode cX5_isOn 6 = .ok (.getstatic 18, 3) := dk_178 0 18 (dk_at dksX5_isOn_0 6 rfl rfl)
theorem dX5_isOn_9 : decode cX5_isOn 9 = .ok (.aload_n 0, 1) := dk_42 (dk_at dksX5_isOn_0 9 rfl rfl)
theorem dX5_isOn_10 : decode cX5_isOn 10 = .ok (.getfield 22, 3) := dk_180 0 22 (dk_at dksX5_isOn_0 10 rfl rfl)
theorem dX5_isOn_13 : decode cX5_isOn 13 = .ok (.iaload, 1) := dk_46 (dk_at dksX5_isOn_0 13 rfl rfl)
theorem dX5_isOn_14 : decode cX5_isOn 14 = .ok (.iadd, 1) := dk_96 (dk_at dksX5_isOn_0 14 rfl rfl)
theorem dX5_isOn_15 : decode cX5_isOn 15 = .ok (.istore_n 1, 1) := dk_60 (dk_at dksX5_isOn_0 15 rfl rfl)
theorem dX5_isOn_16 : decode cX5_isOn 16 = .ok (.aload_n 0, 1) := dk_42 (dk_at dksX5_isOn_0 16 rfl rfl)
theorem dX5_isOn_17 : decode cX5_isOn 17 = .ok (.getfield 9, 3) := dk_180 0 9 (dk_at dksX5_isOn_0 17 rfl rfl)
theorem dX5_isOn_20 : decode cX5_isOn 20 = .ok (.iconst 5, 1) := dk_8 (dk_at dksX5_isOn_0 20 rfl rfl)
theorem dX5_isOn_21 : decode cX5_isOn 21 = .ok (.irem, 1) := dk_112 (dk_at dksX5_isOn_0 21 rfl rfl)
theorem dX5_isOn_22 : decode cX5_isOn 22 = .ok (.getstatic 25, 3) := dk_178 0 25 (dk_at dksX5_isOn_1 0 rfl rfl)
theorem dX5_isOn_25 : decode cX5_isOn 25 = .ok (.aload_n 0, 1) := dk_42 (dk_at dksX5_isOn_1 3 rfl rfl)
theorem dX5_isOn_26 : decode cX5_isOn 26 = .ok (.getfield 22, 3) := dk_180 0 22 (dk_at dksX5_isOn_1 4 rfl rfl)
theorem dX5_isOn_29 : decode cX5_isOn 29 = .ok (.iaload, 1) := dk_46 (dk_at dksX5_isOn_1 7 rfl rfl)
theorem dX5_isOn_30 : decode cX5_isOn 30 = .ok (.iadd, 1) := dk_96 (dk_at dksX5_isOn_1 8 rfl rfl)
theorem dX5_isOn_31 : decode cX5_isOn 31 = .ok (.istore_n 2, 1) := dk_61 (dk_at dksX5_isOn_1 9 rfl rfl)
theorem dX5_isOn_32 : decode cX5_isOn 32 = .ok (.iload_n 1, 1) := dk_27 (dk_at dksX5_isOn_1 10 rfl rfl)
theorem dX5_isOn_33 : decode cX5_isOn 33 = .ok (.ifCond .lt 21, 3) := dk_155 0 21 (dk_at dksX5_isOn_1 11 rfl rfl)
theorem dX5_isOn_36 : decode cX5_isOn 36 = .ok (.iload_n 1, 1) := dk_27 (dk_at dksX5_isOn_1 14 rfl rfl)
theorem dX5_isOn_37 : decode cX5_isOn 37 = .ok (.iconst 5, 1) := dk_8 (dk_at dksX5_isOn_1 15 rfl rfl)
theorem dX5_isOn_38 : decode cX5_isOn 38 = .ok (.if_icmp .ge 16, 3) := dk_162 0 16 (dk_at dksX5_isOn_1 16 rfl rfl)
theorem dX5_isOn_41 : decode cX5_isOn 41 = .ok (.iload_n 2, 1) := dk_28 (dk_at dksX5_isOn_1 19 rfl rfl)
theorem dX5_isOn_42 : decode cX5_isOn 42 = .ok (.ifCond .lt 12, 3) := dk_155 0 12 (dk_at dksX5_isOn_1 20 rfl rfl)
theorem dX5_isOn_45 : decode cX5_isOn 45 = .ok (.iload_n 2, 1) := dk_28 (dk_at dksX5_isOn_1 23 rfl rfl)
theorem dX5_isOn_46 : decode cX5_isOn 46 = .ok (.iconst 5, 1) := dk_8 (dk_at dksX5_isOn_2 0 rfl rfl)
theorem dX5_isOn_47 : decode cX5_isOn 47 = .ok (.if_icmp .ge 7, 3) := dk_162 0 7 (dk_at dksX5_isOn_2 1 rfl rfl)
theorem dX5_isOn_50 : decode cX5_isOn 50 = .ok (.iconst 1, 1) := dk_4 (dk_at dksX5_isOn_2 4 rfl rfl)
theorem dX5_isOn_51 : decode cX5_isOn 51 = .ok (.goto 4, 3) := dk_167 0 4 (dk_at dksX5_isOn_2 5 rfl rfl)
theorem dX5_isOn_54 : decode cX5_isOn 54 = .ok (.iconst 0, 1) := dk_3 (dk_at dksX5_isOn_2 8 rfl rfl)
theorem dX5_isOn_55 : decode cX5_isOn 55 = .ok (.ireturn, 1) := dk_172 (dk_at dksX5_isOn_2 9 rfl rfl)
abbrev cX5_hasNext : ByteArray := prog_2_method_4_code
def yX5_hasNext : MethodName := ⟨RX5, "hasNext", "()Z"⟩
def dkwX5_hasNext_0 : List UInt8 := [42, 180, 0, 22, 178, 0, 18, 190, 162, 0, 7, 4, 167, 0, 4, 3, 172]
abbrev dktX5_hasNext_0 : List UInt8 := dkwX5_hasNext_0 ++ []
theorem dksX5_hasNext_0 : cX5_hasNext.data.toList.drop 0 = dktX5_hasNext_0 := by decide +kernel
theorem dX5_hasNext_0 : decode cX5_hasNext 0 = .ok (.aload_n 0, 1) := dk_42 (dk_at dksX5_hasNext_0 0 rfl rfl)
theorem dX5_hasNext_1 : decode cX5_hasNext 1 = .ok (.getfield 22, 3) := dk_180 0 22 (dk_at dksX5_hasNext_0 1 rfl rfl)
theorem dX5_hasNext_4 : decode cX5_hasNext 4 = .ok (.getstatic 18, 3) := dk_178 0 18 (dk_at dksX5_hasNext_0 4 rfl rfl)
theorem dX5_hasNext_7 : decode cX5_hasNext 7 = .ok (.arraylength, 1) := dk_190 (dk_at dksX5_hasNext_0 7 rfl rfl)
theorem dX5_hasNext_8 : decode cX5_hasNext 8 = .ok (.if_icmp .ge 7, 3) := dk_162 0 7 (dk_at dksX5_hasNext_0 8 rfl rfl)
theorem dX5_hasNext_11 : decode cX5_hasNext 11 = .ok (.iconst 1, 1) := dk_4 (dk_at dksX5_hasNext_0 11 rfl rfl)
theorem dX5_hasNext_12 : decode cX5_hasNext 12 = .ok (.goto 4, 3) := dk_167 0 4 (dk_at dksX5_hasNext_0 12 rfl rfl)
theorem dX5_hasNext_15 : decode cX5_hasNext 15 = .ok (.iconst 0, 1) := dk_3 (dk_at dksX5_hasNext_0 15 rfl rfl)
theorem dX5_hasNext_16 : decode cX5_hasNext 16 = .ok (.ireturn, 1) := dk_172 (dk_at dksX5_hasNext_0 16 rfl rfl)
abbrev cX5_next : ByteArray := prog_2_method_6_code
def yX5_next : MethodName := ⟨RX5, "next", "()Ljava/lang/Object;"⟩
theorem dX5_next_0 : decode cX5_next 0 = .ok (.aload_n 0, 1) := by decide +kernel
theorem dX5_next_1 : decode cX5_next 1 = .ok (.invokevirtual 44, 3) := by decide +kernel
theorem dX5_next_4 : decode cX5_next 4 = .ok (.areturn, 1) := by decide +kernel
abbrev cX5_next_2 : ByteArray := prog_2_method_5_code
def yX5_next_2 : MethodName := ⟨RX5, "next", "()Ljava/lang/Integer;"⟩
def dkwX5_next_2_2 : List UInt8 := [181, 0, 22, 42, 182, 0, 15, 27, 184, 0, 38, 176]
abbrev dktX5_next_2_2 : List UInt8 := dkwX5_next_2_2 ++ []
def dkwX5_next_2_1 : List UInt8 := [180, 0, 22, 46, 104, 96, 178, 0, 25, 42, 180, 0, 22, 46, 96, 60, 42, 89, 180, 0, 22, 4, 96]
abbrev dktX5_next_2_1 : List UInt8 := dkwX5_next_2_1 ++ dktX5_next_2_2
def dkwX5_next_2_0 : List UInt8 := [42, 182, 0, 32, 154, 0, 11, 187, 0, 35, 89, 183, 0, 37, 191, 42, 180, 0, 9, 8, 178, 0, 18, 42]
abbrev dktX5_next_2_0 : List UInt8 := dkwX5_next_2_0 ++ dktX5_next_2_1
theorem dksX5_next_2_0 : cX5_next_2.data.toList.drop 0 = dktX5_next_2_0 := by decide +kernel
theorem dksX5_next_2_1 : cX5_next_2.data.toList.drop 24 = dktX5_next_2_1 := dk_seg dksX5_next_2_0 24 rfl rfl
theorem dksX5_next_2_2 : cX5_next_2.data.toList.drop 47 = dktX5_next_2_2 := dk_seg dksX5_next_2_1 23 rfl rfl
theorem dX5_next_2_0 : decode cX5_next_2 0 = .ok (.aload_n 0, 1) := dk_42 (dk_at dksX5_next_2_0 0 rfl rfl)
theorem dX5_next_2_1 : decode cX5_next_2 1 = .ok (.invokevirtual 32, 3) := dk_182 0 32 (dk_at dksX5_next_2_0 1 rfl rfl)
theorem dX5_next_2_4 : decode cX5_next_2 4 = .ok (.ifCond .ne 11, 3) := dk_154 0 11 (dk_at dksX5_next_2_0 4 rfl rfl)
theorem dX5_next_2_7 : decode cX5_next_2 7 = .ok (.new 35, 3) := dk_187 0 35 (dk_at dksX5_next_2_0 7 rfl rfl)
theorem dX5_next_2_10 : decode cX5_next_2 10 = .ok (.dup, 1) := dk_89 (dk_at dksX5_next_2_0 10 rfl rfl)
theorem dX5_next_2_11 : decode cX5_next_2 11 = .ok (.invokespecial 37, 3) := dk_183 0 37 (dk_at dksX5_next_2_0 11 rfl rfl)
theorem dX5_next_2_14 : decode cX5_next_2 14 = .ok (.athrow, 1) := dk_191 (dk_at dksX5_next_2_0 14 rfl rfl)
theorem dX5_next_2_15 : decode cX5_next_2 15 = .ok (.aload_n 0, 1) := dk_42 (dk_at dksX5_next_2_0 15 rfl rfl)
theorem dX5_next_2_16 : decode cX5_next_2 16 = .ok (.getfield 9, 3) := dk_180 0 9 (dk_at dksX5_next_2_0 16 rfl rfl)
theorem dX5_next_2_19 : decode cX5_next_2 19 = .ok (.iconst 5, 1) := dk_8 (dk_at dksX5_next_2_0 19 rfl rfl)
theorem dX5_next_2_20 : decode cX5_next_2 20 = .ok (.getstatic 18, 3) := dk_178 0 18 (dk_at dksX5_next_2_0 20 rfl rfl)
theorem dX5_next_2_23 : decode cX5_next_2 23 = .ok (.aload_n 0, 1) := dk_42 (dk_at dksX5_next_2_0 23 rfl rfl)
theorem dX5_next_2_24 : decode cX5_next_2 24 = .ok (.getfield 22, 3) := dk_180 0 22 (dk_at dksX5_next_2_1 0 rfl rfl)
theorem dX5_next_2_27 : decode cX5_next_2 27 = .ok (.iaload, 1) := dk_46 (dk_at dksX5_next_2_1 3 rfl rfl)
theorem dX5_next_2_28 : decode cX5_next_2 28 = .ok (.imul, 1) := dk_104 (dk_at dksX5_next_2_1 4 rfl rfl)
theorem dX5_next_2_29 : decode cX5_next_2 29 = .ok (.iadd, 1) := dk_96 (dk_at dksX5_next_2_1 5 rfl rfl)
theorem dX5_next_2_30 : decode cX5_next_2 30 = .ok (.getstatic 25, 3) := dk_178 0 25 (dk_at dksX5_next_2_1 6 rfl rfl)
theorem dX5_next_2_33 : decode cX5_next_2 33 = .ok (.aload_n 0, 1) := dk_42 (dk_at dksX5_next_2_1 9 rfl rfl)
theorem dX5_next_2_34 : decode cX5_next_2 34 = .ok (.getfield 22, 3) := dk_180 0 22 (dk_at dksX5_next_2_1 10 rfl rfl)
theorem dX5_next_2_37 : decode cX5_next_2 37 = .ok (.iaload, 1) := dk_46 (dk_at dksX5_next_2_1 13 rfl rfl)
theorem dX5_next_2_38 : decode cX5_next_2 38 = .ok (.iadd, 1) := dk_96 (dk_at dksX5_next_2_1 14 rfl rfl)
theorem dX5_next_2_39 : decode cX5_next_2 39 = .ok (.istore_n 1, 1) := dk_60 (dk_at dksX5_next_2_1 15 rfl rfl)
theorem dX5_next_2_40 : decode cX5_next_2 40 = .ok (.aload_n 0, 1) := dk_42 (dk_at dksX5_next_2_1 16 rfl rfl)
theorem dX5_next_2_41 : decode cX5_next_2 41 = .ok (.dup, 1) := dk_89 (dk_at dksX5_next_2_1 17 rfl rfl)
theorem dX5_next_2_42 : decode cX5_next_2 42 = .ok (.getfield 22, 3) := dk_180 0 22 (dk_at dksX5_next_2_1 18 rfl rfl)
theorem dX5_next_2_45 : decode cX5_next_2 45 = .ok (.iconst 1, 1) := dk_4 (dk_at dksX5_next_2_1 21 rfl rfl)
theorem dX5_next_2_46 : decode cX5_next_2 46 = .ok (.iadd, 1) := dk_96 (dk_at dksX5_next_2_1 22 rfl rfl)
theorem dX5_next_2_47 : decode cX5_next_2 47 = .ok (.putfield 22, 3) := dk_181 0 22 (dk_at dksX5_next_2_2 0 rfl rfl)
theorem dX5_next_2_50 : decode cX5_next_2 50 = .ok (.aload_n 0, 1) := dk_42 (dk_at dksX5_next_2_2 3 rfl rfl)
theorem dX5_next_2_51 : decode cX5_next_2 51 = .ok (.invokevirtual 15, 3) := dk_182 0 15 (dk_at dksX5_next_2_2 4 rfl rfl)
theorem dX5_next_2_54 : decode cX5_next_2 54 = .ok (.iload_n 1, 1) := dk_27 (dk_at dksX5_next_2_2 7 rfl rfl)
theorem dX5_next_2_55 : decode cX5_next_2 55 = .ok (.invokestatic 38, 3) := dk_184 0 38 (dk_at dksX5_next_2_2 8 rfl rfl)
theorem dX5_next_2_58 : decode cX5_next_2 58 = .ok (.areturn, 1) := dk_176 (dk_at dksX5_next_2_2 11 rfl rfl)
theorem q51 : (Jvm.Cond.initialized "Wakeground$Around") ∈ lw_all := lw_g (lw_at lw_m1 17 rfl) rfl
theorem q228 : (Jvm.Cond.instantiable "Wakeground$Around" (2 : Nat)) ∈ lw_all := lw_g (lw_at lw_m1 194 rfl) rfl
theorem q230 : (Jvm.Cond.instanceMethod ({ cls := "Wakeground$Around", name := "<init>", desc := "(I)V" } : Jvm.MethodName)) ∈ lw_all := lw_g (lw_at lw_m1 196 rfl) rfl
theorem q231 : (Jvm.Cond.code ({ cls := "Wakeground$Around", name := "<init>", desc := "(I)V" } : Jvm.MethodName) prog_2_method_1_code (2 : Nat) (Option.none : Option Jvm.ClassFile.FieldType)) ∈ lw_all := lw_g (lw_at lw_m1 197 rfl) rfl
theorem q232 : (Jvm.Cond.methodLink "Wakeground$Around" (3 : Nat) ({ cls := "java/lang/Object", name := "<init>", desc := "()V" } : Jvm.MethodName)) ∈ lw_all := lw_g (lw_at lw_m1 198 rfl) rfl
theorem q233 : (Jvm.Cond.methodLink "Wakeground$Around" (15 : Nat) ({ cls := "Wakeground$Around", name := "skip", desc := "()V" } : Jvm.MethodName)) ∈ lw_all := lw_g (lw_at lw_m1 199 rfl) rfl
theorem q234 : (Jvm.Cond.privateMethod ({ cls := "Wakeground$Around", name := "skip", desc := "()V" } : Jvm.MethodName)) ∈ lw_tbl := lw_at lw_m1 200 rfl
theorem q235 : (Jvm.Cond.instanceMethod ({ cls := "Wakeground$Around", name := "skip", desc := "()V" } : Jvm.MethodName)) ∈ lw_all := lw_g (lw_at lw_m1 201 rfl) rfl
theorem q236 : (Jvm.Cond.code ({ cls := "Wakeground$Around", name := "skip", desc := "()V" } : Jvm.MethodName) prog_2_method_3_code (1 : Nat) (Option.none : Option Jvm.ClassFile.FieldType)) ∈ lw_all := lw_g (lw_at lw_m1 202 rfl) rfl
theorem q237 : (Jvm.Cond.fieldLink "Wakeground$Around" (18 : Nat) "Wakeground$Around" "BY_ROW" "[I") ∈ lw_all := lw_g (lw_at lw_m1 203 rfl) rfl
theorem q238 : (Jvm.Cond.laysStatic "Wakeground$Around" "BY_ROW" "[I") ∈ lw_tbl := lw_at lw_m1 204 rfl
theorem q239 : (Jvm.Cond.methodLink "Wakeground$Around" (28 : Nat) ({ cls := "Wakeground$Around", name := "isOn", desc := "()Z" } : Jvm.MethodName)) ∈ lw_all := lw_g (lw_at lw_m1 205 rfl) rfl
theorem q240 : (Jvm.Cond.privateMethod ({ cls := "Wakeground$Around", name := "isOn", desc := "()Z" } : Jvm.MethodName)) ∈ lw_tbl := lw_at lw_m1 206 rfl
theorem q241 : (Jvm.Cond.instanceMethod ({ cls := "Wakeground$Around", name := "isOn", desc := "()Z" } : Jvm.MethodName)) ∈ lw_all := lw_g (lw_at lw_m1 207 rfl) rfl
theorem q242 : (Jvm.Cond.code ({ cls := "Wakeground$Around", name := "isOn", desc := "()Z" } : Jvm.MethodName) prog_2_method_2_code (3 : Nat) (Option.some Jvm.ClassFile.FieldType.boolean)) ∈ lw_all := lw_g (lw_at lw_m1 208 rfl) rfl
theorem q243 : (Jvm.Cond.fieldLink "Wakeground$Around" (25 : Nat) "Wakeground$Around" "BY_COLUMN" "[I") ∈ lw_all := lw_g (lw_at lw_m1 209 rfl) rfl
theorem q244 : (Jvm.Cond.laysStatic "Wakeground$Around" "BY_COLUMN" "[I") ∈ lw_tbl := lw_at lw_m1 210 rfl
theorem q245 : (Jvm.Cond.fieldLink "Wakeground$Around" (9 : Nat) "Wakeground$Around" "cell" "I") ∈ lw_all := lw_g (lw_at lw_m1 211 rfl) rfl
theorem q246 : (Jvm.Cond.fieldLink "Wakeground$Around" (22 : Nat) "Wakeground$Around" "next" "I") ∈ lw_all := lw_g (lw_at lw_m1 212 rfl) rfl
theorem q247 : (Jvm.Cond.laysFinal "Wakeground$Around" "Wakeground$Around" "cell" "I") ∈ lw_all := lw_g (lw_at lw_m1 213 rfl) rfl
theorem q248 : (Jvm.Cond.soleField "Wakeground$Around" "cell") ∈ lw_all := lw_g (lw_at lw_m1 214 rfl) rfl
theorem q249 : (Jvm.Cond.lays "Wakeground$Around" "Wakeground$Around" "next" "I") ∈ lw_all := lw_g (lw_at lw_m1 215 rfl) rfl
theorem q250 : (Jvm.Cond.soleField "Wakeground$Around" "next") ∈ lw_all := lw_g (lw_at lw_m1 216 rfl) rfl
theorem q251 : (Jvm.Cond.superclass "Wakeground$Around" "java/lang/Object") ∈ lw_all := lw_g (lw_at lw_m1 217 rfl) rfl
theorem q256 : (Jvm.Cond.castable "Wakeground$Around" "java/util/Iterator") ∈ lw_tbl := lw_at lw_m1 222 rfl
theorem q257 : (Jvm.Cond.selects "Wakeground$Around" ({ cls := "java/util/Iterator", name := "hasNext", desc := "()Z" } : Jvm.MethodName) ({ cls := "Wakeground$Around", name := "hasNext", desc := "()Z" } : Jvm.MethodName)) ∈ lw_all := lw_g (lw_at lw_m1 223 rfl) rfl
theorem q258 : (Jvm.Cond.unhidden "Wakeground$Around" "hasNext" "()Z") ∈ lw_tbl := lw_at lw_m1 224 rfl
theorem q259 : (Jvm.Cond.instanceMethod ({ cls := "Wakeground$Around", name := "hasNext", desc := "()Z" } : Jvm.MethodName)) ∈ lw_all := lw_g (lw_at lw_m1 225 rfl) rfl
theorem q260 : (Jvm.Cond.publicMethod ({ cls := "Wakeground$Around", name := "hasNext", desc := "()Z" } : Jvm.MethodName)) ∈ lw_tbl := lw_at lw_m1 226 rfl
theorem q261 : (Jvm.Cond.code ({ cls := "Wakeground$Around", name := "hasNext", desc := "()Z" } : Jvm.MethodName) prog_2_method_4_code (1 : Nat) (Option.some Jvm.ClassFile.FieldType.boolean)) ∈ lw_all := lw_g (lw_at lw_m1 227 rfl) rfl
theorem q266 : (Jvm.Cond.selects "Wakeground$Around" ({ cls := "java/util/Iterator", name := "next", desc := "()Ljava/lang/Object;" } : Jvm.MethodName) ({ cls := "Wakeground$Around", name := "next", desc := "()Ljava/lang/Object;" } : Jvm.MethodName)) ∈ lw_all := lw_g (lw_at lw_m1 232 rfl) rfl
theorem q267 : (Jvm.Cond.unhidden "Wakeground$Around" "next" "()Ljava/lang/Object;") ∈ lw_tbl := lw_at lw_m1 233 rfl
theorem q268 : (Jvm.Cond.instanceMethod ({ cls := "Wakeground$Around", name := "next", desc := "()Ljava/lang/Object;" } : Jvm.MethodName)) ∈ lw_all := lw_g (lw_at lw_m1 234 rfl) rfl
theorem q269 : (Jvm.Cond.publicMethod ({ cls := "Wakeground$Around", name := "next", desc := "()Ljava/lang/Object;" } : Jvm.MethodName)) ∈ lw_tbl := lw_at lw_m1 235 rfl
theorem q270 : (Jvm.Cond.code ({ cls := "Wakeground$Around", name := "next", desc := "()Ljava/lang/Object;" } : Jvm.MethodName) prog_2_method_6_code (1 : Nat) (Option.some (Jvm.ClassFile.FieldType.object "java/lang/Object"))) ∈ lw_all := lw_g (lw_at lw_m1 236 rfl) rfl
theorem q271 : (Jvm.Cond.methodLink "Wakeground$Around" (44 : Nat) ({ cls := "Wakeground$Around", name := "next", desc := "()Ljava/lang/Integer;" } : Jvm.MethodName)) ∈ lw_all := lw_g (lw_at lw_m1 237 rfl) rfl
theorem q272 : (Jvm.Cond.instanceMethod ({ cls := "Wakeground$Around", name := "next", desc := "()Ljava/lang/Integer;" } : Jvm.MethodName)) ∈ lw_all := lw_g (lw_at lw_m1 238 rfl) rfl
theorem q273 : (Jvm.Cond.selects "Wakeground$Around" ({ cls := "Wakeground$Around", name := "next", desc := "()Ljava/lang/Integer;" } : Jvm.MethodName) ({ cls := "Wakeground$Around", name := "next", desc := "()Ljava/lang/Integer;" } : Jvm.MethodName)) ∈ lw_all := lw_g (lw_at lw_m1 239 rfl) rfl
theorem q274 : (Jvm.Cond.code ({ cls := "Wakeground$Around", name := "next", desc := "()Ljava/lang/Integer;" } : Jvm.MethodName) prog_2_method_5_code (2 : Nat) (Option.some (Jvm.ClassFile.FieldType.object "java/lang/Integer"))) ∈ lw_all := lw_g (lw_at lw_m2 0 rfl) rfl
theorem q275 : (Jvm.Cond.methodLink "Wakeground$Around" (32 : Nat) ({ cls := "Wakeground$Around", name := "hasNext", desc := "()Z" } : Jvm.MethodName)) ∈ lw_all := lw_g (lw_at lw_m2 1 rfl) rfl
theorem q276 : (Jvm.Cond.classLink "Wakeground$Around" (35 : Nat) "java/util/NoSuchElementException") ∈ lw_all := lw_g (lw_at lw_m2 2 rfl) rfl
theorem q319 : (Jvm.Cond.methodLink "Wakeground$Around" (37 : Nat) ({ cls := "java/util/NoSuchElementException", name := "<init>", desc := "()V" } : Jvm.MethodName)) ∈ lw_all := lw_g (lw_at lw_m2 45 rfl) rfl
theorem q342 : (Jvm.Cond.methodLink "Wakeground$Around" (38 : Nat) ({ cls := "java/lang/Integer", name := "valueOf", desc := "(I)Ljava/lang/Integer;" } : Jvm.MethodName)) ∈ lw_all := lw_g (lw_at lw_m2 68 rfl) rfl
theorem q712 : (Jvm.Cond.selects "Wakeground$Around" ({ cls := "java/lang/Object", name := "getClass", desc := "()Ljava/lang/Class;" } : Jvm.MethodName) ({ cls := "java/lang/Object", name := "getClass", desc := "()Ljava/lang/Class;" } : Jvm.MethodName)) ∈ lw_all := lw_g (lw_at lw_m3 198 rfl) rfl
theorem q834 : (Jvm.Cond.selects "Wakeground$Around" ({ cls := "java/lang/Object", name := "equals", desc := "(Ljava/lang/Object;)Z" } : Jvm.MethodName) ({ cls := "java/lang/Object", name := "equals", desc := "(Ljava/lang/Object;)Z" } : Jvm.MethodName)) ∈ lw_all := lw_g (lw_at lw_m4 80 rfl) rfl
theorem q1202 : (Jvm.Cond.selects "Wakeground$Around" ({ cls := "Wakeground$Around", name := "hasNext", desc := "()Z" } : Jvm.MethodName) ({ cls := "Wakeground$Around", name := "hasNext", desc := "()Z" } : Jvm.MethodName)) ∈ lw_all := lw_g (lw_at lw_m5 208 rfl) rfl
theorem q1217 : (Jvm.Cond.castable "Wakeground$Around" "java/lang/Object") ∈ lw_tbl := lw_at lw_m5 223 rfl
theorem in_X5 : ∀ w ∈ wsX50, w ∈ lw_all := lw_in wsX50 [247, 249] (by decide +kernel) (by decide +kernel)
/-! Wakeground$House -/
set_option maxRecDepth 100000
def RX6 : String := "Wakeground$House"
def TX6 : u_T := fun k => match k with
  | 0 => ("Wakeground$House", "cell", "LWakeground$Cell;", true)
  | 1 => ("Wakeground$House", "pile", "I", true)
  | 2 => ("Wakeground$House", "isCooled", "Z", true)
  | 3 => ("Wakeground$House", "built", "I", true)
  | _ => ("Wakeground$House", "tilt", "I", false)
def tyX6 : Nat → FieldType := fun k => match k with
  | 0 => .object "Wakeground$Cell"
  | 1 => .int
  | 2 => .boolean
  | 3 => .int
  | _ => .int
abbrev wsX60 : List Cond := u_ws RX6 TX6 5
theorem nmX6 : ∀ a, a < 5 → ∀ b, b < 5 → a ≠ b → (TX6 a).2.1 ≠ (TX6 b).2.1 := by decide +kernel
theorem tyX6_ok : ∀ k, k < 5 → parseFieldDescriptor (TX6 k).2.2.1 = some (tyX6 k) := by decide +kernel
abbrev cX6_heats : ByteArray := prog_6_method_3_code
def yX6_heats : MethodName := ⟨RX6, "heats", "(I)I"⟩
def dkwX6_heats_0 : List UInt8 := [17, 1, 44, 42, 180, 0, 19, 153, 0, 13, 27, 156, 0, 9, 17, 1, 44, 167, 0, 4, 3, 100, 172]
abbrev dktX6_heats_0 : List UInt8 := dkwX6_heats_0 ++ []
theorem dksX6_heats_0 : cX6_heats.data.toList.drop 0 = dktX6_heats_0 := by decide +kernel
theorem dX6_heats_0 : decode cX6_heats 0 = .ok (.sipush 300, 3) := dk_17 1 44 (dk_at dksX6_heats_0 0 rfl rfl)
theorem dX6_heats_3 : decode cX6_heats 3 = .ok (.aload_n 0, 1) := dk_42 (dk_at dksX6_heats_0 3 rfl rfl)
theorem dX6_heats_4 : decode cX6_heats 4 = .ok (.getfield 19, 3) := dk_180 0 19 (dk_at dksX6_heats_0 4 rfl rfl)
theorem dX6_heats_7 : decode cX6_heats 7 = .ok (.ifCond .eq 13, 3) := dk_153 0 13 (dk_at dksX6_heats_0 7 rfl rfl)
theorem dX6_heats_10 : decode cX6_heats 10 = .ok (.iload_n 1, 1) := dk_27 (dk_at dksX6_heats_0 10 rfl rfl)
theorem dX6_heats_11 : decode cX6_heats 11 = .ok (.ifCond .ge 9, 3) := dk_156 0 9 (dk_at dksX6_heats_0 11 rfl rfl)
theorem dX6_heats_14 : decode cX6_heats 14 = .ok (.sipush 300, 3) := dk_17 1 44 (dk_at dksX6_heats_0 14 rfl rfl)
theorem dX6_heats_17 : decode cX6_heats 17 = .ok (.goto 4, 3) := dk_167 0 4 (dk_at dksX6_heats_0 17 rfl rfl)
theorem dX6_heats_20 : decode cX6_heats 20 = .ok (.iconst 0, 1) := dk_3 (dk_at dksX6_heats_0 20 rfl rfl)
theorem dX6_heats_21 : decode cX6_heats 21 = .ok (.isub, 1) := dk_100 (dk_at dksX6_heats_0 21 rfl rfl)
theorem dX6_heats_22 : decode cX6_heats 22 = .ok (.ireturn, 1) := dk_172 (dk_at dksX6_heats_0 22 rfl rfl)
abbrev cX6_stand : ByteArray := prog_6_method_4_code
def yX6_stand : MethodName := ⟨RX6, "stand", "()V"⟩
def dkwX6_stand_1 : List UInt8 := [181, 0, 26, 177]
abbrev dktX6_stand_1 : List UInt8 := dkwX6_stand_1 ++ []
def dkwX6_stand_0 : List UInt8 := [42, 89, 180, 0, 26, 42, 42, 180, 0, 15, 182, 0, 29, 153, 0, 7, 4, 167, 0, 4, 3, 96]
abbrev dktX6_stand_0 : List UInt8 := dkwX6_stand_0 ++ dktX6_stand_1
theorem dksX6_stand_0 : cX6_stand.data.toList.drop 0 = dktX6_stand_0 := by decide +kernel
theorem dksX6_stand_1 : cX6_stand.data.toList.drop 22 = dktX6_stand_1 := dk_seg dksX6_stand_0 22 rfl rfl
theorem dX6_stand_0 : decode cX6_stand 0 = .ok (.aload_n 0, 1) := dk_42 (dk_at dksX6_stand_0 0 rfl rfl)
theorem dX6_stand_1 : decode cX6_stand 1 = .ok (.dup, 1) := dk_89 (dk_at dksX6_stand_0 1 rfl rfl)
theorem dX6_stand_2 : decode cX6_stand 2 = .ok (.getfield 26, 3) := dk_180 0 26 (dk_at dksX6_stand_0 2 rfl rfl)
theorem dX6_stand_5 : decode cX6_stand 5 = .ok (.aload_n 0, 1) := dk_42 (dk_at dksX6_stand_0 5 rfl rfl)
theorem dX6_stand_6 : decode cX6_stand 6 = .ok (.aload_n 0, 1) := dk_42 (dk_at dksX6_stand_0 6 rfl rfl)
theorem dX6_stand_7 : decode cX6_stand 7 = .ok (.getfield 15, 3) := dk_180 0 15 (dk_at dksX6_stand_0 7 rfl rfl)
theorem dX6_stand_10 : decode cX6_stand 10 = .ok (.invokevirtual 29, 3) := dk_182 0 29 (dk_at dksX6_stand_0 10 rfl rfl)
theorem dX6_stand_13 : decode cX6_stand 13 = .ok (.ifCond .eq 7, 3) := dk_153 0 7 (dk_at dksX6_stand_0 13 rfl rfl)
theorem dX6_stand_16 : decode cX6_stand 16 = .ok (.iconst 1, 1) := dk_4 (dk_at dksX6_stand_0 16 rfl rfl)
theorem dX6_stand_17 : decode cX6_stand 17 = .ok (.goto 4, 3) := dk_167 0 4 (dk_at dksX6_stand_0 17 rfl rfl)
theorem dX6_stand_20 : decode cX6_stand 20 = .ok (.iconst 0, 1) := dk_3 (dk_at dksX6_stand_0 20 rfl rfl)
theorem dX6_stand_21 : decode cX6_stand 21 = .ok (.iadd, 1) := dk_96 (dk_at dksX6_stand_0 21 rfl rfl)
theorem dX6_stand_22 : decode cX6_stand 22 = .ok (.putfield 26, 3) := dk_181 0 26 (dk_at dksX6_stand_1 0 rfl rfl)
theorem dX6_stand_25 : decode cX6_stand 25 = .ok (.return_, 1) := dk_177 (dk_at dksX6_stand_1 3 rfl rfl)
abbrev cX6_cell : ByteArray := prog_6_method_2_code
def yX6_cell : MethodName := ⟨RX6, "cell", "()LWakeground$Cell;"⟩
theorem dX6_cell_0 : decode cX6_cell 0 = .ok (.aload_n 0, 1) := by decide +kernel
theorem dX6_cell_1 : decode cX6_cell 1 = .ok (.getfield 9, 3) := by decide +kernel
theorem dX6_cell_4 : decode cX6_cell 4 = .ok (.areturn, 1) := by decide +kernel
abbrev cX6_init : ByteArray := prog_6_method_1_code
def yX6_init : MethodName := ⟨RX6, "<init>", "(LWakeground$Cell;IZI)V"⟩
def dkwX6_init_1 : List UInt8 := [181, 0, 23, 177]
abbrev dktX6_init_1 : List UInt8 := dkwX6_init_1 ++ []
def dkwX6_init_0 : List UInt8 := [42, 183, 0, 3, 42, 43, 181, 0, 9, 42, 28, 181, 0, 15, 42, 29, 181, 0, 19, 42, 21, 4]
abbrev dktX6_init_0 : List UInt8 := dkwX6_init_0 ++ dktX6_init_1
theorem dksX6_init_0 : cX6_init.data.toList.drop 0 = dktX6_init_0 := by decide +kernel
theorem dksX6_init_1 : cX6_init.data.toList.drop 22 = dktX6_init_1 := dk_seg dksX6_init_0 22 rfl rfl
theorem dX6_init_0 : decode cX6_init 0 = .ok (.aload_n 0, 1) := dk_42 (dk_at dksX6_init_0 0 rfl rfl)
theorem dX6_init_1 : decode cX6_init 1 = .ok (.invokespecial 3, 3) := dk_183 0 3 (dk_at dksX6_init_0 1 rfl rfl)
theorem dX6_init_4 : decode cX6_init 4 = .ok (.aload_n 0, 1) := dk_42 (dk_at dksX6_init_0 4 rfl rfl)
theorem dX6_init_5 : decode cX6_init 5 = .ok (.aload_n 1, 1) := dk_43 (dk_at dksX6_init_0 5 rfl rfl)
theorem dX6_init_6 : decode cX6_init 6 = .ok (.putfield 9, 3) := dk_181 0 9 (dk_at dksX6_init_0 6 rfl rfl)
theorem dX6_init_9 : decode cX6_init 9 = .ok (.aload_n 0, 1) := dk_42 (dk_at dksX6_init_0 9 rfl rfl)
theorem dX6_init_10 : decode cX6_init 10 = .ok (.iload_n 2, 1) := dk_28 (dk_at dksX6_init_0 10 rfl rfl)
theorem dX6_init_11 : decode cX6_init 11 = .ok (.putfield 15, 3) := dk_181 0 15 (dk_at dksX6_init_0 11 rfl rfl)
theorem dX6_init_14 : decode cX6_init 14 = .ok (.aload_n 0, 1) := dk_42 (dk_at dksX6_init_0 14 rfl rfl)
theorem dX6_init_15 : decode cX6_init 15 = .ok (.iload_n 3, 1) := dk_29 (dk_at dksX6_init_0 15 rfl rfl)
theorem dX6_init_16 : decode cX6_init 16 = .ok (.putfield 19, 3) := dk_181 0 19 (dk_at dksX6_init_0 16 rfl rfl)
theorem dX6_init_19 : decode cX6_init 19 = .ok (.aload_n 0, 1) := dk_42 (dk_at dksX6_init_0 19 rfl rfl)
theorem dX6_init_20 : decode cX6_init 20 = .ok (.iload 4, 2) := dk_21 4 (dk_at dksX6_init_0 20 rfl rfl)
theorem dX6_init_22 : decode cX6_init 22 = .ok (.putfield 23, 3) := dk_181 0 23 (dk_at dksX6_init_1 0 rfl rfl)
theorem dX6_init_25 : decode cX6_init 25 = .ok (.return_, 1) := dk_177 (dk_at dksX6_init_1 3 rfl rfl)
theorem q58 : (Jvm.Cond.initialized "Wakeground$House") ∈ lw_all := lw_g (lw_at lw_m1 24 rfl) rfl
theorem q516 : (Jvm.Cond.instanceMethod ({ cls := "Wakeground$House", name := "heats", desc := "(I)I" } : Jvm.MethodName)) ∈ lw_all := lw_g (lw_at lw_m3 2 rfl) rfl
theorem q517 : (Jvm.Cond.selects "Wakeground$House" ({ cls := "Wakeground$House", name := "heats", desc := "(I)I" } : Jvm.MethodName) ({ cls := "Wakeground$House", name := "heats", desc := "(I)I" } : Jvm.MethodName)) ∈ lw_all := lw_g (lw_at lw_m3 3 rfl) rfl
theorem q518 : (Jvm.Cond.code ({ cls := "Wakeground$House", name := "heats", desc := "(I)I" } : Jvm.MethodName) prog_6_method_3_code (2 : Nat) (Option.some Jvm.ClassFile.FieldType.int)) ∈ lw_all := lw_g (lw_at lw_m3 4 rfl) rfl
theorem q595 : (Jvm.Cond.instanceMethod ({ cls := "Wakeground$House", name := "stand", desc := "()V" } : Jvm.MethodName)) ∈ lw_all := lw_g (lw_at lw_m3 81 rfl) rfl
theorem q596 : (Jvm.Cond.selects "Wakeground$House" ({ cls := "Wakeground$House", name := "stand", desc := "()V" } : Jvm.MethodName) ({ cls := "Wakeground$House", name := "stand", desc := "()V" } : Jvm.MethodName)) ∈ lw_all := lw_g (lw_at lw_m3 82 rfl) rfl
theorem q597 : (Jvm.Cond.code ({ cls := "Wakeground$House", name := "stand", desc := "()V" } : Jvm.MethodName) prog_6_method_4_code (1 : Nat) (Option.none : Option Jvm.ClassFile.FieldType)) ∈ lw_all := lw_g (lw_at lw_m3 83 rfl) rfl
theorem q598 : (Jvm.Cond.superclass "Wakeground$House" "java/lang/Object") ∈ lw_all := lw_g (lw_at lw_m3 84 rfl) rfl
theorem q600 : (Jvm.Cond.unhidden "Wakeground$House" "isThawedAt" "(I)Z") ∈ lw_tbl := lw_at lw_m3 86 rfl
theorem q614 : (Jvm.Cond.castable "Wakeground$House" "Wakeground$Placed") ∈ lw_tbl := lw_at lw_m3 100 rfl
theorem q615 : (Jvm.Cond.selects "Wakeground$House" ({ cls := "Wakeground$Placed", name := "cell", desc := "()LWakeground$Cell;" } : Jvm.MethodName) ({ cls := "Wakeground$House", name := "cell", desc := "()LWakeground$Cell;" } : Jvm.MethodName)) ∈ lw_all := lw_g (lw_at lw_m3 101 rfl) rfl
theorem q616 : (Jvm.Cond.unhidden "Wakeground$House" "cell" "()LWakeground$Cell;") ∈ lw_tbl := lw_at lw_m3 102 rfl
theorem q617 : (Jvm.Cond.instanceMethod ({ cls := "Wakeground$House", name := "cell", desc := "()LWakeground$Cell;" } : Jvm.MethodName)) ∈ lw_all := lw_g (lw_at lw_m3 103 rfl) rfl
theorem q618 : (Jvm.Cond.publicMethod ({ cls := "Wakeground$House", name := "cell", desc := "()LWakeground$Cell;" } : Jvm.MethodName)) ∈ lw_tbl := lw_at lw_m3 104 rfl
theorem q619 : (Jvm.Cond.code ({ cls := "Wakeground$House", name := "cell", desc := "()LWakeground$Cell;" } : Jvm.MethodName) prog_6_method_2_code (1 : Nat) (Option.some (Jvm.ClassFile.FieldType.object "Wakeground$Cell"))) ∈ lw_all := lw_g (lw_at lw_m3 105 rfl) rfl
theorem q657 : (Jvm.Cond.instantiable "Wakeground$House" (5 : Nat)) ∈ lw_all := lw_g (lw_at lw_m3 143 rfl) rfl
theorem q659 : (Jvm.Cond.instanceMethod ({ cls := "Wakeground$House", name := "<init>", desc := "(LWakeground$Cell;IZI)V" } : Jvm.MethodName)) ∈ lw_all := lw_g (lw_at lw_m3 145 rfl) rfl
theorem q660 : (Jvm.Cond.code ({ cls := "Wakeground$House", name := "<init>", desc := "(LWakeground$Cell;IZI)V" } : Jvm.MethodName) prog_6_method_1_code (5 : Nat) (Option.none : Option Jvm.ClassFile.FieldType)) ∈ lw_all := lw_g (lw_at lw_m3 146 rfl) rfl
theorem q661 : (Jvm.Cond.methodLink "Wakeground$House" (3 : Nat) ({ cls := "java/lang/Object", name := "<init>", desc := "()V" } : Jvm.MethodName)) ∈ lw_all := lw_g (lw_at lw_m3 147 rfl) rfl
theorem q662 : (Jvm.Cond.fieldLink "Wakeground$House" (9 : Nat) "Wakeground$House" "cell" "LWakeground$Cell;") ∈ lw_all := lw_g (lw_at lw_m3 148 rfl) rfl
theorem q663 : (Jvm.Cond.fieldLink "Wakeground$House" (15 : Nat) "Wakeground$House" "pile" "I") ∈ lw_all := lw_g (lw_at lw_m3 149 rfl) rfl
theorem q665 : (Jvm.Cond.fieldLink "Wakeground$House" (19 : Nat) "Wakeground$House" "isCooled" "Z") ∈ lw_all := lw_g (lw_at lw_m3 151 rfl) rfl
theorem q666 : (Jvm.Cond.fieldLink "Wakeground$House" (23 : Nat) "Wakeground$House" "built" "I") ∈ lw_all := lw_g (lw_at lw_m3 152 rfl) rfl
theorem q669 : (Jvm.Cond.fieldLink "Wakeground$House" (26 : Nat) "Wakeground$House" "tilt" "I") ∈ lw_all := lw_g (lw_at lw_m3 155 rfl) rfl
theorem q671 : (Jvm.Cond.laysFinal "Wakeground$House" "Wakeground$House" "cell" "LWakeground$Cell;") ∈ lw_all := lw_g (lw_at lw_m3 157 rfl) rfl
theorem q672 : (Jvm.Cond.soleField "Wakeground$House" "cell") ∈ lw_all := lw_g (lw_at lw_m3 158 rfl) rfl
theorem q673 : (Jvm.Cond.laysFinal "Wakeground$House" "Wakeground$House" "pile" "I") ∈ lw_all := lw_g (lw_at lw_m3 159 rfl) rfl
theorem q674 : (Jvm.Cond.soleField "Wakeground$House" "pile") ∈ lw_all := lw_g (lw_at lw_m3 160 rfl) rfl
theorem q675 : (Jvm.Cond.laysFinal "Wakeground$House" "Wakeground$House" "isCooled" "Z") ∈ lw_all := lw_g (lw_at lw_m3 161 rfl) rfl
theorem q676 : (Jvm.Cond.soleField "Wakeground$House" "isCooled") ∈ lw_all := lw_g (lw_at lw_m3 162 rfl) rfl
theorem q677 : (Jvm.Cond.laysFinal "Wakeground$House" "Wakeground$House" "built" "I") ∈ lw_all := lw_g (lw_at lw_m3 163 rfl) rfl
theorem q678 : (Jvm.Cond.soleField "Wakeground$House" "built") ∈ lw_all := lw_g (lw_at lw_m3 164 rfl) rfl
theorem q679 : (Jvm.Cond.lays "Wakeground$House" "Wakeground$House" "tilt" "I") ∈ lw_all := lw_g (lw_at lw_m3 165 rfl) rfl
theorem q680 : (Jvm.Cond.soleField "Wakeground$House" "tilt") ∈ lw_all := lw_g (lw_at lw_m3 166 rfl) rfl
theorem q716 : (Jvm.Cond.selects "Wakeground$House" ({ cls := "java/lang/Object", name := "getClass", desc := "()Ljava/lang/Class;" } : Jvm.MethodName) ({ cls := "java/lang/Object", name := "getClass", desc := "()Ljava/lang/Class;" } : Jvm.MethodName)) ∈ lw_all := lw_g (lw_at lw_m3 202 rfl) rfl
theorem q838 : (Jvm.Cond.selects "Wakeground$House" ({ cls := "java/lang/Object", name := "equals", desc := "(Ljava/lang/Object;)Z" } : Jvm.MethodName) ({ cls := "java/lang/Object", name := "equals", desc := "(Ljava/lang/Object;)Z" } : Jvm.MethodName)) ∈ lw_all := lw_g (lw_at lw_m4 84 rfl) rfl
theorem q1204 : (Jvm.Cond.selects "Wakeground$House" ({ cls := "Wakeground$House", name := "cell", desc := "()LWakeground$Cell;" } : Jvm.MethodName) ({ cls := "Wakeground$House", name := "cell", desc := "()LWakeground$Cell;" } : Jvm.MethodName)) ∈ lw_all := lw_g (lw_at lw_m5 210 rfl) rfl
theorem q1220 : (Jvm.Cond.castable "Wakeground$House" "java/lang/Object") ∈ lw_tbl := lw_at lw_m5 226 rfl
theorem in_X6 : ∀ w ∈ wsX60, w ∈ lw_all := lw_in wsX60 [671, 673, 675, 677, 679] (by decide +kernel) (by decide +kernel)
/-! Wakeground$Borehole -/
set_option maxRecDepth 100000
def RX7 : String := "Wakeground$Borehole"
def TX7 : u_T := fun k => match k with
  | 0 => ("Wakeground$Borehole", "cell", "LWakeground$Cell;", true)
  | 1 => ("Wakeground$Borehole", "drift", "I", true)
  | 2 => ("Wakeground$Borehole", "sunk", "I", true)
  | _ => ("Wakeground$Borehole", "readings", "[I", true)
def tyX7 : Nat → FieldType := fun k => match k with
  | 0 => .object "Wakeground$Cell"
  | 1 => .int
  | 2 => .int
  | _ => .array .int
abbrev wsX70 : List Cond := u_ws RX7 TX7 4
theorem nmX7 : ∀ a, a < 4 → ∀ b, b < 4 → a ≠ b → (TX7 a).2.1 ≠ (TX7 b).2.1 := by decide +kernel
theorem tyX7_ok : ∀ k, k < 4 → parseFieldDescriptor (TX7 k).2.2.1 = some (tyX7 k) := by decide +kernel
abbrev cX7_cell : ByteArray := prog_3_method_2_code
def yX7_cell : MethodName := ⟨RX7, "cell", "()LWakeground$Cell;"⟩
theorem dX7_cell_0 : decode cX7_cell 0 = .ok (.aload_n 0, 1) := by decide +kernel
theorem dX7_cell_1 : decode cX7_cell 1 = .ok (.getfield 15, 3) := by decide +kernel
theorem dX7_cell_4 : decode cX7_cell 4 = .ok (.areturn, 1) := by decide +kernel
abbrev cX7_read : ByteArray := prog_3_method_3_code
def yX7_read : MethodName := ⟨RX7, "read", "(I)V"⟩
def dkwX7_read_1 : List UInt8 := [180, 0, 19, 27, 42, 180, 0, 23, 100, 4, 96, 104, 16, 12, 108, 96, 79, 132, 2, 1, 167, 255, 216, 177]
abbrev dktX7_read_1 : List UInt8 := dkwX7_read_1 ++ []
def dkwX7_read_0 : List UInt8 := [3, 61, 28, 8, 162, 0, 41, 42, 180, 0, 9, 8, 27, 104, 28, 96, 42, 28, 182, 0, 26, 42]
abbrev dktX7_read_0 : List UInt8 := dkwX7_read_0 ++ dktX7_read_1
theorem dksX7_read_0 : cX7_read.data.toList.drop 0 = dktX7_read_0 := by decide +kernel
theorem dksX7_read_1 : cX7_read.data.toList.drop 22 = dktX7_read_1 := dk_seg dksX7_read_0 22 rfl rfl
theorem dX7_read_0 : decode cX7_read 0 = .ok (.iconst 0, 1) := dk_3 (dk_at dksX7_read_0 0 rfl rfl)
theorem dX7_read_1 : decode cX7_read 1 = .ok (.istore_n 2, 1) := dk_61 (dk_at dksX7_read_0 1 rfl rfl)
theorem dX7_read_2 : decode cX7_read 2 = .ok (.iload_n 2, 1) := dk_28 (dk_at dksX7_read_0 2 rfl rfl)
theorem dX7_read_3 : decode cX7_read 3 = .ok (.iconst 5, 1) := dk_8 (dk_at dksX7_read_0 3 rfl rfl)
theorem dX7_read_4 : decode cX7_read 4 = .ok (.if_icmp .ge 41, 3) := dk_162 0 41 (dk_at dksX7_read_0 4 rfl rfl)
theorem dX7_read_7 : decode cX7_read 7 = .ok (.aload_n 0, 1) := dk_42 (dk_at dksX7_read_0 7 rfl rfl)
theorem dX7_read_8 : decode cX7_read 8 = .ok (.getfield 9, 3) := dk_180 0 9 (dk_at dksX7_read_0 8 rfl rfl)
theorem dX7_read_11 : decode cX7_read 11 = .ok (.iconst 5, 1) := dk_8 (dk_at dksX7_read_0 11 rfl rfl)
theorem dX7_read_12 : decode cX7_read 12 = .ok (.iload_n 1, 1) := dk_27 (dk_at dksX7_read_0 12 rfl rfl)
theorem dX7_read_13 : decode cX7_read 13 = .ok (.imul, 1) := dk_104 (dk_at dksX7_read_0 13 rfl rfl)
theorem dX7_read_14 : decode cX7_read 14 = .ok (.iload_n 2, 1) := dk_28 (dk_at dksX7_read_0 14 rfl rfl)
theorem dX7_read_15 : decode cX7_read 15 = .ok (.iadd, 1) := dk_96 (dk_at dksX7_read_0 15 rfl rfl)
theorem dX7_read_16 : decode cX7_read 16 = .ok (.aload_n 0, 1) := dk_42 (dk_at dksX7_read_0 16 rfl rfl)
theorem dX7_read_17 : decode cX7_read 17 = .ok (.iload_n 2, 1) := dk_28 (dk_at dksX7_read_0 17 rfl rfl)
theorem dX7_read_18 : decode cX7_read 18 = .ok (.invokevirtual 26, 3) := dk_182 0 26 (dk_at dksX7_read_0 18 rfl rfl)
theorem dX7_read_21 : decode cX7_read 21 = .ok (.aload_n 0, 1) := dk_42 (dk_at dksX7_read_0 21 rfl rfl)
theorem dX7_read_22 : decode cX7_read 22 = .ok (.getfield 19, 3) := dk_180 0 19 (dk_at dksX7_read_1 0 rfl rfl)
theorem dX7_read_25 : decode cX7_read 25 = .ok (.iload_n 1, 1) := dk_27 (dk_at dksX7_read_1 3 rfl rfl)
theorem dX7_read_26 : decode cX7_read 26 = .ok (.aload_n 0, 1) := dk_42 (dk_at dksX7_read_1 4 rfl rfl)
theorem dX7_read_27 : decode cX7_read 27 = .ok (.getfield 23, 3) := dk_180 0 23 (dk_at dksX7_read_1 5 rfl rfl)
theorem dX7_read_30 : decode cX7_read 30 = .ok (.isub, 1) := dk_100 (dk_at dksX7_read_1 8 rfl rfl)
theorem dX7_read_31 : decode cX7_read 31 = .ok (.iconst 1, 1) := dk_4 (dk_at dksX7_read_1 9 rfl rfl)
theorem dX7_read_32 : decode cX7_read 32 = .ok (.iadd, 1) := dk_96 (dk_at dksX7_read_1 10 rfl rfl)
theorem dX7_read_33 : decode cX7_read 33 = .ok (.imul, 1) := dk_104 (dk_at dksX7_read_1 11 rfl rfl)
theorem dX7_read_34 : decode cX7_read 34 = .ok (.bipush 12, 2) := dk_16 12 (dk_at dksX7_read_1 12 rfl rfl)
theorem dX7_read_36 : decode cX7_read 36 = .ok (.idiv, 1) := dk_108 (dk_at dksX7_read_1 14 rfl rfl)
theorem dX7_read_37 : decode cX7_read 37 = .ok (.iadd, 1) := dk_96 (dk_at dksX7_read_1 15 rfl rfl)
theorem dX7_read_38 : decode cX7_read 38 = .ok (.iastore, 1) := dk_79 (dk_at dksX7_read_1 16 rfl rfl)
theorem dX7_read_39 : decode cX7_read 39 = .ok (.iinc 2 1, 3) := dk_132 2 1 (dk_at dksX7_read_1 17 rfl rfl)
theorem dX7_read_42 : decode cX7_read 42 = .ok (.goto (-40), 3) := dk_167 255 216 (dk_at dksX7_read_1 20 rfl rfl)
theorem dX7_read_45 : decode cX7_read 45 = .ok (.return_, 1) := dk_177 (dk_at dksX7_read_1 23 rfl rfl)
abbrev cX7_init : ByteArray := prog_3_method_1_code
def yX7_init : MethodName := ⟨RX7, "<init>", "(LWakeground$Cell;II)V"⟩
def dkwX7_init_1 : List UInt8 := [29, 181, 0, 23, 177]
abbrev dktX7_init_1 : List UInt8 := dkwX7_init_1 ++ []
def dkwX7_init_0 : List UInt8 := [42, 183, 0, 3, 42, 17, 11, 184, 188, 10, 181, 0, 9, 42, 43, 181, 0, 15, 42, 28, 181, 0, 19, 42]
abbrev dktX7_init_0 : List UInt8 := dkwX7_init_0 ++ dktX7_init_1
theorem dksX7_init_0 : cX7_init.data.toList.drop 0 = dktX7_init_0 := by decide +kernel
theorem dksX7_init_1 : cX7_init.data.toList.drop 24 = dktX7_init_1 := dk_seg dksX7_init_0 24 rfl rfl
theorem dX7_init_0 : decode cX7_init 0 = .ok (.aload_n 0, 1) := dk_42 (dk_at dksX7_init_0 0 rfl rfl)
theorem dX7_init_1 : decode cX7_init 1 = .ok (.invokespecial 3, 3) := dk_183 0 3 (dk_at dksX7_init_0 1 rfl rfl)
theorem dX7_init_4 : decode cX7_init 4 = .ok (.aload_n 0, 1) := dk_42 (dk_at dksX7_init_0 4 rfl rfl)
theorem dX7_init_5 : decode cX7_init 5 = .ok (.sipush 3000, 3) := dk_17 11 184 (dk_at dksX7_init_0 5 rfl rfl)
theorem dX7_init_8 : decode cX7_init 8 = .ok (.newarray .int, 2) := dk_188_10 (dk_at dksX7_init_0 8 rfl rfl)
theorem dX7_init_10 : decode cX7_init 10 = .ok (.putfield 9, 3) := dk_181 0 9 (dk_at dksX7_init_0 10 rfl rfl)
theorem dX7_init_13 : decode cX7_init 13 = .ok (.aload_n 0, 1) := dk_42 (dk_at dksX7_init_0 13 rfl rfl)
theorem dX7_init_14 : decode cX7_init 14 = .ok (.aload_n 1, 1) := dk_43 (dk_at dksX7_init_0 14 rfl rfl)
theorem dX7_init_15 : decode cX7_init 15 = .ok (.putfield 15, 3) := dk_181 0 15 (dk_at dksX7_init_0 15 rfl rfl)
theorem dX7_init_18 : decode cX7_init 18 = .ok (.aload_n 0, 1) := dk_42 (dk_at dksX7_init_0 18 rfl rfl)
theorem dX7_init_19 : decode cX7_init 19 = .ok (.iload_n 2, 1) := dk_28 (dk_at dksX7_init_0 19 rfl rfl)
theorem dX7_init_20 : decode cX7_init 20 = .ok (.putfield 19, 3) := dk_181 0 19 (dk_at dksX7_init_0 20 rfl rfl)
theorem dX7_init_23 : decode cX7_init 23 = .ok (.aload_n 0, 1) := dk_42 (dk_at dksX7_init_0 23 rfl rfl)
theorem dX7_init_24 : decode cX7_init 24 = .ok (.iload_n 3, 1) := dk_29 (dk_at dksX7_init_1 0 rfl rfl)
theorem dX7_init_25 : decode cX7_init 25 = .ok (.putfield 23, 3) := dk_181 0 23 (dk_at dksX7_init_1 1 rfl rfl)
theorem dX7_init_28 : decode cX7_init 28 = .ok (.return_, 1) := dk_177 (dk_at dksX7_init_1 4 rfl rfl)
abbrev cX7_has : ByteArray := prog_3_method_4_code
def yX7_has : MethodName := ⟨RX7, "has", "(II)Z"⟩
def dkwX7_has_0 : List UInt8 := [27, 42, 180, 0, 23, 161, 0, 12, 27, 28, 162, 0, 7, 4, 167, 0, 4, 3, 172]
abbrev dktX7_has_0 : List UInt8 := dkwX7_has_0 ++ []
theorem dksX7_has_0 : cX7_has.data.toList.drop 0 = dktX7_has_0 := by decide +kernel
theorem dX7_has_0 : decode cX7_has 0 = .ok (.iload_n 1, 1) := dk_27 (dk_at dksX7_has_0 0 rfl rfl)
theorem dX7_has_1 : decode cX7_has 1 = .ok (.aload_n 0, 1) := dk_42 (dk_at dksX7_has_0 1 rfl rfl)
theorem dX7_has_2 : decode cX7_has 2 = .ok (.getfield 23, 3) := dk_180 0 23 (dk_at dksX7_has_0 2 rfl rfl)
theorem dX7_has_5 : decode cX7_has 5 = .ok (.if_icmp .lt 12, 3) := dk_161 0 12 (dk_at dksX7_has_0 5 rfl rfl)
theorem dX7_has_8 : decode cX7_has 8 = .ok (.iload_n 1, 1) := dk_27 (dk_at dksX7_has_0 8 rfl rfl)
theorem dX7_has_9 : decode cX7_has 9 = .ok (.iload_n 2, 1) := dk_28 (dk_at dksX7_has_0 9 rfl rfl)
theorem dX7_has_10 : decode cX7_has 10 = .ok (.if_icmp .ge 7, 3) := dk_162 0 7 (dk_at dksX7_has_0 10 rfl rfl)
theorem dX7_has_13 : decode cX7_has 13 = .ok (.iconst 1, 1) := dk_4 (dk_at dksX7_has_0 13 rfl rfl)
theorem dX7_has_14 : decode cX7_has 14 = .ok (.goto 4, 3) := dk_167 0 4 (dk_at dksX7_has_0 14 rfl rfl)
theorem dX7_has_17 : decode cX7_has 17 = .ok (.iconst 0, 1) := dk_3 (dk_at dksX7_has_0 17 rfl rfl)
theorem dX7_has_18 : decode cX7_has 18 = .ok (.ireturn, 1) := dk_172 (dk_at dksX7_has_0 18 rfl rfl)
abbrev cX7_told : ByteArray := prog_3_method_5_code
def yX7_told : MethodName := ⟨RX7, "told", "(II)I"⟩
def dkwX7_told_0 : List UInt8 := [42, 180, 0, 9, 8, 27, 104, 28, 96, 46, 172]
abbrev dktX7_told_0 : List UInt8 := dkwX7_told_0 ++ []
theorem dksX7_told_0 : cX7_told.data.toList.drop 0 = dktX7_told_0 := by decide +kernel
theorem dX7_told_0 : decode cX7_told 0 = .ok (.aload_n 0, 1) := dk_42 (dk_at dksX7_told_0 0 rfl rfl)
theorem dX7_told_1 : decode cX7_told 1 = .ok (.getfield 9, 3) := dk_180 0 9 (dk_at dksX7_told_0 1 rfl rfl)
theorem dX7_told_4 : decode cX7_told 4 = .ok (.iconst 5, 1) := dk_8 (dk_at dksX7_told_0 4 rfl rfl)
theorem dX7_told_5 : decode cX7_told 5 = .ok (.iload_n 1, 1) := dk_27 (dk_at dksX7_told_0 5 rfl rfl)
theorem dX7_told_6 : decode cX7_told 6 = .ok (.imul, 1) := dk_104 (dk_at dksX7_told_0 6 rfl rfl)
theorem dX7_told_7 : decode cX7_told 7 = .ok (.iload_n 2, 1) := dk_28 (dk_at dksX7_told_0 7 rfl rfl)
theorem dX7_told_8 : decode cX7_told 8 = .ok (.iadd, 1) := dk_96 (dk_at dksX7_told_0 8 rfl rfl)
theorem dX7_told_9 : decode cX7_told 9 = .ok (.iaload, 1) := dk_46 (dk_at dksX7_told_0 9 rfl rfl)
theorem dX7_told_10 : decode cX7_told 10 = .ok (.ireturn, 1) := dk_172 (dk_at dksX7_told_0 10 rfl rfl)
theorem q62 : (Jvm.Cond.initialized "Wakeground$Borehole") ∈ lw_all := lw_g (lw_at lw_m1 28 rfl) rfl
theorem q608 : (Jvm.Cond.castable "Wakeground$Borehole" "Wakeground$Placed") ∈ lw_tbl := lw_at lw_m3 94 rfl
theorem q609 : (Jvm.Cond.selects "Wakeground$Borehole" ({ cls := "Wakeground$Placed", name := "cell", desc := "()LWakeground$Cell;" } : Jvm.MethodName) ({ cls := "Wakeground$Borehole", name := "cell", desc := "()LWakeground$Cell;" } : Jvm.MethodName)) ∈ lw_all := lw_g (lw_at lw_m3 95 rfl) rfl
theorem q610 : (Jvm.Cond.unhidden "Wakeground$Borehole" "cell" "()LWakeground$Cell;") ∈ lw_tbl := lw_at lw_m3 96 rfl
theorem q611 : (Jvm.Cond.instanceMethod ({ cls := "Wakeground$Borehole", name := "cell", desc := "()LWakeground$Cell;" } : Jvm.MethodName)) ∈ lw_all := lw_g (lw_at lw_m3 97 rfl) rfl
theorem q612 : (Jvm.Cond.publicMethod ({ cls := "Wakeground$Borehole", name := "cell", desc := "()LWakeground$Cell;" } : Jvm.MethodName)) ∈ lw_tbl := lw_at lw_m3 98 rfl
theorem q613 : (Jvm.Cond.code ({ cls := "Wakeground$Borehole", name := "cell", desc := "()LWakeground$Cell;" } : Jvm.MethodName) prog_3_method_2_code (1 : Nat) (Option.some (Jvm.ClassFile.FieldType.object "Wakeground$Cell"))) ∈ lw_all := lw_g (lw_at lw_m3 99 rfl) rfl
theorem q626 : (Jvm.Cond.instanceMethod ({ cls := "Wakeground$Borehole", name := "read", desc := "(I)V" } : Jvm.MethodName)) ∈ lw_all := lw_g (lw_at lw_m3 112 rfl) rfl
theorem q627 : (Jvm.Cond.selects "Wakeground$Borehole" ({ cls := "Wakeground$Borehole", name := "read", desc := "(I)V" } : Jvm.MethodName) ({ cls := "Wakeground$Borehole", name := "read", desc := "(I)V" } : Jvm.MethodName)) ∈ lw_all := lw_g (lw_at lw_m3 113 rfl) rfl
theorem q628 : (Jvm.Cond.code ({ cls := "Wakeground$Borehole", name := "read", desc := "(I)V" } : Jvm.MethodName) prog_3_method_3_code (3 : Nat) (Option.none : Option Jvm.ClassFile.FieldType)) ∈ lw_all := lw_g (lw_at lw_m3 114 rfl) rfl
theorem q629 : (Jvm.Cond.superclass "Wakeground$Borehole" "java/lang/Object") ∈ lw_all := lw_g (lw_at lw_m3 115 rfl) rfl
theorem q631 : (Jvm.Cond.unhidden "Wakeground$Borehole" "at" "(I)I") ∈ lw_tbl := lw_at lw_m3 117 rfl
theorem q713 : (Jvm.Cond.selects "Wakeground$Borehole" ({ cls := "java/lang/Object", name := "getClass", desc := "()Ljava/lang/Class;" } : Jvm.MethodName) ({ cls := "java/lang/Object", name := "getClass", desc := "()Ljava/lang/Class;" } : Jvm.MethodName)) ∈ lw_all := lw_g (lw_at lw_m3 199 rfl) rfl
theorem q746 : (Jvm.Cond.instantiable "Wakeground$Borehole" (4 : Nat)) ∈ lw_all := lw_g (lw_at lw_m3 232 rfl) rfl
theorem q748 : (Jvm.Cond.instanceMethod ({ cls := "Wakeground$Borehole", name := "<init>", desc := "(LWakeground$Cell;II)V" } : Jvm.MethodName)) ∈ lw_all := lw_g (lw_at lw_m3 234 rfl) rfl
theorem q749 : (Jvm.Cond.code ({ cls := "Wakeground$Borehole", name := "<init>", desc := "(LWakeground$Cell;II)V" } : Jvm.MethodName) prog_3_method_1_code (4 : Nat) (Option.none : Option Jvm.ClassFile.FieldType)) ∈ lw_all := lw_g (lw_at lw_m3 235 rfl) rfl
theorem q750 : (Jvm.Cond.methodLink "Wakeground$Borehole" (3 : Nat) ({ cls := "java/lang/Object", name := "<init>", desc := "()V" } : Jvm.MethodName)) ∈ lw_all := lw_g (lw_at lw_m3 236 rfl) rfl
theorem q751 : (Jvm.Cond.fieldLink "Wakeground$Borehole" (15 : Nat) "Wakeground$Borehole" "cell" "LWakeground$Cell;") ∈ lw_all := lw_g (lw_at lw_m3 237 rfl) rfl
theorem q752 : (Jvm.Cond.fieldLink "Wakeground$Borehole" (19 : Nat) "Wakeground$Borehole" "drift" "I") ∈ lw_all := lw_g (lw_at lw_m3 238 rfl) rfl
theorem q753 : (Jvm.Cond.fieldLink "Wakeground$Borehole" (23 : Nat) "Wakeground$Borehole" "sunk" "I") ∈ lw_all := lw_g (lw_at lw_m3 239 rfl) rfl
theorem q754 : (Jvm.Cond.fieldLink "Wakeground$Borehole" (9 : Nat) "Wakeground$Borehole" "readings" "[I") ∈ lw_all := lw_g (lw_at lw_m4 0 rfl) rfl
theorem q755 : (Jvm.Cond.laysFinal "Wakeground$Borehole" "Wakeground$Borehole" "cell" "LWakeground$Cell;") ∈ lw_all := lw_g (lw_at lw_m4 1 rfl) rfl
theorem q756 : (Jvm.Cond.soleField "Wakeground$Borehole" "cell") ∈ lw_all := lw_g (lw_at lw_m4 2 rfl) rfl
theorem q757 : (Jvm.Cond.laysFinal "Wakeground$Borehole" "Wakeground$Borehole" "drift" "I") ∈ lw_all := lw_g (lw_at lw_m4 3 rfl) rfl
theorem q758 : (Jvm.Cond.soleField "Wakeground$Borehole" "drift") ∈ lw_all := lw_g (lw_at lw_m4 4 rfl) rfl
theorem q759 : (Jvm.Cond.laysFinal "Wakeground$Borehole" "Wakeground$Borehole" "sunk" "I") ∈ lw_all := lw_g (lw_at lw_m4 5 rfl) rfl
theorem q760 : (Jvm.Cond.soleField "Wakeground$Borehole" "sunk") ∈ lw_all := lw_g (lw_at lw_m4 6 rfl) rfl
theorem q761 : (Jvm.Cond.laysFinal "Wakeground$Borehole" "Wakeground$Borehole" "readings" "[I") ∈ lw_all := lw_g (lw_at lw_m4 7 rfl) rfl
theorem q762 : (Jvm.Cond.soleField "Wakeground$Borehole" "readings") ∈ lw_all := lw_g (lw_at lw_m4 8 rfl) rfl
theorem q781 : (Jvm.Cond.unhidden "Wakeground$Borehole" "isWith" "(LWakeground$Placed;)Z") ∈ lw_tbl := lw_at lw_m4 27 rfl
theorem q786 : (Jvm.Cond.instanceMethod ({ cls := "Wakeground$Borehole", name := "has", desc := "(II)Z" } : Jvm.MethodName)) ∈ lw_all := lw_g (lw_at lw_m4 32 rfl) rfl
theorem q787 : (Jvm.Cond.selects "Wakeground$Borehole" ({ cls := "Wakeground$Borehole", name := "has", desc := "(II)Z" } : Jvm.MethodName) ({ cls := "Wakeground$Borehole", name := "has", desc := "(II)Z" } : Jvm.MethodName)) ∈ lw_all := lw_g (lw_at lw_m4 33 rfl) rfl
theorem q788 : (Jvm.Cond.code ({ cls := "Wakeground$Borehole", name := "has", desc := "(II)Z" } : Jvm.MethodName) prog_3_method_4_code (3 : Nat) (Option.some Jvm.ClassFile.FieldType.boolean)) ∈ lw_all := lw_g (lw_at lw_m4 34 rfl) rfl
theorem q790 : (Jvm.Cond.instanceMethod ({ cls := "Wakeground$Borehole", name := "told", desc := "(II)I" } : Jvm.MethodName)) ∈ lw_all := lw_g (lw_at lw_m4 36 rfl) rfl
theorem q791 : (Jvm.Cond.selects "Wakeground$Borehole" ({ cls := "Wakeground$Borehole", name := "told", desc := "(II)I" } : Jvm.MethodName) ({ cls := "Wakeground$Borehole", name := "told", desc := "(II)I" } : Jvm.MethodName)) ∈ lw_all := lw_g (lw_at lw_m4 37 rfl) rfl
theorem q792 : (Jvm.Cond.code ({ cls := "Wakeground$Borehole", name := "told", desc := "(II)I" } : Jvm.MethodName) prog_3_method_5_code (3 : Nat) (Option.some Jvm.ClassFile.FieldType.int)) ∈ lw_all := lw_g (lw_at lw_m4 38 rfl) rfl
theorem q835 : (Jvm.Cond.selects "Wakeground$Borehole" ({ cls := "java/lang/Object", name := "equals", desc := "(Ljava/lang/Object;)Z" } : Jvm.MethodName) ({ cls := "java/lang/Object", name := "equals", desc := "(Ljava/lang/Object;)Z" } : Jvm.MethodName)) ∈ lw_all := lw_g (lw_at lw_m4 81 rfl) rfl
theorem q1221 : (Jvm.Cond.castable "Wakeground$Borehole" "java/lang/Object") ∈ lw_tbl := lw_at lw_m5 227 rfl
theorem in_X7 : ∀ w ∈ wsX70, w ∈ lw_all := lw_in wsX70 [755, 757, 759, 761] (by decide +kernel) (by decide +kernel)
/-! Wakeground$Claim -/
set_option maxRecDepth 100000
def RX8 : String := "Wakeground$Claim"
def TX8 : u_T := fun k => match k with
  | 0 => ("Wakeground$Claim", "house", "LWakeground$House;", true)
  | 1 => ("Wakeground$Claim", "tilt", "I", true)
  | 2 => ("Wakeground$Claim", "filed", "I", true)
  | _ => ("Wakeground$Claim", "amount", "I", true)
def tyX8 : Nat → FieldType := fun k => match k with
  | 0 => .object "Wakeground$House"
  | 1 => .int
  | 2 => .int
  | _ => .int
abbrev wsX80 : List Cond := u_ws RX8 TX8 4
theorem nmX8 : ∀ a, a < 4 → ∀ b, b < 4 → a ≠ b → (TX8 a).2.1 ≠ (TX8 b).2.1 := by decide +kernel
theorem tyX8_ok : ∀ k, k < 4 → parseFieldDescriptor (TX8 k).2.2.1 = some (tyX8 k) := by decide +kernel
abbrev cX8_init : ByteArray := prog_5_method_1_code
def yX8_init : MethodName := ⟨RX8, "<init>", "(LWakeground$House;II)V"⟩
def dkwX8_init_1 : List UInt8 := [181, 0, 25, 177]
abbrev dktX8_init_1 : List UInt8 := dkwX8_init_1 ++ []
def dkwX8_init_0 : List UInt8 := [42, 183, 0, 1, 42, 43, 181, 0, 7, 42, 28, 181, 0, 13, 42, 29, 181, 0, 17, 42, 43, 180, 0, 20]
abbrev dktX8_init_0 : List UInt8 := dkwX8_init_0 ++ dktX8_init_1
theorem dksX8_init_0 : cX8_init.data.toList.drop 0 = dktX8_init_0 := by decide +kernel
theorem dksX8_init_1 : cX8_init.data.toList.drop 24 = dktX8_init_1 := dk_seg dksX8_init_0 24 rfl rfl
theorem dX8_init_0 : decode cX8_init 0 = .ok (.aload_n 0, 1) := dk_42 (dk_at dksX8_init_0 0 rfl rfl)
theorem dX8_init_1 : decode cX8_init 1 = .ok (.invokespecial 1, 3) := dk_183 0 1 (dk_at dksX8_init_0 1 rfl rfl)
theorem dX8_init_4 : decode cX8_init 4 = .ok (.aload_n 0, 1) := dk_42 (dk_at dksX8_init_0 4 rfl rfl)
theorem dX8_init_5 : decode cX8_init 5 = .ok (.aload_n 1, 1) := dk_43 (dk_at dksX8_init_0 5 rfl rfl)
theorem dX8_init_6 : decode cX8_init 6 = .ok (.putfield 7, 3) := dk_181 0 7 (dk_at dksX8_init_0 6 rfl rfl)
theorem dX8_init_9 : decode cX8_init 9 = .ok (.aload_n 0, 1) := dk_42 (dk_at dksX8_init_0 9 rfl rfl)
theorem dX8_init_10 : decode cX8_init 10 = .ok (.iload_n 2, 1) := dk_28 (dk_at dksX8_init_0 10 rfl rfl)
theorem dX8_init_11 : decode cX8_init 11 = .ok (.putfield 13, 3) := dk_181 0 13 (dk_at dksX8_init_0 11 rfl rfl)
theorem dX8_init_14 : decode cX8_init 14 = .ok (.aload_n 0, 1) := dk_42 (dk_at dksX8_init_0 14 rfl rfl)
theorem dX8_init_15 : decode cX8_init 15 = .ok (.iload_n 3, 1) := dk_29 (dk_at dksX8_init_0 15 rfl rfl)
theorem dX8_init_16 : decode cX8_init 16 = .ok (.putfield 17, 3) := dk_181 0 17 (dk_at dksX8_init_0 16 rfl rfl)
theorem dX8_init_19 : decode cX8_init 19 = .ok (.aload_n 0, 1) := dk_42 (dk_at dksX8_init_0 19 rfl rfl)
theorem dX8_init_20 : decode cX8_init 20 = .ok (.aload_n 1, 1) := dk_43 (dk_at dksX8_init_0 20 rfl rfl)
theorem dX8_init_21 : decode cX8_init 21 = .ok (.getfield 20, 3) := dk_180 0 20 (dk_at dksX8_init_0 21 rfl rfl)
theorem dX8_init_24 : decode cX8_init 24 = .ok (.putfield 25, 3) := dk_181 0 25 (dk_at dksX8_init_1 0 rfl rfl)
theorem dX8_init_27 : decode cX8_init 27 = .ok (.return_, 1) := dk_177 (dk_at dksX8_init_1 3 rfl rfl)
theorem q63 : (Jvm.Cond.initialized "Wakeground$Claim") ∈ lw_all := lw_g (lw_at lw_m1 29 rfl) rfl
theorem q668 : (Jvm.Cond.fieldLink "Wakeground$Claim" (20 : Nat) "Wakeground$House" "tilt" "I") ∈ lw_all := lw_g (lw_at lw_m3 154 rfl) rfl
theorem q715 : (Jvm.Cond.selects "Wakeground$Claim" ({ cls := "java/lang/Object", name := "getClass", desc := "()Ljava/lang/Class;" } : Jvm.MethodName) ({ cls := "java/lang/Object", name := "getClass", desc := "()Ljava/lang/Class;" } : Jvm.MethodName)) ∈ lw_all := lw_g (lw_at lw_m3 201 rfl) rfl
theorem q775 : (Jvm.Cond.instantiable "Wakeground$Claim" (4 : Nat)) ∈ lw_all := lw_g (lw_at lw_m4 21 rfl) rfl
theorem q794 : (Jvm.Cond.instanceMethod ({ cls := "Wakeground$Claim", name := "<init>", desc := "(LWakeground$House;II)V" } : Jvm.MethodName)) ∈ lw_all := lw_g (lw_at lw_m4 40 rfl) rfl
theorem q795 : (Jvm.Cond.code ({ cls := "Wakeground$Claim", name := "<init>", desc := "(LWakeground$House;II)V" } : Jvm.MethodName) prog_5_method_1_code (4 : Nat) (Option.none : Option Jvm.ClassFile.FieldType)) ∈ lw_all := lw_g (lw_at lw_m4 41 rfl) rfl
theorem q796 : (Jvm.Cond.methodLink "Wakeground$Claim" (1 : Nat) ({ cls := "java/lang/Object", name := "<init>", desc := "()V" } : Jvm.MethodName)) ∈ lw_all := lw_g (lw_at lw_m4 42 rfl) rfl
theorem q797 : (Jvm.Cond.fieldLink "Wakeground$Claim" (7 : Nat) "Wakeground$Claim" "house" "LWakeground$House;") ∈ lw_all := lw_g (lw_at lw_m4 43 rfl) rfl
theorem q799 : (Jvm.Cond.fieldLink "Wakeground$Claim" (25 : Nat) "Wakeground$Claim" "tilt" "I") ∈ lw_all := lw_g (lw_at lw_m4 45 rfl) rfl
theorem q801 : (Jvm.Cond.fieldLink "Wakeground$Claim" (13 : Nat) "Wakeground$Claim" "filed" "I") ∈ lw_all := lw_g (lw_at lw_m4 47 rfl) rfl
theorem q803 : (Jvm.Cond.fieldLink "Wakeground$Claim" (17 : Nat) "Wakeground$Claim" "amount" "I") ∈ lw_all := lw_g (lw_at lw_m4 49 rfl) rfl
theorem q805 : (Jvm.Cond.laysFinal "Wakeground$Claim" "Wakeground$Claim" "house" "LWakeground$House;") ∈ lw_all := lw_g (lw_at lw_m4 51 rfl) rfl
theorem q806 : (Jvm.Cond.soleField "Wakeground$Claim" "house") ∈ lw_all := lw_g (lw_at lw_m4 52 rfl) rfl
theorem q807 : (Jvm.Cond.laysFinal "Wakeground$Claim" "Wakeground$Claim" "tilt" "I") ∈ lw_all := lw_g (lw_at lw_m4 53 rfl) rfl
theorem q808 : (Jvm.Cond.soleField "Wakeground$Claim" "tilt") ∈ lw_all := lw_g (lw_at lw_m4 54 rfl) rfl
theorem q809 : (Jvm.Cond.laysFinal "Wakeground$Claim" "Wakeground$Claim" "filed" "I") ∈ lw_all := lw_g (lw_at lw_m4 55 rfl) rfl
theorem q810 : (Jvm.Cond.soleField "Wakeground$Claim" "filed") ∈ lw_all := lw_g (lw_at lw_m4 56 rfl) rfl
theorem q811 : (Jvm.Cond.laysFinal "Wakeground$Claim" "Wakeground$Claim" "amount" "I") ∈ lw_all := lw_g (lw_at lw_m4 57 rfl) rfl
theorem q812 : (Jvm.Cond.soleField "Wakeground$Claim" "amount") ∈ lw_all := lw_g (lw_at lw_m4 58 rfl) rfl
theorem q813 : (Jvm.Cond.superclass "Wakeground$Claim" "java/lang/Object") ∈ lw_all := lw_g (lw_at lw_m4 59 rfl) rfl
theorem q837 : (Jvm.Cond.selects "Wakeground$Claim" ({ cls := "java/lang/Object", name := "equals", desc := "(Ljava/lang/Object;)Z" } : Jvm.MethodName) ({ cls := "java/lang/Object", name := "equals", desc := "(Ljava/lang/Object;)Z" } : Jvm.MethodName)) ∈ lw_all := lw_g (lw_at lw_m4 83 rfl) rfl
theorem q1222 : (Jvm.Cond.castable "Wakeground$Claim" "java/lang/Object") ∈ lw_tbl := lw_at lw_m5 228 rfl
theorem in_X8 : ∀ w ∈ wsX80, w ∈ lw_all := lw_in wsX80 [805, 807, 809, 811] (by decide +kernel) (by decide +kernel)
/-! Wakeground$Placed -/
set_option maxRecDepth 100000
def RX9 : String := "Wakeground$Placed"
abbrev cX9_isThawedAt : ByteArray := prog_8_method_3_code
def yX9_isThawedAt : MethodName := ⟨RX9, "isThawedAt", "(I)Z"⟩
def dkwX9_isThawedAt_0 : List UInt8 := [42, 185, 0, 1, 1, 0, 180, 0, 13, 27, 50, 182, 0, 17, 172]
abbrev dktX9_isThawedAt_0 : List UInt8 := dkwX9_isThawedAt_0 ++ []
theorem dksX9_isThawedAt_0 : cX9_isThawedAt.data.toList.drop 0 = dktX9_isThawedAt_0 := by decide +kernel
theorem dX9_isThawedAt_0 : decode cX9_isThawedAt 0 = .ok (.aload_n 0, 1) := dk_42 (dk_at dksX9_isThawedAt_0 0 rfl rfl)
theorem dX9_isThawedAt_1 : decode cX9_isThawedAt 1 = .ok (.invokeinterface 1 1, 5) := by decide +kernel
theorem dX9_isThawedAt_6 : decode cX9_isThawedAt 6 = .ok (.getfield 13, 3) := dk_180 0 13 (dk_at dksX9_isThawedAt_0 6 rfl rfl)
theorem dX9_isThawedAt_9 : decode cX9_isThawedAt 9 = .ok (.iload_n 1, 1) := dk_27 (dk_at dksX9_isThawedAt_0 9 rfl rfl)
theorem dX9_isThawedAt_10 : decode cX9_isThawedAt 10 = .ok (.aaload, 1) := dk_50 (dk_at dksX9_isThawedAt_0 10 rfl rfl)
theorem dX9_isThawedAt_11 : decode cX9_isThawedAt 11 = .ok (.invokevirtual 17, 3) := dk_182 0 17 (dk_at dksX9_isThawedAt_0 11 rfl rfl)
theorem dX9_isThawedAt_14 : decode cX9_isThawedAt 14 = .ok (.ireturn, 1) := dk_172 (dk_at dksX9_isThawedAt_0 14 rfl rfl)
abbrev cX9_at : ByteArray := prog_8_method_2_code
def yX9_at : MethodName := ⟨RX9, "at", "(I)I"⟩
def dkwX9_at_0 : List UInt8 := [42, 185, 0, 1, 1, 0, 27, 182, 0, 7, 172]
abbrev dktX9_at_0 : List UInt8 := dkwX9_at_0 ++ []
theorem dksX9_at_0 : cX9_at.data.toList.drop 0 = dktX9_at_0 := by decide +kernel
theorem dX9_at_0 : decode cX9_at 0 = .ok (.aload_n 0, 1) := dk_42 (dk_at dksX9_at_0 0 rfl rfl)
theorem dX9_at_1 : decode cX9_at 1 = .ok (.invokeinterface 1 1, 5) := by decide +kernel
theorem dX9_at_6 : decode cX9_at 6 = .ok (.iload_n 1, 1) := dk_27 (dk_at dksX9_at_0 6 rfl rfl)
theorem dX9_at_7 : decode cX9_at 7 = .ok (.invokevirtual 7, 3) := dk_182 0 7 (dk_at dksX9_at_0 7 rfl rfl)
theorem dX9_at_10 : decode cX9_at 10 = .ok (.ireturn, 1) := dk_172 (dk_at dksX9_at_0 10 rfl rfl)
abbrev cX9_isWith : ByteArray := prog_8_method_4_code
def yX9_isWith : MethodName := ⟨RX9, "isWith", "(LWakeground$Placed;)Z"⟩
def dkwX9_isWith_0 : List UInt8 := [42, 185, 0, 1, 1, 0, 43, 185, 0, 1, 1, 0, 166, 0, 7, 4, 167, 0, 4, 3, 172]
abbrev dktX9_isWith_0 : List UInt8 := dkwX9_isWith_0 ++ []
theorem dksX9_isWith_0 : cX9_isWith.data.toList.drop 0 = dktX9_isWith_0 := by decide +kernel
theorem dX9_isWith_0 : decode cX9_isWith 0 = .ok (.aload_n 0, 1) := dk_42 (dk_at dksX9_isWith_0 0 rfl rfl)
theorem dX9_isWith_1 : decode cX9_isWith 1 = .ok (.invokeinterface 1 1, 5) := by decide +kernel
theorem dX9_isWith_6 : decode cX9_isWith 6 = .ok (.aload_n 1, 1) := dk_43 (dk_at dksX9_isWith_0 6 rfl rfl)
theorem dX9_isWith_7 : decode cX9_isWith 7 = .ok (.invokeinterface 1 1, 5) := by decide +kernel
theorem dX9_isWith_12 : decode cX9_isWith 12 = .ok (.if_acmp .ne 7, 3) := dk_166 0 7 (dk_at dksX9_isWith_0 12 rfl rfl)
theorem dX9_isWith_15 : decode cX9_isWith 15 = .ok (.iconst 1, 1) := dk_4 (dk_at dksX9_isWith_0 15 rfl rfl)
theorem dX9_isWith_16 : decode cX9_isWith 16 = .ok (.goto 4, 3) := dk_167 0 4 (dk_at dksX9_isWith_0 16 rfl rfl)
theorem dX9_isWith_19 : decode cX9_isWith 19 = .ok (.iconst 0, 1) := dk_3 (dk_at dksX9_isWith_0 19 rfl rfl)
theorem dX9_isWith_20 : decode cX9_isWith 20 = .ok (.ireturn, 1) := dk_172 (dk_at dksX9_isWith_0 20 rfl rfl)
theorem q139 : (Jvm.Cond.fieldLink "Wakeground$Placed" (13 : Nat) "Wakeground$Cell" "layers" "[LWakeground$Layer;") ∈ lw_all := lw_g (lw_at lw_m1 105 rfl) rfl
theorem q599 : (Jvm.Cond.declares ({ cls := "Wakeground$Placed", name := "isThawedAt", desc := "(I)Z" } : Jvm.MethodName)) ∈ lw_tbl := lw_at lw_m3 85 rfl
theorem q601 : (Jvm.Cond.instanceMethod ({ cls := "Wakeground$Placed", name := "isThawedAt", desc := "(I)Z" } : Jvm.MethodName)) ∈ lw_all := lw_g (lw_at lw_m3 87 rfl) rfl
theorem q602 : (Jvm.Cond.publicMethod ({ cls := "Wakeground$Placed", name := "isThawedAt", desc := "(I)Z" } : Jvm.MethodName)) ∈ lw_tbl := lw_at lw_m3 88 rfl
theorem q603 : (Jvm.Cond.code ({ cls := "Wakeground$Placed", name := "isThawedAt", desc := "(I)Z" } : Jvm.MethodName) prog_8_method_3_code (2 : Nat) (Option.some Jvm.ClassFile.FieldType.boolean)) ∈ lw_all := lw_g (lw_at lw_m3 89 rfl) rfl
theorem q604 : (Jvm.Cond.interfaceEntry "Wakeground$Placed" (1 : Nat)) ∈ lw_tbl := lw_at lw_m3 90 rfl
theorem q605 : (Jvm.Cond.methodLink "Wakeground$Placed" (1 : Nat) ({ cls := "Wakeground$Placed", name := "cell", desc := "()LWakeground$Cell;" } : Jvm.MethodName)) ∈ lw_all := lw_g (lw_at lw_m3 91 rfl) rfl
theorem q606 : (Jvm.Cond.interfaceMethod "Wakeground$Placed" "Wakeground$Placed" "cell" "()LWakeground$Cell;") ∈ lw_tbl := lw_at lw_m3 92 rfl
theorem q607 : (Jvm.Cond.declares ({ cls := "Wakeground$Placed", name := "cell", desc := "()LWakeground$Cell;" } : Jvm.MethodName)) ∈ lw_tbl := lw_at lw_m3 93 rfl
theorem q620 : (Jvm.Cond.methodLink "Wakeground$Placed" (17 : Nat) ({ cls := "Wakeground$Layer", name := "isThawed", desc := "()Z" } : Jvm.MethodName)) ∈ lw_all := lw_g (lw_at lw_m3 106 rfl) rfl
theorem q630 : (Jvm.Cond.declares ({ cls := "Wakeground$Placed", name := "at", desc := "(I)I" } : Jvm.MethodName)) ∈ lw_tbl := lw_at lw_m3 116 rfl
theorem q632 : (Jvm.Cond.instanceMethod ({ cls := "Wakeground$Placed", name := "at", desc := "(I)I" } : Jvm.MethodName)) ∈ lw_all := lw_g (lw_at lw_m3 118 rfl) rfl
theorem q633 : (Jvm.Cond.publicMethod ({ cls := "Wakeground$Placed", name := "at", desc := "(I)I" } : Jvm.MethodName)) ∈ lw_tbl := lw_at lw_m3 119 rfl
theorem q634 : (Jvm.Cond.code ({ cls := "Wakeground$Placed", name := "at", desc := "(I)I" } : Jvm.MethodName) prog_8_method_2_code (2 : Nat) (Option.some Jvm.ClassFile.FieldType.int)) ∈ lw_all := lw_g (lw_at lw_m3 120 rfl) rfl
theorem q635 : (Jvm.Cond.methodLink "Wakeground$Placed" (7 : Nat) ({ cls := "Wakeground$Cell", name := "temperature", desc := "(I)I" } : Jvm.MethodName)) ∈ lw_all := lw_g (lw_at lw_m3 121 rfl) rfl
theorem q780 : (Jvm.Cond.declares ({ cls := "Wakeground$Placed", name := "isWith", desc := "(LWakeground$Placed;)Z" } : Jvm.MethodName)) ∈ lw_tbl := lw_at lw_m4 26 rfl
theorem q782 : (Jvm.Cond.instanceMethod ({ cls := "Wakeground$Placed", name := "isWith", desc := "(LWakeground$Placed;)Z" } : Jvm.MethodName)) ∈ lw_all := lw_g (lw_at lw_m4 28 rfl) rfl
theorem q783 : (Jvm.Cond.publicMethod ({ cls := "Wakeground$Placed", name := "isWith", desc := "(LWakeground$Placed;)Z" } : Jvm.MethodName)) ∈ lw_tbl := lw_at lw_m4 29 rfl
theorem q784 : (Jvm.Cond.code ({ cls := "Wakeground$Placed", name := "isWith", desc := "(LWakeground$Placed;)Z" } : Jvm.MethodName) prog_8_method_4_code (2 : Nat) (Option.some Jvm.ClassFile.FieldType.boolean)) ∈ lw_all := lw_g (lw_at lw_m4 30 rfl) rfl
theorem q1206 : (Jvm.Cond.initialized "Wakeground$Placed") ∈ lw_all := lw_g (lw_at lw_m5 212 rfl) rfl
