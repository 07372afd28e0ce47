/-! BridgeBellsModel -/
set_option maxRecDepth 100000
def RX4 : String := "BridgeBellsModel"
def TX4 : u_T := fun k => match k with
  | 0 => ("BridgeBellsModel", "thrown", "I", false)
  | 1 => ("BridgeBellsModel", "travellers", "I", false)
  | 2 => ("BridgeBellsModel", "isBarge", "[I", true)
  | 3 => ("BridgeBellsModel", "needs", "[I", true)
  | 4 => ("BridgeBellsModel", "came", "[I", true)
  | 5 => ("BridgeBellsModel", "cold", "[I", true)
  | 6 => ("BridgeBellsModel", "s", "LBridgeBellsModel$State;", true)
  | _ => ("BridgeBellsModel", "ahead", "LBridgeBellsModel$State;", true)
def tyX4 : Nat → FieldType := fun k => match k with
  | 0 => .int
  | 1 => .int
  | 2 => .array .int
  | 3 => .array .int
  | 4 => .array .int
  | 5 => .array .int
  | 6 => .object "BridgeBellsModel$State"
  | _ => .object "BridgeBellsModel$State"
abbrev wsX40 : List Cond := u_ws RX4 TX4 8
theorem nmX4 : ∀ a, a < 8 → ∀ b, b < 8 → a ≠ b → (TX4 a).2.1 ≠ (TX4 b).2.1 := by decide +kernel
theorem tyX4_ok : ∀ k, k < 8 → parseFieldDescriptor (TX4 k).2.2.1 = some (tyX4 k) := by decide +kernel
abbrev cX4_init : ByteArray := prog_12_method_1_code
def yX4_init : MethodName := ⟨RX4, "<init>", "()V"⟩
def dkwX4_init_2 : List UInt8 := [181, 0, 27, 42, 187, 0, 22, 89, 42, 183, 0, 24, 181, 0, 31, 177]
abbrev dktX4_init_2 : List UInt8 := dkwX4_init_2 ++ []
def dkwX4_init_1 : List UInt8 := [188, 10, 181, 0, 16, 42, 16, 8, 188, 10, 181, 0, 19, 42, 187, 0, 22, 89, 42, 183, 0, 24]
abbrev dktX4_init_1 : List UInt8 := dkwX4_init_1 ++ dktX4_init_2
def dkwX4_init_0 : List UInt8 := [42, 183, 0, 1, 42, 16, 40, 188, 10, 181, 0, 9, 42, 16, 40, 188, 10, 181, 0, 13, 42, 16, 40]
abbrev dktX4_init_0 : List UInt8 := dkwX4_init_0 ++ dktX4_init_1
theorem dksX4_init_0 : cX4_init.data.toList.drop 0 = dktX4_init_0 := by decide +kernel
theorem dksX4_init_1 : cX4_init.data.toList.drop 23 = dktX4_init_1 := dk_seg dksX4_init_0 23 rfl rfl
theorem dksX4_init_2 : cX4_init.data.toList.drop 45 = dktX4_init_2 := dk_seg dksX4_init_1 22 rfl rfl
theorem dX4_init_0 : decode cX4_init 0 = .ok (.aload_n 0, 1) := dk_42 (dk_at dksX4_init_0 0 rfl rfl)
theorem dX4_init_1 : decode cX4_init 1 = .ok (.invokespecial 1, 3) := dk_183 0 1 (dk_at dksX4_init_0 1 rfl rfl)
theorem dX4_init_4 : decode cX4_init 4 = .ok (.aload_n 0, 1) := dk_42 (dk_at dksX4_init_0 4 rfl rfl)
theorem dX4_init_5 : decode cX4_init 5 = .ok (.bipush 40, 2) := dk_16 40 (dk_at dksX4_init_0 5 rfl rfl)
theorem dX4_init_7 : decode cX4_init 7 = .ok (.newarray .int, 2) := dk_188_10 (dk_at dksX4_init_0 7 rfl rfl)
theorem dX4_init_9 : decode cX4_init 9 = .ok (.putfield 9, 3) := dk_181 0 9 (dk_at dksX4_init_0 9 rfl rfl)
theorem dX4_init_12 : decode cX4_init 12 = .ok (.aload_n 0, 1) := dk_42 (dk_at dksX4_init_0 12 rfl rfl)
theorem dX4_init_13 : decode cX4_init 13 = .ok (.bipush 40, 2) := dk_16 40 (dk_at dksX4_init_0 13 rfl rfl)
theorem dX4_init_15 : decode cX4_init 15 = .ok (.newarray .int, 2) := dk_188_10 (dk_at dksX4_init_0 15 rfl rfl)
theorem dX4_init_17 : decode cX4_init 17 = .ok (.putfield 13, 3) := dk_181 0 13 (dk_at dksX4_init_0 17 rfl rfl)
theorem dX4_init_20 : decode cX4_init 20 = .ok (.aload_n 0, 1) := dk_42 (dk_at dksX4_init_0 20 rfl rfl)
theorem dX4_init_21 : decode cX4_init 21 = .ok (.bipush 40, 2) := dk_16 40 (dk_at dksX4_init_0 21 rfl rfl)
theorem dX4_init_23 : decode cX4_init 23 = .ok (.newarray .int, 2) := dk_188_10 (dk_at dksX4_init_1 0 rfl rfl)
theorem dX4_init_25 : decode cX4_init 25 = .ok (.putfield 16, 3) := dk_181 0 16 (dk_at dksX4_init_1 2 rfl rfl)
theorem dX4_init_28 : decode cX4_init 28 = .ok (.aload_n 0, 1) := dk_42 (dk_at dksX4_init_1 5 rfl rfl)
theorem dX4_init_29 : decode cX4_init 29 = .ok (.bipush 8, 2) := dk_16 8 (dk_at dksX4_init_1 6 rfl rfl)
theorem dX4_init_31 : decode cX4_init 31 = .ok (.newarray .int, 2) := dk_188_10 (dk_at dksX4_init_1 8 rfl rfl)
theorem dX4_init_33 : decode cX4_init 33 = .ok (.putfield 19, 3) := dk_181 0 19 (dk_at dksX4_init_1 10 rfl rfl)
theorem dX4_init_36 : decode cX4_init 36 = .ok (.aload_n 0, 1) := dk_42 (dk_at dksX4_init_1 13 rfl rfl)
theorem dX4_init_37 : decode cX4_init 37 = .ok (.new 22, 3) := dk_187 0 22 (dk_at dksX4_init_1 14 rfl rfl)
theorem dX4_init_40 : decode cX4_init 40 = .ok (.dup, 1) := dk_89 (dk_at dksX4_init_1 17 rfl rfl)
theorem dX4_init_41 : decode cX4_init 41 = .ok (.aload_n 0, 1) := dk_42 (dk_at dksX4_init_1 18 rfl rfl)
theorem dX4_init_42 : decode cX4_init 42 = .ok (.invokespecial 24, 3) := dk_183 0 24 (dk_at dksX4_init_1 19 rfl rfl)
theorem dX4_init_45 : decode cX4_init 45 = .ok (.putfield 27, 3) := dk_181 0 27 (dk_at dksX4_init_2 0 rfl rfl)
theorem dX4_init_48 : decode cX4_init 48 = .ok (.aload_n 0, 1) := dk_42 (dk_at dksX4_init_2 3 rfl rfl)
theorem dX4_init_49 : decode cX4_init 49 = .ok (.new 22, 3) := dk_187 0 22 (dk_at dksX4_init_2 4 rfl rfl)
theorem dX4_init_52 : decode cX4_init 52 = .ok (.dup, 1) := dk_89 (dk_at dksX4_init_2 7 rfl rfl)
theorem dX4_init_53 : decode cX4_init 53 = .ok (.aload_n 0, 1) := dk_42 (dk_at dksX4_init_2 8 rfl rfl)
theorem dX4_init_54 : decode cX4_init 54 = .ok (.invokespecial 24, 3) := dk_183 0 24 (dk_at dksX4_init_2 9 rfl rfl)
theorem dX4_init_57 : decode cX4_init 57 = .ok (.putfield 31, 3) := dk_181 0 31 (dk_at dksX4_init_2 12 rfl rfl)
theorem dX4_init_60 : decode cX4_init 60 = .ok (.return_, 1) := dk_177 (dk_at dksX4_init_2 15 rfl rfl)
abbrev cX4_thrown : ByteArray := prog_12_method_2_code
def yX4_thrown : MethodName := ⟨RX4, "thrown", "()I"⟩
theorem dX4_thrown_0 : decode cX4_thrown 0 = .ok (.aload_n 0, 1) := by decide +kernel
theorem dX4_thrown_1 : decode cX4_thrown 1 = .ok (.getfield 34, 3) := by decide +kernel
theorem dX4_thrown_4 : decode cX4_thrown 4 = .ok (.ireturn, 1) := by decide +kernel
abbrev cX4_come : ByteArray := prog_12_method_6_code
def yX4_come : MethodName := ⟨RX4, "come", "(ZI)I"⟩
def dkwX4_come_4 : List UInt8 := [42, 89, 180, 0, 38, 4, 96, 181, 0, 38, 42, 180, 0, 38, 4, 100, 172]
abbrev dktX4_come_4 : List UInt8 := dkwX4_come_4 ++ []
def dkwX4_come_3 : List UInt8 := [180, 0, 38, 42, 180, 0, 27, 180, 0, 49, 79, 42, 180, 0, 27, 180, 0, 52, 42, 180, 0, 38, 2, 79]
abbrev dktX4_come_3 : List UInt8 := dkwX4_come_3 ++ dktX4_come_4
def dkwX4_come_2 : List UInt8 := [153, 0, 7, 4, 167, 0, 4, 3, 79, 42, 180, 0, 13, 42, 180, 0, 38, 28, 79, 42, 180, 0, 16, 42]
abbrev dktX4_come_2 : List UInt8 := dkwX4_come_2 ++ dktX4_come_3
def dkwX4_come_1 : List UInt8 := [180, 0, 38, 16, 40, 160, 0, 9, 42, 5, 182, 0, 45, 172, 42, 180, 0, 9, 42, 180, 0, 38, 27]
abbrev dktX4_come_1 : List UInt8 := dkwX4_come_1 ++ dktX4_come_2
def dkwX4_come_0 : List UInt8 := [42, 3, 181, 0, 34, 28, 4, 16, 6, 184, 0, 41, 154, 0, 9, 42, 4, 182, 0, 45, 172, 42]
abbrev dktX4_come_0 : List UInt8 := dkwX4_come_0 ++ dktX4_come_1
theorem dksX4_come_0 : cX4_come.data.toList.drop 0 = dktX4_come_0 := by decide +kernel
theorem dksX4_come_1 : cX4_come.data.toList.drop 22 = dktX4_come_1 := dk_seg dksX4_come_0 22 rfl rfl
theorem dksX4_come_2 : cX4_come.data.toList.drop 45 = dktX4_come_2 := dk_seg dksX4_come_1 23 rfl rfl
theorem dksX4_come_3 : cX4_come.data.toList.drop 69 = dktX4_come_3 := dk_seg dksX4_come_2 24 rfl rfl
theorem dksX4_come_4 : cX4_come.data.toList.drop 93 = dktX4_come_4 := dk_seg dksX4_come_3 24 rfl rfl
theorem dX4_come_0 : decode cX4_come 0 = .ok (.aload_n 0, 1) := dk_42 (dk_at dksX4_come_0 0 rfl rfl)
theorem dX4_come_1 : decode cX4_come 1 = .ok (.iconst 0, 1) := dk_3 (dk_at dksX4_come_0 1 rfl rfl)
theorem dX4_come_2 : decode cX4_come 2 = .ok (.putfield 34, 3) := dk_181 0 34 (dk_at dksX4_come_0 2 rfl rfl)
theorem dX4_come_5 : decode cX4_come 5 = .ok (.iload_n 2, 1) := dk_28 (dk_at dksX4_come_0 5 rfl rfl)
theorem dX4_come_6 : decode cX4_come 6 = .ok (.iconst 1, 1) := dk_4 (dk_at dksX4_come_0 6 rfl rfl)
theorem dX4_come_7 : decode cX4_come 7 = .ok (.bipush 6, 2) := dk_16 6 (dk_at dksX4_come_0 7 rfl rfl)
theorem dX4_come_9 : decode cX4_come 9 = .ok (.invokestatic 41, 3) := dk_184 0 41 (dk_at dksX4_come_0 9 rfl rfl)
theorem dX4_come_12 : decode cX4_come 12 = .ok (.ifCond .ne 9, 3) := dk_154 0 9 (dk_at dksX4_come_0 12 rfl rfl)
theorem dX4_come_15 : decode cX4_come 15 = .ok (.aload_n 0, 1) := dk_42 (dk_at dksX4_come_0 15 rfl rfl)
theorem dX4_come_16 : decode cX4_come 16 = .ok (.iconst 1, 1) := dk_4 (dk_at dksX4_come_0 16 rfl rfl)
theorem dX4_come_17 : decode cX4_come 17 = .ok (.invokevirtual 45, 3) := dk_182 0 45 (dk_at dksX4_come_0 17 rfl rfl)
theorem dX4_come_20 : decode cX4_come 20 = .ok (.ireturn, 1) := dk_172 (dk_at dksX4_come_0 20 rfl rfl)
theorem dX4_come_21 : decode cX4_come 21 = .ok (.aload_n 0, 1) := dk_42 (dk_at dksX4_come_0 21 rfl rfl)
theorem dX4_come_22 : decode cX4_come 22 = .ok (.getfield 38, 3) := dk_180 0 38 (dk_at dksX4_come_1 0 rfl rfl)
theorem dX4_come_25 : decode cX4_come 25 = .ok (.bipush 40, 2) := dk_16 40 (dk_at dksX4_come_1 3 rfl rfl)
theorem dX4_come_27 : decode cX4_come 27 = .ok (.if_icmp .ne 9, 3) := dk_160 0 9 (dk_at dksX4_come_1 5 rfl rfl)
theorem dX4_come_30 : decode cX4_come 30 = .ok (.aload_n 0, 1) := dk_42 (dk_at dksX4_come_1 8 rfl rfl)
theorem dX4_come_31 : decode cX4_come 31 = .ok (.iconst 2, 1) := dk_5 (dk_at dksX4_come_1 9 rfl rfl)
theorem dX4_come_32 : decode cX4_come 32 = .ok (.invokevirtual 45, 3) := dk_182 0 45 (dk_at dksX4_come_1 10 rfl rfl)
theorem dX4_come_35 : decode cX4_come 35 = .ok (.ireturn, 1) := dk_172 (dk_at dksX4_come_1 13 rfl rfl)
theorem dX4_come_36 : decode cX4_come 36 = .ok (.aload_n 0, 1) := dk_42 (dk_at dksX4_come_1 14 rfl rfl)
theorem dX4_come_37 : decode cX4_come 37 = .ok (.getfield 9, 3) := dk_180 0 9 (dk_at dksX4_come_1 15 rfl rfl)
theorem dX4_come_40 : decode cX4_come 40 = .ok (.aload_n 0, 1) := dk_42 (dk_at dksX4_come_1 18 rfl rfl)
theorem dX4_come_41 : decode cX4_come 41 = .ok (.getfield 38, 3) := dk_180 0 38 (dk_at dksX4_come_1 19 rfl rfl)
theorem dX4_come_44 : decode cX4_come 44 = .ok (.iload_n 1, 1) := dk_27 (dk_at dksX4_come_1 22 rfl rfl)
theorem dX4_come_45 : decode cX4_come 45 = .ok (.ifCond .eq 7, 3) := dk_153 0 7 (dk_at dksX4_come_2 0 rfl rfl)
theorem dX4_come_48 : decode cX4_come 48 = .ok (.iconst 1, 1) := dk_4 (dk_at dksX4_come_2 3 rfl rfl)
theorem dX4_come_49 : decode cX4_come 49 = .ok (.goto 4, 3) := dk_167 0 4 (dk_at dksX4_come_2 4 rfl rfl)
theorem dX4_come_52 : decode cX4_come 52 = .ok (.iconst 0, 1) := dk_3 (dk_at dksX4_come_2 7 rfl rfl)
theorem dX4_come_53 : decode cX4_come 53 = .ok (.iastore, 1) := dk_79 (dk_at dksX4_come_2 8 rfl rfl)
theorem dX4_come_54 : decode cX4_come 54 = .ok (.aload_n 0, 1) := dk_42 (dk_at dksX4_come_2 9 rfl rfl)
theorem dX4_come_55 : decode cX4_come 55 = .ok (.getfield 13, 3) := dk_180 0 13 (dk_at dksX4_come_2 10 rfl rfl)
theorem dX4_come_58 : decode cX4_come 58 = .ok (.aload_n 0, 1) := dk_42 (dk_at dksX4_come_2 13 rfl rfl)
theorem dX4_come_59 : decode cX4_come 59 = .ok (.getfield 38, 3) := dk_180 0 38 (dk_at dksX4_come_2 14 rfl rfl)
theorem dX4_come_62 : decode cX4_come 62 = .ok (.iload_n 2, 1) := dk_28 (dk_at dksX4_come_2 17 rfl rfl)
theorem dX4_come_63 : decode cX4_come 63 = .ok (.iastore, 1) := dk_79 (dk_at dksX4_come_2 18 rfl rfl)
theorem dX4_come_64 : decode cX4_come 64 = .ok (.aload_n 0, 1) := dk_42 (dk_at dksX4_come_2 19 rfl rfl)
theorem dX4_come_65 : decode cX4_come 65 = .ok (.getfield 16, 3) := dk_180 0 16 (dk_at dksX4_come_2 20 rfl rfl)
theorem dX4_come_68 : decode cX4_come 68 = .ok (.aload_n 0, 1) := dk_42 (dk_at dksX4_come_2 23 rfl rfl)
theorem dX4_come_69 : decode cX4_come 69 = .ok (.getfield 38, 3) := dk_180 0 38 (dk_at dksX4_come_3 0 rfl rfl)
theorem dX4_come_72 : decode cX4_come 72 = .ok (.aload_n 0, 1) := dk_42 (dk_at dksX4_come_3 3 rfl rfl)
theorem dX4_come_73 : decode cX4_come 73 = .ok (.getfield 27, 3) := dk_180 0 27 (dk_at dksX4_come_3 4 rfl rfl)
theorem dX4_come_76 : decode cX4_come 76 = .ok (.getfield 49, 3) := dk_180 0 49 (dk_at dksX4_come_3 7 rfl rfl)
theorem dX4_come_79 : decode cX4_come 79 = .ok (.iastore, 1) := dk_79 (dk_at dksX4_come_3 10 rfl rfl)
theorem dX4_come_80 : decode cX4_come 80 = .ok (.aload_n 0, 1) := dk_42 (dk_at dksX4_come_3 11 rfl rfl)
theorem dX4_come_81 : decode cX4_come 81 = .ok (.getfield 27, 3) := dk_180 0 27 (dk_at dksX4_come_3 12 rfl rfl)
theorem dX4_come_84 : decode cX4_come 84 = .ok (.getfield 52, 3) := dk_180 0 52 (dk_at dksX4_come_3 15 rfl rfl)
theorem dX4_come_87 : decode cX4_come 87 = .ok (.aload_n 0, 1) := dk_42 (dk_at dksX4_come_3 18 rfl rfl)
theorem dX4_come_88 : decode cX4_come 88 = .ok (.getfield 38, 3) := dk_180 0 38 (dk_at dksX4_come_3 19 rfl rfl)
theorem dX4_come_91 : decode cX4_come 91 = .ok (.iconst (-1), 1) := dk_2 (dk_at dksX4_come_3 22 rfl rfl)
theorem dX4_come_92 : decode cX4_come 92 = .ok (.iastore, 1) := dk_79 (dk_at dksX4_come_3 23 rfl rfl)
theorem dX4_come_93 : decode cX4_come 93 = .ok (.aload_n 0, 1) := dk_42 (dk_at dksX4_come_4 0 rfl rfl)
theorem dX4_come_94 : decode cX4_come 94 = .ok (.dup, 1) := dk_89 (dk_at dksX4_come_4 1 rfl rfl)
theorem dX4_come_95 : decode cX4_come 95 = .ok (.getfield 38, 3) := dk_180 0 38 (dk_at dksX4_come_4 2 rfl rfl)
theorem dX4_come_98 : decode cX4_come 98 = .ok (.iconst 1, 1) := dk_4 (dk_at dksX4_come_4 5 rfl rfl)
theorem dX4_come_99 : decode cX4_come 99 = .ok (.iadd, 1) := dk_96 (dk_at dksX4_come_4 6 rfl rfl)
theorem dX4_come_100 : decode cX4_come 100 = .ok (.putfield 38, 3) := dk_181 0 38 (dk_at dksX4_come_4 7 rfl rfl)
theorem dX4_come_103 : decode cX4_come 103 = .ok (.aload_n 0, 1) := dk_42 (dk_at dksX4_come_4 10 rfl rfl)
theorem dX4_come_104 : decode cX4_come 104 = .ok (.getfield 38, 3) := dk_180 0 38 (dk_at dksX4_come_4 11 rfl rfl)
theorem dX4_come_107 : decode cX4_come 107 = .ok (.iconst 1, 1) := dk_4 (dk_at dksX4_come_4 14 rfl rfl)
theorem dX4_come_108 : decode cX4_come 108 = .ok (.isub, 1) := dk_100 (dk_at dksX4_come_4 15 rfl rfl)
theorem dX4_come_109 : decode cX4_come 109 = .ok (.ireturn, 1) := dk_172 (dk_at dksX4_come_4 16 rfl rfl)
abbrev cX4_isIn : ByteArray := prog_12_method_4_code
def yX4_isIn : MethodName := ⟨RX4, "isIn", "(III)Z"⟩
def dkwX4_isIn_0 : List UInt8 := [26, 27, 161, 0, 12, 26, 28, 163, 0, 7, 4, 167, 0, 4, 3, 172]
abbrev dktX4_isIn_0 : List UInt8 := dkwX4_isIn_0 ++ []
theorem dksX4_isIn_0 : cX4_isIn.data.toList.drop 0 = dktX4_isIn_0 := by decide +kernel
theorem dX4_isIn_0 : decode cX4_isIn 0 = .ok (.iload_n 0, 1) := dk_26 (dk_at dksX4_isIn_0 0 rfl rfl)
theorem dX4_isIn_1 : decode cX4_isIn 1 = .ok (.iload_n 1, 1) := dk_27 (dk_at dksX4_isIn_0 1 rfl rfl)
theorem dX4_isIn_2 : decode cX4_isIn 2 = .ok (.if_icmp .lt 12, 3) := dk_161 0 12 (dk_at dksX4_isIn_0 2 rfl rfl)
theorem dX4_isIn_5 : decode cX4_isIn 5 = .ok (.iload_n 0, 1) := dk_26 (dk_at dksX4_isIn_0 5 rfl rfl)
theorem dX4_isIn_6 : decode cX4_isIn 6 = .ok (.iload_n 2, 1) := dk_28 (dk_at dksX4_isIn_0 6 rfl rfl)
theorem dX4_isIn_7 : decode cX4_isIn 7 = .ok (.if_icmp .gt 7, 3) := dk_163 0 7 (dk_at dksX4_isIn_0 7 rfl rfl)
theorem dX4_isIn_10 : decode cX4_isIn 10 = .ok (.iconst 1, 1) := dk_4 (dk_at dksX4_isIn_0 10 rfl rfl)
theorem dX4_isIn_11 : decode cX4_isIn 11 = .ok (.goto 4, 3) := dk_167 0 4 (dk_at dksX4_isIn_0 11 rfl rfl)
theorem dX4_isIn_14 : decode cX4_isIn 14 = .ok (.iconst 0, 1) := dk_3 (dk_at dksX4_isIn_0 14 rfl rfl)
theorem dX4_isIn_15 : decode cX4_isIn 15 = .ok (.ireturn, 1) := dk_172 (dk_at dksX4_isIn_0 15 rfl rfl)
abbrev cX4_no : ByteArray := prog_12_method_3_code
def yX4_no : MethodName := ⟨RX4, "no", "(I)I"⟩
def dkwX4_no_0 : List UInt8 := [42, 27, 181, 0, 34, 3, 172]
abbrev dktX4_no_0 : List UInt8 := dkwX4_no_0 ++ []
theorem dksX4_no_0 : cX4_no.data.toList.drop 0 = dktX4_no_0 := by decide +kernel
theorem dX4_no_0 : decode cX4_no 0 = .ok (.aload_n 0, 1) := dk_42 (dk_at dksX4_no_0 0 rfl rfl)
theorem dX4_no_1 : decode cX4_no 1 = .ok (.iload_n 1, 1) := dk_27 (dk_at dksX4_no_0 1 rfl rfl)
theorem dX4_no_2 : decode cX4_no 2 = .ok (.putfield 34, 3) := dk_181 0 34 (dk_at dksX4_no_0 2 rfl rfl)
theorem dX4_no_5 : decode cX4_no 5 = .ok (.iconst 0, 1) := dk_3 (dk_at dksX4_no_0 5 rfl rfl)
theorem dX4_no_6 : decode cX4_no 6 = .ok (.ireturn, 1) := dk_172 (dk_at dksX4_no_0 6 rfl rfl)
abbrev cX4_leave : ByteArray := prog_12_method_7_code
def yX4_leave : MethodName := ⟨RX4, "leave", "(I)I"⟩
def dkwX4_leave_2 : List UInt8 := [42, 180, 0, 27, 180, 0, 62, 27, 46, 172]
abbrev dktX4_leave_2 : List UInt8 := dkwX4_leave_2 ++ []
def dkwX4_leave_1 : List UInt8 := [180, 0, 59, 27, 46, 153, 0, 9, 42, 5, 182, 0, 45, 172, 42, 180, 0, 27, 180, 0, 59, 27, 6, 79]
abbrev dktX4_leave_1 : List UInt8 := dkwX4_leave_1 ++ dktX4_leave_2
def dkwX4_leave_0 : List UInt8 := [42, 3, 181, 0, 34, 42, 27, 182, 0, 55, 154, 0, 9, 42, 4, 182, 0, 45, 172, 42, 180, 0, 27]
abbrev dktX4_leave_0 : List UInt8 := dkwX4_leave_0 ++ dktX4_leave_1
theorem dksX4_leave_0 : cX4_leave.data.toList.drop 0 = dktX4_leave_0 := by decide +kernel
theorem dksX4_leave_1 : cX4_leave.data.toList.drop 23 = dktX4_leave_1 := dk_seg dksX4_leave_0 23 rfl rfl
theorem dksX4_leave_2 : cX4_leave.data.toList.drop 47 = dktX4_leave_2 := dk_seg dksX4_leave_1 24 rfl rfl
theorem dX4_leave_0 : decode cX4_leave 0 = .ok (.aload_n 0, 1) := dk_42 (dk_at dksX4_leave_0 0 rfl rfl)
theorem dX4_leave_1 : decode cX4_leave 1 = .ok (.iconst 0, 1) := dk_3 (dk_at dksX4_leave_0 1 rfl rfl)
theorem dX4_leave_2 : decode cX4_leave 2 = .ok (.putfield 34, 3) := dk_181 0 34 (dk_at dksX4_leave_0 2 rfl rfl)
theorem dX4_leave_5 : decode cX4_leave 5 = .ok (.aload_n 0, 1) := dk_42 (dk_at dksX4_leave_0 5 rfl rfl)
theorem dX4_leave_6 : decode cX4_leave 6 = .ok (.iload_n 1, 1) := dk_27 (dk_at dksX4_leave_0 6 rfl rfl)
theorem dX4_leave_7 : decode cX4_leave 7 = .ok (.invokevirtual 55, 3) := dk_182 0 55 (dk_at dksX4_leave_0 7 rfl rfl)
theorem dX4_leave_10 : decode cX4_leave 10 = .ok (.ifCond .ne 9, 3) := dk_154 0 9 (dk_at dksX4_leave_0 10 rfl rfl)
theorem dX4_leave_13 : decode cX4_leave 13 = .ok (.aload_n 0, 1) := dk_42 (dk_at dksX4_leave_0 13 rfl rfl)
theorem dX4_leave_14 : decode cX4_leave 14 = .ok (.iconst 1, 1) := dk_4 (dk_at dksX4_leave_0 14 rfl rfl)
theorem dX4_leave_15 : decode cX4_leave 15 = .ok (.invokevirtual 45, 3) := dk_182 0 45 (dk_at dksX4_leave_0 15 rfl rfl)
theorem dX4_leave_18 : decode cX4_leave 18 = .ok (.ireturn, 1) := dk_172 (dk_at dksX4_leave_0 18 rfl rfl)
theorem dX4_leave_19 : decode cX4_leave 19 = .ok (.aload_n 0, 1) := dk_42 (dk_at dksX4_leave_0 19 rfl rfl)
theorem dX4_leave_20 : decode cX4_leave 20 = .ok (.getfield 27, 3) := dk_180 0 27 (dk_at dksX4_leave_0 20 rfl rfl)
theorem dX4_leave_23 : decode cX4_leave 23 = .ok (.getfield 59, 3) := dk_180 0 59 (dk_at dksX4_leave_1 0 rfl rfl)
theorem dX4_leave_26 : decode cX4_leave 26 = .ok (.iload_n 1, 1) := dk_27 (dk_at dksX4_leave_1 3 rfl rfl)
theorem dX4_leave_27 : decode cX4_leave 27 = .ok (.iaload, 1) := dk_46 (dk_at dksX4_leave_1 4 rfl rfl)
theorem dX4_leave_28 : decode cX4_leave 28 = .ok (.ifCond .eq 9, 3) := dk_153 0 9 (dk_at dksX4_leave_1 5 rfl rfl)
theorem dX4_leave_31 : decode cX4_leave 31 = .ok (.aload_n 0, 1) := dk_42 (dk_at dksX4_leave_1 8 rfl rfl)
theorem dX4_leave_32 : decode cX4_leave 32 = .ok (.iconst 2, 1) := dk_5 (dk_at dksX4_leave_1 9 rfl rfl)
theorem dX4_leave_33 : decode cX4_leave 33 = .ok (.invokevirtual 45, 3) := dk_182 0 45 (dk_at dksX4_leave_1 10 rfl rfl)
theorem dX4_leave_36 : decode cX4_leave 36 = .ok (.ireturn, 1) := dk_172 (dk_at dksX4_leave_1 13 rfl rfl)
theorem dX4_leave_37 : decode cX4_leave 37 = .ok (.aload_n 0, 1) := dk_42 (dk_at dksX4_leave_1 14 rfl rfl)
theorem dX4_leave_38 : decode cX4_leave 38 = .ok (.getfield 27, 3) := dk_180 0 27 (dk_at dksX4_leave_1 15 rfl rfl)
theorem dX4_leave_41 : decode cX4_leave 41 = .ok (.getfield 59, 3) := dk_180 0 59 (dk_at dksX4_leave_1 18 rfl rfl)
theorem dX4_leave_44 : decode cX4_leave 44 = .ok (.iload_n 1, 1) := dk_27 (dk_at dksX4_leave_1 21 rfl rfl)
theorem dX4_leave_45 : decode cX4_leave 45 = .ok (.iconst 3, 1) := dk_6 (dk_at dksX4_leave_1 22 rfl rfl)
theorem dX4_leave_46 : decode cX4_leave 46 = .ok (.iastore, 1) := dk_79 (dk_at dksX4_leave_1 23 rfl rfl)
theorem dX4_leave_47 : decode cX4_leave 47 = .ok (.aload_n 0, 1) := dk_42 (dk_at dksX4_leave_2 0 rfl rfl)
theorem dX4_leave_48 : decode cX4_leave 48 = .ok (.getfield 27, 3) := dk_180 0 27 (dk_at dksX4_leave_2 1 rfl rfl)
theorem dX4_leave_51 : decode cX4_leave 51 = .ok (.getfield 62, 3) := dk_180 0 62 (dk_at dksX4_leave_2 4 rfl rfl)
theorem dX4_leave_54 : decode cX4_leave 54 = .ok (.iload_n 1, 1) := dk_27 (dk_at dksX4_leave_2 7 rfl rfl)
theorem dX4_leave_55 : decode cX4_leave 55 = .ok (.iaload, 1) := dk_46 (dk_at dksX4_leave_2 8 rfl rfl)
theorem dX4_leave_56 : decode cX4_leave 56 = .ok (.ireturn, 1) := dk_172 (dk_at dksX4_leave_2 9 rfl rfl)
abbrev cX4_isTraveller : ByteArray := prog_12_method_5_code
def yX4_isTraveller : MethodName := ⟨RX4, "isTraveller", "(I)Z"⟩
def dkwX4_isTraveller_0 : List UInt8 := [27, 3, 42, 180, 0, 38, 4, 100, 184, 0, 41, 172]
abbrev dktX4_isTraveller_0 : List UInt8 := dkwX4_isTraveller_0 ++ []
theorem dksX4_isTraveller_0 : cX4_isTraveller.data.toList.drop 0 = dktX4_isTraveller_0 := by decide +kernel
theorem dX4_isTraveller_0 : decode cX4_isTraveller 0 = .ok (.iload_n 1, 1) := dk_27 (dk_at dksX4_isTraveller_0 0 rfl rfl)
theorem dX4_isTraveller_1 : decode cX4_isTraveller 1 = .ok (.iconst 0, 1) := dk_3 (dk_at dksX4_isTraveller_0 1 rfl rfl)
theorem dX4_isTraveller_2 : decode cX4_isTraveller 2 = .ok (.aload_n 0, 1) := dk_42 (dk_at dksX4_isTraveller_0 2 rfl rfl)
theorem dX4_isTraveller_3 : decode cX4_isTraveller 3 = .ok (.getfield 38, 3) := dk_180 0 38 (dk_at dksX4_isTraveller_0 3 rfl rfl)
theorem dX4_isTraveller_6 : decode cX4_isTraveller 6 = .ok (.iconst 1, 1) := dk_4 (dk_at dksX4_isTraveller_0 6 rfl rfl)
theorem dX4_isTraveller_7 : decode cX4_isTraveller 7 = .ok (.isub, 1) := dk_100 (dk_at dksX4_isTraveller_0 7 rfl rfl)
theorem dX4_isTraveller_8 : decode cX4_isTraveller 8 = .ok (.invokestatic 41, 3) := dk_184 0 41 (dk_at dksX4_isTraveller_0 8 rfl rfl)
theorem dX4_isTraveller_11 : decode cX4_isTraveller 11 = .ok (.ireturn, 1) := dk_172 (dk_at dksX4_isTraveller_0 11 rfl rfl)
abbrev cX4_ring : ByteArray := prog_12_method_8_code
def yX4_ring : MethodName := ⟨RX4, "ring", "(I)I"⟩
def dkwX4_ring_1 : List UInt8 := [180, 0, 65, 61, 42, 180, 0, 27, 27, 181, 0, 65, 28, 172]
abbrev dktX4_ring_1 : List UInt8 := dkwX4_ring_1 ++ []
def dkwX4_ring_0 : List UInt8 := [42, 3, 181, 0, 34, 27, 3, 7, 184, 0, 41, 154, 0, 9, 42, 4, 182, 0, 45, 172, 42, 180, 0, 27]
abbrev dktX4_ring_0 : List UInt8 := dkwX4_ring_0 ++ dktX4_ring_1
theorem dksX4_ring_0 : cX4_ring.data.toList.drop 0 = dktX4_ring_0 := by decide +kernel
theorem dksX4_ring_1 : cX4_ring.data.toList.drop 24 = dktX4_ring_1 := dk_seg dksX4_ring_0 24 rfl rfl
theorem dX4_ring_0 : decode cX4_ring 0 = .ok (.aload_n 0, 1) := dk_42 (dk_at dksX4_ring_0 0 rfl rfl)
theorem dX4_ring_1 : decode cX4_ring 1 = .ok (.iconst 0, 1) := dk_3 (dk_at dksX4_ring_0 1 rfl rfl)
theorem dX4_ring_2 : decode cX4_ring 2 = .ok (.putfield 34, 3) := dk_181 0 34 (dk_at dksX4_ring_0 2 rfl rfl)
theorem dX4_ring_5 : decode cX4_ring 5 = .ok (.iload_n 1, 1) := dk_27 (dk_at dksX4_ring_0 5 rfl rfl)
theorem dX4_ring_6 : decode cX4_ring 6 = .ok (.iconst 0, 1) := dk_3 (dk_at dksX4_ring_0 6 rfl rfl)
theorem dX4_ring_7 : decode cX4_ring 7 = .ok (.iconst 4, 1) := dk_7 (dk_at dksX4_ring_0 7 rfl rfl)
theorem dX4_ring_8 : decode cX4_ring 8 = .ok (.invokestatic 41, 3) := dk_184 0 41 (dk_at dksX4_ring_0 8 rfl rfl)
theorem dX4_ring_11 : decode cX4_ring 11 = .ok (.ifCond .ne 9, 3) := dk_154 0 9 (dk_at dksX4_ring_0 11 rfl rfl)
theorem dX4_ring_14 : decode cX4_ring 14 = .ok (.aload_n 0, 1) := dk_42 (dk_at dksX4_ring_0 14 rfl rfl)
theorem dX4_ring_15 : decode cX4_ring 15 = .ok (.iconst 1, 1) := dk_4 (dk_at dksX4_ring_0 15 rfl rfl)
theorem dX4_ring_16 : decode cX4_ring 16 = .ok (.invokevirtual 45, 3) := dk_182 0 45 (dk_at dksX4_ring_0 16 rfl rfl)
theorem dX4_ring_19 : decode cX4_ring 19 = .ok (.ireturn, 1) := dk_172 (dk_at dksX4_ring_0 19 rfl rfl)
theorem dX4_ring_20 : decode cX4_ring 20 = .ok (.aload_n 0, 1) := dk_42 (dk_at dksX4_ring_0 20 rfl rfl)
theorem dX4_ring_21 : decode cX4_ring 21 = .ok (.getfield 27, 3) := dk_180 0 27 (dk_at dksX4_ring_0 21 rfl rfl)
theorem dX4_ring_24 : decode cX4_ring 24 = .ok (.getfield 65, 3) := dk_180 0 65 (dk_at dksX4_ring_1 0 rfl rfl)
theorem dX4_ring_27 : decode cX4_ring 27 = .ok (.istore_n 2, 1) := dk_61 (dk_at dksX4_ring_1 3 rfl rfl)
theorem dX4_ring_28 : decode cX4_ring 28 = .ok (.aload_n 0, 1) := dk_42 (dk_at dksX4_ring_1 4 rfl rfl)
theorem dX4_ring_29 : decode cX4_ring 29 = .ok (.getfield 27, 3) := dk_180 0 27 (dk_at dksX4_ring_1 5 rfl rfl)
theorem dX4_ring_32 : decode cX4_ring 32 = .ok (.iload_n 1, 1) := dk_27 (dk_at dksX4_ring_1 8 rfl rfl)
theorem dX4_ring_33 : decode cX4_ring 33 = .ok (.putfield 65, 3) := dk_181 0 65 (dk_at dksX4_ring_1 9 rfl rfl)
theorem dX4_ring_36 : decode cX4_ring 36 = .ok (.iload_n 2, 1) := dk_28 (dk_at dksX4_ring_1 12 rfl rfl)
theorem dX4_ring_37 : decode cX4_ring 37 = .ok (.ireturn, 1) := dk_172 (dk_at dksX4_ring_1 13 rfl rfl)
abbrev cX4_poise : ByteArray := prog_12_method_9_code
def yX4_poise : MethodName := ⟨RX4, "poise", "(I)I"⟩
def dkwX4_poise_2 : List UInt8 := [182, 0, 45, 172, 42, 180, 0, 27, 180, 0, 71, 61, 42, 180, 0, 27, 27, 181, 0, 71, 28, 172]
abbrev dktX4_poise_2 : List UInt8 := dkwX4_poise_2 ++ []
def dkwX4_poise_1 : List UInt8 := [180, 0, 27, 180, 0, 68, 153, 0, 21, 42, 180, 0, 27, 180, 0, 68, 16, 60, 159, 0, 9, 42, 5]
abbrev dktX4_poise_1 : List UInt8 := dkwX4_poise_1 ++ dktX4_poise_2
def dkwX4_poise_0 : List UInt8 := [42, 3, 181, 0, 34, 27, 3, 16, 30, 184, 0, 41, 154, 0, 9, 42, 4, 182, 0, 45, 172, 42]
abbrev dktX4_poise_0 : List UInt8 := dkwX4_poise_0 ++ dktX4_poise_1
theorem dksX4_poise_0 : cX4_poise.data.toList.drop 0 = dktX4_poise_0 := by decide +kernel
theorem dksX4_poise_1 : cX4_poise.data.toList.drop 22 = dktX4_poise_1 := dk_seg dksX4_poise_0 22 rfl rfl
theorem dksX4_poise_2 : cX4_poise.data.toList.drop 45 = dktX4_poise_2 := dk_seg dksX4_poise_1 23 rfl rfl
theorem dX4_poise_0 : decode cX4_poise 0 = .ok (.aload_n 0, 1) := dk_42 (dk_at dksX4_poise_0 0 rfl rfl)
theorem dX4_poise_1 : decode cX4_poise 1 = .ok (.iconst 0, 1) := dk_3 (dk_at dksX4_poise_0 1 rfl rfl)
theorem dX4_poise_2 : decode cX4_poise 2 = .ok (.putfield 34, 3) := dk_181 0 34 (dk_at dksX4_poise_0 2 rfl rfl)
theorem dX4_poise_5 : decode cX4_poise 5 = .ok (.iload_n 1, 1) := dk_27 (dk_at dksX4_poise_0 5 rfl rfl)
theorem dX4_poise_6 : decode cX4_poise 6 = .ok (.iconst 0, 1) := dk_3 (dk_at dksX4_poise_0 6 rfl rfl)
theorem dX4_poise_7 : decode cX4_poise 7 = .ok (.bipush 30, 2) := dk_16 30 (dk_at dksX4_poise_0 7 rfl rfl)
theorem dX4_poise_9 : decode cX4_poise 9 = .ok (.invokestatic 41, 3) := dk_184 0 41 (dk_at dksX4_poise_0 9 rfl rfl)
theorem dX4_poise_12 : decode cX4_poise 12 = .ok (.ifCond .ne 9, 3) := dk_154 0 9 (dk_at dksX4_poise_0 12 rfl rfl)
theorem dX4_poise_15 : decode cX4_poise 15 = .ok (.aload_n 0, 1) := dk_42 (dk_at dksX4_poise_0 15 rfl rfl)
theorem dX4_poise_16 : decode cX4_poise 16 = .ok (.iconst 1, 1) := dk_4 (dk_at dksX4_poise_0 16 rfl rfl)
theorem dX4_poise_17 : decode cX4_poise 17 = .ok (.invokevirtual 45, 3) := dk_182 0 45 (dk_at dksX4_poise_0 17 rfl rfl)
theorem dX4_poise_20 : decode cX4_poise 20 = .ok (.ireturn, 1) := dk_172 (dk_at dksX4_poise_0 20 rfl rfl)
theorem dX4_poise_21 : decode cX4_poise 21 = .ok (.aload_n 0, 1) := dk_42 (dk_at dksX4_poise_0 21 rfl rfl)
theorem dX4_poise_22 : decode cX4_poise 22 = .ok (.getfield 27, 3) := dk_180 0 27 (dk_at dksX4_poise_1 0 rfl rfl)
theorem dX4_poise_25 : decode cX4_poise 25 = .ok (.getfield 68, 3) := dk_180 0 68 (dk_at dksX4_poise_1 3 rfl rfl)
theorem dX4_poise_28 : decode cX4_poise 28 = .ok (.ifCond .eq 21, 3) := dk_153 0 21 (dk_at dksX4_poise_1 6 rfl rfl)
theorem dX4_poise_31 : decode cX4_poise 31 = .ok (.aload_n 0, 1) := dk_42 (dk_at dksX4_poise_1 9 rfl rfl)
theorem dX4_poise_32 : decode cX4_poise 32 = .ok (.getfield 27, 3) := dk_180 0 27 (dk_at dksX4_poise_1 10 rfl rfl)
theorem dX4_poise_35 : decode cX4_poise 35 = .ok (.getfield 68, 3) := dk_180 0 68 (dk_at dksX4_poise_1 13 rfl rfl)
theorem dX4_poise_38 : decode cX4_poise 38 = .ok (.bipush 60, 2) := dk_16 60 (dk_at dksX4_poise_1 16 rfl rfl)
theorem dX4_poise_40 : decode cX4_poise 40 = .ok (.if_icmp .eq 9, 3) := dk_159 0 9 (dk_at dksX4_poise_1 18 rfl rfl)
theorem dX4_poise_43 : decode cX4_poise 43 = .ok (.aload_n 0, 1) := dk_42 (dk_at dksX4_poise_1 21 rfl rfl)
theorem dX4_poise_44 : decode cX4_poise 44 = .ok (.iconst 2, 1) := dk_5 (dk_at dksX4_poise_1 22 rfl rfl)
theorem dX4_poise_45 : decode cX4_poise 45 = .ok (.invokevirtual 45, 3) := dk_182 0 45 (dk_at dksX4_poise_2 0 rfl rfl)
theorem dX4_poise_48 : decode cX4_poise 48 = .ok (.ireturn, 1) := dk_172 (dk_at dksX4_poise_2 3 rfl rfl)
theorem dX4_poise_49 : decode cX4_poise 49 = .ok (.aload_n 0, 1) := dk_42 (dk_at dksX4_poise_2 4 rfl rfl)
theorem dX4_poise_50 : decode cX4_poise 50 = .ok (.getfield 27, 3) := dk_180 0 27 (dk_at dksX4_poise_2 5 rfl rfl)
theorem dX4_poise_53 : decode cX4_poise 53 = .ok (.getfield 71, 3) := dk_180 0 71 (dk_at dksX4_poise_2 8 rfl rfl)
theorem dX4_poise_56 : decode cX4_poise 56 = .ok (.istore_n 2, 1) := dk_61 (dk_at dksX4_poise_2 11 rfl rfl)
theorem dX4_poise_57 : decode cX4_poise 57 = .ok (.aload_n 0, 1) := dk_42 (dk_at dksX4_poise_2 12 rfl rfl)
theorem dX4_poise_58 : decode cX4_poise 58 = .ok (.getfield 27, 3) := dk_180 0 27 (dk_at dksX4_poise_2 13 rfl rfl)
theorem dX4_poise_61 : decode cX4_poise 61 = .ok (.iload_n 1, 1) := dk_27 (dk_at dksX4_poise_2 16 rfl rfl)
theorem dX4_poise_62 : decode cX4_poise 62 = .ok (.putfield 71, 3) := dk_181 0 71 (dk_at dksX4_poise_2 17 rfl rfl)
theorem dX4_poise_65 : decode cX4_poise 65 = .ok (.iload_n 2, 1) := dk_28 (dk_at dksX4_poise_2 20 rfl rfl)
theorem dX4_poise_66 : decode cX4_poise 66 = .ok (.ireturn, 1) := dk_172 (dk_at dksX4_poise_2 21 rfl rfl)
abbrev cX4_setCold : ByteArray := prog_12_method_10_code
def yX4_setCold : MethodName := ⟨RX4, "setCold", "(II)I"⟩
def dkwX4_setCold_2 : List UInt8 := [27, 28, 79, 29, 172]
abbrev dktX4_setCold_2 : List UInt8 := dkwX4_setCold_2 ++ []
def dkwX4_setCold_1 : List UInt8 := [6, 184, 0, 41, 154, 0, 9, 42, 5, 182, 0, 45, 172, 42, 180, 0, 19, 27, 46, 62, 42, 180, 0, 19]
abbrev dktX4_setCold_1 : List UInt8 := dkwX4_setCold_1 ++ dktX4_setCold_2
def dkwX4_setCold_0 : List UInt8 := [42, 3, 181, 0, 34, 27, 3, 16, 7, 184, 0, 41, 154, 0, 9, 42, 4, 182, 0, 45, 172, 28, 16, 253]
abbrev dktX4_setCold_0 : List UInt8 := dkwX4_setCold_0 ++ dktX4_setCold_1
theorem dksX4_setCold_0 : cX4_setCold.data.toList.drop 0 = dktX4_setCold_0 := by decide +kernel
theorem dksX4_setCold_1 : cX4_setCold.data.toList.drop 24 = dktX4_setCold_1 := dk_seg dksX4_setCold_0 24 rfl rfl
theorem dksX4_setCold_2 : cX4_setCold.data.toList.drop 48 = dktX4_setCold_2 := dk_seg dksX4_setCold_1 24 rfl rfl
theorem dX4_setCold_0 : decode cX4_setCold 0 = .ok (.aload_n 0, 1) := dk_42 (dk_at dksX4_setCold_0 0 rfl rfl)
theorem dX4_setCold_1 : decode cX4_setCold 1 = .ok (.iconst 0, 1) := dk_3 (dk_at dksX4_setCold_0 1 rfl rfl)
theorem dX4_setCold_2 : decode cX4_setCold 2 = .ok (.putfield 34, 3) := dk_181 0 34 (dk_at dksX4_setCold_0 2 rfl rfl)
theorem dX4_setCold_5 : decode cX4_setCold 5 = .ok (.iload_n 1, 1) := dk_27 (dk_at dksX4_setCold_0 5 rfl rfl)
theorem dX4_setCold_6 : decode cX4_setCold 6 = .ok (.iconst 0, 1) := dk_3 (dk_at dksX4_setCold_0 6 rfl rfl)
theorem dX4_setCold_7 : decode cX4_setCold 7 = .ok (.bipush 7, 2) := dk_16 7 (dk_at dksX4_setCold_0 7 rfl rfl)
theorem dX4_setCold_9 : decode cX4_setCold 9 = .ok (.invokestatic 41, 3) := dk_184 0 41 (dk_at dksX4_setCold_0 9 rfl rfl)
theorem dX4_setCold_12 : decode cX4_setCold 12 = .ok (.ifCond .ne 9, 3) := dk_154 0 9 (dk_at dksX4_setCold_0 12 rfl rfl)
theorem dX4_setCold_15 : decode cX4_setCold 15 = .ok (.aload_n 0, 1) := dk_42 (dk_at dksX4_setCold_0 15 rfl rfl)
theorem dX4_setCold_16 : decode cX4_setCold 16 = .ok (.iconst 1, 1) := dk_4 (dk_at dksX4_setCold_0 16 rfl rfl)
theorem dX4_setCold_17 : decode cX4_setCold 17 = .ok (.invokevirtual 45, 3) := dk_182 0 45 (dk_at dksX4_setCold_0 17 rfl rfl)
theorem dX4_setCold_20 : decode cX4_setCold 20 = .ok (.ireturn, 1) := dk_172 (dk_at dksX4_setCold_0 20 rfl rfl)
theorem dX4_setCold_21 : decode cX4_setCold 21 = .ok (.iload_n 2, 1) := dk_28 (dk_at dksX4_setCold_0 21 rfl rfl)
theorem dX4_setCold_22 : decode cX4_setCold 22 = .ok (.bipush (-3), 2) := dk_16 253 (dk_at dksX4_setCold_0 22 rfl rfl)
theorem dX4_setCold_24 : decode cX4_setCold 24 = .ok (.iconst 3, 1) := dk_6 (dk_at dksX4_setCold_1 0 rfl rfl)
theorem dX4_setCold_25 : decode cX4_setCold 25 = .ok (.invokestatic 41, 3) := dk_184 0 41 (dk_at dksX4_setCold_1 1 rfl rfl)
theorem dX4_setCold_28 : decode cX4_setCold 28 = .ok (.ifCond .ne 9, 3) := dk_154 0 9 (dk_at dksX4_setCold_1 4 rfl rfl)
theorem dX4_setCold_31 : decode cX4_setCold 31 = .ok (.aload_n 0, 1) := dk_42 (dk_at dksX4_setCold_1 7 rfl rfl)
theorem dX4_setCold_32 : decode cX4_setCold 32 = .ok (.iconst 2, 1) := dk_5 (dk_at dksX4_setCold_1 8 rfl rfl)
theorem dX4_setCold_33 : decode cX4_setCold 33 = .ok (.invokevirtual 45, 3) := dk_182 0 45 (dk_at dksX4_setCold_1 9 rfl rfl)
theorem dX4_setCold_36 : decode cX4_setCold 36 = .ok (.ireturn, 1) := dk_172 (dk_at dksX4_setCold_1 12 rfl rfl)
theorem dX4_setCold_37 : decode cX4_setCold 37 = .ok (.aload_n 0, 1) := dk_42 (dk_at dksX4_setCold_1 13 rfl rfl)
theorem dX4_setCold_38 : decode cX4_setCold 38 = .ok (.getfield 19, 3) := dk_180 0 19 (dk_at dksX4_setCold_1 14 rfl rfl)
theorem dX4_setCold_41 : decode cX4_setCold 41 = .ok (.iload_n 1, 1) := dk_27 (dk_at dksX4_setCold_1 17 rfl rfl)
theorem dX4_setCold_42 : decode cX4_setCold 42 = .ok (.iaload, 1) := dk_46 (dk_at dksX4_setCold_1 18 rfl rfl)
theorem dX4_setCold_43 : decode cX4_setCold 43 = .ok (.istore_n 3, 1) := dk_62 (dk_at dksX4_setCold_1 19 rfl rfl)
theorem dX4_setCold_44 : decode cX4_setCold 44 = .ok (.aload_n 0, 1) := dk_42 (dk_at dksX4_setCold_1 20 rfl rfl)
theorem dX4_setCold_45 : decode cX4_setCold 45 = .ok (.getfield 19, 3) := dk_180 0 19 (dk_at dksX4_setCold_1 21 rfl rfl)
theorem dX4_setCold_48 : decode cX4_setCold 48 = .ok (.iload_n 1, 1) := dk_27 (dk_at dksX4_setCold_2 0 rfl rfl)
theorem dX4_setCold_49 : decode cX4_setCold 49 = .ok (.iload_n 2, 1) := dk_28 (dk_at dksX4_setCold_2 1 rfl rfl)
theorem dX4_setCold_50 : decode cX4_setCold 50 = .ok (.iastore, 1) := dk_79 (dk_at dksX4_setCold_2 2 rfl rfl)
theorem dX4_setCold_51 : decode cX4_setCold 51 = .ok (.iload_n 3, 1) := dk_29 (dk_at dksX4_setCold_2 3 rfl rfl)
theorem dX4_setCold_52 : decode cX4_setCold 52 = .ok (.ireturn, 1) := dk_172 (dk_at dksX4_setCold_2 4 rfl rfl)
abbrev cX4_crack : ByteArray := prog_12_method_11_code
def yX4_crack : MethodName := ⟨RX4, "crack", "()I"⟩
def dkwX4_crack_1 : List UInt8 := [181, 0, 74, 42, 180, 0, 27, 180, 0, 74, 172]
abbrev dktX4_crack_1 : List UInt8 := dkwX4_crack_1 ++ []
def dkwX4_crack_0 : List UInt8 := [42, 3, 181, 0, 34, 42, 180, 0, 27, 3, 42, 180, 0, 27, 180, 0, 74, 6, 100, 184, 0, 77]
abbrev dktX4_crack_0 : List UInt8 := dkwX4_crack_0 ++ dktX4_crack_1
theorem dksX4_crack_0 : cX4_crack.data.toList.drop 0 = dktX4_crack_0 := by decide +kernel
theorem dksX4_crack_1 : cX4_crack.data.toList.drop 22 = dktX4_crack_1 := dk_seg dksX4_crack_0 22 rfl rfl
theorem dX4_crack_0 : decode cX4_crack 0 = .ok (.aload_n 0, 1) := dk_42 (dk_at dksX4_crack_0 0 rfl rfl)
theorem dX4_crack_1 : decode cX4_crack 1 = .ok (.iconst 0, 1) := dk_3 (dk_at dksX4_crack_0 1 rfl rfl)
theorem dX4_crack_2 : decode cX4_crack 2 = .ok (.putfield 34, 3) := dk_181 0 34 (dk_at dksX4_crack_0 2 rfl rfl)
theorem dX4_crack_5 : decode cX4_crack 5 = .ok (.aload_n 0, 1) := dk_42 (dk_at dksX4_crack_0 5 rfl rfl)
theorem dX4_crack_6 : decode cX4_crack 6 = .ok (.getfield 27, 3) := dk_180 0 27 (dk_at dksX4_crack_0 6 rfl rfl)
theorem dX4_crack_9 : decode cX4_crack 9 = .ok (.iconst 0, 1) := dk_3 (dk_at dksX4_crack_0 9 rfl rfl)
theorem dX4_crack_10 : decode cX4_crack 10 = .ok (.aload_n 0, 1) := dk_42 (dk_at dksX4_crack_0 10 rfl rfl)
theorem dX4_crack_11 : decode cX4_crack 11 = .ok (.getfield 27, 3) := dk_180 0 27 (dk_at dksX4_crack_0 11 rfl rfl)
theorem dX4_crack_14 : decode cX4_crack 14 = .ok (.getfield 74, 3) := dk_180 0 74 (dk_at dksX4_crack_0 14 rfl rfl)
theorem dX4_crack_17 : decode cX4_crack 17 = .ok (.iconst 3, 1) := dk_6 (dk_at dksX4_crack_0 17 rfl rfl)
theorem dX4_crack_18 : decode cX4_crack 18 = .ok (.isub, 1) := dk_100 (dk_at dksX4_crack_0 18 rfl rfl)
theorem dX4_crack_19 : decode cX4_crack 19 = .ok (.invokestatic 77, 3) := dk_184 0 77 (dk_at dksX4_crack_0 19 rfl rfl)
theorem dX4_crack_22 : decode cX4_crack 22 = .ok (.putfield 74, 3) := dk_181 0 74 (dk_at dksX4_crack_1 0 rfl rfl)
theorem dX4_crack_25 : decode cX4_crack 25 = .ok (.aload_n 0, 1) := dk_42 (dk_at dksX4_crack_1 3 rfl rfl)
theorem dX4_crack_26 : decode cX4_crack 26 = .ok (.getfield 27, 3) := dk_180 0 27 (dk_at dksX4_crack_1 4 rfl rfl)
theorem dX4_crack_29 : decode cX4_crack 29 = .ok (.getfield 74, 3) := dk_180 0 74 (dk_at dksX4_crack_1 7 rfl rfl)
theorem dX4_crack_32 : decode cX4_crack 32 = .ok (.ireturn, 1) := dk_172 (dk_at dksX4_crack_1 10 rfl rfl)
abbrev cX4_traveller : ByteArray := prog_12_method_13_code
def yX4_traveller : MethodName := ⟨RX4, "traveller", "(II)I"⟩
def dkwX4_traveller_1 : List UInt8 := [27, 28, 182, 0, 86, 167, 0, 8, 42, 4, 182, 0, 45, 172]
abbrev dktX4_traveller_1 : List UInt8 := dkwX4_traveller_1 ++ []
def dkwX4_traveller_0 : List UInt8 := [42, 3, 181, 0, 34, 42, 27, 182, 0, 55, 153, 0, 22, 28, 3, 16, 6, 184, 0, 41, 153, 0, 12, 42]
abbrev dktX4_traveller_0 : List UInt8 := dkwX4_traveller_0 ++ dktX4_traveller_1
theorem dksX4_traveller_0 : cX4_traveller.data.toList.drop 0 = dktX4_traveller_0 := by decide +kernel
theorem dksX4_traveller_1 : cX4_traveller.data.toList.drop 24 = dktX4_traveller_1 := dk_seg dksX4_traveller_0 24 rfl rfl
theorem dX4_traveller_0 : decode cX4_traveller 0 = .ok (.aload_n 0, 1) := dk_42 (dk_at dksX4_traveller_0 0 rfl rfl)
theorem dX4_traveller_1 : decode cX4_traveller 1 = .ok (.iconst 0, 1) := dk_3 (dk_at dksX4_traveller_0 1 rfl rfl)
theorem dX4_traveller_2 : decode cX4_traveller 2 = .ok (.putfield 34, 3) := dk_181 0 34 (dk_at dksX4_traveller_0 2 rfl rfl)
theorem dX4_traveller_5 : decode cX4_traveller 5 = .ok (.aload_n 0, 1) := dk_42 (dk_at dksX4_traveller_0 5 rfl rfl)
theorem dX4_traveller_6 : decode cX4_traveller 6 = .ok (.iload_n 1, 1) := dk_27 (dk_at dksX4_traveller_0 6 rfl rfl)
theorem dX4_traveller_7 : decode cX4_traveller 7 = .ok (.invokevirtual 55, 3) := dk_182 0 55 (dk_at dksX4_traveller_0 7 rfl rfl)
theorem dX4_traveller_10 : decode cX4_traveller 10 = .ok (.ifCond .eq 22, 3) := dk_153 0 22 (dk_at dksX4_traveller_0 10 rfl rfl)
theorem dX4_traveller_13 : decode cX4_traveller 13 = .ok (.iload_n 2, 1) := dk_28 (dk_at dksX4_traveller_0 13 rfl rfl)
theorem dX4_traveller_14 : decode cX4_traveller 14 = .ok (.iconst 0, 1) := dk_3 (dk_at dksX4_traveller_0 14 rfl rfl)
theorem dX4_traveller_15 : decode cX4_traveller 15 = .ok (.bipush 6, 2) := dk_16 6 (dk_at dksX4_traveller_0 15 rfl rfl)
theorem dX4_traveller_17 : decode cX4_traveller 17 = .ok (.invokestatic 41, 3) := dk_184 0 41 (dk_at dksX4_traveller_0 17 rfl rfl)
theorem dX4_traveller_20 : decode cX4_traveller 20 = .ok (.ifCond .eq 12, 3) := dk_153 0 12 (dk_at dksX4_traveller_0 20 rfl rfl)
theorem dX4_traveller_23 : decode cX4_traveller 23 = .ok (.aload_n 0, 1) := dk_42 (dk_at dksX4_traveller_0 23 rfl rfl)
theorem dX4_traveller_24 : decode cX4_traveller 24 = .ok (.iload_n 1, 1) := dk_27 (dk_at dksX4_traveller_1 0 rfl rfl)
theorem dX4_traveller_25 : decode cX4_traveller 25 = .ok (.iload_n 2, 1) := dk_28 (dk_at dksX4_traveller_1 1 rfl rfl)
theorem dX4_traveller_26 : decode cX4_traveller 26 = .ok (.invokevirtual 86, 3) := dk_182 0 86 (dk_at dksX4_traveller_1 2 rfl rfl)
theorem dX4_traveller_29 : decode cX4_traveller 29 = .ok (.goto 8, 3) := dk_167 0 8 (dk_at dksX4_traveller_1 5 rfl rfl)
theorem dX4_traveller_32 : decode cX4_traveller 32 = .ok (.aload_n 0, 1) := dk_42 (dk_at dksX4_traveller_1 8 rfl rfl)
theorem dX4_traveller_33 : decode cX4_traveller 33 = .ok (.iconst 1, 1) := dk_4 (dk_at dksX4_traveller_1 9 rfl rfl)
theorem dX4_traveller_34 : decode cX4_traveller 34 = .ok (.invokevirtual 45, 3) := dk_182 0 45 (dk_at dksX4_traveller_1 10 rfl rfl)
theorem dX4_traveller_37 : decode cX4_traveller 37 = .ok (.ireturn, 1) := dk_172 (dk_at dksX4_traveller_1 13 rfl rfl)
abbrev cX4_told : ByteArray := prog_12_method_12_code
def yX4_told : MethodName := ⟨RX4, "told", "(II)I"⟩
def dkwX4_told_3 : List UInt8 := [42, 180, 0, 27, 180, 0, 52, 27, 46, 79, 78, 45, 28, 46, 172]
abbrev dktX4_told_3 : List UInt8 := dkwX4_told_3 ++ []
def dkwX4_told_2 : List UInt8 := [180, 0, 27, 180, 0, 62, 27, 46, 79, 89, 8, 42, 180, 0, 27, 180, 0, 83, 27, 46, 79, 89, 16, 6]
abbrev dktX4_told_2 : List UInt8 := dkwX4_told_2 ++ dktX4_told_3
def dkwX4_told_1 : List UInt8 := [42, 180, 0, 27, 180, 0, 59, 27, 46, 79, 89, 6, 42, 180, 0, 16, 27, 46, 79, 89, 7, 42]
abbrev dktX4_told_1 : List UInt8 := dkwX4_told_1 ++ dktX4_told_2
def dkwX4_told_0 : List UInt8 := [16, 7, 188, 10, 89, 3, 42, 180, 0, 9, 27, 46, 79, 89, 4, 42, 180, 0, 13, 27, 46, 79, 89, 5]
abbrev dktX4_told_0 : List UInt8 := dkwX4_told_0 ++ dktX4_told_1
theorem dksX4_told_0 : cX4_told.data.toList.drop 0 = dktX4_told_0 := by decide +kernel
theorem dksX4_told_1 : cX4_told.data.toList.drop 24 = dktX4_told_1 := dk_seg dksX4_told_0 24 rfl rfl
theorem dksX4_told_2 : cX4_told.data.toList.drop 46 = dktX4_told_2 := dk_seg dksX4_told_1 22 rfl rfl
theorem dksX4_told_3 : cX4_told.data.toList.drop 70 = dktX4_told_3 := dk_seg dksX4_told_2 24 rfl rfl
theorem dX4_told_0 : decode cX4_told 0 = .ok (.bipush 7, 2) := dk_16 7 (dk_at dksX4_told_0 0 rfl rfl)
theorem dX4_told_2 : decode cX4_told 2 = .ok (.newarray .int, 2) := dk_188_10 (dk_at dksX4_told_0 2 rfl rfl)
theorem dX4_told_4 : decode cX4_told 4 = .ok (.dup, 1) := dk_89 (dk_at dksX4_told_0 4 rfl rfl)
theorem dX4_told_5 : decode cX4_told 5 = .ok (.iconst 0, 1) := dk_3 (dk_at dksX4_told_0 5 rfl rfl)
theorem dX4_told_6 : decode cX4_told 6 = .ok (.aload_n 0, 1) := dk_42 (dk_at dksX4_told_0 6 rfl rfl)
theorem dX4_told_7 : decode cX4_told 7 = .ok (.getfield 9, 3) := dk_180 0 9 (dk_at dksX4_told_0 7 rfl rfl)
theorem dX4_told_10 : decode cX4_told 10 = .ok (.iload_n 1, 1) := dk_27 (dk_at dksX4_told_0 10 rfl rfl)
theorem dX4_told_11 : decode cX4_told 11 = .ok (.iaload, 1) := dk_46 (dk_at dksX4_told_0 11 rfl rfl)
theorem dX4_told_12 : decode cX4_told 12 = .ok (.iastore, 1) := dk_79 (dk_at dksX4_told_0 12 rfl rfl)
theorem dX4_told_13 : decode cX4_told 13 = .ok (.dup, 1) := dk_89 (dk_at dksX4_told_0 13 rfl rfl)
theorem dX4_told_14 : decode cX4_told 14 = .ok (.iconst 1, 1) := dk_4 (dk_at dksX4_told_0 14 rfl rfl)
theorem dX4_told_15 : decode cX4_told 15 = .ok (.aload_n 0, 1) := dk_42 (dk_at dksX4_told_0 15 rfl rfl)
theorem dX4_told_16 : decode cX4_told 16 = .ok (.getfield 13, 3) := dk_180 0 13 (dk_at dksX4_told_0 16 rfl rfl)
theorem dX4_told_19 : decode cX4_told 19 = .ok (.iload_n 1, 1) := dk_27 (dk_at dksX4_told_0 19 rfl rfl)
theorem dX4_told_20 : decode cX4_told 20 = .ok (.iaload, 1) := dk_46 (dk_at dksX4_told_0 20 rfl rfl)
theorem dX4_told_21 : decode cX4_told 21 = .ok (.iastore, 1) := dk_79 (dk_at dksX4_told_0 21 rfl rfl)
theorem dX4_told_22 : decode cX4_told 22 = .ok (.dup, 1) := dk_89 (dk_at dksX4_told_0 22 rfl rfl)
theorem dX4_told_23 : decode cX4_told 23 = .ok (.iconst 2, 1) := dk_5 (dk_at dksX4_told_0 23 rfl rfl)
theorem dX4_told_24 : decode cX4_told 24 = .ok (.aload_n 0, 1) := dk_42 (dk_at dksX4_told_1 0 rfl rfl)
theorem dX4_told_25 : decode cX4_told 25 = .ok (.getfield 27, 3) := dk_180 0 27 (dk_at dksX4_told_1 1 rfl rfl)
theorem dX4_told_28 : decode cX4_told 28 = .ok (.getfield 59, 3) := dk_180 0 59 (dk_at dksX4_told_1 4 rfl rfl)
theorem dX4_told_31 : decode cX4_told 31 = .ok (.iload_n 1, 1) := dk_27 (dk_at dksX4_told_1 7 rfl rfl)
theorem dX4_told_32 : decode cX4_told 32 = .ok (.iaload, 1) := dk_46 (dk_at dksX4_told_1 8 rfl rfl)
theorem dX4_told_33 : decode cX4_told 33 = .ok (.iastore, 1) := dk_79 (dk_at dksX4_told_1 9 rfl rfl)
theorem dX4_told_34 : decode cX4_told 34 = .ok (.dup, 1) := dk_89 (dk_at dksX4_told_1 10 rfl rfl)
theorem dX4_told_35 : decode cX4_told 35 = .ok (.iconst 3, 1) := dk_6 (dk_at dksX4_told_1 11 rfl rfl)
theorem dX4_told_36 : decode cX4_told 36 = .ok (.aload_n 0, 1) := dk_42 (dk_at dksX4_told_1 12 rfl rfl)
theorem dX4_told_37 : decode cX4_told 37 = .ok (.getfield 16, 3) := dk_180 0 16 (dk_at dksX4_told_1 13 rfl rfl)
theorem dX4_told_40 : decode cX4_told 40 = .ok (.iload_n 1, 1) := dk_27 (dk_at dksX4_told_1 16 rfl rfl)
theorem dX4_told_41 : decode cX4_told 41 = .ok (.iaload, 1) := dk_46 (dk_at dksX4_told_1 17 rfl rfl)
theorem dX4_told_42 : decode cX4_told 42 = .ok (.iastore, 1) := dk_79 (dk_at dksX4_told_1 18 rfl rfl)
theorem dX4_told_43 : decode cX4_told 43 = .ok (.dup, 1) := dk_89 (dk_at dksX4_told_1 19 rfl rfl)
theorem dX4_told_44 : decode cX4_told 44 = .ok (.iconst 4, 1) := dk_7 (dk_at dksX4_told_1 20 rfl rfl)
theorem dX4_told_45 : decode cX4_told 45 = .ok (.aload_n 0, 1) := dk_42 (dk_at dksX4_told_1 21 rfl rfl)
theorem dX4_told_46 : decode cX4_told 46 = .ok (.getfield 27, 3) := dk_180 0 27 (dk_at dksX4_told_2 0 rfl rfl)
theorem dX4_told_49 : decode cX4_told 49 = .ok (.getfield 62, 3) := dk_180 0 62 (dk_at dksX4_told_2 3 rfl rfl)
theorem dX4_told_52 : decode cX4_told 52 = .ok (.iload_n 1, 1) := dk_27 (dk_at dksX4_told_2 6 rfl rfl)
theorem dX4_told_53 : decode cX4_told 53 = .ok (.iaload, 1) := dk_46 (dk_at dksX4_told_2 7 rfl rfl)
theorem dX4_told_54 : decode cX4_told 54 = .ok (.iastore, 1) := dk_79 (dk_at dksX4_told_2 8 rfl rfl)
theorem dX4_told_55 : decode cX4_told 55 = .ok (.dup, 1) := dk_89 (dk_at dksX4_told_2 9 rfl rfl)
theorem dX4_told_56 : decode cX4_told 56 = .ok (.iconst 5, 1) := dk_8 (dk_at dksX4_told_2 10 rfl rfl)
theorem dX4_told_57 : decode cX4_told 57 = .ok (.aload_n 0, 1) := dk_42 (dk_at dksX4_told_2 11 rfl rfl)
theorem dX4_told_58 : decode cX4_told 58 = .ok (.getfield 27, 3) := dk_180 0 27 (dk_at dksX4_told_2 12 rfl rfl)
theorem dX4_told_61 : decode cX4_told 61 = .ok (.getfield 83, 3) := dk_180 0 83 (dk_at dksX4_told_2 15 rfl rfl)
theorem dX4_told_64 : decode cX4_told 64 = .ok (.iload_n 1, 1) := dk_27 (dk_at dksX4_told_2 18 rfl rfl)
theorem dX4_told_65 : decode cX4_told 65 = .ok (.iaload, 1) := dk_46 (dk_at dksX4_told_2 19 rfl rfl)
theorem dX4_told_66 : decode cX4_told 66 = .ok (.iastore, 1) := dk_79 (dk_at dksX4_told_2 20 rfl rfl)
theorem dX4_told_67 : decode cX4_told 67 = .ok (.dup, 1) := dk_89 (dk_at dksX4_told_2 21 rfl rfl)
theorem dX4_told_68 : decode cX4_told 68 = .ok (.bipush 6, 2) := dk_16 6 (dk_at dksX4_told_2 22 rfl rfl)
theorem dX4_told_70 : decode cX4_told 70 = .ok (.aload_n 0, 1) := dk_42 (dk_at dksX4_told_3 0 rfl rfl)
theorem dX4_told_71 : decode cX4_told 71 = .ok (.getfield 27, 3) := dk_180 0 27 (dk_at dksX4_told_3 1 rfl rfl)
theorem dX4_told_74 : decode cX4_told 74 = .ok (.getfield 52, 3) := dk_180 0 52 (dk_at dksX4_told_3 4 rfl rfl)
theorem dX4_told_77 : decode cX4_told 77 = .ok (.iload_n 1, 1) := dk_27 (dk_at dksX4_told_3 7 rfl rfl)
theorem dX4_told_78 : decode cX4_told 78 = .ok (.iaload, 1) := dk_46 (dk_at dksX4_told_3 8 rfl rfl)
theorem dX4_told_79 : decode cX4_told 79 = .ok (.iastore, 1) := dk_79 (dk_at dksX4_told_3 9 rfl rfl)
theorem dX4_told_80 : decode cX4_told 80 = .ok (.astore_n 3, 1) := dk_78 (dk_at dksX4_told_3 10 rfl rfl)
theorem dX4_told_81 : decode cX4_told 81 = .ok (.aload_n 3, 1) := dk_45 (dk_at dksX4_told_3 11 rfl rfl)
theorem dX4_told_82 : decode cX4_told 82 = .ok (.iload_n 2, 1) := dk_28 (dk_at dksX4_told_3 12 rfl rfl)
theorem dX4_told_83 : decode cX4_told 83 = .ok (.iaload, 1) := dk_46 (dk_at dksX4_told_3 13 rfl rfl)
theorem dX4_told_84 : decode cX4_told 84 = .ok (.ireturn, 1) := dk_172 (dk_at dksX4_told_3 14 rfl rfl)
abbrev cX4_count : ByteArray := prog_12_method_14_code
def yX4_count : MethodName := ⟨RX4, "count", "(I)I"⟩
def dkwX4_count_1 : List UInt8 := [167, 0, 8, 42, 4, 182, 0, 45, 172]
abbrev dktX4_count_1 : List UInt8 := dkwX4_count_1 ++ []
def dkwX4_count_0 : List UInt8 := [42, 3, 181, 0, 34, 27, 3, 16, 11, 184, 0, 41, 153, 0, 14, 42, 180, 0, 27, 27, 182, 0, 89]
abbrev dktX4_count_0 : List UInt8 := dkwX4_count_0 ++ dktX4_count_1
theorem dksX4_count_0 : cX4_count.data.toList.drop 0 = dktX4_count_0 := by decide +kernel
theorem dksX4_count_1 : cX4_count.data.toList.drop 23 = dktX4_count_1 := dk_seg dksX4_count_0 23 rfl rfl
theorem dX4_count_0 : decode cX4_count 0 = .ok (.aload_n 0, 1) := dk_42 (dk_at dksX4_count_0 0 rfl rfl)
theorem dX4_count_1 : decode cX4_count 1 = .ok (.iconst 0, 1) := dk_3 (dk_at dksX4_count_0 1 rfl rfl)
theorem dX4_count_2 : decode cX4_count 2 = .ok (.putfield 34, 3) := dk_181 0 34 (dk_at dksX4_count_0 2 rfl rfl)
theorem dX4_count_5 : decode cX4_count 5 = .ok (.iload_n 1, 1) := dk_27 (dk_at dksX4_count_0 5 rfl rfl)
theorem dX4_count_6 : decode cX4_count 6 = .ok (.iconst 0, 1) := dk_3 (dk_at dksX4_count_0 6 rfl rfl)
theorem dX4_count_7 : decode cX4_count 7 = .ok (.bipush 11, 2) := dk_16 11 (dk_at dksX4_count_0 7 rfl rfl)
theorem dX4_count_9 : decode cX4_count 9 = .ok (.invokestatic 41, 3) := dk_184 0 41 (dk_at dksX4_count_0 9 rfl rfl)
theorem dX4_count_12 : decode cX4_count 12 = .ok (.ifCond .eq 14, 3) := dk_153 0 14 (dk_at dksX4_count_0 12 rfl rfl)
theorem dX4_count_15 : decode cX4_count 15 = .ok (.aload_n 0, 1) := dk_42 (dk_at dksX4_count_0 15 rfl rfl)
theorem dX4_count_16 : decode cX4_count 16 = .ok (.getfield 27, 3) := dk_180 0 27 (dk_at dksX4_count_0 16 rfl rfl)
theorem dX4_count_19 : decode cX4_count 19 = .ok (.iload_n 1, 1) := dk_27 (dk_at dksX4_count_0 19 rfl rfl)
theorem dX4_count_20 : decode cX4_count 20 = .ok (.invokevirtual 89, 3) := dk_182 0 89 (dk_at dksX4_count_0 20 rfl rfl)
theorem dX4_count_23 : decode cX4_count 23 = .ok (.goto 8, 3) := dk_167 0 8 (dk_at dksX4_count_1 0 rfl rfl)
theorem dX4_count_26 : decode cX4_count 26 = .ok (.aload_n 0, 1) := dk_42 (dk_at dksX4_count_1 3 rfl rfl)
theorem dX4_count_27 : decode cX4_count 27 = .ok (.iconst 1, 1) := dk_4 (dk_at dksX4_count_1 4 rfl rfl)
theorem dX4_count_28 : decode cX4_count 28 = .ok (.invokevirtual 45, 3) := dk_182 0 45 (dk_at dksX4_count_1 5 rfl rfl)
theorem dX4_count_31 : decode cX4_count 31 = .ok (.ireturn, 1) := dk_172 (dk_at dksX4_count_1 8 rfl rfl)
abbrev cX4_speed : ByteArray := prog_12_method_15_code
def yX4_speed : MethodName := ⟨RX4, "speed", "(Z)I"⟩
def dkwX4_speed_0 : List UInt8 := [42, 3, 181, 0, 34, 42, 180, 0, 27, 27, 182, 0, 92, 172]
abbrev dktX4_speed_0 : List UInt8 := dkwX4_speed_0 ++ []
theorem dksX4_speed_0 : cX4_speed.data.toList.drop 0 = dktX4_speed_0 := by decide +kernel
theorem dX4_speed_0 : decode cX4_speed 0 = .ok (.aload_n 0, 1) := dk_42 (dk_at dksX4_speed_0 0 rfl rfl)
theorem dX4_speed_1 : decode cX4_speed 1 = .ok (.iconst 0, 1) := dk_3 (dk_at dksX4_speed_0 1 rfl rfl)
theorem dX4_speed_2 : decode cX4_speed 2 = .ok (.putfield 34, 3) := dk_181 0 34 (dk_at dksX4_speed_0 2 rfl rfl)
theorem dX4_speed_5 : decode cX4_speed 5 = .ok (.aload_n 0, 1) := dk_42 (dk_at dksX4_speed_0 5 rfl rfl)
theorem dX4_speed_6 : decode cX4_speed 6 = .ok (.getfield 27, 3) := dk_180 0 27 (dk_at dksX4_speed_0 6 rfl rfl)
theorem dX4_speed_9 : decode cX4_speed 9 = .ok (.iload_n 1, 1) := dk_27 (dk_at dksX4_speed_0 9 rfl rfl)
theorem dX4_speed_10 : decode cX4_speed 10 = .ok (.invokevirtual 92, 3) := dk_182 0 92 (dk_at dksX4_speed_0 10 rfl rfl)
theorem dX4_speed_13 : decode cX4_speed 13 = .ok (.ireturn, 1) := dk_172 (dk_at dksX4_speed_0 13 rfl rfl)
abbrev cX4_pass : ByteArray := prog_12_method_16_code
def yX4_pass : MethodName := ⟨RX4, "pass", "(I)I"⟩
def dkwX4_pass_2 : List UInt8 := [182, 0, 96, 28, 100, 172]
abbrev dktX4_pass_2 : List UInt8 := dkwX4_pass_2 ++ []
def dkwX4_pass_1 : List UInt8 := [180, 0, 27, 5, 5, 182, 0, 96, 61, 42, 180, 0, 27, 27, 182, 0, 99, 42, 180, 0, 27, 5, 5]
abbrev dktX4_pass_1 : List UInt8 := dkwX4_pass_1 ++ dktX4_pass_2
def dkwX4_pass_0 : List UInt8 := [42, 3, 181, 0, 34, 27, 4, 17, 0, 240, 184, 0, 41, 154, 0, 9, 42, 4, 182, 0, 45, 172, 42]
abbrev dktX4_pass_0 : List UInt8 := dkwX4_pass_0 ++ dktX4_pass_1
theorem dksX4_pass_0 : cX4_pass.data.toList.drop 0 = dktX4_pass_0 := by decide +kernel
theorem dksX4_pass_1 : cX4_pass.data.toList.drop 23 = dktX4_pass_1 := dk_seg dksX4_pass_0 23 rfl rfl
theorem dksX4_pass_2 : cX4_pass.data.toList.drop 46 = dktX4_pass_2 := dk_seg dksX4_pass_1 23 rfl rfl
theorem dX4_pass_0 : decode cX4_pass 0 = .ok (.aload_n 0, 1) := dk_42 (dk_at dksX4_pass_0 0 rfl rfl)
theorem dX4_pass_1 : decode cX4_pass 1 = .ok (.iconst 0, 1) := dk_3 (dk_at dksX4_pass_0 1 rfl rfl)
theorem dX4_pass_2 : decode cX4_pass 2 = .ok (.putfield 34, 3) := dk_181 0 34 (dk_at dksX4_pass_0 2 rfl rfl)
theorem dX4_pass_5 : decode cX4_pass 5 = .ok (.iload_n 1, 1) := dk_27 (dk_at dksX4_pass_0 5 rfl rfl)
theorem dX4_pass_6 : decode cX4_pass 6 = .ok (.iconst 1, 1) := dk_4 (dk_at dksX4_pass_0 6 rfl rfl)
theorem dX4_pass_7 : decode cX4_pass 7 = .ok (.sipush 240, 3) := dk_17 0 240 (dk_at dksX4_pass_0 7 rfl rfl)
theorem dX4_pass_10 : decode cX4_pass 10 = .ok (.invokestatic 41, 3) := dk_184 0 41 (dk_at dksX4_pass_0 10 rfl rfl)
theorem dX4_pass_13 : decode cX4_pass 13 = .ok (.ifCond .ne 9, 3) := dk_154 0 9 (dk_at dksX4_pass_0 13 rfl rfl)
theorem dX4_pass_16 : decode cX4_pass 16 = .ok (.aload_n 0, 1) := dk_42 (dk_at dksX4_pass_0 16 rfl rfl)
theorem dX4_pass_17 : decode cX4_pass 17 = .ok (.iconst 1, 1) := dk_4 (dk_at dksX4_pass_0 17 rfl rfl)
theorem dX4_pass_18 : decode cX4_pass 18 = .ok (.invokevirtual 45, 3) := dk_182 0 45 (dk_at dksX4_pass_0 18 rfl rfl)
theorem dX4_pass_21 : decode cX4_pass 21 = .ok (.ireturn, 1) := dk_172 (dk_at dksX4_pass_0 21 rfl rfl)
theorem dX4_pass_22 : decode cX4_pass 22 = .ok (.aload_n 0, 1) := dk_42 (dk_at dksX4_pass_0 22 rfl rfl)
theorem dX4_pass_23 : decode cX4_pass 23 = .ok (.getfield 27, 3) := dk_180 0 27 (dk_at dksX4_pass_1 0 rfl rfl)
theorem dX4_pass_26 : decode cX4_pass 26 = .ok (.iconst 2, 1) := dk_5 (dk_at dksX4_pass_1 3 rfl rfl)
theorem dX4_pass_27 : decode cX4_pass 27 = .ok (.iconst 2, 1) := dk_5 (dk_at dksX4_pass_1 4 rfl rfl)
theorem dX4_pass_28 : decode cX4_pass 28 = .ok (.invokevirtual 96, 3) := dk_182 0 96 (dk_at dksX4_pass_1 5 rfl rfl)
theorem dX4_pass_31 : decode cX4_pass 31 = .ok (.istore_n 2, 1) := dk_61 (dk_at dksX4_pass_1 8 rfl rfl)
theorem dX4_pass_32 : decode cX4_pass 32 = .ok (.aload_n 0, 1) := dk_42 (dk_at dksX4_pass_1 9 rfl rfl)
theorem dX4_pass_33 : decode cX4_pass 33 = .ok (.getfield 27, 3) := dk_180 0 27 (dk_at dksX4_pass_1 10 rfl rfl)
theorem dX4_pass_36 : decode cX4_pass 36 = .ok (.iload_n 1, 1) := dk_27 (dk_at dksX4_pass_1 13 rfl rfl)
theorem dX4_pass_37 : decode cX4_pass 37 = .ok (.invokevirtual 99, 3) := dk_182 0 99 (dk_at dksX4_pass_1 14 rfl rfl)
theorem dX4_pass_40 : decode cX4_pass 40 = .ok (.aload_n 0, 1) := dk_42 (dk_at dksX4_pass_1 17 rfl rfl)
theorem dX4_pass_41 : decode cX4_pass 41 = .ok (.getfield 27, 3) := dk_180 0 27 (dk_at dksX4_pass_1 18 rfl rfl)
theorem dX4_pass_44 : decode cX4_pass 44 = .ok (.iconst 2, 1) := dk_5 (dk_at dksX4_pass_1 21 rfl rfl)
theorem dX4_pass_45 : decode cX4_pass 45 = .ok (.iconst 2, 1) := dk_5 (dk_at dksX4_pass_1 22 rfl rfl)
theorem dX4_pass_46 : decode cX4_pass 46 = .ok (.invokevirtual 96, 3) := dk_182 0 96 (dk_at dksX4_pass_2 0 rfl rfl)
theorem dX4_pass_49 : decode cX4_pass 49 = .ok (.iload_n 2, 1) := dk_28 (dk_at dksX4_pass_2 3 rfl rfl)
theorem dX4_pass_50 : decode cX4_pass 50 = .ok (.isub, 1) := dk_100 (dk_at dksX4_pass_2 4 rfl rfl)
theorem dX4_pass_51 : decode cX4_pass 51 = .ok (.ireturn, 1) := dk_172 (dk_at dksX4_pass_2 5 rfl rfl)
abbrev cX4_when : ByteArray := prog_12_method_17_code
def yX4_when : MethodName := ⟨RX4, "when", "(I)I"⟩
def dkwX4_when_2 : List UInt8 := [5, 160, 0, 5, 28, 172, 42, 180, 0, 31, 182, 0, 107, 132, 2, 1, 167, 255, 224, 2, 172]
abbrev dktX4_when_2 : List UInt8 := dkwX4_when_2 ++ []
def dkwX4_when_1 : List UInt8 := [180, 0, 27, 182, 0, 103, 3, 61, 28, 17, 1, 144, 163, 0, 31, 42, 180, 0, 31, 180, 0, 59, 27, 46]
abbrev dktX4_when_1 : List UInt8 := dkwX4_when_1 ++ dktX4_when_2
def dkwX4_when_0 : List UInt8 := [42, 3, 181, 0, 34, 42, 27, 182, 0, 55, 154, 0, 9, 42, 4, 182, 0, 45, 172, 42, 180, 0, 31, 42]
abbrev dktX4_when_0 : List UInt8 := dkwX4_when_0 ++ dktX4_when_1
theorem dksX4_when_0 : cX4_when.data.toList.drop 0 = dktX4_when_0 := by decide +kernel
theorem dksX4_when_1 : cX4_when.data.toList.drop 24 = dktX4_when_1 := dk_seg dksX4_when_0 24 rfl rfl
theorem dksX4_when_2 : cX4_when.data.toList.drop 48 = dktX4_when_2 := dk_seg dksX4_when_1 24 rfl rfl
theorem dX4_when_0 : decode cX4_when 0 = .ok (.aload_n 0, 1) := dk_42 (dk_at dksX4_when_0 0 rfl rfl)
theorem dX4_when_1 : decode cX4_when 1 = .ok (.iconst 0, 1) := dk_3 (dk_at dksX4_when_0 1 rfl rfl)
theorem dX4_when_2 : decode cX4_when 2 = .ok (.putfield 34, 3) := dk_181 0 34 (dk_at dksX4_when_0 2 rfl rfl)
theorem dX4_when_5 : decode cX4_when 5 = .ok (.aload_n 0, 1) := dk_42 (dk_at dksX4_when_0 5 rfl rfl)
theorem dX4_when_6 : decode cX4_when 6 = .ok (.iload_n 1, 1) := dk_27 (dk_at dksX4_when_0 6 rfl rfl)
theorem dX4_when_7 : decode cX4_when 7 = .ok (.invokevirtual 55, 3) := dk_182 0 55 (dk_at dksX4_when_0 7 rfl rfl)
theorem dX4_when_10 : decode cX4_when 10 = .ok (.ifCond .ne 9, 3) := dk_154 0 9 (dk_at dksX4_when_0 10 rfl rfl)
theorem dX4_when_13 : decode cX4_when 13 = .ok (.aload_n 0, 1) := dk_42 (dk_at dksX4_when_0 13 rfl rfl)
theorem dX4_when_14 : decode cX4_when 14 = .ok (.iconst 1, 1) := dk_4 (dk_at dksX4_when_0 14 rfl rfl)
theorem dX4_when_15 : decode cX4_when 15 = .ok (.invokevirtual 45, 3) := dk_182 0 45 (dk_at dksX4_when_0 15 rfl rfl)
theorem dX4_when_18 : decode cX4_when 18 = .ok (.ireturn, 1) := dk_172 (dk_at dksX4_when_0 18 rfl rfl)
theorem dX4_when_19 : decode cX4_when 19 = .ok (.aload_n 0, 1) := dk_42 (dk_at dksX4_when_0 19 rfl rfl)
theorem dX4_when_20 : decode cX4_when 20 = .ok (.getfield 31, 3) := dk_180 0 31 (dk_at dksX4_when_0 20 rfl rfl)
theorem dX4_when_23 : decode cX4_when 23 = .ok (.aload_n 0, 1) := dk_42 (dk_at dksX4_when_0 23 rfl rfl)
theorem dX4_when_24 : decode cX4_when 24 = .ok (.getfield 27, 3) := dk_180 0 27 (dk_at dksX4_when_1 0 rfl rfl)
theorem dX4_when_27 : decode cX4_when 27 = .ok (.invokevirtual 103, 3) := dk_182 0 103 (dk_at dksX4_when_1 3 rfl rfl)
theorem dX4_when_30 : decode cX4_when 30 = .ok (.iconst 0, 1) := dk_3 (dk_at dksX4_when_1 6 rfl rfl)
theorem dX4_when_31 : decode cX4_when 31 = .ok (.istore_n 2, 1) := dk_61 (dk_at dksX4_when_1 7 rfl rfl)
theorem dX4_when_32 : decode cX4_when 32 = .ok (.iload_n 2, 1) := dk_28 (dk_at dksX4_when_1 8 rfl rfl)
theorem dX4_when_33 : decode cX4_when 33 = .ok (.sipush 400, 3) := dk_17 1 144 (dk_at dksX4_when_1 9 rfl rfl)
theorem dX4_when_36 : decode cX4_when 36 = .ok (.if_icmp .gt 31, 3) := dk_163 0 31 (dk_at dksX4_when_1 12 rfl rfl)
theorem dX4_when_39 : decode cX4_when 39 = .ok (.aload_n 0, 1) := dk_42 (dk_at dksX4_when_1 15 rfl rfl)
theorem dX4_when_40 : decode cX4_when 40 = .ok (.getfield 31, 3) := dk_180 0 31 (dk_at dksX4_when_1 16 rfl rfl)
theorem dX4_when_43 : decode cX4_when 43 = .ok (.getfield 59, 3) := dk_180 0 59 (dk_at dksX4_when_1 19 rfl rfl)
theorem dX4_when_46 : decode cX4_when 46 = .ok (.iload_n 1, 1) := dk_27 (dk_at dksX4_when_1 22 rfl rfl)
theorem dX4_when_47 : decode cX4_when 47 = .ok (.iaload, 1) := dk_46 (dk_at dksX4_when_1 23 rfl rfl)
theorem dX4_when_48 : decode cX4_when 48 = .ok (.iconst 2, 1) := dk_5 (dk_at dksX4_when_2 0 rfl rfl)
theorem dX4_when_49 : decode cX4_when 49 = .ok (.if_icmp .ne 5, 3) := dk_160 0 5 (dk_at dksX4_when_2 1 rfl rfl)
theorem dX4_when_52 : decode cX4_when 52 = .ok (.iload_n 2, 1) := dk_28 (dk_at dksX4_when_2 4 rfl rfl)
theorem dX4_when_53 : decode cX4_when 53 = .ok (.ireturn, 1) := dk_172 (dk_at dksX4_when_2 5 rfl rfl)
theorem dX4_when_54 : decode cX4_when 54 = .ok (.aload_n 0, 1) := dk_42 (dk_at dksX4_when_2 6 rfl rfl)
theorem dX4_when_55 : decode cX4_when 55 = .ok (.getfield 31, 3) := dk_180 0 31 (dk_at dksX4_when_2 7 rfl rfl)
theorem dX4_when_58 : decode cX4_when 58 = .ok (.invokevirtual 107, 3) := dk_182 0 107 (dk_at dksX4_when_2 10 rfl rfl)
theorem dX4_when_61 : decode cX4_when 61 = .ok (.iinc 2 1, 3) := dk_132 2 1 (dk_at dksX4_when_2 13 rfl rfl)
theorem dX4_when_64 : decode cX4_when 64 = .ok (.goto (-32), 3) := dk_167 255 224 (dk_at dksX4_when_2 16 rfl rfl)
theorem dX4_when_67 : decode cX4_when 67 = .ok (.iconst (-1), 1) := dk_2 (dk_at dksX4_when_2 19 rfl rfl)
theorem dX4_when_68 : decode cX4_when 68 = .ok (.ireturn, 1) := dk_172 (dk_at dksX4_when_2 20 rfl rfl)
abbrev cX4_foresee : ByteArray := prog_12_method_18_code
def yX4_foresee : MethodName := ⟨RX4, "foresee", "(II)I"⟩
def dkwX4_foresee_5 : List UInt8 := [167, 0, 10, 42, 180, 0, 31, 180, 0, 74, 172]
abbrev dktX4_foresee_5 : List UInt8 := dkwX4_foresee_5 ++ []
def dkwX4_foresee_4 : List UInt8 := [180, 0, 27, 182, 0, 109, 100, 167, 0, 25, 28, 5, 160, 0, 13, 42, 180, 0, 31, 180, 0, 68]
abbrev dktX4_foresee_4 : List UInt8 := dkwX4_foresee_4 ++ dktX4_foresee_5
def dkwX4_foresee_3 : List UInt8 := [180, 0, 27, 5, 5, 182, 0, 96, 100, 172, 28, 4, 160, 0, 21, 42, 180, 0, 31, 182, 0, 109, 42]
abbrev dktX4_foresee_3 : List UInt8 := dkwX4_foresee_3 ++ dktX4_foresee_4
def dkwX4_foresee_2 : List UInt8 := [42, 180, 0, 31, 27, 182, 0, 99, 28, 154, 0, 23, 42, 180, 0, 31, 5, 5, 182, 0, 96, 42]
abbrev dktX4_foresee_2 : List UInt8 := dkwX4_foresee_2 ++ dktX4_foresee_3
def dkwX4_foresee_1 : List UInt8 := [6, 184, 0, 41, 154, 0, 9, 42, 5, 182, 0, 45, 172, 42, 180, 0, 31, 42, 180, 0, 27, 182, 0, 103]
abbrev dktX4_foresee_1 : List UInt8 := dkwX4_foresee_1 ++ dktX4_foresee_2
def dkwX4_foresee_0 : List UInt8 := [42, 3, 181, 0, 34, 27, 4, 17, 0, 240, 184, 0, 41, 154, 0, 9, 42, 4, 182, 0, 45, 172, 28, 3]
abbrev dktX4_foresee_0 : List UInt8 := dkwX4_foresee_0 ++ dktX4_foresee_1
theorem dksX4_foresee_0 : cX4_foresee.data.toList.drop 0 = dktX4_foresee_0 := by decide +kernel
theorem dksX4_foresee_1 : cX4_foresee.data.toList.drop 24 = dktX4_foresee_1 := dk_seg dksX4_foresee_0 24 rfl rfl
theorem dksX4_foresee_2 : cX4_foresee.data.toList.drop 48 = dktX4_foresee_2 := dk_seg dksX4_foresee_1 24 rfl rfl
theorem dksX4_foresee_3 : cX4_foresee.data.toList.drop 70 = dktX4_foresee_3 := dk_seg dksX4_foresee_2 22 rfl rfl
theorem dksX4_foresee_4 : cX4_foresee.data.toList.drop 93 = dktX4_foresee_4 := dk_seg dksX4_foresee_3 23 rfl rfl
theorem dksX4_foresee_5 : cX4_foresee.data.toList.drop 115 = dktX4_foresee_5 := dk_seg dksX4_foresee_4 22 rfl rfl
theorem dX4_foresee_0 : decode cX4_foresee 0 = .ok (.aload_n 0, 1) := dk_42 (dk_at dksX4_foresee_0 0 rfl rfl)
theorem dX4_foresee_1 : decode cX4_foresee 1 = .ok (.iconst 0, 1) := dk_3 (dk_at dksX4_foresee_0 1 rfl rfl)
theorem dX4_foresee_2 : decode cX4_foresee 2 = .ok (.putfield 34, 3) := dk_181 0 34 (dk_at dksX4_foresee_0 2 rfl rfl)
theorem dX4_foresee_5 : decode cX4_foresee 5 = .ok (.iload_n 1, 1) := dk_27 (dk_at dksX4_foresee_0 5 rfl rfl)
theorem dX4_foresee_6 : decode cX4_foresee 6 = .ok (.iconst 1, 1) := dk_4 (dk_at dksX4_foresee_0 6 rfl rfl)
theorem dX4_foresee_7 : decode cX4_foresee 7 = .ok (.sipush 240, 3) := dk_17 0 240 (dk_at dksX4_foresee_0 7 rfl rfl)
theorem dX4_foresee_10 : decode cX4_foresee 10 = .ok (.invokestatic 41, 3) := dk_184 0 41 (dk_at dksX4_foresee_0 10 rfl rfl)
theorem dX4_foresee_13 : decode cX4_foresee 13 = .ok (.ifCond .ne 9, 3) := dk_154 0 9 (dk_at dksX4_foresee_0 13 rfl rfl)
theorem dX4_foresee_16 : decode cX4_foresee 16 = .ok (.aload_n 0, 1) := dk_42 (dk_at dksX4_foresee_0 16 rfl rfl)
theorem dX4_foresee_17 : decode cX4_foresee 17 = .ok (.iconst 1, 1) := dk_4 (dk_at dksX4_foresee_0 17 rfl rfl)
theorem dX4_foresee_18 : decode cX4_foresee 18 = .ok (.invokevirtual 45, 3) := dk_182 0 45 (dk_at dksX4_foresee_0 18 rfl rfl)
theorem dX4_foresee_21 : decode cX4_foresee 21 = .ok (.ireturn, 1) := dk_172 (dk_at dksX4_foresee_0 21 rfl rfl)
theorem dX4_foresee_22 : decode cX4_foresee 22 = .ok (.iload_n 2, 1) := dk_28 (dk_at dksX4_foresee_0 22 rfl rfl)
theorem dX4_foresee_23 : decode cX4_foresee 23 = .ok (.iconst 0, 1) := dk_3 (dk_at dksX4_foresee_0 23 rfl rfl)
theorem dX4_foresee_24 : decode cX4_foresee 24 = .ok (.iconst 3, 1) := dk_6 (dk_at dksX4_foresee_1 0 rfl rfl)
theorem dX4_foresee_25 : decode cX4_foresee 25 = .ok (.invokestatic 41, 3) := dk_184 0 41 (dk_at dksX4_foresee_1 1 rfl rfl)
theorem dX4_foresee_28 : decode cX4_foresee 28 = .ok (.ifCond .ne 9, 3) := dk_154 0 9 (dk_at dksX4_foresee_1 4 rfl rfl)
theorem dX4_foresee_31 : decode cX4_foresee 31 = .ok (.aload_n 0, 1) := dk_42 (dk_at dksX4_foresee_1 7 rfl rfl)
theorem dX4_foresee_32 : decode cX4_foresee 32 = .ok (.iconst 2, 1) := dk_5 (dk_at dksX4_foresee_1 8 rfl rfl)
theorem dX4_foresee_33 : decode cX4_foresee 33 = .ok (.invokevirtual 45, 3) := dk_182 0 45 (dk_at dksX4_foresee_1 9 rfl rfl)
theorem dX4_foresee_36 : decode cX4_foresee 36 = .ok (.ireturn, 1) := dk_172 (dk_at dksX4_foresee_1 12 rfl rfl)
theorem dX4_foresee_37 : decode cX4_foresee 37 = .ok (.aload_n 0, 1) := dk_42 (dk_at dksX4_foresee_1 13 rfl rfl)
theorem dX4_foresee_38 : decode cX4_foresee 38 = .ok (.getfield 31, 3) := dk_180 0 31 (dk_at dksX4_foresee_1 14 rfl rfl)
theorem dX4_foresee_41 : decode cX4_foresee 41 = .ok (.aload_n 0, 1) := dk_42 (dk_at dksX4_foresee_1 17 rfl rfl)
theorem dX4_foresee_42 : decode cX4_foresee 42 = .ok (.getfield 27, 3) := dk_180 0 27 (dk_at dksX4_foresee_1 18 rfl rfl)
theorem dX4_foresee_45 : decode cX4_foresee 45 = .ok (.invokevirtual 103, 3) := dk_182 0 103 (dk_at dksX4_foresee_1 21 rfl rfl)
theorem dX4_foresee_48 : decode cX4_foresee 48 = .ok (.aload_n 0, 1) := dk_42 (dk_at dksX4_foresee_2 0 rfl rfl)
theorem dX4_foresee_49 : decode cX4_foresee 49 = .ok (.getfield 31, 3) := dk_180 0 31 (dk_at dksX4_foresee_2 1 rfl rfl)
theorem dX4_foresee_52 : decode cX4_foresee 52 = .ok (.iload_n 1, 1) := dk_27 (dk_at dksX4_foresee_2 4 rfl rfl)
theorem dX4_foresee_53 : decode cX4_foresee 53 = .ok (.invokevirtual 99, 3) := dk_182 0 99 (dk_at dksX4_foresee_2 5 rfl rfl)
theorem dX4_foresee_56 : decode cX4_foresee 56 = .ok (.iload_n 2, 1) := dk_28 (dk_at dksX4_foresee_2 8 rfl rfl)
theorem dX4_foresee_57 : decode cX4_foresee 57 = .ok (.ifCond .ne 23, 3) := dk_154 0 23 (dk_at dksX4_foresee_2 9 rfl rfl)
theorem dX4_foresee_60 : decode cX4_foresee 60 = .ok (.aload_n 0, 1) := dk_42 (dk_at dksX4_foresee_2 12 rfl rfl)
theorem dX4_foresee_61 : decode cX4_foresee 61 = .ok (.getfield 31, 3) := dk_180 0 31 (dk_at dksX4_foresee_2 13 rfl rfl)
theorem dX4_foresee_64 : decode cX4_foresee 64 = .ok (.iconst 2, 1) := dk_5 (dk_at dksX4_foresee_2 16 rfl rfl)
theorem dX4_foresee_65 : decode cX4_foresee 65 = .ok (.iconst 2, 1) := dk_5 (dk_at dksX4_foresee_2 17 rfl rfl)
theorem dX4_foresee_66 : decode cX4_foresee 66 = .ok (.invokevirtual 96, 3) := dk_182 0 96 (dk_at dksX4_foresee_2 18 rfl rfl)
theorem dX4_foresee_69 : decode cX4_foresee 69 = .ok (.aload_n 0, 1) := dk_42 (dk_at dksX4_foresee_2 21 rfl rfl)
theorem dX4_foresee_70 : decode cX4_foresee 70 = .ok (.getfield 27, 3) := dk_180 0 27 (dk_at dksX4_foresee_3 0 rfl rfl)
theorem dX4_foresee_73 : decode cX4_foresee 73 = .ok (.iconst 2, 1) := dk_5 (dk_at dksX4_foresee_3 3 rfl rfl)
theorem dX4_foresee_74 : decode cX4_foresee 74 = .ok (.iconst 2, 1) := dk_5 (dk_at dksX4_foresee_3 4 rfl rfl)
theorem dX4_foresee_75 : decode cX4_foresee 75 = .ok (.invokevirtual 96, 3) := dk_182 0 96 (dk_at dksX4_foresee_3 5 rfl rfl)
theorem dX4_foresee_78 : decode cX4_foresee 78 = .ok (.isub, 1) := dk_100 (dk_at dksX4_foresee_3 8 rfl rfl)
theorem dX4_foresee_79 : decode cX4_foresee 79 = .ok (.ireturn, 1) := dk_172 (dk_at dksX4_foresee_3 9 rfl rfl)
theorem dX4_foresee_80 : decode cX4_foresee 80 = .ok (.iload_n 2, 1) := dk_28 (dk_at dksX4_foresee_3 10 rfl rfl)
theorem dX4_foresee_81 : decode cX4_foresee 81 = .ok (.iconst 1, 1) := dk_4 (dk_at dksX4_foresee_3 11 rfl rfl)
theorem dX4_foresee_82 : decode cX4_foresee 82 = .ok (.if_icmp .ne 21, 3) := dk_160 0 21 (dk_at dksX4_foresee_3 12 rfl rfl)
theorem dX4_foresee_85 : decode cX4_foresee 85 = .ok (.aload_n 0, 1) := dk_42 (dk_at dksX4_foresee_3 15 rfl rfl)
theorem dX4_foresee_86 : decode cX4_foresee 86 = .ok (.getfield 31, 3) := dk_180 0 31 (dk_at dksX4_foresee_3 16 rfl rfl)
theorem dX4_foresee_89 : decode cX4_foresee 89 = .ok (.invokevirtual 109, 3) := dk_182 0 109 (dk_at dksX4_foresee_3 19 rfl rfl)
theorem dX4_foresee_92 : decode cX4_foresee 92 = .ok (.aload_n 0, 1) := dk_42 (dk_at dksX4_foresee_3 22 rfl rfl)
theorem dX4_foresee_93 : decode cX4_foresee 93 = .ok (.getfield 27, 3) := dk_180 0 27 (dk_at dksX4_foresee_4 0 rfl rfl)
theorem dX4_foresee_96 : decode cX4_foresee 96 = .ok (.invokevirtual 109, 3) := dk_182 0 109 (dk_at dksX4_foresee_4 3 rfl rfl)
theorem dX4_foresee_99 : decode cX4_foresee 99 = .ok (.isub, 1) := dk_100 (dk_at dksX4_foresee_4 6 rfl rfl)
theorem dX4_foresee_100 : decode cX4_foresee 100 = .ok (.goto 25, 3) := dk_167 0 25 (dk_at dksX4_foresee_4 7 rfl rfl)
theorem dX4_foresee_103 : decode cX4_foresee 103 = .ok (.iload_n 2, 1) := dk_28 (dk_at dksX4_foresee_4 10 rfl rfl)
theorem dX4_foresee_104 : decode cX4_foresee 104 = .ok (.iconst 2, 1) := dk_5 (dk_at dksX4_foresee_4 11 rfl rfl)
theorem dX4_foresee_105 : decode cX4_foresee 105 = .ok (.if_icmp .ne 13, 3) := dk_160 0 13 (dk_at dksX4_foresee_4 12 rfl rfl)
theorem dX4_foresee_108 : decode cX4_foresee 108 = .ok (.aload_n 0, 1) := dk_42 (dk_at dksX4_foresee_4 15 rfl rfl)
theorem dX4_foresee_109 : decode cX4_foresee 109 = .ok (.getfield 31, 3) := dk_180 0 31 (dk_at dksX4_foresee_4 16 rfl rfl)
theorem dX4_foresee_112 : decode cX4_foresee 112 = .ok (.getfield 68, 3) := dk_180 0 68 (dk_at dksX4_foresee_4 19 rfl rfl)
theorem dX4_foresee_115 : decode cX4_foresee 115 = .ok (.goto 10, 3) := dk_167 0 10 (dk_at dksX4_foresee_5 0 rfl rfl)
theorem dX4_foresee_118 : decode cX4_foresee 118 = .ok (.aload_n 0, 1) := dk_42 (dk_at dksX4_foresee_5 3 rfl rfl)
theorem dX4_foresee_119 : decode cX4_foresee 119 = .ok (.getfield 31, 3) := dk_180 0 31 (dk_at dksX4_foresee_5 4 rfl rfl)
theorem dX4_foresee_122 : decode cX4_foresee 122 = .ok (.getfield 74, 3) := dk_180 0 74 (dk_at dksX4_foresee_5 7 rfl rfl)
theorem dX4_foresee_125 : decode cX4_foresee 125 = .ok (.ireturn, 1) := dk_172 (dk_at dksX4_foresee_5 10 rfl rfl)
abbrev cX4_bestCode : ByteArray := prog_12_method_20_code
def yX4_bestCode : MethodName := ⟨RX4, "bestCode", "(I)I"⟩
def dkwX4_bestCode_1 : List UInt8 := [167, 0, 8, 42, 4, 182, 0, 45, 172]
abbrev dktX4_bestCode_1 : List UInt8 := dkwX4_bestCode_1 ++ []
def dkwX4_bestCode_0 : List UInt8 := [42, 3, 181, 0, 34, 27, 4, 17, 0, 240, 184, 0, 41, 153, 0, 13, 42, 27, 4, 7, 182, 0, 113]
abbrev dktX4_bestCode_0 : List UInt8 := dkwX4_bestCode_0 ++ dktX4_bestCode_1
theorem dksX4_bestCode_0 : cX4_bestCode.data.toList.drop 0 = dktX4_bestCode_0 := by decide +kernel
theorem dksX4_bestCode_1 : cX4_bestCode.data.toList.drop 23 = dktX4_bestCode_1 := dk_seg dksX4_bestCode_0 23 rfl rfl
theorem dX4_bestCode_0 : decode cX4_bestCode 0 = .ok (.aload_n 0, 1) := dk_42 (dk_at dksX4_bestCode_0 0 rfl rfl)
theorem dX4_bestCode_1 : decode cX4_bestCode 1 = .ok (.iconst 0, 1) := dk_3 (dk_at dksX4_bestCode_0 1 rfl rfl)
theorem dX4_bestCode_2 : decode cX4_bestCode 2 = .ok (.putfield 34, 3) := dk_181 0 34 (dk_at dksX4_bestCode_0 2 rfl rfl)
theorem dX4_bestCode_5 : decode cX4_bestCode 5 = .ok (.iload_n 1, 1) := dk_27 (dk_at dksX4_bestCode_0 5 rfl rfl)
theorem dX4_bestCode_6 : decode cX4_bestCode 6 = .ok (.iconst 1, 1) := dk_4 (dk_at dksX4_bestCode_0 6 rfl rfl)
theorem dX4_bestCode_7 : decode cX4_bestCode 7 = .ok (.sipush 240, 3) := dk_17 0 240 (dk_at dksX4_bestCode_0 7 rfl rfl)
theorem dX4_bestCode_10 : decode cX4_bestCode 10 = .ok (.invokestatic 41, 3) := dk_184 0 41 (dk_at dksX4_bestCode_0 10 rfl rfl)
theorem dX4_bestCode_13 : decode cX4_bestCode 13 = .ok (.ifCond .eq 13, 3) := dk_153 0 13 (dk_at dksX4_bestCode_0 13 rfl rfl)
theorem dX4_bestCode_16 : decode cX4_bestCode 16 = .ok (.aload_n 0, 1) := dk_42 (dk_at dksX4_bestCode_0 16 rfl rfl)
theorem dX4_bestCode_17 : decode cX4_bestCode 17 = .ok (.iload_n 1, 1) := dk_27 (dk_at dksX4_bestCode_0 17 rfl rfl)
theorem dX4_bestCode_18 : decode cX4_bestCode 18 = .ok (.iconst 1, 1) := dk_4 (dk_at dksX4_bestCode_0 18 rfl rfl)
theorem dX4_bestCode_19 : decode cX4_bestCode 19 = .ok (.iconst 4, 1) := dk_7 (dk_at dksX4_bestCode_0 19 rfl rfl)
theorem dX4_bestCode_20 : decode cX4_bestCode 20 = .ok (.invokevirtual 113, 3) := dk_182 0 113 (dk_at dksX4_bestCode_0 20 rfl rfl)
theorem dX4_bestCode_23 : decode cX4_bestCode 23 = .ok (.goto 8, 3) := dk_167 0 8 (dk_at dksX4_bestCode_1 0 rfl rfl)
theorem dX4_bestCode_26 : decode cX4_bestCode 26 = .ok (.aload_n 0, 1) := dk_42 (dk_at dksX4_bestCode_1 3 rfl rfl)
theorem dX4_bestCode_27 : decode cX4_bestCode 27 = .ok (.iconst 1, 1) := dk_4 (dk_at dksX4_bestCode_1 4 rfl rfl)
theorem dX4_bestCode_28 : decode cX4_bestCode 28 = .ok (.invokevirtual 45, 3) := dk_182 0 45 (dk_at dksX4_bestCode_1 5 rfl rfl)
theorem dX4_bestCode_31 : decode cX4_bestCode 31 = .ok (.ireturn, 1) := dk_172 (dk_at dksX4_bestCode_1 8 rfl rfl)
abbrev cX4_best : ByteArray := prog_12_method_19_code
def yX4_best : MethodName := ⟨RX4, "best", "(IZI)I"⟩
def dkwX4_best_4 : List UInt8 := [132, 6, 1, 167, 255, 170, 21, 4, 172]
abbrev dktX4_best_4 : List UInt8 := dkwX4_best_4 ++ []
def dkwX4_best_3 : List UInt8 := [2, 159, 0, 13, 21, 7, 21, 5, 161, 0, 6, 167, 0, 11, 21, 6, 54, 4, 21, 7, 54, 5]
abbrev dktX4_best_3 : List UInt8 := dkwX4_best_3 ++ dktX4_best_4
def dkwX4_best_2 : List UInt8 := [21, 6, 181, 0, 71, 42, 180, 0, 31, 27, 182, 0, 99, 42, 180, 0, 31, 182, 0, 109, 54, 7, 21, 4]
abbrev dktX4_best_2 : List UInt8 := dkwX4_best_2 ++ dktX4_best_3
def dkwX4_best_1 : List UInt8 := [182, 0, 103, 28, 153, 0, 15, 42, 180, 0, 31, 21, 6, 181, 0, 65, 167, 0, 12, 42, 180, 0, 31]
abbrev dktX4_best_1 : List UInt8 := dkwX4_best_1 ++ dktX4_best_2
def dkwX4_best_0 : List UInt8 := [2, 54, 4, 3, 54, 5, 3, 54, 6, 21, 6, 29, 162, 0, 86, 42, 180, 0, 31, 42, 180, 0, 27]
abbrev dktX4_best_0 : List UInt8 := dkwX4_best_0 ++ dktX4_best_1
theorem dksX4_best_0 : cX4_best.data.toList.drop 0 = dktX4_best_0 := by decide +kernel
theorem dksX4_best_1 : cX4_best.data.toList.drop 23 = dktX4_best_1 := dk_seg dksX4_best_0 23 rfl rfl
theorem dksX4_best_2 : cX4_best.data.toList.drop 46 = dktX4_best_2 := dk_seg dksX4_best_1 23 rfl rfl
theorem dksX4_best_3 : cX4_best.data.toList.drop 70 = dktX4_best_3 := dk_seg dksX4_best_2 24 rfl rfl
theorem dksX4_best_4 : cX4_best.data.toList.drop 92 = dktX4_best_4 := dk_seg dksX4_best_3 22 rfl rfl
theorem dX4_best_0 : decode cX4_best 0 = .ok (.iconst (-1), 1) := dk_2 (dk_at dksX4_best_0 0 rfl rfl)
theorem dX4_best_1 : decode cX4_best 1 = .ok (.istore 4, 2) := dk_54 4 (dk_at dksX4_best_0 1 rfl rfl)
theorem dX4_best_3 : decode cX4_best 3 = .ok (.iconst 0, 1) := dk_3 (dk_at dksX4_best_0 3 rfl rfl)
theorem dX4_best_4 : decode cX4_best 4 = .ok (.istore 5, 2) := dk_54 5 (dk_at dksX4_best_0 4 rfl rfl)
theorem dX4_best_6 : decode cX4_best 6 = .ok (.iconst 0, 1) := dk_3 (dk_at dksX4_best_0 6 rfl rfl)
theorem dX4_best_7 : decode cX4_best 7 = .ok (.istore 6, 2) := dk_54 6 (dk_at dksX4_best_0 7 rfl rfl)
theorem dX4_best_9 : decode cX4_best 9 = .ok (.iload 6, 2) := dk_21 6 (dk_at dksX4_best_0 9 rfl rfl)
theorem dX4_best_11 : decode cX4_best 11 = .ok (.iload_n 3, 1) := dk_29 (dk_at dksX4_best_0 11 rfl rfl)
theorem dX4_best_12 : decode cX4_best 12 = .ok (.if_icmp .ge 86, 3) := dk_162 0 86 (dk_at dksX4_best_0 12 rfl rfl)
theorem dX4_best_15 : decode cX4_best 15 = .ok (.aload_n 0, 1) := dk_42 (dk_at dksX4_best_0 15 rfl rfl)
theorem dX4_best_16 : decode cX4_best 16 = .ok (.getfield 31, 3) := dk_180 0 31 (dk_at dksX4_best_0 16 rfl rfl)
theorem dX4_best_19 : decode cX4_best 19 = .ok (.aload_n 0, 1) := dk_42 (dk_at dksX4_best_0 19 rfl rfl)
theorem dX4_best_20 : decode cX4_best 20 = .ok (.getfield 27, 3) := dk_180 0 27 (dk_at dksX4_best_0 20 rfl rfl)
theorem dX4_best_23 : decode cX4_best 23 = .ok (.invokevirtual 103, 3) := dk_182 0 103 (dk_at dksX4_best_1 0 rfl rfl)
theorem dX4_best_26 : decode cX4_best 26 = .ok (.iload_n 2, 1) := dk_28 (dk_at dksX4_best_1 3 rfl rfl)
theorem dX4_best_27 : decode cX4_best 27 = .ok (.ifCond .eq 15, 3) := dk_153 0 15 (dk_at dksX4_best_1 4 rfl rfl)
theorem dX4_best_30 : decode cX4_best 30 = .ok (.aload_n 0, 1) := dk_42 (dk_at dksX4_best_1 7 rfl rfl)
theorem dX4_best_31 : decode cX4_best 31 = .ok (.getfield 31, 3) := dk_180 0 31 (dk_at dksX4_best_1 8 rfl rfl)
theorem dX4_best_34 : decode cX4_best 34 = .ok (.iload 6, 2) := dk_21 6 (dk_at dksX4_best_1 11 rfl rfl)
theorem dX4_best_36 : decode cX4_best 36 = .ok (.putfield 65, 3) := dk_181 0 65 (dk_at dksX4_best_1 13 rfl rfl)
theorem dX4_best_39 : decode cX4_best 39 = .ok (.goto 12, 3) := dk_167 0 12 (dk_at dksX4_best_1 16 rfl rfl)
theorem dX4_best_42 : decode cX4_best 42 = .ok (.aload_n 0, 1) := dk_42 (dk_at dksX4_best_1 19 rfl rfl)
theorem dX4_best_43 : decode cX4_best 43 = .ok (.getfield 31, 3) := dk_180 0 31 (dk_at dksX4_best_1 20 rfl rfl)
theorem dX4_best_46 : decode cX4_best 46 = .ok (.iload 6, 2) := dk_21 6 (dk_at dksX4_best_2 0 rfl rfl)
theorem dX4_best_48 : decode cX4_best 48 = .ok (.putfield 71, 3) := dk_181 0 71 (dk_at dksX4_best_2 2 rfl rfl)
theorem dX4_best_51 : decode cX4_best 51 = .ok (.aload_n 0, 1) := dk_42 (dk_at dksX4_best_2 5 rfl rfl)
theorem dX4_best_52 : decode cX4_best 52 = .ok (.getfield 31, 3) := dk_180 0 31 (dk_at dksX4_best_2 6 rfl rfl)
theorem dX4_best_55 : decode cX4_best 55 = .ok (.iload_n 1, 1) := dk_27 (dk_at dksX4_best_2 9 rfl rfl)
theorem dX4_best_56 : decode cX4_best 56 = .ok (.invokevirtual 99, 3) := dk_182 0 99 (dk_at dksX4_best_2 10 rfl rfl)
theorem dX4_best_59 : decode cX4_best 59 = .ok (.aload_n 0, 1) := dk_42 (dk_at dksX4_best_2 13 rfl rfl)
theorem dX4_best_60 : decode cX4_best 60 = .ok (.getfield 31, 3) := dk_180 0 31 (dk_at dksX4_best_2 14 rfl rfl)
theorem dX4_best_63 : decode cX4_best 63 = .ok (.invokevirtual 109, 3) := dk_182 0 109 (dk_at dksX4_best_2 17 rfl rfl)
theorem dX4_best_66 : decode cX4_best 66 = .ok (.istore 7, 2) := dk_54 7 (dk_at dksX4_best_2 20 rfl rfl)
theorem dX4_best_68 : decode cX4_best 68 = .ok (.iload 4, 2) := dk_21 4 (dk_at dksX4_best_2 22 rfl rfl)
theorem dX4_best_70 : decode cX4_best 70 = .ok (.iconst (-1), 1) := dk_2 (dk_at dksX4_best_3 0 rfl rfl)
theorem dX4_best_71 : decode cX4_best 71 = .ok (.if_icmp .eq 13, 3) := dk_159 0 13 (dk_at dksX4_best_3 1 rfl rfl)
theorem dX4_best_74 : decode cX4_best 74 = .ok (.iload 7, 2) := dk_21 7 (dk_at dksX4_best_3 4 rfl rfl)
theorem dX4_best_76 : decode cX4_best 76 = .ok (.iload 5, 2) := dk_21 5 (dk_at dksX4_best_3 6 rfl rfl)
theorem dX4_best_78 : decode cX4_best 78 = .ok (.if_icmp .lt 6, 3) := dk_161 0 6 (dk_at dksX4_best_3 8 rfl rfl)
theorem dX4_best_81 : decode cX4_best 81 = .ok (.goto 11, 3) := dk_167 0 11 (dk_at dksX4_best_3 11 rfl rfl)
theorem dX4_best_84 : decode cX4_best 84 = .ok (.iload 6, 2) := dk_21 6 (dk_at dksX4_best_3 14 rfl rfl)
theorem dX4_best_86 : decode cX4_best 86 = .ok (.istore 4, 2) := dk_54 4 (dk_at dksX4_best_3 16 rfl rfl)
theorem dX4_best_88 : decode cX4_best 88 = .ok (.iload 7, 2) := dk_21 7 (dk_at dksX4_best_3 18 rfl rfl)
theorem dX4_best_90 : decode cX4_best 90 = .ok (.istore 5, 2) := dk_54 5 (dk_at dksX4_best_3 20 rfl rfl)
theorem dX4_best_92 : decode cX4_best 92 = .ok (.iinc 6 1, 3) := dk_132 6 1 (dk_at dksX4_best_4 0 rfl rfl)
theorem dX4_best_95 : decode cX4_best 95 = .ok (.goto (-86), 3) := dk_167 255 170 (dk_at dksX4_best_4 3 rfl rfl)
theorem dX4_best_98 : decode cX4_best 98 = .ok (.iload 4, 2) := dk_21 4 (dk_at dksX4_best_4 6 rfl rfl)
theorem dX4_best_100 : decode cX4_best 100 = .ok (.ireturn, 1) := dk_172 (dk_at dksX4_best_4 8 rfl rfl)
abbrev cX4_bestPoise : ByteArray := prog_12_method_21_code
def yX4_bestPoise : MethodName := ⟨RX4, "bestPoise", "(I)I"⟩
def dkwX4_bestPoise_1 : List UInt8 := [167, 0, 8, 42, 4, 182, 0, 45, 172]
abbrev dktX4_bestPoise_1 : List UInt8 := dkwX4_bestPoise_1 ++ []
def dkwX4_bestPoise_0 : List UInt8 := [42, 3, 181, 0, 34, 27, 4, 17, 0, 240, 184, 0, 41, 153, 0, 14, 42, 27, 3, 16, 31, 182, 0, 113]
abbrev dktX4_bestPoise_0 : List UInt8 := dkwX4_bestPoise_0 ++ dktX4_bestPoise_1
theorem dksX4_bestPoise_0 : cX4_bestPoise.data.toList.drop 0 = dktX4_bestPoise_0 := by decide +kernel
theorem dksX4_bestPoise_1 : cX4_bestPoise.data.toList.drop 24 = dktX4_bestPoise_1 := dk_seg dksX4_bestPoise_0 24 rfl rfl
theorem dX4_bestPoise_0 : decode cX4_bestPoise 0 = .ok (.aload_n 0, 1) := dk_42 (dk_at dksX4_bestPoise_0 0 rfl rfl)
theorem dX4_bestPoise_1 : decode cX4_bestPoise 1 = .ok (.iconst 0, 1) := dk_3 (dk_at dksX4_bestPoise_0 1 rfl rfl)
theorem dX4_bestPoise_2 : decode cX4_bestPoise 2 = .ok (.putfield 34, 3) := dk_181 0 34 (dk_at dksX4_bestPoise_0 2 rfl rfl)
theorem dX4_bestPoise_5 : decode cX4_bestPoise 5 = .ok (.iload_n 1, 1) := dk_27 (dk_at dksX4_bestPoise_0 5 rfl rfl)
theorem dX4_bestPoise_6 : decode cX4_bestPoise 6 = .ok (.iconst 1, 1) := dk_4 (dk_at dksX4_bestPoise_0 6 rfl rfl)
theorem dX4_bestPoise_7 : decode cX4_bestPoise 7 = .ok (.sipush 240, 3) := dk_17 0 240 (dk_at dksX4_bestPoise_0 7 rfl rfl)
theorem dX4_bestPoise_10 : decode cX4_bestPoise 10 = .ok (.invokestatic 41, 3) := dk_184 0 41 (dk_at dksX4_bestPoise_0 10 rfl rfl)
theorem dX4_bestPoise_13 : decode cX4_bestPoise 13 = .ok (.ifCond .eq 14, 3) := dk_153 0 14 (dk_at dksX4_bestPoise_0 13 rfl rfl)
theorem dX4_bestPoise_16 : decode cX4_bestPoise 16 = .ok (.aload_n 0, 1) := dk_42 (dk_at dksX4_bestPoise_0 16 rfl rfl)
theorem dX4_bestPoise_17 : decode cX4_bestPoise 17 = .ok (.iload_n 1, 1) := dk_27 (dk_at dksX4_bestPoise_0 17 rfl rfl)
theorem dX4_bestPoise_18 : decode cX4_bestPoise 18 = .ok (.iconst 0, 1) := dk_3 (dk_at dksX4_bestPoise_0 18 rfl rfl)
theorem dX4_bestPoise_19 : decode cX4_bestPoise 19 = .ok (.bipush 31, 2) := dk_16 31 (dk_at dksX4_bestPoise_0 19 rfl rfl)
theorem dX4_bestPoise_21 : decode cX4_bestPoise 21 = .ok (.invokevirtual 113, 3) := dk_182 0 113 (dk_at dksX4_bestPoise_0 21 rfl rfl)
theorem dX4_bestPoise_24 : decode cX4_bestPoise 24 = .ok (.goto 8, 3) := dk_167 0 8 (dk_at dksX4_bestPoise_1 0 rfl rfl)
theorem dX4_bestPoise_27 : decode cX4_bestPoise 27 = .ok (.aload_n 0, 1) := dk_42 (dk_at dksX4_bestPoise_1 3 rfl rfl)
theorem dX4_bestPoise_28 : decode cX4_bestPoise 28 = .ok (.iconst 1, 1) := dk_4 (dk_at dksX4_bestPoise_1 4 rfl rfl)
theorem dX4_bestPoise_29 : decode cX4_bestPoise 29 = .ok (.invokevirtual 45, 3) := dk_182 0 45 (dk_at dksX4_bestPoise_1 5 rfl rfl)
theorem dX4_bestPoise_32 : decode cX4_bestPoise 32 = .ok (.ireturn, 1) := dk_172 (dk_at dksX4_bestPoise_1 8 rfl rfl)
abbrev cX4_mean : ByteArray := prog_12_method_22_code
def yX4_mean : MethodName := ⟨RX4, "mean", "()D"⟩
def dkwX4_mean_1 : List UInt8 := [42, 180, 0, 38, 135, 111, 175]
abbrev dktX4_mean_1 : List UInt8 := dkwX4_mean_1 ++ []
def dkwX4_mean_0 : List UInt8 := [42, 3, 181, 0, 34, 42, 180, 0, 38, 154, 0, 7, 14, 167, 0, 17, 42, 180, 0, 27, 182, 0, 109, 135]
abbrev dktX4_mean_0 : List UInt8 := dkwX4_mean_0 ++ dktX4_mean_1
theorem dksX4_mean_0 : cX4_mean.data.toList.drop 0 = dktX4_mean_0 := by decide +kernel
theorem dksX4_mean_1 : cX4_mean.data.toList.drop 24 = dktX4_mean_1 := dk_seg dksX4_mean_0 24 rfl rfl
theorem dX4_mean_0 : decode cX4_mean 0 = .ok (.aload_n 0, 1) := dk_42 (dk_at dksX4_mean_0 0 rfl rfl)
theorem dX4_mean_1 : decode cX4_mean 1 = .ok (.iconst 0, 1) := dk_3 (dk_at dksX4_mean_0 1 rfl rfl)
theorem dX4_mean_2 : decode cX4_mean 2 = .ok (.putfield 34, 3) := dk_181 0 34 (dk_at dksX4_mean_0 2 rfl rfl)
theorem dX4_mean_5 : decode cX4_mean 5 = .ok (.aload_n 0, 1) := dk_42 (dk_at dksX4_mean_0 5 rfl rfl)
theorem dX4_mean_6 : decode cX4_mean 6 = .ok (.getfield 38, 3) := dk_180 0 38 (dk_at dksX4_mean_0 6 rfl rfl)
theorem dX4_mean_9 : decode cX4_mean 9 = .ok (.ifCond .ne 7, 3) := dk_154 0 7 (dk_at dksX4_mean_0 9 rfl rfl)
theorem dX4_mean_12 : decode cX4_mean 12 = .ok (.dconst 0, 1) := dk_14 (dk_at dksX4_mean_0 12 rfl rfl)
theorem dX4_mean_13 : decode cX4_mean 13 = .ok (.goto 17, 3) := dk_167 0 17 (dk_at dksX4_mean_0 13 rfl rfl)
theorem dX4_mean_16 : decode cX4_mean 16 = .ok (.aload_n 0, 1) := dk_42 (dk_at dksX4_mean_0 16 rfl rfl)
theorem dX4_mean_17 : decode cX4_mean 17 = .ok (.getfield 27, 3) := dk_180 0 27 (dk_at dksX4_mean_0 17 rfl rfl)
theorem dX4_mean_20 : decode cX4_mean 20 = .ok (.invokevirtual 109, 3) := dk_182 0 109 (dk_at dksX4_mean_0 20 rfl rfl)
theorem dX4_mean_23 : decode cX4_mean 23 = .ok (.i2d, 1) := dk_135 (dk_at dksX4_mean_0 23 rfl rfl)
theorem dX4_mean_24 : decode cX4_mean 24 = .ok (.aload_n 0, 1) := dk_42 (dk_at dksX4_mean_1 0 rfl rfl)
theorem dX4_mean_25 : decode cX4_mean 25 = .ok (.getfield 38, 3) := dk_180 0 38 (dk_at dksX4_mean_1 1 rfl rfl)
theorem dX4_mean_28 : decode cX4_mean 28 = .ok (.i2d, 1) := dk_135 (dk_at dksX4_mean_1 4 rfl rfl)
theorem dX4_mean_29 : decode cX4_mean 29 = .ok (.ddiv, 1) := dk_111 (dk_at dksX4_mean_1 5 rfl rfl)
theorem dX4_mean_30 : decode cX4_mean 30 = .ok (.dreturn, 1) := dk_175 (dk_at dksX4_mean_1 6 rfl rfl)
abbrev cX4_digest : ByteArray := prog_12_method_23_code
def yX4_digest : MethodName := ⟨RX4, "digest", "()J"⟩
def dkwX4_digest_4 : List UInt8 := [21, 4, 182, 0, 86, 133, 97, 64, 132, 4, 1, 167, 255, 231, 132, 3, 1, 167, 255, 214, 31, 173]
abbrev dktX4_digest_4 : List UInt8 := dkwX4_digest_4 ++ []
def dkwX4_digest_3 : List UInt8 := [180, 0, 38, 162, 0, 40, 3, 54, 4, 21, 4, 16, 6, 163, 0, 24, 31, 20, 0, 119, 105, 42, 29]
abbrev dktX4_digest_3 : List UInt8 := dkwX4_digest_3 ++ dktX4_digest_4
def dkwX4_digest_2 : List UInt8 := [31, 20, 0, 119, 105, 42, 180, 0, 19, 29, 46, 133, 97, 64, 132, 3, 1, 167, 255, 233, 3, 62, 29, 42]
abbrev dktX4_digest_2 : List UInt8 := dkwX4_digest_2 ++ dktX4_digest_3
def dkwX4_digest_1 : List UInt8 := [180, 0, 27, 29, 182, 0, 89, 133, 97, 64, 132, 3, 1, 167, 255, 231, 3, 62, 29, 16, 8, 162, 0, 23]
abbrev dktX4_digest_1 : List UInt8 := dkwX4_digest_1 ++ dktX4_digest_2
def dkwX4_digest_0 : List UInt8 := [42, 3, 181, 0, 34, 20, 0, 117, 64, 3, 62, 29, 16, 11, 163, 0, 25, 31, 20, 0, 119, 105, 42]
abbrev dktX4_digest_0 : List UInt8 := dkwX4_digest_0 ++ dktX4_digest_1
theorem dksX4_digest_0 : cX4_digest.data.toList.drop 0 = dktX4_digest_0 := by decide +kernel
theorem dksX4_digest_1 : cX4_digest.data.toList.drop 23 = dktX4_digest_1 := dk_seg dksX4_digest_0 23 rfl rfl
theorem dksX4_digest_2 : cX4_digest.data.toList.drop 47 = dktX4_digest_2 := dk_seg dksX4_digest_1 24 rfl rfl
theorem dksX4_digest_3 : cX4_digest.data.toList.drop 71 = dktX4_digest_3 := dk_seg dksX4_digest_2 24 rfl rfl
theorem dksX4_digest_4 : cX4_digest.data.toList.drop 94 = dktX4_digest_4 := dk_seg dksX4_digest_3 23 rfl rfl
theorem dX4_digest_0 : decode cX4_digest 0 = .ok (.aload_n 0, 1) := dk_42 (dk_at dksX4_digest_0 0 rfl rfl)
theorem dX4_digest_1 : decode cX4_digest 1 = .ok (.iconst 0, 1) := dk_3 (dk_at dksX4_digest_0 1 rfl rfl)
theorem dX4_digest_2 : decode cX4_digest 2 = .ok (.putfield 34, 3) := dk_181 0 34 (dk_at dksX4_digest_0 2 rfl rfl)
theorem dX4_digest_5 : decode cX4_digest 5 = .ok (.ldc2_w 117, 3) := dk_20 0 117 (dk_at dksX4_digest_0 5 rfl rfl)
theorem dX4_digest_8 : decode cX4_digest 8 = .ok (.lstore_n 1, 1) := dk_64 (dk_at dksX4_digest_0 8 rfl rfl)
theorem dX4_digest_9 : decode cX4_digest 9 = .ok (.iconst 0, 1) := dk_3 (dk_at dksX4_digest_0 9 rfl rfl)
theorem dX4_digest_10 : decode cX4_digest 10 = .ok (.istore_n 3, 1) := dk_62 (dk_at dksX4_digest_0 10 rfl rfl)
theorem dX4_digest_11 : decode cX4_digest 11 = .ok (.iload_n 3, 1) := dk_29 (dk_at dksX4_digest_0 11 rfl rfl)
theorem dX4_digest_12 : decode cX4_digest 12 = .ok (.bipush 11, 2) := dk_16 11 (dk_at dksX4_digest_0 12 rfl rfl)
theorem dX4_digest_14 : decode cX4_digest 14 = .ok (.if_icmp .gt 25, 3) := dk_163 0 25 (dk_at dksX4_digest_0 14 rfl rfl)
theorem dX4_digest_17 : decode cX4_digest 17 = .ok (.lload_n 1, 1) := dk_31 (dk_at dksX4_digest_0 17 rfl rfl)
theorem dX4_digest_18 : decode cX4_digest 18 = .ok (.ldc2_w 119, 3) := dk_20 0 119 (dk_at dksX4_digest_0 18 rfl rfl)
theorem dX4_digest_21 : decode cX4_digest 21 = .ok (.lmul, 1) := dk_105 (dk_at dksX4_digest_0 21 rfl rfl)
theorem dX4_digest_22 : decode cX4_digest 22 = .ok (.aload_n 0, 1) := dk_42 (dk_at dksX4_digest_0 22 rfl rfl)
theorem dX4_digest_23 : decode cX4_digest 23 = .ok (.getfield 27, 3) := dk_180 0 27 (dk_at dksX4_digest_1 0 rfl rfl)
theorem dX4_digest_26 : decode cX4_digest 26 = .ok (.iload_n 3, 1) := dk_29 (dk_at dksX4_digest_1 3 rfl rfl)
theorem dX4_digest_27 : decode cX4_digest 27 = .ok (.invokevirtual 89, 3) := dk_182 0 89 (dk_at dksX4_digest_1 4 rfl rfl)
theorem dX4_digest_30 : decode cX4_digest 30 = .ok (.i2l, 1) := dk_133 (dk_at dksX4_digest_1 7 rfl rfl)
theorem dX4_digest_31 : decode cX4_digest 31 = .ok (.ladd, 1) := dk_97 (dk_at dksX4_digest_1 8 rfl rfl)
theorem dX4_digest_32 : decode cX4_digest 32 = .ok (.lstore_n 1, 1) := dk_64 (dk_at dksX4_digest_1 9 rfl rfl)
theorem dX4_digest_33 : decode cX4_digest 33 = .ok (.iinc 3 1, 3) := dk_132 3 1 (dk_at dksX4_digest_1 10 rfl rfl)
theorem dX4_digest_36 : decode cX4_digest 36 = .ok (.goto (-25), 3) := dk_167 255 231 (dk_at dksX4_digest_1 13 rfl rfl)
theorem dX4_digest_39 : decode cX4_digest 39 = .ok (.iconst 0, 1) := dk_3 (dk_at dksX4_digest_1 16 rfl rfl)
theorem dX4_digest_40 : decode cX4_digest 40 = .ok (.istore_n 3, 1) := dk_62 (dk_at dksX4_digest_1 17 rfl rfl)
theorem dX4_digest_41 : decode cX4_digest 41 = .ok (.iload_n 3, 1) := dk_29 (dk_at dksX4_digest_1 18 rfl rfl)
theorem dX4_digest_42 : decode cX4_digest 42 = .ok (.bipush 8, 2) := dk_16 8 (dk_at dksX4_digest_1 19 rfl rfl)
theorem dX4_digest_44 : decode cX4_digest 44 = .ok (.if_icmp .ge 23, 3) := dk_162 0 23 (dk_at dksX4_digest_1 21 rfl rfl)
theorem dX4_digest_47 : decode cX4_digest 47 = .ok (.lload_n 1, 1) := dk_31 (dk_at dksX4_digest_2 0 rfl rfl)
theorem dX4_digest_48 : decode cX4_digest 48 = .ok (.ldc2_w 119, 3) := dk_20 0 119 (dk_at dksX4_digest_2 1 rfl rfl)
theorem dX4_digest_51 : decode cX4_digest 51 = .ok (.lmul, 1) := dk_105 (dk_at dksX4_digest_2 4 rfl rfl)
theorem dX4_digest_52 : decode cX4_digest 52 = .ok (.aload_n 0, 1) := dk_42 (dk_at dksX4_digest_2 5 rfl rfl)
theorem dX4_digest_53 : decode cX4_digest 53 = .ok (.getfield 19, 3) := dk_180 0 19 (dk_at dksX4_digest_2 6 rfl rfl)
theorem dX4_digest_56 : decode cX4_digest 56 = .ok (.iload_n 3, 1) := dk_29 (dk_at dksX4_digest_2 9 rfl rfl)
theorem dX4_digest_57 : decode cX4_digest 57 = .ok (.iaload, 1) := dk_46 (dk_at dksX4_digest_2 10 rfl rfl)
theorem dX4_digest_58 : decode cX4_digest 58 = .ok (.i2l, 1) := dk_133 (dk_at dksX4_digest_2 11 rfl rfl)
theorem dX4_digest_59 : decode cX4_digest 59 = .ok (.ladd, 1) := dk_97 (dk_at dksX4_digest_2 12 rfl rfl)
theorem dX4_digest_60 : decode cX4_digest 60 = .ok (.lstore_n 1, 1) := dk_64 (dk_at dksX4_digest_2 13 rfl rfl)
theorem dX4_digest_61 : decode cX4_digest 61 = .ok (.iinc 3 1, 3) := dk_132 3 1 (dk_at dksX4_digest_2 14 rfl rfl)
theorem dX4_digest_64 : decode cX4_digest 64 = .ok (.goto (-23), 3) := dk_167 255 233 (dk_at dksX4_digest_2 17 rfl rfl)
theorem dX4_digest_67 : decode cX4_digest 67 = .ok (.iconst 0, 1) := dk_3 (dk_at dksX4_digest_2 20 rfl rfl)
theorem dX4_digest_68 : decode cX4_digest 68 = .ok (.istore_n 3, 1) := dk_62 (dk_at dksX4_digest_2 21 rfl rfl)
theorem dX4_digest_69 : decode cX4_digest 69 = .ok (.iload_n 3, 1) := dk_29 (dk_at dksX4_digest_2 22 rfl rfl)
theorem dX4_digest_70 : decode cX4_digest 70 = .ok (.aload_n 0, 1) := dk_42 (dk_at dksX4_digest_2 23 rfl rfl)
theorem dX4_digest_71 : decode cX4_digest 71 = .ok (.getfield 38, 3) := dk_180 0 38 (dk_at dksX4_digest_3 0 rfl rfl)
theorem dX4_digest_74 : decode cX4_digest 74 = .ok (.if_icmp .ge 40, 3) := dk_162 0 40 (dk_at dksX4_digest_3 3 rfl rfl)
theorem dX4_digest_77 : decode cX4_digest 77 = .ok (.iconst 0, 1) := dk_3 (dk_at dksX4_digest_3 6 rfl rfl)
theorem dX4_digest_78 : decode cX4_digest 78 = .ok (.istore 4, 2) := dk_54 4 (dk_at dksX4_digest_3 7 rfl rfl)
theorem dX4_digest_80 : decode cX4_digest 80 = .ok (.iload 4, 2) := dk_21 4 (dk_at dksX4_digest_3 9 rfl rfl)
theorem dX4_digest_82 : decode cX4_digest 82 = .ok (.bipush 6, 2) := dk_16 6 (dk_at dksX4_digest_3 11 rfl rfl)
theorem dX4_digest_84 : decode cX4_digest 84 = .ok (.if_icmp .gt 24, 3) := dk_163 0 24 (dk_at dksX4_digest_3 13 rfl rfl)
theorem dX4_digest_87 : decode cX4_digest 87 = .ok (.lload_n 1, 1) := dk_31 (dk_at dksX4_digest_3 16 rfl rfl)
theorem dX4_digest_88 : decode cX4_digest 88 = .ok (.ldc2_w 119, 3) := dk_20 0 119 (dk_at dksX4_digest_3 17 rfl rfl)
theorem dX4_digest_91 : decode cX4_digest 91 = .ok (.lmul, 1) := dk_105 (dk_at dksX4_digest_3 20 rfl rfl)
theorem dX4_digest_92 : decode cX4_digest 92 = .ok (.aload_n 0, 1) := dk_42 (dk_at dksX4_digest_3 21 rfl rfl)
theorem dX4_digest_93 : decode cX4_digest 93 = .ok (.iload_n 3, 1) := dk_29 (dk_at dksX4_digest_3 22 rfl rfl)
theorem dX4_digest_94 : decode cX4_digest 94 = .ok (.iload 4, 2) := dk_21 4 (dk_at dksX4_digest_4 0 rfl rfl)
theorem dX4_digest_96 : decode cX4_digest 96 = .ok (.invokevirtual 86, 3) := dk_182 0 86 (dk_at dksX4_digest_4 2 rfl rfl)
theorem dX4_digest_99 : decode cX4_digest 99 = .ok (.i2l, 1) := dk_133 (dk_at dksX4_digest_4 5 rfl rfl)
theorem dX4_digest_100 : decode cX4_digest 100 = .ok (.ladd, 1) := dk_97 (dk_at dksX4_digest_4 6 rfl rfl)
theorem dX4_digest_101 : decode cX4_digest 101 = .ok (.lstore_n 1, 1) := dk_64 (dk_at dksX4_digest_4 7 rfl rfl)
theorem dX4_digest_102 : decode cX4_digest 102 = .ok (.iinc 4 1, 3) := dk_132 4 1 (dk_at dksX4_digest_4 8 rfl rfl)
theorem dX4_digest_105 : decode cX4_digest 105 = .ok (.goto (-25), 3) := dk_167 255 231 (dk_at dksX4_digest_4 11 rfl rfl)
theorem dX4_digest_108 : decode cX4_digest 108 = .ok (.iinc 3 1, 3) := dk_132 3 1 (dk_at dksX4_digest_4 14 rfl rfl)
theorem dX4_digest_111 : decode cX4_digest 111 = .ok (.goto (-42), 3) := dk_167 255 214 (dk_at dksX4_digest_4 17 rfl rfl)
theorem dX4_digest_114 : decode cX4_digest 114 = .ok (.lload_n 1, 1) := dk_31 (dk_at dksX4_digest_4 20 rfl rfl)
theorem dX4_digest_115 : decode cX4_digest 115 = .ok (.lreturn, 1) := dk_173 (dk_at dksX4_digest_4 21 rfl rfl)
theorem q21 : (Jvm.Cond.initialized "BridgeBellsModel") ∈ lw_all := lw_g (lw_at lw_m1 8 rfl) rfl
theorem q432 : (Jvm.Cond.selects "BridgeBellsModel" ({ cls := "java/lang/Object", name := "getClass", desc := "()Ljava/lang/Class;" } : Jvm.MethodName) ({ cls := "java/lang/Object", name := "getClass", desc := "()Ljava/lang/Class;" } : Jvm.MethodName)) ∈ lw_all := lw_g (lw_at lw_m2 179 rfl) rfl
theorem q659 : (Jvm.Cond.instantiable "BridgeBellsModel" (8 : Nat)) ∈ lw_all := lw_g (lw_at lw_m3 166 rfl) rfl
theorem q661 : (Jvm.Cond.instanceMethod ({ cls := "BridgeBellsModel", name := "<init>", desc := "()V" } : Jvm.MethodName)) ∈ lw_all := lw_g (lw_at lw_m3 168 rfl) rfl
theorem q662 : (Jvm.Cond.code ({ cls := "BridgeBellsModel", name := "<init>", desc := "()V" } : Jvm.MethodName) prog_12_method_1_code (1 : Nat) (Option.none : Option Jvm.ClassFile.FieldType)) ∈ lw_all := lw_g (lw_at lw_m3 169 rfl) rfl
theorem q663 : (Jvm.Cond.methodLink "BridgeBellsModel" (1 : Nat) ({ cls := "java/lang/Object", name := "<init>", desc := "()V" } : Jvm.MethodName)) ∈ lw_all := lw_g (lw_at lw_m3 170 rfl) rfl
theorem q664 : (Jvm.Cond.classLink "BridgeBellsModel" (22 : Nat) "BridgeBellsModel$State") ∈ lw_all := lw_g (lw_at lw_m3 171 rfl) rfl
theorem q666 : (Jvm.Cond.methodLinkNest "BridgeBellsModel" (24 : Nat) ({ cls := "BridgeBellsModel$State", name := "<init>", desc := "(LBridgeBellsModel;)V" } : Jvm.MethodName) "BridgeBellsModel") ∈ lw_tbl := lw_at lw_m3 173 rfl
theorem q671 : (Jvm.Cond.fieldLinkNest "BridgeBellsModel" (49 : Nat) "BridgeBellsModel$State" "minute" "I" "BridgeBellsModel") ∈ lw_tbl := lw_at lw_m3 178 rfl
theorem q673 : (Jvm.Cond.fieldLinkNest "BridgeBellsModel" (68 : Nat) "BridgeBellsModel$State" "angle" "I" "BridgeBellsModel") ∈ lw_tbl := lw_at lw_m3 180 rfl
theorem q675 : (Jvm.Cond.fieldLinkNest "BridgeBellsModel" (71 : Nat) "BridgeBellsModel$State" "poise" "I" "BridgeBellsModel") ∈ lw_tbl := lw_at lw_m3 182 rfl
theorem q677 : (Jvm.Cond.fieldLinkNest "BridgeBellsModel" (74 : Nat) "BridgeBellsModel$State" "ice" "I" "BridgeBellsModel") ∈ lw_tbl := lw_at lw_m3 184 rfl
theorem q679 : (Jvm.Cond.fieldLinkNest "BridgeBellsModel" (65 : Nat) "BridgeBellsModel$State" "code" "I" "BridgeBellsModel") ∈ lw_tbl := lw_at lw_m3 186 rfl
theorem q683 : (Jvm.Cond.fieldLinkNest "BridgeBellsModel" (59 : Nat) "BridgeBellsModel$State" "is" "[I" "BridgeBellsModel") ∈ lw_tbl := lw_at lw_m3 190 rfl
theorem q685 : (Jvm.Cond.fieldLinkNest "BridgeBellsModel" (62 : Nat) "BridgeBellsModel$State" "waited" "[I" "BridgeBellsModel") ∈ lw_tbl := lw_at lw_m3 192 rfl
theorem q687 : (Jvm.Cond.fieldLinkNest "BridgeBellsModel" (83 : Nat) "BridgeBellsModel$State" "left" "[I" "BridgeBellsModel") ∈ lw_tbl := lw_at lw_m3 194 rfl
theorem q689 : (Jvm.Cond.fieldLinkNest "BridgeBellsModel" (52 : Nat) "BridgeBellsModel$State" "when" "[I" "BridgeBellsModel") ∈ lw_tbl := lw_at lw_m3 196 rfl
theorem q716 : (Jvm.Cond.fieldLink "BridgeBellsModel" (34 : Nat) "BridgeBellsModel" "thrown" "I") ∈ lw_all := lw_g (lw_at lw_m3 223 rfl) rfl
theorem q717 : (Jvm.Cond.fieldLink "BridgeBellsModel" (38 : Nat) "BridgeBellsModel" "travellers" "I") ∈ lw_all := lw_g (lw_at lw_m3 224 rfl) rfl
theorem q719 : (Jvm.Cond.fieldLink "BridgeBellsModel" (9 : Nat) "BridgeBellsModel" "isBarge" "[I") ∈ lw_all := lw_g (lw_at lw_m3 226 rfl) rfl
theorem q721 : (Jvm.Cond.fieldLink "BridgeBellsModel" (13 : Nat) "BridgeBellsModel" "needs" "[I") ∈ lw_all := lw_g (lw_at lw_m3 228 rfl) rfl
theorem q723 : (Jvm.Cond.fieldLink "BridgeBellsModel" (16 : Nat) "BridgeBellsModel" "came" "[I") ∈ lw_all := lw_g (lw_at lw_m3 230 rfl) rfl
theorem q724 : (Jvm.Cond.fieldLink "BridgeBellsModel" (19 : Nat) "BridgeBellsModel" "cold" "[I") ∈ lw_all := lw_g (lw_at lw_m3 231 rfl) rfl
theorem q726 : (Jvm.Cond.fieldLink "BridgeBellsModel" (27 : Nat) "BridgeBellsModel" "s" "LBridgeBellsModel$State;") ∈ lw_all := lw_g (lw_at lw_m3 233 rfl) rfl
theorem q727 : (Jvm.Cond.fieldLink "BridgeBellsModel" (31 : Nat) "BridgeBellsModel" "ahead" "LBridgeBellsModel$State;") ∈ lw_all := lw_g (lw_at lw_m3 234 rfl) rfl
theorem q728 : (Jvm.Cond.lays "BridgeBellsModel" "BridgeBellsModel" "thrown" "I") ∈ lw_all := lw_g (lw_at lw_m3 235 rfl) rfl
theorem q729 : (Jvm.Cond.soleField "BridgeBellsModel" "thrown") ∈ lw_all := lw_g (lw_at lw_m3 236 rfl) rfl
theorem q730 : (Jvm.Cond.lays "BridgeBellsModel" "BridgeBellsModel" "travellers" "I") ∈ lw_all := lw_g (lw_at lw_m3 237 rfl) rfl
theorem q731 : (Jvm.Cond.soleField "BridgeBellsModel" "travellers") ∈ lw_all := lw_g (lw_at lw_m3 238 rfl) rfl
theorem q732 : (Jvm.Cond.laysFinal "BridgeBellsModel" "BridgeBellsModel" "isBarge" "[I") ∈ lw_all := lw_g (lw_at lw_m3 239 rfl) rfl
theorem q733 : (Jvm.Cond.soleField "BridgeBellsModel" "isBarge") ∈ lw_all := lw_g (lw_at lw_m4 0 rfl) rfl
theorem q734 : (Jvm.Cond.laysFinal "BridgeBellsModel" "BridgeBellsModel" "needs" "[I") ∈ lw_all := lw_g (lw_at lw_m4 1 rfl) rfl
theorem q735 : (Jvm.Cond.soleField "BridgeBellsModel" "needs") ∈ lw_all := lw_g (lw_at lw_m4 2 rfl) rfl
theorem q736 : (Jvm.Cond.laysFinal "BridgeBellsModel" "BridgeBellsModel" "came" "[I") ∈ lw_all := lw_g (lw_at lw_m4 3 rfl) rfl
theorem q737 : (Jvm.Cond.soleField "BridgeBellsModel" "came") ∈ lw_all := lw_g (lw_at lw_m4 4 rfl) rfl
theorem q738 : (Jvm.Cond.laysFinal "BridgeBellsModel" "BridgeBellsModel" "cold" "[I") ∈ lw_all := lw_g (lw_at lw_m4 5 rfl) rfl
theorem q739 : (Jvm.Cond.soleField "BridgeBellsModel" "cold") ∈ lw_all := lw_g (lw_at lw_m4 6 rfl) rfl
theorem q740 : (Jvm.Cond.laysFinal "BridgeBellsModel" "BridgeBellsModel" "s" "LBridgeBellsModel$State;") ∈ lw_all := lw_g (lw_at lw_m4 7 rfl) rfl
theorem q741 : (Jvm.Cond.soleField "BridgeBellsModel" "s") ∈ lw_all := lw_g (lw_at lw_m4 8 rfl) rfl
theorem q742 : (Jvm.Cond.laysFinal "BridgeBellsModel" "BridgeBellsModel" "ahead" "LBridgeBellsModel$State;") ∈ lw_all := lw_g (lw_at lw_m4 9 rfl) rfl
theorem q743 : (Jvm.Cond.soleField "BridgeBellsModel" "ahead") ∈ lw_all := lw_g (lw_at lw_m4 10 rfl) rfl
theorem q744 : (Jvm.Cond.superclass "BridgeBellsModel" "java/lang/Object") ∈ lw_all := lw_g (lw_at lw_m4 11 rfl) rfl
theorem q746 : (Jvm.Cond.instanceMethod ({ cls := "BridgeBellsModel", name := "thrown", desc := "()I" } : Jvm.MethodName)) ∈ lw_all := lw_g (lw_at lw_m4 13 rfl) rfl
theorem q747 : (Jvm.Cond.selects "BridgeBellsModel" ({ cls := "BridgeBellsModel", name := "thrown", desc := "()I" } : Jvm.MethodName) ({ cls := "BridgeBellsModel", name := "thrown", desc := "()I" } : Jvm.MethodName)) ∈ lw_all := lw_g (lw_at lw_m4 14 rfl) rfl
theorem q748 : (Jvm.Cond.code ({ cls := "BridgeBellsModel", name := "thrown", desc := "()I" } : Jvm.MethodName) prog_12_method_2_code (1 : Nat) (Option.some Jvm.ClassFile.FieldType.int)) ∈ lw_all := lw_g (lw_at lw_m4 15 rfl) rfl
theorem q750 : (Jvm.Cond.instanceMethod ({ cls := "BridgeBellsModel", name := "come", desc := "(ZI)I" } : Jvm.MethodName)) ∈ lw_all := lw_g (lw_at lw_m4 17 rfl) rfl
theorem q751 : (Jvm.Cond.selects "BridgeBellsModel" ({ cls := "BridgeBellsModel", name := "come", desc := "(ZI)I" } : Jvm.MethodName) ({ cls := "BridgeBellsModel", name := "come", desc := "(ZI)I" } : Jvm.MethodName)) ∈ lw_all := lw_g (lw_at lw_m4 18 rfl) rfl
theorem q752 : (Jvm.Cond.code ({ cls := "BridgeBellsModel", name := "come", desc := "(ZI)I" } : Jvm.MethodName) prog_12_method_6_code (3 : Nat) (Option.some Jvm.ClassFile.FieldType.int)) ∈ lw_all := lw_g (lw_at lw_m4 19 rfl) rfl
theorem q753 : (Jvm.Cond.methodLink "BridgeBellsModel" (41 : Nat) ({ cls := "BridgeBellsModel", name := "isIn", desc := "(III)Z" } : Jvm.MethodName)) ∈ lw_all := lw_g (lw_at lw_m4 20 rfl) rfl
theorem q754 : (Jvm.Cond.static ({ cls := "BridgeBellsModel", name := "isIn", desc := "(III)Z" } : Jvm.MethodName)) ∈ lw_all := lw_g (lw_at lw_m4 21 rfl) rfl
theorem q755 : (Jvm.Cond.code ({ cls := "BridgeBellsModel", name := "isIn", desc := "(III)Z" } : Jvm.MethodName) prog_12_method_4_code (3 : Nat) (Option.some Jvm.ClassFile.FieldType.boolean)) ∈ lw_all := lw_g (lw_at lw_m4 22 rfl) rfl
theorem q756 : (Jvm.Cond.methodLink "BridgeBellsModel" (45 : Nat) ({ cls := "BridgeBellsModel", name := "no", desc := "(I)I" } : Jvm.MethodName)) ∈ lw_all := lw_g (lw_at lw_m4 23 rfl) rfl
theorem q757 : (Jvm.Cond.privateMethod ({ cls := "BridgeBellsModel", name := "no", desc := "(I)I" } : Jvm.MethodName)) ∈ lw_tbl := lw_at lw_m4 24 rfl
theorem q758 : (Jvm.Cond.instanceMethod ({ cls := "BridgeBellsModel", name := "no", desc := "(I)I" } : Jvm.MethodName)) ∈ lw_all := lw_g (lw_at lw_m4 25 rfl) rfl
theorem q759 : (Jvm.Cond.code ({ cls := "BridgeBellsModel", name := "no", desc := "(I)I" } : Jvm.MethodName) prog_12_method_3_code (2 : Nat) (Option.some Jvm.ClassFile.FieldType.int)) ∈ lw_all := lw_g (lw_at lw_m4 26 rfl) rfl
theorem q761 : (Jvm.Cond.instanceMethod ({ cls := "BridgeBellsModel", name := "leave", desc := "(I)I" } : Jvm.MethodName)) ∈ lw_all := lw_g (lw_at lw_m4 28 rfl) rfl
theorem q762 : (Jvm.Cond.selects "BridgeBellsModel" ({ cls := "BridgeBellsModel", name := "leave", desc := "(I)I" } : Jvm.MethodName) ({ cls := "BridgeBellsModel", name := "leave", desc := "(I)I" } : Jvm.MethodName)) ∈ lw_all := lw_g (lw_at lw_m4 29 rfl) rfl
theorem q763 : (Jvm.Cond.code ({ cls := "BridgeBellsModel", name := "leave", desc := "(I)I" } : Jvm.MethodName) prog_12_method_7_code (2 : Nat) (Option.some Jvm.ClassFile.FieldType.int)) ∈ lw_all := lw_g (lw_at lw_m4 30 rfl) rfl
theorem q764 : (Jvm.Cond.methodLink "BridgeBellsModel" (55 : Nat) ({ cls := "BridgeBellsModel", name := "isTraveller", desc := "(I)Z" } : Jvm.MethodName)) ∈ lw_all := lw_g (lw_at lw_m4 31 rfl) rfl
theorem q765 : (Jvm.Cond.privateMethod ({ cls := "BridgeBellsModel", name := "isTraveller", desc := "(I)Z" } : Jvm.MethodName)) ∈ lw_tbl := lw_at lw_m4 32 rfl
theorem q766 : (Jvm.Cond.instanceMethod ({ cls := "BridgeBellsModel", name := "isTraveller", desc := "(I)Z" } : Jvm.MethodName)) ∈ lw_all := lw_g (lw_at lw_m4 33 rfl) rfl
theorem q767 : (Jvm.Cond.code ({ cls := "BridgeBellsModel", name := "isTraveller", desc := "(I)Z" } : Jvm.MethodName) prog_12_method_5_code (2 : Nat) (Option.some Jvm.ClassFile.FieldType.boolean)) ∈ lw_all := lw_g (lw_at lw_m4 34 rfl) rfl
theorem q769 : (Jvm.Cond.instanceMethod ({ cls := "BridgeBellsModel", name := "ring", desc := "(I)I" } : Jvm.MethodName)) ∈ lw_all := lw_g (lw_at lw_m4 36 rfl) rfl
theorem q770 : (Jvm.Cond.selects "BridgeBellsModel" ({ cls := "BridgeBellsModel", name := "ring", desc := "(I)I" } : Jvm.MethodName) ({ cls := "BridgeBellsModel", name := "ring", desc := "(I)I" } : Jvm.MethodName)) ∈ lw_all := lw_g (lw_at lw_m4 37 rfl) rfl
theorem q771 : (Jvm.Cond.code ({ cls := "BridgeBellsModel", name := "ring", desc := "(I)I" } : Jvm.MethodName) prog_12_method_8_code (3 : Nat) (Option.some Jvm.ClassFile.FieldType.int)) ∈ lw_all := lw_g (lw_at lw_m4 38 rfl) rfl
theorem q773 : (Jvm.Cond.instanceMethod ({ cls := "BridgeBellsModel", name := "poise", desc := "(I)I" } : Jvm.MethodName)) ∈ lw_all := lw_g (lw_at lw_m4 40 rfl) rfl
theorem q774 : (Jvm.Cond.selects "BridgeBellsModel" ({ cls := "BridgeBellsModel", name := "poise", desc := "(I)I" } : Jvm.MethodName) ({ cls := "BridgeBellsModel", name := "poise", desc := "(I)I" } : Jvm.MethodName)) ∈ lw_all := lw_g (lw_at lw_m4 41 rfl) rfl
theorem q775 : (Jvm.Cond.code ({ cls := "BridgeBellsModel", name := "poise", desc := "(I)I" } : Jvm.MethodName) prog_12_method_9_code (3 : Nat) (Option.some Jvm.ClassFile.FieldType.int)) ∈ lw_all := lw_g (lw_at lw_m4 42 rfl) rfl
theorem q777 : (Jvm.Cond.instanceMethod ({ cls := "BridgeBellsModel", name := "setCold", desc := "(II)I" } : Jvm.MethodName)) ∈ lw_all := lw_g (lw_at lw_m4 44 rfl) rfl
theorem q778 : (Jvm.Cond.selects "BridgeBellsModel" ({ cls := "BridgeBellsModel", name := "setCold", desc := "(II)I" } : Jvm.MethodName) ({ cls := "BridgeBellsModel", name := "setCold", desc := "(II)I" } : Jvm.MethodName)) ∈ lw_all := lw_g (lw_at lw_m4 45 rfl) rfl
theorem q779 : (Jvm.Cond.code ({ cls := "BridgeBellsModel", name := "setCold", desc := "(II)I" } : Jvm.MethodName) prog_12_method_10_code (4 : Nat) (Option.some Jvm.ClassFile.FieldType.int)) ∈ lw_all := lw_g (lw_at lw_m4 46 rfl) rfl
theorem q781 : (Jvm.Cond.instanceMethod ({ cls := "BridgeBellsModel", name := "crack", desc := "()I" } : Jvm.MethodName)) ∈ lw_all := lw_g (lw_at lw_m4 48 rfl) rfl
theorem q782 : (Jvm.Cond.selects "BridgeBellsModel" ({ cls := "BridgeBellsModel", name := "crack", desc := "()I" } : Jvm.MethodName) ({ cls := "BridgeBellsModel", name := "crack", desc := "()I" } : Jvm.MethodName)) ∈ lw_all := lw_g (lw_at lw_m4 49 rfl) rfl
theorem q783 : (Jvm.Cond.code ({ cls := "BridgeBellsModel", name := "crack", desc := "()I" } : Jvm.MethodName) prog_12_method_11_code (1 : Nat) (Option.some Jvm.ClassFile.FieldType.int)) ∈ lw_all := lw_g (lw_at lw_m4 50 rfl) rfl
theorem q784 : (Jvm.Cond.methodLink "BridgeBellsModel" (77 : Nat) ({ cls := "java/lang/Math", name := "max", desc := "(II)I" } : Jvm.MethodName)) ∈ lw_all := lw_g (lw_at lw_m4 51 rfl) rfl
theorem q786 : (Jvm.Cond.instanceMethod ({ cls := "BridgeBellsModel", name := "traveller", desc := "(II)I" } : Jvm.MethodName)) ∈ lw_all := lw_g (lw_at lw_m4 53 rfl) rfl
theorem q787 : (Jvm.Cond.selects "BridgeBellsModel" ({ cls := "BridgeBellsModel", name := "traveller", desc := "(II)I" } : Jvm.MethodName) ({ cls := "BridgeBellsModel", name := "traveller", desc := "(II)I" } : Jvm.MethodName)) ∈ lw_all := lw_g (lw_at lw_m4 54 rfl) rfl
theorem q788 : (Jvm.Cond.code ({ cls := "BridgeBellsModel", name := "traveller", desc := "(II)I" } : Jvm.MethodName) prog_12_method_13_code (3 : Nat) (Option.some Jvm.ClassFile.FieldType.int)) ∈ lw_all := lw_g (lw_at lw_m4 55 rfl) rfl
theorem q789 : (Jvm.Cond.methodLink "BridgeBellsModel" (86 : Nat) ({ cls := "BridgeBellsModel", name := "told", desc := "(II)I" } : Jvm.MethodName)) ∈ lw_all := lw_g (lw_at lw_m4 56 rfl) rfl
theorem q790 : (Jvm.Cond.privateMethod ({ cls := "BridgeBellsModel", name := "told", desc := "(II)I" } : Jvm.MethodName)) ∈ lw_tbl := lw_at lw_m4 57 rfl
theorem q791 : (Jvm.Cond.instanceMethod ({ cls := "BridgeBellsModel", name := "told", desc := "(II)I" } : Jvm.MethodName)) ∈ lw_all := lw_g (lw_at lw_m4 58 rfl) rfl
theorem q792 : (Jvm.Cond.code ({ cls := "BridgeBellsModel", name := "told", desc := "(II)I" } : Jvm.MethodName) prog_12_method_12_code (4 : Nat) (Option.some Jvm.ClassFile.FieldType.int)) ∈ lw_all := lw_g (lw_at lw_m4 59 rfl) rfl
theorem q794 : (Jvm.Cond.instanceMethod ({ cls := "BridgeBellsModel", name := "count", desc := "(I)I" } : Jvm.MethodName)) ∈ lw_all := lw_g (lw_at lw_m4 61 rfl) rfl
theorem q795 : (Jvm.Cond.selects "BridgeBellsModel" ({ cls := "BridgeBellsModel", name := "count", desc := "(I)I" } : Jvm.MethodName) ({ cls := "BridgeBellsModel", name := "count", desc := "(I)I" } : Jvm.MethodName)) ∈ lw_all := lw_g (lw_at lw_m4 62 rfl) rfl
theorem q796 : (Jvm.Cond.code ({ cls := "BridgeBellsModel", name := "count", desc := "(I)I" } : Jvm.MethodName) prog_12_method_14_code (2 : Nat) (Option.some Jvm.ClassFile.FieldType.int)) ∈ lw_all := lw_g (lw_at lw_m4 63 rfl) rfl
theorem q797 : (Jvm.Cond.methodLink "BridgeBellsModel" (89 : Nat) ({ cls := "BridgeBellsModel$State", name := "counted", desc := "(I)I" } : Jvm.MethodName)) ∈ lw_all := lw_g (lw_at lw_m4 64 rfl) rfl
theorem q818 : (Jvm.Cond.instanceMethod ({ cls := "BridgeBellsModel", name := "speed", desc := "(Z)I" } : Jvm.MethodName)) ∈ lw_all := lw_g (lw_at lw_m4 85 rfl) rfl
theorem q819 : (Jvm.Cond.selects "BridgeBellsModel" ({ cls := "BridgeBellsModel", name := "speed", desc := "(Z)I" } : Jvm.MethodName) ({ cls := "BridgeBellsModel", name := "speed", desc := "(Z)I" } : Jvm.MethodName)) ∈ lw_all := lw_g (lw_at lw_m4 86 rfl) rfl
theorem q820 : (Jvm.Cond.code ({ cls := "BridgeBellsModel", name := "speed", desc := "(Z)I" } : Jvm.MethodName) prog_12_method_15_code (2 : Nat) (Option.some Jvm.ClassFile.FieldType.int)) ∈ lw_all := lw_g (lw_at lw_m4 87 rfl) rfl
theorem q821 : (Jvm.Cond.methodLink "BridgeBellsModel" (92 : Nat) ({ cls := "BridgeBellsModel$State", name := "speed", desc := "(Z)I" } : Jvm.MethodName)) ∈ lw_all := lw_g (lw_at lw_m4 88 rfl) rfl
theorem q827 : (Jvm.Cond.instanceMethod ({ cls := "BridgeBellsModel", name := "pass", desc := "(I)I" } : Jvm.MethodName)) ∈ lw_all := lw_g (lw_at lw_m4 94 rfl) rfl
theorem q828 : (Jvm.Cond.selects "BridgeBellsModel" ({ cls := "BridgeBellsModel", name := "pass", desc := "(I)I" } : Jvm.MethodName) ({ cls := "BridgeBellsModel", name := "pass", desc := "(I)I" } : Jvm.MethodName)) ∈ lw_all := lw_g (lw_at lw_m4 95 rfl) rfl
theorem q829 : (Jvm.Cond.code ({ cls := "BridgeBellsModel", name := "pass", desc := "(I)I" } : Jvm.MethodName) prog_12_method_16_code (3 : Nat) (Option.some Jvm.ClassFile.FieldType.int)) ∈ lw_all := lw_g (lw_at lw_m4 96 rfl) rfl
theorem q830 : (Jvm.Cond.methodLink "BridgeBellsModel" (96 : Nat) ({ cls := "BridgeBellsModel$State", name := "are", desc := "(II)I" } : Jvm.MethodName)) ∈ lw_all := lw_g (lw_at lw_m4 97 rfl) rfl
theorem q831 : (Jvm.Cond.methodLink "BridgeBellsModel" (99 : Nat) ({ cls := "BridgeBellsModel$State", name := "pass", desc := "(I)V" } : Jvm.MethodName)) ∈ lw_all := lw_g (lw_at lw_m4 98 rfl) rfl
theorem q846 : (Jvm.Cond.instanceMethod ({ cls := "BridgeBellsModel", name := "when", desc := "(I)I" } : Jvm.MethodName)) ∈ lw_all := lw_g (lw_at lw_m4 113 rfl) rfl
theorem q847 : (Jvm.Cond.selects "BridgeBellsModel" ({ cls := "BridgeBellsModel", name := "when", desc := "(I)I" } : Jvm.MethodName) ({ cls := "BridgeBellsModel", name := "when", desc := "(I)I" } : Jvm.MethodName)) ∈ lw_all := lw_g (lw_at lw_m4 114 rfl) rfl
theorem q848 : (Jvm.Cond.code ({ cls := "BridgeBellsModel", name := "when", desc := "(I)I" } : Jvm.MethodName) prog_12_method_17_code (3 : Nat) (Option.some Jvm.ClassFile.FieldType.int)) ∈ lw_all := lw_g (lw_at lw_m4 115 rfl) rfl
theorem q849 : (Jvm.Cond.methodLink "BridgeBellsModel" (103 : Nat) ({ cls := "BridgeBellsModel$State", name := "become", desc := "(LBridgeBellsModel$State;)V" } : Jvm.MethodName)) ∈ lw_all := lw_g (lw_at lw_m4 116 rfl) rfl
theorem q858 : (Jvm.Cond.methodLink "BridgeBellsModel" (107 : Nat) ({ cls := "BridgeBellsModel$State", name := "pass", desc := "()V" } : Jvm.MethodName)) ∈ lw_all := lw_g (lw_at lw_m4 125 rfl) rfl
theorem q860 : (Jvm.Cond.instanceMethod ({ cls := "BridgeBellsModel", name := "foresee", desc := "(II)I" } : Jvm.MethodName)) ∈ lw_all := lw_g (lw_at lw_m4 127 rfl) rfl
theorem q861 : (Jvm.Cond.selects "BridgeBellsModel" ({ cls := "BridgeBellsModel", name := "foresee", desc := "(II)I" } : Jvm.MethodName) ({ cls := "BridgeBellsModel", name := "foresee", desc := "(II)I" } : Jvm.MethodName)) ∈ lw_all := lw_g (lw_at lw_m4 128 rfl) rfl
theorem q862 : (Jvm.Cond.code ({ cls := "BridgeBellsModel", name := "foresee", desc := "(II)I" } : Jvm.MethodName) prog_12_method_18_code (3 : Nat) (Option.some Jvm.ClassFile.FieldType.int)) ∈ lw_all := lw_g (lw_at lw_m4 129 rfl) rfl
theorem q863 : (Jvm.Cond.methodLink "BridgeBellsModel" (109 : Nat) ({ cls := "BridgeBellsModel$State", name := "sumWaited", desc := "()I" } : Jvm.MethodName)) ∈ lw_all := lw_g (lw_at lw_m4 130 rfl) rfl
theorem q865 : (Jvm.Cond.instanceMethod ({ cls := "BridgeBellsModel", name := "bestCode", desc := "(I)I" } : Jvm.MethodName)) ∈ lw_all := lw_g (lw_at lw_m4 132 rfl) rfl
theorem q866 : (Jvm.Cond.selects "BridgeBellsModel" ({ cls := "BridgeBellsModel", name := "bestCode", desc := "(I)I" } : Jvm.MethodName) ({ cls := "BridgeBellsModel", name := "bestCode", desc := "(I)I" } : Jvm.MethodName)) ∈ lw_all := lw_g (lw_at lw_m4 133 rfl) rfl
theorem q867 : (Jvm.Cond.code ({ cls := "BridgeBellsModel", name := "bestCode", desc := "(I)I" } : Jvm.MethodName) prog_12_method_20_code (2 : Nat) (Option.some Jvm.ClassFile.FieldType.int)) ∈ lw_all := lw_g (lw_at lw_m4 134 rfl) rfl
theorem q868 : (Jvm.Cond.methodLink "BridgeBellsModel" (113 : Nat) ({ cls := "BridgeBellsModel", name := "best", desc := "(IZI)I" } : Jvm.MethodName)) ∈ lw_all := lw_g (lw_at lw_m4 135 rfl) rfl
theorem q869 : (Jvm.Cond.privateMethod ({ cls := "BridgeBellsModel", name := "best", desc := "(IZI)I" } : Jvm.MethodName)) ∈ lw_tbl := lw_at lw_m4 136 rfl
theorem q870 : (Jvm.Cond.instanceMethod ({ cls := "BridgeBellsModel", name := "best", desc := "(IZI)I" } : Jvm.MethodName)) ∈ lw_all := lw_g (lw_at lw_m4 137 rfl) rfl
theorem q871 : (Jvm.Cond.code ({ cls := "BridgeBellsModel", name := "best", desc := "(IZI)I" } : Jvm.MethodName) prog_12_method_19_code (8 : Nat) (Option.some Jvm.ClassFile.FieldType.int)) ∈ lw_all := lw_g (lw_at lw_m4 138 rfl) rfl
theorem q873 : (Jvm.Cond.instanceMethod ({ cls := "BridgeBellsModel", name := "bestPoise", desc := "(I)I" } : Jvm.MethodName)) ∈ lw_all := lw_g (lw_at lw_m4 140 rfl) rfl
theorem q874 : (Jvm.Cond.selects "BridgeBellsModel" ({ cls := "BridgeBellsModel", name := "bestPoise", desc := "(I)I" } : Jvm.MethodName) ({ cls := "BridgeBellsModel", name := "bestPoise", desc := "(I)I" } : Jvm.MethodName)) ∈ lw_all := lw_g (lw_at lw_m4 141 rfl) rfl
theorem q875 : (Jvm.Cond.code ({ cls := "BridgeBellsModel", name := "bestPoise", desc := "(I)I" } : Jvm.MethodName) prog_12_method_21_code (2 : Nat) (Option.some Jvm.ClassFile.FieldType.int)) ∈ lw_all := lw_g (lw_at lw_m4 142 rfl) rfl
theorem q877 : (Jvm.Cond.instanceMethod ({ cls := "BridgeBellsModel", name := "mean", desc := "()D" } : Jvm.MethodName)) ∈ lw_all := lw_g (lw_at lw_m4 144 rfl) rfl
theorem q878 : (Jvm.Cond.selects "BridgeBellsModel" ({ cls := "BridgeBellsModel", name := "mean", desc := "()D" } : Jvm.MethodName) ({ cls := "BridgeBellsModel", name := "mean", desc := "()D" } : Jvm.MethodName)) ∈ lw_all := lw_g (lw_at lw_m4 145 rfl) rfl
theorem q879 : (Jvm.Cond.code ({ cls := "BridgeBellsModel", name := "mean", desc := "()D" } : Jvm.MethodName) prog_12_method_22_code (1 : Nat) (Option.some Jvm.ClassFile.FieldType.double)) ∈ lw_all := lw_g (lw_at lw_m4 146 rfl) rfl
theorem q881 : (Jvm.Cond.instanceMethod ({ cls := "BridgeBellsModel", name := "digest", desc := "()J" } : Jvm.MethodName)) ∈ lw_all := lw_g (lw_at lw_m4 148 rfl) rfl
theorem q882 : (Jvm.Cond.selects "BridgeBellsModel" ({ cls := "BridgeBellsModel", name := "digest", desc := "()J" } : Jvm.MethodName) ({ cls := "BridgeBellsModel", name := "digest", desc := "()J" } : Jvm.MethodName)) ∈ lw_all := lw_g (lw_at lw_m4 149 rfl) rfl
theorem q883 : (Jvm.Cond.code ({ cls := "BridgeBellsModel", name := "digest", desc := "()J" } : Jvm.MethodName) prog_12_method_23_code (5 : Nat) (Option.some Jvm.ClassFile.FieldType.long)) ∈ lw_all := lw_g (lw_at lw_m4 150 rfl) rfl
theorem q884 : (Jvm.Cond.constantLong "BridgeBellsModel" (117 : Nat) (1021 : Int64)) ∈ lw_all := lw_g (lw_at lw_m4 151 rfl) rfl
theorem q885 : (Jvm.Cond.constantLong "BridgeBellsModel" (119 : Nat) (31 : Int64)) ∈ lw_all := lw_g (lw_at lw_m4 152 rfl) rfl
theorem q895 : (Jvm.Cond.castable "BridgeBellsModel" "java/lang/Object") ∈ lw_tbl := lw_at lw_m4 162 rfl
theorem in_X4 : ∀ w ∈ wsX40, w ∈ lw_all := lw_in wsX40 [728, 730, 732, 734, 736, 738, 740, 742] (by decide +kernel) (by decide +kernel)
/-! BridgeBellsModel$State -/
set_option maxRecDepth 100000
def RX5 : String := "BridgeBellsModel$State"
def TX5 : u_T := fun k => match k with
  | 0 => ("BridgeBellsModel$State", "minute", "I", false)
  | 1 => ("BridgeBellsModel$State", "angle", "I", false)
  | 2 => ("BridgeBellsModel$State", "poise", "I", false)
  | 3 => ("BridgeBellsModel$State", "ice", "I", false)
  | 4 => ("BridgeBellsModel$State", "code", "I", false)
  | 5 => ("BridgeBellsModel$State", "passer", "I", false)
  | 6 => ("BridgeBellsModel$State", "latest", "I", false)
  | 7 => ("BridgeBellsModel$State", "is", "[I", true)
  | 8 => ("BridgeBellsModel$State", "waited", "[I", true)
  | 9 => ("BridgeBellsModel$State", "left", "[I", true)
  | 10 => ("BridgeBellsModel$State", "when", "[I", true)
  | _ => ("BridgeBellsModel$State", "this$0", "LBridgeBellsModel;", true)
def tyX5 : Nat → FieldType := fun k => match k with
  | 0 => .int
  | 1 => .int
  | 2 => .int
  | 3 => .int
  | 4 => .int
  | 5 => .int
  | 6 => .int
  | 7 => .array .int
  | 8 => .array .int
  | 9 => .array .int
  | 10 => .array .int
  | _ => .object "BridgeBellsModel"
abbrev wsX50 : List Cond := u_ws RX5 TX5 12
theorem nmX5 : ∀ a, a < 12 → ∀ b, b < 12 → a ≠ b → (TX5 a).2.1 ≠ (TX5 b).2.1 := by decide +kernel
theorem tyX5_ok : ∀ k, k < 12 → parseFieldDescriptor (TX5 k).2.2.1 = some (tyX5 k) := by decide +kernel
abbrev cX5_init : ByteArray := prog_13_method_1_code
def yX5_init : MethodName := ⟨RX5, "<init>", "(LBridgeBellsModel;)V"⟩
def dkwX5_init_2 : List UInt8 := [188, 10, 181, 0, 32, 177]
abbrev dktX5_init_2 : List UInt8 := dkwX5_init_2 ++ []
def dkwX5_init_1 : List UInt8 := [188, 10, 181, 0, 22, 42, 16, 40, 188, 10, 181, 0, 26, 42, 16, 40, 188, 10, 181, 0, 29, 42, 16, 40]
abbrev dktX5_init_1 : List UInt8 := dkwX5_init_1 ++ dktX5_init_2
def dkwX5_init_0 : List UInt8 := [42, 43, 181, 0, 3, 42, 183, 0, 9, 42, 16, 15, 181, 0, 15, 42, 2, 181, 0, 19, 42, 16, 40]
abbrev dktX5_init_0 : List UInt8 := dkwX5_init_0 ++ dktX5_init_1
theorem dksX5_init_0 : cX5_init.data.toList.drop 0 = dktX5_init_0 := by decide +kernel
theorem dksX5_init_1 : cX5_init.data.toList.drop 23 = dktX5_init_1 := dk_seg dksX5_init_0 23 rfl rfl
theorem dksX5_init_2 : cX5_init.data.toList.drop 47 = dktX5_init_2 := dk_seg dksX5_init_1 24 rfl rfl
theorem dX5_init_0 : decode cX5_init 0 = .ok (.aload_n 0, 1) := dk_42 (dk_at dksX5_init_0 0 rfl rfl)
theorem dX5_init_1 : decode cX5_init 1 = .ok (.aload_n 1, 1) := dk_43 (dk_at dksX5_init_0 1 rfl rfl)
theorem dX5_init_2 : decode cX5_init 2 = .ok (.putfield 3, 3) := dk_181 0 3 (dk_at dksX5_init_0 2 rfl rfl)
theorem dX5_init_5 : decode cX5_init 5 = .ok (.aload_n 0, 1) := dk_42 (dk_at dksX5_init_0 5 rfl rfl)
theorem dX5_init_6 : decode cX5_init 6 = .ok (.invokespecial 9, 3) := dk_183 0 9 (dk_at dksX5_init_0 6 rfl rfl)
theorem dX5_init_9 : decode cX5_init 9 = .ok (.aload_n 0, 1) := dk_42 (dk_at dksX5_init_0 9 rfl rfl)
theorem dX5_init_10 : decode cX5_init 10 = .ok (.bipush 15, 2) := dk_16 15 (dk_at dksX5_init_0 10 rfl rfl)
theorem dX5_init_12 : decode cX5_init 12 = .ok (.putfield 15, 3) := dk_181 0 15 (dk_at dksX5_init_0 12 rfl rfl)
theorem dX5_init_15 : decode cX5_init 15 = .ok (.aload_n 0, 1) := dk_42 (dk_at dksX5_init_0 15 rfl rfl)
theorem dX5_init_16 : decode cX5_init 16 = .ok (.iconst (-1), 1) := dk_2 (dk_at dksX5_init_0 16 rfl rfl)
theorem dX5_init_17 : decode cX5_init 17 = .ok (.putfield 19, 3) := dk_181 0 19 (dk_at dksX5_init_0 17 rfl rfl)
theorem dX5_init_20 : decode cX5_init 20 = .ok (.aload_n 0, 1) := dk_42 (dk_at dksX5_init_0 20 rfl rfl)
theorem dX5_init_21 : decode cX5_init 21 = .ok (.bipush 40, 2) := dk_16 40 (dk_at dksX5_init_0 21 rfl rfl)
theorem dX5_init_23 : decode cX5_init 23 = .ok (.newarray .int, 2) := dk_188_10 (dk_at dksX5_init_1 0 rfl rfl)
theorem dX5_init_25 : decode cX5_init 25 = .ok (.putfield 22, 3) := dk_181 0 22 (dk_at dksX5_init_1 2 rfl rfl)
theorem dX5_init_28 : decode cX5_init 28 = .ok (.aload_n 0, 1) := dk_42 (dk_at dksX5_init_1 5 rfl rfl)
theorem dX5_init_29 : decode cX5_init 29 = .ok (.bipush 40, 2) := dk_16 40 (dk_at dksX5_init_1 6 rfl rfl)
theorem dX5_init_31 : decode cX5_init 31 = .ok (.newarray .int, 2) := dk_188_10 (dk_at dksX5_init_1 8 rfl rfl)
theorem dX5_init_33 : decode cX5_init 33 = .ok (.putfield 26, 3) := dk_181 0 26 (dk_at dksX5_init_1 10 rfl rfl)
theorem dX5_init_36 : decode cX5_init 36 = .ok (.aload_n 0, 1) := dk_42 (dk_at dksX5_init_1 13 rfl rfl)
theorem dX5_init_37 : decode cX5_init 37 = .ok (.bipush 40, 2) := dk_16 40 (dk_at dksX5_init_1 14 rfl rfl)
theorem dX5_init_39 : decode cX5_init 39 = .ok (.newarray .int, 2) := dk_188_10 (dk_at dksX5_init_1 16 rfl rfl)
theorem dX5_init_41 : decode cX5_init 41 = .ok (.putfield 29, 3) := dk_181 0 29 (dk_at dksX5_init_1 18 rfl rfl)
theorem dX5_init_44 : decode cX5_init 44 = .ok (.aload_n 0, 1) := dk_42 (dk_at dksX5_init_1 21 rfl rfl)
theorem dX5_init_45 : decode cX5_init 45 = .ok (.bipush 40, 2) := dk_16 40 (dk_at dksX5_init_1 22 rfl rfl)
theorem dX5_init_47 : decode cX5_init 47 = .ok (.newarray .int, 2) := dk_188_10 (dk_at dksX5_init_2 0 rfl rfl)
theorem dX5_init_49 : decode cX5_init 49 = .ok (.putfield 32, 3) := dk_181 0 32 (dk_at dksX5_init_2 2 rfl rfl)
theorem dX5_init_52 : decode cX5_init 52 = .ok (.return_, 1) := dk_177 (dk_at dksX5_init_2 5 rfl rfl)
abbrev cX5_counted : ByteArray := prog_13_method_12_code
def yX5_counted : MethodName := ⟨RX5, "counted", "(I)I"⟩
def dkwX5_counted_4 : List UInt8 := [5, 5, 182, 0, 100, 172, 42, 182, 0, 103, 172, 42, 180, 0, 19, 172, 42, 182, 0, 86, 172]
abbrev dktX5_counted_4 : List UInt8 := dkwX5_counted_4 ++ []
def dkwX5_counted_3 : List UInt8 := [172, 42, 180, 0, 3, 180, 0, 66, 172, 42, 3, 4, 182, 0, 100, 172, 42, 3, 3, 182, 0, 100, 172, 42]
abbrev dktX5_counted_3 : List UInt8 := dkwX5_counted_3 ++ dktX5_counted_4
def dkwX5_counted_2 : List UInt8 := [42, 180, 0, 41, 172, 42, 180, 0, 44, 172, 42, 180, 0, 15, 172, 42, 180, 0, 47, 172, 42, 180, 0, 50]
abbrev dktX5_counted_2 : List UInt8 := dkwX5_counted_2 ++ dktX5_counted_3
def dkwX5_counted_1 : List UInt8 := [170, 0, 0, 0, 0, 0, 123, 0, 0, 0, 0, 0, 0, 0, 10, 0, 0, 0, 59, 0, 0, 0, 64, 0, 0, 0, 69, 0, 0, 0, 74, 0, 0, 0, 79, 0, 0, 0, 84, 0, 0, 0, 92, 0, 0, 0, 99, 0, 0, 0, 106, 0, 0, 0, 113, 0, 0, 0, 118]
abbrev dktX5_counted_1 : List UInt8 := dkwX5_counted_1 ++ dktX5_counted_2
def dkwX5_counted_0 : List UInt8 := [27]
abbrev dktX5_counted_0 : List UInt8 := dkwX5_counted_0 ++ dktX5_counted_1
theorem dksX5_counted_0 : cX5_counted.data.toList.drop 0 = dktX5_counted_0 := by decide +kernel
theorem dksX5_counted_1 : cX5_counted.data.toList.drop 1 = dktX5_counted_1 := dk_seg dksX5_counted_0 1 rfl rfl
theorem dksX5_counted_2 : cX5_counted.data.toList.drop 60 = dktX5_counted_2 := dk_seg dksX5_counted_1 59 rfl rfl
theorem dksX5_counted_3 : cX5_counted.data.toList.drop 84 = dktX5_counted_3 := dk_seg dksX5_counted_2 24 rfl rfl
theorem dksX5_counted_4 : cX5_counted.data.toList.drop 108 = dktX5_counted_4 := dk_seg dksX5_counted_3 24 rfl rfl
theorem dX5_counted_0 : decode cX5_counted 0 = .ok (.iload_n 1, 1) := dk_27 (dk_at dksX5_counted_0 0 rfl rfl)
theorem dX5_counted_1 : decode cX5_counted 1 = .ok (.tableswitch 123 0 10 #[59, 64, 69, 74, 79, 84, 92, 99, 106, 113, 118], 59) := by decide +kernel
theorem dX5_counted_60 : decode cX5_counted 60 = .ok (.aload_n 0, 1) := dk_42 (dk_at dksX5_counted_2 0 rfl rfl)
theorem dX5_counted_61 : decode cX5_counted 61 = .ok (.getfield 41, 3) := dk_180 0 41 (dk_at dksX5_counted_2 1 rfl rfl)
theorem dX5_counted_64 : decode cX5_counted 64 = .ok (.ireturn, 1) := dk_172 (dk_at dksX5_counted_2 4 rfl rfl)
theorem dX5_counted_65 : decode cX5_counted 65 = .ok (.aload_n 0, 1) := dk_42 (dk_at dksX5_counted_2 5 rfl rfl)
theorem dX5_counted_66 : decode cX5_counted 66 = .ok (.getfield 44, 3) := dk_180 0 44 (dk_at dksX5_counted_2 6 rfl rfl)
theorem dX5_counted_69 : decode cX5_counted 69 = .ok (.ireturn, 1) := dk_172 (dk_at dksX5_counted_2 9 rfl rfl)
theorem dX5_counted_70 : decode cX5_counted 70 = .ok (.aload_n 0, 1) := dk_42 (dk_at dksX5_counted_2 10 rfl rfl)
theorem dX5_counted_71 : decode cX5_counted 71 = .ok (.getfield 15, 3) := dk_180 0 15 (dk_at dksX5_counted_2 11 rfl rfl)
theorem dX5_counted_74 : decode cX5_counted 74 = .ok (.ireturn, 1) := dk_172 (dk_at dksX5_counted_2 14 rfl rfl)
theorem dX5_counted_75 : decode cX5_counted 75 = .ok (.aload_n 0, 1) := dk_42 (dk_at dksX5_counted_2 15 rfl rfl)
theorem dX5_counted_76 : decode cX5_counted 76 = .ok (.getfield 47, 3) := dk_180 0 47 (dk_at dksX5_counted_2 16 rfl rfl)
theorem dX5_counted_79 : decode cX5_counted 79 = .ok (.ireturn, 1) := dk_172 (dk_at dksX5_counted_2 19 rfl rfl)
theorem dX5_counted_80 : decode cX5_counted 80 = .ok (.aload_n 0, 1) := dk_42 (dk_at dksX5_counted_2 20 rfl rfl)
theorem dX5_counted_81 : decode cX5_counted 81 = .ok (.getfield 50, 3) := dk_180 0 50 (dk_at dksX5_counted_2 21 rfl rfl)
theorem dX5_counted_84 : decode cX5_counted 84 = .ok (.ireturn, 1) := dk_172 (dk_at dksX5_counted_3 0 rfl rfl)
theorem dX5_counted_85 : decode cX5_counted 85 = .ok (.aload_n 0, 1) := dk_42 (dk_at dksX5_counted_3 1 rfl rfl)
theorem dX5_counted_86 : decode cX5_counted 86 = .ok (.getfield 3, 3) := dk_180 0 3 (dk_at dksX5_counted_3 2 rfl rfl)
theorem dX5_counted_89 : decode cX5_counted 89 = .ok (.getfield 66, 3) := dk_180 0 66 (dk_at dksX5_counted_3 5 rfl rfl)
theorem dX5_counted_92 : decode cX5_counted 92 = .ok (.ireturn, 1) := dk_172 (dk_at dksX5_counted_3 8 rfl rfl)
theorem dX5_counted_93 : decode cX5_counted 93 = .ok (.aload_n 0, 1) := dk_42 (dk_at dksX5_counted_3 9 rfl rfl)
theorem dX5_counted_94 : decode cX5_counted 94 = .ok (.iconst 0, 1) := dk_3 (dk_at dksX5_counted_3 10 rfl rfl)
theorem dX5_counted_95 : decode cX5_counted 95 = .ok (.iconst 1, 1) := dk_4 (dk_at dksX5_counted_3 11 rfl rfl)
theorem dX5_counted_96 : decode cX5_counted 96 = .ok (.invokevirtual 100, 3) := dk_182 0 100 (dk_at dksX5_counted_3 12 rfl rfl)
theorem dX5_counted_99 : decode cX5_counted 99 = .ok (.ireturn, 1) := dk_172 (dk_at dksX5_counted_3 15 rfl rfl)
theorem dX5_counted_100 : decode cX5_counted 100 = .ok (.aload_n 0, 1) := dk_42 (dk_at dksX5_counted_3 16 rfl rfl)
theorem dX5_counted_101 : decode cX5_counted 101 = .ok (.iconst 0, 1) := dk_3 (dk_at dksX5_counted_3 17 rfl rfl)
theorem dX5_counted_102 : decode cX5_counted 102 = .ok (.iconst 0, 1) := dk_3 (dk_at dksX5_counted_3 18 rfl rfl)
theorem dX5_counted_103 : decode cX5_counted 103 = .ok (.invokevirtual 100, 3) := dk_182 0 100 (dk_at dksX5_counted_3 19 rfl rfl)
theorem dX5_counted_106 : decode cX5_counted 106 = .ok (.ireturn, 1) := dk_172 (dk_at dksX5_counted_3 22 rfl rfl)
theorem dX5_counted_107 : decode cX5_counted 107 = .ok (.aload_n 0, 1) := dk_42 (dk_at dksX5_counted_3 23 rfl rfl)
theorem dX5_counted_108 : decode cX5_counted 108 = .ok (.iconst 2, 1) := dk_5 (dk_at dksX5_counted_4 0 rfl rfl)
theorem dX5_counted_109 : decode cX5_counted 109 = .ok (.iconst 2, 1) := dk_5 (dk_at dksX5_counted_4 1 rfl rfl)
theorem dX5_counted_110 : decode cX5_counted 110 = .ok (.invokevirtual 100, 3) := dk_182 0 100 (dk_at dksX5_counted_4 2 rfl rfl)
theorem dX5_counted_113 : decode cX5_counted 113 = .ok (.ireturn, 1) := dk_172 (dk_at dksX5_counted_4 5 rfl rfl)
theorem dX5_counted_114 : decode cX5_counted 114 = .ok (.aload_n 0, 1) := dk_42 (dk_at dksX5_counted_4 6 rfl rfl)
theorem dX5_counted_115 : decode cX5_counted 115 = .ok (.invokevirtual 103, 3) := dk_182 0 103 (dk_at dksX5_counted_4 7 rfl rfl)
theorem dX5_counted_118 : decode cX5_counted 118 = .ok (.ireturn, 1) := dk_172 (dk_at dksX5_counted_4 10 rfl rfl)
theorem dX5_counted_119 : decode cX5_counted 119 = .ok (.aload_n 0, 1) := dk_42 (dk_at dksX5_counted_4 11 rfl rfl)
theorem dX5_counted_120 : decode cX5_counted 120 = .ok (.getfield 19, 3) := dk_180 0 19 (dk_at dksX5_counted_4 12 rfl rfl)
theorem dX5_counted_123 : decode cX5_counted 123 = .ok (.ireturn, 1) := dk_172 (dk_at dksX5_counted_4 15 rfl rfl)
theorem dX5_counted_124 : decode cX5_counted 124 = .ok (.aload_n 0, 1) := dk_42 (dk_at dksX5_counted_4 16 rfl rfl)
theorem dX5_counted_125 : decode cX5_counted 125 = .ok (.invokevirtual 86, 3) := dk_182 0 86 (dk_at dksX5_counted_4 17 rfl rfl)
theorem dX5_counted_128 : decode cX5_counted 128 = .ok (.ireturn, 1) := dk_172 (dk_at dksX5_counted_4 20 rfl rfl)
abbrev cX5_are : ByteArray := prog_13_method_10_code
def yX5_are : MethodName := ⟨RX5, "are", "(II)I"⟩
def dkwX5_are_2 : List UInt8 := [4, 167, 0, 4, 3, 96, 62, 132, 4, 1, 167, 255, 203, 29, 172]
abbrev dktX5_are_2 : List UInt8 := dkwX5_are_2 ++ []
def dkwX5_are_1 : List UInt8 := [46, 27, 160, 0, 26, 28, 5, 159, 0, 17, 42, 180, 0, 3, 180, 0, 69, 21, 4, 46, 28, 160, 0, 7]
abbrev dktX5_are_1 : List UInt8 := dkwX5_are_1 ++ dktX5_are_2
def dkwX5_are_0 : List UInt8 := [3, 62, 3, 54, 4, 21, 4, 42, 180, 0, 3, 180, 0, 66, 162, 0, 47, 29, 42, 180, 0, 22, 21, 4]
abbrev dktX5_are_0 : List UInt8 := dkwX5_are_0 ++ dktX5_are_1
theorem dksX5_are_0 : cX5_are.data.toList.drop 0 = dktX5_are_0 := by decide +kernel
theorem dksX5_are_1 : cX5_are.data.toList.drop 24 = dktX5_are_1 := dk_seg dksX5_are_0 24 rfl rfl
theorem dksX5_are_2 : cX5_are.data.toList.drop 48 = dktX5_are_2 := dk_seg dksX5_are_1 24 rfl rfl
theorem dX5_are_0 : decode cX5_are 0 = .ok (.iconst 0, 1) := dk_3 (dk_at dksX5_are_0 0 rfl rfl)
theorem dX5_are_1 : decode cX5_are 1 = .ok (.istore_n 3, 1) := dk_62 (dk_at dksX5_are_0 1 rfl rfl)
theorem dX5_are_2 : decode cX5_are 2 = .ok (.iconst 0, 1) := dk_3 (dk_at dksX5_are_0 2 rfl rfl)
theorem dX5_are_3 : decode cX5_are 3 = .ok (.istore 4, 2) := dk_54 4 (dk_at dksX5_are_0 3 rfl rfl)
theorem dX5_are_5 : decode cX5_are 5 = .ok (.iload 4, 2) := dk_21 4 (dk_at dksX5_are_0 5 rfl rfl)
theorem dX5_are_7 : decode cX5_are 7 = .ok (.aload_n 0, 1) := dk_42 (dk_at dksX5_are_0 7 rfl rfl)
theorem dX5_are_8 : decode cX5_are 8 = .ok (.getfield 3, 3) := dk_180 0 3 (dk_at dksX5_are_0 8 rfl rfl)
theorem dX5_are_11 : decode cX5_are 11 = .ok (.getfield 66, 3) := dk_180 0 66 (dk_at dksX5_are_0 11 rfl rfl)
theorem dX5_are_14 : decode cX5_are 14 = .ok (.if_icmp .ge 47, 3) := dk_162 0 47 (dk_at dksX5_are_0 14 rfl rfl)
theorem dX5_are_17 : decode cX5_are 17 = .ok (.iload_n 3, 1) := dk_29 (dk_at dksX5_are_0 17 rfl rfl)
theorem dX5_are_18 : decode cX5_are 18 = .ok (.aload_n 0, 1) := dk_42 (dk_at dksX5_are_0 18 rfl rfl)
theorem dX5_are_19 : decode cX5_are 19 = .ok (.getfield 22, 3) := dk_180 0 22 (dk_at dksX5_are_0 19 rfl rfl)
theorem dX5_are_22 : decode cX5_are 22 = .ok (.iload 4, 2) := dk_21 4 (dk_at dksX5_are_0 22 rfl rfl)
theorem dX5_are_24 : decode cX5_are 24 = .ok (.iaload, 1) := dk_46 (dk_at dksX5_are_1 0 rfl rfl)
theorem dX5_are_25 : decode cX5_are 25 = .ok (.iload_n 1, 1) := dk_27 (dk_at dksX5_are_1 1 rfl rfl)
theorem dX5_are_26 : decode cX5_are 26 = .ok (.if_icmp .ne 26, 3) := dk_160 0 26 (dk_at dksX5_are_1 2 rfl rfl)
theorem dX5_are_29 : decode cX5_are 29 = .ok (.iload_n 2, 1) := dk_28 (dk_at dksX5_are_1 5 rfl rfl)
theorem dX5_are_30 : decode cX5_are 30 = .ok (.iconst 2, 1) := dk_5 (dk_at dksX5_are_1 6 rfl rfl)
theorem dX5_are_31 : decode cX5_are 31 = .ok (.if_icmp .eq 17, 3) := dk_159 0 17 (dk_at dksX5_are_1 7 rfl rfl)
theorem dX5_are_34 : decode cX5_are 34 = .ok (.aload_n 0, 1) := dk_42 (dk_at dksX5_are_1 10 rfl rfl)
theorem dX5_are_35 : decode cX5_are 35 = .ok (.getfield 3, 3) := dk_180 0 3 (dk_at dksX5_are_1 11 rfl rfl)
theorem dX5_are_38 : decode cX5_are 38 = .ok (.getfield 69, 3) := dk_180 0 69 (dk_at dksX5_are_1 14 rfl rfl)
theorem dX5_are_41 : decode cX5_are 41 = .ok (.iload 4, 2) := dk_21 4 (dk_at dksX5_are_1 17 rfl rfl)
theorem dX5_are_43 : decode cX5_are 43 = .ok (.iaload, 1) := dk_46 (dk_at dksX5_are_1 19 rfl rfl)
theorem dX5_are_44 : decode cX5_are 44 = .ok (.iload_n 2, 1) := dk_28 (dk_at dksX5_are_1 20 rfl rfl)
theorem dX5_are_45 : decode cX5_are 45 = .ok (.if_icmp .ne 7, 3) := dk_160 0 7 (dk_at dksX5_are_1 21 rfl rfl)
theorem dX5_are_48 : decode cX5_are 48 = .ok (.iconst 1, 1) := dk_4 (dk_at dksX5_are_2 0 rfl rfl)
theorem dX5_are_49 : decode cX5_are 49 = .ok (.goto 4, 3) := dk_167 0 4 (dk_at dksX5_are_2 1 rfl rfl)
theorem dX5_are_52 : decode cX5_are 52 = .ok (.iconst 0, 1) := dk_3 (dk_at dksX5_are_2 4 rfl rfl)
theorem dX5_are_53 : decode cX5_are 53 = .ok (.iadd, 1) := dk_96 (dk_at dksX5_are_2 5 rfl rfl)
theorem dX5_are_54 : decode cX5_are 54 = .ok (.istore_n 3, 1) := dk_62 (dk_at dksX5_are_2 6 rfl rfl)
theorem dX5_are_55 : decode cX5_are 55 = .ok (.iinc 4 1, 3) := dk_132 4 1 (dk_at dksX5_are_2 7 rfl rfl)
theorem dX5_are_58 : decode cX5_are 58 = .ok (.goto (-53), 3) := dk_167 255 203 (dk_at dksX5_are_2 10 rfl rfl)
theorem dX5_are_61 : decode cX5_are 61 = .ok (.iload_n 3, 1) := dk_29 (dk_at dksX5_are_2 13 rfl rfl)
theorem dX5_are_62 : decode cX5_are 62 = .ok (.ireturn, 1) := dk_172 (dk_at dksX5_are_2 14 rfl rfl)
abbrev cX5_sumWaited : ByteArray := prog_13_method_11_code
def yX5_sumWaited : MethodName := ⟨RX5, "sumWaited", "()I"⟩
def dkwX5_sumWaited_1 : List UInt8 := [132, 2, 1, 167, 255, 233, 27, 172]
abbrev dktX5_sumWaited_1 : List UInt8 := dkwX5_sumWaited_1 ++ []
def dkwX5_sumWaited_0 : List UInt8 := [3, 60, 3, 61, 28, 42, 180, 0, 3, 180, 0, 66, 162, 0, 18, 27, 42, 180, 0, 26, 28, 46, 96, 60]
abbrev dktX5_sumWaited_0 : List UInt8 := dkwX5_sumWaited_0 ++ dktX5_sumWaited_1
theorem dksX5_sumWaited_0 : cX5_sumWaited.data.toList.drop 0 = dktX5_sumWaited_0 := by decide +kernel
theorem dksX5_sumWaited_1 : cX5_sumWaited.data.toList.drop 24 = dktX5_sumWaited_1 := dk_seg dksX5_sumWaited_0 24 rfl rfl
theorem dX5_sumWaited_0 : decode cX5_sumWaited 0 = .ok (.iconst 0, 1) := dk_3 (dk_at dksX5_sumWaited_0 0 rfl rfl)
theorem dX5_sumWaited_1 : decode cX5_sumWaited 1 = .ok (.istore_n 1, 1) := dk_60 (dk_at dksX5_sumWaited_0 1 rfl rfl)
theorem dX5_sumWaited_2 : decode cX5_sumWaited 2 = .ok (.iconst 0, 1) := dk_3 (dk_at dksX5_sumWaited_0 2 rfl rfl)
theorem dX5_sumWaited_3 : decode cX5_sumWaited 3 = .ok (.istore_n 2, 1) := dk_61 (dk_at dksX5_sumWaited_0 3 rfl rfl)
theorem dX5_sumWaited_4 : decode cX5_sumWaited 4 = .ok (.iload_n 2, 1) := dk_28 (dk_at dksX5_sumWaited_0 4 rfl rfl)
theorem dX5_sumWaited_5 : decode cX5_sumWaited 5 = .ok (.aload_n 0, 1) := dk_42 (dk_at dksX5_sumWaited_0 5 rfl rfl)
theorem dX5_sumWaited_6 : decode cX5_sumWaited 6 = .ok (.getfield 3, 3) := dk_180 0 3 (dk_at dksX5_sumWaited_0 6 rfl rfl)
theorem dX5_sumWaited_9 : decode cX5_sumWaited 9 = .ok (.getfield 66, 3) := dk_180 0 66 (dk_at dksX5_sumWaited_0 9 rfl rfl)
theorem dX5_sumWaited_12 : decode cX5_sumWaited 12 = .ok (.if_icmp .ge 18, 3) := dk_162 0 18 (dk_at dksX5_sumWaited_0 12 rfl rfl)
theorem dX5_sumWaited_15 : decode cX5_sumWaited 15 = .ok (.iload_n 1, 1) := dk_27 (dk_at dksX5_sumWaited_0 15 rfl rfl)
theorem dX5_sumWaited_16 : decode cX5_sumWaited 16 = .ok (.aload_n 0, 1) := dk_42 (dk_at dksX5_sumWaited_0 16 rfl rfl)
theorem dX5_sumWaited_17 : decode cX5_sumWaited 17 = .ok (.getfield 26, 3) := dk_180 0 26 (dk_at dksX5_sumWaited_0 17 rfl rfl)
theorem dX5_sumWaited_20 : decode cX5_sumWaited 20 = .ok (.iload_n 2, 1) := dk_28 (dk_at dksX5_sumWaited_0 20 rfl rfl)
theorem dX5_sumWaited_21 : decode cX5_sumWaited 21 = .ok (.iaload, 1) := dk_46 (dk_at dksX5_sumWaited_0 21 rfl rfl)
theorem dX5_sumWaited_22 : decode cX5_sumWaited 22 = .ok (.iadd, 1) := dk_96 (dk_at dksX5_sumWaited_0 22 rfl rfl)
theorem dX5_sumWaited_23 : decode cX5_sumWaited 23 = .ok (.istore_n 1, 1) := dk_60 (dk_at dksX5_sumWaited_0 23 rfl rfl)
theorem dX5_sumWaited_24 : decode cX5_sumWaited 24 = .ok (.iinc 2 1, 3) := dk_132 2 1 (dk_at dksX5_sumWaited_1 0 rfl rfl)
theorem dX5_sumWaited_27 : decode cX5_sumWaited 27 = .ok (.goto (-23), 3) := dk_167 255 233 (dk_at dksX5_sumWaited_1 3 rfl rfl)
theorem dX5_sumWaited_30 : decode cX5_sumWaited 30 = .ok (.iload_n 1, 1) := dk_27 (dk_at dksX5_sumWaited_1 6 rfl rfl)
theorem dX5_sumWaited_31 : decode cX5_sumWaited 31 = .ok (.ireturn, 1) := dk_172 (dk_at dksX5_sumWaited_1 7 rfl rfl)
abbrev cX5_next : ByteArray := prog_13_method_6_code
def yX5_next : MethodName := ⟨RX5, "next", "()I"⟩
def dkwX5_next_3 : List UInt8 := [160, 0, 13, 42, 4, 27, 100, 182, 0, 72, 167, 0, 8, 42, 27, 182, 0, 72, 172]
abbrev dktX5_next_3 : List UInt8 := dkwX5_next_3 ++ []
def dkwX5_next_2 : List UInt8 := [160, 0, 14, 42, 180, 0, 53, 154, 0, 7, 4, 167, 0, 4, 3, 60, 42, 27, 182, 0, 72, 2]
abbrev dktX5_next_2 : List UInt8 := dkwX5_next_2 ++ dktX5_next_3
def dkwX5_next_1 : List UInt8 := [154, 0, 9, 42, 5, 182, 0, 72, 172, 42, 180, 0, 50, 4, 159, 0, 18, 42, 180, 0, 50, 6]
abbrev dktX5_next_1 : List UInt8 := dkwX5_next_1 ++ dktX5_next_2
def dkwX5_next_0 : List UInt8 := [42, 180, 0, 19, 2, 160, 0, 11, 42, 180, 0, 50, 7, 160, 0, 5, 2, 172, 42, 180, 0, 50]
abbrev dktX5_next_0 : List UInt8 := dkwX5_next_0 ++ dktX5_next_1
theorem dksX5_next_0 : cX5_next.data.toList.drop 0 = dktX5_next_0 := by decide +kernel
theorem dksX5_next_1 : cX5_next.data.toList.drop 22 = dktX5_next_1 := dk_seg dksX5_next_0 22 rfl rfl
theorem dksX5_next_2 : cX5_next.data.toList.drop 44 = dktX5_next_2 := dk_seg dksX5_next_1 22 rfl rfl
theorem dksX5_next_3 : cX5_next.data.toList.drop 66 = dktX5_next_3 := dk_seg dksX5_next_2 22 rfl rfl
theorem dX5_next_0 : decode cX5_next 0 = .ok (.aload_n 0, 1) := dk_42 (dk_at dksX5_next_0 0 rfl rfl)
theorem dX5_next_1 : decode cX5_next 1 = .ok (.getfield 19, 3) := dk_180 0 19 (dk_at dksX5_next_0 1 rfl rfl)
theorem dX5_next_4 : decode cX5_next 4 = .ok (.iconst (-1), 1) := dk_2 (dk_at dksX5_next_0 4 rfl rfl)
theorem dX5_next_5 : decode cX5_next 5 = .ok (.if_icmp .ne 11, 3) := dk_160 0 11 (dk_at dksX5_next_0 5 rfl rfl)
theorem dX5_next_8 : decode cX5_next 8 = .ok (.aload_n 0, 1) := dk_42 (dk_at dksX5_next_0 8 rfl rfl)
theorem dX5_next_9 : decode cX5_next 9 = .ok (.getfield 50, 3) := dk_180 0 50 (dk_at dksX5_next_0 9 rfl rfl)
theorem dX5_next_12 : decode cX5_next 12 = .ok (.iconst 4, 1) := dk_7 (dk_at dksX5_next_0 12 rfl rfl)
theorem dX5_next_13 : decode cX5_next 13 = .ok (.if_icmp .ne 5, 3) := dk_160 0 5 (dk_at dksX5_next_0 13 rfl rfl)
theorem dX5_next_16 : decode cX5_next 16 = .ok (.iconst (-1), 1) := dk_2 (dk_at dksX5_next_0 16 rfl rfl)
theorem dX5_next_17 : decode cX5_next 17 = .ok (.ireturn, 1) := dk_172 (dk_at dksX5_next_0 17 rfl rfl)
theorem dX5_next_18 : decode cX5_next 18 = .ok (.aload_n 0, 1) := dk_42 (dk_at dksX5_next_0 18 rfl rfl)
theorem dX5_next_19 : decode cX5_next 19 = .ok (.getfield 50, 3) := dk_180 0 50 (dk_at dksX5_next_0 19 rfl rfl)
theorem dX5_next_22 : decode cX5_next 22 = .ok (.ifCond .ne 9, 3) := dk_154 0 9 (dk_at dksX5_next_1 0 rfl rfl)
theorem dX5_next_25 : decode cX5_next 25 = .ok (.aload_n 0, 1) := dk_42 (dk_at dksX5_next_1 3 rfl rfl)
theorem dX5_next_26 : decode cX5_next 26 = .ok (.iconst 2, 1) := dk_5 (dk_at dksX5_next_1 4 rfl rfl)
theorem dX5_next_27 : decode cX5_next 27 = .ok (.invokevirtual 72, 3) := dk_182 0 72 (dk_at dksX5_next_1 5 rfl rfl)
theorem dX5_next_30 : decode cX5_next 30 = .ok (.ireturn, 1) := dk_172 (dk_at dksX5_next_1 8 rfl rfl)
theorem dX5_next_31 : decode cX5_next 31 = .ok (.aload_n 0, 1) := dk_42 (dk_at dksX5_next_1 9 rfl rfl)
theorem dX5_next_32 : decode cX5_next 32 = .ok (.getfield 50, 3) := dk_180 0 50 (dk_at dksX5_next_1 10 rfl rfl)
theorem dX5_next_35 : decode cX5_next 35 = .ok (.iconst 1, 1) := dk_4 (dk_at dksX5_next_1 13 rfl rfl)
theorem dX5_next_36 : decode cX5_next 36 = .ok (.if_icmp .eq 18, 3) := dk_159 0 18 (dk_at dksX5_next_1 14 rfl rfl)
theorem dX5_next_39 : decode cX5_next 39 = .ok (.aload_n 0, 1) := dk_42 (dk_at dksX5_next_1 17 rfl rfl)
theorem dX5_next_40 : decode cX5_next 40 = .ok (.getfield 50, 3) := dk_180 0 50 (dk_at dksX5_next_1 18 rfl rfl)
theorem dX5_next_43 : decode cX5_next 43 = .ok (.iconst 3, 1) := dk_6 (dk_at dksX5_next_1 21 rfl rfl)
theorem dX5_next_44 : decode cX5_next 44 = .ok (.if_icmp .ne 14, 3) := dk_160 0 14 (dk_at dksX5_next_2 0 rfl rfl)
theorem dX5_next_47 : decode cX5_next 47 = .ok (.aload_n 0, 1) := dk_42 (dk_at dksX5_next_2 3 rfl rfl)
theorem dX5_next_48 : decode cX5_next 48 = .ok (.getfield 53, 3) := dk_180 0 53 (dk_at dksX5_next_2 4 rfl rfl)
theorem dX5_next_51 : decode cX5_next 51 = .ok (.ifCond .ne 7, 3) := dk_154 0 7 (dk_at dksX5_next_2 7 rfl rfl)
theorem dX5_next_54 : decode cX5_next 54 = .ok (.iconst 1, 1) := dk_4 (dk_at dksX5_next_2 10 rfl rfl)
theorem dX5_next_55 : decode cX5_next 55 = .ok (.goto 4, 3) := dk_167 0 4 (dk_at dksX5_next_2 11 rfl rfl)
theorem dX5_next_58 : decode cX5_next 58 = .ok (.iconst 0, 1) := dk_3 (dk_at dksX5_next_2 14 rfl rfl)
theorem dX5_next_59 : decode cX5_next 59 = .ok (.istore_n 1, 1) := dk_60 (dk_at dksX5_next_2 15 rfl rfl)
theorem dX5_next_60 : decode cX5_next 60 = .ok (.aload_n 0, 1) := dk_42 (dk_at dksX5_next_2 16 rfl rfl)
theorem dX5_next_61 : decode cX5_next 61 = .ok (.iload_n 1, 1) := dk_27 (dk_at dksX5_next_2 17 rfl rfl)
theorem dX5_next_62 : decode cX5_next 62 = .ok (.invokevirtual 72, 3) := dk_182 0 72 (dk_at dksX5_next_2 18 rfl rfl)
theorem dX5_next_65 : decode cX5_next 65 = .ok (.iconst (-1), 1) := dk_2 (dk_at dksX5_next_2 21 rfl rfl)
theorem dX5_next_66 : decode cX5_next 66 = .ok (.if_icmp .ne 13, 3) := dk_160 0 13 (dk_at dksX5_next_3 0 rfl rfl)
theorem dX5_next_69 : decode cX5_next 69 = .ok (.aload_n 0, 1) := dk_42 (dk_at dksX5_next_3 3 rfl rfl)
theorem dX5_next_70 : decode cX5_next 70 = .ok (.iconst 1, 1) := dk_4 (dk_at dksX5_next_3 4 rfl rfl)
theorem dX5_next_71 : decode cX5_next 71 = .ok (.iload_n 1, 1) := dk_27 (dk_at dksX5_next_3 5 rfl rfl)
theorem dX5_next_72 : decode cX5_next 72 = .ok (.isub, 1) := dk_100 (dk_at dksX5_next_3 6 rfl rfl)
theorem dX5_next_73 : decode cX5_next 73 = .ok (.invokevirtual 72, 3) := dk_182 0 72 (dk_at dksX5_next_3 7 rfl rfl)
theorem dX5_next_76 : decode cX5_next 76 = .ok (.goto 8, 3) := dk_167 0 8 (dk_at dksX5_next_3 10 rfl rfl)
theorem dX5_next_79 : decode cX5_next 79 = .ok (.aload_n 0, 1) := dk_42 (dk_at dksX5_next_3 13 rfl rfl)
theorem dX5_next_80 : decode cX5_next 80 = .ok (.iload_n 1, 1) := dk_27 (dk_at dksX5_next_3 14 rfl rfl)
theorem dX5_next_81 : decode cX5_next 81 = .ok (.invokevirtual 72, 3) := dk_182 0 72 (dk_at dksX5_next_3 15 rfl rfl)
theorem dX5_next_84 : decode cX5_next 84 = .ok (.ireturn, 1) := dk_172 (dk_at dksX5_next_3 18 rfl rfl)
abbrev cX5_first : ByteArray := prog_13_method_5_code
def yX5_first : MethodName := ⟨RX5, "first", "(I)I"⟩
def dkwX5_first_2 : List UInt8 := [2, 172]
abbrev dktX5_first_2 : List UInt8 := dkwX5_first_2 ++ []
def dkwX5_first_1 : List UInt8 := [159, 0, 16, 42, 180, 0, 3, 180, 0, 69, 28, 46, 27, 160, 0, 5, 28, 172, 132, 2, 1, 167, 255, 213]
abbrev dktX5_first_1 : List UInt8 := dkwX5_first_1 ++ dktX5_first_2
def dkwX5_first_0 : List UInt8 := [3, 61, 28, 42, 180, 0, 3, 180, 0, 66, 162, 0, 38, 42, 180, 0, 22, 28, 46, 154, 0, 23, 27, 5]
abbrev dktX5_first_0 : List UInt8 := dkwX5_first_0 ++ dktX5_first_1
theorem dksX5_first_0 : cX5_first.data.toList.drop 0 = dktX5_first_0 := by decide +kernel
theorem dksX5_first_1 : cX5_first.data.toList.drop 24 = dktX5_first_1 := dk_seg dksX5_first_0 24 rfl rfl
theorem dksX5_first_2 : cX5_first.data.toList.drop 48 = dktX5_first_2 := dk_seg dksX5_first_1 24 rfl rfl
theorem dX5_first_0 : decode cX5_first 0 = .ok (.iconst 0, 1) := dk_3 (dk_at dksX5_first_0 0 rfl rfl)
theorem dX5_first_1 : decode cX5_first 1 = .ok (.istore_n 2, 1) := dk_61 (dk_at dksX5_first_0 1 rfl rfl)
theorem dX5_first_2 : decode cX5_first 2 = .ok (.iload_n 2, 1) := dk_28 (dk_at dksX5_first_0 2 rfl rfl)
theorem dX5_first_3 : decode cX5_first 3 = .ok (.aload_n 0, 1) := dk_42 (dk_at dksX5_first_0 3 rfl rfl)
theorem dX5_first_4 : decode cX5_first 4 = .ok (.getfield 3, 3) := dk_180 0 3 (dk_at dksX5_first_0 4 rfl rfl)
theorem dX5_first_7 : decode cX5_first 7 = .ok (.getfield 66, 3) := dk_180 0 66 (dk_at dksX5_first_0 7 rfl rfl)
theorem dX5_first_10 : decode cX5_first 10 = .ok (.if_icmp .ge 38, 3) := dk_162 0 38 (dk_at dksX5_first_0 10 rfl rfl)
theorem dX5_first_13 : decode cX5_first 13 = .ok (.aload_n 0, 1) := dk_42 (dk_at dksX5_first_0 13 rfl rfl)
theorem dX5_first_14 : decode cX5_first 14 = .ok (.getfield 22, 3) := dk_180 0 22 (dk_at dksX5_first_0 14 rfl rfl)
theorem dX5_first_17 : decode cX5_first 17 = .ok (.iload_n 2, 1) := dk_28 (dk_at dksX5_first_0 17 rfl rfl)
theorem dX5_first_18 : decode cX5_first 18 = .ok (.iaload, 1) := dk_46 (dk_at dksX5_first_0 18 rfl rfl)
theorem dX5_first_19 : decode cX5_first 19 = .ok (.ifCond .ne 23, 3) := dk_154 0 23 (dk_at dksX5_first_0 19 rfl rfl)
theorem dX5_first_22 : decode cX5_first 22 = .ok (.iload_n 1, 1) := dk_27 (dk_at dksX5_first_0 22 rfl rfl)
theorem dX5_first_23 : decode cX5_first 23 = .ok (.iconst 2, 1) := dk_5 (dk_at dksX5_first_0 23 rfl rfl)
theorem dX5_first_24 : decode cX5_first 24 = .ok (.if_icmp .eq 16, 3) := dk_159 0 16 (dk_at dksX5_first_1 0 rfl rfl)
theorem dX5_first_27 : decode cX5_first 27 = .ok (.aload_n 0, 1) := dk_42 (dk_at dksX5_first_1 3 rfl rfl)
theorem dX5_first_28 : decode cX5_first 28 = .ok (.getfield 3, 3) := dk_180 0 3 (dk_at dksX5_first_1 4 rfl rfl)
theorem dX5_first_31 : decode cX5_first 31 = .ok (.getfield 69, 3) := dk_180 0 69 (dk_at dksX5_first_1 7 rfl rfl)
theorem dX5_first_34 : decode cX5_first 34 = .ok (.iload_n 2, 1) := dk_28 (dk_at dksX5_first_1 10 rfl rfl)
theorem dX5_first_35 : decode cX5_first 35 = .ok (.iaload, 1) := dk_46 (dk_at dksX5_first_1 11 rfl rfl)
theorem dX5_first_36 : decode cX5_first 36 = .ok (.iload_n 1, 1) := dk_27 (dk_at dksX5_first_1 12 rfl rfl)
theorem dX5_first_37 : decode cX5_first 37 = .ok (.if_icmp .ne 5, 3) := dk_160 0 5 (dk_at dksX5_first_1 13 rfl rfl)
theorem dX5_first_40 : decode cX5_first 40 = .ok (.iload_n 2, 1) := dk_28 (dk_at dksX5_first_1 16 rfl rfl)
theorem dX5_first_41 : decode cX5_first 41 = .ok (.ireturn, 1) := dk_172 (dk_at dksX5_first_1 17 rfl rfl)
theorem dX5_first_42 : decode cX5_first 42 = .ok (.iinc 2 1, 3) := dk_132 2 1 (dk_at dksX5_first_1 18 rfl rfl)
theorem dX5_first_45 : decode cX5_first 45 = .ok (.goto (-43), 3) := dk_167 255 213 (dk_at dksX5_first_1 21 rfl rfl)
theorem dX5_first_48 : decode cX5_first 48 = .ok (.iconst (-1), 1) := dk_2 (dk_at dksX5_first_2 0 rfl rfl)
theorem dX5_first_49 : decode cX5_first 49 = .ok (.ireturn, 1) := dk_172 (dk_at dksX5_first_2 1 rfl rfl)
abbrev cX5_speed : ByteArray := prog_13_method_4_code
def yX5_speed : MethodName := ⟨RX5, "speed", "(Z)I"⟩
def dkwX5_speed_1 : List UInt8 := [108, 100, 61, 42, 180, 0, 47, 8, 162, 0, 7, 28, 167, 0, 10, 4, 28, 5, 108, 184, 0, 60, 172]
abbrev dktX5_speed_1 : List UInt8 := dkwX5_speed_1 ++ []
def dkwX5_speed_0 : List UInt8 := [27, 153, 0, 15, 4, 42, 180, 0, 15, 16, 6, 108, 96, 167, 0, 13, 16, 6, 42, 180, 0, 15, 16, 6]
abbrev dktX5_speed_0 : List UInt8 := dkwX5_speed_0 ++ dktX5_speed_1
theorem dksX5_speed_0 : cX5_speed.data.toList.drop 0 = dktX5_speed_0 := by decide +kernel
theorem dksX5_speed_1 : cX5_speed.data.toList.drop 24 = dktX5_speed_1 := dk_seg dksX5_speed_0 24 rfl rfl
theorem dX5_speed_0 : decode cX5_speed 0 = .ok (.iload_n 1, 1) := dk_27 (dk_at dksX5_speed_0 0 rfl rfl)
theorem dX5_speed_1 : decode cX5_speed 1 = .ok (.ifCond .eq 15, 3) := dk_153 0 15 (dk_at dksX5_speed_0 1 rfl rfl)
theorem dX5_speed_4 : decode cX5_speed 4 = .ok (.iconst 1, 1) := dk_4 (dk_at dksX5_speed_0 4 rfl rfl)
theorem dX5_speed_5 : decode cX5_speed 5 = .ok (.aload_n 0, 1) := dk_42 (dk_at dksX5_speed_0 5 rfl rfl)
theorem dX5_speed_6 : decode cX5_speed 6 = .ok (.getfield 15, 3) := dk_180 0 15 (dk_at dksX5_speed_0 6 rfl rfl)
theorem dX5_speed_9 : decode cX5_speed 9 = .ok (.bipush 6, 2) := dk_16 6 (dk_at dksX5_speed_0 9 rfl rfl)
theorem dX5_speed_11 : decode cX5_speed 11 = .ok (.idiv, 1) := dk_108 (dk_at dksX5_speed_0 11 rfl rfl)
theorem dX5_speed_12 : decode cX5_speed 12 = .ok (.iadd, 1) := dk_96 (dk_at dksX5_speed_0 12 rfl rfl)
theorem dX5_speed_13 : decode cX5_speed 13 = .ok (.goto 13, 3) := dk_167 0 13 (dk_at dksX5_speed_0 13 rfl rfl)
theorem dX5_speed_16 : decode cX5_speed 16 = .ok (.bipush 6, 2) := dk_16 6 (dk_at dksX5_speed_0 16 rfl rfl)
theorem dX5_speed_18 : decode cX5_speed 18 = .ok (.aload_n 0, 1) := dk_42 (dk_at dksX5_speed_0 18 rfl rfl)
theorem dX5_speed_19 : decode cX5_speed 19 = .ok (.getfield 15, 3) := dk_180 0 15 (dk_at dksX5_speed_0 19 rfl rfl)
theorem dX5_speed_22 : decode cX5_speed 22 = .ok (.bipush 6, 2) := dk_16 6 (dk_at dksX5_speed_0 22 rfl rfl)
theorem dX5_speed_24 : decode cX5_speed 24 = .ok (.idiv, 1) := dk_108 (dk_at dksX5_speed_1 0 rfl rfl)
theorem dX5_speed_25 : decode cX5_speed 25 = .ok (.isub, 1) := dk_100 (dk_at dksX5_speed_1 1 rfl rfl)
theorem dX5_speed_26 : decode cX5_speed 26 = .ok (.istore_n 2, 1) := dk_61 (dk_at dksX5_speed_1 2 rfl rfl)
theorem dX5_speed_27 : decode cX5_speed 27 = .ok (.aload_n 0, 1) := dk_42 (dk_at dksX5_speed_1 3 rfl rfl)
theorem dX5_speed_28 : decode cX5_speed 28 = .ok (.getfield 47, 3) := dk_180 0 47 (dk_at dksX5_speed_1 4 rfl rfl)
theorem dX5_speed_31 : decode cX5_speed 31 = .ok (.iconst 5, 1) := dk_8 (dk_at dksX5_speed_1 7 rfl rfl)
theorem dX5_speed_32 : decode cX5_speed 32 = .ok (.if_icmp .ge 7, 3) := dk_162 0 7 (dk_at dksX5_speed_1 8 rfl rfl)
theorem dX5_speed_35 : decode cX5_speed 35 = .ok (.iload_n 2, 1) := dk_28 (dk_at dksX5_speed_1 11 rfl rfl)
theorem dX5_speed_36 : decode cX5_speed 36 = .ok (.goto 10, 3) := dk_167 0 10 (dk_at dksX5_speed_1 12 rfl rfl)
theorem dX5_speed_39 : decode cX5_speed 39 = .ok (.iconst 1, 1) := dk_4 (dk_at dksX5_speed_1 15 rfl rfl)
theorem dX5_speed_40 : decode cX5_speed 40 = .ok (.iload_n 2, 1) := dk_28 (dk_at dksX5_speed_1 16 rfl rfl)
theorem dX5_speed_41 : decode cX5_speed 41 = .ok (.iconst 2, 1) := dk_5 (dk_at dksX5_speed_1 17 rfl rfl)
theorem dX5_speed_42 : decode cX5_speed 42 = .ok (.idiv, 1) := dk_108 (dk_at dksX5_speed_1 18 rfl rfl)
theorem dX5_speed_43 : decode cX5_speed 43 = .ok (.invokestatic 60, 3) := dk_184 0 60 (dk_at dksX5_speed_1 19 rfl rfl)
theorem dX5_speed_46 : decode cX5_speed 46 = .ok (.ireturn, 1) := dk_172 (dk_at dksX5_speed_1 22 rfl rfl)
abbrev cX5_pass : ByteArray := prog_13_method_9_code
def yX5_pass : MethodName := ⟨RX5, "pass", "(I)V"⟩
def dkwX5_pass_0 : List UInt8 := [3, 61, 28, 27, 162, 0, 13, 42, 182, 0, 97, 132, 2, 1, 167, 255, 244, 177]
abbrev dktX5_pass_0 : List UInt8 := dkwX5_pass_0 ++ []
theorem dksX5_pass_0 : cX5_pass.data.toList.drop 0 = dktX5_pass_0 := by decide +kernel
theorem dX5_pass_0 : decode cX5_pass 0 = .ok (.iconst 0, 1) := dk_3 (dk_at dksX5_pass_0 0 rfl rfl)
theorem dX5_pass_1 : decode cX5_pass 1 = .ok (.istore_n 2, 1) := dk_61 (dk_at dksX5_pass_0 1 rfl rfl)
theorem dX5_pass_2 : decode cX5_pass 2 = .ok (.iload_n 2, 1) := dk_28 (dk_at dksX5_pass_0 2 rfl rfl)
theorem dX5_pass_3 : decode cX5_pass 3 = .ok (.iload_n 1, 1) := dk_27 (dk_at dksX5_pass_0 3 rfl rfl)
theorem dX5_pass_4 : decode cX5_pass 4 = .ok (.if_icmp .ge 13, 3) := dk_162 0 13 (dk_at dksX5_pass_0 4 rfl rfl)
theorem dX5_pass_7 : decode cX5_pass 7 = .ok (.aload_n 0, 1) := dk_42 (dk_at dksX5_pass_0 7 rfl rfl)
theorem dX5_pass_8 : decode cX5_pass 8 = .ok (.invokevirtual 97, 3) := dk_182 0 97 (dk_at dksX5_pass_0 8 rfl rfl)
theorem dX5_pass_11 : decode cX5_pass 11 = .ok (.iinc 2 1, 3) := dk_132 2 1 (dk_at dksX5_pass_0 11 rfl rfl)
theorem dX5_pass_14 : decode cX5_pass 14 = .ok (.goto (-12), 3) := dk_167 255 244 (dk_at dksX5_pass_0 14 rfl rfl)
theorem dX5_pass_17 : decode cX5_pass 17 = .ok (.return_, 1) := dk_177 (dk_at dksX5_pass_0 17 rfl rfl)
abbrev cX5_pass_2 : ByteArray := prog_13_method_8_code
def yX5_pass_2 : MethodName := ⟨RX5, "pass", "()V"⟩
def dkwX5_pass_2_7 : List UInt8 := [180, 0, 41, 4, 96, 181, 0, 41, 177]
abbrev dktX5_pass_2_7 : List UInt8 := dkwX5_pass_2_7 ++ []
def dkwX5_pass_2_6 : List UInt8 := [42, 180, 0, 41, 16, 60, 108, 16, 8, 112, 46, 96, 184, 0, 83, 184, 0, 60, 181, 0, 47, 42, 89]
abbrev dktX5_pass_2_6 : List UInt8 := dkwX5_pass_2_6 ++ dktX5_pass_2_7
def dkwX5_pass_2_5 : List UInt8 := [180, 0, 41, 16, 60, 112, 154, 0, 39, 42, 3, 16, 9, 42, 180, 0, 47, 42, 180, 0, 3, 180, 0, 94]
abbrev dktX5_pass_2_5 : List UInt8 := dkwX5_pass_2_5 ++ dktX5_pass_2_6
def dkwX5_pass_2_4 : List UInt8 := [42, 180, 0, 22, 28, 46, 154, 0, 7, 4, 167, 0, 4, 3, 96, 79, 132, 2, 1, 167, 255, 219, 42]
abbrev dktX5_pass_2_4 : List UInt8 := dkwX5_pass_2_4 ++ dktX5_pass_2_5
def dkwX5_pass_2_3 : List UInt8 := [2, 181, 0, 19, 3, 61, 28, 42, 180, 0, 3, 180, 0, 66, 162, 0, 32, 42, 180, 0, 26, 28, 92, 46]
abbrev dktX5_pass_2_3 : List UInt8 := dkwX5_pass_2_3 ++ dktX5_pass_2_4
def dkwX5_pass_2_2 : List UInt8 := [42, 180, 0, 22, 42, 180, 0, 19, 5, 79, 42, 180, 0, 32, 42, 180, 0, 19, 42, 180, 0, 41, 79, 42]
abbrev dktX5_pass_2_2 : List UInt8 := dkwX5_pass_2_2 ++ dktX5_pass_2_3
def dkwX5_pass_2_1 : List UInt8 := [180, 0, 29, 42, 180, 0, 19, 92, 46, 4, 100, 79, 42, 180, 0, 29, 42, 180, 0, 19, 46, 154, 0, 31]
abbrev dktX5_pass_2_1 : List UInt8 := dkwX5_pass_2_1 ++ dktX5_pass_2_2
def dkwX5_pass_2_0 : List UInt8 := [42, 182, 0, 86, 60, 27, 2, 159, 0, 8, 42, 27, 182, 0, 90, 42, 180, 0, 19, 2, 159, 0, 56, 42]
abbrev dktX5_pass_2_0 : List UInt8 := dkwX5_pass_2_0 ++ dktX5_pass_2_1
theorem dksX5_pass_2_0 : cX5_pass_2.data.toList.drop 0 = dktX5_pass_2_0 := by decide +kernel
theorem dksX5_pass_2_1 : cX5_pass_2.data.toList.drop 24 = dktX5_pass_2_1 := dk_seg dksX5_pass_2_0 24 rfl rfl
theorem dksX5_pass_2_2 : cX5_pass_2.data.toList.drop 48 = dktX5_pass_2_2 := dk_seg dksX5_pass_2_1 24 rfl rfl
theorem dksX5_pass_2_3 : cX5_pass_2.data.toList.drop 72 = dktX5_pass_2_3 := dk_seg dksX5_pass_2_2 24 rfl rfl
theorem dksX5_pass_2_4 : cX5_pass_2.data.toList.drop 96 = dktX5_pass_2_4 := dk_seg dksX5_pass_2_3 24 rfl rfl
theorem dksX5_pass_2_5 : cX5_pass_2.data.toList.drop 119 = dktX5_pass_2_5 := dk_seg dksX5_pass_2_4 23 rfl rfl
theorem dksX5_pass_2_6 : cX5_pass_2.data.toList.drop 143 = dktX5_pass_2_6 := dk_seg dksX5_pass_2_5 24 rfl rfl
theorem dksX5_pass_2_7 : cX5_pass_2.data.toList.drop 166 = dktX5_pass_2_7 := dk_seg dksX5_pass_2_6 23 rfl rfl
theorem dX5_pass_2_0 : decode cX5_pass_2 0 = .ok (.aload_n 0, 1) := dk_42 (dk_at dksX5_pass_2_0 0 rfl rfl)
theorem dX5_pass_2_1 : decode cX5_pass_2 1 = .ok (.invokevirtual 86, 3) := dk_182 0 86 (dk_at dksX5_pass_2_0 1 rfl rfl)
theorem dX5_pass_2_4 : decode cX5_pass_2 4 = .ok (.istore_n 1, 1) := dk_60 (dk_at dksX5_pass_2_0 4 rfl rfl)
theorem dX5_pass_2_5 : decode cX5_pass_2 5 = .ok (.iload_n 1, 1) := dk_27 (dk_at dksX5_pass_2_0 5 rfl rfl)
theorem dX5_pass_2_6 : decode cX5_pass_2 6 = .ok (.iconst (-1), 1) := dk_2 (dk_at dksX5_pass_2_0 6 rfl rfl)
theorem dX5_pass_2_7 : decode cX5_pass_2 7 = .ok (.if_icmp .eq 8, 3) := dk_159 0 8 (dk_at dksX5_pass_2_0 7 rfl rfl)
theorem dX5_pass_2_10 : decode cX5_pass_2 10 = .ok (.aload_n 0, 1) := dk_42 (dk_at dksX5_pass_2_0 10 rfl rfl)
theorem dX5_pass_2_11 : decode cX5_pass_2 11 = .ok (.iload_n 1, 1) := dk_27 (dk_at dksX5_pass_2_0 11 rfl rfl)
theorem dX5_pass_2_12 : decode cX5_pass_2 12 = .ok (.invokevirtual 90, 3) := dk_182 0 90 (dk_at dksX5_pass_2_0 12 rfl rfl)
theorem dX5_pass_2_15 : decode cX5_pass_2 15 = .ok (.aload_n 0, 1) := dk_42 (dk_at dksX5_pass_2_0 15 rfl rfl)
theorem dX5_pass_2_16 : decode cX5_pass_2 16 = .ok (.getfield 19, 3) := dk_180 0 19 (dk_at dksX5_pass_2_0 16 rfl rfl)
theorem dX5_pass_2_19 : decode cX5_pass_2 19 = .ok (.iconst (-1), 1) := dk_2 (dk_at dksX5_pass_2_0 19 rfl rfl)
theorem dX5_pass_2_20 : decode cX5_pass_2 20 = .ok (.if_icmp .eq 56, 3) := dk_159 0 56 (dk_at dksX5_pass_2_0 20 rfl rfl)
theorem dX5_pass_2_23 : decode cX5_pass_2 23 = .ok (.aload_n 0, 1) := dk_42 (dk_at dksX5_pass_2_0 23 rfl rfl)
theorem dX5_pass_2_24 : decode cX5_pass_2 24 = .ok (.getfield 29, 3) := dk_180 0 29 (dk_at dksX5_pass_2_1 0 rfl rfl)
theorem dX5_pass_2_27 : decode cX5_pass_2 27 = .ok (.aload_n 0, 1) := dk_42 (dk_at dksX5_pass_2_1 3 rfl rfl)
theorem dX5_pass_2_28 : decode cX5_pass_2 28 = .ok (.getfield 19, 3) := dk_180 0 19 (dk_at dksX5_pass_2_1 4 rfl rfl)
theorem dX5_pass_2_31 : decode cX5_pass_2 31 = .ok (.dup2, 1) := dk_92 (dk_at dksX5_pass_2_1 7 rfl rfl)
theorem dX5_pass_2_32 : decode cX5_pass_2 32 = .ok (.iaload, 1) := dk_46 (dk_at dksX5_pass_2_1 8 rfl rfl)
theorem dX5_pass_2_33 : decode cX5_pass_2 33 = .ok (.iconst 1, 1) := dk_4 (dk_at dksX5_pass_2_1 9 rfl rfl)
theorem dX5_pass_2_34 : decode cX5_pass_2 34 = .ok (.isub, 1) := dk_100 (dk_at dksX5_pass_2_1 10 rfl rfl)
theorem dX5_pass_2_35 : decode cX5_pass_2 35 = .ok (.iastore, 1) := dk_79 (dk_at dksX5_pass_2_1 11 rfl rfl)
theorem dX5_pass_2_36 : decode cX5_pass_2 36 = .ok (.aload_n 0, 1) := dk_42 (dk_at dksX5_pass_2_1 12 rfl rfl)
theorem dX5_pass_2_37 : decode cX5_pass_2 37 = .ok (.getfield 29, 3) := dk_180 0 29 (dk_at dksX5_pass_2_1 13 rfl rfl)
theorem dX5_pass_2_40 : decode cX5_pass_2 40 = .ok (.aload_n 0, 1) := dk_42 (dk_at dksX5_pass_2_1 16 rfl rfl)
theorem dX5_pass_2_41 : decode cX5_pass_2 41 = .ok (.getfield 19, 3) := dk_180 0 19 (dk_at dksX5_pass_2_1 17 rfl rfl)
theorem dX5_pass_2_44 : decode cX5_pass_2 44 = .ok (.iaload, 1) := dk_46 (dk_at dksX5_pass_2_1 20 rfl rfl)
theorem dX5_pass_2_45 : decode cX5_pass_2 45 = .ok (.ifCond .ne 31, 3) := dk_154 0 31 (dk_at dksX5_pass_2_1 21 rfl rfl)
theorem dX5_pass_2_48 : decode cX5_pass_2 48 = .ok (.aload_n 0, 1) := dk_42 (dk_at dksX5_pass_2_2 0 rfl rfl)
theorem dX5_pass_2_49 : decode cX5_pass_2 49 = .ok (.getfield 22, 3) := dk_180 0 22 (dk_at dksX5_pass_2_2 1 rfl rfl)
theorem dX5_pass_2_52 : decode cX5_pass_2 52 = .ok (.aload_n 0, 1) := dk_42 (dk_at dksX5_pass_2_2 4 rfl rfl)
theorem dX5_pass_2_53 : decode cX5_pass_2 53 = .ok (.getfield 19, 3) := dk_180 0 19 (dk_at dksX5_pass_2_2 5 rfl rfl)
theorem dX5_pass_2_56 : decode cX5_pass_2 56 = .ok (.iconst 2, 1) := dk_5 (dk_at dksX5_pass_2_2 8 rfl rfl)
theorem dX5_pass_2_57 : decode cX5_pass_2 57 = .ok (.iastore, 1) := dk_79 (dk_at dksX5_pass_2_2 9 rfl rfl)
theorem dX5_pass_2_58 : decode cX5_pass_2 58 = .ok (.aload_n 0, 1) := dk_42 (dk_at dksX5_pass_2_2 10 rfl rfl)
theorem dX5_pass_2_59 : decode cX5_pass_2 59 = .ok (.getfield 32, 3) := dk_180 0 32 (dk_at dksX5_pass_2_2 11 rfl rfl)
theorem dX5_pass_2_62 : decode cX5_pass_2 62 = .ok (.aload_n 0, 1) := dk_42 (dk_at dksX5_pass_2_2 14 rfl rfl)
theorem dX5_pass_2_63 : decode cX5_pass_2 63 = .ok (.getfield 19, 3) := dk_180 0 19 (dk_at dksX5_pass_2_2 15 rfl rfl)
theorem dX5_pass_2_66 : decode cX5_pass_2 66 = .ok (.aload_n 0, 1) := dk_42 (dk_at dksX5_pass_2_2 18 rfl rfl)
theorem dX5_pass_2_67 : decode cX5_pass_2 67 = .ok (.getfield 41, 3) := dk_180 0 41 (dk_at dksX5_pass_2_2 19 rfl rfl)
theorem dX5_pass_2_70 : decode cX5_pass_2 70 = .ok (.iastore, 1) := dk_79 (dk_at dksX5_pass_2_2 22 rfl rfl)
theorem dX5_pass_2_71 : decode cX5_pass_2 71 = .ok (.aload_n 0, 1) := dk_42 (dk_at dksX5_pass_2_2 23 rfl rfl)
theorem dX5_pass_2_72 : decode cX5_pass_2 72 = .ok (.iconst (-1), 1) := dk_2 (dk_at dksX5_pass_2_3 0 rfl rfl)
theorem dX5_pass_2_73 : decode cX5_pass_2 73 = .ok (.putfield 19, 3) := dk_181 0 19 (dk_at dksX5_pass_2_3 1 rfl rfl)
theorem dX5_pass_2_76 : decode cX5_pass_2 76 = .ok (.iconst 0, 1) := dk_3 (dk_at dksX5_pass_2_3 4 rfl rfl)
theorem dX5_pass_2_77 : decode cX5_pass_2 77 = .ok (.istore_n 2, 1) := dk_61 (dk_at dksX5_pass_2_3 5 rfl rfl)
theorem dX5_pass_2_78 : decode cX5_pass_2 78 = .ok (.iload_n 2, 1) := dk_28 (dk_at dksX5_pass_2_3 6 rfl rfl)
theorem dX5_pass_2_79 : decode cX5_pass_2 79 = .ok (.aload_n 0, 1) := dk_42 (dk_at dksX5_pass_2_3 7 rfl rfl)
theorem dX5_pass_2_80 : decode cX5_pass_2 80 = .ok (.getfield 3, 3) := dk_180 0 3 (dk_at dksX5_pass_2_3 8 rfl rfl)
theorem dX5_pass_2_83 : decode cX5_pass_2 83 = .ok (.getfield 66, 3) := dk_180 0 66 (dk_at dksX5_pass_2_3 11 rfl rfl)
theorem dX5_pass_2_86 : decode cX5_pass_2 86 = .ok (.if_icmp .ge 32, 3) := dk_162 0 32 (dk_at dksX5_pass_2_3 14 rfl rfl)
theorem dX5_pass_2_89 : decode cX5_pass_2 89 = .ok (.aload_n 0, 1) := dk_42 (dk_at dksX5_pass_2_3 17 rfl rfl)
theorem dX5_pass_2_90 : decode cX5_pass_2 90 = .ok (.getfield 26, 3) := dk_180 0 26 (dk_at dksX5_pass_2_3 18 rfl rfl)
theorem dX5_pass_2_93 : decode cX5_pass_2 93 = .ok (.iload_n 2, 1) := dk_28 (dk_at dksX5_pass_2_3 21 rfl rfl)
theorem dX5_pass_2_94 : decode cX5_pass_2 94 = .ok (.dup2, 1) := dk_92 (dk_at dksX5_pass_2_3 22 rfl rfl)
theorem dX5_pass_2_95 : decode cX5_pass_2 95 = .ok (.iaload, 1) := dk_46 (dk_at dksX5_pass_2_3 23 rfl rfl)
theorem dX5_pass_2_96 : decode cX5_pass_2 96 = .ok (.aload_n 0, 1) := dk_42 (dk_at dksX5_pass_2_4 0 rfl rfl)
theorem dX5_pass_2_97 : decode cX5_pass_2 97 = .ok (.getfield 22, 3) := dk_180 0 22 (dk_at dksX5_pass_2_4 1 rfl rfl)
theorem dX5_pass_2_100 : decode cX5_pass_2 100 = .ok (.iload_n 2, 1) := dk_28 (dk_at dksX5_pass_2_4 4 rfl rfl)
theorem dX5_pass_2_101 : decode cX5_pass_2 101 = .ok (.iaload, 1) := dk_46 (dk_at dksX5_pass_2_4 5 rfl rfl)
theorem dX5_pass_2_102 : decode cX5_pass_2 102 = .ok (.ifCond .ne 7, 3) := dk_154 0 7 (dk_at dksX5_pass_2_4 6 rfl rfl)
theorem dX5_pass_2_105 : decode cX5_pass_2 105 = .ok (.iconst 1, 1) := dk_4 (dk_at dksX5_pass_2_4 9 rfl rfl)
theorem dX5_pass_2_106 : decode cX5_pass_2 106 = .ok (.goto 4, 3) := dk_167 0 4 (dk_at dksX5_pass_2_4 10 rfl rfl)
theorem dX5_pass_2_109 : decode cX5_pass_2 109 = .ok (.iconst 0, 1) := dk_3 (dk_at dksX5_pass_2_4 13 rfl rfl)
theorem dX5_pass_2_110 : decode cX5_pass_2 110 = .ok (.iadd, 1) := dk_96 (dk_at dksX5_pass_2_4 14 rfl rfl)
theorem dX5_pass_2_111 : decode cX5_pass_2 111 = .ok (.iastore, 1) := dk_79 (dk_at dksX5_pass_2_4 15 rfl rfl)
theorem dX5_pass_2_112 : decode cX5_pass_2 112 = .ok (.iinc 2 1, 3) := dk_132 2 1 (dk_at dksX5_pass_2_4 16 rfl rfl)
theorem dX5_pass_2_115 : decode cX5_pass_2 115 = .ok (.goto (-37), 3) := dk_167 255 219 (dk_at dksX5_pass_2_4 19 rfl rfl)
theorem dX5_pass_2_118 : decode cX5_pass_2 118 = .ok (.aload_n 0, 1) := dk_42 (dk_at dksX5_pass_2_4 22 rfl rfl)
theorem dX5_pass_2_119 : decode cX5_pass_2 119 = .ok (.getfield 41, 3) := dk_180 0 41 (dk_at dksX5_pass_2_5 0 rfl rfl)
theorem dX5_pass_2_122 : decode cX5_pass_2 122 = .ok (.bipush 60, 2) := dk_16 60 (dk_at dksX5_pass_2_5 3 rfl rfl)
theorem dX5_pass_2_124 : decode cX5_pass_2 124 = .ok (.irem, 1) := dk_112 (dk_at dksX5_pass_2_5 5 rfl rfl)
theorem dX5_pass_2_125 : decode cX5_pass_2 125 = .ok (.ifCond .ne 39, 3) := dk_154 0 39 (dk_at dksX5_pass_2_5 6 rfl rfl)
theorem dX5_pass_2_128 : decode cX5_pass_2 128 = .ok (.aload_n 0, 1) := dk_42 (dk_at dksX5_pass_2_5 9 rfl rfl)
theorem dX5_pass_2_129 : decode cX5_pass_2 129 = .ok (.iconst 0, 1) := dk_3 (dk_at dksX5_pass_2_5 10 rfl rfl)
theorem dX5_pass_2_130 : decode cX5_pass_2 130 = .ok (.bipush 9, 2) := dk_16 9 (dk_at dksX5_pass_2_5 11 rfl rfl)
theorem dX5_pass_2_132 : decode cX5_pass_2 132 = .ok (.aload_n 0, 1) := dk_42 (dk_at dksX5_pass_2_5 13 rfl rfl)
theorem dX5_pass_2_133 : decode cX5_pass_2 133 = .ok (.getfield 47, 3) := dk_180 0 47 (dk_at dksX5_pass_2_5 14 rfl rfl)
theorem dX5_pass_2_136 : decode cX5_pass_2 136 = .ok (.aload_n 0, 1) := dk_42 (dk_at dksX5_pass_2_5 17 rfl rfl)
theorem dX5_pass_2_137 : decode cX5_pass_2 137 = .ok (.getfield 3, 3) := dk_180 0 3 (dk_at dksX5_pass_2_5 18 rfl rfl)
theorem dX5_pass_2_140 : decode cX5_pass_2 140 = .ok (.getfield 94, 3) := dk_180 0 94 (dk_at dksX5_pass_2_5 21 rfl rfl)
theorem dX5_pass_2_143 : decode cX5_pass_2 143 = .ok (.aload_n 0, 1) := dk_42 (dk_at dksX5_pass_2_6 0 rfl rfl)
theorem dX5_pass_2_144 : decode cX5_pass_2 144 = .ok (.getfield 41, 3) := dk_180 0 41 (dk_at dksX5_pass_2_6 1 rfl rfl)
theorem dX5_pass_2_147 : decode cX5_pass_2 147 = .ok (.bipush 60, 2) := dk_16 60 (dk_at dksX5_pass_2_6 4 rfl rfl)
theorem dX5_pass_2_149 : decode cX5_pass_2 149 = .ok (.idiv, 1) := dk_108 (dk_at dksX5_pass_2_6 6 rfl rfl)
theorem dX5_pass_2_150 : decode cX5_pass_2 150 = .ok (.bipush 8, 2) := dk_16 8 (dk_at dksX5_pass_2_6 7 rfl rfl)
theorem dX5_pass_2_152 : decode cX5_pass_2 152 = .ok (.irem, 1) := dk_112 (dk_at dksX5_pass_2_6 9 rfl rfl)
theorem dX5_pass_2_153 : decode cX5_pass_2 153 = .ok (.iaload, 1) := dk_46 (dk_at dksX5_pass_2_6 10 rfl rfl)
theorem dX5_pass_2_154 : decode cX5_pass_2 154 = .ok (.iadd, 1) := dk_96 (dk_at dksX5_pass_2_6 11 rfl rfl)
theorem dX5_pass_2_155 : decode cX5_pass_2 155 = .ok (.invokestatic 83, 3) := dk_184 0 83 (dk_at dksX5_pass_2_6 12 rfl rfl)
theorem dX5_pass_2_158 : decode cX5_pass_2 158 = .ok (.invokestatic 60, 3) := dk_184 0 60 (dk_at dksX5_pass_2_6 15 rfl rfl)
theorem dX5_pass_2_161 : decode cX5_pass_2 161 = .ok (.putfield 47, 3) := dk_181 0 47 (dk_at dksX5_pass_2_6 18 rfl rfl)
theorem dX5_pass_2_164 : decode cX5_pass_2 164 = .ok (.aload_n 0, 1) := dk_42 (dk_at dksX5_pass_2_6 21 rfl rfl)
theorem dX5_pass_2_165 : decode cX5_pass_2 165 = .ok (.dup, 1) := dk_89 (dk_at dksX5_pass_2_6 22 rfl rfl)
theorem dX5_pass_2_166 : decode cX5_pass_2 166 = .ok (.getfield 41, 3) := dk_180 0 41 (dk_at dksX5_pass_2_7 0 rfl rfl)
theorem dX5_pass_2_169 : decode cX5_pass_2 169 = .ok (.iconst 1, 1) := dk_4 (dk_at dksX5_pass_2_7 3 rfl rfl)
theorem dX5_pass_2_170 : decode cX5_pass_2 170 = .ok (.iadd, 1) := dk_96 (dk_at dksX5_pass_2_7 4 rfl rfl)
theorem dX5_pass_2_171 : decode cX5_pass_2 171 = .ok (.putfield 41, 3) := dk_181 0 41 (dk_at dksX5_pass_2_7 5 rfl rfl)
theorem dX5_pass_2_174 : decode cX5_pass_2 174 = .ok (.return_, 1) := dk_177 (dk_at dksX5_pass_2_7 8 rfl rfl)
abbrev cX5_serve : ByteArray := prog_13_method_7_code
def yX5_serve : MethodName := ⟨RX5, "serve", "(I)V"⟩
def dkwX5_serve_4 : List UInt8 := [3, 182, 0, 79, 100, 184, 0, 60, 181, 0, 44, 177]
abbrev dktX5_serve_4 : List UInt8 := dkwX5_serve_4 ++ []
def dkwX5_serve_3 : List UInt8 := [16, 60, 42, 180, 0, 44, 42, 4, 182, 0, 79, 96, 184, 0, 83, 167, 0, 17, 3, 42, 180, 0, 44, 42]
abbrev dktX5_serve_3 : List UInt8 := dkwX5_serve_3 ++ dktX5_serve_4
def dkwX5_serve_2 : List UInt8 := [79, 42, 42, 180, 0, 3, 180, 0, 69, 27, 46, 181, 0, 53, 177, 42, 28, 42, 180, 0, 44, 164, 0, 21]
abbrev dktX5_serve_2 : List UInt8 := dkwX5_serve_2 ++ dktX5_serve_3
def dkwX5_serve_1 : List UInt8 := [181, 0, 19, 42, 180, 0, 22, 27, 4, 79, 42, 180, 0, 29, 27, 42, 180, 0, 3, 180, 0, 76, 27, 46]
abbrev dktX5_serve_1 : List UInt8 := dkwX5_serve_1 ++ dktX5_serve_2
def dkwX5_serve_0 : List UInt8 := [16, 60, 42, 180, 0, 3, 180, 0, 69, 27, 46, 104, 61, 42, 180, 0, 44, 28, 160, 0, 44, 42, 27]
abbrev dktX5_serve_0 : List UInt8 := dkwX5_serve_0 ++ dktX5_serve_1
theorem dksX5_serve_0 : cX5_serve.data.toList.drop 0 = dktX5_serve_0 := by decide +kernel
theorem dksX5_serve_1 : cX5_serve.data.toList.drop 23 = dktX5_serve_1 := dk_seg dksX5_serve_0 23 rfl rfl
theorem dksX5_serve_2 : cX5_serve.data.toList.drop 47 = dktX5_serve_2 := dk_seg dksX5_serve_1 24 rfl rfl
theorem dksX5_serve_3 : cX5_serve.data.toList.drop 71 = dktX5_serve_3 := dk_seg dksX5_serve_2 24 rfl rfl
theorem dksX5_serve_4 : cX5_serve.data.toList.drop 95 = dktX5_serve_4 := dk_seg dksX5_serve_3 24 rfl rfl
theorem dX5_serve_0 : decode cX5_serve 0 = .ok (.bipush 60, 2) := dk_16 60 (dk_at dksX5_serve_0 0 rfl rfl)
theorem dX5_serve_2 : decode cX5_serve 2 = .ok (.aload_n 0, 1) := dk_42 (dk_at dksX5_serve_0 2 rfl rfl)
theorem dX5_serve_3 : decode cX5_serve 3 = .ok (.getfield 3, 3) := dk_180 0 3 (dk_at dksX5_serve_0 3 rfl rfl)
theorem dX5_serve_6 : decode cX5_serve 6 = .ok (.getfield 69, 3) := dk_180 0 69 (dk_at dksX5_serve_0 6 rfl rfl)
theorem dX5_serve_9 : decode cX5_serve 9 = .ok (.iload_n 1, 1) := dk_27 (dk_at dksX5_serve_0 9 rfl rfl)
theorem dX5_serve_10 : decode cX5_serve 10 = .ok (.iaload, 1) := dk_46 (dk_at dksX5_serve_0 10 rfl rfl)
theorem dX5_serve_11 : decode cX5_serve 11 = .ok (.imul, 1) := dk_104 (dk_at dksX5_serve_0 11 rfl rfl)
theorem dX5_serve_12 : decode cX5_serve 12 = .ok (.istore_n 2, 1) := dk_61 (dk_at dksX5_serve_0 12 rfl rfl)
theorem dX5_serve_13 : decode cX5_serve 13 = .ok (.aload_n 0, 1) := dk_42 (dk_at dksX5_serve_0 13 rfl rfl)
theorem dX5_serve_14 : decode cX5_serve 14 = .ok (.getfield 44, 3) := dk_180 0 44 (dk_at dksX5_serve_0 14 rfl rfl)
theorem dX5_serve_17 : decode cX5_serve 17 = .ok (.iload_n 2, 1) := dk_28 (dk_at dksX5_serve_0 17 rfl rfl)
theorem dX5_serve_18 : decode cX5_serve 18 = .ok (.if_icmp .ne 44, 3) := dk_160 0 44 (dk_at dksX5_serve_0 18 rfl rfl)
theorem dX5_serve_21 : decode cX5_serve 21 = .ok (.aload_n 0, 1) := dk_42 (dk_at dksX5_serve_0 21 rfl rfl)
theorem dX5_serve_22 : decode cX5_serve 22 = .ok (.iload_n 1, 1) := dk_27 (dk_at dksX5_serve_0 22 rfl rfl)
theorem dX5_serve_23 : decode cX5_serve 23 = .ok (.putfield 19, 3) := dk_181 0 19 (dk_at dksX5_serve_1 0 rfl rfl)
theorem dX5_serve_26 : decode cX5_serve 26 = .ok (.aload_n 0, 1) := dk_42 (dk_at dksX5_serve_1 3 rfl rfl)
theorem dX5_serve_27 : decode cX5_serve 27 = .ok (.getfield 22, 3) := dk_180 0 22 (dk_at dksX5_serve_1 4 rfl rfl)
theorem dX5_serve_30 : decode cX5_serve 30 = .ok (.iload_n 1, 1) := dk_27 (dk_at dksX5_serve_1 7 rfl rfl)
theorem dX5_serve_31 : decode cX5_serve 31 = .ok (.iconst 1, 1) := dk_4 (dk_at dksX5_serve_1 8 rfl rfl)
theorem dX5_serve_32 : decode cX5_serve 32 = .ok (.iastore, 1) := dk_79 (dk_at dksX5_serve_1 9 rfl rfl)
theorem dX5_serve_33 : decode cX5_serve 33 = .ok (.aload_n 0, 1) := dk_42 (dk_at dksX5_serve_1 10 rfl rfl)
theorem dX5_serve_34 : decode cX5_serve 34 = .ok (.getfield 29, 3) := dk_180 0 29 (dk_at dksX5_serve_1 11 rfl rfl)
theorem dX5_serve_37 : decode cX5_serve 37 = .ok (.iload_n 1, 1) := dk_27 (dk_at dksX5_serve_1 14 rfl rfl)
theorem dX5_serve_38 : decode cX5_serve 38 = .ok (.aload_n 0, 1) := dk_42 (dk_at dksX5_serve_1 15 rfl rfl)
theorem dX5_serve_39 : decode cX5_serve 39 = .ok (.getfield 3, 3) := dk_180 0 3 (dk_at dksX5_serve_1 16 rfl rfl)
theorem dX5_serve_42 : decode cX5_serve 42 = .ok (.getfield 76, 3) := dk_180 0 76 (dk_at dksX5_serve_1 19 rfl rfl)
theorem dX5_serve_45 : decode cX5_serve 45 = .ok (.iload_n 1, 1) := dk_27 (dk_at dksX5_serve_1 22 rfl rfl)
theorem dX5_serve_46 : decode cX5_serve 46 = .ok (.iaload, 1) := dk_46 (dk_at dksX5_serve_1 23 rfl rfl)
theorem dX5_serve_47 : decode cX5_serve 47 = .ok (.iastore, 1) := dk_79 (dk_at dksX5_serve_2 0 rfl rfl)
theorem dX5_serve_48 : decode cX5_serve 48 = .ok (.aload_n 0, 1) := dk_42 (dk_at dksX5_serve_2 1 rfl rfl)
theorem dX5_serve_49 : decode cX5_serve 49 = .ok (.aload_n 0, 1) := dk_42 (dk_at dksX5_serve_2 2 rfl rfl)
theorem dX5_serve_50 : decode cX5_serve 50 = .ok (.getfield 3, 3) := dk_180 0 3 (dk_at dksX5_serve_2 3 rfl rfl)
theorem dX5_serve_53 : decode cX5_serve 53 = .ok (.getfield 69, 3) := dk_180 0 69 (dk_at dksX5_serve_2 6 rfl rfl)
theorem dX5_serve_56 : decode cX5_serve 56 = .ok (.iload_n 1, 1) := dk_27 (dk_at dksX5_serve_2 9 rfl rfl)
theorem dX5_serve_57 : decode cX5_serve 57 = .ok (.iaload, 1) := dk_46 (dk_at dksX5_serve_2 10 rfl rfl)
theorem dX5_serve_58 : decode cX5_serve 58 = .ok (.putfield 53, 3) := dk_181 0 53 (dk_at dksX5_serve_2 11 rfl rfl)
theorem dX5_serve_61 : decode cX5_serve 61 = .ok (.return_, 1) := dk_177 (dk_at dksX5_serve_2 14 rfl rfl)
theorem dX5_serve_62 : decode cX5_serve 62 = .ok (.aload_n 0, 1) := dk_42 (dk_at dksX5_serve_2 15 rfl rfl)
theorem dX5_serve_63 : decode cX5_serve 63 = .ok (.iload_n 2, 1) := dk_28 (dk_at dksX5_serve_2 16 rfl rfl)
theorem dX5_serve_64 : decode cX5_serve 64 = .ok (.aload_n 0, 1) := dk_42 (dk_at dksX5_serve_2 17 rfl rfl)
theorem dX5_serve_65 : decode cX5_serve 65 = .ok (.getfield 44, 3) := dk_180 0 44 (dk_at dksX5_serve_2 18 rfl rfl)
theorem dX5_serve_68 : decode cX5_serve 68 = .ok (.if_icmp .le 21, 3) := dk_164 0 21 (dk_at dksX5_serve_2 21 rfl rfl)
theorem dX5_serve_71 : decode cX5_serve 71 = .ok (.bipush 60, 2) := dk_16 60 (dk_at dksX5_serve_3 0 rfl rfl)
theorem dX5_serve_73 : decode cX5_serve 73 = .ok (.aload_n 0, 1) := dk_42 (dk_at dksX5_serve_3 2 rfl rfl)
theorem dX5_serve_74 : decode cX5_serve 74 = .ok (.getfield 44, 3) := dk_180 0 44 (dk_at dksX5_serve_3 3 rfl rfl)
theorem dX5_serve_77 : decode cX5_serve 77 = .ok (.aload_n 0, 1) := dk_42 (dk_at dksX5_serve_3 6 rfl rfl)
theorem dX5_serve_78 : decode cX5_serve 78 = .ok (.iconst 1, 1) := dk_4 (dk_at dksX5_serve_3 7 rfl rfl)
theorem dX5_serve_79 : decode cX5_serve 79 = .ok (.invokevirtual 79, 3) := dk_182 0 79 (dk_at dksX5_serve_3 8 rfl rfl)
theorem dX5_serve_82 : decode cX5_serve 82 = .ok (.iadd, 1) := dk_96 (dk_at dksX5_serve_3 11 rfl rfl)
theorem dX5_serve_83 : decode cX5_serve 83 = .ok (.invokestatic 83, 3) := dk_184 0 83 (dk_at dksX5_serve_3 12 rfl rfl)
theorem dX5_serve_86 : decode cX5_serve 86 = .ok (.goto 17, 3) := dk_167 0 17 (dk_at dksX5_serve_3 15 rfl rfl)
theorem dX5_serve_89 : decode cX5_serve 89 = .ok (.iconst 0, 1) := dk_3 (dk_at dksX5_serve_3 18 rfl rfl)
theorem dX5_serve_90 : decode cX5_serve 90 = .ok (.aload_n 0, 1) := dk_42 (dk_at dksX5_serve_3 19 rfl rfl)
theorem dX5_serve_91 : decode cX5_serve 91 = .ok (.getfield 44, 3) := dk_180 0 44 (dk_at dksX5_serve_3 20 rfl rfl)
theorem dX5_serve_94 : decode cX5_serve 94 = .ok (.aload_n 0, 1) := dk_42 (dk_at dksX5_serve_3 23 rfl rfl)
theorem dX5_serve_95 : decode cX5_serve 95 = .ok (.iconst 0, 1) := dk_3 (dk_at dksX5_serve_4 0 rfl rfl)
theorem dX5_serve_96 : decode cX5_serve 96 = .ok (.invokevirtual 79, 3) := dk_182 0 79 (dk_at dksX5_serve_4 1 rfl rfl)
theorem dX5_serve_99 : decode cX5_serve 99 = .ok (.isub, 1) := dk_100 (dk_at dksX5_serve_4 4 rfl rfl)
theorem dX5_serve_100 : decode cX5_serve 100 = .ok (.invokestatic 60, 3) := dk_184 0 60 (dk_at dksX5_serve_4 5 rfl rfl)
theorem dX5_serve_103 : decode cX5_serve 103 = .ok (.putfield 44, 3) := dk_181 0 44 (dk_at dksX5_serve_4 8 rfl rfl)
theorem dX5_serve_106 : decode cX5_serve 106 = .ok (.return_, 1) := dk_177 (dk_at dksX5_serve_4 11 rfl rfl)
abbrev cX5_become : ByteArray := prog_13_method_3_code
def yX5_become : MethodName := ⟨RX5, "become", "(LBridgeBellsModel$State;)V"⟩
def dkwX5_become_4 : List UInt8 := [180, 0, 32, 42, 180, 0, 32, 182, 0, 56, 177]
abbrev dktX5_become_4 : List UInt8 := dkwX5_become_4 ++ []
def dkwX5_become_3 : List UInt8 := [180, 0, 26, 42, 180, 0, 26, 182, 0, 56, 42, 43, 180, 0, 29, 42, 180, 0, 29, 182, 0, 56, 42, 43]
abbrev dktX5_become_3 : List UInt8 := dkwX5_become_3 ++ dktX5_become_4
def dkwX5_become_2 : List UInt8 := [42, 43, 180, 0, 53, 181, 0, 53, 42, 43, 180, 0, 22, 42, 180, 0, 22, 182, 0, 56, 42, 43]
abbrev dktX5_become_2 : List UInt8 := dkwX5_become_2 ++ dktX5_become_3
def dkwX5_become_1 : List UInt8 := [42, 43, 180, 0, 47, 181, 0, 47, 42, 43, 180, 0, 50, 181, 0, 50, 42, 43, 180, 0, 19, 181, 0, 19]
abbrev dktX5_become_1 : List UInt8 := dkwX5_become_1 ++ dktX5_become_2
def dkwX5_become_0 : List UInt8 := [42, 43, 180, 0, 41, 181, 0, 41, 42, 43, 180, 0, 44, 181, 0, 44, 42, 43, 180, 0, 15, 181, 0, 15]
abbrev dktX5_become_0 : List UInt8 := dkwX5_become_0 ++ dktX5_become_1
theorem dksX5_become_0 : cX5_become.data.toList.drop 0 = dktX5_become_0 := by decide +kernel
theorem dksX5_become_1 : cX5_become.data.toList.drop 24 = dktX5_become_1 := dk_seg dksX5_become_0 24 rfl rfl
theorem dksX5_become_2 : cX5_become.data.toList.drop 48 = dktX5_become_2 := dk_seg dksX5_become_1 24 rfl rfl
theorem dksX5_become_3 : cX5_become.data.toList.drop 70 = dktX5_become_3 := dk_seg dksX5_become_2 22 rfl rfl
theorem dksX5_become_4 : cX5_become.data.toList.drop 94 = dktX5_become_4 := dk_seg dksX5_become_3 24 rfl rfl
theorem dX5_become_0 : decode cX5_become 0 = .ok (.aload_n 0, 1) := dk_42 (dk_at dksX5_become_0 0 rfl rfl)
theorem dX5_become_1 : decode cX5_become 1 = .ok (.aload_n 1, 1) := dk_43 (dk_at dksX5_become_0 1 rfl rfl)
theorem dX5_become_2 : decode cX5_become 2 = .ok (.getfield 41, 3) := dk_180 0 41 (dk_at dksX5_become_0 2 rfl rfl)
theorem dX5_become_5 : decode cX5_become 5 = .ok (.putfield 41, 3) := dk_181 0 41 (dk_at dksX5_become_0 5 rfl rfl)
theorem dX5_become_8 : decode cX5_become 8 = .ok (.aload_n 0, 1) := dk_42 (dk_at dksX5_become_0 8 rfl rfl)
theorem dX5_become_9 : decode cX5_become 9 = .ok (.aload_n 1, 1) := dk_43 (dk_at dksX5_become_0 9 rfl rfl)
theorem dX5_become_10 : decode cX5_become 10 = .ok (.getfield 44, 3) := dk_180 0 44 (dk_at dksX5_become_0 10 rfl rfl)
theorem dX5_become_13 : decode cX5_become 13 = .ok (.putfield 44, 3) := dk_181 0 44 (dk_at dksX5_become_0 13 rfl rfl)
theorem dX5_become_16 : decode cX5_become 16 = .ok (.aload_n 0, 1) := dk_42 (dk_at dksX5_become_0 16 rfl rfl)
theorem dX5_become_17 : decode cX5_become 17 = .ok (.aload_n 1, 1) := dk_43 (dk_at dksX5_become_0 17 rfl rfl)
theorem dX5_become_18 : decode cX5_become 18 = .ok (.getfield 15, 3) := dk_180 0 15 (dk_at dksX5_become_0 18 rfl rfl)
theorem dX5_become_21 : decode cX5_become 21 = .ok (.putfield 15, 3) := dk_181 0 15 (dk_at dksX5_become_0 21 rfl rfl)
theorem dX5_become_24 : decode cX5_become 24 = .ok (.aload_n 0, 1) := dk_42 (dk_at dksX5_become_1 0 rfl rfl)
theorem dX5_become_25 : decode cX5_become 25 = .ok (.aload_n 1, 1) := dk_43 (dk_at dksX5_become_1 1 rfl rfl)
theorem dX5_become_26 : decode cX5_become 26 = .ok (.getfield 47, 3) := dk_180 0 47 (dk_at dksX5_become_1 2 rfl rfl)
theorem dX5_become_29 : decode cX5_become 29 = .ok (.putfield 47, 3) := dk_181 0 47 (dk_at dksX5_become_1 5 rfl rfl)
theorem dX5_become_32 : decode cX5_become 32 = .ok (.aload_n 0, 1) := dk_42 (dk_at dksX5_become_1 8 rfl rfl)
theorem dX5_become_33 : decode cX5_become 33 = .ok (.aload_n 1, 1) := dk_43 (dk_at dksX5_become_1 9 rfl rfl)
theorem dX5_become_34 : decode cX5_become 34 = .ok (.getfield 50, 3) := dk_180 0 50 (dk_at dksX5_become_1 10 rfl rfl)
theorem dX5_become_37 : decode cX5_become 37 = .ok (.putfield 50, 3) := dk_181 0 50 (dk_at dksX5_become_1 13 rfl rfl)
theorem dX5_become_40 : decode cX5_become 40 = .ok (.aload_n 0, 1) := dk_42 (dk_at dksX5_become_1 16 rfl rfl)
theorem dX5_become_41 : decode cX5_become 41 = .ok (.aload_n 1, 1) := dk_43 (dk_at dksX5_become_1 17 rfl rfl)
theorem dX5_become_42 : decode cX5_become 42 = .ok (.getfield 19, 3) := dk_180 0 19 (dk_at dksX5_become_1 18 rfl rfl)
theorem dX5_become_45 : decode cX5_become 45 = .ok (.putfield 19, 3) := dk_181 0 19 (dk_at dksX5_become_1 21 rfl rfl)
theorem dX5_become_48 : decode cX5_become 48 = .ok (.aload_n 0, 1) := dk_42 (dk_at dksX5_become_2 0 rfl rfl)
theorem dX5_become_49 : decode cX5_become 49 = .ok (.aload_n 1, 1) := dk_43 (dk_at dksX5_become_2 1 rfl rfl)
theorem dX5_become_50 : decode cX5_become 50 = .ok (.getfield 53, 3) := dk_180 0 53 (dk_at dksX5_become_2 2 rfl rfl)
theorem dX5_become_53 : decode cX5_become 53 = .ok (.putfield 53, 3) := dk_181 0 53 (dk_at dksX5_become_2 5 rfl rfl)
theorem dX5_become_56 : decode cX5_become 56 = .ok (.aload_n 0, 1) := dk_42 (dk_at dksX5_become_2 8 rfl rfl)
theorem dX5_become_57 : decode cX5_become 57 = .ok (.aload_n 1, 1) := dk_43 (dk_at dksX5_become_2 9 rfl rfl)
theorem dX5_become_58 : decode cX5_become 58 = .ok (.getfield 22, 3) := dk_180 0 22 (dk_at dksX5_become_2 10 rfl rfl)
theorem dX5_become_61 : decode cX5_become 61 = .ok (.aload_n 0, 1) := dk_42 (dk_at dksX5_become_2 13 rfl rfl)
theorem dX5_become_62 : decode cX5_become 62 = .ok (.getfield 22, 3) := dk_180 0 22 (dk_at dksX5_become_2 14 rfl rfl)
theorem dX5_become_65 : decode cX5_become 65 = .ok (.invokevirtual 56, 3) := dk_182 0 56 (dk_at dksX5_become_2 17 rfl rfl)
theorem dX5_become_68 : decode cX5_become 68 = .ok (.aload_n 0, 1) := dk_42 (dk_at dksX5_become_2 20 rfl rfl)
theorem dX5_become_69 : decode cX5_become 69 = .ok (.aload_n 1, 1) := dk_43 (dk_at dksX5_become_2 21 rfl rfl)
theorem dX5_become_70 : decode cX5_become 70 = .ok (.getfield 26, 3) := dk_180 0 26 (dk_at dksX5_become_3 0 rfl rfl)
theorem dX5_become_73 : decode cX5_become 73 = .ok (.aload_n 0, 1) := dk_42 (dk_at dksX5_become_3 3 rfl rfl)
theorem dX5_become_74 : decode cX5_become 74 = .ok (.getfield 26, 3) := dk_180 0 26 (dk_at dksX5_become_3 4 rfl rfl)
theorem dX5_become_77 : decode cX5_become 77 = .ok (.invokevirtual 56, 3) := dk_182 0 56 (dk_at dksX5_become_3 7 rfl rfl)
theorem dX5_become_80 : decode cX5_become 80 = .ok (.aload_n 0, 1) := dk_42 (dk_at dksX5_become_3 10 rfl rfl)
theorem dX5_become_81 : decode cX5_become 81 = .ok (.aload_n 1, 1) := dk_43 (dk_at dksX5_become_3 11 rfl rfl)
theorem dX5_become_82 : decode cX5_become 82 = .ok (.getfield 29, 3) := dk_180 0 29 (dk_at dksX5_become_3 12 rfl rfl)
theorem dX5_become_85 : decode cX5_become 85 = .ok (.aload_n 0, 1) := dk_42 (dk_at dksX5_become_3 15 rfl rfl)
theorem dX5_become_86 : decode cX5_become 86 = .ok (.getfield 29, 3) := dk_180 0 29 (dk_at dksX5_become_3 16 rfl rfl)
theorem dX5_become_89 : decode cX5_become 89 = .ok (.invokevirtual 56, 3) := dk_182 0 56 (dk_at dksX5_become_3 19 rfl rfl)
theorem dX5_become_92 : decode cX5_become 92 = .ok (.aload_n 0, 1) := dk_42 (dk_at dksX5_become_3 22 rfl rfl)
theorem dX5_become_93 : decode cX5_become 93 = .ok (.aload_n 1, 1) := dk_43 (dk_at dksX5_become_3 23 rfl rfl)
theorem dX5_become_94 : decode cX5_become 94 = .ok (.getfield 32, 3) := dk_180 0 32 (dk_at dksX5_become_4 0 rfl rfl)
theorem dX5_become_97 : decode cX5_become 97 = .ok (.aload_n 0, 1) := dk_42 (dk_at dksX5_become_4 3 rfl rfl)
theorem dX5_become_98 : decode cX5_become 98 = .ok (.getfield 32, 3) := dk_180 0 32 (dk_at dksX5_become_4 4 rfl rfl)
theorem dX5_become_101 : decode cX5_become 101 = .ok (.invokevirtual 56, 3) := dk_182 0 56 (dk_at dksX5_become_4 7 rfl rfl)
theorem dX5_become_104 : decode cX5_become 104 = .ok (.return_, 1) := dk_177 (dk_at dksX5_become_4 10 rfl rfl)
abbrev cX5_copy : ByteArray := prog_13_method_2_code
def yX5_copy : MethodName := ⟨RX5, "copy", "([I[I)V"⟩
def dkwX5_copy_0 : List UInt8 := [43, 3, 44, 3, 43, 190, 184, 0, 35, 177]
abbrev dktX5_copy_0 : List UInt8 := dkwX5_copy_0 ++ []
theorem dksX5_copy_0 : cX5_copy.data.toList.drop 0 = dktX5_copy_0 := by decide +kernel
theorem dX5_copy_0 : decode cX5_copy 0 = .ok (.aload_n 1, 1) := dk_43 (dk_at dksX5_copy_0 0 rfl rfl)
theorem dX5_copy_1 : decode cX5_copy 1 = .ok (.iconst 0, 1) := dk_3 (dk_at dksX5_copy_0 1 rfl rfl)
theorem dX5_copy_2 : decode cX5_copy 2 = .ok (.aload_n 2, 1) := dk_44 (dk_at dksX5_copy_0 2 rfl rfl)
theorem dX5_copy_3 : decode cX5_copy 3 = .ok (.iconst 0, 1) := dk_3 (dk_at dksX5_copy_0 3 rfl rfl)
theorem dX5_copy_4 : decode cX5_copy 4 = .ok (.aload_n 1, 1) := dk_43 (dk_at dksX5_copy_0 4 rfl rfl)
theorem dX5_copy_5 : decode cX5_copy 5 = .ok (.arraylength, 1) := dk_190 (dk_at dksX5_copy_0 5 rfl rfl)
theorem dX5_copy_6 : decode cX5_copy 6 = .ok (.invokestatic 35, 3) := dk_184 0 35 (dk_at dksX5_copy_0 6 rfl rfl)
theorem dX5_copy_9 : decode cX5_copy 9 = .ok (.return_, 1) := dk_177 (dk_at dksX5_copy_0 9 rfl rfl)
theorem q22 : (Jvm.Cond.initialized "BridgeBellsModel$State") ∈ lw_all := lw_g (lw_at lw_m1 9 rfl) rfl
theorem q433 : (Jvm.Cond.selects "BridgeBellsModel$State" ({ cls := "java/lang/Object", name := "getClass", desc := "()Ljava/lang/Class;" } : Jvm.MethodName) ({ cls := "java/lang/Object", name := "getClass", desc := "()Ljava/lang/Class;" } : Jvm.MethodName)) ∈ lw_all := lw_g (lw_at lw_m2 180 rfl) rfl
theorem q665 : (Jvm.Cond.instantiable "BridgeBellsModel$State" (12 : Nat)) ∈ lw_all := lw_g (lw_at lw_m3 172 rfl) rfl
theorem q667 : (Jvm.Cond.instanceMethod ({ cls := "BridgeBellsModel$State", name := "<init>", desc := "(LBridgeBellsModel;)V" } : Jvm.MethodName)) ∈ lw_all := lw_g (lw_at lw_m3 174 rfl) rfl
theorem q668 : (Jvm.Cond.code ({ cls := "BridgeBellsModel$State", name := "<init>", desc := "(LBridgeBellsModel;)V" } : Jvm.MethodName) prog_13_method_1_code (2 : Nat) (Option.none : Option Jvm.ClassFile.FieldType)) ∈ lw_all := lw_g (lw_at lw_m3 175 rfl) rfl
theorem q669 : (Jvm.Cond.methodLink "BridgeBellsModel$State" (9 : Nat) ({ cls := "java/lang/Object", name := "<init>", desc := "()V" } : Jvm.MethodName)) ∈ lw_all := lw_g (lw_at lw_m3 176 rfl) rfl
theorem q670 : (Jvm.Cond.fieldLink "BridgeBellsModel$State" (41 : Nat) "BridgeBellsModel$State" "minute" "I") ∈ lw_all := lw_g (lw_at lw_m3 177 rfl) rfl
theorem q672 : (Jvm.Cond.fieldLink "BridgeBellsModel$State" (44 : Nat) "BridgeBellsModel$State" "angle" "I") ∈ lw_all := lw_g (lw_at lw_m3 179 rfl) rfl
theorem q674 : (Jvm.Cond.fieldLink "BridgeBellsModel$State" (15 : Nat) "BridgeBellsModel$State" "poise" "I") ∈ lw_all := lw_g (lw_at lw_m3 181 rfl) rfl
theorem q676 : (Jvm.Cond.fieldLink "BridgeBellsModel$State" (47 : Nat) "BridgeBellsModel$State" "ice" "I") ∈ lw_all := lw_g (lw_at lw_m3 183 rfl) rfl
theorem q678 : (Jvm.Cond.fieldLink "BridgeBellsModel$State" (50 : Nat) "BridgeBellsModel$State" "code" "I") ∈ lw_all := lw_g (lw_at lw_m3 185 rfl) rfl
theorem q680 : (Jvm.Cond.fieldLink "BridgeBellsModel$State" (19 : Nat) "BridgeBellsModel$State" "passer" "I") ∈ lw_all := lw_g (lw_at lw_m3 187 rfl) rfl
theorem q681 : (Jvm.Cond.fieldLink "BridgeBellsModel$State" (53 : Nat) "BridgeBellsModel$State" "latest" "I") ∈ lw_all := lw_g (lw_at lw_m3 188 rfl) rfl
theorem q682 : (Jvm.Cond.fieldLink "BridgeBellsModel$State" (22 : Nat) "BridgeBellsModel$State" "is" "[I") ∈ lw_all := lw_g (lw_at lw_m3 189 rfl) rfl
theorem q684 : (Jvm.Cond.fieldLink "BridgeBellsModel$State" (26 : Nat) "BridgeBellsModel$State" "waited" "[I") ∈ lw_all := lw_g (lw_at lw_m3 191 rfl) rfl
theorem q686 : (Jvm.Cond.fieldLink "BridgeBellsModel$State" (29 : Nat) "BridgeBellsModel$State" "left" "[I") ∈ lw_all := lw_g (lw_at lw_m3 193 rfl) rfl
theorem q688 : (Jvm.Cond.fieldLink "BridgeBellsModel$State" (32 : Nat) "BridgeBellsModel$State" "when" "[I") ∈ lw_all := lw_g (lw_at lw_m3 195 rfl) rfl
theorem q690 : (Jvm.Cond.fieldLink "BridgeBellsModel$State" (3 : Nat) "BridgeBellsModel$State" "this$0" "LBridgeBellsModel;") ∈ lw_all := lw_g (lw_at lw_m3 197 rfl) rfl
theorem q691 : (Jvm.Cond.lays "BridgeBellsModel$State" "BridgeBellsModel$State" "minute" "I") ∈ lw_all := lw_g (lw_at lw_m3 198 rfl) rfl
theorem q692 : (Jvm.Cond.soleField "BridgeBellsModel$State" "minute") ∈ lw_all := lw_g (lw_at lw_m3 199 rfl) rfl
theorem q693 : (Jvm.Cond.lays "BridgeBellsModel$State" "BridgeBellsModel$State" "angle" "I") ∈ lw_all := lw_g (lw_at lw_m3 200 rfl) rfl
theorem q694 : (Jvm.Cond.soleField "BridgeBellsModel$State" "angle") ∈ lw_all := lw_g (lw_at lw_m3 201 rfl) rfl
theorem q695 : (Jvm.Cond.lays "BridgeBellsModel$State" "BridgeBellsModel$State" "poise" "I") ∈ lw_all := lw_g (lw_at lw_m3 202 rfl) rfl
theorem q696 : (Jvm.Cond.soleField "BridgeBellsModel$State" "poise") ∈ lw_all := lw_g (lw_at lw_m3 203 rfl) rfl
theorem q697 : (Jvm.Cond.lays "BridgeBellsModel$State" "BridgeBellsModel$State" "ice" "I") ∈ lw_all := lw_g (lw_at lw_m3 204 rfl) rfl
theorem q698 : (Jvm.Cond.soleField "BridgeBellsModel$State" "ice") ∈ lw_all := lw_g (lw_at lw_m3 205 rfl) rfl
theorem q699 : (Jvm.Cond.lays "BridgeBellsModel$State" "BridgeBellsModel$State" "code" "I") ∈ lw_all := lw_g (lw_at lw_m3 206 rfl) rfl
theorem q700 : (Jvm.Cond.soleField "BridgeBellsModel$State" "code") ∈ lw_all := lw_g (lw_at lw_m3 207 rfl) rfl
theorem q701 : (Jvm.Cond.lays "BridgeBellsModel$State" "BridgeBellsModel$State" "passer" "I") ∈ lw_all := lw_g (lw_at lw_m3 208 rfl) rfl
theorem q702 : (Jvm.Cond.soleField "BridgeBellsModel$State" "passer") ∈ lw_all := lw_g (lw_at lw_m3 209 rfl) rfl
theorem q703 : (Jvm.Cond.lays "BridgeBellsModel$State" "BridgeBellsModel$State" "latest" "I") ∈ lw_all := lw_g (lw_at lw_m3 210 rfl) rfl
theorem q704 : (Jvm.Cond.soleField "BridgeBellsModel$State" "latest") ∈ lw_all := lw_g (lw_at lw_m3 211 rfl) rfl
theorem q705 : (Jvm.Cond.laysFinal "BridgeBellsModel$State" "BridgeBellsModel$State" "is" "[I") ∈ lw_all := lw_g (lw_at lw_m3 212 rfl) rfl
theorem q706 : (Jvm.Cond.soleField "BridgeBellsModel$State" "is") ∈ lw_all := lw_g (lw_at lw_m3 213 rfl) rfl
theorem q707 : (Jvm.Cond.laysFinal "BridgeBellsModel$State" "BridgeBellsModel$State" "waited" "[I") ∈ lw_all := lw_g (lw_at lw_m3 214 rfl) rfl
theorem q708 : (Jvm.Cond.soleField "BridgeBellsModel$State" "waited") ∈ lw_all := lw_g (lw_at lw_m3 215 rfl) rfl
theorem q709 : (Jvm.Cond.laysFinal "BridgeBellsModel$State" "BridgeBellsModel$State" "left" "[I") ∈ lw_all := lw_g (lw_at lw_m3 216 rfl) rfl
theorem q710 : (Jvm.Cond.soleField "BridgeBellsModel$State" "left") ∈ lw_all := lw_g (lw_at lw_m3 217 rfl) rfl
theorem q711 : (Jvm.Cond.laysFinal "BridgeBellsModel$State" "BridgeBellsModel$State" "when" "[I") ∈ lw_all := lw_g (lw_at lw_m3 218 rfl) rfl
theorem q712 : (Jvm.Cond.soleField "BridgeBellsModel$State" "when") ∈ lw_all := lw_g (lw_at lw_m3 219 rfl) rfl
theorem q713 : (Jvm.Cond.laysFinal "BridgeBellsModel$State" "BridgeBellsModel$State" "this$0" "LBridgeBellsModel;") ∈ lw_all := lw_g (lw_at lw_m3 220 rfl) rfl
theorem q714 : (Jvm.Cond.soleField "BridgeBellsModel$State" "this$0") ∈ lw_all := lw_g (lw_at lw_m3 221 rfl) rfl
theorem q715 : (Jvm.Cond.superclass "BridgeBellsModel$State" "java/lang/Object") ∈ lw_all := lw_g (lw_at lw_m3 222 rfl) rfl
theorem q718 : (Jvm.Cond.fieldLinkNest "BridgeBellsModel$State" (66 : Nat) "BridgeBellsModel" "travellers" "I" "BridgeBellsModel") ∈ lw_tbl := lw_at lw_m3 225 rfl
theorem q720 : (Jvm.Cond.fieldLinkNest "BridgeBellsModel$State" (69 : Nat) "BridgeBellsModel" "isBarge" "[I" "BridgeBellsModel") ∈ lw_tbl := lw_at lw_m3 227 rfl
theorem q722 : (Jvm.Cond.fieldLinkNest "BridgeBellsModel$State" (76 : Nat) "BridgeBellsModel" "needs" "[I" "BridgeBellsModel") ∈ lw_tbl := lw_at lw_m3 229 rfl
theorem q725 : (Jvm.Cond.fieldLinkNest "BridgeBellsModel$State" (94 : Nat) "BridgeBellsModel" "cold" "[I" "BridgeBellsModel") ∈ lw_tbl := lw_at lw_m3 232 rfl
theorem q798 : (Jvm.Cond.instanceMethod ({ cls := "BridgeBellsModel$State", name := "counted", desc := "(I)I" } : Jvm.MethodName)) ∈ lw_all := lw_g (lw_at lw_m4 65 rfl) rfl
theorem q799 : (Jvm.Cond.selects "BridgeBellsModel$State" ({ cls := "BridgeBellsModel$State", name := "counted", desc := "(I)I" } : Jvm.MethodName) ({ cls := "BridgeBellsModel$State", name := "counted", desc := "(I)I" } : Jvm.MethodName)) ∈ lw_all := lw_g (lw_at lw_m4 66 rfl) rfl
theorem q800 : (Jvm.Cond.code ({ cls := "BridgeBellsModel$State", name := "counted", desc := "(I)I" } : Jvm.MethodName) prog_13_method_12_code (2 : Nat) (Option.some Jvm.ClassFile.FieldType.int)) ∈ lw_all := lw_g (lw_at lw_m4 67 rfl) rfl
theorem q801 : (Jvm.Cond.methodLink "BridgeBellsModel$State" (100 : Nat) ({ cls := "BridgeBellsModel$State", name := "are", desc := "(II)I" } : Jvm.MethodName)) ∈ lw_all := lw_g (lw_at lw_m4 68 rfl) rfl
theorem q802 : (Jvm.Cond.instanceMethod ({ cls := "BridgeBellsModel$State", name := "are", desc := "(II)I" } : Jvm.MethodName)) ∈ lw_all := lw_g (lw_at lw_m4 69 rfl) rfl
theorem q803 : (Jvm.Cond.selects "BridgeBellsModel$State" ({ cls := "BridgeBellsModel$State", name := "are", desc := "(II)I" } : Jvm.MethodName) ({ cls := "BridgeBellsModel$State", name := "are", desc := "(II)I" } : Jvm.MethodName)) ∈ lw_all := lw_g (lw_at lw_m4 70 rfl) rfl
theorem q804 : (Jvm.Cond.code ({ cls := "BridgeBellsModel$State", name := "are", desc := "(II)I" } : Jvm.MethodName) prog_13_method_10_code (5 : Nat) (Option.some Jvm.ClassFile.FieldType.int)) ∈ lw_all := lw_g (lw_at lw_m4 71 rfl) rfl
theorem q805 : (Jvm.Cond.methodLink "BridgeBellsModel$State" (103 : Nat) ({ cls := "BridgeBellsModel$State", name := "sumWaited", desc := "()I" } : Jvm.MethodName)) ∈ lw_all := lw_g (lw_at lw_m4 72 rfl) rfl
theorem q806 : (Jvm.Cond.instanceMethod ({ cls := "BridgeBellsModel$State", name := "sumWaited", desc := "()I" } : Jvm.MethodName)) ∈ lw_all := lw_g (lw_at lw_m4 73 rfl) rfl
theorem q807 : (Jvm.Cond.selects "BridgeBellsModel$State" ({ cls := "BridgeBellsModel$State", name := "sumWaited", desc := "()I" } : Jvm.MethodName) ({ cls := "BridgeBellsModel$State", name := "sumWaited", desc := "()I" } : Jvm.MethodName)) ∈ lw_all := lw_g (lw_at lw_m4 74 rfl) rfl
theorem q808 : (Jvm.Cond.code ({ cls := "BridgeBellsModel$State", name := "sumWaited", desc := "()I" } : Jvm.MethodName) prog_13_method_11_code (3 : Nat) (Option.some Jvm.ClassFile.FieldType.int)) ∈ lw_all := lw_g (lw_at lw_m4 75 rfl) rfl
theorem q809 : (Jvm.Cond.methodLink "BridgeBellsModel$State" (86 : Nat) ({ cls := "BridgeBellsModel$State", name := "next", desc := "()I" } : Jvm.MethodName)) ∈ lw_all := lw_g (lw_at lw_m4 76 rfl) rfl
theorem q810 : (Jvm.Cond.instanceMethod ({ cls := "BridgeBellsModel$State", name := "next", desc := "()I" } : Jvm.MethodName)) ∈ lw_all := lw_g (lw_at lw_m4 77 rfl) rfl
theorem q811 : (Jvm.Cond.selects "BridgeBellsModel$State" ({ cls := "BridgeBellsModel$State", name := "next", desc := "()I" } : Jvm.MethodName) ({ cls := "BridgeBellsModel$State", name := "next", desc := "()I" } : Jvm.MethodName)) ∈ lw_all := lw_g (lw_at lw_m4 78 rfl) rfl
theorem q812 : (Jvm.Cond.code ({ cls := "BridgeBellsModel$State", name := "next", desc := "()I" } : Jvm.MethodName) prog_13_method_6_code (2 : Nat) (Option.some Jvm.ClassFile.FieldType.int)) ∈ lw_all := lw_g (lw_at lw_m4 79 rfl) rfl
theorem q813 : (Jvm.Cond.methodLink "BridgeBellsModel$State" (72 : Nat) ({ cls := "BridgeBellsModel$State", name := "first", desc := "(I)I" } : Jvm.MethodName)) ∈ lw_all := lw_g (lw_at lw_m4 80 rfl) rfl
theorem q814 : (Jvm.Cond.privateMethod ({ cls := "BridgeBellsModel$State", name := "first", desc := "(I)I" } : Jvm.MethodName)) ∈ lw_tbl := lw_at lw_m4 81 rfl
theorem q815 : (Jvm.Cond.instanceMethod ({ cls := "BridgeBellsModel$State", name := "first", desc := "(I)I" } : Jvm.MethodName)) ∈ lw_all := lw_g (lw_at lw_m4 82 rfl) rfl
theorem q816 : (Jvm.Cond.code ({ cls := "BridgeBellsModel$State", name := "first", desc := "(I)I" } : Jvm.MethodName) prog_13_method_5_code (3 : Nat) (Option.some Jvm.ClassFile.FieldType.int)) ∈ lw_all := lw_g (lw_at lw_m4 83 rfl) rfl
theorem q822 : (Jvm.Cond.instanceMethod ({ cls := "BridgeBellsModel$State", name := "speed", desc := "(Z)I" } : Jvm.MethodName)) ∈ lw_all := lw_g (lw_at lw_m4 89 rfl) rfl
theorem q823 : (Jvm.Cond.selects "BridgeBellsModel$State" ({ cls := "BridgeBellsModel$State", name := "speed", desc := "(Z)I" } : Jvm.MethodName) ({ cls := "BridgeBellsModel$State", name := "speed", desc := "(Z)I" } : Jvm.MethodName)) ∈ lw_all := lw_g (lw_at lw_m4 90 rfl) rfl
theorem q824 : (Jvm.Cond.code ({ cls := "BridgeBellsModel$State", name := "speed", desc := "(Z)I" } : Jvm.MethodName) prog_13_method_4_code (3 : Nat) (Option.some Jvm.ClassFile.FieldType.int)) ∈ lw_all := lw_g (lw_at lw_m4 91 rfl) rfl
theorem q825 : (Jvm.Cond.methodLink "BridgeBellsModel$State" (60 : Nat) ({ cls := "java/lang/Math", name := "max", desc := "(II)I" } : Jvm.MethodName)) ∈ lw_all := lw_g (lw_at lw_m4 92 rfl) rfl
theorem q832 : (Jvm.Cond.instanceMethod ({ cls := "BridgeBellsModel$State", name := "pass", desc := "(I)V" } : Jvm.MethodName)) ∈ lw_all := lw_g (lw_at lw_m4 99 rfl) rfl
theorem q833 : (Jvm.Cond.selects "BridgeBellsModel$State" ({ cls := "BridgeBellsModel$State", name := "pass", desc := "(I)V" } : Jvm.MethodName) ({ cls := "BridgeBellsModel$State", name := "pass", desc := "(I)V" } : Jvm.MethodName)) ∈ lw_all := lw_g (lw_at lw_m4 100 rfl) rfl
theorem q834 : (Jvm.Cond.code ({ cls := "BridgeBellsModel$State", name := "pass", desc := "(I)V" } : Jvm.MethodName) prog_13_method_9_code (3 : Nat) (Option.none : Option Jvm.ClassFile.FieldType)) ∈ lw_all := lw_g (lw_at lw_m4 101 rfl) rfl
theorem q835 : (Jvm.Cond.methodLink "BridgeBellsModel$State" (97 : Nat) ({ cls := "BridgeBellsModel$State", name := "pass", desc := "()V" } : Jvm.MethodName)) ∈ lw_all := lw_g (lw_at lw_m4 102 rfl) rfl
theorem q836 : (Jvm.Cond.instanceMethod ({ cls := "BridgeBellsModel$State", name := "pass", desc := "()V" } : Jvm.MethodName)) ∈ lw_all := lw_g (lw_at lw_m4 103 rfl) rfl
theorem q837 : (Jvm.Cond.selects "BridgeBellsModel$State" ({ cls := "BridgeBellsModel$State", name := "pass", desc := "()V" } : Jvm.MethodName) ({ cls := "BridgeBellsModel$State", name := "pass", desc := "()V" } : Jvm.MethodName)) ∈ lw_all := lw_g (lw_at lw_m4 104 rfl) rfl
theorem q838 : (Jvm.Cond.code ({ cls := "BridgeBellsModel$State", name := "pass", desc := "()V" } : Jvm.MethodName) prog_13_method_8_code (3 : Nat) (Option.none : Option Jvm.ClassFile.FieldType)) ∈ lw_all := lw_g (lw_at lw_m4 105 rfl) rfl
theorem q839 : (Jvm.Cond.methodLink "BridgeBellsModel$State" (90 : Nat) ({ cls := "BridgeBellsModel$State", name := "serve", desc := "(I)V" } : Jvm.MethodName)) ∈ lw_all := lw_g (lw_at lw_m4 106 rfl) rfl
theorem q840 : (Jvm.Cond.privateMethod ({ cls := "BridgeBellsModel$State", name := "serve", desc := "(I)V" } : Jvm.MethodName)) ∈ lw_tbl := lw_at lw_m4 107 rfl
theorem q841 : (Jvm.Cond.instanceMethod ({ cls := "BridgeBellsModel$State", name := "serve", desc := "(I)V" } : Jvm.MethodName)) ∈ lw_all := lw_g (lw_at lw_m4 108 rfl) rfl
theorem q842 : (Jvm.Cond.code ({ cls := "BridgeBellsModel$State", name := "serve", desc := "(I)V" } : Jvm.MethodName) prog_13_method_7_code (3 : Nat) (Option.none : Option Jvm.ClassFile.FieldType)) ∈ lw_all := lw_g (lw_at lw_m4 109 rfl) rfl
theorem q843 : (Jvm.Cond.methodLink "BridgeBellsModel$State" (79 : Nat) ({ cls := "BridgeBellsModel$State", name := "speed", desc := "(Z)I" } : Jvm.MethodName)) ∈ lw_all := lw_g (lw_at lw_m4 110 rfl) rfl
theorem q844 : (Jvm.Cond.methodLink "BridgeBellsModel$State" (83 : Nat) ({ cls := "java/lang/Math", name := "min", desc := "(II)I" } : Jvm.MethodName)) ∈ lw_all := lw_g (lw_at lw_m4 111 rfl) rfl
theorem q850 : (Jvm.Cond.instanceMethod ({ cls := "BridgeBellsModel$State", name := "become", desc := "(LBridgeBellsModel$State;)V" } : Jvm.MethodName)) ∈ lw_all := lw_g (lw_at lw_m4 117 rfl) rfl
theorem q851 : (Jvm.Cond.selects "BridgeBellsModel$State" ({ cls := "BridgeBellsModel$State", name := "become", desc := "(LBridgeBellsModel$State;)V" } : Jvm.MethodName) ({ cls := "BridgeBellsModel$State", name := "become", desc := "(LBridgeBellsModel$State;)V" } : Jvm.MethodName)) ∈ lw_all := lw_g (lw_at lw_m4 118 rfl) rfl
theorem q852 : (Jvm.Cond.code ({ cls := "BridgeBellsModel$State", name := "become", desc := "(LBridgeBellsModel$State;)V" } : Jvm.MethodName) prog_13_method_3_code (2 : Nat) (Option.none : Option Jvm.ClassFile.FieldType)) ∈ lw_all := lw_g (lw_at lw_m4 119 rfl) rfl
theorem q853 : (Jvm.Cond.methodLink "BridgeBellsModel$State" (56 : Nat) ({ cls := "BridgeBellsModel$State", name := "copy", desc := "([I[I)V" } : Jvm.MethodName)) ∈ lw_all := lw_g (lw_at lw_m4 120 rfl) rfl
theorem q854 : (Jvm.Cond.privateMethod ({ cls := "BridgeBellsModel$State", name := "copy", desc := "([I[I)V" } : Jvm.MethodName)) ∈ lw_tbl := lw_at lw_m4 121 rfl
theorem q855 : (Jvm.Cond.instanceMethod ({ cls := "BridgeBellsModel$State", name := "copy", desc := "([I[I)V" } : Jvm.MethodName)) ∈ lw_all := lw_g (lw_at lw_m4 122 rfl) rfl
theorem q856 : (Jvm.Cond.code ({ cls := "BridgeBellsModel$State", name := "copy", desc := "([I[I)V" } : Jvm.MethodName) prog_13_method_2_code (3 : Nat) (Option.none : Option Jvm.ClassFile.FieldType)) ∈ lw_all := lw_g (lw_at lw_m4 123 rfl) rfl
theorem q857 : (Jvm.Cond.methodLink "BridgeBellsModel$State" (35 : Nat) ({ cls := "java/lang/System", name := "arraycopy", desc := "(Ljava/lang/Object;ILjava/lang/Object;II)V" } : Jvm.MethodName)) ∈ lw_all := lw_g (lw_at lw_m4 124 rfl) rfl
theorem q896 : (Jvm.Cond.castable "BridgeBellsModel$State" "java/lang/Object") ∈ lw_tbl := lw_at lw_m4 163 rfl
theorem in_X5 : ∀ w ∈ wsX50, w ∈ lw_all := lw_in wsX50 [691, 693, 695, 697, 699, 701, 703, 705, 707, 709, 711, 713] (by decide +kernel) (by decide +kernel)
