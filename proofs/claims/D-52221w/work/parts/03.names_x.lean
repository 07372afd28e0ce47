/-! BridgeBells -/
set_option maxRecDepth 100000
def RX1 : String := "BridgeBells"
def TX1 : u_T := fun k => match k with
  | _ => ("BridgeBells", "bridge", "LBridgeBells$Bridge;", true)
def tyX1 : Nat → FieldType := fun k => match k with
  | _ => .object "BridgeBells$Bridge"
abbrev wsX10 : List Cond := u_ws RX1 TX1 1
theorem nmX1 : ∀ a, a < 1 → ∀ b, b < 1 → a ≠ b → (TX1 a).2.1 ≠ (TX1 b).2.1 := by decide +kernel
theorem tyX1_ok : ∀ k, k < 1 → parseFieldDescriptor (TX1 k).2.2.1 = some (tyX1 k) := by decide +kernel
abbrev cX1_init : ByteArray := prog_1_method_6_code
def yX1_init : MethodName := ⟨RX1, "<init>", "()V"⟩
def dkwX1_init_0 : List UInt8 := [42, 183, 0, 33, 42, 187, 0, 36, 89, 183, 0, 38, 181, 0, 39, 177]
abbrev dktX1_init_0 : List UInt8 := dkwX1_init_0 ++ []
theorem dksX1_init_0 : cX1_init.data.toList.drop 0 = dktX1_init_0 := by decide +kernel
theorem dX1_init_0 : decode cX1_init 0 = .ok (.aload_n 0, 1) := dk_42 (dk_at dksX1_init_0 0 rfl rfl)
theorem dX1_init_1 : decode cX1_init 1 = .ok (.invokespecial 33, 3) := dk_183 0 33 (dk_at dksX1_init_0 1 rfl rfl)
theorem dX1_init_4 : decode cX1_init 4 = .ok (.aload_n 0, 1) := dk_42 (dk_at dksX1_init_0 4 rfl rfl)
theorem dX1_init_5 : decode cX1_init 5 = .ok (.new 36, 3) := dk_187 0 36 (dk_at dksX1_init_0 5 rfl rfl)
theorem dX1_init_8 : decode cX1_init 8 = .ok (.dup, 1) := dk_89 (dk_at dksX1_init_0 8 rfl rfl)
theorem dX1_init_9 : decode cX1_init 9 = .ok (.invokespecial 38, 3) := dk_183 0 38 (dk_at dksX1_init_0 9 rfl rfl)
theorem dX1_init_12 : decode cX1_init 12 = .ok (.putfield 39, 3) := dk_181 0 39 (dk_at dksX1_init_0 12 rfl rfl)
theorem dX1_init_15 : decode cX1_init 15 = .ok (.return_, 1) := dk_177 (dk_at dksX1_init_0 15 rfl rfl)
abbrev cX1_crack : ByteArray := prog_1_method_12_code
def yX1_crack : MethodName := ⟨RX1, "crack", "()I"⟩
def dkwX1_crack_1 : List UInt8 := [180, 0, 116, 172]
abbrev dktX1_crack_1 : List UInt8 := dkwX1_crack_1 ++ []
def dkwX1_crack_0 : List UInt8 := [42, 180, 0, 39, 3, 42, 180, 0, 39, 180, 0, 116, 6, 100, 184, 0, 119, 181, 0, 116, 42, 180, 0, 39]
abbrev dktX1_crack_0 : List UInt8 := dkwX1_crack_0 ++ dktX1_crack_1
theorem dksX1_crack_0 : cX1_crack.data.toList.drop 0 = dktX1_crack_0 := by decide +kernel
theorem dksX1_crack_1 : cX1_crack.data.toList.drop 24 = dktX1_crack_1 := dk_seg dksX1_crack_0 24 rfl rfl
theorem dX1_crack_0 : decode cX1_crack 0 = .ok (.aload_n 0, 1) := dk_42 (dk_at dksX1_crack_0 0 rfl rfl)
theorem dX1_crack_1 : decode cX1_crack 1 = .ok (.getfield 39, 3) := dk_180 0 39 (dk_at dksX1_crack_0 1 rfl rfl)
theorem dX1_crack_4 : decode cX1_crack 4 = .ok (.iconst 0, 1) := dk_3 (dk_at dksX1_crack_0 4 rfl rfl)
theorem dX1_crack_5 : decode cX1_crack 5 = .ok (.aload_n 0, 1) := dk_42 (dk_at dksX1_crack_0 5 rfl rfl)
theorem dX1_crack_6 : decode cX1_crack 6 = .ok (.getfield 39, 3) := dk_180 0 39 (dk_at dksX1_crack_0 6 rfl rfl)
theorem dX1_crack_9 : decode cX1_crack 9 = .ok (.getfield 116, 3) := dk_180 0 116 (dk_at dksX1_crack_0 9 rfl rfl)
theorem dX1_crack_12 : decode cX1_crack 12 = .ok (.iconst 3, 1) := dk_6 (dk_at dksX1_crack_0 12 rfl rfl)
theorem dX1_crack_13 : decode cX1_crack 13 = .ok (.isub, 1) := dk_100 (dk_at dksX1_crack_0 13 rfl rfl)
theorem dX1_crack_14 : decode cX1_crack 14 = .ok (.invokestatic 119, 3) := dk_184 0 119 (dk_at dksX1_crack_0 14 rfl rfl)
theorem dX1_crack_17 : decode cX1_crack 17 = .ok (.putfield 116, 3) := dk_181 0 116 (dk_at dksX1_crack_0 17 rfl rfl)
theorem dX1_crack_20 : decode cX1_crack 20 = .ok (.aload_n 0, 1) := dk_42 (dk_at dksX1_crack_0 20 rfl rfl)
theorem dX1_crack_21 : decode cX1_crack 21 = .ok (.getfield 39, 3) := dk_180 0 39 (dk_at dksX1_crack_0 21 rfl rfl)
theorem dX1_crack_24 : decode cX1_crack 24 = .ok (.getfield 116, 3) := dk_180 0 116 (dk_at dksX1_crack_1 0 rfl rfl)
theorem dX1_crack_27 : decode cX1_crack 27 = .ok (.ireturn, 1) := dk_172 (dk_at dksX1_crack_1 3 rfl rfl)
abbrev cX1_speed : ByteArray := prog_1_method_17_code
def yX1_speed : MethodName := ⟨RX1, "speed", "(Z)I"⟩
def dkwX1_speed_0 : List UInt8 := [42, 180, 0, 39, 27, 182, 0, 164, 172]
abbrev dktX1_speed_0 : List UInt8 := dkwX1_speed_0 ++ []
theorem dksX1_speed_0 : cX1_speed.data.toList.drop 0 = dktX1_speed_0 := by decide +kernel
theorem dX1_speed_0 : decode cX1_speed 0 = .ok (.aload_n 0, 1) := dk_42 (dk_at dksX1_speed_0 0 rfl rfl)
theorem dX1_speed_1 : decode cX1_speed 1 = .ok (.getfield 39, 3) := dk_180 0 39 (dk_at dksX1_speed_0 1 rfl rfl)
theorem dX1_speed_4 : decode cX1_speed 4 = .ok (.iload_n 1, 1) := dk_27 (dk_at dksX1_speed_0 4 rfl rfl)
theorem dX1_speed_5 : decode cX1_speed 5 = .ok (.invokevirtual 164, 3) := dk_182 0 164 (dk_at dksX1_speed_0 5 rfl rfl)
theorem dX1_speed_8 : decode cX1_speed 8 = .ok (.ireturn, 1) := dk_172 (dk_at dksX1_speed_0 8 rfl rfl)
abbrev cX1_mean : ByteArray := prog_1_method_24_code
def yX1_mean : MethodName := ⟨RX1, "mean", "()D"⟩
def dkwX1_mean_1 : List UInt8 := [135, 42, 180, 0, 39, 180, 0, 47, 182, 0, 51, 135, 111, 175]
abbrev dktX1_mean_1 : List UInt8 := dkwX1_mean_1 ++ []
def dkwX1_mean_0 : List UInt8 := [42, 180, 0, 39, 180, 0, 47, 182, 0, 181, 153, 0, 7, 14, 167, 0, 23, 42, 180, 0, 39, 182, 0, 148]
abbrev dktX1_mean_0 : List UInt8 := dkwX1_mean_0 ++ dktX1_mean_1
theorem dksX1_mean_0 : cX1_mean.data.toList.drop 0 = dktX1_mean_0 := by decide +kernel
theorem dksX1_mean_1 : cX1_mean.data.toList.drop 24 = dktX1_mean_1 := dk_seg dksX1_mean_0 24 rfl rfl
theorem dX1_mean_0 : decode cX1_mean 0 = .ok (.aload_n 0, 1) := dk_42 (dk_at dksX1_mean_0 0 rfl rfl)
theorem dX1_mean_1 : decode cX1_mean 1 = .ok (.getfield 39, 3) := dk_180 0 39 (dk_at dksX1_mean_0 1 rfl rfl)
theorem dX1_mean_4 : decode cX1_mean 4 = .ok (.getfield 47, 3) := dk_180 0 47 (dk_at dksX1_mean_0 4 rfl rfl)
theorem dX1_mean_7 : decode cX1_mean 7 = .ok (.invokevirtual 181, 3) := dk_182 0 181 (dk_at dksX1_mean_0 7 rfl rfl)
theorem dX1_mean_10 : decode cX1_mean 10 = .ok (.ifCond .eq 7, 3) := dk_153 0 7 (dk_at dksX1_mean_0 10 rfl rfl)
theorem dX1_mean_13 : decode cX1_mean 13 = .ok (.dconst 0, 1) := dk_14 (dk_at dksX1_mean_0 13 rfl rfl)
theorem dX1_mean_14 : decode cX1_mean 14 = .ok (.goto 23, 3) := dk_167 0 23 (dk_at dksX1_mean_0 14 rfl rfl)
theorem dX1_mean_17 : decode cX1_mean 17 = .ok (.aload_n 0, 1) := dk_42 (dk_at dksX1_mean_0 17 rfl rfl)
theorem dX1_mean_18 : decode cX1_mean 18 = .ok (.getfield 39, 3) := dk_180 0 39 (dk_at dksX1_mean_0 18 rfl rfl)
theorem dX1_mean_21 : decode cX1_mean 21 = .ok (.invokevirtual 148, 3) := dk_182 0 148 (dk_at dksX1_mean_0 21 rfl rfl)
theorem dX1_mean_24 : decode cX1_mean 24 = .ok (.i2d, 1) := dk_135 (dk_at dksX1_mean_1 0 rfl rfl)
theorem dX1_mean_25 : decode cX1_mean 25 = .ok (.aload_n 0, 1) := dk_42 (dk_at dksX1_mean_1 1 rfl rfl)
theorem dX1_mean_26 : decode cX1_mean 26 = .ok (.getfield 39, 3) := dk_180 0 39 (dk_at dksX1_mean_1 2 rfl rfl)
theorem dX1_mean_29 : decode cX1_mean 29 = .ok (.getfield 47, 3) := dk_180 0 47 (dk_at dksX1_mean_1 5 rfl rfl)
theorem dX1_mean_32 : decode cX1_mean 32 = .ok (.invokevirtual 51, 3) := dk_182 0 51 (dk_at dksX1_mean_1 8 rfl rfl)
theorem dX1_mean_35 : decode cX1_mean 35 = .ok (.i2d, 1) := dk_135 (dk_at dksX1_mean_1 11 rfl rfl)
theorem dX1_mean_36 : decode cX1_mean 36 = .ok (.ddiv, 1) := dk_111 (dk_at dksX1_mean_1 12 rfl rfl)
theorem dX1_mean_37 : decode cX1_mean 37 = .ok (.dreturn, 1) := dk_175 (dk_at dksX1_mean_1 13 rfl rfl)
abbrev cX1_digest : ByteArray := prog_1_method_25_code
def yX1_digest : MethodName := ⟨RX1, "digest", "()J"⟩
def dkwX1_digest_5 : List UInt8 := [21, 4, 184, 0, 142, 133, 97, 64, 132, 4, 1, 167, 255, 219, 132, 3, 1, 167, 255, 196, 31, 173]
abbrev dktX1_digest_5 : List UInt8 := dkwX1_digest_5 ++ []
def dkwX1_digest_4 : List UInt8 := [16, 7, 162, 0, 36, 31, 20, 0, 187, 105, 42, 180, 0, 39, 180, 0, 47, 29, 182, 0, 177, 192, 0, 57]
abbrev dktX1_digest_4 : List UInt8 := dkwX1_digest_4 ++ dktX1_digest_5
def dkwX1_digest_3 : List UInt8 := [167, 255, 230, 3, 62, 29, 42, 180, 0, 39, 180, 0, 47, 182, 0, 51, 162, 0, 52, 3, 54, 4, 21, 4]
abbrev dktX1_digest_3 : List UInt8 := dkwX1_digest_3 ++ dktX1_digest_4
def dkwX1_digest_2 : List UInt8 := [21, 4, 162, 0, 25, 45, 21, 5, 46, 54, 6, 31, 20, 0, 187, 105, 21, 6, 133, 97, 64, 132, 5, 1]
abbrev dktX1_digest_2 : List UInt8 := dkwX1_digest_2 ++ dktX1_digest_3
def dkwX1_digest_1 : List UInt8 := [64, 132, 3, 1, 167, 255, 234, 42, 180, 0, 39, 180, 0, 112, 78, 45, 190, 54, 4, 3, 54, 5, 21, 5]
abbrev dktX1_digest_1 : List UInt8 := dkwX1_digest_1 ++ dktX1_digest_2
def dkwX1_digest_0 : List UInt8 := [20, 0, 185, 64, 3, 62, 29, 16, 12, 162, 0, 22, 31, 20, 0, 187, 105, 42, 29, 182, 0, 160, 133, 97]
abbrev dktX1_digest_0 : List UInt8 := dkwX1_digest_0 ++ dktX1_digest_1
theorem dksX1_digest_0 : cX1_digest.data.toList.drop 0 = dktX1_digest_0 := by decide +kernel
theorem dksX1_digest_1 : cX1_digest.data.toList.drop 24 = dktX1_digest_1 := dk_seg dksX1_digest_0 24 rfl rfl
theorem dksX1_digest_2 : cX1_digest.data.toList.drop 48 = dktX1_digest_2 := dk_seg dksX1_digest_1 24 rfl rfl
theorem dksX1_digest_3 : cX1_digest.data.toList.drop 72 = dktX1_digest_3 := dk_seg dksX1_digest_2 24 rfl rfl
theorem dksX1_digest_4 : cX1_digest.data.toList.drop 96 = dktX1_digest_4 := dk_seg dksX1_digest_3 24 rfl rfl
theorem dksX1_digest_5 : cX1_digest.data.toList.drop 120 = dktX1_digest_5 := dk_seg dksX1_digest_4 24 rfl rfl
theorem dX1_digest_0 : decode cX1_digest 0 = .ok (.ldc2_w 185, 3) := dk_20 0 185 (dk_at dksX1_digest_0 0 rfl rfl)
theorem dX1_digest_3 : decode cX1_digest 3 = .ok (.lstore_n 1, 1) := dk_64 (dk_at dksX1_digest_0 3 rfl rfl)
theorem dX1_digest_4 : decode cX1_digest 4 = .ok (.iconst 0, 1) := dk_3 (dk_at dksX1_digest_0 4 rfl rfl)
theorem dX1_digest_5 : decode cX1_digest 5 = .ok (.istore_n 3, 1) := dk_62 (dk_at dksX1_digest_0 5 rfl rfl)
theorem dX1_digest_6 : decode cX1_digest 6 = .ok (.iload_n 3, 1) := dk_29 (dk_at dksX1_digest_0 6 rfl rfl)
theorem dX1_digest_7 : decode cX1_digest 7 = .ok (.bipush 12, 2) := dk_16 12 (dk_at dksX1_digest_0 7 rfl rfl)
theorem dX1_digest_9 : decode cX1_digest 9 = .ok (.if_icmp .ge 22, 3) := dk_162 0 22 (dk_at dksX1_digest_0 9 rfl rfl)
theorem dX1_digest_12 : decode cX1_digest 12 = .ok (.lload_n 1, 1) := dk_31 (dk_at dksX1_digest_0 12 rfl rfl)
theorem dX1_digest_13 : decode cX1_digest 13 = .ok (.ldc2_w 187, 3) := dk_20 0 187 (dk_at dksX1_digest_0 13 rfl rfl)
theorem dX1_digest_16 : decode cX1_digest 16 = .ok (.lmul, 1) := dk_105 (dk_at dksX1_digest_0 16 rfl rfl)
theorem dX1_digest_17 : decode cX1_digest 17 = .ok (.aload_n 0, 1) := dk_42 (dk_at dksX1_digest_0 17 rfl rfl)
theorem dX1_digest_18 : decode cX1_digest 18 = .ok (.iload_n 3, 1) := dk_29 (dk_at dksX1_digest_0 18 rfl rfl)
theorem dX1_digest_19 : decode cX1_digest 19 = .ok (.invokevirtual 160, 3) := dk_182 0 160 (dk_at dksX1_digest_0 19 rfl rfl)
theorem dX1_digest_22 : decode cX1_digest 22 = .ok (.i2l, 1) := dk_133 (dk_at dksX1_digest_0 22 rfl rfl)
theorem dX1_digest_23 : decode cX1_digest 23 = .ok (.ladd, 1) := dk_97 (dk_at dksX1_digest_0 23 rfl rfl)
theorem dX1_digest_24 : decode cX1_digest 24 = .ok (.lstore_n 1, 1) := dk_64 (dk_at dksX1_digest_1 0 rfl rfl)
theorem dX1_digest_25 : decode cX1_digest 25 = .ok (.iinc 3 1, 3) := dk_132 3 1 (dk_at dksX1_digest_1 1 rfl rfl)
theorem dX1_digest_28 : decode cX1_digest 28 = .ok (.goto (-22), 3) := dk_167 255 234 (dk_at dksX1_digest_1 4 rfl rfl)
theorem dX1_digest_31 : decode cX1_digest 31 = .ok (.aload_n 0, 1) := dk_42 (dk_at dksX1_digest_1 7 rfl rfl)
theorem dX1_digest_32 : decode cX1_digest 32 = .ok (.getfield 39, 3) := dk_180 0 39 (dk_at dksX1_digest_1 8 rfl rfl)
theorem dX1_digest_35 : decode cX1_digest 35 = .ok (.getfield 112, 3) := dk_180 0 112 (dk_at dksX1_digest_1 11 rfl rfl)
theorem dX1_digest_38 : decode cX1_digest 38 = .ok (.astore_n 3, 1) := dk_78 (dk_at dksX1_digest_1 14 rfl rfl)
theorem dX1_digest_39 : decode cX1_digest 39 = .ok (.aload_n 3, 1) := dk_45 (dk_at dksX1_digest_1 15 rfl rfl)
theorem dX1_digest_40 : decode cX1_digest 40 = .ok (.arraylength, 1) := dk_190 (dk_at dksX1_digest_1 16 rfl rfl)
theorem dX1_digest_41 : decode cX1_digest 41 = .ok (.istore 4, 2) := dk_54 4 (dk_at dksX1_digest_1 17 rfl rfl)
theorem dX1_digest_43 : decode cX1_digest 43 = .ok (.iconst 0, 1) := dk_3 (dk_at dksX1_digest_1 19 rfl rfl)
theorem dX1_digest_44 : decode cX1_digest 44 = .ok (.istore 5, 2) := dk_54 5 (dk_at dksX1_digest_1 20 rfl rfl)
theorem dX1_digest_46 : decode cX1_digest 46 = .ok (.iload 5, 2) := dk_21 5 (dk_at dksX1_digest_1 22 rfl rfl)
theorem dX1_digest_48 : decode cX1_digest 48 = .ok (.iload 4, 2) := dk_21 4 (dk_at dksX1_digest_2 0 rfl rfl)
theorem dX1_digest_50 : decode cX1_digest 50 = .ok (.if_icmp .ge 25, 3) := dk_162 0 25 (dk_at dksX1_digest_2 2 rfl rfl)
theorem dX1_digest_53 : decode cX1_digest 53 = .ok (.aload_n 3, 1) := dk_45 (dk_at dksX1_digest_2 5 rfl rfl)
theorem dX1_digest_54 : decode cX1_digest 54 = .ok (.iload 5, 2) := dk_21 5 (dk_at dksX1_digest_2 6 rfl rfl)
theorem dX1_digest_56 : decode cX1_digest 56 = .ok (.iaload, 1) := dk_46 (dk_at dksX1_digest_2 8 rfl rfl)
theorem dX1_digest_57 : decode cX1_digest 57 = .ok (.istore 6, 2) := dk_54 6 (dk_at dksX1_digest_2 9 rfl rfl)
theorem dX1_digest_59 : decode cX1_digest 59 = .ok (.lload_n 1, 1) := dk_31 (dk_at dksX1_digest_2 11 rfl rfl)
theorem dX1_digest_60 : decode cX1_digest 60 = .ok (.ldc2_w 187, 3) := dk_20 0 187 (dk_at dksX1_digest_2 12 rfl rfl)
theorem dX1_digest_63 : decode cX1_digest 63 = .ok (.lmul, 1) := dk_105 (dk_at dksX1_digest_2 15 rfl rfl)
theorem dX1_digest_64 : decode cX1_digest 64 = .ok (.iload 6, 2) := dk_21 6 (dk_at dksX1_digest_2 16 rfl rfl)
theorem dX1_digest_66 : decode cX1_digest 66 = .ok (.i2l, 1) := dk_133 (dk_at dksX1_digest_2 18 rfl rfl)
theorem dX1_digest_67 : decode cX1_digest 67 = .ok (.ladd, 1) := dk_97 (dk_at dksX1_digest_2 19 rfl rfl)
theorem dX1_digest_68 : decode cX1_digest 68 = .ok (.lstore_n 1, 1) := dk_64 (dk_at dksX1_digest_2 20 rfl rfl)
theorem dX1_digest_69 : decode cX1_digest 69 = .ok (.iinc 5 1, 3) := dk_132 5 1 (dk_at dksX1_digest_2 21 rfl rfl)
theorem dX1_digest_72 : decode cX1_digest 72 = .ok (.goto (-26), 3) := dk_167 255 230 (dk_at dksX1_digest_3 0 rfl rfl)
theorem dX1_digest_75 : decode cX1_digest 75 = .ok (.iconst 0, 1) := dk_3 (dk_at dksX1_digest_3 3 rfl rfl)
theorem dX1_digest_76 : decode cX1_digest 76 = .ok (.istore_n 3, 1) := dk_62 (dk_at dksX1_digest_3 4 rfl rfl)
theorem dX1_digest_77 : decode cX1_digest 77 = .ok (.iload_n 3, 1) := dk_29 (dk_at dksX1_digest_3 5 rfl rfl)
theorem dX1_digest_78 : decode cX1_digest 78 = .ok (.aload_n 0, 1) := dk_42 (dk_at dksX1_digest_3 6 rfl rfl)
theorem dX1_digest_79 : decode cX1_digest 79 = .ok (.getfield 39, 3) := dk_180 0 39 (dk_at dksX1_digest_3 7 rfl rfl)
theorem dX1_digest_82 : decode cX1_digest 82 = .ok (.getfield 47, 3) := dk_180 0 47 (dk_at dksX1_digest_3 10 rfl rfl)
theorem dX1_digest_85 : decode cX1_digest 85 = .ok (.invokevirtual 51, 3) := dk_182 0 51 (dk_at dksX1_digest_3 13 rfl rfl)
theorem dX1_digest_88 : decode cX1_digest 88 = .ok (.if_icmp .ge 52, 3) := dk_162 0 52 (dk_at dksX1_digest_3 16 rfl rfl)
theorem dX1_digest_91 : decode cX1_digest 91 = .ok (.iconst 0, 1) := dk_3 (dk_at dksX1_digest_3 19 rfl rfl)
theorem dX1_digest_92 : decode cX1_digest 92 = .ok (.istore 4, 2) := dk_54 4 (dk_at dksX1_digest_3 20 rfl rfl)
theorem dX1_digest_94 : decode cX1_digest 94 = .ok (.iload 4, 2) := dk_21 4 (dk_at dksX1_digest_3 22 rfl rfl)
theorem dX1_digest_96 : decode cX1_digest 96 = .ok (.bipush 7, 2) := dk_16 7 (dk_at dksX1_digest_4 0 rfl rfl)
theorem dX1_digest_98 : decode cX1_digest 98 = .ok (.if_icmp .ge 36, 3) := dk_162 0 36 (dk_at dksX1_digest_4 2 rfl rfl)
theorem dX1_digest_101 : decode cX1_digest 101 = .ok (.lload_n 1, 1) := dk_31 (dk_at dksX1_digest_4 5 rfl rfl)
theorem dX1_digest_102 : decode cX1_digest 102 = .ok (.ldc2_w 187, 3) := dk_20 0 187 (dk_at dksX1_digest_4 6 rfl rfl)
theorem dX1_digest_105 : decode cX1_digest 105 = .ok (.lmul, 1) := dk_105 (dk_at dksX1_digest_4 9 rfl rfl)
theorem dX1_digest_106 : decode cX1_digest 106 = .ok (.aload_n 0, 1) := dk_42 (dk_at dksX1_digest_4 10 rfl rfl)
theorem dX1_digest_107 : decode cX1_digest 107 = .ok (.getfield 39, 3) := dk_180 0 39 (dk_at dksX1_digest_4 11 rfl rfl)
theorem dX1_digest_110 : decode cX1_digest 110 = .ok (.getfield 47, 3) := dk_180 0 47 (dk_at dksX1_digest_4 14 rfl rfl)
theorem dX1_digest_113 : decode cX1_digest 113 = .ok (.iload_n 3, 1) := dk_29 (dk_at dksX1_digest_4 17 rfl rfl)
theorem dX1_digest_114 : decode cX1_digest 114 = .ok (.invokevirtual 177, 3) := dk_182 0 177 (dk_at dksX1_digest_4 18 rfl rfl)
theorem dX1_digest_117 : decode cX1_digest 117 = .ok (.checkcast 57, 3) := dk_192 0 57 (dk_at dksX1_digest_4 21 rfl rfl)
theorem dX1_digest_120 : decode cX1_digest 120 = .ok (.iload 4, 2) := dk_21 4 (dk_at dksX1_digest_5 0 rfl rfl)
theorem dX1_digest_122 : decode cX1_digest 122 = .ok (.invokestatic 142, 3) := dk_184 0 142 (dk_at dksX1_digest_5 2 rfl rfl)
theorem dX1_digest_125 : decode cX1_digest 125 = .ok (.i2l, 1) := dk_133 (dk_at dksX1_digest_5 5 rfl rfl)
theorem dX1_digest_126 : decode cX1_digest 126 = .ok (.ladd, 1) := dk_97 (dk_at dksX1_digest_5 6 rfl rfl)
theorem dX1_digest_127 : decode cX1_digest 127 = .ok (.lstore_n 1, 1) := dk_64 (dk_at dksX1_digest_5 7 rfl rfl)
theorem dX1_digest_128 : decode cX1_digest 128 = .ok (.iinc 4 1, 3) := dk_132 4 1 (dk_at dksX1_digest_5 8 rfl rfl)
theorem dX1_digest_131 : decode cX1_digest 131 = .ok (.goto (-37), 3) := dk_167 255 219 (dk_at dksX1_digest_5 11 rfl rfl)
theorem dX1_digest_134 : decode cX1_digest 134 = .ok (.iinc 3 1, 3) := dk_132 3 1 (dk_at dksX1_digest_5 14 rfl rfl)
theorem dX1_digest_137 : decode cX1_digest 137 = .ok (.goto (-60), 3) := dk_167 255 196 (dk_at dksX1_digest_5 17 rfl rfl)
theorem dX1_digest_140 : decode cX1_digest 140 = .ok (.lload_n 1, 1) := dk_31 (dk_at dksX1_digest_5 20 rfl rfl)
theorem dX1_digest_141 : decode cX1_digest 141 = .ok (.lreturn, 1) := dk_173 (dk_at dksX1_digest_5 21 rfl rfl)
abbrev cX1_counted : ByteArray := prog_1_method_15_code
def yX1_counted : MethodName := ⟨RX1, "counted", "(I)I"⟩
def dkwX1_counted_6 : List UInt8 := [160, 0, 7, 4, 167, 0, 4, 3, 182, 0, 156, 172]
abbrev dktX1_counted_6 : List UInt8 := dkwX1_counted_6 ++ []
def dkwX1_counted_5 : List UInt8 := [180, 0, 39, 182, 0, 150, 172, 42, 180, 0, 39, 182, 0, 153, 172, 42, 180, 0, 39, 27, 16, 6]
abbrev dktX1_counted_5 : List UInt8 := dkwX1_counted_5 ++ dktX1_counted_6
def dkwX1_counted_4 : List UInt8 := [180, 0, 47, 182, 0, 51, 172, 42, 180, 0, 39, 182, 0, 146, 172, 42, 180, 0, 39, 182, 0, 148, 172, 42]
abbrev dktX1_counted_4 : List UInt8 := dkwX1_counted_4 ++ dktX1_counted_5
def dkwX1_counted_3 : List UInt8 := [42, 180, 0, 39, 180, 0, 116, 172, 42, 180, 0, 39, 180, 0, 93, 182, 0, 97, 172, 42, 180, 0, 39]
abbrev dktX1_counted_3 : List UInt8 := dkwX1_counted_3 ++ dktX1_counted_4
def dkwX1_counted_2 : List UInt8 := [42, 180, 0, 39, 180, 0, 59, 172, 42, 180, 0, 39, 180, 0, 106, 172, 42, 180, 0, 39, 180, 0, 109, 172]
abbrev dktX1_counted_2 : List UInt8 := dkwX1_counted_2 ++ dktX1_counted_3
def dkwX1_counted_1 : List UInt8 := [170, 0, 0, 0, 0, 0, 149, 0, 0, 0, 0, 0, 0, 0, 11, 0, 0, 0, 63, 0, 0, 0, 71, 0, 0, 0, 79, 0, 0, 0, 87, 0, 0, 0, 95, 0, 0, 0, 106, 0, 0, 0, 149, 0, 0, 0, 149, 0, 0, 0, 117, 0, 0, 0, 125, 0, 0, 0, 133, 0, 0, 0, 141]
abbrev dktX1_counted_1 : List UInt8 := dkwX1_counted_1 ++ dktX1_counted_2
def dkwX1_counted_0 : List UInt8 := [27]
abbrev dktX1_counted_0 : List UInt8 := dkwX1_counted_0 ++ dktX1_counted_1
theorem dksX1_counted_0 : cX1_counted.data.toList.drop 0 = dktX1_counted_0 := by decide +kernel
theorem dksX1_counted_1 : cX1_counted.data.toList.drop 1 = dktX1_counted_1 := dk_seg dksX1_counted_0 1 rfl rfl
theorem dksX1_counted_2 : cX1_counted.data.toList.drop 64 = dktX1_counted_2 := dk_seg dksX1_counted_1 63 rfl rfl
theorem dksX1_counted_3 : cX1_counted.data.toList.drop 88 = dktX1_counted_3 := dk_seg dksX1_counted_2 24 rfl rfl
theorem dksX1_counted_4 : cX1_counted.data.toList.drop 111 = dktX1_counted_4 := dk_seg dksX1_counted_3 23 rfl rfl
theorem dksX1_counted_5 : cX1_counted.data.toList.drop 135 = dktX1_counted_5 := dk_seg dksX1_counted_4 24 rfl rfl
theorem dksX1_counted_6 : cX1_counted.data.toList.drop 157 = dktX1_counted_6 := dk_seg dksX1_counted_5 22 rfl rfl
theorem dX1_counted_0 : decode cX1_counted 0 = .ok (.iload_n 1, 1) := dk_27 (dk_at dksX1_counted_0 0 rfl rfl)
theorem dX1_counted_1 : decode cX1_counted 1 = .ok (.tableswitch 149 0 11 #[63, 71, 79, 87, 95, 106, 149, 149, 117, 125, 133, 141], 63) := by decide +kernel
theorem dX1_counted_64 : decode cX1_counted 64 = .ok (.aload_n 0, 1) := dk_42 (dk_at dksX1_counted_2 0 rfl rfl)
theorem dX1_counted_65 : decode cX1_counted 65 = .ok (.getfield 39, 3) := dk_180 0 39 (dk_at dksX1_counted_2 1 rfl rfl)
theorem dX1_counted_68 : decode cX1_counted 68 = .ok (.getfield 59, 3) := dk_180 0 59 (dk_at dksX1_counted_2 4 rfl rfl)
theorem dX1_counted_71 : decode cX1_counted 71 = .ok (.ireturn, 1) := dk_172 (dk_at dksX1_counted_2 7 rfl rfl)
theorem dX1_counted_72 : decode cX1_counted 72 = .ok (.aload_n 0, 1) := dk_42 (dk_at dksX1_counted_2 8 rfl rfl)
theorem dX1_counted_73 : decode cX1_counted 73 = .ok (.getfield 39, 3) := dk_180 0 39 (dk_at dksX1_counted_2 9 rfl rfl)
theorem dX1_counted_76 : decode cX1_counted 76 = .ok (.getfield 106, 3) := dk_180 0 106 (dk_at dksX1_counted_2 12 rfl rfl)
theorem dX1_counted_79 : decode cX1_counted 79 = .ok (.ireturn, 1) := dk_172 (dk_at dksX1_counted_2 15 rfl rfl)
theorem dX1_counted_80 : decode cX1_counted 80 = .ok (.aload_n 0, 1) := dk_42 (dk_at dksX1_counted_2 16 rfl rfl)
theorem dX1_counted_81 : decode cX1_counted 81 = .ok (.getfield 39, 3) := dk_180 0 39 (dk_at dksX1_counted_2 17 rfl rfl)
theorem dX1_counted_84 : decode cX1_counted 84 = .ok (.getfield 109, 3) := dk_180 0 109 (dk_at dksX1_counted_2 20 rfl rfl)
theorem dX1_counted_87 : decode cX1_counted 87 = .ok (.ireturn, 1) := dk_172 (dk_at dksX1_counted_2 23 rfl rfl)
theorem dX1_counted_88 : decode cX1_counted 88 = .ok (.aload_n 0, 1) := dk_42 (dk_at dksX1_counted_3 0 rfl rfl)
theorem dX1_counted_89 : decode cX1_counted 89 = .ok (.getfield 39, 3) := dk_180 0 39 (dk_at dksX1_counted_3 1 rfl rfl)
theorem dX1_counted_92 : decode cX1_counted 92 = .ok (.getfield 116, 3) := dk_180 0 116 (dk_at dksX1_counted_3 4 rfl rfl)
theorem dX1_counted_95 : decode cX1_counted 95 = .ok (.ireturn, 1) := dk_172 (dk_at dksX1_counted_3 7 rfl rfl)
theorem dX1_counted_96 : decode cX1_counted 96 = .ok (.aload_n 0, 1) := dk_42 (dk_at dksX1_counted_3 8 rfl rfl)
theorem dX1_counted_97 : decode cX1_counted 97 = .ok (.getfield 39, 3) := dk_180 0 39 (dk_at dksX1_counted_3 9 rfl rfl)
theorem dX1_counted_100 : decode cX1_counted 100 = .ok (.getfield 93, 3) := dk_180 0 93 (dk_at dksX1_counted_3 12 rfl rfl)
theorem dX1_counted_103 : decode cX1_counted 103 = .ok (.invokevirtual 97, 3) := dk_182 0 97 (dk_at dksX1_counted_3 15 rfl rfl)
theorem dX1_counted_106 : decode cX1_counted 106 = .ok (.ireturn, 1) := dk_172 (dk_at dksX1_counted_3 18 rfl rfl)
theorem dX1_counted_107 : decode cX1_counted 107 = .ok (.aload_n 0, 1) := dk_42 (dk_at dksX1_counted_3 19 rfl rfl)
theorem dX1_counted_108 : decode cX1_counted 108 = .ok (.getfield 39, 3) := dk_180 0 39 (dk_at dksX1_counted_3 20 rfl rfl)
theorem dX1_counted_111 : decode cX1_counted 111 = .ok (.getfield 47, 3) := dk_180 0 47 (dk_at dksX1_counted_4 0 rfl rfl)
theorem dX1_counted_114 : decode cX1_counted 114 = .ok (.invokevirtual 51, 3) := dk_182 0 51 (dk_at dksX1_counted_4 3 rfl rfl)
theorem dX1_counted_117 : decode cX1_counted 117 = .ok (.ireturn, 1) := dk_172 (dk_at dksX1_counted_4 6 rfl rfl)
theorem dX1_counted_118 : decode cX1_counted 118 = .ok (.aload_n 0, 1) := dk_42 (dk_at dksX1_counted_4 7 rfl rfl)
theorem dX1_counted_119 : decode cX1_counted 119 = .ok (.getfield 39, 3) := dk_180 0 39 (dk_at dksX1_counted_4 8 rfl rfl)
theorem dX1_counted_122 : decode cX1_counted 122 = .ok (.invokevirtual 146, 3) := dk_182 0 146 (dk_at dksX1_counted_4 11 rfl rfl)
theorem dX1_counted_125 : decode cX1_counted 125 = .ok (.ireturn, 1) := dk_172 (dk_at dksX1_counted_4 14 rfl rfl)
theorem dX1_counted_126 : decode cX1_counted 126 = .ok (.aload_n 0, 1) := dk_42 (dk_at dksX1_counted_4 15 rfl rfl)
theorem dX1_counted_127 : decode cX1_counted 127 = .ok (.getfield 39, 3) := dk_180 0 39 (dk_at dksX1_counted_4 16 rfl rfl)
theorem dX1_counted_130 : decode cX1_counted 130 = .ok (.invokevirtual 148, 3) := dk_182 0 148 (dk_at dksX1_counted_4 19 rfl rfl)
theorem dX1_counted_133 : decode cX1_counted 133 = .ok (.ireturn, 1) := dk_172 (dk_at dksX1_counted_4 22 rfl rfl)
theorem dX1_counted_134 : decode cX1_counted 134 = .ok (.aload_n 0, 1) := dk_42 (dk_at dksX1_counted_4 23 rfl rfl)
theorem dX1_counted_135 : decode cX1_counted 135 = .ok (.getfield 39, 3) := dk_180 0 39 (dk_at dksX1_counted_5 0 rfl rfl)
theorem dX1_counted_138 : decode cX1_counted 138 = .ok (.invokevirtual 150, 3) := dk_182 0 150 (dk_at dksX1_counted_5 3 rfl rfl)
theorem dX1_counted_141 : decode cX1_counted 141 = .ok (.ireturn, 1) := dk_172 (dk_at dksX1_counted_5 6 rfl rfl)
theorem dX1_counted_142 : decode cX1_counted 142 = .ok (.aload_n 0, 1) := dk_42 (dk_at dksX1_counted_5 7 rfl rfl)
theorem dX1_counted_143 : decode cX1_counted 143 = .ok (.getfield 39, 3) := dk_180 0 39 (dk_at dksX1_counted_5 8 rfl rfl)
theorem dX1_counted_146 : decode cX1_counted 146 = .ok (.invokevirtual 153, 3) := dk_182 0 153 (dk_at dksX1_counted_5 11 rfl rfl)
theorem dX1_counted_149 : decode cX1_counted 149 = .ok (.ireturn, 1) := dk_172 (dk_at dksX1_counted_5 14 rfl rfl)
theorem dX1_counted_150 : decode cX1_counted 150 = .ok (.aload_n 0, 1) := dk_42 (dk_at dksX1_counted_5 15 rfl rfl)
theorem dX1_counted_151 : decode cX1_counted 151 = .ok (.getfield 39, 3) := dk_180 0 39 (dk_at dksX1_counted_5 16 rfl rfl)
theorem dX1_counted_154 : decode cX1_counted 154 = .ok (.iload_n 1, 1) := dk_27 (dk_at dksX1_counted_5 19 rfl rfl)
theorem dX1_counted_155 : decode cX1_counted 155 = .ok (.bipush 6, 2) := dk_16 6 (dk_at dksX1_counted_5 20 rfl rfl)
theorem dX1_counted_157 : decode cX1_counted 157 = .ok (.if_icmp .ne 7, 3) := dk_160 0 7 (dk_at dksX1_counted_6 0 rfl rfl)
theorem dX1_counted_160 : decode cX1_counted 160 = .ok (.iconst 1, 1) := dk_4 (dk_at dksX1_counted_6 3 rfl rfl)
theorem dX1_counted_161 : decode cX1_counted 161 = .ok (.goto 4, 3) := dk_167 0 4 (dk_at dksX1_counted_6 4 rfl rfl)
theorem dX1_counted_164 : decode cX1_counted 164 = .ok (.iconst 0, 1) := dk_3 (dk_at dksX1_counted_6 7 rfl rfl)
theorem dX1_counted_165 : decode cX1_counted 165 = .ok (.invokevirtual 156, 3) := dk_182 0 156 (dk_at dksX1_counted_6 8 rfl rfl)
theorem dX1_counted_168 : decode cX1_counted 168 = .ok (.ireturn, 1) := dk_172 (dk_at dksX1_counted_6 11 rfl rfl)
abbrev cX1_travellerTold : ByteArray := prog_1_method_13_code
def yX1_travellerTold : MethodName := ⟨RX1, "travellerTold", "(LBridgeBells$Traveller;I)I"⟩
def dkwX1_travellerTold_3 : List UInt8 := [182, 0, 132, 172, 42, 180, 0, 133, 172, 42, 180, 0, 90, 172, 42, 180, 0, 136, 172, 42, 180, 0, 139, 172]
abbrev dktX1_travellerTold_3 : List UInt8 := dkwX1_travellerTold_3 ++ []
def dkwX1_travellerTold_2 : List UInt8 := [42, 180, 0, 125, 153, 0, 7, 4, 167, 0, 4, 3, 172, 42, 180, 0, 129, 172, 42, 180, 0, 87]
abbrev dktX1_travellerTold_2 : List UInt8 := dkwX1_travellerTold_2 ++ dktX1_travellerTold_3
def dkwX1_travellerTold_1 : List UInt8 := [170, 0, 0, 0, 0, 0, 80, 0, 0, 0, 0, 0, 0, 0, 5, 0, 0, 0, 39, 0, 0, 0, 52, 0, 0, 0, 57, 0, 0, 0, 65, 0, 0, 0, 70, 0, 0, 0, 75]
abbrev dktX1_travellerTold_1 : List UInt8 := dkwX1_travellerTold_1 ++ dktX1_travellerTold_2
def dkwX1_travellerTold_0 : List UInt8 := [27]
abbrev dktX1_travellerTold_0 : List UInt8 := dkwX1_travellerTold_0 ++ dktX1_travellerTold_1
theorem dksX1_travellerTold_0 : cX1_travellerTold.data.toList.drop 0 = dktX1_travellerTold_0 := by decide +kernel
theorem dksX1_travellerTold_1 : cX1_travellerTold.data.toList.drop 1 = dktX1_travellerTold_1 := dk_seg dksX1_travellerTold_0 1 rfl rfl
theorem dksX1_travellerTold_2 : cX1_travellerTold.data.toList.drop 40 = dktX1_travellerTold_2 := dk_seg dksX1_travellerTold_1 39 rfl rfl
theorem dksX1_travellerTold_3 : cX1_travellerTold.data.toList.drop 62 = dktX1_travellerTold_3 := dk_seg dksX1_travellerTold_2 22 rfl rfl
theorem dX1_travellerTold_0 : decode cX1_travellerTold 0 = .ok (.iload_n 1, 1) := dk_27 (dk_at dksX1_travellerTold_0 0 rfl rfl)
theorem dX1_travellerTold_1 : decode cX1_travellerTold 1 = .ok (.tableswitch 80 0 5 #[39, 52, 57, 65, 70, 75], 39) := by decide +kernel
theorem dX1_travellerTold_40 : decode cX1_travellerTold 40 = .ok (.aload_n 0, 1) := dk_42 (dk_at dksX1_travellerTold_2 0 rfl rfl)
theorem dX1_travellerTold_41 : decode cX1_travellerTold 41 = .ok (.getfield 125, 3) := dk_180 0 125 (dk_at dksX1_travellerTold_2 1 rfl rfl)
theorem dX1_travellerTold_44 : decode cX1_travellerTold 44 = .ok (.ifCond .eq 7, 3) := dk_153 0 7 (dk_at dksX1_travellerTold_2 4 rfl rfl)
theorem dX1_travellerTold_47 : decode cX1_travellerTold 47 = .ok (.iconst 1, 1) := dk_4 (dk_at dksX1_travellerTold_2 7 rfl rfl)
theorem dX1_travellerTold_48 : decode cX1_travellerTold 48 = .ok (.goto 4, 3) := dk_167 0 4 (dk_at dksX1_travellerTold_2 8 rfl rfl)
theorem dX1_travellerTold_51 : decode cX1_travellerTold 51 = .ok (.iconst 0, 1) := dk_3 (dk_at dksX1_travellerTold_2 11 rfl rfl)
theorem dX1_travellerTold_52 : decode cX1_travellerTold 52 = .ok (.ireturn, 1) := dk_172 (dk_at dksX1_travellerTold_2 12 rfl rfl)
theorem dX1_travellerTold_53 : decode cX1_travellerTold 53 = .ok (.aload_n 0, 1) := dk_42 (dk_at dksX1_travellerTold_2 13 rfl rfl)
theorem dX1_travellerTold_54 : decode cX1_travellerTold 54 = .ok (.getfield 129, 3) := dk_180 0 129 (dk_at dksX1_travellerTold_2 14 rfl rfl)
theorem dX1_travellerTold_57 : decode cX1_travellerTold 57 = .ok (.ireturn, 1) := dk_172 (dk_at dksX1_travellerTold_2 17 rfl rfl)
theorem dX1_travellerTold_58 : decode cX1_travellerTold 58 = .ok (.aload_n 0, 1) := dk_42 (dk_at dksX1_travellerTold_2 18 rfl rfl)
theorem dX1_travellerTold_59 : decode cX1_travellerTold 59 = .ok (.getfield 87, 3) := dk_180 0 87 (dk_at dksX1_travellerTold_2 19 rfl rfl)
theorem dX1_travellerTold_62 : decode cX1_travellerTold 62 = .ok (.invokevirtual 132, 3) := dk_182 0 132 (dk_at dksX1_travellerTold_3 0 rfl rfl)
theorem dX1_travellerTold_65 : decode cX1_travellerTold 65 = .ok (.ireturn, 1) := dk_172 (dk_at dksX1_travellerTold_3 3 rfl rfl)
theorem dX1_travellerTold_66 : decode cX1_travellerTold 66 = .ok (.aload_n 0, 1) := dk_42 (dk_at dksX1_travellerTold_3 4 rfl rfl)
theorem dX1_travellerTold_67 : decode cX1_travellerTold 67 = .ok (.getfield 133, 3) := dk_180 0 133 (dk_at dksX1_travellerTold_3 5 rfl rfl)
theorem dX1_travellerTold_70 : decode cX1_travellerTold 70 = .ok (.ireturn, 1) := dk_172 (dk_at dksX1_travellerTold_3 8 rfl rfl)
theorem dX1_travellerTold_71 : decode cX1_travellerTold 71 = .ok (.aload_n 0, 1) := dk_42 (dk_at dksX1_travellerTold_3 9 rfl rfl)
theorem dX1_travellerTold_72 : decode cX1_travellerTold 72 = .ok (.getfield 90, 3) := dk_180 0 90 (dk_at dksX1_travellerTold_3 10 rfl rfl)
theorem dX1_travellerTold_75 : decode cX1_travellerTold 75 = .ok (.ireturn, 1) := dk_172 (dk_at dksX1_travellerTold_3 13 rfl rfl)
theorem dX1_travellerTold_76 : decode cX1_travellerTold 76 = .ok (.aload_n 0, 1) := dk_42 (dk_at dksX1_travellerTold_3 14 rfl rfl)
theorem dX1_travellerTold_77 : decode cX1_travellerTold 77 = .ok (.getfield 136, 3) := dk_180 0 136 (dk_at dksX1_travellerTold_3 15 rfl rfl)
theorem dX1_travellerTold_80 : decode cX1_travellerTold 80 = .ok (.ireturn, 1) := dk_172 (dk_at dksX1_travellerTold_3 18 rfl rfl)
theorem dX1_travellerTold_81 : decode cX1_travellerTold 81 = .ok (.aload_n 0, 1) := dk_42 (dk_at dksX1_travellerTold_3 19 rfl rfl)
theorem dX1_travellerTold_82 : decode cX1_travellerTold 82 = .ok (.getfield 139, 3) := dk_180 0 139 (dk_at dksX1_travellerTold_3 20 rfl rfl)
theorem dX1_travellerTold_85 : decode cX1_travellerTold 85 = .ok (.ireturn, 1) := dk_172 (dk_at dksX1_travellerTold_3 23 rfl rfl)
abbrev cX1_come : ByteArray := prog_1_method_7_code
def yX1_come : MethodName := ⟨RX1, "come", "(ZI)I"⟩
def dkwX1_come_2 : List UInt8 := [180, 0, 59, 183, 0, 63, 182, 0, 66, 87, 42, 180, 0, 39, 180, 0, 47, 182, 0, 51, 4, 100, 172]
abbrev dktX1_come_2 : List UInt8 := dkwX1_come_2 ++ []
def dkwX1_come_1 : List UInt8 := [167, 0, 4, 3, 184, 0, 54, 42, 180, 0, 39, 180, 0, 47, 187, 0, 57, 89, 27, 28, 42, 180, 0, 39]
abbrev dktX1_come_1 : List UInt8 := dkwX1_come_1 ++ dktX1_come_2
def dkwX1_come_0 : List UInt8 := [4, 16, 6, 28, 184, 0, 43, 42, 180, 0, 39, 180, 0, 47, 182, 0, 51, 16, 40, 162, 0, 7, 4]
abbrev dktX1_come_0 : List UInt8 := dkwX1_come_0 ++ dktX1_come_1
theorem dksX1_come_0 : cX1_come.data.toList.drop 0 = dktX1_come_0 := by decide +kernel
theorem dksX1_come_1 : cX1_come.data.toList.drop 23 = dktX1_come_1 := dk_seg dksX1_come_0 23 rfl rfl
theorem dksX1_come_2 : cX1_come.data.toList.drop 47 = dktX1_come_2 := dk_seg dksX1_come_1 24 rfl rfl
theorem dX1_come_0 : decode cX1_come 0 = .ok (.iconst 1, 1) := dk_4 (dk_at dksX1_come_0 0 rfl rfl)
theorem dX1_come_1 : decode cX1_come 1 = .ok (.bipush 6, 2) := dk_16 6 (dk_at dksX1_come_0 1 rfl rfl)
theorem dX1_come_3 : decode cX1_come 3 = .ok (.iload_n 2, 1) := dk_28 (dk_at dksX1_come_0 3 rfl rfl)
theorem dX1_come_4 : decode cX1_come 4 = .ok (.invokestatic 43, 3) := dk_184 0 43 (dk_at dksX1_come_0 4 rfl rfl)
theorem dX1_come_7 : decode cX1_come 7 = .ok (.aload_n 0, 1) := dk_42 (dk_at dksX1_come_0 7 rfl rfl)
theorem dX1_come_8 : decode cX1_come 8 = .ok (.getfield 39, 3) := dk_180 0 39 (dk_at dksX1_come_0 8 rfl rfl)
theorem dX1_come_11 : decode cX1_come 11 = .ok (.getfield 47, 3) := dk_180 0 47 (dk_at dksX1_come_0 11 rfl rfl)
theorem dX1_come_14 : decode cX1_come 14 = .ok (.invokevirtual 51, 3) := dk_182 0 51 (dk_at dksX1_come_0 14 rfl rfl)
theorem dX1_come_17 : decode cX1_come 17 = .ok (.bipush 40, 2) := dk_16 40 (dk_at dksX1_come_0 17 rfl rfl)
theorem dX1_come_19 : decode cX1_come 19 = .ok (.if_icmp .ge 7, 3) := dk_162 0 7 (dk_at dksX1_come_0 19 rfl rfl)
theorem dX1_come_22 : decode cX1_come 22 = .ok (.iconst 1, 1) := dk_4 (dk_at dksX1_come_0 22 rfl rfl)
theorem dX1_come_23 : decode cX1_come 23 = .ok (.goto 4, 3) := dk_167 0 4 (dk_at dksX1_come_1 0 rfl rfl)
theorem dX1_come_26 : decode cX1_come 26 = .ok (.iconst 0, 1) := dk_3 (dk_at dksX1_come_1 3 rfl rfl)
theorem dX1_come_27 : decode cX1_come 27 = .ok (.invokestatic 54, 3) := dk_184 0 54 (dk_at dksX1_come_1 4 rfl rfl)
theorem dX1_come_30 : decode cX1_come 30 = .ok (.aload_n 0, 1) := dk_42 (dk_at dksX1_come_1 7 rfl rfl)
theorem dX1_come_31 : decode cX1_come 31 = .ok (.getfield 39, 3) := dk_180 0 39 (dk_at dksX1_come_1 8 rfl rfl)
theorem dX1_come_34 : decode cX1_come 34 = .ok (.getfield 47, 3) := dk_180 0 47 (dk_at dksX1_come_1 11 rfl rfl)
theorem dX1_come_37 : decode cX1_come 37 = .ok (.new 57, 3) := dk_187 0 57 (dk_at dksX1_come_1 14 rfl rfl)
theorem dX1_come_40 : decode cX1_come 40 = .ok (.dup, 1) := dk_89 (dk_at dksX1_come_1 17 rfl rfl)
theorem dX1_come_41 : decode cX1_come 41 = .ok (.iload_n 1, 1) := dk_27 (dk_at dksX1_come_1 18 rfl rfl)
theorem dX1_come_42 : decode cX1_come 42 = .ok (.iload_n 2, 1) := dk_28 (dk_at dksX1_come_1 19 rfl rfl)
theorem dX1_come_43 : decode cX1_come 43 = .ok (.aload_n 0, 1) := dk_42 (dk_at dksX1_come_1 20 rfl rfl)
theorem dX1_come_44 : decode cX1_come 44 = .ok (.getfield 39, 3) := dk_180 0 39 (dk_at dksX1_come_1 21 rfl rfl)
theorem dX1_come_47 : decode cX1_come 47 = .ok (.getfield 59, 3) := dk_180 0 59 (dk_at dksX1_come_2 0 rfl rfl)
theorem dX1_come_50 : decode cX1_come 50 = .ok (.invokespecial 63, 3) := dk_183 0 63 (dk_at dksX1_come_2 3 rfl rfl)
theorem dX1_come_53 : decode cX1_come 53 = .ok (.invokevirtual 66, 3) := dk_182 0 66 (dk_at dksX1_come_2 6 rfl rfl)
theorem dX1_come_56 : decode cX1_come 56 = .ok (.pop, 1) := dk_87 (dk_at dksX1_come_2 9 rfl rfl)
theorem dX1_come_57 : decode cX1_come 57 = .ok (.aload_n 0, 1) := dk_42 (dk_at dksX1_come_2 10 rfl rfl)
theorem dX1_come_58 : decode cX1_come 58 = .ok (.getfield 39, 3) := dk_180 0 39 (dk_at dksX1_come_2 11 rfl rfl)
theorem dX1_come_61 : decode cX1_come 61 = .ok (.getfield 47, 3) := dk_180 0 47 (dk_at dksX1_come_2 14 rfl rfl)
theorem dX1_come_64 : decode cX1_come 64 = .ok (.invokevirtual 51, 3) := dk_182 0 51 (dk_at dksX1_come_2 17 rfl rfl)
theorem dX1_come_67 : decode cX1_come 67 = .ok (.iconst 1, 1) := dk_4 (dk_at dksX1_come_2 20 rfl rfl)
theorem dX1_come_68 : decode cX1_come 68 = .ok (.isub, 1) := dk_100 (dk_at dksX1_come_2 21 rfl rfl)
theorem dX1_come_69 : decode cX1_come 69 = .ok (.ireturn, 1) := dk_172 (dk_at dksX1_come_2 22 rfl rfl)
abbrev cX1_requireFrom : ByteArray := prog_1_method_4_code
def yX1_requireFrom : MethodName := ⟨RX1, "requireFrom", "(III)V"⟩
def dkwX1_requireFrom_0 : List UInt8 := [28, 26, 161, 0, 12, 28, 27, 163, 0, 7, 4, 167, 0, 4, 3, 184, 0, 13, 177]
abbrev dktX1_requireFrom_0 : List UInt8 := dkwX1_requireFrom_0 ++ []
theorem dksX1_requireFrom_0 : cX1_requireFrom.data.toList.drop 0 = dktX1_requireFrom_0 := by decide +kernel
theorem dX1_requireFrom_0 : decode cX1_requireFrom 0 = .ok (.iload_n 2, 1) := dk_28 (dk_at dksX1_requireFrom_0 0 rfl rfl)
theorem dX1_requireFrom_1 : decode cX1_requireFrom 1 = .ok (.iload_n 0, 1) := dk_26 (dk_at dksX1_requireFrom_0 1 rfl rfl)
theorem dX1_requireFrom_2 : decode cX1_requireFrom 2 = .ok (.if_icmp .lt 12, 3) := dk_161 0 12 (dk_at dksX1_requireFrom_0 2 rfl rfl)
theorem dX1_requireFrom_5 : decode cX1_requireFrom 5 = .ok (.iload_n 2, 1) := dk_28 (dk_at dksX1_requireFrom_0 5 rfl rfl)
theorem dX1_requireFrom_6 : decode cX1_requireFrom 6 = .ok (.iload_n 1, 1) := dk_27 (dk_at dksX1_requireFrom_0 6 rfl rfl)
theorem dX1_requireFrom_7 : decode cX1_requireFrom 7 = .ok (.if_icmp .gt 7, 3) := dk_163 0 7 (dk_at dksX1_requireFrom_0 7 rfl rfl)
theorem dX1_requireFrom_10 : decode cX1_requireFrom 10 = .ok (.iconst 1, 1) := dk_4 (dk_at dksX1_requireFrom_0 10 rfl rfl)
theorem dX1_requireFrom_11 : decode cX1_requireFrom 11 = .ok (.goto 4, 3) := dk_167 0 4 (dk_at dksX1_requireFrom_0 11 rfl rfl)
theorem dX1_requireFrom_14 : decode cX1_requireFrom 14 = .ok (.iconst 0, 1) := dk_3 (dk_at dksX1_requireFrom_0 14 rfl rfl)
theorem dX1_requireFrom_15 : decode cX1_requireFrom 15 = .ok (.invokestatic 13, 3) := dk_184 0 13 (dk_at dksX1_requireFrom_0 15 rfl rfl)
theorem dX1_requireFrom_18 : decode cX1_requireFrom 18 = .ok (.return_, 1) := dk_177 (dk_at dksX1_requireFrom_0 18 rfl rfl)
abbrev cX1_require : ByteArray := prog_1_method_1_code
def yX1_require : MethodName := ⟨RX1, "require", "(Z)V"⟩
def dkwX1_require_0 : List UInt8 := [26, 154, 0, 11, 187, 0, 1, 89, 183, 0, 3, 191, 177]
abbrev dktX1_require_0 : List UInt8 := dkwX1_require_0 ++ []
theorem dksX1_require_0 : cX1_require.data.toList.drop 0 = dktX1_require_0 := by decide +kernel
theorem dX1_require_0 : decode cX1_require 0 = .ok (.iload_n 0, 1) := dk_26 (dk_at dksX1_require_0 0 rfl rfl)
theorem dX1_require_1 : decode cX1_require 1 = .ok (.ifCond .ne 11, 3) := dk_154 0 11 (dk_at dksX1_require_0 1 rfl rfl)
theorem dX1_require_4 : decode cX1_require 4 = .ok (.new 1, 3) := dk_187 0 1 (dk_at dksX1_require_0 4 rfl rfl)
theorem dX1_require_7 : decode cX1_require 7 = .ok (.dup, 1) := dk_89 (dk_at dksX1_require_0 7 rfl rfl)
theorem dX1_require_8 : decode cX1_require 8 = .ok (.invokespecial 3, 3) := dk_183 0 3 (dk_at dksX1_require_0 8 rfl rfl)
theorem dX1_require_11 : decode cX1_require 11 = .ok (.athrow, 1) := dk_191 (dk_at dksX1_require_0 11 rfl rfl)
theorem dX1_require_12 : decode cX1_require 12 = .ok (.return_, 1) := dk_177 (dk_at dksX1_require_0 12 rfl rfl)
abbrev cX1_requireState : ByteArray := prog_1_method_2_code
def yX1_requireState : MethodName := ⟨RX1, "requireState", "(Z)V"⟩
def dkwX1_requireState_0 : List UInt8 := [26, 154, 0, 11, 187, 0, 7, 89, 183, 0, 9, 191, 177]
abbrev dktX1_requireState_0 : List UInt8 := dkwX1_requireState_0 ++ []
theorem dksX1_requireState_0 : cX1_requireState.data.toList.drop 0 = dktX1_requireState_0 := by decide +kernel
theorem dX1_requireState_0 : decode cX1_requireState 0 = .ok (.iload_n 0, 1) := dk_26 (dk_at dksX1_requireState_0 0 rfl rfl)
theorem dX1_requireState_1 : decode cX1_requireState 1 = .ok (.ifCond .ne 11, 3) := dk_154 0 11 (dk_at dksX1_requireState_0 1 rfl rfl)
theorem dX1_requireState_4 : decode cX1_requireState 4 = .ok (.new 7, 3) := dk_187 0 7 (dk_at dksX1_requireState_0 4 rfl rfl)
theorem dX1_requireState_7 : decode cX1_requireState 7 = .ok (.dup, 1) := dk_89 (dk_at dksX1_requireState_0 7 rfl rfl)
theorem dX1_requireState_8 : decode cX1_requireState 8 = .ok (.invokespecial 9, 3) := dk_183 0 9 (dk_at dksX1_requireState_0 8 rfl rfl)
theorem dX1_requireState_11 : decode cX1_requireState 11 = .ok (.athrow, 1) := dk_191 (dk_at dksX1_requireState_0 11 rfl rfl)
theorem dX1_requireState_12 : decode cX1_requireState 12 = .ok (.return_, 1) := dk_177 (dk_at dksX1_requireState_0 12 rfl rfl)
abbrev cX1_leave : ByteArray := prog_1_method_8_code
def yX1_leave : MethodName := ⟨RX1, "leave", "(I)I"⟩
def dkwX1_leave_1 : List UInt8 := [184, 0, 54, 44, 178, 0, 84, 181, 0, 87, 44, 180, 0, 90, 172]
abbrev dktX1_leave_1 : List UInt8 := dkwX1_leave_1 ++ []
def dkwX1_leave_0 : List UInt8 := [42, 180, 0, 39, 180, 0, 47, 27, 184, 0, 70, 192, 0, 57, 77, 44, 178, 0, 74, 182, 0, 80]
abbrev dktX1_leave_0 : List UInt8 := dkwX1_leave_0 ++ dktX1_leave_1
theorem dksX1_leave_0 : cX1_leave.data.toList.drop 0 = dktX1_leave_0 := by decide +kernel
theorem dksX1_leave_1 : cX1_leave.data.toList.drop 22 = dktX1_leave_1 := dk_seg dksX1_leave_0 22 rfl rfl
theorem dX1_leave_0 : decode cX1_leave 0 = .ok (.aload_n 0, 1) := dk_42 (dk_at dksX1_leave_0 0 rfl rfl)
theorem dX1_leave_1 : decode cX1_leave 1 = .ok (.getfield 39, 3) := dk_180 0 39 (dk_at dksX1_leave_0 1 rfl rfl)
theorem dX1_leave_4 : decode cX1_leave 4 = .ok (.getfield 47, 3) := dk_180 0 47 (dk_at dksX1_leave_0 4 rfl rfl)
theorem dX1_leave_7 : decode cX1_leave 7 = .ok (.iload_n 1, 1) := dk_27 (dk_at dksX1_leave_0 7 rfl rfl)
theorem dX1_leave_8 : decode cX1_leave 8 = .ok (.invokestatic 70, 3) := dk_184 0 70 (dk_at dksX1_leave_0 8 rfl rfl)
theorem dX1_leave_11 : decode cX1_leave 11 = .ok (.checkcast 57, 3) := dk_192 0 57 (dk_at dksX1_leave_0 11 rfl rfl)
theorem dX1_leave_14 : decode cX1_leave 14 = .ok (.astore_n 2, 1) := dk_77 (dk_at dksX1_leave_0 14 rfl rfl)
theorem dX1_leave_15 : decode cX1_leave 15 = .ok (.aload_n 2, 1) := dk_44 (dk_at dksX1_leave_0 15 rfl rfl)
theorem dX1_leave_16 : decode cX1_leave 16 = .ok (.getstatic 74, 3) := dk_178 0 74 (dk_at dksX1_leave_0 16 rfl rfl)
theorem dX1_leave_19 : decode cX1_leave 19 = .ok (.invokevirtual 80, 3) := dk_182 0 80 (dk_at dksX1_leave_0 19 rfl rfl)
theorem dX1_leave_22 : decode cX1_leave 22 = .ok (.invokestatic 54, 3) := dk_184 0 54 (dk_at dksX1_leave_1 0 rfl rfl)
theorem dX1_leave_25 : decode cX1_leave 25 = .ok (.aload_n 2, 1) := dk_44 (dk_at dksX1_leave_1 3 rfl rfl)
theorem dX1_leave_26 : decode cX1_leave 26 = .ok (.getstatic 84, 3) := dk_178 0 84 (dk_at dksX1_leave_1 4 rfl rfl)
theorem dX1_leave_29 : decode cX1_leave 29 = .ok (.putfield 87, 3) := dk_181 0 87 (dk_at dksX1_leave_1 7 rfl rfl)
theorem dX1_leave_32 : decode cX1_leave 32 = .ok (.aload_n 2, 1) := dk_44 (dk_at dksX1_leave_1 10 rfl rfl)
theorem dX1_leave_33 : decode cX1_leave 33 = .ok (.getfield 90, 3) := dk_180 0 90 (dk_at dksX1_leave_1 11 rfl rfl)
theorem dX1_leave_36 : decode cX1_leave 36 = .ok (.ireturn, 1) := dk_172 (dk_at dksX1_leave_1 14 rfl rfl)
abbrev cX1_known : ByteArray := prog_1_method_5_code
def yX1_known : MethodName := ⟨RX1, "known", "(Ljava/util/List;I)Ljava/lang/Object;"⟩
def dkwX1_known_0 : List UInt8 := [27, 42, 185, 0, 19, 1, 0, 184, 0, 25, 42, 27, 185, 0, 29, 2, 0, 176]
abbrev dktX1_known_0 : List UInt8 := dkwX1_known_0 ++ []
theorem dksX1_known_0 : cX1_known.data.toList.drop 0 = dktX1_known_0 := by decide +kernel
theorem dX1_known_0 : decode cX1_known 0 = .ok (.iload_n 1, 1) := dk_27 (dk_at dksX1_known_0 0 rfl rfl)
theorem dX1_known_1 : decode cX1_known 1 = .ok (.aload_n 0, 1) := dk_42 (dk_at dksX1_known_0 1 rfl rfl)
theorem dX1_known_2 : decode cX1_known 2 = .ok (.invokeinterface 19 1, 5) := by decide +kernel
theorem dX1_known_7 : decode cX1_known 7 = .ok (.invokestatic 25, 3) := dk_184 0 25 (dk_at dksX1_known_0 7 rfl rfl)
theorem dX1_known_10 : decode cX1_known 10 = .ok (.aload_n 0, 1) := dk_42 (dk_at dksX1_known_0 10 rfl rfl)
theorem dX1_known_11 : decode cX1_known 11 = .ok (.iload_n 1, 1) := dk_27 (dk_at dksX1_known_0 11 rfl rfl)
theorem dX1_known_12 : decode cX1_known 12 = .ok (.invokeinterface 29 2, 5) := by decide +kernel
theorem dX1_known_17 : decode cX1_known 17 = .ok (.areturn, 1) := dk_176 (dk_at dksX1_known_0 17 rfl rfl)
abbrev cX1_requireIndex : ByteArray := prog_1_method_3_code
def yX1_requireIndex : MethodName := ⟨RX1, "requireIndex", "(II)V"⟩
def dkwX1_requireIndex_0 : List UInt8 := [26, 155, 0, 8, 26, 27, 161, 0, 11, 187, 0, 10, 89, 183, 0, 12, 191, 177]
abbrev dktX1_requireIndex_0 : List UInt8 := dkwX1_requireIndex_0 ++ []
theorem dksX1_requireIndex_0 : cX1_requireIndex.data.toList.drop 0 = dktX1_requireIndex_0 := by decide +kernel
theorem dX1_requireIndex_0 : decode cX1_requireIndex 0 = .ok (.iload_n 0, 1) := dk_26 (dk_at dksX1_requireIndex_0 0 rfl rfl)
theorem dX1_requireIndex_1 : decode cX1_requireIndex 1 = .ok (.ifCond .lt 8, 3) := dk_155 0 8 (dk_at dksX1_requireIndex_0 1 rfl rfl)
theorem dX1_requireIndex_4 : decode cX1_requireIndex 4 = .ok (.iload_n 0, 1) := dk_26 (dk_at dksX1_requireIndex_0 4 rfl rfl)
theorem dX1_requireIndex_5 : decode cX1_requireIndex 5 = .ok (.iload_n 1, 1) := dk_27 (dk_at dksX1_requireIndex_0 5 rfl rfl)
theorem dX1_requireIndex_6 : decode cX1_requireIndex 6 = .ok (.if_icmp .lt 11, 3) := dk_161 0 11 (dk_at dksX1_requireIndex_0 6 rfl rfl)
theorem dX1_requireIndex_9 : decode cX1_requireIndex 9 = .ok (.new 10, 3) := dk_187 0 10 (dk_at dksX1_requireIndex_0 9 rfl rfl)
theorem dX1_requireIndex_12 : decode cX1_requireIndex 12 = .ok (.dup, 1) := dk_89 (dk_at dksX1_requireIndex_0 12 rfl rfl)
theorem dX1_requireIndex_13 : decode cX1_requireIndex 13 = .ok (.invokespecial 12, 3) := dk_183 0 12 (dk_at dksX1_requireIndex_0 13 rfl rfl)
theorem dX1_requireIndex_16 : decode cX1_requireIndex 16 = .ok (.athrow, 1) := dk_191 (dk_at dksX1_requireIndex_0 16 rfl rfl)
theorem dX1_requireIndex_17 : decode cX1_requireIndex 17 = .ok (.return_, 1) := dk_177 (dk_at dksX1_requireIndex_0 17 rfl rfl)
abbrev cX1_ring : ByteArray := prog_1_method_9_code
def yX1_ring : MethodName := ⟨RX1, "ring", "(I)I"⟩
def dkwX1_ring_1 : List UInt8 := [27, 50, 181, 0, 93, 28, 172]
abbrev dktX1_ring_1 : List UInt8 := dkwX1_ring_1 ++ []
def dkwX1_ring_0 : List UInt8 := [3, 7, 27, 184, 0, 43, 42, 180, 0, 39, 180, 0, 93, 182, 0, 97, 61, 42, 180, 0, 39, 184, 0, 102]
abbrev dktX1_ring_0 : List UInt8 := dkwX1_ring_0 ++ dktX1_ring_1
theorem dksX1_ring_0 : cX1_ring.data.toList.drop 0 = dktX1_ring_0 := by decide +kernel
theorem dksX1_ring_1 : cX1_ring.data.toList.drop 24 = dktX1_ring_1 := dk_seg dksX1_ring_0 24 rfl rfl
theorem dX1_ring_0 : decode cX1_ring 0 = .ok (.iconst 0, 1) := dk_3 (dk_at dksX1_ring_0 0 rfl rfl)
theorem dX1_ring_1 : decode cX1_ring 1 = .ok (.iconst 4, 1) := dk_7 (dk_at dksX1_ring_0 1 rfl rfl)
theorem dX1_ring_2 : decode cX1_ring 2 = .ok (.iload_n 1, 1) := dk_27 (dk_at dksX1_ring_0 2 rfl rfl)
theorem dX1_ring_3 : decode cX1_ring 3 = .ok (.invokestatic 43, 3) := dk_184 0 43 (dk_at dksX1_ring_0 3 rfl rfl)
theorem dX1_ring_6 : decode cX1_ring 6 = .ok (.aload_n 0, 1) := dk_42 (dk_at dksX1_ring_0 6 rfl rfl)
theorem dX1_ring_7 : decode cX1_ring 7 = .ok (.getfield 39, 3) := dk_180 0 39 (dk_at dksX1_ring_0 7 rfl rfl)
theorem dX1_ring_10 : decode cX1_ring 10 = .ok (.getfield 93, 3) := dk_180 0 93 (dk_at dksX1_ring_0 10 rfl rfl)
theorem dX1_ring_13 : decode cX1_ring 13 = .ok (.invokevirtual 97, 3) := dk_182 0 97 (dk_at dksX1_ring_0 13 rfl rfl)
theorem dX1_ring_16 : decode cX1_ring 16 = .ok (.istore_n 2, 1) := dk_61 (dk_at dksX1_ring_0 16 rfl rfl)
theorem dX1_ring_17 : decode cX1_ring 17 = .ok (.aload_n 0, 1) := dk_42 (dk_at dksX1_ring_0 17 rfl rfl)
theorem dX1_ring_18 : decode cX1_ring 18 = .ok (.getfield 39, 3) := dk_180 0 39 (dk_at dksX1_ring_0 18 rfl rfl)
theorem dX1_ring_21 : decode cX1_ring 21 = .ok (.invokestatic 102, 3) := dk_184 0 102 (dk_at dksX1_ring_0 21 rfl rfl)
theorem dX1_ring_24 : decode cX1_ring 24 = .ok (.iload_n 1, 1) := dk_27 (dk_at dksX1_ring_1 0 rfl rfl)
theorem dX1_ring_25 : decode cX1_ring 25 = .ok (.aaload, 1) := dk_50 (dk_at dksX1_ring_1 1 rfl rfl)
theorem dX1_ring_26 : decode cX1_ring 26 = .ok (.putfield 93, 3) := dk_181 0 93 (dk_at dksX1_ring_1 2 rfl rfl)
theorem dX1_ring_29 : decode cX1_ring 29 = .ok (.iload_n 2, 1) := dk_28 (dk_at dksX1_ring_1 5 rfl rfl)
theorem dX1_ring_30 : decode cX1_ring 30 = .ok (.ireturn, 1) := dk_172 (dk_at dksX1_ring_1 6 rfl rfl)
abbrev cX1_poise : ByteArray := prog_1_method_10_code
def yX1_poise : MethodName := ⟨RX1, "poise", "(I)I"⟩
def dkwX1_poise_2 : List UInt8 := [180, 0, 39, 27, 181, 0, 109, 28, 172]
abbrev dktX1_poise_2 : List UInt8 := dkwX1_poise_2 ++ []
def dkwX1_poise_1 : List UInt8 := [16, 60, 160, 0, 7, 4, 167, 0, 4, 3, 184, 0, 54, 42, 180, 0, 39, 180, 0, 109, 61, 42]
abbrev dktX1_poise_1 : List UInt8 := dkwX1_poise_1 ++ dktX1_poise_2
def dkwX1_poise_0 : List UInt8 := [3, 16, 30, 27, 184, 0, 43, 42, 180, 0, 39, 180, 0, 106, 153, 0, 15, 42, 180, 0, 39, 180, 0, 106]
abbrev dktX1_poise_0 : List UInt8 := dkwX1_poise_0 ++ dktX1_poise_1
theorem dksX1_poise_0 : cX1_poise.data.toList.drop 0 = dktX1_poise_0 := by decide +kernel
theorem dksX1_poise_1 : cX1_poise.data.toList.drop 24 = dktX1_poise_1 := dk_seg dksX1_poise_0 24 rfl rfl
theorem dksX1_poise_2 : cX1_poise.data.toList.drop 46 = dktX1_poise_2 := dk_seg dksX1_poise_1 22 rfl rfl
theorem dX1_poise_0 : decode cX1_poise 0 = .ok (.iconst 0, 1) := dk_3 (dk_at dksX1_poise_0 0 rfl rfl)
theorem dX1_poise_1 : decode cX1_poise 1 = .ok (.bipush 30, 2) := dk_16 30 (dk_at dksX1_poise_0 1 rfl rfl)
theorem dX1_poise_3 : decode cX1_poise 3 = .ok (.iload_n 1, 1) := dk_27 (dk_at dksX1_poise_0 3 rfl rfl)
theorem dX1_poise_4 : decode cX1_poise 4 = .ok (.invokestatic 43, 3) := dk_184 0 43 (dk_at dksX1_poise_0 4 rfl rfl)
theorem dX1_poise_7 : decode cX1_poise 7 = .ok (.aload_n 0, 1) := dk_42 (dk_at dksX1_poise_0 7 rfl rfl)
theorem dX1_poise_8 : decode cX1_poise 8 = .ok (.getfield 39, 3) := dk_180 0 39 (dk_at dksX1_poise_0 8 rfl rfl)
theorem dX1_poise_11 : decode cX1_poise 11 = .ok (.getfield 106, 3) := dk_180 0 106 (dk_at dksX1_poise_0 11 rfl rfl)
theorem dX1_poise_14 : decode cX1_poise 14 = .ok (.ifCond .eq 15, 3) := dk_153 0 15 (dk_at dksX1_poise_0 14 rfl rfl)
theorem dX1_poise_17 : decode cX1_poise 17 = .ok (.aload_n 0, 1) := dk_42 (dk_at dksX1_poise_0 17 rfl rfl)
theorem dX1_poise_18 : decode cX1_poise 18 = .ok (.getfield 39, 3) := dk_180 0 39 (dk_at dksX1_poise_0 18 rfl rfl)
theorem dX1_poise_21 : decode cX1_poise 21 = .ok (.getfield 106, 3) := dk_180 0 106 (dk_at dksX1_poise_0 21 rfl rfl)
theorem dX1_poise_24 : decode cX1_poise 24 = .ok (.bipush 60, 2) := dk_16 60 (dk_at dksX1_poise_1 0 rfl rfl)
theorem dX1_poise_26 : decode cX1_poise 26 = .ok (.if_icmp .ne 7, 3) := dk_160 0 7 (dk_at dksX1_poise_1 2 rfl rfl)
theorem dX1_poise_29 : decode cX1_poise 29 = .ok (.iconst 1, 1) := dk_4 (dk_at dksX1_poise_1 5 rfl rfl)
theorem dX1_poise_30 : decode cX1_poise 30 = .ok (.goto 4, 3) := dk_167 0 4 (dk_at dksX1_poise_1 6 rfl rfl)
theorem dX1_poise_33 : decode cX1_poise 33 = .ok (.iconst 0, 1) := dk_3 (dk_at dksX1_poise_1 9 rfl rfl)
theorem dX1_poise_34 : decode cX1_poise 34 = .ok (.invokestatic 54, 3) := dk_184 0 54 (dk_at dksX1_poise_1 10 rfl rfl)
theorem dX1_poise_37 : decode cX1_poise 37 = .ok (.aload_n 0, 1) := dk_42 (dk_at dksX1_poise_1 13 rfl rfl)
theorem dX1_poise_38 : decode cX1_poise 38 = .ok (.getfield 39, 3) := dk_180 0 39 (dk_at dksX1_poise_1 14 rfl rfl)
theorem dX1_poise_41 : decode cX1_poise 41 = .ok (.getfield 109, 3) := dk_180 0 109 (dk_at dksX1_poise_1 17 rfl rfl)
theorem dX1_poise_44 : decode cX1_poise 44 = .ok (.istore_n 2, 1) := dk_61 (dk_at dksX1_poise_1 20 rfl rfl)
theorem dX1_poise_45 : decode cX1_poise 45 = .ok (.aload_n 0, 1) := dk_42 (dk_at dksX1_poise_1 21 rfl rfl)
theorem dX1_poise_46 : decode cX1_poise 46 = .ok (.getfield 39, 3) := dk_180 0 39 (dk_at dksX1_poise_2 0 rfl rfl)
theorem dX1_poise_49 : decode cX1_poise 49 = .ok (.iload_n 1, 1) := dk_27 (dk_at dksX1_poise_2 3 rfl rfl)
theorem dX1_poise_50 : decode cX1_poise 50 = .ok (.putfield 109, 3) := dk_181 0 109 (dk_at dksX1_poise_2 4 rfl rfl)
theorem dX1_poise_53 : decode cX1_poise 53 = .ok (.iload_n 2, 1) := dk_28 (dk_at dksX1_poise_2 7 rfl rfl)
theorem dX1_poise_54 : decode cX1_poise 54 = .ok (.ireturn, 1) := dk_172 (dk_at dksX1_poise_2 8 rfl rfl)
abbrev cX1_setCold : ByteArray := prog_1_method_11_code
def yX1_setCold : MethodName := ⟨RX1, "setCold", "(II)I"⟩
def dkwX1_setCold_1 : List UInt8 := [180, 0, 39, 180, 0, 112, 27, 28, 79, 29, 172]
abbrev dktX1_setCold_1 : List UInt8 := dkwX1_setCold_1 ++ []
def dkwX1_setCold_0 : List UInt8 := [27, 16, 8, 184, 0, 25, 16, 253, 6, 28, 184, 0, 43, 42, 180, 0, 39, 180, 0, 112, 27, 46, 62, 42]
abbrev dktX1_setCold_0 : List UInt8 := dkwX1_setCold_0 ++ dktX1_setCold_1
theorem dksX1_setCold_0 : cX1_setCold.data.toList.drop 0 = dktX1_setCold_0 := by decide +kernel
theorem dksX1_setCold_1 : cX1_setCold.data.toList.drop 24 = dktX1_setCold_1 := dk_seg dksX1_setCold_0 24 rfl rfl
theorem dX1_setCold_0 : decode cX1_setCold 0 = .ok (.iload_n 1, 1) := dk_27 (dk_at dksX1_setCold_0 0 rfl rfl)
theorem dX1_setCold_1 : decode cX1_setCold 1 = .ok (.bipush 8, 2) := dk_16 8 (dk_at dksX1_setCold_0 1 rfl rfl)
theorem dX1_setCold_3 : decode cX1_setCold 3 = .ok (.invokestatic 25, 3) := dk_184 0 25 (dk_at dksX1_setCold_0 3 rfl rfl)
theorem dX1_setCold_6 : decode cX1_setCold 6 = .ok (.bipush (-3), 2) := dk_16 253 (dk_at dksX1_setCold_0 6 rfl rfl)
theorem dX1_setCold_8 : decode cX1_setCold 8 = .ok (.iconst 3, 1) := dk_6 (dk_at dksX1_setCold_0 8 rfl rfl)
theorem dX1_setCold_9 : decode cX1_setCold 9 = .ok (.iload_n 2, 1) := dk_28 (dk_at dksX1_setCold_0 9 rfl rfl)
theorem dX1_setCold_10 : decode cX1_setCold 10 = .ok (.invokestatic 43, 3) := dk_184 0 43 (dk_at dksX1_setCold_0 10 rfl rfl)
theorem dX1_setCold_13 : decode cX1_setCold 13 = .ok (.aload_n 0, 1) := dk_42 (dk_at dksX1_setCold_0 13 rfl rfl)
theorem dX1_setCold_14 : decode cX1_setCold 14 = .ok (.getfield 39, 3) := dk_180 0 39 (dk_at dksX1_setCold_0 14 rfl rfl)
theorem dX1_setCold_17 : decode cX1_setCold 17 = .ok (.getfield 112, 3) := dk_180 0 112 (dk_at dksX1_setCold_0 17 rfl rfl)
theorem dX1_setCold_20 : decode cX1_setCold 20 = .ok (.iload_n 1, 1) := dk_27 (dk_at dksX1_setCold_0 20 rfl rfl)
theorem dX1_setCold_21 : decode cX1_setCold 21 = .ok (.iaload, 1) := dk_46 (dk_at dksX1_setCold_0 21 rfl rfl)
theorem dX1_setCold_22 : decode cX1_setCold 22 = .ok (.istore_n 3, 1) := dk_62 (dk_at dksX1_setCold_0 22 rfl rfl)
theorem dX1_setCold_23 : decode cX1_setCold 23 = .ok (.aload_n 0, 1) := dk_42 (dk_at dksX1_setCold_0 23 rfl rfl)
theorem dX1_setCold_24 : decode cX1_setCold 24 = .ok (.getfield 39, 3) := dk_180 0 39 (dk_at dksX1_setCold_1 0 rfl rfl)
theorem dX1_setCold_27 : decode cX1_setCold 27 = .ok (.getfield 112, 3) := dk_180 0 112 (dk_at dksX1_setCold_1 3 rfl rfl)
theorem dX1_setCold_30 : decode cX1_setCold 30 = .ok (.iload_n 1, 1) := dk_27 (dk_at dksX1_setCold_1 6 rfl rfl)
theorem dX1_setCold_31 : decode cX1_setCold 31 = .ok (.iload_n 2, 1) := dk_28 (dk_at dksX1_setCold_1 7 rfl rfl)
theorem dX1_setCold_32 : decode cX1_setCold 32 = .ok (.iastore, 1) := dk_79 (dk_at dksX1_setCold_1 8 rfl rfl)
theorem dX1_setCold_33 : decode cX1_setCold 33 = .ok (.iload_n 3, 1) := dk_29 (dk_at dksX1_setCold_1 9 rfl rfl)
theorem dX1_setCold_34 : decode cX1_setCold 34 = .ok (.ireturn, 1) := dk_172 (dk_at dksX1_setCold_1 10 rfl rfl)
abbrev cX1_traveller : ByteArray := prog_1_method_14_code
def yX1_traveller : MethodName := ⟨RX1, "traveller", "(II)I"⟩
def dkwX1_traveller_1 : List UInt8 := [184, 0, 142, 172]
abbrev dktX1_traveller_1 : List UInt8 := dkwX1_traveller_1 ++ []
def dkwX1_traveller_0 : List UInt8 := [42, 180, 0, 39, 180, 0, 47, 27, 184, 0, 70, 192, 0, 57, 78, 28, 16, 7, 184, 0, 25, 45, 28]
abbrev dktX1_traveller_0 : List UInt8 := dkwX1_traveller_0 ++ dktX1_traveller_1
theorem dksX1_traveller_0 : cX1_traveller.data.toList.drop 0 = dktX1_traveller_0 := by decide +kernel
theorem dksX1_traveller_1 : cX1_traveller.data.toList.drop 23 = dktX1_traveller_1 := dk_seg dksX1_traveller_0 23 rfl rfl
theorem dX1_traveller_0 : decode cX1_traveller 0 = .ok (.aload_n 0, 1) := dk_42 (dk_at dksX1_traveller_0 0 rfl rfl)
theorem dX1_traveller_1 : decode cX1_traveller 1 = .ok (.getfield 39, 3) := dk_180 0 39 (dk_at dksX1_traveller_0 1 rfl rfl)
theorem dX1_traveller_4 : decode cX1_traveller 4 = .ok (.getfield 47, 3) := dk_180 0 47 (dk_at dksX1_traveller_0 4 rfl rfl)
theorem dX1_traveller_7 : decode cX1_traveller 7 = .ok (.iload_n 1, 1) := dk_27 (dk_at dksX1_traveller_0 7 rfl rfl)
theorem dX1_traveller_8 : decode cX1_traveller 8 = .ok (.invokestatic 70, 3) := dk_184 0 70 (dk_at dksX1_traveller_0 8 rfl rfl)
theorem dX1_traveller_11 : decode cX1_traveller 11 = .ok (.checkcast 57, 3) := dk_192 0 57 (dk_at dksX1_traveller_0 11 rfl rfl)
theorem dX1_traveller_14 : decode cX1_traveller 14 = .ok (.astore_n 3, 1) := dk_78 (dk_at dksX1_traveller_0 14 rfl rfl)
theorem dX1_traveller_15 : decode cX1_traveller 15 = .ok (.iload_n 2, 1) := dk_28 (dk_at dksX1_traveller_0 15 rfl rfl)
theorem dX1_traveller_16 : decode cX1_traveller 16 = .ok (.bipush 7, 2) := dk_16 7 (dk_at dksX1_traveller_0 16 rfl rfl)
theorem dX1_traveller_18 : decode cX1_traveller 18 = .ok (.invokestatic 25, 3) := dk_184 0 25 (dk_at dksX1_traveller_0 18 rfl rfl)
theorem dX1_traveller_21 : decode cX1_traveller 21 = .ok (.aload_n 3, 1) := dk_45 (dk_at dksX1_traveller_0 21 rfl rfl)
theorem dX1_traveller_22 : decode cX1_traveller 22 = .ok (.iload_n 2, 1) := dk_28 (dk_at dksX1_traveller_0 22 rfl rfl)
theorem dX1_traveller_23 : decode cX1_traveller 23 = .ok (.invokestatic 142, 3) := dk_184 0 142 (dk_at dksX1_traveller_1 0 rfl rfl)
theorem dX1_traveller_26 : decode cX1_traveller 26 = .ok (.ireturn, 1) := dk_172 (dk_at dksX1_traveller_1 3 rfl rfl)
abbrev cX1_count : ByteArray := prog_1_method_16_code
def yX1_count : MethodName := ⟨RX1, "count", "(I)I"⟩
def dkwX1_count_0 : List UInt8 := [27, 16, 12, 184, 0, 25, 42, 27, 182, 0, 160, 172]
abbrev dktX1_count_0 : List UInt8 := dkwX1_count_0 ++ []
theorem dksX1_count_0 : cX1_count.data.toList.drop 0 = dktX1_count_0 := by decide +kernel
theorem dX1_count_0 : decode cX1_count 0 = .ok (.iload_n 1, 1) := dk_27 (dk_at dksX1_count_0 0 rfl rfl)
theorem dX1_count_1 : decode cX1_count 1 = .ok (.bipush 12, 2) := dk_16 12 (dk_at dksX1_count_0 1 rfl rfl)
theorem dX1_count_3 : decode cX1_count 3 = .ok (.invokestatic 25, 3) := dk_184 0 25 (dk_at dksX1_count_0 3 rfl rfl)
theorem dX1_count_6 : decode cX1_count 6 = .ok (.aload_n 0, 1) := dk_42 (dk_at dksX1_count_0 6 rfl rfl)
theorem dX1_count_7 : decode cX1_count 7 = .ok (.iload_n 1, 1) := dk_27 (dk_at dksX1_count_0 7 rfl rfl)
theorem dX1_count_8 : decode cX1_count 8 = .ok (.invokevirtual 160, 3) := dk_182 0 160 (dk_at dksX1_count_0 8 rfl rfl)
theorem dX1_count_11 : decode cX1_count 11 = .ok (.ireturn, 1) := dk_172 (dk_at dksX1_count_0 11 rfl rfl)
abbrev cX1_pass : ByteArray := prog_1_method_19_code
def yX1_pass : MethodName := ⟨RX1, "pass", "(I)I"⟩
def dkwX1_pass_1 : List UInt8 := [182, 0, 146, 28, 100, 172]
abbrev dktX1_pass_1 : List UInt8 := dkwX1_pass_1 ++ []
def dkwX1_pass_0 : List UInt8 := [4, 17, 0, 240, 27, 184, 0, 43, 42, 180, 0, 39, 182, 0, 146, 61, 42, 180, 0, 39, 27, 184, 0, 170]
abbrev dktX1_pass_0 : List UInt8 := dkwX1_pass_0 ++ dktX1_pass_1
theorem dksX1_pass_0 : cX1_pass.data.toList.drop 0 = dktX1_pass_0 := by decide +kernel
theorem dksX1_pass_1 : cX1_pass.data.toList.drop 24 = dktX1_pass_1 := dk_seg dksX1_pass_0 24 rfl rfl
theorem dX1_pass_0 : decode cX1_pass 0 = .ok (.iconst 1, 1) := dk_4 (dk_at dksX1_pass_0 0 rfl rfl)
theorem dX1_pass_1 : decode cX1_pass 1 = .ok (.sipush 240, 3) := dk_17 0 240 (dk_at dksX1_pass_0 1 rfl rfl)
theorem dX1_pass_4 : decode cX1_pass 4 = .ok (.iload_n 1, 1) := dk_27 (dk_at dksX1_pass_0 4 rfl rfl)
theorem dX1_pass_5 : decode cX1_pass 5 = .ok (.invokestatic 43, 3) := dk_184 0 43 (dk_at dksX1_pass_0 5 rfl rfl)
theorem dX1_pass_8 : decode cX1_pass 8 = .ok (.aload_n 0, 1) := dk_42 (dk_at dksX1_pass_0 8 rfl rfl)
theorem dX1_pass_9 : decode cX1_pass 9 = .ok (.getfield 39, 3) := dk_180 0 39 (dk_at dksX1_pass_0 9 rfl rfl)
theorem dX1_pass_12 : decode cX1_pass 12 = .ok (.invokevirtual 146, 3) := dk_182 0 146 (dk_at dksX1_pass_0 12 rfl rfl)
theorem dX1_pass_15 : decode cX1_pass 15 = .ok (.istore_n 2, 1) := dk_61 (dk_at dksX1_pass_0 15 rfl rfl)
theorem dX1_pass_16 : decode cX1_pass 16 = .ok (.aload_n 0, 1) := dk_42 (dk_at dksX1_pass_0 16 rfl rfl)
theorem dX1_pass_17 : decode cX1_pass 17 = .ok (.getfield 39, 3) := dk_180 0 39 (dk_at dksX1_pass_0 17 rfl rfl)
theorem dX1_pass_20 : decode cX1_pass 20 = .ok (.iload_n 1, 1) := dk_27 (dk_at dksX1_pass_0 20 rfl rfl)
theorem dX1_pass_21 : decode cX1_pass 21 = .ok (.invokestatic 170, 3) := dk_184 0 170 (dk_at dksX1_pass_0 21 rfl rfl)
theorem dX1_pass_24 : decode cX1_pass 24 = .ok (.invokevirtual 146, 3) := dk_182 0 146 (dk_at dksX1_pass_1 0 rfl rfl)
theorem dX1_pass_27 : decode cX1_pass 27 = .ok (.iload_n 2, 1) := dk_28 (dk_at dksX1_pass_1 3 rfl rfl)
theorem dX1_pass_28 : decode cX1_pass 28 = .ok (.isub, 1) := dk_100 (dk_at dksX1_pass_1 4 rfl rfl)
theorem dX1_pass_29 : decode cX1_pass 29 = .ok (.ireturn, 1) := dk_172 (dk_at dksX1_pass_1 5 rfl rfl)
abbrev cX1_pass_2 : ByteArray := prog_1_method_18_code
def yX1_pass_2 : MethodName := ⟨RX1, "pass", "(LBridgeBells$Bridge;I)LBridgeBells$Bridge;"⟩
def dkwX1_pass_2_0 : List UInt8 := [3, 61, 28, 27, 162, 0, 13, 42, 182, 0, 167, 132, 2, 1, 167, 255, 244, 42, 176]
abbrev dktX1_pass_2_0 : List UInt8 := dkwX1_pass_2_0 ++ []
theorem dksX1_pass_2_0 : cX1_pass_2.data.toList.drop 0 = dktX1_pass_2_0 := by decide +kernel
theorem dX1_pass_2_0 : decode cX1_pass_2 0 = .ok (.iconst 0, 1) := dk_3 (dk_at dksX1_pass_2_0 0 rfl rfl)
theorem dX1_pass_2_1 : decode cX1_pass_2 1 = .ok (.istore_n 2, 1) := dk_61 (dk_at dksX1_pass_2_0 1 rfl rfl)
theorem dX1_pass_2_2 : decode cX1_pass_2 2 = .ok (.iload_n 2, 1) := dk_28 (dk_at dksX1_pass_2_0 2 rfl rfl)
theorem dX1_pass_2_3 : decode cX1_pass_2 3 = .ok (.iload_n 1, 1) := dk_27 (dk_at dksX1_pass_2_0 3 rfl rfl)
theorem dX1_pass_2_4 : decode cX1_pass_2 4 = .ok (.if_icmp .ge 13, 3) := dk_162 0 13 (dk_at dksX1_pass_2_0 4 rfl rfl)
theorem dX1_pass_2_7 : decode cX1_pass_2 7 = .ok (.aload_n 0, 1) := dk_42 (dk_at dksX1_pass_2_0 7 rfl rfl)
theorem dX1_pass_2_8 : decode cX1_pass_2 8 = .ok (.invokevirtual 167, 3) := dk_182 0 167 (dk_at dksX1_pass_2_0 8 rfl rfl)
theorem dX1_pass_2_11 : decode cX1_pass_2 11 = .ok (.iinc 2 1, 3) := dk_132 2 1 (dk_at dksX1_pass_2_0 11 rfl rfl)
theorem dX1_pass_2_14 : decode cX1_pass_2 14 = .ok (.goto (-12), 3) := dk_167 255 244 (dk_at dksX1_pass_2_0 14 rfl rfl)
theorem dX1_pass_2_17 : decode cX1_pass_2 17 = .ok (.aload_n 0, 1) := dk_42 (dk_at dksX1_pass_2_0 17 rfl rfl)
theorem dX1_pass_2_18 : decode cX1_pass_2 18 = .ok (.areturn, 1) := dk_176 (dk_at dksX1_pass_2_0 18 rfl rfl)
abbrev cX1_when : ByteArray := prog_1_method_20_code
def yX1_when : MethodName := ⟨RX1, "when", "(I)I"⟩
def dkwX1_when_2 : List UInt8 := [153, 0, 5, 29, 172, 44, 182, 0, 167, 132, 3, 1, 167, 255, 220, 2, 172]
abbrev dktX1_when_2 : List UInt8 := dkwX1_when_2 ++ []
def dkwX1_when_1 : List UInt8 := [17, 1, 144, 163, 0, 35, 44, 180, 0, 47, 27, 182, 0, 177, 192, 0, 57, 178, 0, 178, 182, 0, 80]
abbrev dktX1_when_1 : List UInt8 := dkwX1_when_1 ++ dktX1_when_2
def dkwX1_when_0 : List UInt8 := [42, 180, 0, 39, 180, 0, 47, 27, 184, 0, 70, 87, 42, 180, 0, 39, 182, 0, 173, 77, 3, 62, 29]
abbrev dktX1_when_0 : List UInt8 := dkwX1_when_0 ++ dktX1_when_1
theorem dksX1_when_0 : cX1_when.data.toList.drop 0 = dktX1_when_0 := by decide +kernel
theorem dksX1_when_1 : cX1_when.data.toList.drop 23 = dktX1_when_1 := dk_seg dksX1_when_0 23 rfl rfl
theorem dksX1_when_2 : cX1_when.data.toList.drop 46 = dktX1_when_2 := dk_seg dksX1_when_1 23 rfl rfl
theorem dX1_when_0 : decode cX1_when 0 = .ok (.aload_n 0, 1) := dk_42 (dk_at dksX1_when_0 0 rfl rfl)
theorem dX1_when_1 : decode cX1_when 1 = .ok (.getfield 39, 3) := dk_180 0 39 (dk_at dksX1_when_0 1 rfl rfl)
theorem dX1_when_4 : decode cX1_when 4 = .ok (.getfield 47, 3) := dk_180 0 47 (dk_at dksX1_when_0 4 rfl rfl)
theorem dX1_when_7 : decode cX1_when 7 = .ok (.iload_n 1, 1) := dk_27 (dk_at dksX1_when_0 7 rfl rfl)
theorem dX1_when_8 : decode cX1_when 8 = .ok (.invokestatic 70, 3) := dk_184 0 70 (dk_at dksX1_when_0 8 rfl rfl)
theorem dX1_when_11 : decode cX1_when 11 = .ok (.pop, 1) := dk_87 (dk_at dksX1_when_0 11 rfl rfl)
theorem dX1_when_12 : decode cX1_when 12 = .ok (.aload_n 0, 1) := dk_42 (dk_at dksX1_when_0 12 rfl rfl)
theorem dX1_when_13 : decode cX1_when 13 = .ok (.getfield 39, 3) := dk_180 0 39 (dk_at dksX1_when_0 13 rfl rfl)
theorem dX1_when_16 : decode cX1_when 16 = .ok (.invokevirtual 173, 3) := dk_182 0 173 (dk_at dksX1_when_0 16 rfl rfl)
theorem dX1_when_19 : decode cX1_when 19 = .ok (.astore_n 2, 1) := dk_77 (dk_at dksX1_when_0 19 rfl rfl)
theorem dX1_when_20 : decode cX1_when 20 = .ok (.iconst 0, 1) := dk_3 (dk_at dksX1_when_0 20 rfl rfl)
theorem dX1_when_21 : decode cX1_when 21 = .ok (.istore_n 3, 1) := dk_62 (dk_at dksX1_when_0 21 rfl rfl)
theorem dX1_when_22 : decode cX1_when 22 = .ok (.iload_n 3, 1) := dk_29 (dk_at dksX1_when_0 22 rfl rfl)
theorem dX1_when_23 : decode cX1_when 23 = .ok (.sipush 400, 3) := dk_17 1 144 (dk_at dksX1_when_1 0 rfl rfl)
theorem dX1_when_26 : decode cX1_when 26 = .ok (.if_icmp .gt 35, 3) := dk_163 0 35 (dk_at dksX1_when_1 3 rfl rfl)
theorem dX1_when_29 : decode cX1_when 29 = .ok (.aload_n 2, 1) := dk_44 (dk_at dksX1_when_1 6 rfl rfl)
theorem dX1_when_30 : decode cX1_when 30 = .ok (.getfield 47, 3) := dk_180 0 47 (dk_at dksX1_when_1 7 rfl rfl)
theorem dX1_when_33 : decode cX1_when 33 = .ok (.iload_n 1, 1) := dk_27 (dk_at dksX1_when_1 10 rfl rfl)
theorem dX1_when_34 : decode cX1_when 34 = .ok (.invokevirtual 177, 3) := dk_182 0 177 (dk_at dksX1_when_1 11 rfl rfl)
theorem dX1_when_37 : decode cX1_when 37 = .ok (.checkcast 57, 3) := dk_192 0 57 (dk_at dksX1_when_1 14 rfl rfl)
theorem dX1_when_40 : decode cX1_when 40 = .ok (.getstatic 178, 3) := dk_178 0 178 (dk_at dksX1_when_1 17 rfl rfl)
theorem dX1_when_43 : decode cX1_when 43 = .ok (.invokevirtual 80, 3) := dk_182 0 80 (dk_at dksX1_when_1 20 rfl rfl)
theorem dX1_when_46 : decode cX1_when 46 = .ok (.ifCond .eq 5, 3) := dk_153 0 5 (dk_at dksX1_when_2 0 rfl rfl)
theorem dX1_when_49 : decode cX1_when 49 = .ok (.iload_n 3, 1) := dk_29 (dk_at dksX1_when_2 3 rfl rfl)
theorem dX1_when_50 : decode cX1_when 50 = .ok (.ireturn, 1) := dk_172 (dk_at dksX1_when_2 4 rfl rfl)
theorem dX1_when_51 : decode cX1_when 51 = .ok (.aload_n 2, 1) := dk_44 (dk_at dksX1_when_2 5 rfl rfl)
theorem dX1_when_52 : decode cX1_when 52 = .ok (.invokevirtual 167, 3) := dk_182 0 167 (dk_at dksX1_when_2 6 rfl rfl)
theorem dX1_when_55 : decode cX1_when 55 = .ok (.iinc 3 1, 3) := dk_132 3 1 (dk_at dksX1_when_2 9 rfl rfl)
theorem dX1_when_58 : decode cX1_when 58 = .ok (.goto (-36), 3) := dk_167 255 220 (dk_at dksX1_when_2 12 rfl rfl)
theorem dX1_when_61 : decode cX1_when 61 = .ok (.iconst (-1), 1) := dk_2 (dk_at dksX1_when_2 15 rfl rfl)
theorem dX1_when_62 : decode cX1_when 62 = .ok (.ireturn, 1) := dk_172 (dk_at dksX1_when_2 16 rfl rfl)
abbrev cX1_foresee : ByteArray := prog_1_method_21_code
def yX1_foresee : MethodName := ⟨RX1, "foresee", "(II)I"⟩
def dkwX1_foresee_4 : List UInt8 := [100, 172, 45, 180, 0, 106, 172, 45, 180, 0, 116, 172]
abbrev dktX1_foresee_4 : List UInt8 := dkwX1_foresee_4 ++ []
def dkwX1_foresee_3 : List UInt8 := [45, 182, 0, 146, 42, 180, 0, 39, 182, 0, 146, 100, 172, 45, 182, 0, 148, 42, 180, 0, 39, 182, 0, 148]
abbrev dktX1_foresee_3 : List UInt8 := dkwX1_foresee_3 ++ dktX1_foresee_4
def dkwX1_foresee_2 : List UInt8 := [170, 0, 0, 0, 0, 57, 0, 0, 0, 0, 0, 0, 0, 2, 0, 0, 0, 26, 0, 0, 0, 39, 0, 0, 0, 52]
abbrev dktX1_foresee_2 : List UInt8 := dkwX1_foresee_2 ++ dktX1_foresee_3
def dkwX1_foresee_1 : List UInt8 := [78, 28]
abbrev dktX1_foresee_1 : List UInt8 := dkwX1_foresee_1 ++ dktX1_foresee_2
def dkwX1_foresee_0 : List UInt8 := [4, 17, 0, 240, 27, 184, 0, 43, 28, 7, 184, 0, 25, 42, 180, 0, 39, 182, 0, 173, 27, 184, 0, 170]
abbrev dktX1_foresee_0 : List UInt8 := dkwX1_foresee_0 ++ dktX1_foresee_1
theorem dksX1_foresee_0 : cX1_foresee.data.toList.drop 0 = dktX1_foresee_0 := by decide +kernel
theorem dksX1_foresee_1 : cX1_foresee.data.toList.drop 24 = dktX1_foresee_1 := dk_seg dksX1_foresee_0 24 rfl rfl
theorem dksX1_foresee_2 : cX1_foresee.data.toList.drop 26 = dktX1_foresee_2 := dk_seg dksX1_foresee_1 2 rfl rfl
theorem dksX1_foresee_3 : cX1_foresee.data.toList.drop 52 = dktX1_foresee_3 := dk_seg dksX1_foresee_2 26 rfl rfl
theorem dksX1_foresee_4 : cX1_foresee.data.toList.drop 76 = dktX1_foresee_4 := dk_seg dksX1_foresee_3 24 rfl rfl
theorem dX1_foresee_0 : decode cX1_foresee 0 = .ok (.iconst 1, 1) := dk_4 (dk_at dksX1_foresee_0 0 rfl rfl)
theorem dX1_foresee_1 : decode cX1_foresee 1 = .ok (.sipush 240, 3) := dk_17 0 240 (dk_at dksX1_foresee_0 1 rfl rfl)
theorem dX1_foresee_4 : decode cX1_foresee 4 = .ok (.iload_n 1, 1) := dk_27 (dk_at dksX1_foresee_0 4 rfl rfl)
theorem dX1_foresee_5 : decode cX1_foresee 5 = .ok (.invokestatic 43, 3) := dk_184 0 43 (dk_at dksX1_foresee_0 5 rfl rfl)
theorem dX1_foresee_8 : decode cX1_foresee 8 = .ok (.iload_n 2, 1) := dk_28 (dk_at dksX1_foresee_0 8 rfl rfl)
theorem dX1_foresee_9 : decode cX1_foresee 9 = .ok (.iconst 4, 1) := dk_7 (dk_at dksX1_foresee_0 9 rfl rfl)
theorem dX1_foresee_10 : decode cX1_foresee 10 = .ok (.invokestatic 25, 3) := dk_184 0 25 (dk_at dksX1_foresee_0 10 rfl rfl)
theorem dX1_foresee_13 : decode cX1_foresee 13 = .ok (.aload_n 0, 1) := dk_42 (dk_at dksX1_foresee_0 13 rfl rfl)
theorem dX1_foresee_14 : decode cX1_foresee 14 = .ok (.getfield 39, 3) := dk_180 0 39 (dk_at dksX1_foresee_0 14 rfl rfl)
theorem dX1_foresee_17 : decode cX1_foresee 17 = .ok (.invokevirtual 173, 3) := dk_182 0 173 (dk_at dksX1_foresee_0 17 rfl rfl)
theorem dX1_foresee_20 : decode cX1_foresee 20 = .ok (.iload_n 1, 1) := dk_27 (dk_at dksX1_foresee_0 20 rfl rfl)
theorem dX1_foresee_21 : decode cX1_foresee 21 = .ok (.invokestatic 170, 3) := dk_184 0 170 (dk_at dksX1_foresee_0 21 rfl rfl)
theorem dX1_foresee_24 : decode cX1_foresee 24 = .ok (.astore_n 3, 1) := dk_78 (dk_at dksX1_foresee_1 0 rfl rfl)
theorem dX1_foresee_25 : decode cX1_foresee 25 = .ok (.iload_n 2, 1) := dk_28 (dk_at dksX1_foresee_1 1 rfl rfl)
theorem dX1_foresee_26 : decode cX1_foresee 26 = .ok (.tableswitch 57 0 2 #[26, 39, 52], 26) := by decide +kernel
theorem dX1_foresee_52 : decode cX1_foresee 52 = .ok (.aload_n 3, 1) := dk_45 (dk_at dksX1_foresee_3 0 rfl rfl)
theorem dX1_foresee_53 : decode cX1_foresee 53 = .ok (.invokevirtual 146, 3) := dk_182 0 146 (dk_at dksX1_foresee_3 1 rfl rfl)
theorem dX1_foresee_56 : decode cX1_foresee 56 = .ok (.aload_n 0, 1) := dk_42 (dk_at dksX1_foresee_3 4 rfl rfl)
theorem dX1_foresee_57 : decode cX1_foresee 57 = .ok (.getfield 39, 3) := dk_180 0 39 (dk_at dksX1_foresee_3 5 rfl rfl)
theorem dX1_foresee_60 : decode cX1_foresee 60 = .ok (.invokevirtual 146, 3) := dk_182 0 146 (dk_at dksX1_foresee_3 8 rfl rfl)
theorem dX1_foresee_63 : decode cX1_foresee 63 = .ok (.isub, 1) := dk_100 (dk_at dksX1_foresee_3 11 rfl rfl)
theorem dX1_foresee_64 : decode cX1_foresee 64 = .ok (.ireturn, 1) := dk_172 (dk_at dksX1_foresee_3 12 rfl rfl)
theorem dX1_foresee_65 : decode cX1_foresee 65 = .ok (.aload_n 3, 1) := dk_45 (dk_at dksX1_foresee_3 13 rfl rfl)
theorem dX1_foresee_66 : decode cX1_foresee 66 = .ok (.invokevirtual 148, 3) := dk_182 0 148 (dk_at dksX1_foresee_3 14 rfl rfl)
theorem dX1_foresee_69 : decode cX1_foresee 69 = .ok (.aload_n 0, 1) := dk_42 (dk_at dksX1_foresee_3 17 rfl rfl)
theorem dX1_foresee_70 : decode cX1_foresee 70 = .ok (.getfield 39, 3) := dk_180 0 39 (dk_at dksX1_foresee_3 18 rfl rfl)
theorem dX1_foresee_73 : decode cX1_foresee 73 = .ok (.invokevirtual 148, 3) := dk_182 0 148 (dk_at dksX1_foresee_3 21 rfl rfl)
theorem dX1_foresee_76 : decode cX1_foresee 76 = .ok (.isub, 1) := dk_100 (dk_at dksX1_foresee_4 0 rfl rfl)
theorem dX1_foresee_77 : decode cX1_foresee 77 = .ok (.ireturn, 1) := dk_172 (dk_at dksX1_foresee_4 1 rfl rfl)
theorem dX1_foresee_78 : decode cX1_foresee 78 = .ok (.aload_n 3, 1) := dk_45 (dk_at dksX1_foresee_4 2 rfl rfl)
theorem dX1_foresee_79 : decode cX1_foresee 79 = .ok (.getfield 106, 3) := dk_180 0 106 (dk_at dksX1_foresee_4 3 rfl rfl)
theorem dX1_foresee_82 : decode cX1_foresee 82 = .ok (.ireturn, 1) := dk_172 (dk_at dksX1_foresee_4 6 rfl rfl)
theorem dX1_foresee_83 : decode cX1_foresee 83 = .ok (.aload_n 3, 1) := dk_45 (dk_at dksX1_foresee_4 7 rfl rfl)
theorem dX1_foresee_84 : decode cX1_foresee 84 = .ok (.getfield 116, 3) := dk_180 0 116 (dk_at dksX1_foresee_4 8 rfl rfl)
theorem dX1_foresee_87 : decode cX1_foresee 87 = .ok (.ireturn, 1) := dk_172 (dk_at dksX1_foresee_4 11 rfl rfl)
abbrev cX1_bestCode : ByteArray := prog_1_method_22_code
def yX1_bestCode : MethodName := ⟨RX1, "bestCode", "(I)I"⟩
def dkwX1_bestCode_3 : List UInt8 := [61, 21, 6, 62, 132, 4, 1, 167, 255, 196, 28, 172]
abbrev dktX1_bestCode_3 : List UInt8 := dkwX1_bestCode_3 ++ []
def dkwX1_bestCode_2 : List UInt8 := [184, 0, 170, 182, 0, 148, 54, 6, 28, 2, 159, 0, 12, 21, 6, 29, 161, 0, 6, 167, 0, 9, 21, 4]
abbrev dktX1_bestCode_2 : List UInt8 := dkwX1_bestCode_2 ++ dktX1_bestCode_3
def dkwX1_bestCode_1 : List UInt8 := [180, 0, 39, 182, 0, 173, 58, 5, 25, 5, 184, 0, 102, 21, 4, 50, 181, 0, 93, 25, 5, 27]
abbrev dktX1_bestCode_1 : List UInt8 := dkwX1_bestCode_1 ++ dktX1_bestCode_2
def dkwX1_bestCode_0 : List UInt8 := [4, 17, 0, 240, 27, 184, 0, 43, 2, 61, 3, 62, 3, 54, 4, 21, 4, 7, 162, 0, 60, 42]
abbrev dktX1_bestCode_0 : List UInt8 := dkwX1_bestCode_0 ++ dktX1_bestCode_1
theorem dksX1_bestCode_0 : cX1_bestCode.data.toList.drop 0 = dktX1_bestCode_0 := by decide +kernel
theorem dksX1_bestCode_1 : cX1_bestCode.data.toList.drop 22 = dktX1_bestCode_1 := dk_seg dksX1_bestCode_0 22 rfl rfl
theorem dksX1_bestCode_2 : cX1_bestCode.data.toList.drop 44 = dktX1_bestCode_2 := dk_seg dksX1_bestCode_1 22 rfl rfl
theorem dksX1_bestCode_3 : cX1_bestCode.data.toList.drop 68 = dktX1_bestCode_3 := dk_seg dksX1_bestCode_2 24 rfl rfl
theorem dX1_bestCode_0 : decode cX1_bestCode 0 = .ok (.iconst 1, 1) := dk_4 (dk_at dksX1_bestCode_0 0 rfl rfl)
theorem dX1_bestCode_1 : decode cX1_bestCode 1 = .ok (.sipush 240, 3) := dk_17 0 240 (dk_at dksX1_bestCode_0 1 rfl rfl)
theorem dX1_bestCode_4 : decode cX1_bestCode 4 = .ok (.iload_n 1, 1) := dk_27 (dk_at dksX1_bestCode_0 4 rfl rfl)
theorem dX1_bestCode_5 : decode cX1_bestCode 5 = .ok (.invokestatic 43, 3) := dk_184 0 43 (dk_at dksX1_bestCode_0 5 rfl rfl)
theorem dX1_bestCode_8 : decode cX1_bestCode 8 = .ok (.iconst (-1), 1) := dk_2 (dk_at dksX1_bestCode_0 8 rfl rfl)
theorem dX1_bestCode_9 : decode cX1_bestCode 9 = .ok (.istore_n 2, 1) := dk_61 (dk_at dksX1_bestCode_0 9 rfl rfl)
theorem dX1_bestCode_10 : decode cX1_bestCode 10 = .ok (.iconst 0, 1) := dk_3 (dk_at dksX1_bestCode_0 10 rfl rfl)
theorem dX1_bestCode_11 : decode cX1_bestCode 11 = .ok (.istore_n 3, 1) := dk_62 (dk_at dksX1_bestCode_0 11 rfl rfl)
theorem dX1_bestCode_12 : decode cX1_bestCode 12 = .ok (.iconst 0, 1) := dk_3 (dk_at dksX1_bestCode_0 12 rfl rfl)
theorem dX1_bestCode_13 : decode cX1_bestCode 13 = .ok (.istore 4, 2) := dk_54 4 (dk_at dksX1_bestCode_0 13 rfl rfl)
theorem dX1_bestCode_15 : decode cX1_bestCode 15 = .ok (.iload 4, 2) := dk_21 4 (dk_at dksX1_bestCode_0 15 rfl rfl)
theorem dX1_bestCode_17 : decode cX1_bestCode 17 = .ok (.iconst 4, 1) := dk_7 (dk_at dksX1_bestCode_0 17 rfl rfl)
theorem dX1_bestCode_18 : decode cX1_bestCode 18 = .ok (.if_icmp .ge 60, 3) := dk_162 0 60 (dk_at dksX1_bestCode_0 18 rfl rfl)
theorem dX1_bestCode_21 : decode cX1_bestCode 21 = .ok (.aload_n 0, 1) := dk_42 (dk_at dksX1_bestCode_0 21 rfl rfl)
theorem dX1_bestCode_22 : decode cX1_bestCode 22 = .ok (.getfield 39, 3) := dk_180 0 39 (dk_at dksX1_bestCode_1 0 rfl rfl)
theorem dX1_bestCode_25 : decode cX1_bestCode 25 = .ok (.invokevirtual 173, 3) := dk_182 0 173 (dk_at dksX1_bestCode_1 3 rfl rfl)
theorem dX1_bestCode_28 : decode cX1_bestCode 28 = .ok (.astore 5, 2) := dk_58 5 (dk_at dksX1_bestCode_1 6 rfl rfl)
theorem dX1_bestCode_30 : decode cX1_bestCode 30 = .ok (.aload 5, 2) := dk_25 5 (dk_at dksX1_bestCode_1 8 rfl rfl)
theorem dX1_bestCode_32 : decode cX1_bestCode 32 = .ok (.invokestatic 102, 3) := dk_184 0 102 (dk_at dksX1_bestCode_1 10 rfl rfl)
theorem dX1_bestCode_35 : decode cX1_bestCode 35 = .ok (.iload 4, 2) := dk_21 4 (dk_at dksX1_bestCode_1 13 rfl rfl)
theorem dX1_bestCode_37 : decode cX1_bestCode 37 = .ok (.aaload, 1) := dk_50 (dk_at dksX1_bestCode_1 15 rfl rfl)
theorem dX1_bestCode_38 : decode cX1_bestCode 38 = .ok (.putfield 93, 3) := dk_181 0 93 (dk_at dksX1_bestCode_1 16 rfl rfl)
theorem dX1_bestCode_41 : decode cX1_bestCode 41 = .ok (.aload 5, 2) := dk_25 5 (dk_at dksX1_bestCode_1 19 rfl rfl)
theorem dX1_bestCode_43 : decode cX1_bestCode 43 = .ok (.iload_n 1, 1) := dk_27 (dk_at dksX1_bestCode_1 21 rfl rfl)
theorem dX1_bestCode_44 : decode cX1_bestCode 44 = .ok (.invokestatic 170, 3) := dk_184 0 170 (dk_at dksX1_bestCode_2 0 rfl rfl)
theorem dX1_bestCode_47 : decode cX1_bestCode 47 = .ok (.invokevirtual 148, 3) := dk_182 0 148 (dk_at dksX1_bestCode_2 3 rfl rfl)
theorem dX1_bestCode_50 : decode cX1_bestCode 50 = .ok (.istore 6, 2) := dk_54 6 (dk_at dksX1_bestCode_2 6 rfl rfl)
theorem dX1_bestCode_52 : decode cX1_bestCode 52 = .ok (.iload_n 2, 1) := dk_28 (dk_at dksX1_bestCode_2 8 rfl rfl)
theorem dX1_bestCode_53 : decode cX1_bestCode 53 = .ok (.iconst (-1), 1) := dk_2 (dk_at dksX1_bestCode_2 9 rfl rfl)
theorem dX1_bestCode_54 : decode cX1_bestCode 54 = .ok (.if_icmp .eq 12, 3) := dk_159 0 12 (dk_at dksX1_bestCode_2 10 rfl rfl)
theorem dX1_bestCode_57 : decode cX1_bestCode 57 = .ok (.iload 6, 2) := dk_21 6 (dk_at dksX1_bestCode_2 13 rfl rfl)
theorem dX1_bestCode_59 : decode cX1_bestCode 59 = .ok (.iload_n 3, 1) := dk_29 (dk_at dksX1_bestCode_2 15 rfl rfl)
theorem dX1_bestCode_60 : decode cX1_bestCode 60 = .ok (.if_icmp .lt 6, 3) := dk_161 0 6 (dk_at dksX1_bestCode_2 16 rfl rfl)
theorem dX1_bestCode_63 : decode cX1_bestCode 63 = .ok (.goto 9, 3) := dk_167 0 9 (dk_at dksX1_bestCode_2 19 rfl rfl)
theorem dX1_bestCode_66 : decode cX1_bestCode 66 = .ok (.iload 4, 2) := dk_21 4 (dk_at dksX1_bestCode_2 22 rfl rfl)
theorem dX1_bestCode_68 : decode cX1_bestCode 68 = .ok (.istore_n 2, 1) := dk_61 (dk_at dksX1_bestCode_3 0 rfl rfl)
theorem dX1_bestCode_69 : decode cX1_bestCode 69 = .ok (.iload 6, 2) := dk_21 6 (dk_at dksX1_bestCode_3 1 rfl rfl)
theorem dX1_bestCode_71 : decode cX1_bestCode 71 = .ok (.istore_n 3, 1) := dk_62 (dk_at dksX1_bestCode_3 3 rfl rfl)
theorem dX1_bestCode_72 : decode cX1_bestCode 72 = .ok (.iinc 4 1, 3) := dk_132 4 1 (dk_at dksX1_bestCode_3 4 rfl rfl)
theorem dX1_bestCode_75 : decode cX1_bestCode 75 = .ok (.goto (-60), 3) := dk_167 255 196 (dk_at dksX1_bestCode_3 7 rfl rfl)
theorem dX1_bestCode_78 : decode cX1_bestCode 78 = .ok (.iload_n 2, 1) := dk_28 (dk_at dksX1_bestCode_3 10 rfl rfl)
theorem dX1_bestCode_79 : decode cX1_bestCode 79 = .ok (.ireturn, 1) := dk_172 (dk_at dksX1_bestCode_3 11 rfl rfl)
abbrev cX1_bestPoise : ByteArray := prog_1_method_23_code
def yX1_bestPoise : MethodName := ⟨RX1, "bestPoise", "(I)I"⟩
def dkwX1_bestPoise_3 : List UInt8 := [132, 4, 1, 167, 255, 199, 28, 172]
abbrev dktX1_bestPoise_3 : List UInt8 := dkwX1_bestPoise_3 ++ []
def dkwX1_bestPoise_2 : List UInt8 := [54, 6, 28, 2, 159, 0, 12, 21, 6, 29, 161, 0, 6, 167, 0, 9, 21, 4, 61, 21, 6, 62]
abbrev dktX1_bestPoise_2 : List UInt8 := dkwX1_bestPoise_2 ++ dktX1_bestPoise_3
def dkwX1_bestPoise_1 : List UInt8 := [180, 0, 39, 182, 0, 173, 58, 5, 25, 5, 21, 4, 181, 0, 109, 25, 5, 27, 184, 0, 170, 182, 0, 148]
abbrev dktX1_bestPoise_1 : List UInt8 := dkwX1_bestPoise_1 ++ dktX1_bestPoise_2
def dkwX1_bestPoise_0 : List UInt8 := [4, 17, 0, 240, 27, 184, 0, 43, 2, 61, 3, 62, 3, 54, 4, 21, 4, 16, 30, 163, 0, 56, 42]
abbrev dktX1_bestPoise_0 : List UInt8 := dkwX1_bestPoise_0 ++ dktX1_bestPoise_1
theorem dksX1_bestPoise_0 : cX1_bestPoise.data.toList.drop 0 = dktX1_bestPoise_0 := by decide +kernel
theorem dksX1_bestPoise_1 : cX1_bestPoise.data.toList.drop 23 = dktX1_bestPoise_1 := dk_seg dksX1_bestPoise_0 23 rfl rfl
theorem dksX1_bestPoise_2 : cX1_bestPoise.data.toList.drop 47 = dktX1_bestPoise_2 := dk_seg dksX1_bestPoise_1 24 rfl rfl
theorem dksX1_bestPoise_3 : cX1_bestPoise.data.toList.drop 69 = dktX1_bestPoise_3 := dk_seg dksX1_bestPoise_2 22 rfl rfl
theorem dX1_bestPoise_0 : decode cX1_bestPoise 0 = .ok (.iconst 1, 1) := dk_4 (dk_at dksX1_bestPoise_0 0 rfl rfl)
theorem dX1_bestPoise_1 : decode cX1_bestPoise 1 = .ok (.sipush 240, 3) := dk_17 0 240 (dk_at dksX1_bestPoise_0 1 rfl rfl)
theorem dX1_bestPoise_4 : decode cX1_bestPoise 4 = .ok (.iload_n 1, 1) := dk_27 (dk_at dksX1_bestPoise_0 4 rfl rfl)
theorem dX1_bestPoise_5 : decode cX1_bestPoise 5 = .ok (.invokestatic 43, 3) := dk_184 0 43 (dk_at dksX1_bestPoise_0 5 rfl rfl)
theorem dX1_bestPoise_8 : decode cX1_bestPoise 8 = .ok (.iconst (-1), 1) := dk_2 (dk_at dksX1_bestPoise_0 8 rfl rfl)
theorem dX1_bestPoise_9 : decode cX1_bestPoise 9 = .ok (.istore_n 2, 1) := dk_61 (dk_at dksX1_bestPoise_0 9 rfl rfl)
theorem dX1_bestPoise_10 : decode cX1_bestPoise 10 = .ok (.iconst 0, 1) := dk_3 (dk_at dksX1_bestPoise_0 10 rfl rfl)
theorem dX1_bestPoise_11 : decode cX1_bestPoise 11 = .ok (.istore_n 3, 1) := dk_62 (dk_at dksX1_bestPoise_0 11 rfl rfl)
theorem dX1_bestPoise_12 : decode cX1_bestPoise 12 = .ok (.iconst 0, 1) := dk_3 (dk_at dksX1_bestPoise_0 12 rfl rfl)
theorem dX1_bestPoise_13 : decode cX1_bestPoise 13 = .ok (.istore 4, 2) := dk_54 4 (dk_at dksX1_bestPoise_0 13 rfl rfl)
theorem dX1_bestPoise_15 : decode cX1_bestPoise 15 = .ok (.iload 4, 2) := dk_21 4 (dk_at dksX1_bestPoise_0 15 rfl rfl)
theorem dX1_bestPoise_17 : decode cX1_bestPoise 17 = .ok (.bipush 30, 2) := dk_16 30 (dk_at dksX1_bestPoise_0 17 rfl rfl)
theorem dX1_bestPoise_19 : decode cX1_bestPoise 19 = .ok (.if_icmp .gt 56, 3) := dk_163 0 56 (dk_at dksX1_bestPoise_0 19 rfl rfl)
theorem dX1_bestPoise_22 : decode cX1_bestPoise 22 = .ok (.aload_n 0, 1) := dk_42 (dk_at dksX1_bestPoise_0 22 rfl rfl)
theorem dX1_bestPoise_23 : decode cX1_bestPoise 23 = .ok (.getfield 39, 3) := dk_180 0 39 (dk_at dksX1_bestPoise_1 0 rfl rfl)
theorem dX1_bestPoise_26 : decode cX1_bestPoise 26 = .ok (.invokevirtual 173, 3) := dk_182 0 173 (dk_at dksX1_bestPoise_1 3 rfl rfl)
theorem dX1_bestPoise_29 : decode cX1_bestPoise 29 = .ok (.astore 5, 2) := dk_58 5 (dk_at dksX1_bestPoise_1 6 rfl rfl)
theorem dX1_bestPoise_31 : decode cX1_bestPoise 31 = .ok (.aload 5, 2) := dk_25 5 (dk_at dksX1_bestPoise_1 8 rfl rfl)
theorem dX1_bestPoise_33 : decode cX1_bestPoise 33 = .ok (.iload 4, 2) := dk_21 4 (dk_at dksX1_bestPoise_1 10 rfl rfl)
theorem dX1_bestPoise_35 : decode cX1_bestPoise 35 = .ok (.putfield 109, 3) := dk_181 0 109 (dk_at dksX1_bestPoise_1 12 rfl rfl)
theorem dX1_bestPoise_38 : decode cX1_bestPoise 38 = .ok (.aload 5, 2) := dk_25 5 (dk_at dksX1_bestPoise_1 15 rfl rfl)
theorem dX1_bestPoise_40 : decode cX1_bestPoise 40 = .ok (.iload_n 1, 1) := dk_27 (dk_at dksX1_bestPoise_1 17 rfl rfl)
theorem dX1_bestPoise_41 : decode cX1_bestPoise 41 = .ok (.invokestatic 170, 3) := dk_184 0 170 (dk_at dksX1_bestPoise_1 18 rfl rfl)
theorem dX1_bestPoise_44 : decode cX1_bestPoise 44 = .ok (.invokevirtual 148, 3) := dk_182 0 148 (dk_at dksX1_bestPoise_1 21 rfl rfl)
theorem dX1_bestPoise_47 : decode cX1_bestPoise 47 = .ok (.istore 6, 2) := dk_54 6 (dk_at dksX1_bestPoise_2 0 rfl rfl)
theorem dX1_bestPoise_49 : decode cX1_bestPoise 49 = .ok (.iload_n 2, 1) := dk_28 (dk_at dksX1_bestPoise_2 2 rfl rfl)
theorem dX1_bestPoise_50 : decode cX1_bestPoise 50 = .ok (.iconst (-1), 1) := dk_2 (dk_at dksX1_bestPoise_2 3 rfl rfl)
theorem dX1_bestPoise_51 : decode cX1_bestPoise 51 = .ok (.if_icmp .eq 12, 3) := dk_159 0 12 (dk_at dksX1_bestPoise_2 4 rfl rfl)
theorem dX1_bestPoise_54 : decode cX1_bestPoise 54 = .ok (.iload 6, 2) := dk_21 6 (dk_at dksX1_bestPoise_2 7 rfl rfl)
theorem dX1_bestPoise_56 : decode cX1_bestPoise 56 = .ok (.iload_n 3, 1) := dk_29 (dk_at dksX1_bestPoise_2 9 rfl rfl)
theorem dX1_bestPoise_57 : decode cX1_bestPoise 57 = .ok (.if_icmp .lt 6, 3) := dk_161 0 6 (dk_at dksX1_bestPoise_2 10 rfl rfl)
theorem dX1_bestPoise_60 : decode cX1_bestPoise 60 = .ok (.goto 9, 3) := dk_167 0 9 (dk_at dksX1_bestPoise_2 13 rfl rfl)
theorem dX1_bestPoise_63 : decode cX1_bestPoise 63 = .ok (.iload 4, 2) := dk_21 4 (dk_at dksX1_bestPoise_2 16 rfl rfl)
theorem dX1_bestPoise_65 : decode cX1_bestPoise 65 = .ok (.istore_n 2, 1) := dk_61 (dk_at dksX1_bestPoise_2 18 rfl rfl)
theorem dX1_bestPoise_66 : decode cX1_bestPoise 66 = .ok (.iload 6, 2) := dk_21 6 (dk_at dksX1_bestPoise_2 19 rfl rfl)
theorem dX1_bestPoise_68 : decode cX1_bestPoise 68 = .ok (.istore_n 3, 1) := dk_62 (dk_at dksX1_bestPoise_2 21 rfl rfl)
theorem dX1_bestPoise_69 : decode cX1_bestPoise 69 = .ok (.iinc 4 1, 3) := dk_132 4 1 (dk_at dksX1_bestPoise_3 0 rfl rfl)
theorem dX1_bestPoise_72 : decode cX1_bestPoise 72 = .ok (.goto (-57), 3) := dk_167 255 199 (dk_at dksX1_bestPoise_3 3 rfl rfl)
theorem dX1_bestPoise_75 : decode cX1_bestPoise 75 = .ok (.iload_n 2, 1) := dk_28 (dk_at dksX1_bestPoise_3 6 rfl rfl)
theorem dX1_bestPoise_76 : decode cX1_bestPoise 76 = .ok (.ireturn, 1) := dk_172 (dk_at dksX1_bestPoise_3 7 rfl rfl)
theorem q14 : (Jvm.Cond.initialized "BridgeBells") ∈ lw_all := lw_g (lw_at lw_m1 1 rfl) rfl
theorem q40 : (Jvm.Cond.instantiable "BridgeBells" (1 : Nat)) ∈ lw_all := lw_g (lw_at lw_m1 27 rfl) rfl
theorem q42 : (Jvm.Cond.instanceMethod ({ cls := "BridgeBells", name := "<init>", desc := "()V" } : Jvm.MethodName)) ∈ lw_all := lw_g (lw_at lw_m1 29 rfl) rfl
theorem q43 : (Jvm.Cond.code ({ cls := "BridgeBells", name := "<init>", desc := "()V" } : Jvm.MethodName) prog_1_method_6_code (1 : Nat) (Option.none : Option Jvm.ClassFile.FieldType)) ∈ lw_all := lw_g (lw_at lw_m1 30 rfl) rfl
theorem q44 : (Jvm.Cond.methodLink "BridgeBells" (33 : Nat) ({ cls := "java/lang/Object", name := "<init>", desc := "()V" } : Jvm.MethodName)) ∈ lw_all := lw_g (lw_at lw_m1 31 rfl) rfl
theorem q47 : (Jvm.Cond.classLink "BridgeBells" (36 : Nat) "BridgeBells$Bridge") ∈ lw_all := lw_g (lw_at lw_m1 34 rfl) rfl
theorem q49 : (Jvm.Cond.methodLinkNest "BridgeBells" (38 : Nat) ({ cls := "BridgeBells$Bridge", name := "<init>", desc := "()V" } : Jvm.MethodName) "BridgeBells") ∈ lw_tbl := lw_at lw_m1 36 rfl
theorem q83 : (Jvm.Cond.fieldLinkNest "BridgeBells" (59 : Nat) "BridgeBells$Bridge" "minute" "I" "BridgeBells") ∈ lw_tbl := lw_at lw_m1 70 rfl
theorem q85 : (Jvm.Cond.fieldLinkNest "BridgeBells" (106 : Nat) "BridgeBells$Bridge" "angle" "I" "BridgeBells") ∈ lw_tbl := lw_at lw_m1 72 rfl
theorem q87 : (Jvm.Cond.fieldLinkNest "BridgeBells" (109 : Nat) "BridgeBells$Bridge" "poise" "I" "BridgeBells") ∈ lw_tbl := lw_at lw_m1 74 rfl
theorem q89 : (Jvm.Cond.fieldLinkNest "BridgeBells" (116 : Nat) "BridgeBells$Bridge" "ice" "I" "BridgeBells") ∈ lw_tbl := lw_at lw_m1 76 rfl
theorem q91 : (Jvm.Cond.fieldLinkNest "BridgeBells" (93 : Nat) "BridgeBells$Bridge" "code" "LBridgeBells$Code;" "BridgeBells") ∈ lw_tbl := lw_at lw_m1 78 rfl
theorem q95 : (Jvm.Cond.fieldLinkNest "BridgeBells" (112 : Nat) "BridgeBells$Bridge" "cold" "[I" "BridgeBells") ∈ lw_tbl := lw_at lw_m1 82 rfl
theorem q97 : (Jvm.Cond.fieldLinkNest "BridgeBells" (47 : Nat) "BridgeBells$Bridge" "travellers" "Ljava/util/ArrayList;" "BridgeBells") ∈ lw_tbl := lw_at lw_m1 84 rfl
theorem q115 : (Jvm.Cond.fieldLink "BridgeBells" (39 : Nat) "BridgeBells" "bridge" "LBridgeBells$Bridge;") ∈ lw_all := lw_g (lw_at lw_m1 102 rfl) rfl
theorem q116 : (Jvm.Cond.laysFinal "BridgeBells" "BridgeBells" "bridge" "LBridgeBells$Bridge;") ∈ lw_all := lw_g (lw_at lw_m1 103 rfl) rfl
theorem q117 : (Jvm.Cond.soleField "BridgeBells" "bridge") ∈ lw_all := lw_g (lw_at lw_m1 104 rfl) rfl
theorem q118 : (Jvm.Cond.superclass "BridgeBells" "java/lang/Object") ∈ lw_all := lw_g (lw_at lw_m1 105 rfl) rfl
theorem q120 : (Jvm.Cond.instanceMethod ({ cls := "BridgeBells", name := "crack", desc := "()I" } : Jvm.MethodName)) ∈ lw_all := lw_g (lw_at lw_m1 107 rfl) rfl
theorem q121 : (Jvm.Cond.selects "BridgeBells" ({ cls := "BridgeBells", name := "crack", desc := "()I" } : Jvm.MethodName) ({ cls := "BridgeBells", name := "crack", desc := "()I" } : Jvm.MethodName)) ∈ lw_all := lw_g (lw_at lw_m1 108 rfl) rfl
theorem q122 : (Jvm.Cond.code ({ cls := "BridgeBells", name := "crack", desc := "()I" } : Jvm.MethodName) prog_1_method_12_code (1 : Nat) (Option.some Jvm.ClassFile.FieldType.int)) ∈ lw_all := lw_g (lw_at lw_m1 109 rfl) rfl
theorem q123 : (Jvm.Cond.methodLink "BridgeBells" (119 : Nat) ({ cls := "java/lang/Math", name := "max", desc := "(II)I" } : Jvm.MethodName)) ∈ lw_all := lw_g (lw_at lw_m1 110 rfl) rfl
theorem q127 : (Jvm.Cond.instanceMethod ({ cls := "BridgeBells", name := "speed", desc := "(Z)I" } : Jvm.MethodName)) ∈ lw_all := lw_g (lw_at lw_m1 114 rfl) rfl
theorem q128 : (Jvm.Cond.selects "BridgeBells" ({ cls := "BridgeBells", name := "speed", desc := "(Z)I" } : Jvm.MethodName) ({ cls := "BridgeBells", name := "speed", desc := "(Z)I" } : Jvm.MethodName)) ∈ lw_all := lw_g (lw_at lw_m1 115 rfl) rfl
theorem q129 : (Jvm.Cond.code ({ cls := "BridgeBells", name := "speed", desc := "(Z)I" } : Jvm.MethodName) prog_1_method_17_code (2 : Nat) (Option.some Jvm.ClassFile.FieldType.int)) ∈ lw_all := lw_g (lw_at lw_m1 116 rfl) rfl
theorem q130 : (Jvm.Cond.methodLink "BridgeBells" (164 : Nat) ({ cls := "BridgeBells$Bridge", name := "speed", desc := "(Z)I" } : Jvm.MethodName)) ∈ lw_all := lw_g (lw_at lw_m1 117 rfl) rfl
theorem q136 : (Jvm.Cond.instanceMethod ({ cls := "BridgeBells", name := "mean", desc := "()D" } : Jvm.MethodName)) ∈ lw_all := lw_g (lw_at lw_m1 123 rfl) rfl
theorem q137 : (Jvm.Cond.selects "BridgeBells" ({ cls := "BridgeBells", name := "mean", desc := "()D" } : Jvm.MethodName) ({ cls := "BridgeBells", name := "mean", desc := "()D" } : Jvm.MethodName)) ∈ lw_all := lw_g (lw_at lw_m1 124 rfl) rfl
theorem q138 : (Jvm.Cond.code ({ cls := "BridgeBells", name := "mean", desc := "()D" } : Jvm.MethodName) prog_1_method_24_code (1 : Nat) (Option.some Jvm.ClassFile.FieldType.double)) ∈ lw_all := lw_g (lw_at lw_m1 125 rfl) rfl
theorem q139 : (Jvm.Cond.methodLink "BridgeBells" (181 : Nat) ({ cls := "java/util/ArrayList", name := "isEmpty", desc := "()Z" } : Jvm.MethodName)) ∈ lw_all := lw_g (lw_at lw_m1 126 rfl) rfl
theorem q143 : (Jvm.Cond.methodLink "BridgeBells" (148 : Nat) ({ cls := "BridgeBells$Bridge", name := "waited", desc := "()I" } : Jvm.MethodName)) ∈ lw_all := lw_g (lw_at lw_m1 130 rfl) rfl
theorem q166 : (Jvm.Cond.methodLink "BridgeBells" (51 : Nat) ({ cls := "java/util/ArrayList", name := "size", desc := "()I" } : Jvm.MethodName)) ∈ lw_all := lw_g (lw_at lw_m1 153 rfl) rfl
theorem q168 : (Jvm.Cond.instanceMethod ({ cls := "BridgeBells", name := "digest", desc := "()J" } : Jvm.MethodName)) ∈ lw_all := lw_g (lw_at lw_m1 155 rfl) rfl
theorem q169 : (Jvm.Cond.selects "BridgeBells" ({ cls := "BridgeBells", name := "digest", desc := "()J" } : Jvm.MethodName) ({ cls := "BridgeBells", name := "digest", desc := "()J" } : Jvm.MethodName)) ∈ lw_all := lw_g (lw_at lw_m1 156 rfl) rfl
theorem q170 : (Jvm.Cond.code ({ cls := "BridgeBells", name := "digest", desc := "()J" } : Jvm.MethodName) prog_1_method_25_code (7 : Nat) (Option.some Jvm.ClassFile.FieldType.long)) ∈ lw_all := lw_g (lw_at lw_m1 157 rfl) rfl
theorem q171 : (Jvm.Cond.constantLong "BridgeBells" (185 : Nat) (1021 : Int64)) ∈ lw_all := lw_g (lw_at lw_m1 158 rfl) rfl
theorem q172 : (Jvm.Cond.constantLong "BridgeBells" (187 : Nat) (31 : Int64)) ∈ lw_all := lw_g (lw_at lw_m1 159 rfl) rfl
theorem q173 : (Jvm.Cond.methodLink "BridgeBells" (160 : Nat) ({ cls := "BridgeBells", name := "counted", desc := "(I)I" } : Jvm.MethodName)) ∈ lw_all := lw_g (lw_at lw_m1 160 rfl) rfl
theorem q174 : (Jvm.Cond.privateMethod ({ cls := "BridgeBells", name := "counted", desc := "(I)I" } : Jvm.MethodName)) ∈ lw_tbl := lw_at lw_m1 161 rfl
theorem q175 : (Jvm.Cond.instanceMethod ({ cls := "BridgeBells", name := "counted", desc := "(I)I" } : Jvm.MethodName)) ∈ lw_all := lw_g (lw_at lw_m1 162 rfl) rfl
theorem q176 : (Jvm.Cond.code ({ cls := "BridgeBells", name := "counted", desc := "(I)I" } : Jvm.MethodName) prog_1_method_15_code (2 : Nat) (Option.some Jvm.ClassFile.FieldType.int)) ∈ lw_all := lw_g (lw_at lw_m1 163 rfl) rfl
theorem q177 : (Jvm.Cond.methodLink "BridgeBells" (97 : Nat) ({ cls := "BridgeBells$Code", name := "ordinal", desc := "()I" } : Jvm.MethodName)) ∈ lw_all := lw_g (lw_at lw_m1 164 rfl) rfl
theorem q187 : (Jvm.Cond.methodLink "BridgeBells" (146 : Nat) ({ cls := "BridgeBells$Bridge", name := "passed", desc := "()I" } : Jvm.MethodName)) ∈ lw_all := lw_g (lw_at lw_m1 174 rfl) rfl
theorem q197 : (Jvm.Cond.methodLink "BridgeBells" (150 : Nat) ({ cls := "BridgeBells$Bridge", name := "passing", desc := "()I" } : Jvm.MethodName)) ∈ lw_all := lw_g (lw_at lw_m1 184 rfl) rfl
theorem q203 : (Jvm.Cond.methodLink "BridgeBells" (153 : Nat) ({ cls := "BridgeBells$Bridge", name := "next", desc := "()I" } : Jvm.MethodName)) ∈ lw_all := lw_g (lw_at lw_m1 190 rfl) rfl
theorem q246 : (Jvm.Cond.methodLink "BridgeBells" (156 : Nat) ({ cls := "BridgeBells$Bridge", name := "waiting", desc := "(Z)I" } : Jvm.MethodName)) ∈ lw_all := lw_g (lw_at lw_m1 233 rfl) rfl
theorem q250 : (Jvm.Cond.methodLink "BridgeBells" (177 : Nat) ({ cls := "java/util/ArrayList", name := "get", desc := "(I)Ljava/lang/Object;" } : Jvm.MethodName)) ∈ lw_all := lw_g (lw_at lw_m1 237 rfl) rfl
theorem q251 : (Jvm.Cond.classLink "BridgeBells" (57 : Nat) "BridgeBells$Traveller") ∈ lw_all := lw_g (lw_at lw_m1 238 rfl) rfl
theorem q252 : (Jvm.Cond.methodLink "BridgeBells" (142 : Nat) ({ cls := "BridgeBells", name := "travellerTold", desc := "(LBridgeBells$Traveller;I)I" } : Jvm.MethodName)) ∈ lw_all := lw_g (lw_at lw_m1 239 rfl) rfl
theorem q253 : (Jvm.Cond.static ({ cls := "BridgeBells", name := "travellerTold", desc := "(LBridgeBells$Traveller;I)I" } : Jvm.MethodName)) ∈ lw_all := lw_g (lw_at lw_m2 0 rfl) rfl
theorem q254 : (Jvm.Cond.code ({ cls := "BridgeBells", name := "travellerTold", desc := "(LBridgeBells$Traveller;I)I" } : Jvm.MethodName) prog_1_method_13_code (2 : Nat) (Option.some Jvm.ClassFile.FieldType.int)) ∈ lw_all := lw_g (lw_at lw_m2 1 rfl) rfl
theorem q255 : (Jvm.Cond.methodLink "BridgeBells" (132 : Nat) ({ cls := "BridgeBells$State", name := "ordinal", desc := "()I" } : Jvm.MethodName)) ∈ lw_all := lw_g (lw_at lw_m2 2 rfl) rfl
theorem q264 : (Jvm.Cond.instanceMethod ({ cls := "BridgeBells", name := "come", desc := "(ZI)I" } : Jvm.MethodName)) ∈ lw_all := lw_g (lw_at lw_m2 11 rfl) rfl
theorem q265 : (Jvm.Cond.selects "BridgeBells" ({ cls := "BridgeBells", name := "come", desc := "(ZI)I" } : Jvm.MethodName) ({ cls := "BridgeBells", name := "come", desc := "(ZI)I" } : Jvm.MethodName)) ∈ lw_all := lw_g (lw_at lw_m2 12 rfl) rfl
theorem q266 : (Jvm.Cond.code ({ cls := "BridgeBells", name := "come", desc := "(ZI)I" } : Jvm.MethodName) prog_1_method_7_code (3 : Nat) (Option.some Jvm.ClassFile.FieldType.int)) ∈ lw_all := lw_g (lw_at lw_m2 13 rfl) rfl
theorem q267 : (Jvm.Cond.methodLink "BridgeBells" (43 : Nat) ({ cls := "BridgeBells", name := "requireFrom", desc := "(III)V" } : Jvm.MethodName)) ∈ lw_all := lw_g (lw_at lw_m2 14 rfl) rfl
theorem q268 : (Jvm.Cond.static ({ cls := "BridgeBells", name := "requireFrom", desc := "(III)V" } : Jvm.MethodName)) ∈ lw_all := lw_g (lw_at lw_m2 15 rfl) rfl
theorem q269 : (Jvm.Cond.code ({ cls := "BridgeBells", name := "requireFrom", desc := "(III)V" } : Jvm.MethodName) prog_1_method_4_code (3 : Nat) (Option.none : Option Jvm.ClassFile.FieldType)) ∈ lw_all := lw_g (lw_at lw_m2 16 rfl) rfl
theorem q270 : (Jvm.Cond.methodLink "BridgeBells" (13 : Nat) ({ cls := "BridgeBells", name := "require", desc := "(Z)V" } : Jvm.MethodName)) ∈ lw_all := lw_g (lw_at lw_m2 17 rfl) rfl
theorem q271 : (Jvm.Cond.static ({ cls := "BridgeBells", name := "require", desc := "(Z)V" } : Jvm.MethodName)) ∈ lw_all := lw_g (lw_at lw_m2 18 rfl) rfl
theorem q272 : (Jvm.Cond.code ({ cls := "BridgeBells", name := "require", desc := "(Z)V" } : Jvm.MethodName) prog_1_method_1_code (1 : Nat) (Option.none : Option Jvm.ClassFile.FieldType)) ∈ lw_all := lw_g (lw_at lw_m2 19 rfl) rfl
theorem q273 : (Jvm.Cond.classLink "BridgeBells" (1 : Nat) "java/lang/IllegalArgumentException") ∈ lw_all := lw_g (lw_at lw_m2 20 rfl) rfl
theorem q315 : (Jvm.Cond.methodLink "BridgeBells" (3 : Nat) ({ cls := "java/lang/IllegalArgumentException", name := "<init>", desc := "()V" } : Jvm.MethodName)) ∈ lw_all := lw_g (lw_at lw_m2 62 rfl) rfl
theorem q338 : (Jvm.Cond.methodLink "BridgeBells" (54 : Nat) ({ cls := "BridgeBells", name := "requireState", desc := "(Z)V" } : Jvm.MethodName)) ∈ lw_all := lw_g (lw_at lw_m2 85 rfl) rfl
theorem q339 : (Jvm.Cond.static ({ cls := "BridgeBells", name := "requireState", desc := "(Z)V" } : Jvm.MethodName)) ∈ lw_all := lw_g (lw_at lw_m2 86 rfl) rfl
theorem q340 : (Jvm.Cond.code ({ cls := "BridgeBells", name := "requireState", desc := "(Z)V" } : Jvm.MethodName) prog_1_method_2_code (1 : Nat) (Option.none : Option Jvm.ClassFile.FieldType)) ∈ lw_all := lw_g (lw_at lw_m2 87 rfl) rfl
theorem q341 : (Jvm.Cond.classLink "BridgeBells" (7 : Nat) "java/lang/IllegalStateException") ∈ lw_all := lw_g (lw_at lw_m2 88 rfl) rfl
theorem q350 : (Jvm.Cond.methodLink "BridgeBells" (9 : Nat) ({ cls := "java/lang/IllegalStateException", name := "<init>", desc := "()V" } : Jvm.MethodName)) ∈ lw_all := lw_g (lw_at lw_m2 97 rfl) rfl
theorem q357 : (Jvm.Cond.methodLink "BridgeBells" (63 : Nat) ({ cls := "BridgeBells$Traveller", name := "<init>", desc := "(ZII)V" } : Jvm.MethodName)) ∈ lw_all := lw_g (lw_at lw_m2 104 rfl) rfl
theorem q364 : (Jvm.Cond.fieldLink "BridgeBells" (125 : Nat) "BridgeBells$Traveller" "barge" "Z") ∈ lw_all := lw_g (lw_at lw_m2 111 rfl) rfl
theorem q366 : (Jvm.Cond.fieldLink "BridgeBells" (129 : Nat) "BridgeBells$Traveller" "minutes" "I") ∈ lw_all := lw_g (lw_at lw_m2 113 rfl) rfl
theorem q368 : (Jvm.Cond.fieldLink "BridgeBells" (133 : Nat) "BridgeBells$Traveller" "came" "I") ∈ lw_all := lw_g (lw_at lw_m2 115 rfl) rfl
theorem q370 : (Jvm.Cond.fieldLinkNest "BridgeBells" (87 : Nat) "BridgeBells$Traveller" "state" "LBridgeBells$State;" "BridgeBells") ∈ lw_tbl := lw_at lw_m2 117 rfl
theorem q372 : (Jvm.Cond.fieldLinkNest "BridgeBells" (90 : Nat) "BridgeBells$Traveller" "waited" "I" "BridgeBells") ∈ lw_tbl := lw_at lw_m2 119 rfl
theorem q375 : (Jvm.Cond.fieldLinkNest "BridgeBells" (136 : Nat) "BridgeBells$Traveller" "left" "I" "BridgeBells") ∈ lw_tbl := lw_at lw_m2 122 rfl
theorem q377 : (Jvm.Cond.fieldLinkNest "BridgeBells" (139 : Nat) "BridgeBells$Traveller" "passed" "I" "BridgeBells") ∈ lw_tbl := lw_at lw_m2 124 rfl
theorem q393 : (Jvm.Cond.methodLink "BridgeBells" (66 : Nat) ({ cls := "java/util/ArrayList", name := "add", desc := "(Ljava/lang/Object;)Z" } : Jvm.MethodName)) ∈ lw_all := lw_g (lw_at lw_m2 140 rfl) rfl
theorem q423 : (Jvm.Cond.selects "BridgeBells" ({ cls := "java/lang/Object", name := "getClass", desc := "()Ljava/lang/Class;" } : Jvm.MethodName) ({ cls := "java/lang/Object", name := "getClass", desc := "()Ljava/lang/Class;" } : Jvm.MethodName)) ∈ lw_all := lw_g (lw_at lw_m2 170 rfl) rfl
theorem q489 : (Jvm.Cond.instanceMethod ({ cls := "BridgeBells", name := "leave", desc := "(I)I" } : Jvm.MethodName)) ∈ lw_all := lw_g (lw_at lw_m2 236 rfl) rfl
theorem q490 : (Jvm.Cond.selects "BridgeBells" ({ cls := "BridgeBells", name := "leave", desc := "(I)I" } : Jvm.MethodName) ({ cls := "BridgeBells", name := "leave", desc := "(I)I" } : Jvm.MethodName)) ∈ lw_all := lw_g (lw_at lw_m2 237 rfl) rfl
theorem q491 : (Jvm.Cond.code ({ cls := "BridgeBells", name := "leave", desc := "(I)I" } : Jvm.MethodName) prog_1_method_8_code (3 : Nat) (Option.some Jvm.ClassFile.FieldType.int)) ∈ lw_all := lw_g (lw_at lw_m2 238 rfl) rfl
theorem q492 : (Jvm.Cond.methodLink "BridgeBells" (70 : Nat) ({ cls := "BridgeBells", name := "known", desc := "(Ljava/util/List;I)Ljava/lang/Object;" } : Jvm.MethodName)) ∈ lw_all := lw_g (lw_at lw_m2 239 rfl) rfl
theorem q493 : (Jvm.Cond.static ({ cls := "BridgeBells", name := "known", desc := "(Ljava/util/List;I)Ljava/lang/Object;" } : Jvm.MethodName)) ∈ lw_all := lw_g (lw_at lw_m3 0 rfl) rfl
theorem q494 : (Jvm.Cond.code ({ cls := "BridgeBells", name := "known", desc := "(Ljava/util/List;I)Ljava/lang/Object;" } : Jvm.MethodName) prog_1_method_5_code (2 : Nat) (Option.some (Jvm.ClassFile.FieldType.object "java/lang/Object"))) ∈ lw_all := lw_g (lw_at lw_m3 1 rfl) rfl
theorem q495 : (Jvm.Cond.interfaceEntry "BridgeBells" (19 : Nat)) ∈ lw_tbl := lw_at lw_m3 2 rfl
theorem q496 : (Jvm.Cond.methodLink "BridgeBells" (19 : Nat) ({ cls := "java/util/List", name := "size", desc := "()I" } : Jvm.MethodName)) ∈ lw_all := lw_g (lw_at lw_m3 3 rfl) rfl
theorem q503 : (Jvm.Cond.methodLink "BridgeBells" (25 : Nat) ({ cls := "BridgeBells", name := "requireIndex", desc := "(II)V" } : Jvm.MethodName)) ∈ lw_all := lw_g (lw_at lw_m3 10 rfl) rfl
theorem q504 : (Jvm.Cond.static ({ cls := "BridgeBells", name := "requireIndex", desc := "(II)V" } : Jvm.MethodName)) ∈ lw_all := lw_g (lw_at lw_m3 11 rfl) rfl
theorem q505 : (Jvm.Cond.code ({ cls := "BridgeBells", name := "requireIndex", desc := "(II)V" } : Jvm.MethodName) prog_1_method_3_code (2 : Nat) (Option.none : Option Jvm.ClassFile.FieldType)) ∈ lw_all := lw_g (lw_at lw_m3 12 rfl) rfl
theorem q506 : (Jvm.Cond.classLink "BridgeBells" (10 : Nat) "java/lang/IndexOutOfBoundsException") ∈ lw_all := lw_g (lw_at lw_m3 13 rfl) rfl
theorem q515 : (Jvm.Cond.methodLink "BridgeBells" (12 : Nat) ({ cls := "java/lang/IndexOutOfBoundsException", name := "<init>", desc := "()V" } : Jvm.MethodName)) ∈ lw_all := lw_g (lw_at lw_m3 22 rfl) rfl
theorem q521 : (Jvm.Cond.interfaceEntry "BridgeBells" (29 : Nat)) ∈ lw_tbl := lw_at lw_m3 28 rfl
theorem q522 : (Jvm.Cond.methodLink "BridgeBells" (29 : Nat) ({ cls := "java/util/List", name := "get", desc := "(I)Ljava/lang/Object;" } : Jvm.MethodName)) ∈ lw_all := lw_g (lw_at lw_m3 29 rfl) rfl
theorem q528 : (Jvm.Cond.fieldLink "BridgeBells" (74 : Nat) "BridgeBells$State" "WAITS" "LBridgeBells$State;") ∈ lw_all := lw_g (lw_at lw_m3 35 rfl) rfl
theorem q529 : (Jvm.Cond.methodLink "BridgeBells" (80 : Nat) ({ cls := "BridgeBells$Traveller", name := "is", desc := "(LBridgeBells$State;)Z" } : Jvm.MethodName)) ∈ lw_all := lw_g (lw_at lw_m3 36 rfl) rfl
theorem q530 : (Jvm.Cond.fieldLink "BridgeBells" (84 : Nat) "BridgeBells$State" "GONE" "LBridgeBells$State;") ∈ lw_all := lw_g (lw_at lw_m3 37 rfl) rfl
theorem q536 : (Jvm.Cond.instanceMethod ({ cls := "BridgeBells", name := "ring", desc := "(I)I" } : Jvm.MethodName)) ∈ lw_all := lw_g (lw_at lw_m3 43 rfl) rfl
theorem q537 : (Jvm.Cond.selects "BridgeBells" ({ cls := "BridgeBells", name := "ring", desc := "(I)I" } : Jvm.MethodName) ({ cls := "BridgeBells", name := "ring", desc := "(I)I" } : Jvm.MethodName)) ∈ lw_all := lw_g (lw_at lw_m3 44 rfl) rfl
theorem q538 : (Jvm.Cond.code ({ cls := "BridgeBells", name := "ring", desc := "(I)I" } : Jvm.MethodName) prog_1_method_9_code (3 : Nat) (Option.some Jvm.ClassFile.FieldType.int)) ∈ lw_all := lw_g (lw_at lw_m3 45 rfl) rfl
theorem q539 : (Jvm.Cond.methodLink "BridgeBells" (102 : Nat) ({ cls := "BridgeBells$Code", name := "values", desc := "()[LBridgeBells$Code;" } : Jvm.MethodName)) ∈ lw_all := lw_g (lw_at lw_m3 46 rfl) rfl
theorem q556 : (Jvm.Cond.instanceMethod ({ cls := "BridgeBells", name := "poise", desc := "(I)I" } : Jvm.MethodName)) ∈ lw_all := lw_g (lw_at lw_m3 63 rfl) rfl
theorem q557 : (Jvm.Cond.selects "BridgeBells" ({ cls := "BridgeBells", name := "poise", desc := "(I)I" } : Jvm.MethodName) ({ cls := "BridgeBells", name := "poise", desc := "(I)I" } : Jvm.MethodName)) ∈ lw_all := lw_g (lw_at lw_m3 64 rfl) rfl
theorem q558 : (Jvm.Cond.code ({ cls := "BridgeBells", name := "poise", desc := "(I)I" } : Jvm.MethodName) prog_1_method_10_code (3 : Nat) (Option.some Jvm.ClassFile.FieldType.int)) ∈ lw_all := lw_g (lw_at lw_m3 65 rfl) rfl
theorem q563 : (Jvm.Cond.instanceMethod ({ cls := "BridgeBells", name := "setCold", desc := "(II)I" } : Jvm.MethodName)) ∈ lw_all := lw_g (lw_at lw_m3 70 rfl) rfl
theorem q564 : (Jvm.Cond.selects "BridgeBells" ({ cls := "BridgeBells", name := "setCold", desc := "(II)I" } : Jvm.MethodName) ({ cls := "BridgeBells", name := "setCold", desc := "(II)I" } : Jvm.MethodName)) ∈ lw_all := lw_g (lw_at lw_m3 71 rfl) rfl
theorem q565 : (Jvm.Cond.code ({ cls := "BridgeBells", name := "setCold", desc := "(II)I" } : Jvm.MethodName) prog_1_method_11_code (4 : Nat) (Option.some Jvm.ClassFile.FieldType.int)) ∈ lw_all := lw_g (lw_at lw_m3 72 rfl) rfl
theorem q570 : (Jvm.Cond.instanceMethod ({ cls := "BridgeBells", name := "traveller", desc := "(II)I" } : Jvm.MethodName)) ∈ lw_all := lw_g (lw_at lw_m3 77 rfl) rfl
theorem q571 : (Jvm.Cond.selects "BridgeBells" ({ cls := "BridgeBells", name := "traveller", desc := "(II)I" } : Jvm.MethodName) ({ cls := "BridgeBells", name := "traveller", desc := "(II)I" } : Jvm.MethodName)) ∈ lw_all := lw_g (lw_at lw_m3 78 rfl) rfl
theorem q572 : (Jvm.Cond.code ({ cls := "BridgeBells", name := "traveller", desc := "(II)I" } : Jvm.MethodName) prog_1_method_14_code (4 : Nat) (Option.some Jvm.ClassFile.FieldType.int)) ∈ lw_all := lw_g (lw_at lw_m3 79 rfl) rfl
theorem q577 : (Jvm.Cond.instanceMethod ({ cls := "BridgeBells", name := "count", desc := "(I)I" } : Jvm.MethodName)) ∈ lw_all := lw_g (lw_at lw_m3 84 rfl) rfl
theorem q578 : (Jvm.Cond.selects "BridgeBells" ({ cls := "BridgeBells", name := "count", desc := "(I)I" } : Jvm.MethodName) ({ cls := "BridgeBells", name := "count", desc := "(I)I" } : Jvm.MethodName)) ∈ lw_all := lw_g (lw_at lw_m3 85 rfl) rfl
theorem q579 : (Jvm.Cond.code ({ cls := "BridgeBells", name := "count", desc := "(I)I" } : Jvm.MethodName) prog_1_method_16_code (2 : Nat) (Option.some Jvm.ClassFile.FieldType.int)) ∈ lw_all := lw_g (lw_at lw_m3 86 rfl) rfl
theorem q584 : (Jvm.Cond.instanceMethod ({ cls := "BridgeBells", name := "pass", desc := "(I)I" } : Jvm.MethodName)) ∈ lw_all := lw_g (lw_at lw_m3 91 rfl) rfl
theorem q585 : (Jvm.Cond.selects "BridgeBells" ({ cls := "BridgeBells", name := "pass", desc := "(I)I" } : Jvm.MethodName) ({ cls := "BridgeBells", name := "pass", desc := "(I)I" } : Jvm.MethodName)) ∈ lw_all := lw_g (lw_at lw_m3 92 rfl) rfl
theorem q586 : (Jvm.Cond.code ({ cls := "BridgeBells", name := "pass", desc := "(I)I" } : Jvm.MethodName) prog_1_method_19_code (3 : Nat) (Option.some Jvm.ClassFile.FieldType.int)) ∈ lw_all := lw_g (lw_at lw_m3 93 rfl) rfl
theorem q587 : (Jvm.Cond.methodLink "BridgeBells" (170 : Nat) ({ cls := "BridgeBells", name := "pass", desc := "(LBridgeBells$Bridge;I)LBridgeBells$Bridge;" } : Jvm.MethodName)) ∈ lw_all := lw_g (lw_at lw_m3 94 rfl) rfl
theorem q588 : (Jvm.Cond.static ({ cls := "BridgeBells", name := "pass", desc := "(LBridgeBells$Bridge;I)LBridgeBells$Bridge;" } : Jvm.MethodName)) ∈ lw_all := lw_g (lw_at lw_m3 95 rfl) rfl
theorem q589 : (Jvm.Cond.code ({ cls := "BridgeBells", name := "pass", desc := "(LBridgeBells$Bridge;I)LBridgeBells$Bridge;" } : Jvm.MethodName) prog_1_method_18_code (3 : Nat) (Option.some (Jvm.ClassFile.FieldType.object "BridgeBells$Bridge"))) ∈ lw_all := lw_g (lw_at lw_m3 96 rfl) rfl
theorem q590 : (Jvm.Cond.methodLink "BridgeBells" (167 : Nat) ({ cls := "BridgeBells$Bridge", name := "pass", desc := "()V" } : Jvm.MethodName)) ∈ lw_all := lw_g (lw_at lw_m3 97 rfl) rfl
theorem q619 : (Jvm.Cond.instanceMethod ({ cls := "BridgeBells", name := "when", desc := "(I)I" } : Jvm.MethodName)) ∈ lw_all := lw_g (lw_at lw_m3 126 rfl) rfl
theorem q620 : (Jvm.Cond.selects "BridgeBells" ({ cls := "BridgeBells", name := "when", desc := "(I)I" } : Jvm.MethodName) ({ cls := "BridgeBells", name := "when", desc := "(I)I" } : Jvm.MethodName)) ∈ lw_all := lw_g (lw_at lw_m3 127 rfl) rfl
theorem q621 : (Jvm.Cond.code ({ cls := "BridgeBells", name := "when", desc := "(I)I" } : Jvm.MethodName) prog_1_method_20_code (4 : Nat) (Option.some Jvm.ClassFile.FieldType.int)) ∈ lw_all := lw_g (lw_at lw_m3 128 rfl) rfl
theorem q622 : (Jvm.Cond.methodLink "BridgeBells" (173 : Nat) ({ cls := "BridgeBells$Bridge", name := "copy", desc := "()LBridgeBells$Bridge;" } : Jvm.MethodName)) ∈ lw_all := lw_g (lw_at lw_m3 129 rfl) rfl
theorem q636 : (Jvm.Cond.fieldLink "BridgeBells" (178 : Nat) "BridgeBells$State" "PASSED" "LBridgeBells$State;") ∈ lw_all := lw_g (lw_at lw_m3 143 rfl) rfl
theorem q641 : (Jvm.Cond.instanceMethod ({ cls := "BridgeBells", name := "foresee", desc := "(II)I" } : Jvm.MethodName)) ∈ lw_all := lw_g (lw_at lw_m3 148 rfl) rfl
theorem q642 : (Jvm.Cond.selects "BridgeBells" ({ cls := "BridgeBells", name := "foresee", desc := "(II)I" } : Jvm.MethodName) ({ cls := "BridgeBells", name := "foresee", desc := "(II)I" } : Jvm.MethodName)) ∈ lw_all := lw_g (lw_at lw_m3 149 rfl) rfl
theorem q643 : (Jvm.Cond.code ({ cls := "BridgeBells", name := "foresee", desc := "(II)I" } : Jvm.MethodName) prog_1_method_21_code (4 : Nat) (Option.some Jvm.ClassFile.FieldType.int)) ∈ lw_all := lw_g (lw_at lw_m3 150 rfl) rfl
theorem q648 : (Jvm.Cond.instanceMethod ({ cls := "BridgeBells", name := "bestCode", desc := "(I)I" } : Jvm.MethodName)) ∈ lw_all := lw_g (lw_at lw_m3 155 rfl) rfl
theorem q649 : (Jvm.Cond.selects "BridgeBells" ({ cls := "BridgeBells", name := "bestCode", desc := "(I)I" } : Jvm.MethodName) ({ cls := "BridgeBells", name := "bestCode", desc := "(I)I" } : Jvm.MethodName)) ∈ lw_all := lw_g (lw_at lw_m3 156 rfl) rfl
theorem q650 : (Jvm.Cond.code ({ cls := "BridgeBells", name := "bestCode", desc := "(I)I" } : Jvm.MethodName) prog_1_method_22_code (7 : Nat) (Option.some Jvm.ClassFile.FieldType.int)) ∈ lw_all := lw_g (lw_at lw_m3 157 rfl) rfl
theorem q655 : (Jvm.Cond.instanceMethod ({ cls := "BridgeBells", name := "bestPoise", desc := "(I)I" } : Jvm.MethodName)) ∈ lw_all := lw_g (lw_at lw_m3 162 rfl) rfl
theorem q656 : (Jvm.Cond.selects "BridgeBells" ({ cls := "BridgeBells", name := "bestPoise", desc := "(I)I" } : Jvm.MethodName) ({ cls := "BridgeBells", name := "bestPoise", desc := "(I)I" } : Jvm.MethodName)) ∈ lw_all := lw_g (lw_at lw_m3 163 rfl) rfl
theorem q657 : (Jvm.Cond.code ({ cls := "BridgeBells", name := "bestPoise", desc := "(I)I" } : Jvm.MethodName) prog_1_method_23_code (7 : Nat) (Option.some Jvm.ClassFile.FieldType.int)) ∈ lw_all := lw_g (lw_at lw_m3 164 rfl) rfl
theorem q891 : (Jvm.Cond.castable "BridgeBells" "java/lang/Object") ∈ lw_tbl := lw_at lw_m4 158 rfl
theorem in_X1 : ∀ w ∈ wsX10, w ∈ lw_all := lw_in wsX10 [116] (by decide +kernel) (by decide +kernel)
/-! BridgeBells$Bridge -/
set_option maxRecDepth 100000
def RX2 : String := "BridgeBells$Bridge"
def TX2 : u_T := fun k => match k with
  | 0 => ("BridgeBells$Bridge", "minute", "I", false)
  | 1 => ("BridgeBells$Bridge", "angle", "I", false)
  | 2 => ("BridgeBells$Bridge", "poise", "I", false)
  | 3 => ("BridgeBells$Bridge", "ice", "I", false)
  | 4 => ("BridgeBells$Bridge", "code", "LBridgeBells$Code;", false)
  | 5 => ("BridgeBells$Bridge", "latestWasBarge", "Z", false)
  | 6 => ("BridgeBells$Bridge", "cold", "[I", true)
  | _ => ("BridgeBells$Bridge", "travellers", "Ljava/util/ArrayList;", true)
def tyX2 : Nat → FieldType := fun k => match k with
  | 0 => .int
  | 1 => .int
  | 2 => .int
  | 3 => .int
  | 4 => .object "BridgeBells$Code"
  | 5 => .boolean
  | 6 => .array .int
  | _ => .object "java/util/ArrayList"
abbrev wsX20 : List Cond := u_ws RX2 TX2 8
theorem nmX2 : ∀ a, a < 8 → ∀ b, b < 8 → a ≠ b → (TX2 a).2.1 ≠ (TX2 b).2.1 := by decide +kernel
theorem tyX2_ok : ∀ k, k < 8 → parseFieldDescriptor (TX2 k).2.2.1 = some (tyX2 k) := by decide +kernel
abbrev cX2_init : ByteArray := prog_2_method_1_code
def yX2_init : MethodName := ⟨RX2, "<init>", "()V"⟩
def dkwX2_init_1 : List UInt8 := [181, 0, 24, 42, 187, 0, 28, 89, 183, 0, 30, 181, 0, 31, 177]
abbrev dktX2_init_1 : List UInt8 := dkwX2_init_1 ++ []
def dkwX2_init_0 : List UInt8 := [42, 183, 0, 3, 42, 16, 15, 181, 0, 9, 42, 178, 0, 15, 181, 0, 21, 42, 16, 8, 188, 10]
abbrev dktX2_init_0 : List UInt8 := dkwX2_init_0 ++ dktX2_init_1
theorem dksX2_init_0 : cX2_init.data.toList.drop 0 = dktX2_init_0 := by decide +kernel
theorem dksX2_init_1 : cX2_init.data.toList.drop 22 = dktX2_init_1 := dk_seg dksX2_init_0 22 rfl rfl
theorem dX2_init_0 : decode cX2_init 0 = .ok (.aload_n 0, 1) := dk_42 (dk_at dksX2_init_0 0 rfl rfl)
theorem dX2_init_1 : decode cX2_init 1 = .ok (.invokespecial 3, 3) := dk_183 0 3 (dk_at dksX2_init_0 1 rfl rfl)
theorem dX2_init_4 : decode cX2_init 4 = .ok (.aload_n 0, 1) := dk_42 (dk_at dksX2_init_0 4 rfl rfl)
theorem dX2_init_5 : decode cX2_init 5 = .ok (.bipush 15, 2) := dk_16 15 (dk_at dksX2_init_0 5 rfl rfl)
theorem dX2_init_7 : decode cX2_init 7 = .ok (.putfield 9, 3) := dk_181 0 9 (dk_at dksX2_init_0 7 rfl rfl)
theorem dX2_init_10 : decode cX2_init 10 = .ok (.aload_n 0, 1) := dk_42 (dk_at dksX2_init_0 10 rfl rfl)
theorem dX2_init_11 : decode cX2_init 11 = .ok (.getstatic 15, 3) := dk_178 0 15 (dk_at dksX2_init_0 11 rfl rfl)
theorem dX2_init_14 : decode cX2_init 14 = .ok (.putfield 21, 3) := dk_181 0 21 (dk_at dksX2_init_0 14 rfl rfl)
theorem dX2_init_17 : decode cX2_init 17 = .ok (.aload_n 0, 1) := dk_42 (dk_at dksX2_init_0 17 rfl rfl)
theorem dX2_init_18 : decode cX2_init 18 = .ok (.bipush 8, 2) := dk_16 8 (dk_at dksX2_init_0 18 rfl rfl)
theorem dX2_init_20 : decode cX2_init 20 = .ok (.newarray .int, 2) := dk_188_10 (dk_at dksX2_init_0 20 rfl rfl)
theorem dX2_init_22 : decode cX2_init 22 = .ok (.putfield 24, 3) := dk_181 0 24 (dk_at dksX2_init_1 0 rfl rfl)
theorem dX2_init_25 : decode cX2_init 25 = .ok (.aload_n 0, 1) := dk_42 (dk_at dksX2_init_1 3 rfl rfl)
theorem dX2_init_26 : decode cX2_init 26 = .ok (.new 28, 3) := dk_187 0 28 (dk_at dksX2_init_1 4 rfl rfl)
theorem dX2_init_29 : decode cX2_init 29 = .ok (.dup, 1) := dk_89 (dk_at dksX2_init_1 7 rfl rfl)
theorem dX2_init_30 : decode cX2_init 30 = .ok (.invokespecial 30, 3) := dk_183 0 30 (dk_at dksX2_init_1 8 rfl rfl)
theorem dX2_init_33 : decode cX2_init 33 = .ok (.putfield 31, 3) := dk_181 0 31 (dk_at dksX2_init_1 11 rfl rfl)
theorem dX2_init_36 : decode cX2_init 36 = .ok (.return_, 1) := dk_177 (dk_at dksX2_init_1 14 rfl rfl)
abbrev cX2_speed : ByteArray := prog_2_method_8_code
def yX2_speed : MethodName := ⟨RX2, "speed", "(Z)I"⟩
def dkwX2_speed_1 : List UInt8 := [108, 100, 61, 42, 180, 0, 42, 8, 161, 0, 13, 4, 28, 5, 108, 184, 0, 106, 167, 0, 4, 28, 172]
abbrev dktX2_speed_1 : List UInt8 := dkwX2_speed_1 ++ []
def dkwX2_speed_0 : List UInt8 := [27, 153, 0, 15, 4, 42, 180, 0, 9, 16, 6, 108, 96, 167, 0, 13, 16, 6, 42, 180, 0, 9, 16, 6]
abbrev dktX2_speed_0 : List UInt8 := dkwX2_speed_0 ++ dktX2_speed_1
theorem dksX2_speed_0 : cX2_speed.data.toList.drop 0 = dktX2_speed_0 := by decide +kernel
theorem dksX2_speed_1 : cX2_speed.data.toList.drop 24 = dktX2_speed_1 := dk_seg dksX2_speed_0 24 rfl rfl
theorem dX2_speed_0 : decode cX2_speed 0 = .ok (.iload_n 1, 1) := dk_27 (dk_at dksX2_speed_0 0 rfl rfl)
theorem dX2_speed_1 : decode cX2_speed 1 = .ok (.ifCond .eq 15, 3) := dk_153 0 15 (dk_at dksX2_speed_0 1 rfl rfl)
theorem dX2_speed_4 : decode cX2_speed 4 = .ok (.iconst 1, 1) := dk_4 (dk_at dksX2_speed_0 4 rfl rfl)
theorem dX2_speed_5 : decode cX2_speed 5 = .ok (.aload_n 0, 1) := dk_42 (dk_at dksX2_speed_0 5 rfl rfl)
theorem dX2_speed_6 : decode cX2_speed 6 = .ok (.getfield 9, 3) := dk_180 0 9 (dk_at dksX2_speed_0 6 rfl rfl)
theorem dX2_speed_9 : decode cX2_speed 9 = .ok (.bipush 6, 2) := dk_16 6 (dk_at dksX2_speed_0 9 rfl rfl)
theorem dX2_speed_11 : decode cX2_speed 11 = .ok (.idiv, 1) := dk_108 (dk_at dksX2_speed_0 11 rfl rfl)
theorem dX2_speed_12 : decode cX2_speed 12 = .ok (.iadd, 1) := dk_96 (dk_at dksX2_speed_0 12 rfl rfl)
theorem dX2_speed_13 : decode cX2_speed 13 = .ok (.goto 13, 3) := dk_167 0 13 (dk_at dksX2_speed_0 13 rfl rfl)
theorem dX2_speed_16 : decode cX2_speed 16 = .ok (.bipush 6, 2) := dk_16 6 (dk_at dksX2_speed_0 16 rfl rfl)
theorem dX2_speed_18 : decode cX2_speed 18 = .ok (.aload_n 0, 1) := dk_42 (dk_at dksX2_speed_0 18 rfl rfl)
theorem dX2_speed_19 : decode cX2_speed 19 = .ok (.getfield 9, 3) := dk_180 0 9 (dk_at dksX2_speed_0 19 rfl rfl)
theorem dX2_speed_22 : decode cX2_speed 22 = .ok (.bipush 6, 2) := dk_16 6 (dk_at dksX2_speed_0 22 rfl rfl)
theorem dX2_speed_24 : decode cX2_speed 24 = .ok (.idiv, 1) := dk_108 (dk_at dksX2_speed_1 0 rfl rfl)
theorem dX2_speed_25 : decode cX2_speed 25 = .ok (.isub, 1) := dk_100 (dk_at dksX2_speed_1 1 rfl rfl)
theorem dX2_speed_26 : decode cX2_speed 26 = .ok (.istore_n 2, 1) := dk_61 (dk_at dksX2_speed_1 2 rfl rfl)
theorem dX2_speed_27 : decode cX2_speed 27 = .ok (.aload_n 0, 1) := dk_42 (dk_at dksX2_speed_1 3 rfl rfl)
theorem dX2_speed_28 : decode cX2_speed 28 = .ok (.getfield 42, 3) := dk_180 0 42 (dk_at dksX2_speed_1 4 rfl rfl)
theorem dX2_speed_31 : decode cX2_speed 31 = .ok (.iconst 5, 1) := dk_8 (dk_at dksX2_speed_1 7 rfl rfl)
theorem dX2_speed_32 : decode cX2_speed 32 = .ok (.if_icmp .lt 13, 3) := dk_161 0 13 (dk_at dksX2_speed_1 8 rfl rfl)
theorem dX2_speed_35 : decode cX2_speed 35 = .ok (.iconst 1, 1) := dk_4 (dk_at dksX2_speed_1 11 rfl rfl)
theorem dX2_speed_36 : decode cX2_speed 36 = .ok (.iload_n 2, 1) := dk_28 (dk_at dksX2_speed_1 12 rfl rfl)
theorem dX2_speed_37 : decode cX2_speed 37 = .ok (.iconst 2, 1) := dk_5 (dk_at dksX2_speed_1 13 rfl rfl)
theorem dX2_speed_38 : decode cX2_speed 38 = .ok (.idiv, 1) := dk_108 (dk_at dksX2_speed_1 14 rfl rfl)
theorem dX2_speed_39 : decode cX2_speed 39 = .ok (.invokestatic 106, 3) := dk_184 0 106 (dk_at dksX2_speed_1 15 rfl rfl)
theorem dX2_speed_42 : decode cX2_speed 42 = .ok (.goto 4, 3) := dk_167 0 4 (dk_at dksX2_speed_1 18 rfl rfl)
theorem dX2_speed_45 : decode cX2_speed 45 = .ok (.iload_n 2, 1) := dk_28 (dk_at dksX2_speed_1 21 rfl rfl)
theorem dX2_speed_46 : decode cX2_speed 46 = .ok (.ireturn, 1) := dk_172 (dk_at dksX2_speed_1 22 rfl rfl)
abbrev cX2_waited : ByteArray := prog_2_method_13_code
def yX2_waited : MethodName := ⟨RX2, "waited", "()I"⟩
def dkwX2_waited_1 : List UInt8 := [192, 0, 63, 180, 0, 130, 96, 60, 132, 2, 1, 167, 255, 225, 27, 172]
abbrev dktX2_waited_1 : List UInt8 := dkwX2_waited_1 ++ []
def dkwX2_waited_0 : List UInt8 := [3, 60, 3, 61, 28, 42, 180, 0, 31, 182, 0, 55, 162, 0, 26, 27, 42, 180, 0, 31, 28, 182, 0, 59]
abbrev dktX2_waited_0 : List UInt8 := dkwX2_waited_0 ++ dktX2_waited_1
theorem dksX2_waited_0 : cX2_waited.data.toList.drop 0 = dktX2_waited_0 := by decide +kernel
theorem dksX2_waited_1 : cX2_waited.data.toList.drop 24 = dktX2_waited_1 := dk_seg dksX2_waited_0 24 rfl rfl
theorem dX2_waited_0 : decode cX2_waited 0 = .ok (.iconst 0, 1) := dk_3 (dk_at dksX2_waited_0 0 rfl rfl)
theorem dX2_waited_1 : decode cX2_waited 1 = .ok (.istore_n 1, 1) := dk_60 (dk_at dksX2_waited_0 1 rfl rfl)
theorem dX2_waited_2 : decode cX2_waited 2 = .ok (.iconst 0, 1) := dk_3 (dk_at dksX2_waited_0 2 rfl rfl)
theorem dX2_waited_3 : decode cX2_waited 3 = .ok (.istore_n 2, 1) := dk_61 (dk_at dksX2_waited_0 3 rfl rfl)
theorem dX2_waited_4 : decode cX2_waited 4 = .ok (.iload_n 2, 1) := dk_28 (dk_at dksX2_waited_0 4 rfl rfl)
theorem dX2_waited_5 : decode cX2_waited 5 = .ok (.aload_n 0, 1) := dk_42 (dk_at dksX2_waited_0 5 rfl rfl)
theorem dX2_waited_6 : decode cX2_waited 6 = .ok (.getfield 31, 3) := dk_180 0 31 (dk_at dksX2_waited_0 6 rfl rfl)
theorem dX2_waited_9 : decode cX2_waited 9 = .ok (.invokevirtual 55, 3) := dk_182 0 55 (dk_at dksX2_waited_0 9 rfl rfl)
theorem dX2_waited_12 : decode cX2_waited 12 = .ok (.if_icmp .ge 26, 3) := dk_162 0 26 (dk_at dksX2_waited_0 12 rfl rfl)
theorem dX2_waited_15 : decode cX2_waited 15 = .ok (.iload_n 1, 1) := dk_27 (dk_at dksX2_waited_0 15 rfl rfl)
theorem dX2_waited_16 : decode cX2_waited 16 = .ok (.aload_n 0, 1) := dk_42 (dk_at dksX2_waited_0 16 rfl rfl)
theorem dX2_waited_17 : decode cX2_waited 17 = .ok (.getfield 31, 3) := dk_180 0 31 (dk_at dksX2_waited_0 17 rfl rfl)
theorem dX2_waited_20 : decode cX2_waited 20 = .ok (.iload_n 2, 1) := dk_28 (dk_at dksX2_waited_0 20 rfl rfl)
theorem dX2_waited_21 : decode cX2_waited 21 = .ok (.invokevirtual 59, 3) := dk_182 0 59 (dk_at dksX2_waited_0 21 rfl rfl)
theorem dX2_waited_24 : decode cX2_waited 24 = .ok (.checkcast 63, 3) := dk_192 0 63 (dk_at dksX2_waited_1 0 rfl rfl)
theorem dX2_waited_27 : decode cX2_waited 27 = .ok (.getfield 130, 3) := dk_180 0 130 (dk_at dksX2_waited_1 3 rfl rfl)
theorem dX2_waited_30 : decode cX2_waited 30 = .ok (.iadd, 1) := dk_96 (dk_at dksX2_waited_1 6 rfl rfl)
theorem dX2_waited_31 : decode cX2_waited 31 = .ok (.istore_n 1, 1) := dk_60 (dk_at dksX2_waited_1 7 rfl rfl)
theorem dX2_waited_32 : decode cX2_waited 32 = .ok (.iinc 2 1, 3) := dk_132 2 1 (dk_at dksX2_waited_1 8 rfl rfl)
theorem dX2_waited_35 : decode cX2_waited 35 = .ok (.goto (-31), 3) := dk_167 255 225 (dk_at dksX2_waited_1 11 rfl rfl)
theorem dX2_waited_38 : decode cX2_waited 38 = .ok (.iload_n 1, 1) := dk_27 (dk_at dksX2_waited_1 14 rfl rfl)
theorem dX2_waited_39 : decode cX2_waited 39 = .ok (.ireturn, 1) := dk_172 (dk_at dksX2_waited_1 15 rfl rfl)
abbrev cX2_passed : ByteArray := prog_2_method_12_code
def yX2_passed : MethodName := ⟨RX2, "passed", "()I"⟩
def dkwX2_passed_2 : List UInt8 := [167, 255, 214, 27, 172]
abbrev dktX2_passed_2 : List UInt8 := dkwX2_passed_2 ++ []
def dkwX2_passed_1 : List UInt8 := [192, 0, 63, 178, 0, 127, 182, 0, 79, 153, 0, 7, 4, 167, 0, 4, 3, 96, 60, 132, 2, 1]
abbrev dktX2_passed_1 : List UInt8 := dkwX2_passed_1 ++ dktX2_passed_2
def dkwX2_passed_0 : List UInt8 := [3, 60, 3, 61, 28, 42, 180, 0, 31, 182, 0, 55, 162, 0, 37, 27, 42, 180, 0, 31, 28, 182, 0, 59]
abbrev dktX2_passed_0 : List UInt8 := dkwX2_passed_0 ++ dktX2_passed_1
theorem dksX2_passed_0 : cX2_passed.data.toList.drop 0 = dktX2_passed_0 := by decide +kernel
theorem dksX2_passed_1 : cX2_passed.data.toList.drop 24 = dktX2_passed_1 := dk_seg dksX2_passed_0 24 rfl rfl
theorem dksX2_passed_2 : cX2_passed.data.toList.drop 46 = dktX2_passed_2 := dk_seg dksX2_passed_1 22 rfl rfl
theorem dX2_passed_0 : decode cX2_passed 0 = .ok (.iconst 0, 1) := dk_3 (dk_at dksX2_passed_0 0 rfl rfl)
theorem dX2_passed_1 : decode cX2_passed 1 = .ok (.istore_n 1, 1) := dk_60 (dk_at dksX2_passed_0 1 rfl rfl)
theorem dX2_passed_2 : decode cX2_passed 2 = .ok (.iconst 0, 1) := dk_3 (dk_at dksX2_passed_0 2 rfl rfl)
theorem dX2_passed_3 : decode cX2_passed 3 = .ok (.istore_n 2, 1) := dk_61 (dk_at dksX2_passed_0 3 rfl rfl)
theorem dX2_passed_4 : decode cX2_passed 4 = .ok (.iload_n 2, 1) := dk_28 (dk_at dksX2_passed_0 4 rfl rfl)
theorem dX2_passed_5 : decode cX2_passed 5 = .ok (.aload_n 0, 1) := dk_42 (dk_at dksX2_passed_0 5 rfl rfl)
theorem dX2_passed_6 : decode cX2_passed 6 = .ok (.getfield 31, 3) := dk_180 0 31 (dk_at dksX2_passed_0 6 rfl rfl)
theorem dX2_passed_9 : decode cX2_passed 9 = .ok (.invokevirtual 55, 3) := dk_182 0 55 (dk_at dksX2_passed_0 9 rfl rfl)
theorem dX2_passed_12 : decode cX2_passed 12 = .ok (.if_icmp .ge 37, 3) := dk_162 0 37 (dk_at dksX2_passed_0 12 rfl rfl)
theorem dX2_passed_15 : decode cX2_passed 15 = .ok (.iload_n 1, 1) := dk_27 (dk_at dksX2_passed_0 15 rfl rfl)
theorem dX2_passed_16 : decode cX2_passed 16 = .ok (.aload_n 0, 1) := dk_42 (dk_at dksX2_passed_0 16 rfl rfl)
theorem dX2_passed_17 : decode cX2_passed 17 = .ok (.getfield 31, 3) := dk_180 0 31 (dk_at dksX2_passed_0 17 rfl rfl)
theorem dX2_passed_20 : decode cX2_passed 20 = .ok (.iload_n 2, 1) := dk_28 (dk_at dksX2_passed_0 20 rfl rfl)
theorem dX2_passed_21 : decode cX2_passed 21 = .ok (.invokevirtual 59, 3) := dk_182 0 59 (dk_at dksX2_passed_0 21 rfl rfl)
theorem dX2_passed_24 : decode cX2_passed 24 = .ok (.checkcast 63, 3) := dk_192 0 63 (dk_at dksX2_passed_1 0 rfl rfl)
theorem dX2_passed_27 : decode cX2_passed 27 = .ok (.getstatic 127, 3) := dk_178 0 127 (dk_at dksX2_passed_1 3 rfl rfl)
theorem dX2_passed_30 : decode cX2_passed 30 = .ok (.invokevirtual 79, 3) := dk_182 0 79 (dk_at dksX2_passed_1 6 rfl rfl)
theorem dX2_passed_33 : decode cX2_passed 33 = .ok (.ifCond .eq 7, 3) := dk_153 0 7 (dk_at dksX2_passed_1 9 rfl rfl)
theorem dX2_passed_36 : decode cX2_passed 36 = .ok (.iconst 1, 1) := dk_4 (dk_at dksX2_passed_1 12 rfl rfl)
theorem dX2_passed_37 : decode cX2_passed 37 = .ok (.goto 4, 3) := dk_167 0 4 (dk_at dksX2_passed_1 13 rfl rfl)
theorem dX2_passed_40 : decode cX2_passed 40 = .ok (.iconst 0, 1) := dk_3 (dk_at dksX2_passed_1 16 rfl rfl)
theorem dX2_passed_41 : decode cX2_passed 41 = .ok (.iadd, 1) := dk_96 (dk_at dksX2_passed_1 17 rfl rfl)
theorem dX2_passed_42 : decode cX2_passed 42 = .ok (.istore_n 1, 1) := dk_60 (dk_at dksX2_passed_1 18 rfl rfl)
theorem dX2_passed_43 : decode cX2_passed 43 = .ok (.iinc 2 1, 3) := dk_132 2 1 (dk_at dksX2_passed_1 19 rfl rfl)
theorem dX2_passed_46 : decode cX2_passed 46 = .ok (.goto (-42), 3) := dk_167 255 214 (dk_at dksX2_passed_2 0 rfl rfl)
theorem dX2_passed_49 : decode cX2_passed 49 = .ok (.iload_n 1, 1) := dk_27 (dk_at dksX2_passed_2 3 rfl rfl)
theorem dX2_passed_50 : decode cX2_passed 50 = .ok (.ireturn, 1) := dk_172 (dk_at dksX2_passed_2 4 rfl rfl)
abbrev cX2_passing : ByteArray := prog_2_method_6_code
def yX2_passing : MethodName := ⟨RX2, "passing", "()I"⟩
def dkwX2_passing_1 : List UInt8 := [178, 0, 96, 182, 0, 79, 153, 0, 5, 27, 172, 132, 1, 1, 167, 255, 220, 2, 172]
abbrev dktX2_passing_1 : List UInt8 := dkwX2_passing_1 ++ []
def dkwX2_passing_0 : List UInt8 := [3, 60, 27, 42, 180, 0, 31, 182, 0, 55, 162, 0, 31, 42, 180, 0, 31, 27, 182, 0, 59, 192, 0, 63]
abbrev dktX2_passing_0 : List UInt8 := dkwX2_passing_0 ++ dktX2_passing_1
theorem dksX2_passing_0 : cX2_passing.data.toList.drop 0 = dktX2_passing_0 := by decide +kernel
theorem dksX2_passing_1 : cX2_passing.data.toList.drop 24 = dktX2_passing_1 := dk_seg dksX2_passing_0 24 rfl rfl
theorem dX2_passing_0 : decode cX2_passing 0 = .ok (.iconst 0, 1) := dk_3 (dk_at dksX2_passing_0 0 rfl rfl)
theorem dX2_passing_1 : decode cX2_passing 1 = .ok (.istore_n 1, 1) := dk_60 (dk_at dksX2_passing_0 1 rfl rfl)
theorem dX2_passing_2 : decode cX2_passing 2 = .ok (.iload_n 1, 1) := dk_27 (dk_at dksX2_passing_0 2 rfl rfl)
theorem dX2_passing_3 : decode cX2_passing 3 = .ok (.aload_n 0, 1) := dk_42 (dk_at dksX2_passing_0 3 rfl rfl)
theorem dX2_passing_4 : decode cX2_passing 4 = .ok (.getfield 31, 3) := dk_180 0 31 (dk_at dksX2_passing_0 4 rfl rfl)
theorem dX2_passing_7 : decode cX2_passing 7 = .ok (.invokevirtual 55, 3) := dk_182 0 55 (dk_at dksX2_passing_0 7 rfl rfl)
theorem dX2_passing_10 : decode cX2_passing 10 = .ok (.if_icmp .ge 31, 3) := dk_162 0 31 (dk_at dksX2_passing_0 10 rfl rfl)
theorem dX2_passing_13 : decode cX2_passing 13 = .ok (.aload_n 0, 1) := dk_42 (dk_at dksX2_passing_0 13 rfl rfl)
theorem dX2_passing_14 : decode cX2_passing 14 = .ok (.getfield 31, 3) := dk_180 0 31 (dk_at dksX2_passing_0 14 rfl rfl)
theorem dX2_passing_17 : decode cX2_passing 17 = .ok (.iload_n 1, 1) := dk_27 (dk_at dksX2_passing_0 17 rfl rfl)
theorem dX2_passing_18 : decode cX2_passing 18 = .ok (.invokevirtual 59, 3) := dk_182 0 59 (dk_at dksX2_passing_0 18 rfl rfl)
theorem dX2_passing_21 : decode cX2_passing 21 = .ok (.checkcast 63, 3) := dk_192 0 63 (dk_at dksX2_passing_0 21 rfl rfl)
theorem dX2_passing_24 : decode cX2_passing 24 = .ok (.getstatic 96, 3) := dk_178 0 96 (dk_at dksX2_passing_1 0 rfl rfl)
theorem dX2_passing_27 : decode cX2_passing 27 = .ok (.invokevirtual 79, 3) := dk_182 0 79 (dk_at dksX2_passing_1 3 rfl rfl)
theorem dX2_passing_30 : decode cX2_passing 30 = .ok (.ifCond .eq 5, 3) := dk_153 0 5 (dk_at dksX2_passing_1 6 rfl rfl)
theorem dX2_passing_33 : decode cX2_passing 33 = .ok (.iload_n 1, 1) := dk_27 (dk_at dksX2_passing_1 9 rfl rfl)
theorem dX2_passing_34 : decode cX2_passing 34 = .ok (.ireturn, 1) := dk_172 (dk_at dksX2_passing_1 10 rfl rfl)
theorem dX2_passing_35 : decode cX2_passing 35 = .ok (.iinc 1 1, 3) := dk_132 1 1 (dk_at dksX2_passing_1 11 rfl rfl)
theorem dX2_passing_38 : decode cX2_passing 38 = .ok (.goto (-36), 3) := dk_167 255 220 (dk_at dksX2_passing_1 14 rfl rfl)
theorem dX2_passing_41 : decode cX2_passing 41 = .ok (.iconst (-1), 1) := dk_2 (dk_at dksX2_passing_1 17 rfl rfl)
theorem dX2_passing_42 : decode cX2_passing 42 = .ok (.ireturn, 1) := dk_172 (dk_at dksX2_passing_1 18 rfl rfl)
abbrev cX2_next : ByteArray := prog_2_method_7_code
def yX2_next : MethodName := ⟨RX2, "next", "()I"⟩
def dkwX2_next_0 : List UInt8 := [42, 182, 0, 99, 2, 160, 0, 14, 42, 180, 0, 21, 42, 182, 0, 102, 167, 0, 4, 2, 172]
abbrev dktX2_next_0 : List UInt8 := dkwX2_next_0 ++ []
theorem dksX2_next_0 : cX2_next.data.toList.drop 0 = dktX2_next_0 := by decide +kernel
theorem dX2_next_0 : decode cX2_next 0 = .ok (.aload_n 0, 1) := dk_42 (dk_at dksX2_next_0 0 rfl rfl)
theorem dX2_next_1 : decode cX2_next 1 = .ok (.invokevirtual 99, 3) := dk_182 0 99 (dk_at dksX2_next_0 1 rfl rfl)
theorem dX2_next_4 : decode cX2_next 4 = .ok (.iconst (-1), 1) := dk_2 (dk_at dksX2_next_0 4 rfl rfl)
theorem dX2_next_5 : decode cX2_next 5 = .ok (.if_icmp .ne 14, 3) := dk_160 0 14 (dk_at dksX2_next_0 5 rfl rfl)
theorem dX2_next_8 : decode cX2_next 8 = .ok (.aload_n 0, 1) := dk_42 (dk_at dksX2_next_0 8 rfl rfl)
theorem dX2_next_9 : decode cX2_next 9 = .ok (.getfield 21, 3) := dk_180 0 21 (dk_at dksX2_next_0 9 rfl rfl)
theorem dX2_next_12 : decode cX2_next 12 = .ok (.aload_n 0, 1) := dk_42 (dk_at dksX2_next_0 12 rfl rfl)
theorem dX2_next_13 : decode cX2_next 13 = .ok (.invokevirtual 102, 3) := dk_182 0 102 (dk_at dksX2_next_0 13 rfl rfl)
theorem dX2_next_16 : decode cX2_next 16 = .ok (.goto 4, 3) := dk_167 0 4 (dk_at dksX2_next_0 16 rfl rfl)
theorem dX2_next_19 : decode cX2_next 19 = .ok (.iconst (-1), 1) := dk_2 (dk_at dksX2_next_0 19 rfl rfl)
theorem dX2_next_20 : decode cX2_next 20 = .ok (.ireturn, 1) := dk_172 (dk_at dksX2_next_0 20 rfl rfl)
abbrev cX2_first : ByteArray := prog_2_method_3_code
def yX2_first : MethodName := ⟨RX2, "first", "(Z)I"⟩
def dkwX2_first_2 : List UInt8 := [160, 0, 5, 28, 172, 132, 2, 1, 167, 255, 202, 2, 172]
abbrev dktX2_first_2 : List UInt8 := dkwX2_first_2 ++ []
def dkwX2_first_1 : List UInt8 := [178, 0, 73, 182, 0, 79, 153, 0, 23, 42, 180, 0, 31, 28, 182, 0, 59, 192, 0, 63, 180, 0, 83, 27]
abbrev dktX2_first_1 : List UInt8 := dkwX2_first_1 ++ dktX2_first_2
def dkwX2_first_0 : List UInt8 := [3, 61, 28, 42, 180, 0, 31, 182, 0, 55, 162, 0, 49, 42, 180, 0, 31, 28, 182, 0, 59, 192, 0, 63]
abbrev dktX2_first_0 : List UInt8 := dkwX2_first_0 ++ dktX2_first_1
theorem dksX2_first_0 : cX2_first.data.toList.drop 0 = dktX2_first_0 := by decide +kernel
theorem dksX2_first_1 : cX2_first.data.toList.drop 24 = dktX2_first_1 := dk_seg dksX2_first_0 24 rfl rfl
theorem dksX2_first_2 : cX2_first.data.toList.drop 48 = dktX2_first_2 := dk_seg dksX2_first_1 24 rfl rfl
theorem dX2_first_0 : decode cX2_first 0 = .ok (.iconst 0, 1) := dk_3 (dk_at dksX2_first_0 0 rfl rfl)
theorem dX2_first_1 : decode cX2_first 1 = .ok (.istore_n 2, 1) := dk_61 (dk_at dksX2_first_0 1 rfl rfl)
theorem dX2_first_2 : decode cX2_first 2 = .ok (.iload_n 2, 1) := dk_28 (dk_at dksX2_first_0 2 rfl rfl)
theorem dX2_first_3 : decode cX2_first 3 = .ok (.aload_n 0, 1) := dk_42 (dk_at dksX2_first_0 3 rfl rfl)
theorem dX2_first_4 : decode cX2_first 4 = .ok (.getfield 31, 3) := dk_180 0 31 (dk_at dksX2_first_0 4 rfl rfl)
theorem dX2_first_7 : decode cX2_first 7 = .ok (.invokevirtual 55, 3) := dk_182 0 55 (dk_at dksX2_first_0 7 rfl rfl)
theorem dX2_first_10 : decode cX2_first 10 = .ok (.if_icmp .ge 49, 3) := dk_162 0 49 (dk_at dksX2_first_0 10 rfl rfl)
theorem dX2_first_13 : decode cX2_first 13 = .ok (.aload_n 0, 1) := dk_42 (dk_at dksX2_first_0 13 rfl rfl)
theorem dX2_first_14 : decode cX2_first 14 = .ok (.getfield 31, 3) := dk_180 0 31 (dk_at dksX2_first_0 14 rfl rfl)
theorem dX2_first_17 : decode cX2_first 17 = .ok (.iload_n 2, 1) := dk_28 (dk_at dksX2_first_0 17 rfl rfl)
theorem dX2_first_18 : decode cX2_first 18 = .ok (.invokevirtual 59, 3) := dk_182 0 59 (dk_at dksX2_first_0 18 rfl rfl)
theorem dX2_first_21 : decode cX2_first 21 = .ok (.checkcast 63, 3) := dk_192 0 63 (dk_at dksX2_first_0 21 rfl rfl)
theorem dX2_first_24 : decode cX2_first 24 = .ok (.getstatic 73, 3) := dk_178 0 73 (dk_at dksX2_first_1 0 rfl rfl)
theorem dX2_first_27 : decode cX2_first 27 = .ok (.invokevirtual 79, 3) := dk_182 0 79 (dk_at dksX2_first_1 3 rfl rfl)
theorem dX2_first_30 : decode cX2_first 30 = .ok (.ifCond .eq 23, 3) := dk_153 0 23 (dk_at dksX2_first_1 6 rfl rfl)
theorem dX2_first_33 : decode cX2_first 33 = .ok (.aload_n 0, 1) := dk_42 (dk_at dksX2_first_1 9 rfl rfl)
theorem dX2_first_34 : decode cX2_first 34 = .ok (.getfield 31, 3) := dk_180 0 31 (dk_at dksX2_first_1 10 rfl rfl)
theorem dX2_first_37 : decode cX2_first 37 = .ok (.iload_n 2, 1) := dk_28 (dk_at dksX2_first_1 13 rfl rfl)
theorem dX2_first_38 : decode cX2_first 38 = .ok (.invokevirtual 59, 3) := dk_182 0 59 (dk_at dksX2_first_1 14 rfl rfl)
theorem dX2_first_41 : decode cX2_first 41 = .ok (.checkcast 63, 3) := dk_192 0 63 (dk_at dksX2_first_1 17 rfl rfl)
theorem dX2_first_44 : decode cX2_first 44 = .ok (.getfield 83, 3) := dk_180 0 83 (dk_at dksX2_first_1 20 rfl rfl)
theorem dX2_first_47 : decode cX2_first 47 = .ok (.iload_n 1, 1) := dk_27 (dk_at dksX2_first_1 23 rfl rfl)
theorem dX2_first_48 : decode cX2_first 48 = .ok (.if_icmp .ne 5, 3) := dk_160 0 5 (dk_at dksX2_first_2 0 rfl rfl)
theorem dX2_first_51 : decode cX2_first 51 = .ok (.iload_n 2, 1) := dk_28 (dk_at dksX2_first_2 3 rfl rfl)
theorem dX2_first_52 : decode cX2_first 52 = .ok (.ireturn, 1) := dk_172 (dk_at dksX2_first_2 4 rfl rfl)
theorem dX2_first_53 : decode cX2_first 53 = .ok (.iinc 2 1, 3) := dk_132 2 1 (dk_at dksX2_first_2 5 rfl rfl)
theorem dX2_first_56 : decode cX2_first 56 = .ok (.goto (-54), 3) := dk_167 255 202 (dk_at dksX2_first_2 8 rfl rfl)
theorem dX2_first_59 : decode cX2_first 59 = .ok (.iconst (-1), 1) := dk_2 (dk_at dksX2_first_2 11 rfl rfl)
theorem dX2_first_60 : decode cX2_first 60 = .ok (.ireturn, 1) := dk_172 (dk_at dksX2_first_2 12 rfl rfl)
abbrev cX2_eitherOf : ByteArray := prog_2_method_4_code
def yX2_eitherOf : MethodName := ⟨RX2, "eitherOf", "(II)I"⟩
def dkwX2_eitherOf_0 : List UInt8 := [27, 2, 160, 0, 7, 28, 167, 0, 17, 28, 2, 160, 0, 7, 27, 167, 0, 8, 27, 28, 184, 0, 86, 172]
abbrev dktX2_eitherOf_0 : List UInt8 := dkwX2_eitherOf_0 ++ []
theorem dksX2_eitherOf_0 : cX2_eitherOf.data.toList.drop 0 = dktX2_eitherOf_0 := by decide +kernel
theorem dX2_eitherOf_0 : decode cX2_eitherOf 0 = .ok (.iload_n 1, 1) := dk_27 (dk_at dksX2_eitherOf_0 0 rfl rfl)
theorem dX2_eitherOf_1 : decode cX2_eitherOf 1 = .ok (.iconst (-1), 1) := dk_2 (dk_at dksX2_eitherOf_0 1 rfl rfl)
theorem dX2_eitherOf_2 : decode cX2_eitherOf 2 = .ok (.if_icmp .ne 7, 3) := dk_160 0 7 (dk_at dksX2_eitherOf_0 2 rfl rfl)
theorem dX2_eitherOf_5 : decode cX2_eitherOf 5 = .ok (.iload_n 2, 1) := dk_28 (dk_at dksX2_eitherOf_0 5 rfl rfl)
theorem dX2_eitherOf_6 : decode cX2_eitherOf 6 = .ok (.goto 17, 3) := dk_167 0 17 (dk_at dksX2_eitherOf_0 6 rfl rfl)
theorem dX2_eitherOf_9 : decode cX2_eitherOf 9 = .ok (.iload_n 2, 1) := dk_28 (dk_at dksX2_eitherOf_0 9 rfl rfl)
theorem dX2_eitherOf_10 : decode cX2_eitherOf 10 = .ok (.iconst (-1), 1) := dk_2 (dk_at dksX2_eitherOf_0 10 rfl rfl)
theorem dX2_eitherOf_11 : decode cX2_eitherOf 11 = .ok (.if_icmp .ne 7, 3) := dk_160 0 7 (dk_at dksX2_eitherOf_0 11 rfl rfl)
theorem dX2_eitherOf_14 : decode cX2_eitherOf 14 = .ok (.iload_n 1, 1) := dk_27 (dk_at dksX2_eitherOf_0 14 rfl rfl)
theorem dX2_eitherOf_15 : decode cX2_eitherOf 15 = .ok (.goto 8, 3) := dk_167 0 8 (dk_at dksX2_eitherOf_0 15 rfl rfl)
theorem dX2_eitherOf_18 : decode cX2_eitherOf 18 = .ok (.iload_n 1, 1) := dk_27 (dk_at dksX2_eitherOf_0 18 rfl rfl)
theorem dX2_eitherOf_19 : decode cX2_eitherOf 19 = .ok (.iload_n 2, 1) := dk_28 (dk_at dksX2_eitherOf_0 19 rfl rfl)
theorem dX2_eitherOf_20 : decode cX2_eitherOf 20 = .ok (.invokestatic 86, 3) := dk_184 0 86 (dk_at dksX2_eitherOf_0 20 rfl rfl)
theorem dX2_eitherOf_23 : decode cX2_eitherOf 23 = .ok (.ireturn, 1) := dk_172 (dk_at dksX2_eitherOf_0 23 rfl rfl)
abbrev cX2_kindFirst : ByteArray := prog_2_method_5_code
def yX2_kindFirst : MethodName := ⟨RX2, "kindFirst", "(Z)I"⟩
def dkwX2_kindFirst_1 : List UInt8 := [167, 0, 4, 28, 172]
abbrev dktX2_kindFirst_1 : List UInt8 := dkwX2_kindFirst_1 ++ []
def dkwX2_kindFirst_0 : List UInt8 := [42, 27, 182, 0, 92, 61, 28, 2, 160, 0, 19, 42, 27, 154, 0, 7, 4, 167, 0, 4, 3, 182, 0, 92]
abbrev dktX2_kindFirst_0 : List UInt8 := dkwX2_kindFirst_0 ++ dktX2_kindFirst_1
theorem dksX2_kindFirst_0 : cX2_kindFirst.data.toList.drop 0 = dktX2_kindFirst_0 := by decide +kernel
theorem dksX2_kindFirst_1 : cX2_kindFirst.data.toList.drop 24 = dktX2_kindFirst_1 := dk_seg dksX2_kindFirst_0 24 rfl rfl
theorem dX2_kindFirst_0 : decode cX2_kindFirst 0 = .ok (.aload_n 0, 1) := dk_42 (dk_at dksX2_kindFirst_0 0 rfl rfl)
theorem dX2_kindFirst_1 : decode cX2_kindFirst 1 = .ok (.iload_n 1, 1) := dk_27 (dk_at dksX2_kindFirst_0 1 rfl rfl)
theorem dX2_kindFirst_2 : decode cX2_kindFirst 2 = .ok (.invokevirtual 92, 3) := dk_182 0 92 (dk_at dksX2_kindFirst_0 2 rfl rfl)
theorem dX2_kindFirst_5 : decode cX2_kindFirst 5 = .ok (.istore_n 2, 1) := dk_61 (dk_at dksX2_kindFirst_0 5 rfl rfl)
theorem dX2_kindFirst_6 : decode cX2_kindFirst 6 = .ok (.iload_n 2, 1) := dk_28 (dk_at dksX2_kindFirst_0 6 rfl rfl)
theorem dX2_kindFirst_7 : decode cX2_kindFirst 7 = .ok (.iconst (-1), 1) := dk_2 (dk_at dksX2_kindFirst_0 7 rfl rfl)
theorem dX2_kindFirst_8 : decode cX2_kindFirst 8 = .ok (.if_icmp .ne 19, 3) := dk_160 0 19 (dk_at dksX2_kindFirst_0 8 rfl rfl)
theorem dX2_kindFirst_11 : decode cX2_kindFirst 11 = .ok (.aload_n 0, 1) := dk_42 (dk_at dksX2_kindFirst_0 11 rfl rfl)
theorem dX2_kindFirst_12 : decode cX2_kindFirst 12 = .ok (.iload_n 1, 1) := dk_27 (dk_at dksX2_kindFirst_0 12 rfl rfl)
theorem dX2_kindFirst_13 : decode cX2_kindFirst 13 = .ok (.ifCond .ne 7, 3) := dk_154 0 7 (dk_at dksX2_kindFirst_0 13 rfl rfl)
theorem dX2_kindFirst_16 : decode cX2_kindFirst 16 = .ok (.iconst 1, 1) := dk_4 (dk_at dksX2_kindFirst_0 16 rfl rfl)
theorem dX2_kindFirst_17 : decode cX2_kindFirst 17 = .ok (.goto 4, 3) := dk_167 0 4 (dk_at dksX2_kindFirst_0 17 rfl rfl)
theorem dX2_kindFirst_20 : decode cX2_kindFirst 20 = .ok (.iconst 0, 1) := dk_3 (dk_at dksX2_kindFirst_0 20 rfl rfl)
theorem dX2_kindFirst_21 : decode cX2_kindFirst 21 = .ok (.invokevirtual 92, 3) := dk_182 0 92 (dk_at dksX2_kindFirst_0 21 rfl rfl)
theorem dX2_kindFirst_24 : decode cX2_kindFirst 24 = .ok (.goto 4, 3) := dk_167 0 4 (dk_at dksX2_kindFirst_1 0 rfl rfl)
theorem dX2_kindFirst_27 : decode cX2_kindFirst 27 = .ok (.iload_n 2, 1) := dk_28 (dk_at dksX2_kindFirst_1 3 rfl rfl)
theorem dX2_kindFirst_28 : decode cX2_kindFirst 28 = .ok (.ireturn, 1) := dk_172 (dk_at dksX2_kindFirst_1 4 rfl rfl)
abbrev cX2_waiting : ByteArray := prog_2_method_11_code
def yX2_waiting : MethodName := ⟨RX2, "waiting", "(Z)I"⟩
def dkwX2_waiting_2 : List UInt8 := [180, 0, 83, 27, 160, 0, 7, 4, 167, 0, 4, 3, 96, 61, 132, 3, 1, 167, 255, 196, 28, 172]
abbrev dktX2_waiting_2 : List UInt8 := dkwX2_waiting_2 ++ []
def dkwX2_waiting_1 : List UInt8 := [192, 0, 63, 178, 0, 73, 182, 0, 79, 153, 0, 25, 42, 180, 0, 31, 29, 182, 0, 59, 192, 0, 63]
abbrev dktX2_waiting_1 : List UInt8 := dkwX2_waiting_1 ++ dktX2_waiting_2
def dkwX2_waiting_0 : List UInt8 := [3, 61, 3, 62, 29, 42, 180, 0, 31, 182, 0, 55, 162, 0, 55, 28, 42, 180, 0, 31, 29, 182, 0, 59]
abbrev dktX2_waiting_0 : List UInt8 := dkwX2_waiting_0 ++ dktX2_waiting_1
theorem dksX2_waiting_0 : cX2_waiting.data.toList.drop 0 = dktX2_waiting_0 := by decide +kernel
theorem dksX2_waiting_1 : cX2_waiting.data.toList.drop 24 = dktX2_waiting_1 := dk_seg dksX2_waiting_0 24 rfl rfl
theorem dksX2_waiting_2 : cX2_waiting.data.toList.drop 47 = dktX2_waiting_2 := dk_seg dksX2_waiting_1 23 rfl rfl
theorem dX2_waiting_0 : decode cX2_waiting 0 = .ok (.iconst 0, 1) := dk_3 (dk_at dksX2_waiting_0 0 rfl rfl)
theorem dX2_waiting_1 : decode cX2_waiting 1 = .ok (.istore_n 2, 1) := dk_61 (dk_at dksX2_waiting_0 1 rfl rfl)
theorem dX2_waiting_2 : decode cX2_waiting 2 = .ok (.iconst 0, 1) := dk_3 (dk_at dksX2_waiting_0 2 rfl rfl)
theorem dX2_waiting_3 : decode cX2_waiting 3 = .ok (.istore_n 3, 1) := dk_62 (dk_at dksX2_waiting_0 3 rfl rfl)
theorem dX2_waiting_4 : decode cX2_waiting 4 = .ok (.iload_n 3, 1) := dk_29 (dk_at dksX2_waiting_0 4 rfl rfl)
theorem dX2_waiting_5 : decode cX2_waiting 5 = .ok (.aload_n 0, 1) := dk_42 (dk_at dksX2_waiting_0 5 rfl rfl)
theorem dX2_waiting_6 : decode cX2_waiting 6 = .ok (.getfield 31, 3) := dk_180 0 31 (dk_at dksX2_waiting_0 6 rfl rfl)
theorem dX2_waiting_9 : decode cX2_waiting 9 = .ok (.invokevirtual 55, 3) := dk_182 0 55 (dk_at dksX2_waiting_0 9 rfl rfl)
theorem dX2_waiting_12 : decode cX2_waiting 12 = .ok (.if_icmp .ge 55, 3) := dk_162 0 55 (dk_at dksX2_waiting_0 12 rfl rfl)
theorem dX2_waiting_15 : decode cX2_waiting 15 = .ok (.iload_n 2, 1) := dk_28 (dk_at dksX2_waiting_0 15 rfl rfl)
theorem dX2_waiting_16 : decode cX2_waiting 16 = .ok (.aload_n 0, 1) := dk_42 (dk_at dksX2_waiting_0 16 rfl rfl)
theorem dX2_waiting_17 : decode cX2_waiting 17 = .ok (.getfield 31, 3) := dk_180 0 31 (dk_at dksX2_waiting_0 17 rfl rfl)
theorem dX2_waiting_20 : decode cX2_waiting 20 = .ok (.iload_n 3, 1) := dk_29 (dk_at dksX2_waiting_0 20 rfl rfl)
theorem dX2_waiting_21 : decode cX2_waiting 21 = .ok (.invokevirtual 59, 3) := dk_182 0 59 (dk_at dksX2_waiting_0 21 rfl rfl)
theorem dX2_waiting_24 : decode cX2_waiting 24 = .ok (.checkcast 63, 3) := dk_192 0 63 (dk_at dksX2_waiting_1 0 rfl rfl)
theorem dX2_waiting_27 : decode cX2_waiting 27 = .ok (.getstatic 73, 3) := dk_178 0 73 (dk_at dksX2_waiting_1 3 rfl rfl)
theorem dX2_waiting_30 : decode cX2_waiting 30 = .ok (.invokevirtual 79, 3) := dk_182 0 79 (dk_at dksX2_waiting_1 6 rfl rfl)
theorem dX2_waiting_33 : decode cX2_waiting 33 = .ok (.ifCond .eq 25, 3) := dk_153 0 25 (dk_at dksX2_waiting_1 9 rfl rfl)
theorem dX2_waiting_36 : decode cX2_waiting 36 = .ok (.aload_n 0, 1) := dk_42 (dk_at dksX2_waiting_1 12 rfl rfl)
theorem dX2_waiting_37 : decode cX2_waiting 37 = .ok (.getfield 31, 3) := dk_180 0 31 (dk_at dksX2_waiting_1 13 rfl rfl)
theorem dX2_waiting_40 : decode cX2_waiting 40 = .ok (.iload_n 3, 1) := dk_29 (dk_at dksX2_waiting_1 16 rfl rfl)
theorem dX2_waiting_41 : decode cX2_waiting 41 = .ok (.invokevirtual 59, 3) := dk_182 0 59 (dk_at dksX2_waiting_1 17 rfl rfl)
theorem dX2_waiting_44 : decode cX2_waiting 44 = .ok (.checkcast 63, 3) := dk_192 0 63 (dk_at dksX2_waiting_1 20 rfl rfl)
theorem dX2_waiting_47 : decode cX2_waiting 47 = .ok (.getfield 83, 3) := dk_180 0 83 (dk_at dksX2_waiting_2 0 rfl rfl)
theorem dX2_waiting_50 : decode cX2_waiting 50 = .ok (.iload_n 1, 1) := dk_27 (dk_at dksX2_waiting_2 3 rfl rfl)
theorem dX2_waiting_51 : decode cX2_waiting 51 = .ok (.if_icmp .ne 7, 3) := dk_160 0 7 (dk_at dksX2_waiting_2 4 rfl rfl)
theorem dX2_waiting_54 : decode cX2_waiting 54 = .ok (.iconst 1, 1) := dk_4 (dk_at dksX2_waiting_2 7 rfl rfl)
theorem dX2_waiting_55 : decode cX2_waiting 55 = .ok (.goto 4, 3) := dk_167 0 4 (dk_at dksX2_waiting_2 8 rfl rfl)
theorem dX2_waiting_58 : decode cX2_waiting 58 = .ok (.iconst 0, 1) := dk_3 (dk_at dksX2_waiting_2 11 rfl rfl)
theorem dX2_waiting_59 : decode cX2_waiting 59 = .ok (.iadd, 1) := dk_96 (dk_at dksX2_waiting_2 12 rfl rfl)
theorem dX2_waiting_60 : decode cX2_waiting 60 = .ok (.istore_n 2, 1) := dk_61 (dk_at dksX2_waiting_2 13 rfl rfl)
theorem dX2_waiting_61 : decode cX2_waiting 61 = .ok (.iinc 3 1, 3) := dk_132 3 1 (dk_at dksX2_waiting_2 14 rfl rfl)
theorem dX2_waiting_64 : decode cX2_waiting 64 = .ok (.goto (-60), 3) := dk_167 255 196 (dk_at dksX2_waiting_2 17 rfl rfl)
theorem dX2_waiting_67 : decode cX2_waiting 67 = .ok (.iload_n 2, 1) := dk_28 (dk_at dksX2_waiting_2 20 rfl rfl)
theorem dX2_waiting_68 : decode cX2_waiting 68 = .ok (.ireturn, 1) := dk_172 (dk_at dksX2_waiting_2 21 rfl rfl)
abbrev cX2_pass : ByteArray := prog_2_method_10_code
def yX2_pass : MethodName := ⟨RX2, "pass", "()V"⟩
def dkwX2_pass_4 : List UInt8 := [112, 46, 96, 184, 0, 86, 184, 0, 106, 181, 0, 42, 42, 89, 180, 0, 36, 4, 96, 181, 0, 36, 177]
abbrev dktX2_pass_4 : List UInt8 := dkwX2_pass_4 ++ []
def dkwX2_pass_3 : List UInt8 := [154, 0, 36, 42, 3, 16, 9, 42, 180, 0, 42, 42, 180, 0, 24, 42, 180, 0, 36, 16, 60, 108, 16, 8]
abbrev dktX2_pass_3 : List UInt8 := dkwX2_pass_3 ++ dktX2_pass_4
def dkwX2_pass_2 : List UInt8 := [192, 0, 63, 42, 180, 0, 36, 182, 0, 123, 132, 2, 1, 167, 255, 224, 42, 180, 0, 36, 16, 60, 112]
abbrev dktX2_pass_2 : List UInt8 := dkwX2_pass_2 ++ dktX2_pass_3
def dkwX2_pass_1 : List UInt8 := [182, 0, 119, 3, 61, 28, 42, 180, 0, 31, 182, 0, 55, 162, 0, 27, 42, 180, 0, 31, 28, 182, 0, 59]
abbrev dktX2_pass_1 : List UInt8 := dkwX2_pass_1 ++ dktX2_pass_2
def dkwX2_pass_0 : List UInt8 := [42, 182, 0, 117, 60, 27, 2, 159, 0, 18, 42, 42, 180, 0, 31, 27, 182, 0, 59, 192, 0, 63]
abbrev dktX2_pass_0 : List UInt8 := dkwX2_pass_0 ++ dktX2_pass_1
theorem dksX2_pass_0 : cX2_pass.data.toList.drop 0 = dktX2_pass_0 := by decide +kernel
theorem dksX2_pass_1 : cX2_pass.data.toList.drop 22 = dktX2_pass_1 := dk_seg dksX2_pass_0 22 rfl rfl
theorem dksX2_pass_2 : cX2_pass.data.toList.drop 46 = dktX2_pass_2 := dk_seg dksX2_pass_1 24 rfl rfl
theorem dksX2_pass_3 : cX2_pass.data.toList.drop 69 = dktX2_pass_3 := dk_seg dksX2_pass_2 23 rfl rfl
theorem dksX2_pass_4 : cX2_pass.data.toList.drop 93 = dktX2_pass_4 := dk_seg dksX2_pass_3 24 rfl rfl
theorem dX2_pass_0 : decode cX2_pass 0 = .ok (.aload_n 0, 1) := dk_42 (dk_at dksX2_pass_0 0 rfl rfl)
theorem dX2_pass_1 : decode cX2_pass 1 = .ok (.invokevirtual 117, 3) := dk_182 0 117 (dk_at dksX2_pass_0 1 rfl rfl)
theorem dX2_pass_4 : decode cX2_pass 4 = .ok (.istore_n 1, 1) := dk_60 (dk_at dksX2_pass_0 4 rfl rfl)
theorem dX2_pass_5 : decode cX2_pass 5 = .ok (.iload_n 1, 1) := dk_27 (dk_at dksX2_pass_0 5 rfl rfl)
theorem dX2_pass_6 : decode cX2_pass 6 = .ok (.iconst (-1), 1) := dk_2 (dk_at dksX2_pass_0 6 rfl rfl)
theorem dX2_pass_7 : decode cX2_pass 7 = .ok (.if_icmp .eq 18, 3) := dk_159 0 18 (dk_at dksX2_pass_0 7 rfl rfl)
theorem dX2_pass_10 : decode cX2_pass 10 = .ok (.aload_n 0, 1) := dk_42 (dk_at dksX2_pass_0 10 rfl rfl)
theorem dX2_pass_11 : decode cX2_pass 11 = .ok (.aload_n 0, 1) := dk_42 (dk_at dksX2_pass_0 11 rfl rfl)
theorem dX2_pass_12 : decode cX2_pass 12 = .ok (.getfield 31, 3) := dk_180 0 31 (dk_at dksX2_pass_0 12 rfl rfl)
theorem dX2_pass_15 : decode cX2_pass 15 = .ok (.iload_n 1, 1) := dk_27 (dk_at dksX2_pass_0 15 rfl rfl)
theorem dX2_pass_16 : decode cX2_pass 16 = .ok (.invokevirtual 59, 3) := dk_182 0 59 (dk_at dksX2_pass_0 16 rfl rfl)
theorem dX2_pass_19 : decode cX2_pass 19 = .ok (.checkcast 63, 3) := dk_192 0 63 (dk_at dksX2_pass_0 19 rfl rfl)
theorem dX2_pass_22 : decode cX2_pass 22 = .ok (.invokevirtual 119, 3) := dk_182 0 119 (dk_at dksX2_pass_1 0 rfl rfl)
theorem dX2_pass_25 : decode cX2_pass 25 = .ok (.iconst 0, 1) := dk_3 (dk_at dksX2_pass_1 3 rfl rfl)
theorem dX2_pass_26 : decode cX2_pass 26 = .ok (.istore_n 2, 1) := dk_61 (dk_at dksX2_pass_1 4 rfl rfl)
theorem dX2_pass_27 : decode cX2_pass 27 = .ok (.iload_n 2, 1) := dk_28 (dk_at dksX2_pass_1 5 rfl rfl)
theorem dX2_pass_28 : decode cX2_pass 28 = .ok (.aload_n 0, 1) := dk_42 (dk_at dksX2_pass_1 6 rfl rfl)
theorem dX2_pass_29 : decode cX2_pass 29 = .ok (.getfield 31, 3) := dk_180 0 31 (dk_at dksX2_pass_1 7 rfl rfl)
theorem dX2_pass_32 : decode cX2_pass 32 = .ok (.invokevirtual 55, 3) := dk_182 0 55 (dk_at dksX2_pass_1 10 rfl rfl)
theorem dX2_pass_35 : decode cX2_pass 35 = .ok (.if_icmp .ge 27, 3) := dk_162 0 27 (dk_at dksX2_pass_1 13 rfl rfl)
theorem dX2_pass_38 : decode cX2_pass 38 = .ok (.aload_n 0, 1) := dk_42 (dk_at dksX2_pass_1 16 rfl rfl)
theorem dX2_pass_39 : decode cX2_pass 39 = .ok (.getfield 31, 3) := dk_180 0 31 (dk_at dksX2_pass_1 17 rfl rfl)
theorem dX2_pass_42 : decode cX2_pass 42 = .ok (.iload_n 2, 1) := dk_28 (dk_at dksX2_pass_1 20 rfl rfl)
theorem dX2_pass_43 : decode cX2_pass 43 = .ok (.invokevirtual 59, 3) := dk_182 0 59 (dk_at dksX2_pass_1 21 rfl rfl)
theorem dX2_pass_46 : decode cX2_pass 46 = .ok (.checkcast 63, 3) := dk_192 0 63 (dk_at dksX2_pass_2 0 rfl rfl)
theorem dX2_pass_49 : decode cX2_pass 49 = .ok (.aload_n 0, 1) := dk_42 (dk_at dksX2_pass_2 3 rfl rfl)
theorem dX2_pass_50 : decode cX2_pass 50 = .ok (.getfield 36, 3) := dk_180 0 36 (dk_at dksX2_pass_2 4 rfl rfl)
theorem dX2_pass_53 : decode cX2_pass 53 = .ok (.invokevirtual 123, 3) := dk_182 0 123 (dk_at dksX2_pass_2 7 rfl rfl)
theorem dX2_pass_56 : decode cX2_pass 56 = .ok (.iinc 2 1, 3) := dk_132 2 1 (dk_at dksX2_pass_2 10 rfl rfl)
theorem dX2_pass_59 : decode cX2_pass 59 = .ok (.goto (-32), 3) := dk_167 255 224 (dk_at dksX2_pass_2 13 rfl rfl)
theorem dX2_pass_62 : decode cX2_pass 62 = .ok (.aload_n 0, 1) := dk_42 (dk_at dksX2_pass_2 16 rfl rfl)
theorem dX2_pass_63 : decode cX2_pass 63 = .ok (.getfield 36, 3) := dk_180 0 36 (dk_at dksX2_pass_2 17 rfl rfl)
theorem dX2_pass_66 : decode cX2_pass 66 = .ok (.bipush 60, 2) := dk_16 60 (dk_at dksX2_pass_2 20 rfl rfl)
theorem dX2_pass_68 : decode cX2_pass 68 = .ok (.irem, 1) := dk_112 (dk_at dksX2_pass_2 22 rfl rfl)
theorem dX2_pass_69 : decode cX2_pass 69 = .ok (.ifCond .ne 36, 3) := dk_154 0 36 (dk_at dksX2_pass_3 0 rfl rfl)
theorem dX2_pass_72 : decode cX2_pass 72 = .ok (.aload_n 0, 1) := dk_42 (dk_at dksX2_pass_3 3 rfl rfl)
theorem dX2_pass_73 : decode cX2_pass 73 = .ok (.iconst 0, 1) := dk_3 (dk_at dksX2_pass_3 4 rfl rfl)
theorem dX2_pass_74 : decode cX2_pass 74 = .ok (.bipush 9, 2) := dk_16 9 (dk_at dksX2_pass_3 5 rfl rfl)
theorem dX2_pass_76 : decode cX2_pass 76 = .ok (.aload_n 0, 1) := dk_42 (dk_at dksX2_pass_3 7 rfl rfl)
theorem dX2_pass_77 : decode cX2_pass 77 = .ok (.getfield 42, 3) := dk_180 0 42 (dk_at dksX2_pass_3 8 rfl rfl)
theorem dX2_pass_80 : decode cX2_pass 80 = .ok (.aload_n 0, 1) := dk_42 (dk_at dksX2_pass_3 11 rfl rfl)
theorem dX2_pass_81 : decode cX2_pass 81 = .ok (.getfield 24, 3) := dk_180 0 24 (dk_at dksX2_pass_3 12 rfl rfl)
theorem dX2_pass_84 : decode cX2_pass 84 = .ok (.aload_n 0, 1) := dk_42 (dk_at dksX2_pass_3 15 rfl rfl)
theorem dX2_pass_85 : decode cX2_pass 85 = .ok (.getfield 36, 3) := dk_180 0 36 (dk_at dksX2_pass_3 16 rfl rfl)
theorem dX2_pass_88 : decode cX2_pass 88 = .ok (.bipush 60, 2) := dk_16 60 (dk_at dksX2_pass_3 19 rfl rfl)
theorem dX2_pass_90 : decode cX2_pass 90 = .ok (.idiv, 1) := dk_108 (dk_at dksX2_pass_3 21 rfl rfl)
theorem dX2_pass_91 : decode cX2_pass 91 = .ok (.bipush 8, 2) := dk_16 8 (dk_at dksX2_pass_3 22 rfl rfl)
theorem dX2_pass_93 : decode cX2_pass 93 = .ok (.irem, 1) := dk_112 (dk_at dksX2_pass_4 0 rfl rfl)
theorem dX2_pass_94 : decode cX2_pass 94 = .ok (.iaload, 1) := dk_46 (dk_at dksX2_pass_4 1 rfl rfl)
theorem dX2_pass_95 : decode cX2_pass 95 = .ok (.iadd, 1) := dk_96 (dk_at dksX2_pass_4 2 rfl rfl)
theorem dX2_pass_96 : decode cX2_pass 96 = .ok (.invokestatic 86, 3) := dk_184 0 86 (dk_at dksX2_pass_4 3 rfl rfl)
theorem dX2_pass_99 : decode cX2_pass 99 = .ok (.invokestatic 106, 3) := dk_184 0 106 (dk_at dksX2_pass_4 6 rfl rfl)
theorem dX2_pass_102 : decode cX2_pass 102 = .ok (.putfield 42, 3) := dk_181 0 42 (dk_at dksX2_pass_4 9 rfl rfl)
theorem dX2_pass_105 : decode cX2_pass 105 = .ok (.aload_n 0, 1) := dk_42 (dk_at dksX2_pass_4 12 rfl rfl)
theorem dX2_pass_106 : decode cX2_pass 106 = .ok (.dup, 1) := dk_89 (dk_at dksX2_pass_4 13 rfl rfl)
theorem dX2_pass_107 : decode cX2_pass 107 = .ok (.getfield 36, 3) := dk_180 0 36 (dk_at dksX2_pass_4 14 rfl rfl)
theorem dX2_pass_110 : decode cX2_pass 110 = .ok (.iconst 1, 1) := dk_4 (dk_at dksX2_pass_4 17 rfl rfl)
theorem dX2_pass_111 : decode cX2_pass 111 = .ok (.iadd, 1) := dk_96 (dk_at dksX2_pass_4 18 rfl rfl)
theorem dX2_pass_112 : decode cX2_pass 112 = .ok (.putfield 36, 3) := dk_181 0 36 (dk_at dksX2_pass_4 19 rfl rfl)
theorem dX2_pass_115 : decode cX2_pass 115 = .ok (.return_, 1) := dk_177 (dk_at dksX2_pass_4 22 rfl rfl)
abbrev cX2_serve : ByteArray := prog_2_method_9_code
def yX2_serve : MethodName := ⟨RX2, "serve", "(LBridgeBells$Traveller;)V"⟩
def dkwX2_serve_3 : List UInt8 := [181, 0, 39, 177]
abbrev dktX2_serve_3 : List UInt8 := dkwX2_serve_3 ++ []
def dkwX2_serve_2 : List UInt8 := [184, 0, 86, 181, 0, 39, 167, 0, 21, 42, 3, 42, 180, 0, 39, 42, 3, 182, 0, 114, 100, 184, 0, 106]
abbrev dktX2_serve_2 : List UInt8 := dkwX2_serve_2 ++ dktX2_serve_3
def dkwX2_serve_1 : List UInt8 := [167, 0, 50, 43, 180, 0, 83, 153, 0, 25, 42, 16, 60, 42, 180, 0, 39, 42, 4, 182, 0, 114, 96]
abbrev dktX2_serve_1 : List UInt8 := dkwX2_serve_1 ++ dktX2_serve_2
def dkwX2_serve_0 : List UInt8 := [42, 180, 0, 39, 43, 182, 0, 109, 160, 0, 18, 43, 182, 0, 111, 42, 43, 180, 0, 83, 181, 0, 45]
abbrev dktX2_serve_0 : List UInt8 := dkwX2_serve_0 ++ dktX2_serve_1
theorem dksX2_serve_0 : cX2_serve.data.toList.drop 0 = dktX2_serve_0 := by decide +kernel
theorem dksX2_serve_1 : cX2_serve.data.toList.drop 23 = dktX2_serve_1 := dk_seg dksX2_serve_0 23 rfl rfl
theorem dksX2_serve_2 : cX2_serve.data.toList.drop 46 = dktX2_serve_2 := dk_seg dksX2_serve_1 23 rfl rfl
theorem dksX2_serve_3 : cX2_serve.data.toList.drop 70 = dktX2_serve_3 := dk_seg dksX2_serve_2 24 rfl rfl
theorem dX2_serve_0 : decode cX2_serve 0 = .ok (.aload_n 0, 1) := dk_42 (dk_at dksX2_serve_0 0 rfl rfl)
theorem dX2_serve_1 : decode cX2_serve 1 = .ok (.getfield 39, 3) := dk_180 0 39 (dk_at dksX2_serve_0 1 rfl rfl)
theorem dX2_serve_4 : decode cX2_serve 4 = .ok (.aload_n 1, 1) := dk_43 (dk_at dksX2_serve_0 4 rfl rfl)
theorem dX2_serve_5 : decode cX2_serve 5 = .ok (.invokevirtual 109, 3) := dk_182 0 109 (dk_at dksX2_serve_0 5 rfl rfl)
theorem dX2_serve_8 : decode cX2_serve 8 = .ok (.if_icmp .ne 18, 3) := dk_160 0 18 (dk_at dksX2_serve_0 8 rfl rfl)
theorem dX2_serve_11 : decode cX2_serve 11 = .ok (.aload_n 1, 1) := dk_43 (dk_at dksX2_serve_0 11 rfl rfl)
theorem dX2_serve_12 : decode cX2_serve 12 = .ok (.invokevirtual 111, 3) := dk_182 0 111 (dk_at dksX2_serve_0 12 rfl rfl)
theorem dX2_serve_15 : decode cX2_serve 15 = .ok (.aload_n 0, 1) := dk_42 (dk_at dksX2_serve_0 15 rfl rfl)
theorem dX2_serve_16 : decode cX2_serve 16 = .ok (.aload_n 1, 1) := dk_43 (dk_at dksX2_serve_0 16 rfl rfl)
theorem dX2_serve_17 : decode cX2_serve 17 = .ok (.getfield 83, 3) := dk_180 0 83 (dk_at dksX2_serve_0 17 rfl rfl)
theorem dX2_serve_20 : decode cX2_serve 20 = .ok (.putfield 45, 3) := dk_181 0 45 (dk_at dksX2_serve_0 20 rfl rfl)
theorem dX2_serve_23 : decode cX2_serve 23 = .ok (.goto 50, 3) := dk_167 0 50 (dk_at dksX2_serve_1 0 rfl rfl)
theorem dX2_serve_26 : decode cX2_serve 26 = .ok (.aload_n 1, 1) := dk_43 (dk_at dksX2_serve_1 3 rfl rfl)
theorem dX2_serve_27 : decode cX2_serve 27 = .ok (.getfield 83, 3) := dk_180 0 83 (dk_at dksX2_serve_1 4 rfl rfl)
theorem dX2_serve_30 : decode cX2_serve 30 = .ok (.ifCond .eq 25, 3) := dk_153 0 25 (dk_at dksX2_serve_1 7 rfl rfl)
theorem dX2_serve_33 : decode cX2_serve 33 = .ok (.aload_n 0, 1) := dk_42 (dk_at dksX2_serve_1 10 rfl rfl)
theorem dX2_serve_34 : decode cX2_serve 34 = .ok (.bipush 60, 2) := dk_16 60 (dk_at dksX2_serve_1 11 rfl rfl)
theorem dX2_serve_36 : decode cX2_serve 36 = .ok (.aload_n 0, 1) := dk_42 (dk_at dksX2_serve_1 13 rfl rfl)
theorem dX2_serve_37 : decode cX2_serve 37 = .ok (.getfield 39, 3) := dk_180 0 39 (dk_at dksX2_serve_1 14 rfl rfl)
theorem dX2_serve_40 : decode cX2_serve 40 = .ok (.aload_n 0, 1) := dk_42 (dk_at dksX2_serve_1 17 rfl rfl)
theorem dX2_serve_41 : decode cX2_serve 41 = .ok (.iconst 1, 1) := dk_4 (dk_at dksX2_serve_1 18 rfl rfl)
theorem dX2_serve_42 : decode cX2_serve 42 = .ok (.invokevirtual 114, 3) := dk_182 0 114 (dk_at dksX2_serve_1 19 rfl rfl)
theorem dX2_serve_45 : decode cX2_serve 45 = .ok (.iadd, 1) := dk_96 (dk_at dksX2_serve_1 22 rfl rfl)
theorem dX2_serve_46 : decode cX2_serve 46 = .ok (.invokestatic 86, 3) := dk_184 0 86 (dk_at dksX2_serve_2 0 rfl rfl)
theorem dX2_serve_49 : decode cX2_serve 49 = .ok (.putfield 39, 3) := dk_181 0 39 (dk_at dksX2_serve_2 3 rfl rfl)
theorem dX2_serve_52 : decode cX2_serve 52 = .ok (.goto 21, 3) := dk_167 0 21 (dk_at dksX2_serve_2 6 rfl rfl)
theorem dX2_serve_55 : decode cX2_serve 55 = .ok (.aload_n 0, 1) := dk_42 (dk_at dksX2_serve_2 9 rfl rfl)
theorem dX2_serve_56 : decode cX2_serve 56 = .ok (.iconst 0, 1) := dk_3 (dk_at dksX2_serve_2 10 rfl rfl)
theorem dX2_serve_57 : decode cX2_serve 57 = .ok (.aload_n 0, 1) := dk_42 (dk_at dksX2_serve_2 11 rfl rfl)
theorem dX2_serve_58 : decode cX2_serve 58 = .ok (.getfield 39, 3) := dk_180 0 39 (dk_at dksX2_serve_2 12 rfl rfl)
theorem dX2_serve_61 : decode cX2_serve 61 = .ok (.aload_n 0, 1) := dk_42 (dk_at dksX2_serve_2 15 rfl rfl)
theorem dX2_serve_62 : decode cX2_serve 62 = .ok (.iconst 0, 1) := dk_3 (dk_at dksX2_serve_2 16 rfl rfl)
theorem dX2_serve_63 : decode cX2_serve 63 = .ok (.invokevirtual 114, 3) := dk_182 0 114 (dk_at dksX2_serve_2 17 rfl rfl)
theorem dX2_serve_66 : decode cX2_serve 66 = .ok (.isub, 1) := dk_100 (dk_at dksX2_serve_2 20 rfl rfl)
theorem dX2_serve_67 : decode cX2_serve 67 = .ok (.invokestatic 106, 3) := dk_184 0 106 (dk_at dksX2_serve_2 21 rfl rfl)
theorem dX2_serve_70 : decode cX2_serve 70 = .ok (.putfield 39, 3) := dk_181 0 39 (dk_at dksX2_serve_3 0 rfl rfl)
theorem dX2_serve_73 : decode cX2_serve 73 = .ok (.return_, 1) := dk_177 (dk_at dksX2_serve_3 3 rfl rfl)
abbrev cX2_copy : ByteArray := prog_2_method_2_code
def yX2_copy : MethodName := ⟨RX2, "copy", "()LBridgeBells$Bridge;"⟩
def dkwX2_copy_4 : List UInt8 := [192, 0, 63, 182, 0, 65, 182, 0, 69, 87, 132, 2, 1, 167, 255, 220, 43, 176]
abbrev dktX2_copy_4 : List UInt8 := dkwX2_copy_4 ++ []
def dkwX2_copy_3 : List UInt8 := [61, 28, 42, 180, 0, 31, 182, 0, 55, 162, 0, 31, 43, 180, 0, 31, 42, 180, 0, 31, 28, 182, 0, 59]
abbrev dktX2_copy_3 : List UInt8 := dkwX2_copy_3 ++ dktX2_copy_4
def dkwX2_copy_2 : List UInt8 := [43, 42, 180, 0, 45, 181, 0, 45, 42, 180, 0, 24, 3, 43, 180, 0, 24, 3, 16, 8, 184, 0, 49, 3]
abbrev dktX2_copy_2 : List UInt8 := dkwX2_copy_2 ++ dktX2_copy_3
def dkwX2_copy_1 : List UInt8 := [43, 42, 180, 0, 9, 181, 0, 9, 43, 42, 180, 0, 42, 181, 0, 42, 43, 42, 180, 0, 21, 181, 0, 21]
abbrev dktX2_copy_1 : List UInt8 := dkwX2_copy_1 ++ dktX2_copy_2
def dkwX2_copy_0 : List UInt8 := [187, 0, 10, 89, 183, 0, 35, 76, 43, 42, 180, 0, 36, 181, 0, 36, 43, 42, 180, 0, 39, 181, 0, 39]
abbrev dktX2_copy_0 : List UInt8 := dkwX2_copy_0 ++ dktX2_copy_1
theorem dksX2_copy_0 : cX2_copy.data.toList.drop 0 = dktX2_copy_0 := by decide +kernel
theorem dksX2_copy_1 : cX2_copy.data.toList.drop 24 = dktX2_copy_1 := dk_seg dksX2_copy_0 24 rfl rfl
theorem dksX2_copy_2 : cX2_copy.data.toList.drop 48 = dktX2_copy_2 := dk_seg dksX2_copy_1 24 rfl rfl
theorem dksX2_copy_3 : cX2_copy.data.toList.drop 72 = dktX2_copy_3 := dk_seg dksX2_copy_2 24 rfl rfl
theorem dksX2_copy_4 : cX2_copy.data.toList.drop 96 = dktX2_copy_4 := dk_seg dksX2_copy_3 24 rfl rfl
theorem dX2_copy_0 : decode cX2_copy 0 = .ok (.new 10, 3) := dk_187 0 10 (dk_at dksX2_copy_0 0 rfl rfl)
theorem dX2_copy_3 : decode cX2_copy 3 = .ok (.dup, 1) := dk_89 (dk_at dksX2_copy_0 3 rfl rfl)
theorem dX2_copy_4 : decode cX2_copy 4 = .ok (.invokespecial 35, 3) := dk_183 0 35 (dk_at dksX2_copy_0 4 rfl rfl)
theorem dX2_copy_7 : decode cX2_copy 7 = .ok (.astore_n 1, 1) := dk_76 (dk_at dksX2_copy_0 7 rfl rfl)
theorem dX2_copy_8 : decode cX2_copy 8 = .ok (.aload_n 1, 1) := dk_43 (dk_at dksX2_copy_0 8 rfl rfl)
theorem dX2_copy_9 : decode cX2_copy 9 = .ok (.aload_n 0, 1) := dk_42 (dk_at dksX2_copy_0 9 rfl rfl)
theorem dX2_copy_10 : decode cX2_copy 10 = .ok (.getfield 36, 3) := dk_180 0 36 (dk_at dksX2_copy_0 10 rfl rfl)
theorem dX2_copy_13 : decode cX2_copy 13 = .ok (.putfield 36, 3) := dk_181 0 36 (dk_at dksX2_copy_0 13 rfl rfl)
theorem dX2_copy_16 : decode cX2_copy 16 = .ok (.aload_n 1, 1) := dk_43 (dk_at dksX2_copy_0 16 rfl rfl)
theorem dX2_copy_17 : decode cX2_copy 17 = .ok (.aload_n 0, 1) := dk_42 (dk_at dksX2_copy_0 17 rfl rfl)
theorem dX2_copy_18 : decode cX2_copy 18 = .ok (.getfield 39, 3) := dk_180 0 39 (dk_at dksX2_copy_0 18 rfl rfl)
theorem dX2_copy_21 : decode cX2_copy 21 = .ok (.putfield 39, 3) := dk_181 0 39 (dk_at dksX2_copy_0 21 rfl rfl)
theorem dX2_copy_24 : decode cX2_copy 24 = .ok (.aload_n 1, 1) := dk_43 (dk_at dksX2_copy_1 0 rfl rfl)
theorem dX2_copy_25 : decode cX2_copy 25 = .ok (.aload_n 0, 1) := dk_42 (dk_at dksX2_copy_1 1 rfl rfl)
theorem dX2_copy_26 : decode cX2_copy 26 = .ok (.getfield 9, 3) := dk_180 0 9 (dk_at dksX2_copy_1 2 rfl rfl)
theorem dX2_copy_29 : decode cX2_copy 29 = .ok (.putfield 9, 3) := dk_181 0 9 (dk_at dksX2_copy_1 5 rfl rfl)
theorem dX2_copy_32 : decode cX2_copy 32 = .ok (.aload_n 1, 1) := dk_43 (dk_at dksX2_copy_1 8 rfl rfl)
theorem dX2_copy_33 : decode cX2_copy 33 = .ok (.aload_n 0, 1) := dk_42 (dk_at dksX2_copy_1 9 rfl rfl)
theorem dX2_copy_34 : decode cX2_copy 34 = .ok (.getfield 42, 3) := dk_180 0 42 (dk_at dksX2_copy_1 10 rfl rfl)
theorem dX2_copy_37 : decode cX2_copy 37 = .ok (.putfield 42, 3) := dk_181 0 42 (dk_at dksX2_copy_1 13 rfl rfl)
theorem dX2_copy_40 : decode cX2_copy 40 = .ok (.aload_n 1, 1) := dk_43 (dk_at dksX2_copy_1 16 rfl rfl)
theorem dX2_copy_41 : decode cX2_copy 41 = .ok (.aload_n 0, 1) := dk_42 (dk_at dksX2_copy_1 17 rfl rfl)
theorem dX2_copy_42 : decode cX2_copy 42 = .ok (.getfield 21, 3) := dk_180 0 21 (dk_at dksX2_copy_1 18 rfl rfl)
theorem dX2_copy_45 : decode cX2_copy 45 = .ok (.putfield 21, 3) := dk_181 0 21 (dk_at dksX2_copy_1 21 rfl rfl)
theorem dX2_copy_48 : decode cX2_copy 48 = .ok (.aload_n 1, 1) := dk_43 (dk_at dksX2_copy_2 0 rfl rfl)
theorem dX2_copy_49 : decode cX2_copy 49 = .ok (.aload_n 0, 1) := dk_42 (dk_at dksX2_copy_2 1 rfl rfl)
theorem dX2_copy_50 : decode cX2_copy 50 = .ok (.getfield 45, 3) := dk_180 0 45 (dk_at dksX2_copy_2 2 rfl rfl)
theorem dX2_copy_53 : decode cX2_copy 53 = .ok (.putfield 45, 3) := dk_181 0 45 (dk_at dksX2_copy_2 5 rfl rfl)
theorem dX2_copy_56 : decode cX2_copy 56 = .ok (.aload_n 0, 1) := dk_42 (dk_at dksX2_copy_2 8 rfl rfl)
theorem dX2_copy_57 : decode cX2_copy 57 = .ok (.getfield 24, 3) := dk_180 0 24 (dk_at dksX2_copy_2 9 rfl rfl)
theorem dX2_copy_60 : decode cX2_copy 60 = .ok (.iconst 0, 1) := dk_3 (dk_at dksX2_copy_2 12 rfl rfl)
theorem dX2_copy_61 : decode cX2_copy 61 = .ok (.aload_n 1, 1) := dk_43 (dk_at dksX2_copy_2 13 rfl rfl)
theorem dX2_copy_62 : decode cX2_copy 62 = .ok (.getfield 24, 3) := dk_180 0 24 (dk_at dksX2_copy_2 14 rfl rfl)
theorem dX2_copy_65 : decode cX2_copy 65 = .ok (.iconst 0, 1) := dk_3 (dk_at dksX2_copy_2 17 rfl rfl)
theorem dX2_copy_66 : decode cX2_copy 66 = .ok (.bipush 8, 2) := dk_16 8 (dk_at dksX2_copy_2 18 rfl rfl)
theorem dX2_copy_68 : decode cX2_copy 68 = .ok (.invokestatic 49, 3) := dk_184 0 49 (dk_at dksX2_copy_2 20 rfl rfl)
theorem dX2_copy_71 : decode cX2_copy 71 = .ok (.iconst 0, 1) := dk_3 (dk_at dksX2_copy_2 23 rfl rfl)
theorem dX2_copy_72 : decode cX2_copy 72 = .ok (.istore_n 2, 1) := dk_61 (dk_at dksX2_copy_3 0 rfl rfl)
theorem dX2_copy_73 : decode cX2_copy 73 = .ok (.iload_n 2, 1) := dk_28 (dk_at dksX2_copy_3 1 rfl rfl)
theorem dX2_copy_74 : decode cX2_copy 74 = .ok (.aload_n 0, 1) := dk_42 (dk_at dksX2_copy_3 2 rfl rfl)
theorem dX2_copy_75 : decode cX2_copy 75 = .ok (.getfield 31, 3) := dk_180 0 31 (dk_at dksX2_copy_3 3 rfl rfl)
theorem dX2_copy_78 : decode cX2_copy 78 = .ok (.invokevirtual 55, 3) := dk_182 0 55 (dk_at dksX2_copy_3 6 rfl rfl)
theorem dX2_copy_81 : decode cX2_copy 81 = .ok (.if_icmp .ge 31, 3) := dk_162 0 31 (dk_at dksX2_copy_3 9 rfl rfl)
theorem dX2_copy_84 : decode cX2_copy 84 = .ok (.aload_n 1, 1) := dk_43 (dk_at dksX2_copy_3 12 rfl rfl)
theorem dX2_copy_85 : decode cX2_copy 85 = .ok (.getfield 31, 3) := dk_180 0 31 (dk_at dksX2_copy_3 13 rfl rfl)
theorem dX2_copy_88 : decode cX2_copy 88 = .ok (.aload_n 0, 1) := dk_42 (dk_at dksX2_copy_3 16 rfl rfl)
theorem dX2_copy_89 : decode cX2_copy 89 = .ok (.getfield 31, 3) := dk_180 0 31 (dk_at dksX2_copy_3 17 rfl rfl)
theorem dX2_copy_92 : decode cX2_copy 92 = .ok (.iload_n 2, 1) := dk_28 (dk_at dksX2_copy_3 20 rfl rfl)
theorem dX2_copy_93 : decode cX2_copy 93 = .ok (.invokevirtual 59, 3) := dk_182 0 59 (dk_at dksX2_copy_3 21 rfl rfl)
theorem dX2_copy_96 : decode cX2_copy 96 = .ok (.checkcast 63, 3) := dk_192 0 63 (dk_at dksX2_copy_4 0 rfl rfl)
theorem dX2_copy_99 : decode cX2_copy 99 = .ok (.invokevirtual 65, 3) := dk_182 0 65 (dk_at dksX2_copy_4 3 rfl rfl)
theorem dX2_copy_102 : decode cX2_copy 102 = .ok (.invokevirtual 69, 3) := dk_182 0 69 (dk_at dksX2_copy_4 6 rfl rfl)
theorem dX2_copy_105 : decode cX2_copy 105 = .ok (.pop, 1) := dk_87 (dk_at dksX2_copy_4 9 rfl rfl)
theorem dX2_copy_106 : decode cX2_copy 106 = .ok (.iinc 2 1, 3) := dk_132 2 1 (dk_at dksX2_copy_4 10 rfl rfl)
theorem dX2_copy_109 : decode cX2_copy 109 = .ok (.goto (-36), 3) := dk_167 255 220 (dk_at dksX2_copy_4 13 rfl rfl)
theorem dX2_copy_112 : decode cX2_copy 112 = .ok (.aload_n 1, 1) := dk_43 (dk_at dksX2_copy_4 16 rfl rfl)
theorem dX2_copy_113 : decode cX2_copy 113 = .ok (.areturn, 1) := dk_176 (dk_at dksX2_copy_4 17 rfl rfl)
theorem q15 : (Jvm.Cond.initialized "BridgeBells$Bridge") ∈ lw_all := lw_g (lw_at lw_m1 2 rfl) rfl
theorem q48 : (Jvm.Cond.instantiable "BridgeBells$Bridge" (8 : Nat)) ∈ lw_all := lw_g (lw_at lw_m1 35 rfl) rfl
theorem q50 : (Jvm.Cond.instanceMethod ({ cls := "BridgeBells$Bridge", name := "<init>", desc := "()V" } : Jvm.MethodName)) ∈ lw_all := lw_g (lw_at lw_m1 37 rfl) rfl
theorem q51 : (Jvm.Cond.code ({ cls := "BridgeBells$Bridge", name := "<init>", desc := "()V" } : Jvm.MethodName) prog_2_method_1_code (1 : Nat) (Option.none : Option Jvm.ClassFile.FieldType)) ∈ lw_all := lw_g (lw_at lw_m1 38 rfl) rfl
theorem q52 : (Jvm.Cond.methodLink "BridgeBells$Bridge" (3 : Nat) ({ cls := "java/lang/Object", name := "<init>", desc := "()V" } : Jvm.MethodName)) ∈ lw_all := lw_g (lw_at lw_m1 39 rfl) rfl
theorem q53 : (Jvm.Cond.fieldLink "BridgeBells$Bridge" (15 : Nat) "BridgeBells$Code" "FIRST" "LBridgeBells$Code;") ∈ lw_all := lw_g (lw_at lw_m1 40 rfl) rfl
theorem q55 : (Jvm.Cond.classLink "BridgeBells$Bridge" (28 : Nat) "java/util/ArrayList") ∈ lw_all := lw_g (lw_at lw_m1 42 rfl) rfl
theorem q57 : (Jvm.Cond.methodLink "BridgeBells$Bridge" (30 : Nat) ({ cls := "java/util/ArrayList", name := "<init>", desc := "()V" } : Jvm.MethodName)) ∈ lw_all := lw_g (lw_at lw_m1 44 rfl) rfl
theorem q82 : (Jvm.Cond.fieldLink "BridgeBells$Bridge" (36 : Nat) "BridgeBells$Bridge" "minute" "I") ∈ lw_all := lw_g (lw_at lw_m1 69 rfl) rfl
theorem q84 : (Jvm.Cond.fieldLink "BridgeBells$Bridge" (39 : Nat) "BridgeBells$Bridge" "angle" "I") ∈ lw_all := lw_g (lw_at lw_m1 71 rfl) rfl
theorem q86 : (Jvm.Cond.fieldLink "BridgeBells$Bridge" (9 : Nat) "BridgeBells$Bridge" "poise" "I") ∈ lw_all := lw_g (lw_at lw_m1 73 rfl) rfl
theorem q88 : (Jvm.Cond.fieldLink "BridgeBells$Bridge" (42 : Nat) "BridgeBells$Bridge" "ice" "I") ∈ lw_all := lw_g (lw_at lw_m1 75 rfl) rfl
theorem q90 : (Jvm.Cond.fieldLink "BridgeBells$Bridge" (21 : Nat) "BridgeBells$Bridge" "code" "LBridgeBells$Code;") ∈ lw_all := lw_g (lw_at lw_m1 77 rfl) rfl
theorem q93 : (Jvm.Cond.fieldLink "BridgeBells$Bridge" (45 : Nat) "BridgeBells$Bridge" "latestWasBarge" "Z") ∈ lw_all := lw_g (lw_at lw_m1 80 rfl) rfl
theorem q94 : (Jvm.Cond.fieldLink "BridgeBells$Bridge" (24 : Nat) "BridgeBells$Bridge" "cold" "[I") ∈ lw_all := lw_g (lw_at lw_m1 81 rfl) rfl
theorem q96 : (Jvm.Cond.fieldLink "BridgeBells$Bridge" (31 : Nat) "BridgeBells$Bridge" "travellers" "Ljava/util/ArrayList;") ∈ lw_all := lw_g (lw_at lw_m1 83 rfl) rfl
theorem q98 : (Jvm.Cond.lays "BridgeBells$Bridge" "BridgeBells$Bridge" "minute" "I") ∈ lw_all := lw_g (lw_at lw_m1 85 rfl) rfl
theorem q99 : (Jvm.Cond.soleField "BridgeBells$Bridge" "minute") ∈ lw_all := lw_g (lw_at lw_m1 86 rfl) rfl
theorem q100 : (Jvm.Cond.lays "BridgeBells$Bridge" "BridgeBells$Bridge" "angle" "I") ∈ lw_all := lw_g (lw_at lw_m1 87 rfl) rfl
theorem q101 : (Jvm.Cond.soleField "BridgeBells$Bridge" "angle") ∈ lw_all := lw_g (lw_at lw_m1 88 rfl) rfl
theorem q102 : (Jvm.Cond.lays "BridgeBells$Bridge" "BridgeBells$Bridge" "poise" "I") ∈ lw_all := lw_g (lw_at lw_m1 89 rfl) rfl
theorem q103 : (Jvm.Cond.soleField "BridgeBells$Bridge" "poise") ∈ lw_all := lw_g (lw_at lw_m1 90 rfl) rfl
theorem q104 : (Jvm.Cond.lays "BridgeBells$Bridge" "BridgeBells$Bridge" "ice" "I") ∈ lw_all := lw_g (lw_at lw_m1 91 rfl) rfl
theorem q105 : (Jvm.Cond.soleField "BridgeBells$Bridge" "ice") ∈ lw_all := lw_g (lw_at lw_m1 92 rfl) rfl
theorem q106 : (Jvm.Cond.lays "BridgeBells$Bridge" "BridgeBells$Bridge" "code" "LBridgeBells$Code;") ∈ lw_all := lw_g (lw_at lw_m1 93 rfl) rfl
theorem q107 : (Jvm.Cond.soleField "BridgeBells$Bridge" "code") ∈ lw_all := lw_g (lw_at lw_m1 94 rfl) rfl
theorem q108 : (Jvm.Cond.lays "BridgeBells$Bridge" "BridgeBells$Bridge" "latestWasBarge" "Z") ∈ lw_all := lw_g (lw_at lw_m1 95 rfl) rfl
theorem q109 : (Jvm.Cond.soleField "BridgeBells$Bridge" "latestWasBarge") ∈ lw_all := lw_g (lw_at lw_m1 96 rfl) rfl
theorem q110 : (Jvm.Cond.laysFinal "BridgeBells$Bridge" "BridgeBells$Bridge" "cold" "[I") ∈ lw_all := lw_g (lw_at lw_m1 97 rfl) rfl
theorem q111 : (Jvm.Cond.soleField "BridgeBells$Bridge" "cold") ∈ lw_all := lw_g (lw_at lw_m1 98 rfl) rfl
theorem q112 : (Jvm.Cond.laysFinal "BridgeBells$Bridge" "BridgeBells$Bridge" "travellers" "Ljava/util/ArrayList;") ∈ lw_all := lw_g (lw_at lw_m1 99 rfl) rfl
theorem q113 : (Jvm.Cond.soleField "BridgeBells$Bridge" "travellers") ∈ lw_all := lw_g (lw_at lw_m1 100 rfl) rfl
theorem q114 : (Jvm.Cond.superclass "BridgeBells$Bridge" "java/lang/Object") ∈ lw_all := lw_g (lw_at lw_m1 101 rfl) rfl
theorem q131 : (Jvm.Cond.instanceMethod ({ cls := "BridgeBells$Bridge", name := "speed", desc := "(Z)I" } : Jvm.MethodName)) ∈ lw_all := lw_g (lw_at lw_m1 118 rfl) rfl
theorem q132 : (Jvm.Cond.selects "BridgeBells$Bridge" ({ cls := "BridgeBells$Bridge", name := "speed", desc := "(Z)I" } : Jvm.MethodName) ({ cls := "BridgeBells$Bridge", name := "speed", desc := "(Z)I" } : Jvm.MethodName)) ∈ lw_all := lw_g (lw_at lw_m1 119 rfl) rfl
theorem q133 : (Jvm.Cond.code ({ cls := "BridgeBells$Bridge", name := "speed", desc := "(Z)I" } : Jvm.MethodName) prog_2_method_8_code (3 : Nat) (Option.some Jvm.ClassFile.FieldType.int)) ∈ lw_all := lw_g (lw_at lw_m1 120 rfl) rfl
theorem q134 : (Jvm.Cond.methodLink "BridgeBells$Bridge" (106 : Nat) ({ cls := "java/lang/Math", name := "max", desc := "(II)I" } : Jvm.MethodName)) ∈ lw_all := lw_g (lw_at lw_m1 121 rfl) rfl
theorem q144 : (Jvm.Cond.instanceMethod ({ cls := "BridgeBells$Bridge", name := "waited", desc := "()I" } : Jvm.MethodName)) ∈ lw_all := lw_g (lw_at lw_m1 131 rfl) rfl
theorem q145 : (Jvm.Cond.selects "BridgeBells$Bridge" ({ cls := "BridgeBells$Bridge", name := "waited", desc := "()I" } : Jvm.MethodName) ({ cls := "BridgeBells$Bridge", name := "waited", desc := "()I" } : Jvm.MethodName)) ∈ lw_all := lw_g (lw_at lw_m1 132 rfl) rfl
theorem q146 : (Jvm.Cond.code ({ cls := "BridgeBells$Bridge", name := "waited", desc := "()I" } : Jvm.MethodName) prog_2_method_13_code (3 : Nat) (Option.some Jvm.ClassFile.FieldType.int)) ∈ lw_all := lw_g (lw_at lw_m1 133 rfl) rfl
theorem q147 : (Jvm.Cond.methodLink "BridgeBells$Bridge" (55 : Nat) ({ cls := "java/util/ArrayList", name := "size", desc := "()I" } : Jvm.MethodName)) ∈ lw_all := lw_g (lw_at lw_m1 134 rfl) rfl
theorem q151 : (Jvm.Cond.methodLink "BridgeBells$Bridge" (59 : Nat) ({ cls := "java/util/ArrayList", name := "get", desc := "(I)Ljava/lang/Object;" } : Jvm.MethodName)) ∈ lw_all := lw_g (lw_at lw_m1 138 rfl) rfl
theorem q165 : (Jvm.Cond.classLink "BridgeBells$Bridge" (63 : Nat) "BridgeBells$Traveller") ∈ lw_all := lw_g (lw_at lw_m1 152 rfl) rfl
theorem q188 : (Jvm.Cond.instanceMethod ({ cls := "BridgeBells$Bridge", name := "passed", desc := "()I" } : Jvm.MethodName)) ∈ lw_all := lw_g (lw_at lw_m1 175 rfl) rfl
theorem q189 : (Jvm.Cond.selects "BridgeBells$Bridge" ({ cls := "BridgeBells$Bridge", name := "passed", desc := "()I" } : Jvm.MethodName) ({ cls := "BridgeBells$Bridge", name := "passed", desc := "()I" } : Jvm.MethodName)) ∈ lw_all := lw_g (lw_at lw_m1 176 rfl) rfl
theorem q190 : (Jvm.Cond.code ({ cls := "BridgeBells$Bridge", name := "passed", desc := "()I" } : Jvm.MethodName) prog_2_method_12_code (3 : Nat) (Option.some Jvm.ClassFile.FieldType.int)) ∈ lw_all := lw_g (lw_at lw_m1 177 rfl) rfl
theorem q191 : (Jvm.Cond.fieldLink "BridgeBells$Bridge" (127 : Nat) "BridgeBells$State" "PASSED" "LBridgeBells$State;") ∈ lw_all := lw_g (lw_at lw_m1 178 rfl) rfl
theorem q193 : (Jvm.Cond.methodLink "BridgeBells$Bridge" (79 : Nat) ({ cls := "BridgeBells$Traveller", name := "is", desc := "(LBridgeBells$State;)Z" } : Jvm.MethodName)) ∈ lw_all := lw_g (lw_at lw_m1 180 rfl) rfl
theorem q198 : (Jvm.Cond.instanceMethod ({ cls := "BridgeBells$Bridge", name := "passing", desc := "()I" } : Jvm.MethodName)) ∈ lw_all := lw_g (lw_at lw_m1 185 rfl) rfl
theorem q199 : (Jvm.Cond.selects "BridgeBells$Bridge" ({ cls := "BridgeBells$Bridge", name := "passing", desc := "()I" } : Jvm.MethodName) ({ cls := "BridgeBells$Bridge", name := "passing", desc := "()I" } : Jvm.MethodName)) ∈ lw_all := lw_g (lw_at lw_m1 186 rfl) rfl
theorem q200 : (Jvm.Cond.code ({ cls := "BridgeBells$Bridge", name := "passing", desc := "()I" } : Jvm.MethodName) prog_2_method_6_code (2 : Nat) (Option.some Jvm.ClassFile.FieldType.int)) ∈ lw_all := lw_g (lw_at lw_m1 187 rfl) rfl
theorem q201 : (Jvm.Cond.fieldLink "BridgeBells$Bridge" (96 : Nat) "BridgeBells$State" "PASSES" "LBridgeBells$State;") ∈ lw_all := lw_g (lw_at lw_m1 188 rfl) rfl
theorem q204 : (Jvm.Cond.instanceMethod ({ cls := "BridgeBells$Bridge", name := "next", desc := "()I" } : Jvm.MethodName)) ∈ lw_all := lw_g (lw_at lw_m1 191 rfl) rfl
theorem q205 : (Jvm.Cond.selects "BridgeBells$Bridge" ({ cls := "BridgeBells$Bridge", name := "next", desc := "()I" } : Jvm.MethodName) ({ cls := "BridgeBells$Bridge", name := "next", desc := "()I" } : Jvm.MethodName)) ∈ lw_all := lw_g (lw_at lw_m1 192 rfl) rfl
theorem q206 : (Jvm.Cond.code ({ cls := "BridgeBells$Bridge", name := "next", desc := "()I" } : Jvm.MethodName) prog_2_method_7_code (1 : Nat) (Option.some Jvm.ClassFile.FieldType.int)) ∈ lw_all := lw_g (lw_at lw_m1 193 rfl) rfl
theorem q207 : (Jvm.Cond.methodLink "BridgeBells$Bridge" (99 : Nat) ({ cls := "BridgeBells$Bridge", name := "passing", desc := "()I" } : Jvm.MethodName)) ∈ lw_all := lw_g (lw_at lw_m1 194 rfl) rfl
theorem q208 : (Jvm.Cond.methodLink "BridgeBells$Bridge" (102 : Nat) ({ cls := "BridgeBells$Code", name := "next", desc := "(LBridgeBells$Bridge;)I" } : Jvm.MethodName)) ∈ lw_all := lw_g (lw_at lw_m1 195 rfl) rfl
theorem q215 : (Jvm.Cond.instanceMethod ({ cls := "BridgeBells$Bridge", name := "first", desc := "(Z)I" } : Jvm.MethodName)) ∈ lw_all := lw_g (lw_at lw_m1 202 rfl) rfl
theorem q216 : (Jvm.Cond.selects "BridgeBells$Bridge" ({ cls := "BridgeBells$Bridge", name := "first", desc := "(Z)I" } : Jvm.MethodName) ({ cls := "BridgeBells$Bridge", name := "first", desc := "(Z)I" } : Jvm.MethodName)) ∈ lw_all := lw_g (lw_at lw_m1 203 rfl) rfl
theorem q217 : (Jvm.Cond.code ({ cls := "BridgeBells$Bridge", name := "first", desc := "(Z)I" } : Jvm.MethodName) prog_2_method_3_code (3 : Nat) (Option.some Jvm.ClassFile.FieldType.int)) ∈ lw_all := lw_g (lw_at lw_m1 204 rfl) rfl
theorem q218 : (Jvm.Cond.fieldLink "BridgeBells$Bridge" (73 : Nat) "BridgeBells$State" "WAITS" "LBridgeBells$State;") ∈ lw_all := lw_g (lw_at lw_m1 205 rfl) rfl
theorem q221 : (Jvm.Cond.instanceMethod ({ cls := "BridgeBells$Bridge", name := "eitherOf", desc := "(II)I" } : Jvm.MethodName)) ∈ lw_all := lw_g (lw_at lw_m1 208 rfl) rfl
theorem q222 : (Jvm.Cond.selects "BridgeBells$Bridge" ({ cls := "BridgeBells$Bridge", name := "eitherOf", desc := "(II)I" } : Jvm.MethodName) ({ cls := "BridgeBells$Bridge", name := "eitherOf", desc := "(II)I" } : Jvm.MethodName)) ∈ lw_all := lw_g (lw_at lw_m1 209 rfl) rfl
theorem q223 : (Jvm.Cond.code ({ cls := "BridgeBells$Bridge", name := "eitherOf", desc := "(II)I" } : Jvm.MethodName) prog_2_method_4_code (3 : Nat) (Option.some Jvm.ClassFile.FieldType.int)) ∈ lw_all := lw_g (lw_at lw_m1 210 rfl) rfl
theorem q224 : (Jvm.Cond.methodLink "BridgeBells$Bridge" (86 : Nat) ({ cls := "java/lang/Math", name := "min", desc := "(II)I" } : Jvm.MethodName)) ∈ lw_all := lw_g (lw_at lw_m1 211 rfl) rfl
theorem q231 : (Jvm.Cond.instanceMethod ({ cls := "BridgeBells$Bridge", name := "kindFirst", desc := "(Z)I" } : Jvm.MethodName)) ∈ lw_all := lw_g (lw_at lw_m1 218 rfl) rfl
theorem q232 : (Jvm.Cond.selects "BridgeBells$Bridge" ({ cls := "BridgeBells$Bridge", name := "kindFirst", desc := "(Z)I" } : Jvm.MethodName) ({ cls := "BridgeBells$Bridge", name := "kindFirst", desc := "(Z)I" } : Jvm.MethodName)) ∈ lw_all := lw_g (lw_at lw_m1 219 rfl) rfl
theorem q233 : (Jvm.Cond.code ({ cls := "BridgeBells$Bridge", name := "kindFirst", desc := "(Z)I" } : Jvm.MethodName) prog_2_method_5_code (3 : Nat) (Option.some Jvm.ClassFile.FieldType.int)) ∈ lw_all := lw_g (lw_at lw_m1 220 rfl) rfl
theorem q234 : (Jvm.Cond.methodLink "BridgeBells$Bridge" (92 : Nat) ({ cls := "BridgeBells$Bridge", name := "first", desc := "(Z)I" } : Jvm.MethodName)) ∈ lw_all := lw_g (lw_at lw_m1 221 rfl) rfl
theorem q247 : (Jvm.Cond.instanceMethod ({ cls := "BridgeBells$Bridge", name := "waiting", desc := "(Z)I" } : Jvm.MethodName)) ∈ lw_all := lw_g (lw_at lw_m1 234 rfl) rfl
theorem q248 : (Jvm.Cond.selects "BridgeBells$Bridge" ({ cls := "BridgeBells$Bridge", name := "waiting", desc := "(Z)I" } : Jvm.MethodName) ({ cls := "BridgeBells$Bridge", name := "waiting", desc := "(Z)I" } : Jvm.MethodName)) ∈ lw_all := lw_g (lw_at lw_m1 235 rfl) rfl
theorem q249 : (Jvm.Cond.code ({ cls := "BridgeBells$Bridge", name := "waiting", desc := "(Z)I" } : Jvm.MethodName) prog_2_method_11_code (4 : Nat) (Option.some Jvm.ClassFile.FieldType.int)) ∈ lw_all := lw_g (lw_at lw_m1 236 rfl) rfl
theorem q363 : (Jvm.Cond.fieldLink "BridgeBells$Bridge" (83 : Nat) "BridgeBells$Traveller" "barge" "Z") ∈ lw_all := lw_g (lw_at lw_m2 110 rfl) rfl
theorem q373 : (Jvm.Cond.fieldLinkNest "BridgeBells$Bridge" (130 : Nat) "BridgeBells$Traveller" "waited" "I" "BridgeBells") ∈ lw_tbl := lw_at lw_m2 120 rfl
theorem q424 : (Jvm.Cond.selects "BridgeBells$Bridge" ({ cls := "java/lang/Object", name := "getClass", desc := "()Ljava/lang/Class;" } : Jvm.MethodName) ({ cls := "java/lang/Object", name := "getClass", desc := "()Ljava/lang/Class;" } : Jvm.MethodName)) ∈ lw_all := lw_g (lw_at lw_m2 171 rfl) rfl
theorem q591 : (Jvm.Cond.instanceMethod ({ cls := "BridgeBells$Bridge", name := "pass", desc := "()V" } : Jvm.MethodName)) ∈ lw_all := lw_g (lw_at lw_m3 98 rfl) rfl
theorem q592 : (Jvm.Cond.selects "BridgeBells$Bridge" ({ cls := "BridgeBells$Bridge", name := "pass", desc := "()V" } : Jvm.MethodName) ({ cls := "BridgeBells$Bridge", name := "pass", desc := "()V" } : Jvm.MethodName)) ∈ lw_all := lw_g (lw_at lw_m3 99 rfl) rfl
theorem q593 : (Jvm.Cond.code ({ cls := "BridgeBells$Bridge", name := "pass", desc := "()V" } : Jvm.MethodName) prog_2_method_10_code (3 : Nat) (Option.none : Option Jvm.ClassFile.FieldType)) ∈ lw_all := lw_g (lw_at lw_m3 100 rfl) rfl
theorem q594 : (Jvm.Cond.methodLink "BridgeBells$Bridge" (117 : Nat) ({ cls := "BridgeBells$Bridge", name := "next", desc := "()I" } : Jvm.MethodName)) ∈ lw_all := lw_g (lw_at lw_m3 101 rfl) rfl
theorem q595 : (Jvm.Cond.methodLink "BridgeBells$Bridge" (119 : Nat) ({ cls := "BridgeBells$Bridge", name := "serve", desc := "(LBridgeBells$Traveller;)V" } : Jvm.MethodName)) ∈ lw_all := lw_g (lw_at lw_m3 102 rfl) rfl
theorem q596 : (Jvm.Cond.privateMethod ({ cls := "BridgeBells$Bridge", name := "serve", desc := "(LBridgeBells$Traveller;)V" } : Jvm.MethodName)) ∈ lw_tbl := lw_at lw_m3 103 rfl
theorem q597 : (Jvm.Cond.instanceMethod ({ cls := "BridgeBells$Bridge", name := "serve", desc := "(LBridgeBells$Traveller;)V" } : Jvm.MethodName)) ∈ lw_all := lw_g (lw_at lw_m3 104 rfl) rfl
theorem q598 : (Jvm.Cond.code ({ cls := "BridgeBells$Bridge", name := "serve", desc := "(LBridgeBells$Traveller;)V" } : Jvm.MethodName) prog_2_method_9_code (2 : Nat) (Option.none : Option Jvm.ClassFile.FieldType)) ∈ lw_all := lw_g (lw_at lw_m3 105 rfl) rfl
theorem q599 : (Jvm.Cond.methodLink "BridgeBells$Bridge" (109 : Nat) ({ cls := "BridgeBells$Traveller", name := "angle", desc := "()I" } : Jvm.MethodName)) ∈ lw_all := lw_g (lw_at lw_m3 106 rfl) rfl
theorem q603 : (Jvm.Cond.methodLink "BridgeBells$Bridge" (111 : Nat) ({ cls := "BridgeBells$Traveller", name := "pass", desc := "()V" } : Jvm.MethodName)) ∈ lw_all := lw_g (lw_at lw_m3 110 rfl) rfl
theorem q608 : (Jvm.Cond.methodLink "BridgeBells$Bridge" (114 : Nat) ({ cls := "BridgeBells$Bridge", name := "speed", desc := "(Z)I" } : Jvm.MethodName)) ∈ lw_all := lw_g (lw_at lw_m3 115 rfl) rfl
theorem q609 : (Jvm.Cond.methodLink "BridgeBells$Bridge" (123 : Nat) ({ cls := "BridgeBells$Traveller", name := "go", desc := "(I)V" } : Jvm.MethodName)) ∈ lw_all := lw_g (lw_at lw_m3 116 rfl) rfl
theorem q623 : (Jvm.Cond.instanceMethod ({ cls := "BridgeBells$Bridge", name := "copy", desc := "()LBridgeBells$Bridge;" } : Jvm.MethodName)) ∈ lw_all := lw_g (lw_at lw_m3 130 rfl) rfl
theorem q624 : (Jvm.Cond.selects "BridgeBells$Bridge" ({ cls := "BridgeBells$Bridge", name := "copy", desc := "()LBridgeBells$Bridge;" } : Jvm.MethodName) ({ cls := "BridgeBells$Bridge", name := "copy", desc := "()LBridgeBells$Bridge;" } : Jvm.MethodName)) ∈ lw_all := lw_g (lw_at lw_m3 131 rfl) rfl
theorem q625 : (Jvm.Cond.code ({ cls := "BridgeBells$Bridge", name := "copy", desc := "()LBridgeBells$Bridge;" } : Jvm.MethodName) prog_2_method_2_code (3 : Nat) (Option.some (Jvm.ClassFile.FieldType.object "BridgeBells$Bridge"))) ∈ lw_all := lw_g (lw_at lw_m3 132 rfl) rfl
theorem q626 : (Jvm.Cond.classLink "BridgeBells$Bridge" (10 : Nat) "BridgeBells$Bridge") ∈ lw_all := lw_g (lw_at lw_m3 133 rfl) rfl
theorem q627 : (Jvm.Cond.methodLink "BridgeBells$Bridge" (35 : Nat) ({ cls := "BridgeBells$Bridge", name := "<init>", desc := "()V" } : Jvm.MethodName)) ∈ lw_all := lw_g (lw_at lw_m3 134 rfl) rfl
theorem q628 : (Jvm.Cond.methodLink "BridgeBells$Bridge" (49 : Nat) ({ cls := "java/lang/System", name := "arraycopy", desc := "(Ljava/lang/Object;ILjava/lang/Object;II)V" } : Jvm.MethodName)) ∈ lw_all := lw_g (lw_at lw_m3 135 rfl) rfl
theorem q629 : (Jvm.Cond.methodLink "BridgeBells$Bridge" (65 : Nat) ({ cls := "BridgeBells$Traveller", name := "copy", desc := "()LBridgeBells$Traveller;" } : Jvm.MethodName)) ∈ lw_all := lw_g (lw_at lw_m3 136 rfl) rfl
theorem q635 : (Jvm.Cond.methodLink "BridgeBells$Bridge" (69 : Nat) ({ cls := "java/util/ArrayList", name := "add", desc := "(Ljava/lang/Object;)Z" } : Jvm.MethodName)) ∈ lw_all := lw_g (lw_at lw_m3 142 rfl) rfl
theorem q892 : (Jvm.Cond.castable "BridgeBells$Bridge" "java/lang/Object") ∈ lw_tbl := lw_at lw_m4 159 rfl
theorem in_X2 : ∀ w ∈ wsX20, w ∈ lw_all := lw_in wsX20 [98, 100, 102, 104, 106, 108, 110, 112] (by decide +kernel) (by decide +kernel)
/-! BridgeBells$Code -/
set_option maxRecDepth 100000
def RX3 : String := "BridgeBells$Code"
abbrev cX3_values : ByteArray := prog_3_method_1_code
def yX3_values : MethodName := ⟨RX3, "values", "()[LBridgeBells$Code;"⟩
def dkwX3_values_0 : List UInt8 := [178, 0, 19, 182, 0, 23, 192, 0, 24, 176]
abbrev dktX3_values_0 : List UInt8 := dkwX3_values_0 ++ []
theorem dksX3_values_0 : cX3_values.data.toList.drop 0 = dktX3_values_0 := by decide +kernel
theorem dX3_values_0 : decode cX3_values 0 = .ok (.getstatic 19, 3) := dk_178 0 19 (dk_at dksX3_values_0 0 rfl rfl)
theorem dX3_values_3 : decode cX3_values 3 = .ok (.invokevirtual 23, 3) := dk_182 0 23 (dk_at dksX3_values_0 3 rfl rfl)
theorem dX3_values_6 : decode cX3_values 6 = .ok (.checkcast 24, 3) := dk_192 0 24 (dk_at dksX3_values_0 6 rfl rfl)
theorem dX3_values_9 : decode cX3_values 9 = .ok (.areturn, 1) := dk_176 (dk_at dksX3_values_0 9 rfl rfl)
theorem q17 : (Jvm.Cond.initialized "BridgeBells$Code") ∈ lw_all := lw_g (lw_at lw_m1 4 rfl) rfl
theorem q54 : (Jvm.Cond.laysStatic "BridgeBells$Code" "FIRST" "LBridgeBells$Code;") ∈ lw_tbl := lw_at lw_m1 41 rfl
theorem q178 : (Jvm.Cond.sameMethod "BridgeBells$Code" "java/lang/Enum" "ordinal" "()I") ∈ lw_all := lw_g (lw_at lw_m1 165 rfl) rfl
theorem q209 : (Jvm.Cond.declares ({ cls := "BridgeBells$Code", name := "next", desc := "(LBridgeBells$Bridge;)I" } : Jvm.MethodName)) ∈ lw_tbl := lw_at lw_m1 196 rfl
theorem q210 : (Jvm.Cond.sameMethod "BridgeBells$Code" "BridgeBells$Code" "next" "(LBridgeBells$Bridge;)I") ∈ lw_all := lw_g (lw_at lw_m1 197 rfl) rfl
theorem q540 : (Jvm.Cond.static ({ cls := "BridgeBells$Code", name := "values", desc := "()[LBridgeBells$Code;" } : Jvm.MethodName)) ∈ lw_all := lw_g (lw_at lw_m3 47 rfl) rfl
theorem q541 : (Jvm.Cond.code ({ cls := "BridgeBells$Code", name := "values", desc := "()[LBridgeBells$Code;" } : Jvm.MethodName) prog_3_method_1_code (0 : Nat) (Option.some (Jvm.ClassFile.FieldType.array (Jvm.ClassFile.FieldType.object "BridgeBells$Code")))) ∈ lw_all := lw_g (lw_at lw_m3 48 rfl) rfl
theorem q542 : (Jvm.Cond.fieldLink "BridgeBells$Code" (19 : Nat) "BridgeBells$Code" "$VALUES" "[LBridgeBells$Code;") ∈ lw_all := lw_g (lw_at lw_m3 49 rfl) rfl
theorem q543 : (Jvm.Cond.laysStatic "BridgeBells$Code" "$VALUES" "[LBridgeBells$Code;") ∈ lw_tbl := lw_at lw_m3 50 rfl
theorem q544 : (Jvm.Cond.methodLink "BridgeBells$Code" (23 : Nat) ({ cls := "[LBridgeBells$Code;", name := "clone", desc := "()Ljava/lang/Object;" } : Jvm.MethodName)) ∈ lw_all := lw_g (lw_at lw_m3 51 rfl) rfl
theorem q551 : (Jvm.Cond.classLink "BridgeBells$Code" (24 : Nat) "[LBridgeBells$Code;") ∈ lw_all := lw_g (lw_at lw_m3 58 rfl) rfl
theorem q890 : (Jvm.Cond.castable "BridgeBells$Code" "java/lang/Object") ∈ lw_tbl := lw_at lw_m4 157 rfl
theorem q923 : (Jvm.Cond.laysStatic "BridgeBells$Code" "BARGES" "LBridgeBells$Code;") ∈ lw_tbl := lw_at lw_m4 190 rfl
theorem q924 : (Jvm.Cond.laysStatic "BridgeBells$Code" "CARTS" "LBridgeBells$Code;") ∈ lw_tbl := lw_at lw_m4 191 rfl
theorem q925 : (Jvm.Cond.laysStatic "BridgeBells$Code" "BY_TURNS" "LBridgeBells$Code;") ∈ lw_tbl := lw_at lw_m4 192 rfl
theorem q926 : (Jvm.Cond.laysStatic "BridgeBells$Code" "NOBODY" "LBridgeBells$Code;") ∈ lw_tbl := lw_at lw_m4 193 rfl
/-! BridgeBells$Traveller -/
set_option maxRecDepth 100000
def RX6 : String := "BridgeBells$Traveller"
def TX6 : u_T := fun k => match k with
  | 0 => ("BridgeBells$Traveller", "barge", "Z", true)
  | 1 => ("BridgeBells$Traveller", "minutes", "I", true)
  | 2 => ("BridgeBells$Traveller", "came", "I", true)
  | 3 => ("BridgeBells$Traveller", "state", "LBridgeBells$State;", false)
  | 4 => ("BridgeBells$Traveller", "waited", "I", false)
  | 5 => ("BridgeBells$Traveller", "left", "I", false)
  | _ => ("BridgeBells$Traveller", "passed", "I", false)
def tyX6 : Nat → FieldType := fun k => match k with
  | 0 => .boolean
  | 1 => .int
  | 2 => .int
  | 3 => .object "BridgeBells$State"
  | 4 => .int
  | 5 => .int
  | _ => .int
abbrev wsX60 : List Cond := u_ws RX6 TX6 7
theorem nmX6 : ∀ a, a < 7 → ∀ b, b < 7 → a ≠ b → (TX6 a).2.1 ≠ (TX6 b).2.1 := by decide +kernel
theorem tyX6_ok : ∀ k, k < 7 → parseFieldDescriptor (TX6 k).2.2.1 = some (tyX6 k) := by decide +kernel
abbrev cX6_is : ByteArray := prog_10_method_3_code
def yX6_is : MethodName := ⟨RX6, "is", "(LBridgeBells$State;)Z"⟩
def dkwX6_is_0 : List UInt8 := [42, 180, 0, 15, 43, 166, 0, 7, 4, 167, 0, 4, 3, 172]
abbrev dktX6_is_0 : List UInt8 := dkwX6_is_0 ++ []
theorem dksX6_is_0 : cX6_is.data.toList.drop 0 = dktX6_is_0 := by decide +kernel
theorem dX6_is_0 : decode cX6_is 0 = .ok (.aload_n 0, 1) := dk_42 (dk_at dksX6_is_0 0 rfl rfl)
theorem dX6_is_1 : decode cX6_is 1 = .ok (.getfield 15, 3) := dk_180 0 15 (dk_at dksX6_is_0 1 rfl rfl)
theorem dX6_is_4 : decode cX6_is 4 = .ok (.aload_n 1, 1) := dk_43 (dk_at dksX6_is_0 4 rfl rfl)
theorem dX6_is_5 : decode cX6_is 5 = .ok (.if_acmp .ne 7, 3) := dk_166 0 7 (dk_at dksX6_is_0 5 rfl rfl)
theorem dX6_is_8 : decode cX6_is 8 = .ok (.iconst 1, 1) := dk_4 (dk_at dksX6_is_0 8 rfl rfl)
theorem dX6_is_9 : decode cX6_is 9 = .ok (.goto 4, 3) := dk_167 0 4 (dk_at dksX6_is_0 9 rfl rfl)
theorem dX6_is_12 : decode cX6_is 12 = .ok (.iconst 0, 1) := dk_3 (dk_at dksX6_is_0 12 rfl rfl)
theorem dX6_is_13 : decode cX6_is 13 = .ok (.ireturn, 1) := dk_172 (dk_at dksX6_is_0 13 rfl rfl)
abbrev cX6_init : ByteArray := prog_10_method_1_code
def yX6_init : MethodName := ⟨RX6, "<init>", "(ZII)V"⟩
def dkwX6_init_1 : List UInt8 := [181, 0, 28, 42, 29, 181, 0, 31, 177]
abbrev dktX6_init_1 : List UInt8 := dkwX6_init_1 ++ []
def dkwX6_init_0 : List UInt8 := [42, 183, 0, 3, 42, 178, 0, 9, 181, 0, 15, 42, 2, 181, 0, 20, 42, 27, 181, 0, 24, 42, 28]
abbrev dktX6_init_0 : List UInt8 := dkwX6_init_0 ++ dktX6_init_1
theorem dksX6_init_0 : cX6_init.data.toList.drop 0 = dktX6_init_0 := by decide +kernel
theorem dksX6_init_1 : cX6_init.data.toList.drop 23 = dktX6_init_1 := dk_seg dksX6_init_0 23 rfl rfl
theorem dX6_init_0 : decode cX6_init 0 = .ok (.aload_n 0, 1) := dk_42 (dk_at dksX6_init_0 0 rfl rfl)
theorem dX6_init_1 : decode cX6_init 1 = .ok (.invokespecial 3, 3) := dk_183 0 3 (dk_at dksX6_init_0 1 rfl rfl)
theorem dX6_init_4 : decode cX6_init 4 = .ok (.aload_n 0, 1) := dk_42 (dk_at dksX6_init_0 4 rfl rfl)
theorem dX6_init_5 : decode cX6_init 5 = .ok (.getstatic 9, 3) := dk_178 0 9 (dk_at dksX6_init_0 5 rfl rfl)
theorem dX6_init_8 : decode cX6_init 8 = .ok (.putfield 15, 3) := dk_181 0 15 (dk_at dksX6_init_0 8 rfl rfl)
theorem dX6_init_11 : decode cX6_init 11 = .ok (.aload_n 0, 1) := dk_42 (dk_at dksX6_init_0 11 rfl rfl)
theorem dX6_init_12 : decode cX6_init 12 = .ok (.iconst (-1), 1) := dk_2 (dk_at dksX6_init_0 12 rfl rfl)
theorem dX6_init_13 : decode cX6_init 13 = .ok (.putfield 20, 3) := dk_181 0 20 (dk_at dksX6_init_0 13 rfl rfl)
theorem dX6_init_16 : decode cX6_init 16 = .ok (.aload_n 0, 1) := dk_42 (dk_at dksX6_init_0 16 rfl rfl)
theorem dX6_init_17 : decode cX6_init 17 = .ok (.iload_n 1, 1) := dk_27 (dk_at dksX6_init_0 17 rfl rfl)
theorem dX6_init_18 : decode cX6_init 18 = .ok (.putfield 24, 3) := dk_181 0 24 (dk_at dksX6_init_0 18 rfl rfl)
theorem dX6_init_21 : decode cX6_init 21 = .ok (.aload_n 0, 1) := dk_42 (dk_at dksX6_init_0 21 rfl rfl)
theorem dX6_init_22 : decode cX6_init 22 = .ok (.iload_n 2, 1) := dk_28 (dk_at dksX6_init_0 22 rfl rfl)
theorem dX6_init_23 : decode cX6_init 23 = .ok (.putfield 28, 3) := dk_181 0 28 (dk_at dksX6_init_1 0 rfl rfl)
theorem dX6_init_26 : decode cX6_init 26 = .ok (.aload_n 0, 1) := dk_42 (dk_at dksX6_init_1 3 rfl rfl)
theorem dX6_init_27 : decode cX6_init 27 = .ok (.iload_n 3, 1) := dk_29 (dk_at dksX6_init_1 4 rfl rfl)
theorem dX6_init_28 : decode cX6_init 28 = .ok (.putfield 31, 3) := dk_181 0 31 (dk_at dksX6_init_1 5 rfl rfl)
theorem dX6_init_31 : decode cX6_init 31 = .ok (.return_, 1) := dk_177 (dk_at dksX6_init_1 8 rfl rfl)
abbrev cX6_angle : ByteArray := prog_10_method_4_code
def yX6_angle : MethodName := ⟨RX6, "angle", "()I"⟩
def dkwX6_angle_0 : List UInt8 := [42, 180, 0, 24, 153, 0, 8, 16, 60, 167, 0, 4, 3, 172]
abbrev dktX6_angle_0 : List UInt8 := dkwX6_angle_0 ++ []
theorem dksX6_angle_0 : cX6_angle.data.toList.drop 0 = dktX6_angle_0 := by decide +kernel
theorem dX6_angle_0 : decode cX6_angle 0 = .ok (.aload_n 0, 1) := dk_42 (dk_at dksX6_angle_0 0 rfl rfl)
theorem dX6_angle_1 : decode cX6_angle 1 = .ok (.getfield 24, 3) := dk_180 0 24 (dk_at dksX6_angle_0 1 rfl rfl)
theorem dX6_angle_4 : decode cX6_angle 4 = .ok (.ifCond .eq 8, 3) := dk_153 0 8 (dk_at dksX6_angle_0 4 rfl rfl)
theorem dX6_angle_7 : decode cX6_angle 7 = .ok (.bipush 60, 2) := dk_16 60 (dk_at dksX6_angle_0 7 rfl rfl)
theorem dX6_angle_9 : decode cX6_angle 9 = .ok (.goto 4, 3) := dk_167 0 4 (dk_at dksX6_angle_0 9 rfl rfl)
theorem dX6_angle_12 : decode cX6_angle 12 = .ok (.iconst 0, 1) := dk_3 (dk_at dksX6_angle_0 12 rfl rfl)
theorem dX6_angle_13 : decode cX6_angle 13 = .ok (.ireturn, 1) := dk_172 (dk_at dksX6_angle_0 13 rfl rfl)
abbrev cX6_pass : ByteArray := prog_10_method_5_code
def yX6_pass : MethodName := ⟨RX6, "pass", "()V"⟩
def dkwX6_pass_0 : List UInt8 := [42, 178, 0, 43, 181, 0, 15, 42, 42, 180, 0, 28, 181, 0, 40, 177]
abbrev dktX6_pass_0 : List UInt8 := dkwX6_pass_0 ++ []
theorem dksX6_pass_0 : cX6_pass.data.toList.drop 0 = dktX6_pass_0 := by decide +kernel
theorem dX6_pass_0 : decode cX6_pass 0 = .ok (.aload_n 0, 1) := dk_42 (dk_at dksX6_pass_0 0 rfl rfl)
theorem dX6_pass_1 : decode cX6_pass 1 = .ok (.getstatic 43, 3) := dk_178 0 43 (dk_at dksX6_pass_0 1 rfl rfl)
theorem dX6_pass_4 : decode cX6_pass 4 = .ok (.putfield 15, 3) := dk_181 0 15 (dk_at dksX6_pass_0 4 rfl rfl)
theorem dX6_pass_7 : decode cX6_pass 7 = .ok (.aload_n 0, 1) := dk_42 (dk_at dksX6_pass_0 7 rfl rfl)
theorem dX6_pass_8 : decode cX6_pass 8 = .ok (.aload_n 0, 1) := dk_42 (dk_at dksX6_pass_0 8 rfl rfl)
theorem dX6_pass_9 : decode cX6_pass 9 = .ok (.getfield 28, 3) := dk_180 0 28 (dk_at dksX6_pass_0 9 rfl rfl)
theorem dX6_pass_12 : decode cX6_pass 12 = .ok (.putfield 40, 3) := dk_181 0 40 (dk_at dksX6_pass_0 12 rfl rfl)
theorem dX6_pass_15 : decode cX6_pass 15 = .ok (.return_, 1) := dk_177 (dk_at dksX6_pass_0 15 rfl rfl)
abbrev cX6_go : ByteArray := prog_10_method_6_code
def yX6_go : MethodName := ⟨RX6, "go", "(I)V"⟩
def dkwX6_go_2 : List UInt8 := [177, 42, 178, 0, 50, 181, 0, 15, 42, 27, 181, 0, 20, 177]
abbrev dktX6_go_2 : List UInt8 := dkwX6_go_2 ++ []
def dkwX6_go_1 : List UInt8 := [182, 0, 46, 154, 0, 4, 177, 42, 89, 180, 0, 40, 4, 100, 181, 0, 40, 42, 180, 0, 40, 158, 0, 4]
abbrev dktX6_go_1 : List UInt8 := dkwX6_go_1 ++ dktX6_go_2
def dkwX6_go_0 : List UInt8 := [42, 178, 0, 9, 182, 0, 46, 153, 0, 13, 42, 89, 180, 0, 37, 4, 96, 181, 0, 37, 42, 178, 0, 43]
abbrev dktX6_go_0 : List UInt8 := dkwX6_go_0 ++ dktX6_go_1
theorem dksX6_go_0 : cX6_go.data.toList.drop 0 = dktX6_go_0 := by decide +kernel
theorem dksX6_go_1 : cX6_go.data.toList.drop 24 = dktX6_go_1 := dk_seg dksX6_go_0 24 rfl rfl
theorem dksX6_go_2 : cX6_go.data.toList.drop 48 = dktX6_go_2 := dk_seg dksX6_go_1 24 rfl rfl
theorem dX6_go_0 : decode cX6_go 0 = .ok (.aload_n 0, 1) := dk_42 (dk_at dksX6_go_0 0 rfl rfl)
theorem dX6_go_1 : decode cX6_go 1 = .ok (.getstatic 9, 3) := dk_178 0 9 (dk_at dksX6_go_0 1 rfl rfl)
theorem dX6_go_4 : decode cX6_go 4 = .ok (.invokevirtual 46, 3) := dk_182 0 46 (dk_at dksX6_go_0 4 rfl rfl)
theorem dX6_go_7 : decode cX6_go 7 = .ok (.ifCond .eq 13, 3) := dk_153 0 13 (dk_at dksX6_go_0 7 rfl rfl)
theorem dX6_go_10 : decode cX6_go 10 = .ok (.aload_n 0, 1) := dk_42 (dk_at dksX6_go_0 10 rfl rfl)
theorem dX6_go_11 : decode cX6_go 11 = .ok (.dup, 1) := dk_89 (dk_at dksX6_go_0 11 rfl rfl)
theorem dX6_go_12 : decode cX6_go 12 = .ok (.getfield 37, 3) := dk_180 0 37 (dk_at dksX6_go_0 12 rfl rfl)
theorem dX6_go_15 : decode cX6_go 15 = .ok (.iconst 1, 1) := dk_4 (dk_at dksX6_go_0 15 rfl rfl)
theorem dX6_go_16 : decode cX6_go 16 = .ok (.iadd, 1) := dk_96 (dk_at dksX6_go_0 16 rfl rfl)
theorem dX6_go_17 : decode cX6_go 17 = .ok (.putfield 37, 3) := dk_181 0 37 (dk_at dksX6_go_0 17 rfl rfl)
theorem dX6_go_20 : decode cX6_go 20 = .ok (.aload_n 0, 1) := dk_42 (dk_at dksX6_go_0 20 rfl rfl)
theorem dX6_go_21 : decode cX6_go 21 = .ok (.getstatic 43, 3) := dk_178 0 43 (dk_at dksX6_go_0 21 rfl rfl)
theorem dX6_go_24 : decode cX6_go 24 = .ok (.invokevirtual 46, 3) := dk_182 0 46 (dk_at dksX6_go_1 0 rfl rfl)
theorem dX6_go_27 : decode cX6_go 27 = .ok (.ifCond .ne 4, 3) := dk_154 0 4 (dk_at dksX6_go_1 3 rfl rfl)
theorem dX6_go_30 : decode cX6_go 30 = .ok (.return_, 1) := dk_177 (dk_at dksX6_go_1 6 rfl rfl)
theorem dX6_go_31 : decode cX6_go 31 = .ok (.aload_n 0, 1) := dk_42 (dk_at dksX6_go_1 7 rfl rfl)
theorem dX6_go_32 : decode cX6_go 32 = .ok (.dup, 1) := dk_89 (dk_at dksX6_go_1 8 rfl rfl)
theorem dX6_go_33 : decode cX6_go 33 = .ok (.getfield 40, 3) := dk_180 0 40 (dk_at dksX6_go_1 9 rfl rfl)
theorem dX6_go_36 : decode cX6_go 36 = .ok (.iconst 1, 1) := dk_4 (dk_at dksX6_go_1 12 rfl rfl)
theorem dX6_go_37 : decode cX6_go 37 = .ok (.isub, 1) := dk_100 (dk_at dksX6_go_1 13 rfl rfl)
theorem dX6_go_38 : decode cX6_go 38 = .ok (.putfield 40, 3) := dk_181 0 40 (dk_at dksX6_go_1 14 rfl rfl)
theorem dX6_go_41 : decode cX6_go 41 = .ok (.aload_n 0, 1) := dk_42 (dk_at dksX6_go_1 17 rfl rfl)
theorem dX6_go_42 : decode cX6_go 42 = .ok (.getfield 40, 3) := dk_180 0 40 (dk_at dksX6_go_1 18 rfl rfl)
theorem dX6_go_45 : decode cX6_go 45 = .ok (.ifCond .le 4, 3) := dk_158 0 4 (dk_at dksX6_go_1 21 rfl rfl)
theorem dX6_go_48 : decode cX6_go 48 = .ok (.return_, 1) := dk_177 (dk_at dksX6_go_2 0 rfl rfl)
theorem dX6_go_49 : decode cX6_go 49 = .ok (.aload_n 0, 1) := dk_42 (dk_at dksX6_go_2 1 rfl rfl)
theorem dX6_go_50 : decode cX6_go 50 = .ok (.getstatic 50, 3) := dk_178 0 50 (dk_at dksX6_go_2 2 rfl rfl)
theorem dX6_go_53 : decode cX6_go 53 = .ok (.putfield 15, 3) := dk_181 0 15 (dk_at dksX6_go_2 5 rfl rfl)
theorem dX6_go_56 : decode cX6_go 56 = .ok (.aload_n 0, 1) := dk_42 (dk_at dksX6_go_2 8 rfl rfl)
theorem dX6_go_57 : decode cX6_go 57 = .ok (.iload_n 1, 1) := dk_27 (dk_at dksX6_go_2 9 rfl rfl)
theorem dX6_go_58 : decode cX6_go 58 = .ok (.putfield 20, 3) := dk_181 0 20 (dk_at dksX6_go_2 10 rfl rfl)
theorem dX6_go_61 : decode cX6_go 61 = .ok (.return_, 1) := dk_177 (dk_at dksX6_go_2 13 rfl rfl)
abbrev cX6_copy : ByteArray := prog_10_method_2_code
def yX6_copy : MethodName := ⟨RX6, "copy", "()LBridgeBells$Traveller;"⟩
def dkwX6_copy_2 : List UInt8 := [180, 0, 20, 181, 0, 20, 43, 176]
abbrev dktX6_copy_2 : List UInt8 := dkwX6_copy_2 ++ []
def dkwX6_copy_1 : List UInt8 := [180, 0, 15, 181, 0, 15, 43, 42, 180, 0, 37, 181, 0, 37, 43, 42, 180, 0, 40, 181, 0, 40, 43, 42]
abbrev dktX6_copy_1 : List UInt8 := dkwX6_copy_1 ++ dktX6_copy_2
def dkwX6_copy_0 : List UInt8 := [187, 0, 16, 89, 42, 180, 0, 24, 42, 180, 0, 28, 42, 180, 0, 31, 183, 0, 34, 76, 43, 42]
abbrev dktX6_copy_0 : List UInt8 := dkwX6_copy_0 ++ dktX6_copy_1
theorem dksX6_copy_0 : cX6_copy.data.toList.drop 0 = dktX6_copy_0 := by decide +kernel
theorem dksX6_copy_1 : cX6_copy.data.toList.drop 22 = dktX6_copy_1 := dk_seg dksX6_copy_0 22 rfl rfl
theorem dksX6_copy_2 : cX6_copy.data.toList.drop 46 = dktX6_copy_2 := dk_seg dksX6_copy_1 24 rfl rfl
theorem dX6_copy_0 : decode cX6_copy 0 = .ok (.new 16, 3) := dk_187 0 16 (dk_at dksX6_copy_0 0 rfl rfl)
theorem dX6_copy_3 : decode cX6_copy 3 = .ok (.dup, 1) := dk_89 (dk_at dksX6_copy_0 3 rfl rfl)
theorem dX6_copy_4 : decode cX6_copy 4 = .ok (.aload_n 0, 1) := dk_42 (dk_at dksX6_copy_0 4 rfl rfl)
theorem dX6_copy_5 : decode cX6_copy 5 = .ok (.getfield 24, 3) := dk_180 0 24 (dk_at dksX6_copy_0 5 rfl rfl)
theorem dX6_copy_8 : decode cX6_copy 8 = .ok (.aload_n 0, 1) := dk_42 (dk_at dksX6_copy_0 8 rfl rfl)
theorem dX6_copy_9 : decode cX6_copy 9 = .ok (.getfield 28, 3) := dk_180 0 28 (dk_at dksX6_copy_0 9 rfl rfl)
theorem dX6_copy_12 : decode cX6_copy 12 = .ok (.aload_n 0, 1) := dk_42 (dk_at dksX6_copy_0 12 rfl rfl)
theorem dX6_copy_13 : decode cX6_copy 13 = .ok (.getfield 31, 3) := dk_180 0 31 (dk_at dksX6_copy_0 13 rfl rfl)
theorem dX6_copy_16 : decode cX6_copy 16 = .ok (.invokespecial 34, 3) := dk_183 0 34 (dk_at dksX6_copy_0 16 rfl rfl)
theorem dX6_copy_19 : decode cX6_copy 19 = .ok (.astore_n 1, 1) := dk_76 (dk_at dksX6_copy_0 19 rfl rfl)
theorem dX6_copy_20 : decode cX6_copy 20 = .ok (.aload_n 1, 1) := dk_43 (dk_at dksX6_copy_0 20 rfl rfl)
theorem dX6_copy_21 : decode cX6_copy 21 = .ok (.aload_n 0, 1) := dk_42 (dk_at dksX6_copy_0 21 rfl rfl)
theorem dX6_copy_22 : decode cX6_copy 22 = .ok (.getfield 15, 3) := dk_180 0 15 (dk_at dksX6_copy_1 0 rfl rfl)
theorem dX6_copy_25 : decode cX6_copy 25 = .ok (.putfield 15, 3) := dk_181 0 15 (dk_at dksX6_copy_1 3 rfl rfl)
theorem dX6_copy_28 : decode cX6_copy 28 = .ok (.aload_n 1, 1) := dk_43 (dk_at dksX6_copy_1 6 rfl rfl)
theorem dX6_copy_29 : decode cX6_copy 29 = .ok (.aload_n 0, 1) := dk_42 (dk_at dksX6_copy_1 7 rfl rfl)
theorem dX6_copy_30 : decode cX6_copy 30 = .ok (.getfield 37, 3) := dk_180 0 37 (dk_at dksX6_copy_1 8 rfl rfl)
theorem dX6_copy_33 : decode cX6_copy 33 = .ok (.putfield 37, 3) := dk_181 0 37 (dk_at dksX6_copy_1 11 rfl rfl)
theorem dX6_copy_36 : decode cX6_copy 36 = .ok (.aload_n 1, 1) := dk_43 (dk_at dksX6_copy_1 14 rfl rfl)
theorem dX6_copy_37 : decode cX6_copy 37 = .ok (.aload_n 0, 1) := dk_42 (dk_at dksX6_copy_1 15 rfl rfl)
theorem dX6_copy_38 : decode cX6_copy 38 = .ok (.getfield 40, 3) := dk_180 0 40 (dk_at dksX6_copy_1 16 rfl rfl)
theorem dX6_copy_41 : decode cX6_copy 41 = .ok (.putfield 40, 3) := dk_181 0 40 (dk_at dksX6_copy_1 19 rfl rfl)
theorem dX6_copy_44 : decode cX6_copy 44 = .ok (.aload_n 1, 1) := dk_43 (dk_at dksX6_copy_1 22 rfl rfl)
theorem dX6_copy_45 : decode cX6_copy 45 = .ok (.aload_n 0, 1) := dk_42 (dk_at dksX6_copy_1 23 rfl rfl)
theorem dX6_copy_46 : decode cX6_copy 46 = .ok (.getfield 20, 3) := dk_180 0 20 (dk_at dksX6_copy_2 0 rfl rfl)
theorem dX6_copy_49 : decode cX6_copy 49 = .ok (.putfield 20, 3) := dk_181 0 20 (dk_at dksX6_copy_2 3 rfl rfl)
theorem dX6_copy_52 : decode cX6_copy 52 = .ok (.aload_n 1, 1) := dk_43 (dk_at dksX6_copy_2 6 rfl rfl)
theorem dX6_copy_53 : decode cX6_copy 53 = .ok (.areturn, 1) := dk_176 (dk_at dksX6_copy_2 7 rfl rfl)
theorem q28 : (Jvm.Cond.initialized "BridgeBells$Traveller") ∈ lw_all := lw_g (lw_at lw_m1 15 rfl) rfl
theorem q194 : (Jvm.Cond.instanceMethod ({ cls := "BridgeBells$Traveller", name := "is", desc := "(LBridgeBells$State;)Z" } : Jvm.MethodName)) ∈ lw_all := lw_g (lw_at lw_m1 181 rfl) rfl
theorem q195 : (Jvm.Cond.selects "BridgeBells$Traveller" ({ cls := "BridgeBells$Traveller", name := "is", desc := "(LBridgeBells$State;)Z" } : Jvm.MethodName) ({ cls := "BridgeBells$Traveller", name := "is", desc := "(LBridgeBells$State;)Z" } : Jvm.MethodName)) ∈ lw_all := lw_g (lw_at lw_m1 182 rfl) rfl
theorem q196 : (Jvm.Cond.code ({ cls := "BridgeBells$Traveller", name := "is", desc := "(LBridgeBells$State;)Z" } : Jvm.MethodName) prog_10_method_3_code (2 : Nat) (Option.some Jvm.ClassFile.FieldType.boolean)) ∈ lw_all := lw_g (lw_at lw_m1 183 rfl) rfl
theorem q356 : (Jvm.Cond.instantiable "BridgeBells$Traveller" (7 : Nat)) ∈ lw_all := lw_g (lw_at lw_m2 103 rfl) rfl
theorem q358 : (Jvm.Cond.instanceMethod ({ cls := "BridgeBells$Traveller", name := "<init>", desc := "(ZII)V" } : Jvm.MethodName)) ∈ lw_all := lw_g (lw_at lw_m2 105 rfl) rfl
theorem q359 : (Jvm.Cond.code ({ cls := "BridgeBells$Traveller", name := "<init>", desc := "(ZII)V" } : Jvm.MethodName) prog_10_method_1_code (4 : Nat) (Option.none : Option Jvm.ClassFile.FieldType)) ∈ lw_all := lw_g (lw_at lw_m2 106 rfl) rfl
theorem q360 : (Jvm.Cond.methodLink "BridgeBells$Traveller" (3 : Nat) ({ cls := "java/lang/Object", name := "<init>", desc := "()V" } : Jvm.MethodName)) ∈ lw_all := lw_g (lw_at lw_m2 107 rfl) rfl
theorem q361 : (Jvm.Cond.fieldLink "BridgeBells$Traveller" (9 : Nat) "BridgeBells$State" "WAITS" "LBridgeBells$State;") ∈ lw_all := lw_g (lw_at lw_m2 108 rfl) rfl
theorem q362 : (Jvm.Cond.fieldLink "BridgeBells$Traveller" (24 : Nat) "BridgeBells$Traveller" "barge" "Z") ∈ lw_all := lw_g (lw_at lw_m2 109 rfl) rfl
theorem q365 : (Jvm.Cond.fieldLink "BridgeBells$Traveller" (28 : Nat) "BridgeBells$Traveller" "minutes" "I") ∈ lw_all := lw_g (lw_at lw_m2 112 rfl) rfl
theorem q367 : (Jvm.Cond.fieldLink "BridgeBells$Traveller" (31 : Nat) "BridgeBells$Traveller" "came" "I") ∈ lw_all := lw_g (lw_at lw_m2 114 rfl) rfl
theorem q369 : (Jvm.Cond.fieldLink "BridgeBells$Traveller" (15 : Nat) "BridgeBells$Traveller" "state" "LBridgeBells$State;") ∈ lw_all := lw_g (lw_at lw_m2 116 rfl) rfl
theorem q371 : (Jvm.Cond.fieldLink "BridgeBells$Traveller" (37 : Nat) "BridgeBells$Traveller" "waited" "I") ∈ lw_all := lw_g (lw_at lw_m2 118 rfl) rfl
theorem q374 : (Jvm.Cond.fieldLink "BridgeBells$Traveller" (40 : Nat) "BridgeBells$Traveller" "left" "I") ∈ lw_all := lw_g (lw_at lw_m2 121 rfl) rfl
theorem q376 : (Jvm.Cond.fieldLink "BridgeBells$Traveller" (20 : Nat) "BridgeBells$Traveller" "passed" "I") ∈ lw_all := lw_g (lw_at lw_m2 123 rfl) rfl
theorem q378 : (Jvm.Cond.laysFinal "BridgeBells$Traveller" "BridgeBells$Traveller" "barge" "Z") ∈ lw_all := lw_g (lw_at lw_m2 125 rfl) rfl
theorem q379 : (Jvm.Cond.soleField "BridgeBells$Traveller" "barge") ∈ lw_all := lw_g (lw_at lw_m2 126 rfl) rfl
theorem q380 : (Jvm.Cond.laysFinal "BridgeBells$Traveller" "BridgeBells$Traveller" "minutes" "I") ∈ lw_all := lw_g (lw_at lw_m2 127 rfl) rfl
theorem q381 : (Jvm.Cond.soleField "BridgeBells$Traveller" "minutes") ∈ lw_all := lw_g (lw_at lw_m2 128 rfl) rfl
theorem q382 : (Jvm.Cond.laysFinal "BridgeBells$Traveller" "BridgeBells$Traveller" "came" "I") ∈ lw_all := lw_g (lw_at lw_m2 129 rfl) rfl
theorem q383 : (Jvm.Cond.soleField "BridgeBells$Traveller" "came") ∈ lw_all := lw_g (lw_at lw_m2 130 rfl) rfl
theorem q384 : (Jvm.Cond.lays "BridgeBells$Traveller" "BridgeBells$Traveller" "state" "LBridgeBells$State;") ∈ lw_all := lw_g (lw_at lw_m2 131 rfl) rfl
theorem q385 : (Jvm.Cond.soleField "BridgeBells$Traveller" "state") ∈ lw_all := lw_g (lw_at lw_m2 132 rfl) rfl
theorem q386 : (Jvm.Cond.lays "BridgeBells$Traveller" "BridgeBells$Traveller" "waited" "I") ∈ lw_all := lw_g (lw_at lw_m2 133 rfl) rfl
theorem q387 : (Jvm.Cond.soleField "BridgeBells$Traveller" "waited") ∈ lw_all := lw_g (lw_at lw_m2 134 rfl) rfl
theorem q388 : (Jvm.Cond.lays "BridgeBells$Traveller" "BridgeBells$Traveller" "left" "I") ∈ lw_all := lw_g (lw_at lw_m2 135 rfl) rfl
theorem q389 : (Jvm.Cond.soleField "BridgeBells$Traveller" "left") ∈ lw_all := lw_g (lw_at lw_m2 136 rfl) rfl
theorem q390 : (Jvm.Cond.lays "BridgeBells$Traveller" "BridgeBells$Traveller" "passed" "I") ∈ lw_all := lw_g (lw_at lw_m2 137 rfl) rfl
theorem q391 : (Jvm.Cond.soleField "BridgeBells$Traveller" "passed") ∈ lw_all := lw_g (lw_at lw_m2 138 rfl) rfl
theorem q392 : (Jvm.Cond.superclass "BridgeBells$Traveller" "java/lang/Object") ∈ lw_all := lw_g (lw_at lw_m2 139 rfl) rfl
theorem q431 : (Jvm.Cond.selects "BridgeBells$Traveller" ({ cls := "java/lang/Object", name := "getClass", desc := "()Ljava/lang/Class;" } : Jvm.MethodName) ({ cls := "java/lang/Object", name := "getClass", desc := "()Ljava/lang/Class;" } : Jvm.MethodName)) ∈ lw_all := lw_g (lw_at lw_m2 178 rfl) rfl
theorem q600 : (Jvm.Cond.instanceMethod ({ cls := "BridgeBells$Traveller", name := "angle", desc := "()I" } : Jvm.MethodName)) ∈ lw_all := lw_g (lw_at lw_m3 107 rfl) rfl
theorem q601 : (Jvm.Cond.selects "BridgeBells$Traveller" ({ cls := "BridgeBells$Traveller", name := "angle", desc := "()I" } : Jvm.MethodName) ({ cls := "BridgeBells$Traveller", name := "angle", desc := "()I" } : Jvm.MethodName)) ∈ lw_all := lw_g (lw_at lw_m3 108 rfl) rfl
theorem q602 : (Jvm.Cond.code ({ cls := "BridgeBells$Traveller", name := "angle", desc := "()I" } : Jvm.MethodName) prog_10_method_4_code (1 : Nat) (Option.some Jvm.ClassFile.FieldType.int)) ∈ lw_all := lw_g (lw_at lw_m3 109 rfl) rfl
theorem q604 : (Jvm.Cond.instanceMethod ({ cls := "BridgeBells$Traveller", name := "pass", desc := "()V" } : Jvm.MethodName)) ∈ lw_all := lw_g (lw_at lw_m3 111 rfl) rfl
theorem q605 : (Jvm.Cond.selects "BridgeBells$Traveller" ({ cls := "BridgeBells$Traveller", name := "pass", desc := "()V" } : Jvm.MethodName) ({ cls := "BridgeBells$Traveller", name := "pass", desc := "()V" } : Jvm.MethodName)) ∈ lw_all := lw_g (lw_at lw_m3 112 rfl) rfl
theorem q606 : (Jvm.Cond.code ({ cls := "BridgeBells$Traveller", name := "pass", desc := "()V" } : Jvm.MethodName) prog_10_method_5_code (1 : Nat) (Option.none : Option Jvm.ClassFile.FieldType)) ∈ lw_all := lw_g (lw_at lw_m3 113 rfl) rfl
theorem q607 : (Jvm.Cond.fieldLink "BridgeBells$Traveller" (43 : Nat) "BridgeBells$State" "PASSES" "LBridgeBells$State;") ∈ lw_all := lw_g (lw_at lw_m3 114 rfl) rfl
theorem q610 : (Jvm.Cond.instanceMethod ({ cls := "BridgeBells$Traveller", name := "go", desc := "(I)V" } : Jvm.MethodName)) ∈ lw_all := lw_g (lw_at lw_m3 117 rfl) rfl
theorem q611 : (Jvm.Cond.selects "BridgeBells$Traveller" ({ cls := "BridgeBells$Traveller", name := "go", desc := "(I)V" } : Jvm.MethodName) ({ cls := "BridgeBells$Traveller", name := "go", desc := "(I)V" } : Jvm.MethodName)) ∈ lw_all := lw_g (lw_at lw_m3 118 rfl) rfl
theorem q612 : (Jvm.Cond.code ({ cls := "BridgeBells$Traveller", name := "go", desc := "(I)V" } : Jvm.MethodName) prog_10_method_6_code (2 : Nat) (Option.none : Option Jvm.ClassFile.FieldType)) ∈ lw_all := lw_g (lw_at lw_m3 119 rfl) rfl
theorem q613 : (Jvm.Cond.methodLink "BridgeBells$Traveller" (46 : Nat) ({ cls := "BridgeBells$Traveller", name := "is", desc := "(LBridgeBells$State;)Z" } : Jvm.MethodName)) ∈ lw_all := lw_g (lw_at lw_m3 120 rfl) rfl
theorem q614 : (Jvm.Cond.fieldLink "BridgeBells$Traveller" (50 : Nat) "BridgeBells$State" "PASSED" "LBridgeBells$State;") ∈ lw_all := lw_g (lw_at lw_m3 121 rfl) rfl
theorem q630 : (Jvm.Cond.instanceMethod ({ cls := "BridgeBells$Traveller", name := "copy", desc := "()LBridgeBells$Traveller;" } : Jvm.MethodName)) ∈ lw_all := lw_g (lw_at lw_m3 137 rfl) rfl
theorem q631 : (Jvm.Cond.selects "BridgeBells$Traveller" ({ cls := "BridgeBells$Traveller", name := "copy", desc := "()LBridgeBells$Traveller;" } : Jvm.MethodName) ({ cls := "BridgeBells$Traveller", name := "copy", desc := "()LBridgeBells$Traveller;" } : Jvm.MethodName)) ∈ lw_all := lw_g (lw_at lw_m3 138 rfl) rfl
theorem q632 : (Jvm.Cond.code ({ cls := "BridgeBells$Traveller", name := "copy", desc := "()LBridgeBells$Traveller;" } : Jvm.MethodName) prog_10_method_2_code (2 : Nat) (Option.some (Jvm.ClassFile.FieldType.object "BridgeBells$Traveller"))) ∈ lw_all := lw_g (lw_at lw_m3 139 rfl) rfl
theorem q633 : (Jvm.Cond.classLink "BridgeBells$Traveller" (16 : Nat) "BridgeBells$Traveller") ∈ lw_all := lw_g (lw_at lw_m3 140 rfl) rfl
theorem q634 : (Jvm.Cond.methodLink "BridgeBells$Traveller" (34 : Nat) ({ cls := "BridgeBells$Traveller", name := "<init>", desc := "(ZII)V" } : Jvm.MethodName)) ∈ lw_all := lw_g (lw_at lw_m3 141 rfl) rfl
theorem q899 : (Jvm.Cond.castable "BridgeBells$Traveller" "java/lang/Object") ∈ lw_tbl := lw_at lw_m4 166 rfl
theorem in_X6 : ∀ w ∈ wsX60, w ∈ lw_all := lw_in wsX60 [378, 380, 382, 384, 386, 388, 390] (by decide +kernel) (by decide +kernel)
/-! BridgeBells$Code$4 -/
set_option maxRecDepth 100000
def RX7 : String := "BridgeBells$Code$4"
abbrev cX7_next : ByteArray := prog_7_method_2_code
def yX7_next : MethodName := ⟨RX7, "next", "(LBridgeBells$Bridge;)I"⟩
def dkwX7_next_0 : List UInt8 := [43, 43, 180, 0, 7, 154, 0, 7, 4, 167, 0, 4, 3, 182, 0, 13, 172]
abbrev dktX7_next_0 : List UInt8 := dkwX7_next_0 ++ []
theorem dksX7_next_0 : cX7_next.data.toList.drop 0 = dktX7_next_0 := by decide +kernel
theorem dX7_next_0 : decode cX7_next 0 = .ok (.aload_n 1, 1) := dk_43 (dk_at dksX7_next_0 0 rfl rfl)
theorem dX7_next_1 : decode cX7_next 1 = .ok (.aload_n 1, 1) := dk_43 (dk_at dksX7_next_0 1 rfl rfl)
theorem dX7_next_2 : decode cX7_next 2 = .ok (.getfield 7, 3) := dk_180 0 7 (dk_at dksX7_next_0 2 rfl rfl)
theorem dX7_next_5 : decode cX7_next 5 = .ok (.ifCond .ne 7, 3) := dk_154 0 7 (dk_at dksX7_next_0 5 rfl rfl)
theorem dX7_next_8 : decode cX7_next 8 = .ok (.iconst 1, 1) := dk_4 (dk_at dksX7_next_0 8 rfl rfl)
theorem dX7_next_9 : decode cX7_next 9 = .ok (.goto 4, 3) := dk_167 0 4 (dk_at dksX7_next_0 9 rfl rfl)
theorem dX7_next_12 : decode cX7_next 12 = .ok (.iconst 0, 1) := dk_3 (dk_at dksX7_next_0 12 rfl rfl)
theorem dX7_next_13 : decode cX7_next 13 = .ok (.invokevirtual 13, 3) := dk_182 0 13 (dk_at dksX7_next_0 13 rfl rfl)
theorem dX7_next_16 : decode cX7_next 16 = .ok (.ireturn, 1) := dk_172 (dk_at dksX7_next_0 16 rfl rfl)
theorem q92 : (Jvm.Cond.fieldLinkNest "BridgeBells$Code$4" (7 : Nat) "BridgeBells$Bridge" "latestWasBarge" "Z" "BridgeBells") ∈ lw_tbl := lw_at lw_m1 79 rfl
theorem q183 : (Jvm.Cond.selects "BridgeBells$Code$4" ({ cls := "BridgeBells$Code", name := "ordinal", desc := "()I" } : Jvm.MethodName) ({ cls := "java/lang/Enum", name := "ordinal", desc := "()I" } : Jvm.MethodName)) ∈ lw_all := lw_g (lw_at lw_m1 170 rfl) rfl
theorem q239 : (Jvm.Cond.selects "BridgeBells$Code$4" ({ cls := "BridgeBells$Code", name := "next", desc := "(LBridgeBells$Bridge;)I" } : Jvm.MethodName) ({ cls := "BridgeBells$Code$4", name := "next", desc := "(LBridgeBells$Bridge;)I" } : Jvm.MethodName)) ∈ lw_all := lw_g (lw_at lw_m1 226 rfl) rfl
theorem q240 : (Jvm.Cond.instanceMethod ({ cls := "BridgeBells$Code$4", name := "next", desc := "(LBridgeBells$Bridge;)I" } : Jvm.MethodName)) ∈ lw_all := lw_g (lw_at lw_m1 227 rfl) rfl
theorem q241 : (Jvm.Cond.code ({ cls := "BridgeBells$Code$4", name := "next", desc := "(LBridgeBells$Bridge;)I" } : Jvm.MethodName) prog_7_method_2_code (2 : Nat) (Option.some Jvm.ClassFile.FieldType.int)) ∈ lw_all := lw_g (lw_at lw_m1 228 rfl) rfl
theorem q242 : (Jvm.Cond.methodLink "BridgeBells$Code$4" (13 : Nat) ({ cls := "BridgeBells$Bridge", name := "kindFirst", desc := "(Z)I" } : Jvm.MethodName)) ∈ lw_all := lw_g (lw_at lw_m1 229 rfl) rfl
theorem q428 : (Jvm.Cond.selects "BridgeBells$Code$4" ({ cls := "java/lang/Object", name := "getClass", desc := "()Ljava/lang/Class;" } : Jvm.MethodName) ({ cls := "java/lang/Object", name := "getClass", desc := "()Ljava/lang/Class;" } : Jvm.MethodName)) ∈ lw_all := lw_g (lw_at lw_m2 175 rfl) rfl
theorem q905 : (Jvm.Cond.castable "BridgeBells$Code$4" "java/lang/Object") ∈ lw_tbl := lw_at lw_m4 172 rfl
theorem q912 : (Jvm.Cond.castable "BridgeBells$Code$4" "BridgeBells$Code") ∈ lw_tbl := lw_at lw_m4 179 rfl
/-! BridgeBells$Code$1 -/
set_option maxRecDepth 100000
def RX8 : String := "BridgeBells$Code$1"
abbrev cX8_next : ByteArray := prog_4_method_2_code
def yX8_next : MethodName := ⟨RX8, "next", "(LBridgeBells$Bridge;)I"⟩
def dkwX8_next_0 : List UInt8 := [43, 43, 4, 182, 0, 7, 43, 3, 182, 0, 7, 182, 0, 13, 172]
abbrev dktX8_next_0 : List UInt8 := dkwX8_next_0 ++ []
theorem dksX8_next_0 : cX8_next.data.toList.drop 0 = dktX8_next_0 := by decide +kernel
theorem dX8_next_0 : decode cX8_next 0 = .ok (.aload_n 1, 1) := dk_43 (dk_at dksX8_next_0 0 rfl rfl)
theorem dX8_next_1 : decode cX8_next 1 = .ok (.aload_n 1, 1) := dk_43 (dk_at dksX8_next_0 1 rfl rfl)
theorem dX8_next_2 : decode cX8_next 2 = .ok (.iconst 1, 1) := dk_4 (dk_at dksX8_next_0 2 rfl rfl)
theorem dX8_next_3 : decode cX8_next 3 = .ok (.invokevirtual 7, 3) := dk_182 0 7 (dk_at dksX8_next_0 3 rfl rfl)
theorem dX8_next_6 : decode cX8_next 6 = .ok (.aload_n 1, 1) := dk_43 (dk_at dksX8_next_0 6 rfl rfl)
theorem dX8_next_7 : decode cX8_next 7 = .ok (.iconst 0, 1) := dk_3 (dk_at dksX8_next_0 7 rfl rfl)
theorem dX8_next_8 : decode cX8_next 8 = .ok (.invokevirtual 7, 3) := dk_182 0 7 (dk_at dksX8_next_0 8 rfl rfl)
theorem dX8_next_11 : decode cX8_next 11 = .ok (.invokevirtual 13, 3) := dk_182 0 13 (dk_at dksX8_next_0 11 rfl rfl)
theorem dX8_next_14 : decode cX8_next 14 = .ok (.ireturn, 1) := dk_172 (dk_at dksX8_next_0 14 rfl rfl)
theorem q180 : (Jvm.Cond.selects "BridgeBells$Code$1" ({ cls := "BridgeBells$Code", name := "ordinal", desc := "()I" } : Jvm.MethodName) ({ cls := "java/lang/Enum", name := "ordinal", desc := "()I" } : Jvm.MethodName)) ∈ lw_all := lw_g (lw_at lw_m1 167 rfl) rfl
theorem q211 : (Jvm.Cond.selects "BridgeBells$Code$1" ({ cls := "BridgeBells$Code", name := "next", desc := "(LBridgeBells$Bridge;)I" } : Jvm.MethodName) ({ cls := "BridgeBells$Code$1", name := "next", desc := "(LBridgeBells$Bridge;)I" } : Jvm.MethodName)) ∈ lw_all := lw_g (lw_at lw_m1 198 rfl) rfl
theorem q212 : (Jvm.Cond.instanceMethod ({ cls := "BridgeBells$Code$1", name := "next", desc := "(LBridgeBells$Bridge;)I" } : Jvm.MethodName)) ∈ lw_all := lw_g (lw_at lw_m1 199 rfl) rfl
theorem q213 : (Jvm.Cond.code ({ cls := "BridgeBells$Code$1", name := "next", desc := "(LBridgeBells$Bridge;)I" } : Jvm.MethodName) prog_4_method_2_code (2 : Nat) (Option.some Jvm.ClassFile.FieldType.int)) ∈ lw_all := lw_g (lw_at lw_m1 200 rfl) rfl
theorem q214 : (Jvm.Cond.methodLink "BridgeBells$Code$1" (7 : Nat) ({ cls := "BridgeBells$Bridge", name := "first", desc := "(Z)I" } : Jvm.MethodName)) ∈ lw_all := lw_g (lw_at lw_m1 201 rfl) rfl
theorem q220 : (Jvm.Cond.methodLink "BridgeBells$Code$1" (13 : Nat) ({ cls := "BridgeBells$Bridge", name := "eitherOf", desc := "(II)I" } : Jvm.MethodName)) ∈ lw_all := lw_g (lw_at lw_m1 207 rfl) rfl
theorem q425 : (Jvm.Cond.selects "BridgeBells$Code$1" ({ cls := "java/lang/Object", name := "getClass", desc := "()Ljava/lang/Class;" } : Jvm.MethodName) ({ cls := "java/lang/Object", name := "getClass", desc := "()Ljava/lang/Class;" } : Jvm.MethodName)) ∈ lw_all := lw_g (lw_at lw_m2 172 rfl) rfl
theorem q893 : (Jvm.Cond.castable "BridgeBells$Code$1" "java/lang/Object") ∈ lw_tbl := lw_at lw_m4 160 rfl
theorem q909 : (Jvm.Cond.castable "BridgeBells$Code$1" "BridgeBells$Code") ∈ lw_tbl := lw_at lw_m4 176 rfl
/-! BridgeBells$Code$2 -/
set_option maxRecDepth 100000
def RX9 : String := "BridgeBells$Code$2"
abbrev cX9_next : ByteArray := prog_5_method_2_code
def yX9_next : MethodName := ⟨RX9, "next", "(LBridgeBells$Bridge;)I"⟩
def dkwX9_next_0 : List UInt8 := [43, 4, 182, 0, 7, 172]
abbrev dktX9_next_0 : List UInt8 := dkwX9_next_0 ++ []
theorem dksX9_next_0 : cX9_next.data.toList.drop 0 = dktX9_next_0 := by decide +kernel
theorem dX9_next_0 : decode cX9_next 0 = .ok (.aload_n 1, 1) := dk_43 (dk_at dksX9_next_0 0 rfl rfl)
theorem dX9_next_1 : decode cX9_next 1 = .ok (.iconst 1, 1) := dk_4 (dk_at dksX9_next_0 1 rfl rfl)
theorem dX9_next_2 : decode cX9_next 2 = .ok (.invokevirtual 7, 3) := dk_182 0 7 (dk_at dksX9_next_0 2 rfl rfl)
theorem dX9_next_5 : decode cX9_next 5 = .ok (.ireturn, 1) := dk_172 (dk_at dksX9_next_0 5 rfl rfl)
theorem q181 : (Jvm.Cond.selects "BridgeBells$Code$2" ({ cls := "BridgeBells$Code", name := "ordinal", desc := "()I" } : Jvm.MethodName) ({ cls := "java/lang/Enum", name := "ordinal", desc := "()I" } : Jvm.MethodName)) ∈ lw_all := lw_g (lw_at lw_m1 168 rfl) rfl
theorem q227 : (Jvm.Cond.selects "BridgeBells$Code$2" ({ cls := "BridgeBells$Code", name := "next", desc := "(LBridgeBells$Bridge;)I" } : Jvm.MethodName) ({ cls := "BridgeBells$Code$2", name := "next", desc := "(LBridgeBells$Bridge;)I" } : Jvm.MethodName)) ∈ lw_all := lw_g (lw_at lw_m1 214 rfl) rfl
theorem q228 : (Jvm.Cond.instanceMethod ({ cls := "BridgeBells$Code$2", name := "next", desc := "(LBridgeBells$Bridge;)I" } : Jvm.MethodName)) ∈ lw_all := lw_g (lw_at lw_m1 215 rfl) rfl
theorem q229 : (Jvm.Cond.code ({ cls := "BridgeBells$Code$2", name := "next", desc := "(LBridgeBells$Bridge;)I" } : Jvm.MethodName) prog_5_method_2_code (2 : Nat) (Option.some Jvm.ClassFile.FieldType.int)) ∈ lw_all := lw_g (lw_at lw_m1 216 rfl) rfl
theorem q230 : (Jvm.Cond.methodLink "BridgeBells$Code$2" (7 : Nat) ({ cls := "BridgeBells$Bridge", name := "kindFirst", desc := "(Z)I" } : Jvm.MethodName)) ∈ lw_all := lw_g (lw_at lw_m1 217 rfl) rfl
theorem q426 : (Jvm.Cond.selects "BridgeBells$Code$2" ({ cls := "java/lang/Object", name := "getClass", desc := "()Ljava/lang/Class;" } : Jvm.MethodName) ({ cls := "java/lang/Object", name := "getClass", desc := "()Ljava/lang/Class;" } : Jvm.MethodName)) ∈ lw_all := lw_g (lw_at lw_m2 173 rfl) rfl
theorem q903 : (Jvm.Cond.castable "BridgeBells$Code$2" "java/lang/Object") ∈ lw_tbl := lw_at lw_m4 170 rfl
theorem q910 : (Jvm.Cond.castable "BridgeBells$Code$2" "BridgeBells$Code") ∈ lw_tbl := lw_at lw_m4 177 rfl
/-! BridgeBells$Code$3 -/
set_option maxRecDepth 100000
def RX10 : String := "BridgeBells$Code$3"
abbrev cX10_next : ByteArray := prog_6_method_2_code
def yX10_next : MethodName := ⟨RX10, "next", "(LBridgeBells$Bridge;)I"⟩
def dkwX10_next_0 : List UInt8 := [43, 3, 182, 0, 7, 172]
abbrev dktX10_next_0 : List UInt8 := dkwX10_next_0 ++ []
theorem dksX10_next_0 : cX10_next.data.toList.drop 0 = dktX10_next_0 := by decide +kernel
theorem dX10_next_0 : decode cX10_next 0 = .ok (.aload_n 1, 1) := dk_43 (dk_at dksX10_next_0 0 rfl rfl)
theorem dX10_next_1 : decode cX10_next 1 = .ok (.iconst 0, 1) := dk_3 (dk_at dksX10_next_0 1 rfl rfl)
theorem dX10_next_2 : decode cX10_next 2 = .ok (.invokevirtual 7, 3) := dk_182 0 7 (dk_at dksX10_next_0 2 rfl rfl)
theorem dX10_next_5 : decode cX10_next 5 = .ok (.ireturn, 1) := dk_172 (dk_at dksX10_next_0 5 rfl rfl)
theorem q182 : (Jvm.Cond.selects "BridgeBells$Code$3" ({ cls := "BridgeBells$Code", name := "ordinal", desc := "()I" } : Jvm.MethodName) ({ cls := "java/lang/Enum", name := "ordinal", desc := "()I" } : Jvm.MethodName)) ∈ lw_all := lw_g (lw_at lw_m1 169 rfl) rfl
theorem q235 : (Jvm.Cond.selects "BridgeBells$Code$3" ({ cls := "BridgeBells$Code", name := "next", desc := "(LBridgeBells$Bridge;)I" } : Jvm.MethodName) ({ cls := "BridgeBells$Code$3", name := "next", desc := "(LBridgeBells$Bridge;)I" } : Jvm.MethodName)) ∈ lw_all := lw_g (lw_at lw_m1 222 rfl) rfl
theorem q236 : (Jvm.Cond.instanceMethod ({ cls := "BridgeBells$Code$3", name := "next", desc := "(LBridgeBells$Bridge;)I" } : Jvm.MethodName)) ∈ lw_all := lw_g (lw_at lw_m1 223 rfl) rfl
theorem q237 : (Jvm.Cond.code ({ cls := "BridgeBells$Code$3", name := "next", desc := "(LBridgeBells$Bridge;)I" } : Jvm.MethodName) prog_6_method_2_code (2 : Nat) (Option.some Jvm.ClassFile.FieldType.int)) ∈ lw_all := lw_g (lw_at lw_m1 224 rfl) rfl
theorem q238 : (Jvm.Cond.methodLink "BridgeBells$Code$3" (7 : Nat) ({ cls := "BridgeBells$Bridge", name := "kindFirst", desc := "(Z)I" } : Jvm.MethodName)) ∈ lw_all := lw_g (lw_at lw_m1 225 rfl) rfl
theorem q427 : (Jvm.Cond.selects "BridgeBells$Code$3" ({ cls := "java/lang/Object", name := "getClass", desc := "()Ljava/lang/Class;" } : Jvm.MethodName) ({ cls := "java/lang/Object", name := "getClass", desc := "()Ljava/lang/Class;" } : Jvm.MethodName)) ∈ lw_all := lw_g (lw_at lw_m2 174 rfl) rfl
theorem q904 : (Jvm.Cond.castable "BridgeBells$Code$3" "java/lang/Object") ∈ lw_tbl := lw_at lw_m4 171 rfl
theorem q911 : (Jvm.Cond.castable "BridgeBells$Code$3" "BridgeBells$Code") ∈ lw_tbl := lw_at lw_m4 178 rfl
/-! BridgeBells$Code$5 -/
set_option maxRecDepth 100000
def RX11 : String := "BridgeBells$Code$5"
abbrev cX11_next : ByteArray := prog_8_method_2_code
def yX11_next : MethodName := ⟨RX11, "next", "(LBridgeBells$Bridge;)I"⟩
theorem dX11_next_0 : decode cX11_next 0 = .ok (.iconst (-1), 1) := by decide +kernel
theorem dX11_next_1 : decode cX11_next 1 = .ok (.ireturn, 1) := by decide +kernel
theorem q184 : (Jvm.Cond.selects "BridgeBells$Code$5" ({ cls := "BridgeBells$Code", name := "ordinal", desc := "()I" } : Jvm.MethodName) ({ cls := "java/lang/Enum", name := "ordinal", desc := "()I" } : Jvm.MethodName)) ∈ lw_all := lw_g (lw_at lw_m1 171 rfl) rfl
theorem q243 : (Jvm.Cond.selects "BridgeBells$Code$5" ({ cls := "BridgeBells$Code", name := "next", desc := "(LBridgeBells$Bridge;)I" } : Jvm.MethodName) ({ cls := "BridgeBells$Code$5", name := "next", desc := "(LBridgeBells$Bridge;)I" } : Jvm.MethodName)) ∈ lw_all := lw_g (lw_at lw_m1 230 rfl) rfl
theorem q244 : (Jvm.Cond.instanceMethod ({ cls := "BridgeBells$Code$5", name := "next", desc := "(LBridgeBells$Bridge;)I" } : Jvm.MethodName)) ∈ lw_all := lw_g (lw_at lw_m1 231 rfl) rfl
theorem q245 : (Jvm.Cond.code ({ cls := "BridgeBells$Code$5", name := "next", desc := "(LBridgeBells$Bridge;)I" } : Jvm.MethodName) prog_8_method_2_code (2 : Nat) (Option.some Jvm.ClassFile.FieldType.int)) ∈ lw_all := lw_g (lw_at lw_m1 232 rfl) rfl
theorem q429 : (Jvm.Cond.selects "BridgeBells$Code$5" ({ cls := "java/lang/Object", name := "getClass", desc := "()Ljava/lang/Class;" } : Jvm.MethodName) ({ cls := "java/lang/Object", name := "getClass", desc := "()Ljava/lang/Class;" } : Jvm.MethodName)) ∈ lw_all := lw_g (lw_at lw_m2 176 rfl) rfl
theorem q906 : (Jvm.Cond.castable "BridgeBells$Code$5" "java/lang/Object") ∈ lw_tbl := lw_at lw_m4 173 rfl
theorem q913 : (Jvm.Cond.castable "BridgeBells$Code$5" "BridgeBells$Code") ∈ lw_tbl := lw_at lw_m4 180 rfl
