/-! BridgeBellsLaw -/
set_option maxRecDepth 100000
def RX0 : String := "BridgeBellsLaw"
abbrev cX0_come : ByteArray := method_3_code
def yX0_come : MethodName := ⟨RX0, "come", "(LBridgeBells;ZI[J)I"⟩
def dkwX0_come_0 : List UInt8 := [45, 3, 42, 27, 28, 182, 0, 7, 133, 80, 167, 0, 11, 58, 4, 4, 172, 58, 4, 5, 172, 3, 172]
abbrev dktX0_come_0 : List UInt8 := dkwX0_come_0 ++ []
theorem dksX0_come_0 : cX0_come.data.toList.drop 0 = dktX0_come_0 := by decide +kernel
theorem dX0_come_0 : decode cX0_come 0 = .ok (.aload_n 3, 1) := dk_45 (dk_at dksX0_come_0 0 rfl rfl)
theorem dX0_come_1 : decode cX0_come 1 = .ok (.iconst 0, 1) := dk_3 (dk_at dksX0_come_0 1 rfl rfl)
theorem dX0_come_2 : decode cX0_come 2 = .ok (.aload_n 0, 1) := dk_42 (dk_at dksX0_come_0 2 rfl rfl)
theorem dX0_come_3 : decode cX0_come 3 = .ok (.iload_n 1, 1) := dk_27 (dk_at dksX0_come_0 3 rfl rfl)
theorem dX0_come_4 : decode cX0_come 4 = .ok (.iload_n 2, 1) := dk_28 (dk_at dksX0_come_0 4 rfl rfl)
theorem dX0_come_5 : decode cX0_come 5 = .ok (.invokevirtual 7, 3) := dk_182 0 7 (dk_at dksX0_come_0 5 rfl rfl)
theorem dX0_come_8 : decode cX0_come 8 = .ok (.i2l, 1) := dk_133 (dk_at dksX0_come_0 8 rfl rfl)
theorem dX0_come_9 : decode cX0_come 9 = .ok (.lastore, 1) := dk_80 (dk_at dksX0_come_0 9 rfl rfl)
theorem dX0_come_10 : decode cX0_come 10 = .ok (.goto 11, 3) := dk_167 0 11 (dk_at dksX0_come_0 10 rfl rfl)
theorem dX0_come_13 : decode cX0_come 13 = .ok (.astore 4, 2) := dk_58 4 (dk_at dksX0_come_0 13 rfl rfl)
theorem dX0_come_15 : decode cX0_come 15 = .ok (.iconst 1, 1) := dk_4 (dk_at dksX0_come_0 15 rfl rfl)
theorem dX0_come_16 : decode cX0_come 16 = .ok (.ireturn, 1) := dk_172 (dk_at dksX0_come_0 16 rfl rfl)
theorem dX0_come_17 : decode cX0_come 17 = .ok (.astore 4, 2) := dk_58 4 (dk_at dksX0_come_0 17 rfl rfl)
theorem dX0_come_19 : decode cX0_come 19 = .ok (.iconst 2, 1) := dk_5 (dk_at dksX0_come_0 19 rfl rfl)
theorem dX0_come_20 : decode cX0_come 20 = .ok (.ireturn, 1) := dk_172 (dk_at dksX0_come_0 20 rfl rfl)
theorem dX0_come_21 : decode cX0_come 21 = .ok (.iconst 0, 1) := dk_3 (dk_at dksX0_come_0 21 rfl rfl)
theorem dX0_come_22 : decode cX0_come 22 = .ok (.ireturn, 1) := dk_172 (dk_at dksX0_come_0 22 rfl rfl)
abbrev cX0_leave : ByteArray := method_4_code
def yX0_leave : MethodName := ⟨RX0, "leave", "(LBridgeBells;I[J)I"⟩
def dkwX0_leave_0 : List UInt8 := [44, 3, 42, 27, 182, 0, 17, 133, 80, 167, 0, 9, 78, 4, 172, 78, 5, 172, 3, 172]
abbrev dktX0_leave_0 : List UInt8 := dkwX0_leave_0 ++ []
theorem dksX0_leave_0 : cX0_leave.data.toList.drop 0 = dktX0_leave_0 := by decide +kernel
theorem dX0_leave_0 : decode cX0_leave 0 = .ok (.aload_n 2, 1) := dk_44 (dk_at dksX0_leave_0 0 rfl rfl)
theorem dX0_leave_1 : decode cX0_leave 1 = .ok (.iconst 0, 1) := dk_3 (dk_at dksX0_leave_0 1 rfl rfl)
theorem dX0_leave_2 : decode cX0_leave 2 = .ok (.aload_n 0, 1) := dk_42 (dk_at dksX0_leave_0 2 rfl rfl)
theorem dX0_leave_3 : decode cX0_leave 3 = .ok (.iload_n 1, 1) := dk_27 (dk_at dksX0_leave_0 3 rfl rfl)
theorem dX0_leave_4 : decode cX0_leave 4 = .ok (.invokevirtual 17, 3) := dk_182 0 17 (dk_at dksX0_leave_0 4 rfl rfl)
theorem dX0_leave_7 : decode cX0_leave 7 = .ok (.i2l, 1) := dk_133 (dk_at dksX0_leave_0 7 rfl rfl)
theorem dX0_leave_8 : decode cX0_leave 8 = .ok (.lastore, 1) := dk_80 (dk_at dksX0_leave_0 8 rfl rfl)
theorem dX0_leave_9 : decode cX0_leave 9 = .ok (.goto 9, 3) := dk_167 0 9 (dk_at dksX0_leave_0 9 rfl rfl)
theorem dX0_leave_12 : decode cX0_leave 12 = .ok (.astore_n 3, 1) := dk_78 (dk_at dksX0_leave_0 12 rfl rfl)
theorem dX0_leave_13 : decode cX0_leave 13 = .ok (.iconst 1, 1) := dk_4 (dk_at dksX0_leave_0 13 rfl rfl)
theorem dX0_leave_14 : decode cX0_leave 14 = .ok (.ireturn, 1) := dk_172 (dk_at dksX0_leave_0 14 rfl rfl)
theorem dX0_leave_15 : decode cX0_leave 15 = .ok (.astore_n 3, 1) := dk_78 (dk_at dksX0_leave_0 15 rfl rfl)
theorem dX0_leave_16 : decode cX0_leave 16 = .ok (.iconst 2, 1) := dk_5 (dk_at dksX0_leave_0 16 rfl rfl)
theorem dX0_leave_17 : decode cX0_leave 17 = .ok (.ireturn, 1) := dk_172 (dk_at dksX0_leave_0 17 rfl rfl)
theorem dX0_leave_18 : decode cX0_leave 18 = .ok (.iconst 0, 1) := dk_3 (dk_at dksX0_leave_0 18 rfl rfl)
theorem dX0_leave_19 : decode cX0_leave 19 = .ok (.ireturn, 1) := dk_172 (dk_at dksX0_leave_0 19 rfl rfl)
abbrev cX0_ring : ByteArray := method_5_code
def yX0_ring : MethodName := ⟨RX0, "ring", "(LBridgeBells;I[J)I"⟩
def dkwX0_ring_0 : List UInt8 := [44, 3, 42, 27, 182, 0, 23, 133, 80, 167, 0, 6, 78, 4, 172, 3, 172]
abbrev dktX0_ring_0 : List UInt8 := dkwX0_ring_0 ++ []
theorem dksX0_ring_0 : cX0_ring.data.toList.drop 0 = dktX0_ring_0 := by decide +kernel
theorem dX0_ring_0 : decode cX0_ring 0 = .ok (.aload_n 2, 1) := dk_44 (dk_at dksX0_ring_0 0 rfl rfl)
theorem dX0_ring_1 : decode cX0_ring 1 = .ok (.iconst 0, 1) := dk_3 (dk_at dksX0_ring_0 1 rfl rfl)
theorem dX0_ring_2 : decode cX0_ring 2 = .ok (.aload_n 0, 1) := dk_42 (dk_at dksX0_ring_0 2 rfl rfl)
theorem dX0_ring_3 : decode cX0_ring 3 = .ok (.iload_n 1, 1) := dk_27 (dk_at dksX0_ring_0 3 rfl rfl)
theorem dX0_ring_4 : decode cX0_ring 4 = .ok (.invokevirtual 23, 3) := dk_182 0 23 (dk_at dksX0_ring_0 4 rfl rfl)
theorem dX0_ring_7 : decode cX0_ring 7 = .ok (.i2l, 1) := dk_133 (dk_at dksX0_ring_0 7 rfl rfl)
theorem dX0_ring_8 : decode cX0_ring 8 = .ok (.lastore, 1) := dk_80 (dk_at dksX0_ring_0 8 rfl rfl)
theorem dX0_ring_9 : decode cX0_ring 9 = .ok (.goto 6, 3) := dk_167 0 6 (dk_at dksX0_ring_0 9 rfl rfl)
theorem dX0_ring_12 : decode cX0_ring 12 = .ok (.astore_n 3, 1) := dk_78 (dk_at dksX0_ring_0 12 rfl rfl)
theorem dX0_ring_13 : decode cX0_ring 13 = .ok (.iconst 1, 1) := dk_4 (dk_at dksX0_ring_0 13 rfl rfl)
theorem dX0_ring_14 : decode cX0_ring 14 = .ok (.ireturn, 1) := dk_172 (dk_at dksX0_ring_0 14 rfl rfl)
theorem dX0_ring_15 : decode cX0_ring 15 = .ok (.iconst 0, 1) := dk_3 (dk_at dksX0_ring_0 15 rfl rfl)
theorem dX0_ring_16 : decode cX0_ring 16 = .ok (.ireturn, 1) := dk_172 (dk_at dksX0_ring_0 16 rfl rfl)
abbrev cX0_poise : ByteArray := method_6_code
def yX0_poise : MethodName := ⟨RX0, "poise", "(LBridgeBells;I[J)I"⟩
def dkwX0_poise_0 : List UInt8 := [44, 3, 42, 27, 182, 0, 26, 133, 80, 167, 0, 9, 78, 4, 172, 78, 5, 172, 3, 172]
abbrev dktX0_poise_0 : List UInt8 := dkwX0_poise_0 ++ []
theorem dksX0_poise_0 : cX0_poise.data.toList.drop 0 = dktX0_poise_0 := by decide +kernel
theorem dX0_poise_0 : decode cX0_poise 0 = .ok (.aload_n 2, 1) := dk_44 (dk_at dksX0_poise_0 0 rfl rfl)
theorem dX0_poise_1 : decode cX0_poise 1 = .ok (.iconst 0, 1) := dk_3 (dk_at dksX0_poise_0 1 rfl rfl)
theorem dX0_poise_2 : decode cX0_poise 2 = .ok (.aload_n 0, 1) := dk_42 (dk_at dksX0_poise_0 2 rfl rfl)
theorem dX0_poise_3 : decode cX0_poise 3 = .ok (.iload_n 1, 1) := dk_27 (dk_at dksX0_poise_0 3 rfl rfl)
theorem dX0_poise_4 : decode cX0_poise 4 = .ok (.invokevirtual 26, 3) := dk_182 0 26 (dk_at dksX0_poise_0 4 rfl rfl)
theorem dX0_poise_7 : decode cX0_poise 7 = .ok (.i2l, 1) := dk_133 (dk_at dksX0_poise_0 7 rfl rfl)
theorem dX0_poise_8 : decode cX0_poise 8 = .ok (.lastore, 1) := dk_80 (dk_at dksX0_poise_0 8 rfl rfl)
theorem dX0_poise_9 : decode cX0_poise 9 = .ok (.goto 9, 3) := dk_167 0 9 (dk_at dksX0_poise_0 9 rfl rfl)
theorem dX0_poise_12 : decode cX0_poise 12 = .ok (.astore_n 3, 1) := dk_78 (dk_at dksX0_poise_0 12 rfl rfl)
theorem dX0_poise_13 : decode cX0_poise 13 = .ok (.iconst 1, 1) := dk_4 (dk_at dksX0_poise_0 13 rfl rfl)
theorem dX0_poise_14 : decode cX0_poise 14 = .ok (.ireturn, 1) := dk_172 (dk_at dksX0_poise_0 14 rfl rfl)
theorem dX0_poise_15 : decode cX0_poise 15 = .ok (.astore_n 3, 1) := dk_78 (dk_at dksX0_poise_0 15 rfl rfl)
theorem dX0_poise_16 : decode cX0_poise 16 = .ok (.iconst 2, 1) := dk_5 (dk_at dksX0_poise_0 16 rfl rfl)
theorem dX0_poise_17 : decode cX0_poise 17 = .ok (.ireturn, 1) := dk_172 (dk_at dksX0_poise_0 17 rfl rfl)
theorem dX0_poise_18 : decode cX0_poise 18 = .ok (.iconst 0, 1) := dk_3 (dk_at dksX0_poise_0 18 rfl rfl)
theorem dX0_poise_19 : decode cX0_poise 19 = .ok (.ireturn, 1) := dk_172 (dk_at dksX0_poise_0 19 rfl rfl)
abbrev cX0_setCold : ByteArray := method_7_code
def yX0_setCold : MethodName := ⟨RX0, "setCold", "(LBridgeBells;II[J)I"⟩
def dkwX0_setCold_0 : List UInt8 := [45, 3, 42, 27, 28, 182, 0, 29, 133, 80, 167, 0, 11, 58, 4, 4, 172, 58, 4, 5, 172, 3, 172]
abbrev dktX0_setCold_0 : List UInt8 := dkwX0_setCold_0 ++ []
theorem dksX0_setCold_0 : cX0_setCold.data.toList.drop 0 = dktX0_setCold_0 := by decide +kernel
theorem dX0_setCold_0 : decode cX0_setCold 0 = .ok (.aload_n 3, 1) := dk_45 (dk_at dksX0_setCold_0 0 rfl rfl)
theorem dX0_setCold_1 : decode cX0_setCold 1 = .ok (.iconst 0, 1) := dk_3 (dk_at dksX0_setCold_0 1 rfl rfl)
theorem dX0_setCold_2 : decode cX0_setCold 2 = .ok (.aload_n 0, 1) := dk_42 (dk_at dksX0_setCold_0 2 rfl rfl)
theorem dX0_setCold_3 : decode cX0_setCold 3 = .ok (.iload_n 1, 1) := dk_27 (dk_at dksX0_setCold_0 3 rfl rfl)
theorem dX0_setCold_4 : decode cX0_setCold 4 = .ok (.iload_n 2, 1) := dk_28 (dk_at dksX0_setCold_0 4 rfl rfl)
theorem dX0_setCold_5 : decode cX0_setCold 5 = .ok (.invokevirtual 29, 3) := dk_182 0 29 (dk_at dksX0_setCold_0 5 rfl rfl)
theorem dX0_setCold_8 : decode cX0_setCold 8 = .ok (.i2l, 1) := dk_133 (dk_at dksX0_setCold_0 8 rfl rfl)
theorem dX0_setCold_9 : decode cX0_setCold 9 = .ok (.lastore, 1) := dk_80 (dk_at dksX0_setCold_0 9 rfl rfl)
theorem dX0_setCold_10 : decode cX0_setCold 10 = .ok (.goto 11, 3) := dk_167 0 11 (dk_at dksX0_setCold_0 10 rfl rfl)
theorem dX0_setCold_13 : decode cX0_setCold 13 = .ok (.astore 4, 2) := dk_58 4 (dk_at dksX0_setCold_0 13 rfl rfl)
theorem dX0_setCold_15 : decode cX0_setCold 15 = .ok (.iconst 1, 1) := dk_4 (dk_at dksX0_setCold_0 15 rfl rfl)
theorem dX0_setCold_16 : decode cX0_setCold 16 = .ok (.ireturn, 1) := dk_172 (dk_at dksX0_setCold_0 16 rfl rfl)
theorem dX0_setCold_17 : decode cX0_setCold 17 = .ok (.astore 4, 2) := dk_58 4 (dk_at dksX0_setCold_0 17 rfl rfl)
theorem dX0_setCold_19 : decode cX0_setCold 19 = .ok (.iconst 2, 1) := dk_5 (dk_at dksX0_setCold_0 19 rfl rfl)
theorem dX0_setCold_20 : decode cX0_setCold 20 = .ok (.ireturn, 1) := dk_172 (dk_at dksX0_setCold_0 20 rfl rfl)
theorem dX0_setCold_21 : decode cX0_setCold 21 = .ok (.iconst 0, 1) := dk_3 (dk_at dksX0_setCold_0 21 rfl rfl)
theorem dX0_setCold_22 : decode cX0_setCold 22 = .ok (.ireturn, 1) := dk_172 (dk_at dksX0_setCold_0 22 rfl rfl)
abbrev cX0_traveller : ByteArray := method_8_code
def yX0_traveller : MethodName := ⟨RX0, "traveller", "(LBridgeBells;II[J)I"⟩
def dkwX0_traveller_0 : List UInt8 := [45, 3, 42, 27, 28, 182, 0, 33, 133, 80, 167, 0, 7, 58, 4, 4, 172, 3, 172]
abbrev dktX0_traveller_0 : List UInt8 := dkwX0_traveller_0 ++ []
theorem dksX0_traveller_0 : cX0_traveller.data.toList.drop 0 = dktX0_traveller_0 := by decide +kernel
theorem dX0_traveller_0 : decode cX0_traveller 0 = .ok (.aload_n 3, 1) := dk_45 (dk_at dksX0_traveller_0 0 rfl rfl)
theorem dX0_traveller_1 : decode cX0_traveller 1 = .ok (.iconst 0, 1) := dk_3 (dk_at dksX0_traveller_0 1 rfl rfl)
theorem dX0_traveller_2 : decode cX0_traveller 2 = .ok (.aload_n 0, 1) := dk_42 (dk_at dksX0_traveller_0 2 rfl rfl)
theorem dX0_traveller_3 : decode cX0_traveller 3 = .ok (.iload_n 1, 1) := dk_27 (dk_at dksX0_traveller_0 3 rfl rfl)
theorem dX0_traveller_4 : decode cX0_traveller 4 = .ok (.iload_n 2, 1) := dk_28 (dk_at dksX0_traveller_0 4 rfl rfl)
theorem dX0_traveller_5 : decode cX0_traveller 5 = .ok (.invokevirtual 33, 3) := dk_182 0 33 (dk_at dksX0_traveller_0 5 rfl rfl)
theorem dX0_traveller_8 : decode cX0_traveller 8 = .ok (.i2l, 1) := dk_133 (dk_at dksX0_traveller_0 8 rfl rfl)
theorem dX0_traveller_9 : decode cX0_traveller 9 = .ok (.lastore, 1) := dk_80 (dk_at dksX0_traveller_0 9 rfl rfl)
theorem dX0_traveller_10 : decode cX0_traveller 10 = .ok (.goto 7, 3) := dk_167 0 7 (dk_at dksX0_traveller_0 10 rfl rfl)
theorem dX0_traveller_13 : decode cX0_traveller 13 = .ok (.astore 4, 2) := dk_58 4 (dk_at dksX0_traveller_0 13 rfl rfl)
theorem dX0_traveller_15 : decode cX0_traveller 15 = .ok (.iconst 1, 1) := dk_4 (dk_at dksX0_traveller_0 15 rfl rfl)
theorem dX0_traveller_16 : decode cX0_traveller 16 = .ok (.ireturn, 1) := dk_172 (dk_at dksX0_traveller_0 16 rfl rfl)
theorem dX0_traveller_17 : decode cX0_traveller 17 = .ok (.iconst 0, 1) := dk_3 (dk_at dksX0_traveller_0 17 rfl rfl)
theorem dX0_traveller_18 : decode cX0_traveller 18 = .ok (.ireturn, 1) := dk_172 (dk_at dksX0_traveller_0 18 rfl rfl)
abbrev cX0_count : ByteArray := method_9_code
def yX0_count : MethodName := ⟨RX0, "count", "(LBridgeBells;I[J)I"⟩
def dkwX0_count_0 : List UInt8 := [44, 3, 42, 27, 182, 0, 36, 133, 80, 167, 0, 6, 78, 4, 172, 3, 172]
abbrev dktX0_count_0 : List UInt8 := dkwX0_count_0 ++ []
theorem dksX0_count_0 : cX0_count.data.toList.drop 0 = dktX0_count_0 := by decide +kernel
theorem dX0_count_0 : decode cX0_count 0 = .ok (.aload_n 2, 1) := dk_44 (dk_at dksX0_count_0 0 rfl rfl)
theorem dX0_count_1 : decode cX0_count 1 = .ok (.iconst 0, 1) := dk_3 (dk_at dksX0_count_0 1 rfl rfl)
theorem dX0_count_2 : decode cX0_count 2 = .ok (.aload_n 0, 1) := dk_42 (dk_at dksX0_count_0 2 rfl rfl)
theorem dX0_count_3 : decode cX0_count 3 = .ok (.iload_n 1, 1) := dk_27 (dk_at dksX0_count_0 3 rfl rfl)
theorem dX0_count_4 : decode cX0_count 4 = .ok (.invokevirtual 36, 3) := dk_182 0 36 (dk_at dksX0_count_0 4 rfl rfl)
theorem dX0_count_7 : decode cX0_count 7 = .ok (.i2l, 1) := dk_133 (dk_at dksX0_count_0 7 rfl rfl)
theorem dX0_count_8 : decode cX0_count 8 = .ok (.lastore, 1) := dk_80 (dk_at dksX0_count_0 8 rfl rfl)
theorem dX0_count_9 : decode cX0_count 9 = .ok (.goto 6, 3) := dk_167 0 6 (dk_at dksX0_count_0 9 rfl rfl)
theorem dX0_count_12 : decode cX0_count 12 = .ok (.astore_n 3, 1) := dk_78 (dk_at dksX0_count_0 12 rfl rfl)
theorem dX0_count_13 : decode cX0_count 13 = .ok (.iconst 1, 1) := dk_4 (dk_at dksX0_count_0 13 rfl rfl)
theorem dX0_count_14 : decode cX0_count 14 = .ok (.ireturn, 1) := dk_172 (dk_at dksX0_count_0 14 rfl rfl)
theorem dX0_count_15 : decode cX0_count 15 = .ok (.iconst 0, 1) := dk_3 (dk_at dksX0_count_0 15 rfl rfl)
theorem dX0_count_16 : decode cX0_count 16 = .ok (.ireturn, 1) := dk_172 (dk_at dksX0_count_0 16 rfl rfl)
abbrev cX0_pass : ByteArray := method_10_code
def yX0_pass : MethodName := ⟨RX0, "pass", "(LBridgeBells;I[J)I"⟩
def dkwX0_pass_0 : List UInt8 := [44, 3, 42, 27, 182, 0, 39, 133, 80, 167, 0, 6, 78, 4, 172, 3, 172]
abbrev dktX0_pass_0 : List UInt8 := dkwX0_pass_0 ++ []
theorem dksX0_pass_0 : cX0_pass.data.toList.drop 0 = dktX0_pass_0 := by decide +kernel
theorem dX0_pass_0 : decode cX0_pass 0 = .ok (.aload_n 2, 1) := dk_44 (dk_at dksX0_pass_0 0 rfl rfl)
theorem dX0_pass_1 : decode cX0_pass 1 = .ok (.iconst 0, 1) := dk_3 (dk_at dksX0_pass_0 1 rfl rfl)
theorem dX0_pass_2 : decode cX0_pass 2 = .ok (.aload_n 0, 1) := dk_42 (dk_at dksX0_pass_0 2 rfl rfl)
theorem dX0_pass_3 : decode cX0_pass 3 = .ok (.iload_n 1, 1) := dk_27 (dk_at dksX0_pass_0 3 rfl rfl)
theorem dX0_pass_4 : decode cX0_pass 4 = .ok (.invokevirtual 39, 3) := dk_182 0 39 (dk_at dksX0_pass_0 4 rfl rfl)
theorem dX0_pass_7 : decode cX0_pass 7 = .ok (.i2l, 1) := dk_133 (dk_at dksX0_pass_0 7 rfl rfl)
theorem dX0_pass_8 : decode cX0_pass 8 = .ok (.lastore, 1) := dk_80 (dk_at dksX0_pass_0 8 rfl rfl)
theorem dX0_pass_9 : decode cX0_pass 9 = .ok (.goto 6, 3) := dk_167 0 6 (dk_at dksX0_pass_0 9 rfl rfl)
theorem dX0_pass_12 : decode cX0_pass 12 = .ok (.astore_n 3, 1) := dk_78 (dk_at dksX0_pass_0 12 rfl rfl)
theorem dX0_pass_13 : decode cX0_pass 13 = .ok (.iconst 1, 1) := dk_4 (dk_at dksX0_pass_0 13 rfl rfl)
theorem dX0_pass_14 : decode cX0_pass 14 = .ok (.ireturn, 1) := dk_172 (dk_at dksX0_pass_0 14 rfl rfl)
theorem dX0_pass_15 : decode cX0_pass 15 = .ok (.iconst 0, 1) := dk_3 (dk_at dksX0_pass_0 15 rfl rfl)
theorem dX0_pass_16 : decode cX0_pass 16 = .ok (.ireturn, 1) := dk_172 (dk_at dksX0_pass_0 16 rfl rfl)
abbrev cX0_when : ByteArray := method_11_code
def yX0_when : MethodName := ⟨RX0, "when", "(LBridgeBells;I[J)I"⟩
def dkwX0_when_0 : List UInt8 := [44, 3, 42, 27, 182, 0, 42, 133, 80, 167, 0, 6, 78, 4, 172, 3, 172]
abbrev dktX0_when_0 : List UInt8 := dkwX0_when_0 ++ []
theorem dksX0_when_0 : cX0_when.data.toList.drop 0 = dktX0_when_0 := by decide +kernel
theorem dX0_when_0 : decode cX0_when 0 = .ok (.aload_n 2, 1) := dk_44 (dk_at dksX0_when_0 0 rfl rfl)
theorem dX0_when_1 : decode cX0_when 1 = .ok (.iconst 0, 1) := dk_3 (dk_at dksX0_when_0 1 rfl rfl)
theorem dX0_when_2 : decode cX0_when 2 = .ok (.aload_n 0, 1) := dk_42 (dk_at dksX0_when_0 2 rfl rfl)
theorem dX0_when_3 : decode cX0_when 3 = .ok (.iload_n 1, 1) := dk_27 (dk_at dksX0_when_0 3 rfl rfl)
theorem dX0_when_4 : decode cX0_when 4 = .ok (.invokevirtual 42, 3) := dk_182 0 42 (dk_at dksX0_when_0 4 rfl rfl)
theorem dX0_when_7 : decode cX0_when 7 = .ok (.i2l, 1) := dk_133 (dk_at dksX0_when_0 7 rfl rfl)
theorem dX0_when_8 : decode cX0_when 8 = .ok (.lastore, 1) := dk_80 (dk_at dksX0_when_0 8 rfl rfl)
theorem dX0_when_9 : decode cX0_when 9 = .ok (.goto 6, 3) := dk_167 0 6 (dk_at dksX0_when_0 9 rfl rfl)
theorem dX0_when_12 : decode cX0_when 12 = .ok (.astore_n 3, 1) := dk_78 (dk_at dksX0_when_0 12 rfl rfl)
theorem dX0_when_13 : decode cX0_when 13 = .ok (.iconst 1, 1) := dk_4 (dk_at dksX0_when_0 13 rfl rfl)
theorem dX0_when_14 : decode cX0_when 14 = .ok (.ireturn, 1) := dk_172 (dk_at dksX0_when_0 14 rfl rfl)
theorem dX0_when_15 : decode cX0_when 15 = .ok (.iconst 0, 1) := dk_3 (dk_at dksX0_when_0 15 rfl rfl)
theorem dX0_when_16 : decode cX0_when 16 = .ok (.ireturn, 1) := dk_172 (dk_at dksX0_when_0 16 rfl rfl)
abbrev cX0_foresee : ByteArray := method_12_code
def yX0_foresee : MethodName := ⟨RX0, "foresee", "(LBridgeBells;II[J)I"⟩
def dkwX0_foresee_0 : List UInt8 := [45, 3, 42, 27, 28, 182, 0, 45, 133, 80, 167, 0, 11, 58, 4, 4, 172, 58, 4, 5, 172, 3, 172]
abbrev dktX0_foresee_0 : List UInt8 := dkwX0_foresee_0 ++ []
theorem dksX0_foresee_0 : cX0_foresee.data.toList.drop 0 = dktX0_foresee_0 := by decide +kernel
theorem dX0_foresee_0 : decode cX0_foresee 0 = .ok (.aload_n 3, 1) := dk_45 (dk_at dksX0_foresee_0 0 rfl rfl)
theorem dX0_foresee_1 : decode cX0_foresee 1 = .ok (.iconst 0, 1) := dk_3 (dk_at dksX0_foresee_0 1 rfl rfl)
theorem dX0_foresee_2 : decode cX0_foresee 2 = .ok (.aload_n 0, 1) := dk_42 (dk_at dksX0_foresee_0 2 rfl rfl)
theorem dX0_foresee_3 : decode cX0_foresee 3 = .ok (.iload_n 1, 1) := dk_27 (dk_at dksX0_foresee_0 3 rfl rfl)
theorem dX0_foresee_4 : decode cX0_foresee 4 = .ok (.iload_n 2, 1) := dk_28 (dk_at dksX0_foresee_0 4 rfl rfl)
theorem dX0_foresee_5 : decode cX0_foresee 5 = .ok (.invokevirtual 45, 3) := dk_182 0 45 (dk_at dksX0_foresee_0 5 rfl rfl)
theorem dX0_foresee_8 : decode cX0_foresee 8 = .ok (.i2l, 1) := dk_133 (dk_at dksX0_foresee_0 8 rfl rfl)
theorem dX0_foresee_9 : decode cX0_foresee 9 = .ok (.lastore, 1) := dk_80 (dk_at dksX0_foresee_0 9 rfl rfl)
theorem dX0_foresee_10 : decode cX0_foresee 10 = .ok (.goto 11, 3) := dk_167 0 11 (dk_at dksX0_foresee_0 10 rfl rfl)
theorem dX0_foresee_13 : decode cX0_foresee 13 = .ok (.astore 4, 2) := dk_58 4 (dk_at dksX0_foresee_0 13 rfl rfl)
theorem dX0_foresee_15 : decode cX0_foresee 15 = .ok (.iconst 1, 1) := dk_4 (dk_at dksX0_foresee_0 15 rfl rfl)
theorem dX0_foresee_16 : decode cX0_foresee 16 = .ok (.ireturn, 1) := dk_172 (dk_at dksX0_foresee_0 16 rfl rfl)
theorem dX0_foresee_17 : decode cX0_foresee 17 = .ok (.astore 4, 2) := dk_58 4 (dk_at dksX0_foresee_0 17 rfl rfl)
theorem dX0_foresee_19 : decode cX0_foresee 19 = .ok (.iconst 2, 1) := dk_5 (dk_at dksX0_foresee_0 19 rfl rfl)
theorem dX0_foresee_20 : decode cX0_foresee 20 = .ok (.ireturn, 1) := dk_172 (dk_at dksX0_foresee_0 20 rfl rfl)
theorem dX0_foresee_21 : decode cX0_foresee 21 = .ok (.iconst 0, 1) := dk_3 (dk_at dksX0_foresee_0 21 rfl rfl)
theorem dX0_foresee_22 : decode cX0_foresee 22 = .ok (.ireturn, 1) := dk_172 (dk_at dksX0_foresee_0 22 rfl rfl)
abbrev cX0_bestCode : ByteArray := method_13_code
def yX0_bestCode : MethodName := ⟨RX0, "bestCode", "(LBridgeBells;I[J)I"⟩
def dkwX0_bestCode_0 : List UInt8 := [44, 3, 42, 27, 182, 0, 48, 133, 80, 167, 0, 6, 78, 4, 172, 3, 172]
abbrev dktX0_bestCode_0 : List UInt8 := dkwX0_bestCode_0 ++ []
theorem dksX0_bestCode_0 : cX0_bestCode.data.toList.drop 0 = dktX0_bestCode_0 := by decide +kernel
theorem dX0_bestCode_0 : decode cX0_bestCode 0 = .ok (.aload_n 2, 1) := dk_44 (dk_at dksX0_bestCode_0 0 rfl rfl)
theorem dX0_bestCode_1 : decode cX0_bestCode 1 = .ok (.iconst 0, 1) := dk_3 (dk_at dksX0_bestCode_0 1 rfl rfl)
theorem dX0_bestCode_2 : decode cX0_bestCode 2 = .ok (.aload_n 0, 1) := dk_42 (dk_at dksX0_bestCode_0 2 rfl rfl)
theorem dX0_bestCode_3 : decode cX0_bestCode 3 = .ok (.iload_n 1, 1) := dk_27 (dk_at dksX0_bestCode_0 3 rfl rfl)
theorem dX0_bestCode_4 : decode cX0_bestCode 4 = .ok (.invokevirtual 48, 3) := dk_182 0 48 (dk_at dksX0_bestCode_0 4 rfl rfl)
theorem dX0_bestCode_7 : decode cX0_bestCode 7 = .ok (.i2l, 1) := dk_133 (dk_at dksX0_bestCode_0 7 rfl rfl)
theorem dX0_bestCode_8 : decode cX0_bestCode 8 = .ok (.lastore, 1) := dk_80 (dk_at dksX0_bestCode_0 8 rfl rfl)
theorem dX0_bestCode_9 : decode cX0_bestCode 9 = .ok (.goto 6, 3) := dk_167 0 6 (dk_at dksX0_bestCode_0 9 rfl rfl)
theorem dX0_bestCode_12 : decode cX0_bestCode 12 = .ok (.astore_n 3, 1) := dk_78 (dk_at dksX0_bestCode_0 12 rfl rfl)
theorem dX0_bestCode_13 : decode cX0_bestCode 13 = .ok (.iconst 1, 1) := dk_4 (dk_at dksX0_bestCode_0 13 rfl rfl)
theorem dX0_bestCode_14 : decode cX0_bestCode 14 = .ok (.ireturn, 1) := dk_172 (dk_at dksX0_bestCode_0 14 rfl rfl)
theorem dX0_bestCode_15 : decode cX0_bestCode 15 = .ok (.iconst 0, 1) := dk_3 (dk_at dksX0_bestCode_0 15 rfl rfl)
theorem dX0_bestCode_16 : decode cX0_bestCode 16 = .ok (.ireturn, 1) := dk_172 (dk_at dksX0_bestCode_0 16 rfl rfl)
abbrev cX0_bestPoise : ByteArray := method_14_code
def yX0_bestPoise : MethodName := ⟨RX0, "bestPoise", "(LBridgeBells;I[J)I"⟩
def dkwX0_bestPoise_0 : List UInt8 := [44, 3, 42, 27, 182, 0, 51, 133, 80, 167, 0, 6, 78, 4, 172, 3, 172]
abbrev dktX0_bestPoise_0 : List UInt8 := dkwX0_bestPoise_0 ++ []
theorem dksX0_bestPoise_0 : cX0_bestPoise.data.toList.drop 0 = dktX0_bestPoise_0 := by decide +kernel
theorem dX0_bestPoise_0 : decode cX0_bestPoise 0 = .ok (.aload_n 2, 1) := dk_44 (dk_at dksX0_bestPoise_0 0 rfl rfl)
theorem dX0_bestPoise_1 : decode cX0_bestPoise 1 = .ok (.iconst 0, 1) := dk_3 (dk_at dksX0_bestPoise_0 1 rfl rfl)
theorem dX0_bestPoise_2 : decode cX0_bestPoise 2 = .ok (.aload_n 0, 1) := dk_42 (dk_at dksX0_bestPoise_0 2 rfl rfl)
theorem dX0_bestPoise_3 : decode cX0_bestPoise 3 = .ok (.iload_n 1, 1) := dk_27 (dk_at dksX0_bestPoise_0 3 rfl rfl)
theorem dX0_bestPoise_4 : decode cX0_bestPoise 4 = .ok (.invokevirtual 51, 3) := dk_182 0 51 (dk_at dksX0_bestPoise_0 4 rfl rfl)
theorem dX0_bestPoise_7 : decode cX0_bestPoise 7 = .ok (.i2l, 1) := dk_133 (dk_at dksX0_bestPoise_0 7 rfl rfl)
theorem dX0_bestPoise_8 : decode cX0_bestPoise 8 = .ok (.lastore, 1) := dk_80 (dk_at dksX0_bestPoise_0 8 rfl rfl)
theorem dX0_bestPoise_9 : decode cX0_bestPoise 9 = .ok (.goto 6, 3) := dk_167 0 6 (dk_at dksX0_bestPoise_0 9 rfl rfl)
theorem dX0_bestPoise_12 : decode cX0_bestPoise 12 = .ok (.astore_n 3, 1) := dk_78 (dk_at dksX0_bestPoise_0 12 rfl rfl)
theorem dX0_bestPoise_13 : decode cX0_bestPoise 13 = .ok (.iconst 1, 1) := dk_4 (dk_at dksX0_bestPoise_0 13 rfl rfl)
theorem dX0_bestPoise_14 : decode cX0_bestPoise 14 = .ok (.ireturn, 1) := dk_172 (dk_at dksX0_bestPoise_0 14 rfl rfl)
theorem dX0_bestPoise_15 : decode cX0_bestPoise 15 = .ok (.iconst 0, 1) := dk_3 (dk_at dksX0_bestPoise_0 15 rfl rfl)
theorem dX0_bestPoise_16 : decode cX0_bestPoise 16 = .ok (.ireturn, 1) := dk_172 (dk_at dksX0_bestPoise_0 16 rfl rfl)
theorem q13 : (Jvm.Cond.initialized "BridgeBellsLaw") ∈ lw_all := lw_g (lw_at lw_m1 0 rfl) rfl
theorem q39 : (Jvm.Cond.classLink "BridgeBellsLaw" (8 : Nat) "BridgeBells") ∈ lw_all := lw_g (lw_at lw_m1 26 rfl) rfl
theorem q41 : (Jvm.Cond.methodLink "BridgeBellsLaw" (54 : Nat) ({ cls := "BridgeBells", name := "<init>", desc := "()V" } : Jvm.MethodName)) ∈ lw_all := lw_g (lw_at lw_m1 28 rfl) rfl
theorem q119 : (Jvm.Cond.methodLink "BridgeBellsLaw" (82 : Nat) ({ cls := "BridgeBells", name := "crack", desc := "()I" } : Jvm.MethodName)) ∈ lw_all := lw_g (lw_at lw_m1 106 rfl) rfl
theorem q126 : (Jvm.Cond.methodLink "BridgeBellsLaw" (92 : Nat) ({ cls := "BridgeBells", name := "speed", desc := "(Z)I" } : Jvm.MethodName)) ∈ lw_all := lw_g (lw_at lw_m1 113 rfl) rfl
theorem q135 : (Jvm.Cond.methodLink "BridgeBellsLaw" (112 : Nat) ({ cls := "BridgeBells", name := "mean", desc := "()D" } : Jvm.MethodName)) ∈ lw_all := lw_g (lw_at lw_m1 122 rfl) rfl
theorem q167 : (Jvm.Cond.methodLink "BridgeBellsLaw" (117 : Nat) ({ cls := "BridgeBells", name := "digest", desc := "()J" } : Jvm.MethodName)) ∈ lw_all := lw_g (lw_at lw_m1 154 rfl) rfl
theorem q258 : (Jvm.Cond.methodLink "BridgeBellsLaw" (58 : Nat) ({ cls := "BridgeBellsLaw", name := "come", desc := "(LBridgeBells;ZI[J)I" } : Jvm.MethodName)) ∈ lw_all := lw_g (lw_at lw_m2 5 rfl) rfl
theorem q259 : (Jvm.Cond.static ({ cls := "BridgeBellsLaw", name := "come", desc := "(LBridgeBells;ZI[J)I" } : Jvm.MethodName)) ∈ lw_all := lw_g (lw_at lw_m2 6 rfl) rfl
theorem q260 : (Jvm.Cond.codeWith ({ cls := "BridgeBellsLaw", name := "come", desc := "(LBridgeBells;ZI[J)I" } : Jvm.MethodName) method_3_code (5 : Nat) (Option.some Jvm.ClassFile.FieldType.int) [((0 : Nat), (10 : Nat), (13 : Nat), (13 : Nat)), ((0 : Nat), (10 : Nat), (17 : Nat), (15 : Nat))]) ∈ lw_all := lw_g (lw_at lw_m2 7 rfl) rfl
theorem q261 : (Jvm.Cond.classLink "BridgeBellsLaw" (13 : Nat) "java/lang/IllegalArgumentException") ∈ lw_all := lw_g (lw_at lw_m2 8 rfl) rfl
theorem q262 : (Jvm.Cond.classLink "BridgeBellsLaw" (15 : Nat) "java/lang/IllegalStateException") ∈ lw_all := lw_g (lw_at lw_m2 9 rfl) rfl
theorem q263 : (Jvm.Cond.methodLink "BridgeBellsLaw" (7 : Nat) ({ cls := "BridgeBells", name := "come", desc := "(ZI)I" } : Jvm.MethodName)) ∈ lw_all := lw_g (lw_at lw_m2 10 rfl) rfl
theorem q452 : (Jvm.Cond.methodLink "BridgeBellsLaw" (68 : Nat) ({ cls := "BridgeBellsLaw", name := "leave", desc := "(LBridgeBells;I[J)I" } : Jvm.MethodName)) ∈ lw_all := lw_g (lw_at lw_m2 199 rfl) rfl
theorem q453 : (Jvm.Cond.static ({ cls := "BridgeBellsLaw", name := "leave", desc := "(LBridgeBells;I[J)I" } : Jvm.MethodName)) ∈ lw_all := lw_g (lw_at lw_m2 200 rfl) rfl
theorem q454 : (Jvm.Cond.codeWith ({ cls := "BridgeBellsLaw", name := "leave", desc := "(LBridgeBells;I[J)I" } : Jvm.MethodName) method_4_code (4 : Nat) (Option.some Jvm.ClassFile.FieldType.int) [((0 : Nat), (9 : Nat), (12 : Nat), (21 : Nat)), ((0 : Nat), (9 : Nat), (15 : Nat), (15 : Nat))]) ∈ lw_all := lw_g (lw_at lw_m2 201 rfl) rfl
theorem q455 : (Jvm.Cond.classLink "BridgeBellsLaw" (21 : Nat) "java/lang/IndexOutOfBoundsException") ∈ lw_all := lw_g (lw_at lw_m2 202 rfl) rfl
theorem q488 : (Jvm.Cond.methodLink "BridgeBellsLaw" (17 : Nat) ({ cls := "BridgeBells", name := "leave", desc := "(I)I" } : Jvm.MethodName)) ∈ lw_all := lw_g (lw_at lw_m2 235 rfl) rfl
theorem q532 : (Jvm.Cond.methodLink "BridgeBellsLaw" (72 : Nat) ({ cls := "BridgeBellsLaw", name := "ring", desc := "(LBridgeBells;I[J)I" } : Jvm.MethodName)) ∈ lw_all := lw_g (lw_at lw_m3 39 rfl) rfl
theorem q533 : (Jvm.Cond.static ({ cls := "BridgeBellsLaw", name := "ring", desc := "(LBridgeBells;I[J)I" } : Jvm.MethodName)) ∈ lw_all := lw_g (lw_at lw_m3 40 rfl) rfl
theorem q534 : (Jvm.Cond.codeWith ({ cls := "BridgeBellsLaw", name := "ring", desc := "(LBridgeBells;I[J)I" } : Jvm.MethodName) method_5_code (4 : Nat) (Option.some Jvm.ClassFile.FieldType.int) [((0 : Nat), (9 : Nat), (12 : Nat), (13 : Nat))]) ∈ lw_all := lw_g (lw_at lw_m3 41 rfl) rfl
theorem q535 : (Jvm.Cond.methodLink "BridgeBellsLaw" (23 : Nat) ({ cls := "BridgeBells", name := "ring", desc := "(I)I" } : Jvm.MethodName)) ∈ lw_all := lw_g (lw_at lw_m3 42 rfl) rfl
theorem q552 : (Jvm.Cond.methodLink "BridgeBellsLaw" (75 : Nat) ({ cls := "BridgeBellsLaw", name := "poise", desc := "(LBridgeBells;I[J)I" } : Jvm.MethodName)) ∈ lw_all := lw_g (lw_at lw_m3 59 rfl) rfl
theorem q553 : (Jvm.Cond.static ({ cls := "BridgeBellsLaw", name := "poise", desc := "(LBridgeBells;I[J)I" } : Jvm.MethodName)) ∈ lw_all := lw_g (lw_at lw_m3 60 rfl) rfl
theorem q554 : (Jvm.Cond.codeWith ({ cls := "BridgeBellsLaw", name := "poise", desc := "(LBridgeBells;I[J)I" } : Jvm.MethodName) method_6_code (4 : Nat) (Option.some Jvm.ClassFile.FieldType.int) [((0 : Nat), (9 : Nat), (12 : Nat), (13 : Nat)), ((0 : Nat), (9 : Nat), (15 : Nat), (15 : Nat))]) ∈ lw_all := lw_g (lw_at lw_m3 61 rfl) rfl
theorem q555 : (Jvm.Cond.methodLink "BridgeBellsLaw" (26 : Nat) ({ cls := "BridgeBells", name := "poise", desc := "(I)I" } : Jvm.MethodName)) ∈ lw_all := lw_g (lw_at lw_m3 62 rfl) rfl
theorem q559 : (Jvm.Cond.methodLink "BridgeBellsLaw" (78 : Nat) ({ cls := "BridgeBellsLaw", name := "setCold", desc := "(LBridgeBells;II[J)I" } : Jvm.MethodName)) ∈ lw_all := lw_g (lw_at lw_m3 66 rfl) rfl
theorem q560 : (Jvm.Cond.static ({ cls := "BridgeBellsLaw", name := "setCold", desc := "(LBridgeBells;II[J)I" } : Jvm.MethodName)) ∈ lw_all := lw_g (lw_at lw_m3 67 rfl) rfl
theorem q561 : (Jvm.Cond.codeWith ({ cls := "BridgeBellsLaw", name := "setCold", desc := "(LBridgeBells;II[J)I" } : Jvm.MethodName) method_7_code (5 : Nat) (Option.some Jvm.ClassFile.FieldType.int) [((0 : Nat), (10 : Nat), (13 : Nat), (21 : Nat)), ((0 : Nat), (10 : Nat), (17 : Nat), (13 : Nat))]) ∈ lw_all := lw_g (lw_at lw_m3 68 rfl) rfl
theorem q562 : (Jvm.Cond.methodLink "BridgeBellsLaw" (29 : Nat) ({ cls := "BridgeBells", name := "setCold", desc := "(II)I" } : Jvm.MethodName)) ∈ lw_all := lw_g (lw_at lw_m3 69 rfl) rfl
theorem q566 : (Jvm.Cond.methodLink "BridgeBellsLaw" (86 : Nat) ({ cls := "BridgeBellsLaw", name := "traveller", desc := "(LBridgeBells;II[J)I" } : Jvm.MethodName)) ∈ lw_all := lw_g (lw_at lw_m3 73 rfl) rfl
theorem q567 : (Jvm.Cond.static ({ cls := "BridgeBellsLaw", name := "traveller", desc := "(LBridgeBells;II[J)I" } : Jvm.MethodName)) ∈ lw_all := lw_g (lw_at lw_m3 74 rfl) rfl
theorem q568 : (Jvm.Cond.codeWith ({ cls := "BridgeBellsLaw", name := "traveller", desc := "(LBridgeBells;II[J)I" } : Jvm.MethodName) method_8_code (5 : Nat) (Option.some Jvm.ClassFile.FieldType.int) [((0 : Nat), (10 : Nat), (13 : Nat), (21 : Nat))]) ∈ lw_all := lw_g (lw_at lw_m3 75 rfl) rfl
theorem q569 : (Jvm.Cond.methodLink "BridgeBellsLaw" (33 : Nat) ({ cls := "BridgeBells", name := "traveller", desc := "(II)I" } : Jvm.MethodName)) ∈ lw_all := lw_g (lw_at lw_m3 76 rfl) rfl
theorem q573 : (Jvm.Cond.methodLink "BridgeBellsLaw" (89 : Nat) ({ cls := "BridgeBellsLaw", name := "count", desc := "(LBridgeBells;I[J)I" } : Jvm.MethodName)) ∈ lw_all := lw_g (lw_at lw_m3 80 rfl) rfl
theorem q574 : (Jvm.Cond.static ({ cls := "BridgeBellsLaw", name := "count", desc := "(LBridgeBells;I[J)I" } : Jvm.MethodName)) ∈ lw_all := lw_g (lw_at lw_m3 81 rfl) rfl
theorem q575 : (Jvm.Cond.codeWith ({ cls := "BridgeBellsLaw", name := "count", desc := "(LBridgeBells;I[J)I" } : Jvm.MethodName) method_9_code (4 : Nat) (Option.some Jvm.ClassFile.FieldType.int) [((0 : Nat), (9 : Nat), (12 : Nat), (21 : Nat))]) ∈ lw_all := lw_g (lw_at lw_m3 82 rfl) rfl
theorem q576 : (Jvm.Cond.methodLink "BridgeBellsLaw" (36 : Nat) ({ cls := "BridgeBells", name := "count", desc := "(I)I" } : Jvm.MethodName)) ∈ lw_all := lw_g (lw_at lw_m3 83 rfl) rfl
theorem q580 : (Jvm.Cond.methodLink "BridgeBellsLaw" (97 : Nat) ({ cls := "BridgeBellsLaw", name := "pass", desc := "(LBridgeBells;I[J)I" } : Jvm.MethodName)) ∈ lw_all := lw_g (lw_at lw_m3 87 rfl) rfl
theorem q581 : (Jvm.Cond.static ({ cls := "BridgeBellsLaw", name := "pass", desc := "(LBridgeBells;I[J)I" } : Jvm.MethodName)) ∈ lw_all := lw_g (lw_at lw_m3 88 rfl) rfl
theorem q582 : (Jvm.Cond.codeWith ({ cls := "BridgeBellsLaw", name := "pass", desc := "(LBridgeBells;I[J)I" } : Jvm.MethodName) method_10_code (4 : Nat) (Option.some Jvm.ClassFile.FieldType.int) [((0 : Nat), (9 : Nat), (12 : Nat), (13 : Nat))]) ∈ lw_all := lw_g (lw_at lw_m3 89 rfl) rfl
theorem q583 : (Jvm.Cond.methodLink "BridgeBellsLaw" (39 : Nat) ({ cls := "BridgeBells", name := "pass", desc := "(I)I" } : Jvm.MethodName)) ∈ lw_all := lw_g (lw_at lw_m3 90 rfl) rfl
theorem q615 : (Jvm.Cond.methodLink "BridgeBellsLaw" (100 : Nat) ({ cls := "BridgeBellsLaw", name := "when", desc := "(LBridgeBells;I[J)I" } : Jvm.MethodName)) ∈ lw_all := lw_g (lw_at lw_m3 122 rfl) rfl
theorem q616 : (Jvm.Cond.static ({ cls := "BridgeBellsLaw", name := "when", desc := "(LBridgeBells;I[J)I" } : Jvm.MethodName)) ∈ lw_all := lw_g (lw_at lw_m3 123 rfl) rfl
theorem q617 : (Jvm.Cond.codeWith ({ cls := "BridgeBellsLaw", name := "when", desc := "(LBridgeBells;I[J)I" } : Jvm.MethodName) method_11_code (4 : Nat) (Option.some Jvm.ClassFile.FieldType.int) [((0 : Nat), (9 : Nat), (12 : Nat), (21 : Nat))]) ∈ lw_all := lw_g (lw_at lw_m3 124 rfl) rfl
theorem q618 : (Jvm.Cond.methodLink "BridgeBellsLaw" (42 : Nat) ({ cls := "BridgeBells", name := "when", desc := "(I)I" } : Jvm.MethodName)) ∈ lw_all := lw_g (lw_at lw_m3 125 rfl) rfl
theorem q637 : (Jvm.Cond.methodLink "BridgeBellsLaw" (103 : Nat) ({ cls := "BridgeBellsLaw", name := "foresee", desc := "(LBridgeBells;II[J)I" } : Jvm.MethodName)) ∈ lw_all := lw_g (lw_at lw_m3 144 rfl) rfl
theorem q638 : (Jvm.Cond.static ({ cls := "BridgeBellsLaw", name := "foresee", desc := "(LBridgeBells;II[J)I" } : Jvm.MethodName)) ∈ lw_all := lw_g (lw_at lw_m3 145 rfl) rfl
theorem q639 : (Jvm.Cond.codeWith ({ cls := "BridgeBellsLaw", name := "foresee", desc := "(LBridgeBells;II[J)I" } : Jvm.MethodName) method_12_code (5 : Nat) (Option.some Jvm.ClassFile.FieldType.int) [((0 : Nat), (10 : Nat), (13 : Nat), (13 : Nat)), ((0 : Nat), (10 : Nat), (17 : Nat), (21 : Nat))]) ∈ lw_all := lw_g (lw_at lw_m3 146 rfl) rfl
theorem q640 : (Jvm.Cond.methodLink "BridgeBellsLaw" (45 : Nat) ({ cls := "BridgeBells", name := "foresee", desc := "(II)I" } : Jvm.MethodName)) ∈ lw_all := lw_g (lw_at lw_m3 147 rfl) rfl
theorem q644 : (Jvm.Cond.methodLink "BridgeBellsLaw" (106 : Nat) ({ cls := "BridgeBellsLaw", name := "bestCode", desc := "(LBridgeBells;I[J)I" } : Jvm.MethodName)) ∈ lw_all := lw_g (lw_at lw_m3 151 rfl) rfl
theorem q645 : (Jvm.Cond.static ({ cls := "BridgeBellsLaw", name := "bestCode", desc := "(LBridgeBells;I[J)I" } : Jvm.MethodName)) ∈ lw_all := lw_g (lw_at lw_m3 152 rfl) rfl
theorem q646 : (Jvm.Cond.codeWith ({ cls := "BridgeBellsLaw", name := "bestCode", desc := "(LBridgeBells;I[J)I" } : Jvm.MethodName) method_13_code (4 : Nat) (Option.some Jvm.ClassFile.FieldType.int) [((0 : Nat), (9 : Nat), (12 : Nat), (13 : Nat))]) ∈ lw_all := lw_g (lw_at lw_m3 153 rfl) rfl
theorem q647 : (Jvm.Cond.methodLink "BridgeBellsLaw" (48 : Nat) ({ cls := "BridgeBells", name := "bestCode", desc := "(I)I" } : Jvm.MethodName)) ∈ lw_all := lw_g (lw_at lw_m3 154 rfl) rfl
theorem q651 : (Jvm.Cond.methodLink "BridgeBellsLaw" (109 : Nat) ({ cls := "BridgeBellsLaw", name := "bestPoise", desc := "(LBridgeBells;I[J)I" } : Jvm.MethodName)) ∈ lw_all := lw_g (lw_at lw_m3 158 rfl) rfl
theorem q652 : (Jvm.Cond.static ({ cls := "BridgeBellsLaw", name := "bestPoise", desc := "(LBridgeBells;I[J)I" } : Jvm.MethodName)) ∈ lw_all := lw_g (lw_at lw_m3 159 rfl) rfl
theorem q653 : (Jvm.Cond.codeWith ({ cls := "BridgeBellsLaw", name := "bestPoise", desc := "(LBridgeBells;I[J)I" } : Jvm.MethodName) method_14_code (4 : Nat) (Option.some Jvm.ClassFile.FieldType.int) [((0 : Nat), (9 : Nat), (12 : Nat), (13 : Nat))]) ∈ lw_all := lw_g (lw_at lw_m3 160 rfl) rfl
theorem q654 : (Jvm.Cond.methodLink "BridgeBellsLaw" (51 : Nat) ({ cls := "BridgeBells", name := "bestPoise", desc := "(I)I" } : Jvm.MethodName)) ∈ lw_all := lw_g (lw_at lw_m3 161 rfl) rfl
theorem q658 : (Jvm.Cond.classLink "BridgeBellsLaw" (55 : Nat) "BridgeBellsModel") ∈ lw_all := lw_g (lw_at lw_m3 165 rfl) rfl
theorem q660 : (Jvm.Cond.methodLink "BridgeBellsLaw" (57 : Nat) ({ cls := "BridgeBellsModel", name := "<init>", desc := "()V" } : Jvm.MethodName)) ∈ lw_all := lw_g (lw_at lw_m3 167 rfl) rfl
theorem q745 : (Jvm.Cond.methodLink "BridgeBellsLaw" (64 : Nat) ({ cls := "BridgeBellsModel", name := "thrown", desc := "()I" } : Jvm.MethodName)) ∈ lw_all := lw_g (lw_at lw_m4 12 rfl) rfl
theorem q749 : (Jvm.Cond.methodLink "BridgeBellsLaw" (63 : Nat) ({ cls := "BridgeBellsModel", name := "come", desc := "(ZI)I" } : Jvm.MethodName)) ∈ lw_all := lw_g (lw_at lw_m4 16 rfl) rfl
theorem q760 : (Jvm.Cond.methodLink "BridgeBellsLaw" (71 : Nat) ({ cls := "BridgeBellsModel", name := "leave", desc := "(I)I" } : Jvm.MethodName)) ∈ lw_all := lw_g (lw_at lw_m4 27 rfl) rfl
theorem q768 : (Jvm.Cond.methodLink "BridgeBellsLaw" (74 : Nat) ({ cls := "BridgeBellsModel", name := "ring", desc := "(I)I" } : Jvm.MethodName)) ∈ lw_all := lw_g (lw_at lw_m4 35 rfl) rfl
theorem q772 : (Jvm.Cond.methodLink "BridgeBellsLaw" (77 : Nat) ({ cls := "BridgeBellsModel", name := "poise", desc := "(I)I" } : Jvm.MethodName)) ∈ lw_all := lw_g (lw_at lw_m4 39 rfl) rfl
theorem q776 : (Jvm.Cond.methodLink "BridgeBellsLaw" (81 : Nat) ({ cls := "BridgeBellsModel", name := "setCold", desc := "(II)I" } : Jvm.MethodName)) ∈ lw_all := lw_g (lw_at lw_m4 43 rfl) rfl
theorem q780 : (Jvm.Cond.methodLink "BridgeBellsLaw" (85 : Nat) ({ cls := "BridgeBellsModel", name := "crack", desc := "()I" } : Jvm.MethodName)) ∈ lw_all := lw_g (lw_at lw_m4 47 rfl) rfl
theorem q785 : (Jvm.Cond.methodLink "BridgeBellsLaw" (88 : Nat) ({ cls := "BridgeBellsModel", name := "traveller", desc := "(II)I" } : Jvm.MethodName)) ∈ lw_all := lw_g (lw_at lw_m4 52 rfl) rfl
theorem q793 : (Jvm.Cond.methodLink "BridgeBellsLaw" (91 : Nat) ({ cls := "BridgeBellsModel", name := "count", desc := "(I)I" } : Jvm.MethodName)) ∈ lw_all := lw_g (lw_at lw_m4 60 rfl) rfl
theorem q817 : (Jvm.Cond.methodLink "BridgeBellsLaw" (96 : Nat) ({ cls := "BridgeBellsModel", name := "speed", desc := "(Z)I" } : Jvm.MethodName)) ∈ lw_all := lw_g (lw_at lw_m4 84 rfl) rfl
theorem q826 : (Jvm.Cond.methodLink "BridgeBellsLaw" (99 : Nat) ({ cls := "BridgeBellsModel", name := "pass", desc := "(I)I" } : Jvm.MethodName)) ∈ lw_all := lw_g (lw_at lw_m4 93 rfl) rfl
theorem q845 : (Jvm.Cond.methodLink "BridgeBellsLaw" (102 : Nat) ({ cls := "BridgeBellsModel", name := "when", desc := "(I)I" } : Jvm.MethodName)) ∈ lw_all := lw_g (lw_at lw_m4 112 rfl) rfl
theorem q859 : (Jvm.Cond.methodLink "BridgeBellsLaw" (105 : Nat) ({ cls := "BridgeBellsModel", name := "foresee", desc := "(II)I" } : Jvm.MethodName)) ∈ lw_all := lw_g (lw_at lw_m4 126 rfl) rfl
theorem q864 : (Jvm.Cond.methodLink "BridgeBellsLaw" (108 : Nat) ({ cls := "BridgeBellsModel", name := "bestCode", desc := "(I)I" } : Jvm.MethodName)) ∈ lw_all := lw_g (lw_at lw_m4 131 rfl) rfl
theorem q872 : (Jvm.Cond.methodLink "BridgeBellsLaw" (111 : Nat) ({ cls := "BridgeBellsModel", name := "bestPoise", desc := "(I)I" } : Jvm.MethodName)) ∈ lw_all := lw_g (lw_at lw_m4 139 rfl) rfl
theorem q876 : (Jvm.Cond.methodLink "BridgeBellsLaw" (116 : Nat) ({ cls := "BridgeBellsModel", name := "mean", desc := "()D" } : Jvm.MethodName)) ∈ lw_all := lw_g (lw_at lw_m4 143 rfl) rfl
theorem q880 : (Jvm.Cond.methodLink "BridgeBellsLaw" (121 : Nat) ({ cls := "BridgeBellsModel", name := "digest", desc := "()J" } : Jvm.MethodName)) ∈ lw_all := lw_g (lw_at lw_m4 147 rfl) rfl
/-! the law's own entry -/
set_option maxRecDepth 100000
abbrev cL_law : ByteArray := code
def dkwL_law_39 : List UInt8 := [182, 0, 117, 44, 182, 0, 121, 148, 153, 0, 5, 3, 172, 132, 4, 3, 167, 252, 83, 4, 172]
abbrev dktL_law_39 : List UInt8 := dkwL_law_39 ++ []
def dkwL_law_38 : List UInt8 := [24, 5, 24, 5, 151, 153, 0, 11, 24, 7, 24, 7, 151, 154, 0, 5, 3, 172, 167, 0, 17, 43]
abbrev dktL_law_38 : List UInt8 := dkwL_law_38 ++ dktL_law_39
def dkwL_law_37 : List UInt8 := [167, 0, 58, 43, 182, 0, 112, 57, 5, 44, 182, 0, 116, 57, 7, 24, 5, 24, 7, 151, 153, 0, 21]
abbrev dktL_law_37 : List UInt8 := dkwL_law_37 ++ dktL_law_38
def dkwL_law_36 : List UInt8 := [21, 5, 159, 0, 5, 3, 172, 21, 5, 154, 0, 15, 45, 3, 47, 21, 6, 133, 148, 153, 0, 5, 3, 172]
abbrev dktL_law_36 : List UInt8 := dkwL_law_36 ++ dktL_law_37
def dkwL_law_35 : List UInt8 := [46, 45, 184, 0, 109, 54, 5, 44, 42, 21, 4, 4, 96, 46, 182, 0, 111, 54, 6, 44, 182, 0, 64]
abbrev dktL_law_35 : List UInt8 := dkwL_law_35 ++ dktL_law_36
def dkwL_law_34 : List UInt8 := [154, 0, 15, 45, 3, 47, 21, 6, 133, 148, 153, 0, 5, 3, 172, 167, 0, 114, 43, 42, 21, 4, 4, 96]
abbrev dktL_law_34 : List UInt8 := dkwL_law_34 ++ dktL_law_35
def dkwL_law_33 : List UInt8 := [21, 4, 4, 96, 46, 182, 0, 108, 54, 6, 44, 182, 0, 64, 21, 5, 159, 0, 5, 3, 172, 21, 5]
abbrev dktL_law_33 : List UInt8 := dkwL_law_33 ++ dktL_law_34
def dkwL_law_32 : List UInt8 := [153, 0, 5, 3, 172, 167, 0, 170, 43, 42, 21, 4, 4, 96, 46, 45, 184, 0, 106, 54, 5, 44, 42]
abbrev dktL_law_32 : List UInt8 := dkwL_law_32 ++ dktL_law_33
def dkwL_law_31 : List UInt8 := [182, 0, 64, 21, 5, 159, 0, 5, 3, 172, 21, 5, 154, 0, 15, 45, 3, 47, 21, 6, 133, 148]
abbrev dktL_law_31 : List UInt8 := dkwL_law_31 ++ dktL_law_32
def dkwL_law_30 : List UInt8 := [184, 0, 103, 54, 5, 44, 42, 21, 4, 4, 96, 46, 42, 21, 4, 5, 96, 46, 182, 0, 105, 54, 6, 44]
abbrev dktL_law_30 : List UInt8 := dkwL_law_30 ++ dktL_law_31
def dkwL_law_29 : List UInt8 := [153, 0, 5, 3, 172, 167, 0, 238, 43, 42, 21, 4, 4, 96, 46, 42, 21, 4, 5, 96, 46, 45]
abbrev dktL_law_29 : List UInt8 := dkwL_law_29 ++ dktL_law_30
def dkwL_law_28 : List UInt8 := [182, 0, 64, 21, 5, 159, 0, 5, 3, 172, 21, 5, 154, 0, 15, 45, 3, 47, 21, 6, 133, 148]
abbrev dktL_law_28 : List UInt8 := dkwL_law_28 ++ dktL_law_29
def dkwL_law_27 : List UInt8 := [21, 4, 4, 96, 46, 45, 184, 0, 100, 54, 5, 44, 42, 21, 4, 4, 96, 46, 182, 0, 102, 54, 6, 44]
abbrev dktL_law_27 : List UInt8 := dkwL_law_27 ++ dktL_law_28
def dkwL_law_26 : List UInt8 := [172, 21, 5, 154, 0, 15, 45, 3, 47, 21, 6, 133, 148, 153, 0, 5, 3, 172, 167, 1, 38, 43, 42]
abbrev dktL_law_26 : List UInt8 := dkwL_law_26 ++ dktL_law_27
def dkwL_law_25 : List UInt8 := [54, 5, 44, 42, 21, 4, 4, 96, 46, 182, 0, 99, 54, 6, 44, 182, 0, 64, 21, 5, 159, 0, 5, 3]
abbrev dktL_law_25 : List UInt8 := dkwL_law_25 ++ dktL_law_26
def dkwL_law_24 : List UInt8 := [167, 0, 4, 3, 182, 0, 96, 159, 1, 96, 3, 172, 43, 42, 21, 4, 4, 96, 46, 45, 184, 0, 97]
abbrev dktL_law_24 : List UInt8 := dkwL_law_24 ++ dktL_law_25
def dkwL_law_23 : List UInt8 := [46, 153, 0, 7, 4, 167, 0, 4, 3, 182, 0, 92, 44, 42, 21, 4, 4, 96, 46, 153, 0, 7, 4]
abbrev dktL_law_23 : List UInt8 := dkwL_law_23 ++ dktL_law_24
def dkwL_law_22 : List UInt8 := [154, 0, 15, 45, 3, 47, 21, 6, 133, 148, 153, 0, 5, 3, 172, 167, 1, 135, 43, 42, 21, 4, 4, 96]
abbrev dktL_law_22 : List UInt8 := dkwL_law_22 ++ dktL_law_23
def dkwL_law_21 : List UInt8 := [21, 4, 4, 96, 46, 182, 0, 91, 54, 6, 44, 182, 0, 64, 21, 5, 159, 0, 5, 3, 172, 21, 5]
abbrev dktL_law_21 : List UInt8 := dkwL_law_21 ++ dktL_law_22
def dkwL_law_20 : List UInt8 := [153, 0, 5, 3, 172, 167, 1, 191, 43, 42, 21, 4, 4, 96, 46, 45, 184, 0, 89, 54, 5, 44, 42]
abbrev dktL_law_20 : List UInt8 := dkwL_law_20 ++ dktL_law_21
def dkwL_law_19 : List UInt8 := [182, 0, 64, 21, 5, 159, 0, 5, 3, 172, 21, 5, 154, 0, 15, 45, 3, 47, 21, 6, 133, 148]
abbrev dktL_law_19 : List UInt8 := dkwL_law_19 ++ dktL_law_20
def dkwL_law_18 : List UInt8 := [184, 0, 86, 54, 5, 44, 42, 21, 4, 4, 96, 46, 42, 21, 4, 5, 96, 46, 182, 0, 88, 54, 6, 44]
abbrev dktL_law_18 : List UInt8 := dkwL_law_18 ++ dktL_law_19
def dkwL_law_17 : List UInt8 := [182, 0, 85, 159, 2, 5, 3, 172, 43, 42, 21, 4, 4, 96, 46, 42, 21, 4, 5, 96, 46, 45]
abbrev dktL_law_17 : List UInt8 := dkwL_law_17 ++ dktL_law_18
def dkwL_law_16 : List UInt8 := [154, 0, 15, 45, 3, 47, 21, 6, 133, 148, 153, 0, 5, 3, 172, 167, 2, 16, 43, 182, 0, 82, 44]
abbrev dktL_law_16 : List UInt8 := dkwL_law_16 ++ dktL_law_17
def dkwL_law_15 : List UInt8 := [42, 21, 4, 5, 96, 46, 182, 0, 81, 54, 6, 44, 182, 0, 64, 21, 5, 159, 0, 5, 3, 172, 21, 5]
abbrev dktL_law_15 : List UInt8 := dkwL_law_15 ++ dktL_law_16
def dkwL_law_14 : List UInt8 := [21, 4, 4, 96, 46, 42, 21, 4, 5, 96, 46, 45, 184, 0, 78, 54, 5, 44, 42, 21, 4, 4, 96, 46]
abbrev dktL_law_14 : List UInt8 := dkwL_law_14 ++ dktL_law_15
def dkwL_law_13 : List UInt8 := [172, 21, 5, 154, 0, 15, 45, 3, 47, 21, 6, 133, 148, 153, 0, 5, 3, 172, 167, 2, 84, 43, 42]
abbrev dktL_law_13 : List UInt8 := dkwL_law_13 ++ dktL_law_14
def dkwL_law_12 : List UInt8 := [54, 5, 44, 42, 21, 4, 4, 96, 46, 182, 0, 77, 54, 6, 44, 182, 0, 64, 21, 5, 159, 0, 5, 3]
abbrev dktL_law_12 : List UInt8 := dkwL_law_12 ++ dktL_law_13
def dkwL_law_11 : List UInt8 := [21, 6, 133, 148, 153, 0, 5, 3, 172, 167, 2, 140, 43, 42, 21, 4, 4, 96, 46, 45, 184, 0, 75]
abbrev dktL_law_11 : List UInt8 := dkwL_law_11 ++ dktL_law_12
def dkwL_law_10 : List UInt8 := [182, 0, 74, 54, 6, 44, 182, 0, 64, 21, 5, 159, 0, 5, 3, 172, 21, 5, 154, 0, 15, 45, 3, 47]
abbrev dktL_law_10 : List UInt8 := dkwL_law_10 ++ dktL_law_11
def dkwL_law_9 : List UInt8 := [167, 2, 196, 43, 42, 21, 4, 4, 96, 46, 45, 184, 0, 72, 54, 5, 44, 42, 21, 4, 4, 96, 46]
abbrev dktL_law_9 : List UInt8 := dkwL_law_9 ++ dktL_law_10
def dkwL_law_8 : List UInt8 := [159, 0, 5, 3, 172, 21, 5, 154, 0, 15, 45, 3, 47, 21, 6, 133, 148, 153, 0, 5, 3, 172]
abbrev dktL_law_8 : List UInt8 := dkwL_law_8 ++ dktL_law_9
def dkwL_law_7 : List UInt8 := [184, 0, 68, 54, 5, 44, 42, 21, 4, 4, 96, 46, 182, 0, 71, 54, 6, 44, 182, 0, 64, 21, 5]
abbrev dktL_law_7 : List UInt8 := dkwL_law_7 ++ dktL_law_8
def dkwL_law_6 : List UInt8 := [3, 47, 21, 6, 133, 148, 153, 0, 5, 3, 172, 167, 2, 252, 43, 42, 21, 4, 4, 96, 46, 45]
abbrev dktL_law_6 : List UInt8 := dkwL_law_6 ++ dktL_law_7
def dkwL_law_5 : List UInt8 := [96, 46, 182, 0, 63, 54, 6, 44, 182, 0, 64, 21, 5, 159, 0, 5, 3, 172, 21, 5, 154, 0, 15, 45]
abbrev dktL_law_5 : List UInt8 := dkwL_law_5 ++ dktL_law_6
def dkwL_law_4 : List UInt8 := [184, 0, 58, 54, 5, 44, 42, 21, 4, 4, 96, 46, 153, 0, 7, 4, 167, 0, 4, 3, 42, 21, 4, 5]
abbrev dktL_law_4 : List UInt8 := dkwL_law_4 ++ dktL_law_5
def dkwL_law_3 : List UInt8 := [43, 42, 21, 4, 4, 96, 46, 153, 0, 7, 4, 167, 0, 4, 3, 42, 21, 4, 5, 96, 46, 45]
abbrev dktL_law_3 : List UInt8 := dkwL_law_3 ++ dktL_law_4
def dkwL_law_2 : List UInt8 := [170, 0, 0, 3, 154, 0, 0, 0, 0, 0, 0, 0, 15, 0, 0, 0, 77, 0, 0, 0, 161, 0, 0, 0, 217, 0, 0, 1, 17, 0, 0, 1, 73, 0, 0, 1, 141, 0, 0, 1, 154, 0, 0, 1, 222, 0, 0, 2, 22, 0, 0, 2, 63, 0, 0, 2, 119, 0, 0, 2, 175, 0, 0, 2, 243, 0, 0, 3, 43, 0, 0, 3, 99, 0, 0, 3, 140]
abbrev dktL_law_2 : List UInt8 := dkwL_law_2 ++ dktL_law_3
def dkwL_law_1 : List UInt8 := [21, 4, 42, 190, 6, 100, 163, 3, 170, 42, 21, 4, 46, 16, 15, 126]
abbrev dktL_law_1 : List UInt8 := dkwL_law_1 ++ dktL_law_2
def dkwL_law_0 : List UInt8 := [187, 0, 8, 89, 183, 0, 54, 76, 187, 0, 55, 89, 183, 0, 57, 77, 4, 188, 11, 78, 3, 54, 4]
abbrev dktL_law_0 : List UInt8 := dkwL_law_0 ++ dktL_law_1
theorem dksL_law_0 : cL_law.data.toList.drop 0 = dktL_law_0 := by decide +kernel
theorem dksL_law_1 : cL_law.data.toList.drop 23 = dktL_law_1 := dk_seg dksL_law_0 23 rfl rfl
theorem dksL_law_2 : cL_law.data.toList.drop 39 = dktL_law_2 := dk_seg dksL_law_1 16 rfl rfl
theorem dksL_law_3 : cL_law.data.toList.drop 116 = dktL_law_3 := dk_seg dksL_law_2 77 rfl rfl
theorem dksL_law_4 : cL_law.data.toList.drop 138 = dktL_law_4 := dk_seg dksL_law_3 22 rfl rfl
theorem dksL_law_5 : cL_law.data.toList.drop 162 = dktL_law_5 := dk_seg dksL_law_4 24 rfl rfl
theorem dksL_law_6 : cL_law.data.toList.drop 186 = dktL_law_6 := dk_seg dksL_law_5 24 rfl rfl
theorem dksL_law_7 : cL_law.data.toList.drop 208 = dktL_law_7 := dk_seg dksL_law_6 22 rfl rfl
theorem dksL_law_8 : cL_law.data.toList.drop 231 = dktL_law_8 := dk_seg dksL_law_7 23 rfl rfl
theorem dksL_law_9 : cL_law.data.toList.drop 253 = dktL_law_9 := dk_seg dksL_law_8 22 rfl rfl
theorem dksL_law_10 : cL_law.data.toList.drop 276 = dktL_law_10 := dk_seg dksL_law_9 23 rfl rfl
theorem dksL_law_11 : cL_law.data.toList.drop 300 = dktL_law_11 := dk_seg dksL_law_10 24 rfl rfl
theorem dksL_law_12 : cL_law.data.toList.drop 323 = dktL_law_12 := dk_seg dksL_law_11 23 rfl rfl
theorem dksL_law_13 : cL_law.data.toList.drop 347 = dktL_law_13 := dk_seg dksL_law_12 24 rfl rfl
theorem dksL_law_14 : cL_law.data.toList.drop 370 = dktL_law_14 := dk_seg dksL_law_13 23 rfl rfl
theorem dksL_law_15 : cL_law.data.toList.drop 394 = dktL_law_15 := dk_seg dksL_law_14 24 rfl rfl
theorem dksL_law_16 : cL_law.data.toList.drop 418 = dktL_law_16 := dk_seg dksL_law_15 24 rfl rfl
theorem dksL_law_17 : cL_law.data.toList.drop 441 = dktL_law_17 := dk_seg dksL_law_16 23 rfl rfl
theorem dksL_law_18 : cL_law.data.toList.drop 463 = dktL_law_18 := dk_seg dksL_law_17 22 rfl rfl
theorem dksL_law_19 : cL_law.data.toList.drop 487 = dktL_law_19 := dk_seg dksL_law_18 24 rfl rfl
theorem dksL_law_20 : cL_law.data.toList.drop 509 = dktL_law_20 := dk_seg dksL_law_19 22 rfl rfl
theorem dksL_law_21 : cL_law.data.toList.drop 532 = dktL_law_21 := dk_seg dksL_law_20 23 rfl rfl
theorem dksL_law_22 : cL_law.data.toList.drop 555 = dktL_law_22 := dk_seg dksL_law_21 23 rfl rfl
theorem dksL_law_23 : cL_law.data.toList.drop 579 = dktL_law_23 := dk_seg dksL_law_22 24 rfl rfl
theorem dksL_law_24 : cL_law.data.toList.drop 602 = dktL_law_24 := dk_seg dksL_law_23 23 rfl rfl
theorem dksL_law_25 : cL_law.data.toList.drop 625 = dktL_law_25 := dk_seg dksL_law_24 23 rfl rfl
theorem dksL_law_26 : cL_law.data.toList.drop 649 = dktL_law_26 := dk_seg dksL_law_25 24 rfl rfl
theorem dksL_law_27 : cL_law.data.toList.drop 672 = dktL_law_27 := dk_seg dksL_law_26 23 rfl rfl
theorem dksL_law_28 : cL_law.data.toList.drop 696 = dktL_law_28 := dk_seg dksL_law_27 24 rfl rfl
theorem dksL_law_29 : cL_law.data.toList.drop 718 = dktL_law_29 := dk_seg dksL_law_28 22 rfl rfl
theorem dksL_law_30 : cL_law.data.toList.drop 740 = dktL_law_30 := dk_seg dksL_law_29 22 rfl rfl
theorem dksL_law_31 : cL_law.data.toList.drop 764 = dktL_law_31 := dk_seg dksL_law_30 24 rfl rfl
theorem dksL_law_32 : cL_law.data.toList.drop 786 = dktL_law_32 := dk_seg dksL_law_31 22 rfl rfl
theorem dksL_law_33 : cL_law.data.toList.drop 809 = dktL_law_33 := dk_seg dksL_law_32 23 rfl rfl
theorem dksL_law_34 : cL_law.data.toList.drop 832 = dktL_law_34 := dk_seg dksL_law_33 23 rfl rfl
theorem dksL_law_35 : cL_law.data.toList.drop 856 = dktL_law_35 := dk_seg dksL_law_34 24 rfl rfl
theorem dksL_law_36 : cL_law.data.toList.drop 879 = dktL_law_36 := dk_seg dksL_law_35 23 rfl rfl
theorem dksL_law_37 : cL_law.data.toList.drop 903 = dktL_law_37 := dk_seg dksL_law_36 24 rfl rfl
theorem dksL_law_38 : cL_law.data.toList.drop 926 = dktL_law_38 := dk_seg dksL_law_37 23 rfl rfl
theorem dksL_law_39 : cL_law.data.toList.drop 948 = dktL_law_39 := dk_seg dksL_law_38 22 rfl rfl
theorem dL_law_0 : decode cL_law 0 = .ok (.new 8, 3) := dk_187 0 8 (dk_at dksL_law_0 0 rfl rfl)
theorem dL_law_3 : decode cL_law 3 = .ok (.dup, 1) := dk_89 (dk_at dksL_law_0 3 rfl rfl)
theorem dL_law_4 : decode cL_law 4 = .ok (.invokespecial 54, 3) := dk_183 0 54 (dk_at dksL_law_0 4 rfl rfl)
theorem dL_law_7 : decode cL_law 7 = .ok (.astore_n 1, 1) := dk_76 (dk_at dksL_law_0 7 rfl rfl)
theorem dL_law_8 : decode cL_law 8 = .ok (.new 55, 3) := dk_187 0 55 (dk_at dksL_law_0 8 rfl rfl)
theorem dL_law_11 : decode cL_law 11 = .ok (.dup, 1) := dk_89 (dk_at dksL_law_0 11 rfl rfl)
theorem dL_law_12 : decode cL_law 12 = .ok (.invokespecial 57, 3) := dk_183 0 57 (dk_at dksL_law_0 12 rfl rfl)
theorem dL_law_15 : decode cL_law 15 = .ok (.astore_n 2, 1) := dk_77 (dk_at dksL_law_0 15 rfl rfl)
theorem dL_law_16 : decode cL_law 16 = .ok (.iconst 1, 1) := dk_4 (dk_at dksL_law_0 16 rfl rfl)
theorem dL_law_17 : decode cL_law 17 = .ok (.newarray .long, 2) := dk_188_11 (dk_at dksL_law_0 17 rfl rfl)
theorem dL_law_19 : decode cL_law 19 = .ok (.astore_n 3, 1) := dk_78 (dk_at dksL_law_0 19 rfl rfl)
theorem dL_law_20 : decode cL_law 20 = .ok (.iconst 0, 1) := dk_3 (dk_at dksL_law_0 20 rfl rfl)
theorem dL_law_21 : decode cL_law 21 = .ok (.istore 4, 2) := dk_54 4 (dk_at dksL_law_0 21 rfl rfl)
theorem dL_law_23 : decode cL_law 23 = .ok (.iload 4, 2) := dk_21 4 (dk_at dksL_law_1 0 rfl rfl)
theorem dL_law_25 : decode cL_law 25 = .ok (.aload_n 0, 1) := dk_42 (dk_at dksL_law_1 2 rfl rfl)
theorem dL_law_26 : decode cL_law 26 = .ok (.arraylength, 1) := dk_190 (dk_at dksL_law_1 3 rfl rfl)
theorem dL_law_27 : decode cL_law 27 = .ok (.iconst 3, 1) := dk_6 (dk_at dksL_law_1 4 rfl rfl)
theorem dL_law_28 : decode cL_law 28 = .ok (.isub, 1) := dk_100 (dk_at dksL_law_1 5 rfl rfl)
theorem dL_law_29 : decode cL_law 29 = .ok (.if_icmp .gt 938, 3) := dk_163 3 170 (dk_at dksL_law_1 6 rfl rfl)
theorem dL_law_32 : decode cL_law 32 = .ok (.aload_n 0, 1) := dk_42 (dk_at dksL_law_1 9 rfl rfl)
theorem dL_law_33 : decode cL_law 33 = .ok (.iload 4, 2) := dk_21 4 (dk_at dksL_law_1 10 rfl rfl)
theorem dL_law_35 : decode cL_law 35 = .ok (.iaload, 1) := dk_46 (dk_at dksL_law_1 12 rfl rfl)
theorem dL_law_36 : decode cL_law 36 = .ok (.bipush 15, 2) := dk_16 15 (dk_at dksL_law_1 13 rfl rfl)
theorem dL_law_38 : decode cL_law 38 = .ok (.iand, 1) := dk_126 (dk_at dksL_law_1 15 rfl rfl)
theorem dL_law_39 : decode cL_law 39 = .ok (.tableswitch 922 0 15 #[77, 161, 217, 273, 329, 397, 410, 478, 534, 575, 631, 687, 755, 811, 867, 908], 77) := by decide +kernel
theorem dL_law_116 : decode cL_law 116 = .ok (.aload_n 1, 1) := dk_43 (dk_at dksL_law_3 0 rfl rfl)
theorem dL_law_117 : decode cL_law 117 = .ok (.aload_n 0, 1) := dk_42 (dk_at dksL_law_3 1 rfl rfl)
theorem dL_law_118 : decode cL_law 118 = .ok (.iload 4, 2) := dk_21 4 (dk_at dksL_law_3 2 rfl rfl)
theorem dL_law_120 : decode cL_law 120 = .ok (.iconst 1, 1) := dk_4 (dk_at dksL_law_3 4 rfl rfl)
theorem dL_law_121 : decode cL_law 121 = .ok (.iadd, 1) := dk_96 (dk_at dksL_law_3 5 rfl rfl)
theorem dL_law_122 : decode cL_law 122 = .ok (.iaload, 1) := dk_46 (dk_at dksL_law_3 6 rfl rfl)
theorem dL_law_123 : decode cL_law 123 = .ok (.ifCond .eq 7, 3) := dk_153 0 7 (dk_at dksL_law_3 7 rfl rfl)
theorem dL_law_126 : decode cL_law 126 = .ok (.iconst 1, 1) := dk_4 (dk_at dksL_law_3 10 rfl rfl)
theorem dL_law_127 : decode cL_law 127 = .ok (.goto 4, 3) := dk_167 0 4 (dk_at dksL_law_3 11 rfl rfl)
theorem dL_law_130 : decode cL_law 130 = .ok (.iconst 0, 1) := dk_3 (dk_at dksL_law_3 14 rfl rfl)
theorem dL_law_131 : decode cL_law 131 = .ok (.aload_n 0, 1) := dk_42 (dk_at dksL_law_3 15 rfl rfl)
theorem dL_law_132 : decode cL_law 132 = .ok (.iload 4, 2) := dk_21 4 (dk_at dksL_law_3 16 rfl rfl)
theorem dL_law_134 : decode cL_law 134 = .ok (.iconst 2, 1) := dk_5 (dk_at dksL_law_3 18 rfl rfl)
theorem dL_law_135 : decode cL_law 135 = .ok (.iadd, 1) := dk_96 (dk_at dksL_law_3 19 rfl rfl)
theorem dL_law_136 : decode cL_law 136 = .ok (.iaload, 1) := dk_46 (dk_at dksL_law_3 20 rfl rfl)
theorem dL_law_137 : decode cL_law 137 = .ok (.aload_n 3, 1) := dk_45 (dk_at dksL_law_3 21 rfl rfl)
theorem dL_law_138 : decode cL_law 138 = .ok (.invokestatic 58, 3) := dk_184 0 58 (dk_at dksL_law_4 0 rfl rfl)
theorem dL_law_141 : decode cL_law 141 = .ok (.istore 5, 2) := dk_54 5 (dk_at dksL_law_4 3 rfl rfl)
theorem dL_law_143 : decode cL_law 143 = .ok (.aload_n 2, 1) := dk_44 (dk_at dksL_law_4 5 rfl rfl)
theorem dL_law_144 : decode cL_law 144 = .ok (.aload_n 0, 1) := dk_42 (dk_at dksL_law_4 6 rfl rfl)
theorem dL_law_145 : decode cL_law 145 = .ok (.iload 4, 2) := dk_21 4 (dk_at dksL_law_4 7 rfl rfl)
theorem dL_law_147 : decode cL_law 147 = .ok (.iconst 1, 1) := dk_4 (dk_at dksL_law_4 9 rfl rfl)
theorem dL_law_148 : decode cL_law 148 = .ok (.iadd, 1) := dk_96 (dk_at dksL_law_4 10 rfl rfl)
theorem dL_law_149 : decode cL_law 149 = .ok (.iaload, 1) := dk_46 (dk_at dksL_law_4 11 rfl rfl)
theorem dL_law_150 : decode cL_law 150 = .ok (.ifCond .eq 7, 3) := dk_153 0 7 (dk_at dksL_law_4 12 rfl rfl)
theorem dL_law_153 : decode cL_law 153 = .ok (.iconst 1, 1) := dk_4 (dk_at dksL_law_4 15 rfl rfl)
theorem dL_law_154 : decode cL_law 154 = .ok (.goto 4, 3) := dk_167 0 4 (dk_at dksL_law_4 16 rfl rfl)
theorem dL_law_157 : decode cL_law 157 = .ok (.iconst 0, 1) := dk_3 (dk_at dksL_law_4 19 rfl rfl)
theorem dL_law_158 : decode cL_law 158 = .ok (.aload_n 0, 1) := dk_42 (dk_at dksL_law_4 20 rfl rfl)
theorem dL_law_159 : decode cL_law 159 = .ok (.iload 4, 2) := dk_21 4 (dk_at dksL_law_4 21 rfl rfl)
theorem dL_law_161 : decode cL_law 161 = .ok (.iconst 2, 1) := dk_5 (dk_at dksL_law_4 23 rfl rfl)
theorem dL_law_162 : decode cL_law 162 = .ok (.iadd, 1) := dk_96 (dk_at dksL_law_5 0 rfl rfl)
theorem dL_law_163 : decode cL_law 163 = .ok (.iaload, 1) := dk_46 (dk_at dksL_law_5 1 rfl rfl)
theorem dL_law_164 : decode cL_law 164 = .ok (.invokevirtual 63, 3) := dk_182 0 63 (dk_at dksL_law_5 2 rfl rfl)
theorem dL_law_167 : decode cL_law 167 = .ok (.istore 6, 2) := dk_54 6 (dk_at dksL_law_5 5 rfl rfl)
theorem dL_law_169 : decode cL_law 169 = .ok (.aload_n 2, 1) := dk_44 (dk_at dksL_law_5 7 rfl rfl)
theorem dL_law_170 : decode cL_law 170 = .ok (.invokevirtual 64, 3) := dk_182 0 64 (dk_at dksL_law_5 8 rfl rfl)
theorem dL_law_173 : decode cL_law 173 = .ok (.iload 5, 2) := dk_21 5 (dk_at dksL_law_5 11 rfl rfl)
theorem dL_law_175 : decode cL_law 175 = .ok (.if_icmp .eq 5, 3) := dk_159 0 5 (dk_at dksL_law_5 13 rfl rfl)
theorem dL_law_178 : decode cL_law 178 = .ok (.iconst 0, 1) := dk_3 (dk_at dksL_law_5 16 rfl rfl)
theorem dL_law_179 : decode cL_law 179 = .ok (.ireturn, 1) := dk_172 (dk_at dksL_law_5 17 rfl rfl)
theorem dL_law_180 : decode cL_law 180 = .ok (.iload 5, 2) := dk_21 5 (dk_at dksL_law_5 18 rfl rfl)
theorem dL_law_182 : decode cL_law 182 = .ok (.ifCond .ne 15, 3) := dk_154 0 15 (dk_at dksL_law_5 20 rfl rfl)
theorem dL_law_185 : decode cL_law 185 = .ok (.aload_n 3, 1) := dk_45 (dk_at dksL_law_5 23 rfl rfl)
theorem dL_law_186 : decode cL_law 186 = .ok (.iconst 0, 1) := dk_3 (dk_at dksL_law_6 0 rfl rfl)
theorem dL_law_187 : decode cL_law 187 = .ok (.laload, 1) := dk_47 (dk_at dksL_law_6 1 rfl rfl)
theorem dL_law_188 : decode cL_law 188 = .ok (.iload 6, 2) := dk_21 6 (dk_at dksL_law_6 2 rfl rfl)
theorem dL_law_190 : decode cL_law 190 = .ok (.i2l, 1) := dk_133 (dk_at dksL_law_6 4 rfl rfl)
theorem dL_law_191 : decode cL_law 191 = .ok (.lcmp, 1) := dk_148 (dk_at dksL_law_6 5 rfl rfl)
theorem dL_law_192 : decode cL_law 192 = .ok (.ifCond .eq 5, 3) := dk_153 0 5 (dk_at dksL_law_6 6 rfl rfl)
theorem dL_law_195 : decode cL_law 195 = .ok (.iconst 0, 1) := dk_3 (dk_at dksL_law_6 9 rfl rfl)
theorem dL_law_196 : decode cL_law 196 = .ok (.ireturn, 1) := dk_172 (dk_at dksL_law_6 10 rfl rfl)
theorem dL_law_197 : decode cL_law 197 = .ok (.goto 764, 3) := dk_167 2 252 (dk_at dksL_law_6 11 rfl rfl)
theorem dL_law_200 : decode cL_law 200 = .ok (.aload_n 1, 1) := dk_43 (dk_at dksL_law_6 14 rfl rfl)
theorem dL_law_201 : decode cL_law 201 = .ok (.aload_n 0, 1) := dk_42 (dk_at dksL_law_6 15 rfl rfl)
theorem dL_law_202 : decode cL_law 202 = .ok (.iload 4, 2) := dk_21 4 (dk_at dksL_law_6 16 rfl rfl)
theorem dL_law_204 : decode cL_law 204 = .ok (.iconst 1, 1) := dk_4 (dk_at dksL_law_6 18 rfl rfl)
theorem dL_law_205 : decode cL_law 205 = .ok (.iadd, 1) := dk_96 (dk_at dksL_law_6 19 rfl rfl)
theorem dL_law_206 : decode cL_law 206 = .ok (.iaload, 1) := dk_46 (dk_at dksL_law_6 20 rfl rfl)
theorem dL_law_207 : decode cL_law 207 = .ok (.aload_n 3, 1) := dk_45 (dk_at dksL_law_6 21 rfl rfl)
theorem dL_law_208 : decode cL_law 208 = .ok (.invokestatic 68, 3) := dk_184 0 68 (dk_at dksL_law_7 0 rfl rfl)
theorem dL_law_211 : decode cL_law 211 = .ok (.istore 5, 2) := dk_54 5 (dk_at dksL_law_7 3 rfl rfl)
theorem dL_law_213 : decode cL_law 213 = .ok (.aload_n 2, 1) := dk_44 (dk_at dksL_law_7 5 rfl rfl)
theorem dL_law_214 : decode cL_law 214 = .ok (.aload_n 0, 1) := dk_42 (dk_at dksL_law_7 6 rfl rfl)
theorem dL_law_215 : decode cL_law 215 = .ok (.iload 4, 2) := dk_21 4 (dk_at dksL_law_7 7 rfl rfl)
theorem dL_law_217 : decode cL_law 217 = .ok (.iconst 1, 1) := dk_4 (dk_at dksL_law_7 9 rfl rfl)
theorem dL_law_218 : decode cL_law 218 = .ok (.iadd, 1) := dk_96 (dk_at dksL_law_7 10 rfl rfl)
theorem dL_law_219 : decode cL_law 219 = .ok (.iaload, 1) := dk_46 (dk_at dksL_law_7 11 rfl rfl)
theorem dL_law_220 : decode cL_law 220 = .ok (.invokevirtual 71, 3) := dk_182 0 71 (dk_at dksL_law_7 12 rfl rfl)
theorem dL_law_223 : decode cL_law 223 = .ok (.istore 6, 2) := dk_54 6 (dk_at dksL_law_7 15 rfl rfl)
theorem dL_law_225 : decode cL_law 225 = .ok (.aload_n 2, 1) := dk_44 (dk_at dksL_law_7 17 rfl rfl)
theorem dL_law_226 : decode cL_law 226 = .ok (.invokevirtual 64, 3) := dk_182 0 64 (dk_at dksL_law_7 18 rfl rfl)
theorem dL_law_229 : decode cL_law 229 = .ok (.iload 5, 2) := dk_21 5 (dk_at dksL_law_7 21 rfl rfl)
theorem dL_law_231 : decode cL_law 231 = .ok (.if_icmp .eq 5, 3) := dk_159 0 5 (dk_at dksL_law_8 0 rfl rfl)
theorem dL_law_234 : decode cL_law 234 = .ok (.iconst 0, 1) := dk_3 (dk_at dksL_law_8 3 rfl rfl)
theorem dL_law_235 : decode cL_law 235 = .ok (.ireturn, 1) := dk_172 (dk_at dksL_law_8 4 rfl rfl)
theorem dL_law_236 : decode cL_law 236 = .ok (.iload 5, 2) := dk_21 5 (dk_at dksL_law_8 5 rfl rfl)
theorem dL_law_238 : decode cL_law 238 = .ok (.ifCond .ne 15, 3) := dk_154 0 15 (dk_at dksL_law_8 7 rfl rfl)
theorem dL_law_241 : decode cL_law 241 = .ok (.aload_n 3, 1) := dk_45 (dk_at dksL_law_8 10 rfl rfl)
theorem dL_law_242 : decode cL_law 242 = .ok (.iconst 0, 1) := dk_3 (dk_at dksL_law_8 11 rfl rfl)
theorem dL_law_243 : decode cL_law 243 = .ok (.laload, 1) := dk_47 (dk_at dksL_law_8 12 rfl rfl)
theorem dL_law_244 : decode cL_law 244 = .ok (.iload 6, 2) := dk_21 6 (dk_at dksL_law_8 13 rfl rfl)
theorem dL_law_246 : decode cL_law 246 = .ok (.i2l, 1) := dk_133 (dk_at dksL_law_8 15 rfl rfl)
theorem dL_law_247 : decode cL_law 247 = .ok (.lcmp, 1) := dk_148 (dk_at dksL_law_8 16 rfl rfl)
theorem dL_law_248 : decode cL_law 248 = .ok (.ifCond .eq 5, 3) := dk_153 0 5 (dk_at dksL_law_8 17 rfl rfl)
theorem dL_law_251 : decode cL_law 251 = .ok (.iconst 0, 1) := dk_3 (dk_at dksL_law_8 20 rfl rfl)
theorem dL_law_252 : decode cL_law 252 = .ok (.ireturn, 1) := dk_172 (dk_at dksL_law_8 21 rfl rfl)
theorem dL_law_253 : decode cL_law 253 = .ok (.goto 708, 3) := dk_167 2 196 (dk_at dksL_law_9 0 rfl rfl)
theorem dL_law_256 : decode cL_law 256 = .ok (.aload_n 1, 1) := dk_43 (dk_at dksL_law_9 3 rfl rfl)
theorem dL_law_257 : decode cL_law 257 = .ok (.aload_n 0, 1) := dk_42 (dk_at dksL_law_9 4 rfl rfl)
theorem dL_law_258 : decode cL_law 258 = .ok (.iload 4, 2) := dk_21 4 (dk_at dksL_law_9 5 rfl rfl)
theorem dL_law_260 : decode cL_law 260 = .ok (.iconst 1, 1) := dk_4 (dk_at dksL_law_9 7 rfl rfl)
theorem dL_law_261 : decode cL_law 261 = .ok (.iadd, 1) := dk_96 (dk_at dksL_law_9 8 rfl rfl)
theorem dL_law_262 : decode cL_law 262 = .ok (.iaload, 1) := dk_46 (dk_at dksL_law_9 9 rfl rfl)
theorem dL_law_263 : decode cL_law 263 = .ok (.aload_n 3, 1) := dk_45 (dk_at dksL_law_9 10 rfl rfl)
theorem dL_law_264 : decode cL_law 264 = .ok (.invokestatic 72, 3) := dk_184 0 72 (dk_at dksL_law_9 11 rfl rfl)
theorem dL_law_267 : decode cL_law 267 = .ok (.istore 5, 2) := dk_54 5 (dk_at dksL_law_9 14 rfl rfl)
theorem dL_law_269 : decode cL_law 269 = .ok (.aload_n 2, 1) := dk_44 (dk_at dksL_law_9 16 rfl rfl)
theorem dL_law_270 : decode cL_law 270 = .ok (.aload_n 0, 1) := dk_42 (dk_at dksL_law_9 17 rfl rfl)
theorem dL_law_271 : decode cL_law 271 = .ok (.iload 4, 2) := dk_21 4 (dk_at dksL_law_9 18 rfl rfl)
theorem dL_law_273 : decode cL_law 273 = .ok (.iconst 1, 1) := dk_4 (dk_at dksL_law_9 20 rfl rfl)
theorem dL_law_274 : decode cL_law 274 = .ok (.iadd, 1) := dk_96 (dk_at dksL_law_9 21 rfl rfl)
theorem dL_law_275 : decode cL_law 275 = .ok (.iaload, 1) := dk_46 (dk_at dksL_law_9 22 rfl rfl)
theorem dL_law_276 : decode cL_law 276 = .ok (.invokevirtual 74, 3) := dk_182 0 74 (dk_at dksL_law_10 0 rfl rfl)
theorem dL_law_279 : decode cL_law 279 = .ok (.istore 6, 2) := dk_54 6 (dk_at dksL_law_10 3 rfl rfl)
theorem dL_law_281 : decode cL_law 281 = .ok (.aload_n 2, 1) := dk_44 (dk_at dksL_law_10 5 rfl rfl)
theorem dL_law_282 : decode cL_law 282 = .ok (.invokevirtual 64, 3) := dk_182 0 64 (dk_at dksL_law_10 6 rfl rfl)
theorem dL_law_285 : decode cL_law 285 = .ok (.iload 5, 2) := dk_21 5 (dk_at dksL_law_10 9 rfl rfl)
theorem dL_law_287 : decode cL_law 287 = .ok (.if_icmp .eq 5, 3) := dk_159 0 5 (dk_at dksL_law_10 11 rfl rfl)
theorem dL_law_290 : decode cL_law 290 = .ok (.iconst 0, 1) := dk_3 (dk_at dksL_law_10 14 rfl rfl)
theorem dL_law_291 : decode cL_law 291 = .ok (.ireturn, 1) := dk_172 (dk_at dksL_law_10 15 rfl rfl)
theorem dL_law_292 : decode cL_law 292 = .ok (.iload 5, 2) := dk_21 5 (dk_at dksL_law_10 16 rfl rfl)
theorem dL_law_294 : decode cL_law 294 = .ok (.ifCond .ne 15, 3) := dk_154 0 15 (dk_at dksL_law_10 18 rfl rfl)
theorem dL_law_297 : decode cL_law 297 = .ok (.aload_n 3, 1) := dk_45 (dk_at dksL_law_10 21 rfl rfl)
theorem dL_law_298 : decode cL_law 298 = .ok (.iconst 0, 1) := dk_3 (dk_at dksL_law_10 22 rfl rfl)
theorem dL_law_299 : decode cL_law 299 = .ok (.laload, 1) := dk_47 (dk_at dksL_law_10 23 rfl rfl)
theorem dL_law_300 : decode cL_law 300 = .ok (.iload 6, 2) := dk_21 6 (dk_at dksL_law_11 0 rfl rfl)
theorem dL_law_302 : decode cL_law 302 = .ok (.i2l, 1) := dk_133 (dk_at dksL_law_11 2 rfl rfl)
theorem dL_law_303 : decode cL_law 303 = .ok (.lcmp, 1) := dk_148 (dk_at dksL_law_11 3 rfl rfl)
theorem dL_law_304 : decode cL_law 304 = .ok (.ifCond .eq 5, 3) := dk_153 0 5 (dk_at dksL_law_11 4 rfl rfl)
theorem dL_law_307 : decode cL_law 307 = .ok (.iconst 0, 1) := dk_3 (dk_at dksL_law_11 7 rfl rfl)
theorem dL_law_308 : decode cL_law 308 = .ok (.ireturn, 1) := dk_172 (dk_at dksL_law_11 8 rfl rfl)
theorem dL_law_309 : decode cL_law 309 = .ok (.goto 652, 3) := dk_167 2 140 (dk_at dksL_law_11 9 rfl rfl)
theorem dL_law_312 : decode cL_law 312 = .ok (.aload_n 1, 1) := dk_43 (dk_at dksL_law_11 12 rfl rfl)
theorem dL_law_313 : decode cL_law 313 = .ok (.aload_n 0, 1) := dk_42 (dk_at dksL_law_11 13 rfl rfl)
theorem dL_law_314 : decode cL_law 314 = .ok (.iload 4, 2) := dk_21 4 (dk_at dksL_law_11 14 rfl rfl)
theorem dL_law_316 : decode cL_law 316 = .ok (.iconst 1, 1) := dk_4 (dk_at dksL_law_11 16 rfl rfl)
theorem dL_law_317 : decode cL_law 317 = .ok (.iadd, 1) := dk_96 (dk_at dksL_law_11 17 rfl rfl)
theorem dL_law_318 : decode cL_law 318 = .ok (.iaload, 1) := dk_46 (dk_at dksL_law_11 18 rfl rfl)
theorem dL_law_319 : decode cL_law 319 = .ok (.aload_n 3, 1) := dk_45 (dk_at dksL_law_11 19 rfl rfl)
theorem dL_law_320 : decode cL_law 320 = .ok (.invokestatic 75, 3) := dk_184 0 75 (dk_at dksL_law_11 20 rfl rfl)
theorem dL_law_323 : decode cL_law 323 = .ok (.istore 5, 2) := dk_54 5 (dk_at dksL_law_12 0 rfl rfl)
theorem dL_law_325 : decode cL_law 325 = .ok (.aload_n 2, 1) := dk_44 (dk_at dksL_law_12 2 rfl rfl)
theorem dL_law_326 : decode cL_law 326 = .ok (.aload_n 0, 1) := dk_42 (dk_at dksL_law_12 3 rfl rfl)
theorem dL_law_327 : decode cL_law 327 = .ok (.iload 4, 2) := dk_21 4 (dk_at dksL_law_12 4 rfl rfl)
theorem dL_law_329 : decode cL_law 329 = .ok (.iconst 1, 1) := dk_4 (dk_at dksL_law_12 6 rfl rfl)
theorem dL_law_330 : decode cL_law 330 = .ok (.iadd, 1) := dk_96 (dk_at dksL_law_12 7 rfl rfl)
theorem dL_law_331 : decode cL_law 331 = .ok (.iaload, 1) := dk_46 (dk_at dksL_law_12 8 rfl rfl)
theorem dL_law_332 : decode cL_law 332 = .ok (.invokevirtual 77, 3) := dk_182 0 77 (dk_at dksL_law_12 9 rfl rfl)
theorem dL_law_335 : decode cL_law 335 = .ok (.istore 6, 2) := dk_54 6 (dk_at dksL_law_12 12 rfl rfl)
theorem dL_law_337 : decode cL_law 337 = .ok (.aload_n 2, 1) := dk_44 (dk_at dksL_law_12 14 rfl rfl)
theorem dL_law_338 : decode cL_law 338 = .ok (.invokevirtual 64, 3) := dk_182 0 64 (dk_at dksL_law_12 15 rfl rfl)
theorem dL_law_341 : decode cL_law 341 = .ok (.iload 5, 2) := dk_21 5 (dk_at dksL_law_12 18 rfl rfl)
theorem dL_law_343 : decode cL_law 343 = .ok (.if_icmp .eq 5, 3) := dk_159 0 5 (dk_at dksL_law_12 20 rfl rfl)
theorem dL_law_346 : decode cL_law 346 = .ok (.iconst 0, 1) := dk_3 (dk_at dksL_law_12 23 rfl rfl)
theorem dL_law_347 : decode cL_law 347 = .ok (.ireturn, 1) := dk_172 (dk_at dksL_law_13 0 rfl rfl)
theorem dL_law_348 : decode cL_law 348 = .ok (.iload 5, 2) := dk_21 5 (dk_at dksL_law_13 1 rfl rfl)
theorem dL_law_350 : decode cL_law 350 = .ok (.ifCond .ne 15, 3) := dk_154 0 15 (dk_at dksL_law_13 3 rfl rfl)
theorem dL_law_353 : decode cL_law 353 = .ok (.aload_n 3, 1) := dk_45 (dk_at dksL_law_13 6 rfl rfl)
theorem dL_law_354 : decode cL_law 354 = .ok (.iconst 0, 1) := dk_3 (dk_at dksL_law_13 7 rfl rfl)
theorem dL_law_355 : decode cL_law 355 = .ok (.laload, 1) := dk_47 (dk_at dksL_law_13 8 rfl rfl)
theorem dL_law_356 : decode cL_law 356 = .ok (.iload 6, 2) := dk_21 6 (dk_at dksL_law_13 9 rfl rfl)
theorem dL_law_358 : decode cL_law 358 = .ok (.i2l, 1) := dk_133 (dk_at dksL_law_13 11 rfl rfl)
theorem dL_law_359 : decode cL_law 359 = .ok (.lcmp, 1) := dk_148 (dk_at dksL_law_13 12 rfl rfl)
theorem dL_law_360 : decode cL_law 360 = .ok (.ifCond .eq 5, 3) := dk_153 0 5 (dk_at dksL_law_13 13 rfl rfl)
theorem dL_law_363 : decode cL_law 363 = .ok (.iconst 0, 1) := dk_3 (dk_at dksL_law_13 16 rfl rfl)
theorem dL_law_364 : decode cL_law 364 = .ok (.ireturn, 1) := dk_172 (dk_at dksL_law_13 17 rfl rfl)
theorem dL_law_365 : decode cL_law 365 = .ok (.goto 596, 3) := dk_167 2 84 (dk_at dksL_law_13 18 rfl rfl)
theorem dL_law_368 : decode cL_law 368 = .ok (.aload_n 1, 1) := dk_43 (dk_at dksL_law_13 21 rfl rfl)
theorem dL_law_369 : decode cL_law 369 = .ok (.aload_n 0, 1) := dk_42 (dk_at dksL_law_13 22 rfl rfl)
theorem dL_law_370 : decode cL_law 370 = .ok (.iload 4, 2) := dk_21 4 (dk_at dksL_law_14 0 rfl rfl)
theorem dL_law_372 : decode cL_law 372 = .ok (.iconst 1, 1) := dk_4 (dk_at dksL_law_14 2 rfl rfl)
theorem dL_law_373 : decode cL_law 373 = .ok (.iadd, 1) := dk_96 (dk_at dksL_law_14 3 rfl rfl)
theorem dL_law_374 : decode cL_law 374 = .ok (.iaload, 1) := dk_46 (dk_at dksL_law_14 4 rfl rfl)
theorem dL_law_375 : decode cL_law 375 = .ok (.aload_n 0, 1) := dk_42 (dk_at dksL_law_14 5 rfl rfl)
theorem dL_law_376 : decode cL_law 376 = .ok (.iload 4, 2) := dk_21 4 (dk_at dksL_law_14 6 rfl rfl)
theorem dL_law_378 : decode cL_law 378 = .ok (.iconst 2, 1) := dk_5 (dk_at dksL_law_14 8 rfl rfl)
theorem dL_law_379 : decode cL_law 379 = .ok (.iadd, 1) := dk_96 (dk_at dksL_law_14 9 rfl rfl)
theorem dL_law_380 : decode cL_law 380 = .ok (.iaload, 1) := dk_46 (dk_at dksL_law_14 10 rfl rfl)
theorem dL_law_381 : decode cL_law 381 = .ok (.aload_n 3, 1) := dk_45 (dk_at dksL_law_14 11 rfl rfl)
theorem dL_law_382 : decode cL_law 382 = .ok (.invokestatic 78, 3) := dk_184 0 78 (dk_at dksL_law_14 12 rfl rfl)
theorem dL_law_385 : decode cL_law 385 = .ok (.istore 5, 2) := dk_54 5 (dk_at dksL_law_14 15 rfl rfl)
theorem dL_law_387 : decode cL_law 387 = .ok (.aload_n 2, 1) := dk_44 (dk_at dksL_law_14 17 rfl rfl)
theorem dL_law_388 : decode cL_law 388 = .ok (.aload_n 0, 1) := dk_42 (dk_at dksL_law_14 18 rfl rfl)
theorem dL_law_389 : decode cL_law 389 = .ok (.iload 4, 2) := dk_21 4 (dk_at dksL_law_14 19 rfl rfl)
theorem dL_law_391 : decode cL_law 391 = .ok (.iconst 1, 1) := dk_4 (dk_at dksL_law_14 21 rfl rfl)
theorem dL_law_392 : decode cL_law 392 = .ok (.iadd, 1) := dk_96 (dk_at dksL_law_14 22 rfl rfl)
theorem dL_law_393 : decode cL_law 393 = .ok (.iaload, 1) := dk_46 (dk_at dksL_law_14 23 rfl rfl)
theorem dL_law_394 : decode cL_law 394 = .ok (.aload_n 0, 1) := dk_42 (dk_at dksL_law_15 0 rfl rfl)
theorem dL_law_395 : decode cL_law 395 = .ok (.iload 4, 2) := dk_21 4 (dk_at dksL_law_15 1 rfl rfl)
theorem dL_law_397 : decode cL_law 397 = .ok (.iconst 2, 1) := dk_5 (dk_at dksL_law_15 3 rfl rfl)
theorem dL_law_398 : decode cL_law 398 = .ok (.iadd, 1) := dk_96 (dk_at dksL_law_15 4 rfl rfl)
theorem dL_law_399 : decode cL_law 399 = .ok (.iaload, 1) := dk_46 (dk_at dksL_law_15 5 rfl rfl)
theorem dL_law_400 : decode cL_law 400 = .ok (.invokevirtual 81, 3) := dk_182 0 81 (dk_at dksL_law_15 6 rfl rfl)
theorem dL_law_403 : decode cL_law 403 = .ok (.istore 6, 2) := dk_54 6 (dk_at dksL_law_15 9 rfl rfl)
theorem dL_law_405 : decode cL_law 405 = .ok (.aload_n 2, 1) := dk_44 (dk_at dksL_law_15 11 rfl rfl)
theorem dL_law_406 : decode cL_law 406 = .ok (.invokevirtual 64, 3) := dk_182 0 64 (dk_at dksL_law_15 12 rfl rfl)
theorem dL_law_409 : decode cL_law 409 = .ok (.iload 5, 2) := dk_21 5 (dk_at dksL_law_15 15 rfl rfl)
theorem dL_law_411 : decode cL_law 411 = .ok (.if_icmp .eq 5, 3) := dk_159 0 5 (dk_at dksL_law_15 17 rfl rfl)
theorem dL_law_414 : decode cL_law 414 = .ok (.iconst 0, 1) := dk_3 (dk_at dksL_law_15 20 rfl rfl)
theorem dL_law_415 : decode cL_law 415 = .ok (.ireturn, 1) := dk_172 (dk_at dksL_law_15 21 rfl rfl)
theorem dL_law_416 : decode cL_law 416 = .ok (.iload 5, 2) := dk_21 5 (dk_at dksL_law_15 22 rfl rfl)
theorem dL_law_418 : decode cL_law 418 = .ok (.ifCond .ne 15, 3) := dk_154 0 15 (dk_at dksL_law_16 0 rfl rfl)
theorem dL_law_421 : decode cL_law 421 = .ok (.aload_n 3, 1) := dk_45 (dk_at dksL_law_16 3 rfl rfl)
theorem dL_law_422 : decode cL_law 422 = .ok (.iconst 0, 1) := dk_3 (dk_at dksL_law_16 4 rfl rfl)
theorem dL_law_423 : decode cL_law 423 = .ok (.laload, 1) := dk_47 (dk_at dksL_law_16 5 rfl rfl)
theorem dL_law_424 : decode cL_law 424 = .ok (.iload 6, 2) := dk_21 6 (dk_at dksL_law_16 6 rfl rfl)
theorem dL_law_426 : decode cL_law 426 = .ok (.i2l, 1) := dk_133 (dk_at dksL_law_16 8 rfl rfl)
theorem dL_law_427 : decode cL_law 427 = .ok (.lcmp, 1) := dk_148 (dk_at dksL_law_16 9 rfl rfl)
theorem dL_law_428 : decode cL_law 428 = .ok (.ifCond .eq 5, 3) := dk_153 0 5 (dk_at dksL_law_16 10 rfl rfl)
theorem dL_law_431 : decode cL_law 431 = .ok (.iconst 0, 1) := dk_3 (dk_at dksL_law_16 13 rfl rfl)
theorem dL_law_432 : decode cL_law 432 = .ok (.ireturn, 1) := dk_172 (dk_at dksL_law_16 14 rfl rfl)
theorem dL_law_433 : decode cL_law 433 = .ok (.goto 528, 3) := dk_167 2 16 (dk_at dksL_law_16 15 rfl rfl)
theorem dL_law_436 : decode cL_law 436 = .ok (.aload_n 1, 1) := dk_43 (dk_at dksL_law_16 18 rfl rfl)
theorem dL_law_437 : decode cL_law 437 = .ok (.invokevirtual 82, 3) := dk_182 0 82 (dk_at dksL_law_16 19 rfl rfl)
theorem dL_law_440 : decode cL_law 440 = .ok (.aload_n 2, 1) := dk_44 (dk_at dksL_law_16 22 rfl rfl)
theorem dL_law_441 : decode cL_law 441 = .ok (.invokevirtual 85, 3) := dk_182 0 85 (dk_at dksL_law_17 0 rfl rfl)
theorem dL_law_444 : decode cL_law 444 = .ok (.if_icmp .eq 517, 3) := dk_159 2 5 (dk_at dksL_law_17 3 rfl rfl)
theorem dL_law_447 : decode cL_law 447 = .ok (.iconst 0, 1) := dk_3 (dk_at dksL_law_17 6 rfl rfl)
theorem dL_law_448 : decode cL_law 448 = .ok (.ireturn, 1) := dk_172 (dk_at dksL_law_17 7 rfl rfl)
theorem dL_law_449 : decode cL_law 449 = .ok (.aload_n 1, 1) := dk_43 (dk_at dksL_law_17 8 rfl rfl)
theorem dL_law_450 : decode cL_law 450 = .ok (.aload_n 0, 1) := dk_42 (dk_at dksL_law_17 9 rfl rfl)
theorem dL_law_451 : decode cL_law 451 = .ok (.iload 4, 2) := dk_21 4 (dk_at dksL_law_17 10 rfl rfl)
theorem dL_law_453 : decode cL_law 453 = .ok (.iconst 1, 1) := dk_4 (dk_at dksL_law_17 12 rfl rfl)
theorem dL_law_454 : decode cL_law 454 = .ok (.iadd, 1) := dk_96 (dk_at dksL_law_17 13 rfl rfl)
theorem dL_law_455 : decode cL_law 455 = .ok (.iaload, 1) := dk_46 (dk_at dksL_law_17 14 rfl rfl)
theorem dL_law_456 : decode cL_law 456 = .ok (.aload_n 0, 1) := dk_42 (dk_at dksL_law_17 15 rfl rfl)
theorem dL_law_457 : decode cL_law 457 = .ok (.iload 4, 2) := dk_21 4 (dk_at dksL_law_17 16 rfl rfl)
theorem dL_law_459 : decode cL_law 459 = .ok (.iconst 2, 1) := dk_5 (dk_at dksL_law_17 18 rfl rfl)
theorem dL_law_460 : decode cL_law 460 = .ok (.iadd, 1) := dk_96 (dk_at dksL_law_17 19 rfl rfl)
theorem dL_law_461 : decode cL_law 461 = .ok (.iaload, 1) := dk_46 (dk_at dksL_law_17 20 rfl rfl)
theorem dL_law_462 : decode cL_law 462 = .ok (.aload_n 3, 1) := dk_45 (dk_at dksL_law_17 21 rfl rfl)
theorem dL_law_463 : decode cL_law 463 = .ok (.invokestatic 86, 3) := dk_184 0 86 (dk_at dksL_law_18 0 rfl rfl)
theorem dL_law_466 : decode cL_law 466 = .ok (.istore 5, 2) := dk_54 5 (dk_at dksL_law_18 3 rfl rfl)
theorem dL_law_468 : decode cL_law 468 = .ok (.aload_n 2, 1) := dk_44 (dk_at dksL_law_18 5 rfl rfl)
theorem dL_law_469 : decode cL_law 469 = .ok (.aload_n 0, 1) := dk_42 (dk_at dksL_law_18 6 rfl rfl)
theorem dL_law_470 : decode cL_law 470 = .ok (.iload 4, 2) := dk_21 4 (dk_at dksL_law_18 7 rfl rfl)
theorem dL_law_472 : decode cL_law 472 = .ok (.iconst 1, 1) := dk_4 (dk_at dksL_law_18 9 rfl rfl)
theorem dL_law_473 : decode cL_law 473 = .ok (.iadd, 1) := dk_96 (dk_at dksL_law_18 10 rfl rfl)
theorem dL_law_474 : decode cL_law 474 = .ok (.iaload, 1) := dk_46 (dk_at dksL_law_18 11 rfl rfl)
theorem dL_law_475 : decode cL_law 475 = .ok (.aload_n 0, 1) := dk_42 (dk_at dksL_law_18 12 rfl rfl)
theorem dL_law_476 : decode cL_law 476 = .ok (.iload 4, 2) := dk_21 4 (dk_at dksL_law_18 13 rfl rfl)
theorem dL_law_478 : decode cL_law 478 = .ok (.iconst 2, 1) := dk_5 (dk_at dksL_law_18 15 rfl rfl)
theorem dL_law_479 : decode cL_law 479 = .ok (.iadd, 1) := dk_96 (dk_at dksL_law_18 16 rfl rfl)
theorem dL_law_480 : decode cL_law 480 = .ok (.iaload, 1) := dk_46 (dk_at dksL_law_18 17 rfl rfl)
theorem dL_law_481 : decode cL_law 481 = .ok (.invokevirtual 88, 3) := dk_182 0 88 (dk_at dksL_law_18 18 rfl rfl)
theorem dL_law_484 : decode cL_law 484 = .ok (.istore 6, 2) := dk_54 6 (dk_at dksL_law_18 21 rfl rfl)
theorem dL_law_486 : decode cL_law 486 = .ok (.aload_n 2, 1) := dk_44 (dk_at dksL_law_18 23 rfl rfl)
theorem dL_law_487 : decode cL_law 487 = .ok (.invokevirtual 64, 3) := dk_182 0 64 (dk_at dksL_law_19 0 rfl rfl)
theorem dL_law_490 : decode cL_law 490 = .ok (.iload 5, 2) := dk_21 5 (dk_at dksL_law_19 3 rfl rfl)
theorem dL_law_492 : decode cL_law 492 = .ok (.if_icmp .eq 5, 3) := dk_159 0 5 (dk_at dksL_law_19 5 rfl rfl)
theorem dL_law_495 : decode cL_law 495 = .ok (.iconst 0, 1) := dk_3 (dk_at dksL_law_19 8 rfl rfl)
theorem dL_law_496 : decode cL_law 496 = .ok (.ireturn, 1) := dk_172 (dk_at dksL_law_19 9 rfl rfl)
theorem dL_law_497 : decode cL_law 497 = .ok (.iload 5, 2) := dk_21 5 (dk_at dksL_law_19 10 rfl rfl)
theorem dL_law_499 : decode cL_law 499 = .ok (.ifCond .ne 15, 3) := dk_154 0 15 (dk_at dksL_law_19 12 rfl rfl)
theorem dL_law_502 : decode cL_law 502 = .ok (.aload_n 3, 1) := dk_45 (dk_at dksL_law_19 15 rfl rfl)
theorem dL_law_503 : decode cL_law 503 = .ok (.iconst 0, 1) := dk_3 (dk_at dksL_law_19 16 rfl rfl)
theorem dL_law_504 : decode cL_law 504 = .ok (.laload, 1) := dk_47 (dk_at dksL_law_19 17 rfl rfl)
theorem dL_law_505 : decode cL_law 505 = .ok (.iload 6, 2) := dk_21 6 (dk_at dksL_law_19 18 rfl rfl)
theorem dL_law_507 : decode cL_law 507 = .ok (.i2l, 1) := dk_133 (dk_at dksL_law_19 20 rfl rfl)
theorem dL_law_508 : decode cL_law 508 = .ok (.lcmp, 1) := dk_148 (dk_at dksL_law_19 21 rfl rfl)
theorem dL_law_509 : decode cL_law 509 = .ok (.ifCond .eq 5, 3) := dk_153 0 5 (dk_at dksL_law_20 0 rfl rfl)
theorem dL_law_512 : decode cL_law 512 = .ok (.iconst 0, 1) := dk_3 (dk_at dksL_law_20 3 rfl rfl)
theorem dL_law_513 : decode cL_law 513 = .ok (.ireturn, 1) := dk_172 (dk_at dksL_law_20 4 rfl rfl)
theorem dL_law_514 : decode cL_law 514 = .ok (.goto 447, 3) := dk_167 1 191 (dk_at dksL_law_20 5 rfl rfl)
theorem dL_law_517 : decode cL_law 517 = .ok (.aload_n 1, 1) := dk_43 (dk_at dksL_law_20 8 rfl rfl)
theorem dL_law_518 : decode cL_law 518 = .ok (.aload_n 0, 1) := dk_42 (dk_at dksL_law_20 9 rfl rfl)
theorem dL_law_519 : decode cL_law 519 = .ok (.iload 4, 2) := dk_21 4 (dk_at dksL_law_20 10 rfl rfl)
theorem dL_law_521 : decode cL_law 521 = .ok (.iconst 1, 1) := dk_4 (dk_at dksL_law_20 12 rfl rfl)
theorem dL_law_522 : decode cL_law 522 = .ok (.iadd, 1) := dk_96 (dk_at dksL_law_20 13 rfl rfl)
theorem dL_law_523 : decode cL_law 523 = .ok (.iaload, 1) := dk_46 (dk_at dksL_law_20 14 rfl rfl)
theorem dL_law_524 : decode cL_law 524 = .ok (.aload_n 3, 1) := dk_45 (dk_at dksL_law_20 15 rfl rfl)
theorem dL_law_525 : decode cL_law 525 = .ok (.invokestatic 89, 3) := dk_184 0 89 (dk_at dksL_law_20 16 rfl rfl)
theorem dL_law_528 : decode cL_law 528 = .ok (.istore 5, 2) := dk_54 5 (dk_at dksL_law_20 19 rfl rfl)
theorem dL_law_530 : decode cL_law 530 = .ok (.aload_n 2, 1) := dk_44 (dk_at dksL_law_20 21 rfl rfl)
theorem dL_law_531 : decode cL_law 531 = .ok (.aload_n 0, 1) := dk_42 (dk_at dksL_law_20 22 rfl rfl)
theorem dL_law_532 : decode cL_law 532 = .ok (.iload 4, 2) := dk_21 4 (dk_at dksL_law_21 0 rfl rfl)
theorem dL_law_534 : decode cL_law 534 = .ok (.iconst 1, 1) := dk_4 (dk_at dksL_law_21 2 rfl rfl)
theorem dL_law_535 : decode cL_law 535 = .ok (.iadd, 1) := dk_96 (dk_at dksL_law_21 3 rfl rfl)
theorem dL_law_536 : decode cL_law 536 = .ok (.iaload, 1) := dk_46 (dk_at dksL_law_21 4 rfl rfl)
theorem dL_law_537 : decode cL_law 537 = .ok (.invokevirtual 91, 3) := dk_182 0 91 (dk_at dksL_law_21 5 rfl rfl)
theorem dL_law_540 : decode cL_law 540 = .ok (.istore 6, 2) := dk_54 6 (dk_at dksL_law_21 8 rfl rfl)
theorem dL_law_542 : decode cL_law 542 = .ok (.aload_n 2, 1) := dk_44 (dk_at dksL_law_21 10 rfl rfl)
theorem dL_law_543 : decode cL_law 543 = .ok (.invokevirtual 64, 3) := dk_182 0 64 (dk_at dksL_law_21 11 rfl rfl)
theorem dL_law_546 : decode cL_law 546 = .ok (.iload 5, 2) := dk_21 5 (dk_at dksL_law_21 14 rfl rfl)
theorem dL_law_548 : decode cL_law 548 = .ok (.if_icmp .eq 5, 3) := dk_159 0 5 (dk_at dksL_law_21 16 rfl rfl)
theorem dL_law_551 : decode cL_law 551 = .ok (.iconst 0, 1) := dk_3 (dk_at dksL_law_21 19 rfl rfl)
theorem dL_law_552 : decode cL_law 552 = .ok (.ireturn, 1) := dk_172 (dk_at dksL_law_21 20 rfl rfl)
theorem dL_law_553 : decode cL_law 553 = .ok (.iload 5, 2) := dk_21 5 (dk_at dksL_law_21 21 rfl rfl)
theorem dL_law_555 : decode cL_law 555 = .ok (.ifCond .ne 15, 3) := dk_154 0 15 (dk_at dksL_law_22 0 rfl rfl)
theorem dL_law_558 : decode cL_law 558 = .ok (.aload_n 3, 1) := dk_45 (dk_at dksL_law_22 3 rfl rfl)
theorem dL_law_559 : decode cL_law 559 = .ok (.iconst 0, 1) := dk_3 (dk_at dksL_law_22 4 rfl rfl)
theorem dL_law_560 : decode cL_law 560 = .ok (.laload, 1) := dk_47 (dk_at dksL_law_22 5 rfl rfl)
theorem dL_law_561 : decode cL_law 561 = .ok (.iload 6, 2) := dk_21 6 (dk_at dksL_law_22 6 rfl rfl)
theorem dL_law_563 : decode cL_law 563 = .ok (.i2l, 1) := dk_133 (dk_at dksL_law_22 8 rfl rfl)
theorem dL_law_564 : decode cL_law 564 = .ok (.lcmp, 1) := dk_148 (dk_at dksL_law_22 9 rfl rfl)
theorem dL_law_565 : decode cL_law 565 = .ok (.ifCond .eq 5, 3) := dk_153 0 5 (dk_at dksL_law_22 10 rfl rfl)
theorem dL_law_568 : decode cL_law 568 = .ok (.iconst 0, 1) := dk_3 (dk_at dksL_law_22 13 rfl rfl)
theorem dL_law_569 : decode cL_law 569 = .ok (.ireturn, 1) := dk_172 (dk_at dksL_law_22 14 rfl rfl)
theorem dL_law_570 : decode cL_law 570 = .ok (.goto 391, 3) := dk_167 1 135 (dk_at dksL_law_22 15 rfl rfl)
theorem dL_law_573 : decode cL_law 573 = .ok (.aload_n 1, 1) := dk_43 (dk_at dksL_law_22 18 rfl rfl)
theorem dL_law_574 : decode cL_law 574 = .ok (.aload_n 0, 1) := dk_42 (dk_at dksL_law_22 19 rfl rfl)
theorem dL_law_575 : decode cL_law 575 = .ok (.iload 4, 2) := dk_21 4 (dk_at dksL_law_22 20 rfl rfl)
theorem dL_law_577 : decode cL_law 577 = .ok (.iconst 1, 1) := dk_4 (dk_at dksL_law_22 22 rfl rfl)
theorem dL_law_578 : decode cL_law 578 = .ok (.iadd, 1) := dk_96 (dk_at dksL_law_22 23 rfl rfl)
theorem dL_law_579 : decode cL_law 579 = .ok (.iaload, 1) := dk_46 (dk_at dksL_law_23 0 rfl rfl)
theorem dL_law_580 : decode cL_law 580 = .ok (.ifCond .eq 7, 3) := dk_153 0 7 (dk_at dksL_law_23 1 rfl rfl)
theorem dL_law_583 : decode cL_law 583 = .ok (.iconst 1, 1) := dk_4 (dk_at dksL_law_23 4 rfl rfl)
theorem dL_law_584 : decode cL_law 584 = .ok (.goto 4, 3) := dk_167 0 4 (dk_at dksL_law_23 5 rfl rfl)
theorem dL_law_587 : decode cL_law 587 = .ok (.iconst 0, 1) := dk_3 (dk_at dksL_law_23 8 rfl rfl)
theorem dL_law_588 : decode cL_law 588 = .ok (.invokevirtual 92, 3) := dk_182 0 92 (dk_at dksL_law_23 9 rfl rfl)
theorem dL_law_591 : decode cL_law 591 = .ok (.aload_n 2, 1) := dk_44 (dk_at dksL_law_23 12 rfl rfl)
theorem dL_law_592 : decode cL_law 592 = .ok (.aload_n 0, 1) := dk_42 (dk_at dksL_law_23 13 rfl rfl)
theorem dL_law_593 : decode cL_law 593 = .ok (.iload 4, 2) := dk_21 4 (dk_at dksL_law_23 14 rfl rfl)
theorem dL_law_595 : decode cL_law 595 = .ok (.iconst 1, 1) := dk_4 (dk_at dksL_law_23 16 rfl rfl)
theorem dL_law_596 : decode cL_law 596 = .ok (.iadd, 1) := dk_96 (dk_at dksL_law_23 17 rfl rfl)
theorem dL_law_597 : decode cL_law 597 = .ok (.iaload, 1) := dk_46 (dk_at dksL_law_23 18 rfl rfl)
theorem dL_law_598 : decode cL_law 598 = .ok (.ifCond .eq 7, 3) := dk_153 0 7 (dk_at dksL_law_23 19 rfl rfl)
theorem dL_law_601 : decode cL_law 601 = .ok (.iconst 1, 1) := dk_4 (dk_at dksL_law_23 22 rfl rfl)
theorem dL_law_602 : decode cL_law 602 = .ok (.goto 4, 3) := dk_167 0 4 (dk_at dksL_law_24 0 rfl rfl)
theorem dL_law_605 : decode cL_law 605 = .ok (.iconst 0, 1) := dk_3 (dk_at dksL_law_24 3 rfl rfl)
theorem dL_law_606 : decode cL_law 606 = .ok (.invokevirtual 96, 3) := dk_182 0 96 (dk_at dksL_law_24 4 rfl rfl)
theorem dL_law_609 : decode cL_law 609 = .ok (.if_icmp .eq 352, 3) := dk_159 1 96 (dk_at dksL_law_24 7 rfl rfl)
theorem dL_law_612 : decode cL_law 612 = .ok (.iconst 0, 1) := dk_3 (dk_at dksL_law_24 10 rfl rfl)
theorem dL_law_613 : decode cL_law 613 = .ok (.ireturn, 1) := dk_172 (dk_at dksL_law_24 11 rfl rfl)
theorem dL_law_614 : decode cL_law 614 = .ok (.aload_n 1, 1) := dk_43 (dk_at dksL_law_24 12 rfl rfl)
theorem dL_law_615 : decode cL_law 615 = .ok (.aload_n 0, 1) := dk_42 (dk_at dksL_law_24 13 rfl rfl)
theorem dL_law_616 : decode cL_law 616 = .ok (.iload 4, 2) := dk_21 4 (dk_at dksL_law_24 14 rfl rfl)
theorem dL_law_618 : decode cL_law 618 = .ok (.iconst 1, 1) := dk_4 (dk_at dksL_law_24 16 rfl rfl)
theorem dL_law_619 : decode cL_law 619 = .ok (.iadd, 1) := dk_96 (dk_at dksL_law_24 17 rfl rfl)
theorem dL_law_620 : decode cL_law 620 = .ok (.iaload, 1) := dk_46 (dk_at dksL_law_24 18 rfl rfl)
theorem dL_law_621 : decode cL_law 621 = .ok (.aload_n 3, 1) := dk_45 (dk_at dksL_law_24 19 rfl rfl)
theorem dL_law_622 : decode cL_law 622 = .ok (.invokestatic 97, 3) := dk_184 0 97 (dk_at dksL_law_24 20 rfl rfl)
theorem dL_law_625 : decode cL_law 625 = .ok (.istore 5, 2) := dk_54 5 (dk_at dksL_law_25 0 rfl rfl)
theorem dL_law_627 : decode cL_law 627 = .ok (.aload_n 2, 1) := dk_44 (dk_at dksL_law_25 2 rfl rfl)
theorem dL_law_628 : decode cL_law 628 = .ok (.aload_n 0, 1) := dk_42 (dk_at dksL_law_25 3 rfl rfl)
theorem dL_law_629 : decode cL_law 629 = .ok (.iload 4, 2) := dk_21 4 (dk_at dksL_law_25 4 rfl rfl)
theorem dL_law_631 : decode cL_law 631 = .ok (.iconst 1, 1) := dk_4 (dk_at dksL_law_25 6 rfl rfl)
theorem dL_law_632 : decode cL_law 632 = .ok (.iadd, 1) := dk_96 (dk_at dksL_law_25 7 rfl rfl)
theorem dL_law_633 : decode cL_law 633 = .ok (.iaload, 1) := dk_46 (dk_at dksL_law_25 8 rfl rfl)
theorem dL_law_634 : decode cL_law 634 = .ok (.invokevirtual 99, 3) := dk_182 0 99 (dk_at dksL_law_25 9 rfl rfl)
theorem dL_law_637 : decode cL_law 637 = .ok (.istore 6, 2) := dk_54 6 (dk_at dksL_law_25 12 rfl rfl)
theorem dL_law_639 : decode cL_law 639 = .ok (.aload_n 2, 1) := dk_44 (dk_at dksL_law_25 14 rfl rfl)
theorem dL_law_640 : decode cL_law 640 = .ok (.invokevirtual 64, 3) := dk_182 0 64 (dk_at dksL_law_25 15 rfl rfl)
theorem dL_law_643 : decode cL_law 643 = .ok (.iload 5, 2) := dk_21 5 (dk_at dksL_law_25 18 rfl rfl)
theorem dL_law_645 : decode cL_law 645 = .ok (.if_icmp .eq 5, 3) := dk_159 0 5 (dk_at dksL_law_25 20 rfl rfl)
theorem dL_law_648 : decode cL_law 648 = .ok (.iconst 0, 1) := dk_3 (dk_at dksL_law_25 23 rfl rfl)
theorem dL_law_649 : decode cL_law 649 = .ok (.ireturn, 1) := dk_172 (dk_at dksL_law_26 0 rfl rfl)
theorem dL_law_650 : decode cL_law 650 = .ok (.iload 5, 2) := dk_21 5 (dk_at dksL_law_26 1 rfl rfl)
theorem dL_law_652 : decode cL_law 652 = .ok (.ifCond .ne 15, 3) := dk_154 0 15 (dk_at dksL_law_26 3 rfl rfl)
theorem dL_law_655 : decode cL_law 655 = .ok (.aload_n 3, 1) := dk_45 (dk_at dksL_law_26 6 rfl rfl)
theorem dL_law_656 : decode cL_law 656 = .ok (.iconst 0, 1) := dk_3 (dk_at dksL_law_26 7 rfl rfl)
theorem dL_law_657 : decode cL_law 657 = .ok (.laload, 1) := dk_47 (dk_at dksL_law_26 8 rfl rfl)
theorem dL_law_658 : decode cL_law 658 = .ok (.iload 6, 2) := dk_21 6 (dk_at dksL_law_26 9 rfl rfl)
theorem dL_law_660 : decode cL_law 660 = .ok (.i2l, 1) := dk_133 (dk_at dksL_law_26 11 rfl rfl)
theorem dL_law_661 : decode cL_law 661 = .ok (.lcmp, 1) := dk_148 (dk_at dksL_law_26 12 rfl rfl)
theorem dL_law_662 : decode cL_law 662 = .ok (.ifCond .eq 5, 3) := dk_153 0 5 (dk_at dksL_law_26 13 rfl rfl)
theorem dL_law_665 : decode cL_law 665 = .ok (.iconst 0, 1) := dk_3 (dk_at dksL_law_26 16 rfl rfl)
theorem dL_law_666 : decode cL_law 666 = .ok (.ireturn, 1) := dk_172 (dk_at dksL_law_26 17 rfl rfl)
theorem dL_law_667 : decode cL_law 667 = .ok (.goto 294, 3) := dk_167 1 38 (dk_at dksL_law_26 18 rfl rfl)
theorem dL_law_670 : decode cL_law 670 = .ok (.aload_n 1, 1) := dk_43 (dk_at dksL_law_26 21 rfl rfl)
theorem dL_law_671 : decode cL_law 671 = .ok (.aload_n 0, 1) := dk_42 (dk_at dksL_law_26 22 rfl rfl)
theorem dL_law_672 : decode cL_law 672 = .ok (.iload 4, 2) := dk_21 4 (dk_at dksL_law_27 0 rfl rfl)
theorem dL_law_674 : decode cL_law 674 = .ok (.iconst 1, 1) := dk_4 (dk_at dksL_law_27 2 rfl rfl)
theorem dL_law_675 : decode cL_law 675 = .ok (.iadd, 1) := dk_96 (dk_at dksL_law_27 3 rfl rfl)
theorem dL_law_676 : decode cL_law 676 = .ok (.iaload, 1) := dk_46 (dk_at dksL_law_27 4 rfl rfl)
theorem dL_law_677 : decode cL_law 677 = .ok (.aload_n 3, 1) := dk_45 (dk_at dksL_law_27 5 rfl rfl)
theorem dL_law_678 : decode cL_law 678 = .ok (.invokestatic 100, 3) := dk_184 0 100 (dk_at dksL_law_27 6 rfl rfl)
theorem dL_law_681 : decode cL_law 681 = .ok (.istore 5, 2) := dk_54 5 (dk_at dksL_law_27 9 rfl rfl)
theorem dL_law_683 : decode cL_law 683 = .ok (.aload_n 2, 1) := dk_44 (dk_at dksL_law_27 11 rfl rfl)
theorem dL_law_684 : decode cL_law 684 = .ok (.aload_n 0, 1) := dk_42 (dk_at dksL_law_27 12 rfl rfl)
theorem dL_law_685 : decode cL_law 685 = .ok (.iload 4, 2) := dk_21 4 (dk_at dksL_law_27 13 rfl rfl)
theorem dL_law_687 : decode cL_law 687 = .ok (.iconst 1, 1) := dk_4 (dk_at dksL_law_27 15 rfl rfl)
theorem dL_law_688 : decode cL_law 688 = .ok (.iadd, 1) := dk_96 (dk_at dksL_law_27 16 rfl rfl)
theorem dL_law_689 : decode cL_law 689 = .ok (.iaload, 1) := dk_46 (dk_at dksL_law_27 17 rfl rfl)
theorem dL_law_690 : decode cL_law 690 = .ok (.invokevirtual 102, 3) := dk_182 0 102 (dk_at dksL_law_27 18 rfl rfl)
theorem dL_law_693 : decode cL_law 693 = .ok (.istore 6, 2) := dk_54 6 (dk_at dksL_law_27 21 rfl rfl)
theorem dL_law_695 : decode cL_law 695 = .ok (.aload_n 2, 1) := dk_44 (dk_at dksL_law_27 23 rfl rfl)
theorem dL_law_696 : decode cL_law 696 = .ok (.invokevirtual 64, 3) := dk_182 0 64 (dk_at dksL_law_28 0 rfl rfl)
theorem dL_law_699 : decode cL_law 699 = .ok (.iload 5, 2) := dk_21 5 (dk_at dksL_law_28 3 rfl rfl)
theorem dL_law_701 : decode cL_law 701 = .ok (.if_icmp .eq 5, 3) := dk_159 0 5 (dk_at dksL_law_28 5 rfl rfl)
theorem dL_law_704 : decode cL_law 704 = .ok (.iconst 0, 1) := dk_3 (dk_at dksL_law_28 8 rfl rfl)
theorem dL_law_705 : decode cL_law 705 = .ok (.ireturn, 1) := dk_172 (dk_at dksL_law_28 9 rfl rfl)
theorem dL_law_706 : decode cL_law 706 = .ok (.iload 5, 2) := dk_21 5 (dk_at dksL_law_28 10 rfl rfl)
theorem dL_law_708 : decode cL_law 708 = .ok (.ifCond .ne 15, 3) := dk_154 0 15 (dk_at dksL_law_28 12 rfl rfl)
theorem dL_law_711 : decode cL_law 711 = .ok (.aload_n 3, 1) := dk_45 (dk_at dksL_law_28 15 rfl rfl)
theorem dL_law_712 : decode cL_law 712 = .ok (.iconst 0, 1) := dk_3 (dk_at dksL_law_28 16 rfl rfl)
theorem dL_law_713 : decode cL_law 713 = .ok (.laload, 1) := dk_47 (dk_at dksL_law_28 17 rfl rfl)
theorem dL_law_714 : decode cL_law 714 = .ok (.iload 6, 2) := dk_21 6 (dk_at dksL_law_28 18 rfl rfl)
theorem dL_law_716 : decode cL_law 716 = .ok (.i2l, 1) := dk_133 (dk_at dksL_law_28 20 rfl rfl)
theorem dL_law_717 : decode cL_law 717 = .ok (.lcmp, 1) := dk_148 (dk_at dksL_law_28 21 rfl rfl)
theorem dL_law_718 : decode cL_law 718 = .ok (.ifCond .eq 5, 3) := dk_153 0 5 (dk_at dksL_law_29 0 rfl rfl)
theorem dL_law_721 : decode cL_law 721 = .ok (.iconst 0, 1) := dk_3 (dk_at dksL_law_29 3 rfl rfl)
theorem dL_law_722 : decode cL_law 722 = .ok (.ireturn, 1) := dk_172 (dk_at dksL_law_29 4 rfl rfl)
theorem dL_law_723 : decode cL_law 723 = .ok (.goto 238, 3) := dk_167 0 238 (dk_at dksL_law_29 5 rfl rfl)
theorem dL_law_726 : decode cL_law 726 = .ok (.aload_n 1, 1) := dk_43 (dk_at dksL_law_29 8 rfl rfl)
theorem dL_law_727 : decode cL_law 727 = .ok (.aload_n 0, 1) := dk_42 (dk_at dksL_law_29 9 rfl rfl)
theorem dL_law_728 : decode cL_law 728 = .ok (.iload 4, 2) := dk_21 4 (dk_at dksL_law_29 10 rfl rfl)
theorem dL_law_730 : decode cL_law 730 = .ok (.iconst 1, 1) := dk_4 (dk_at dksL_law_29 12 rfl rfl)
theorem dL_law_731 : decode cL_law 731 = .ok (.iadd, 1) := dk_96 (dk_at dksL_law_29 13 rfl rfl)
theorem dL_law_732 : decode cL_law 732 = .ok (.iaload, 1) := dk_46 (dk_at dksL_law_29 14 rfl rfl)
theorem dL_law_733 : decode cL_law 733 = .ok (.aload_n 0, 1) := dk_42 (dk_at dksL_law_29 15 rfl rfl)
theorem dL_law_734 : decode cL_law 734 = .ok (.iload 4, 2) := dk_21 4 (dk_at dksL_law_29 16 rfl rfl)
theorem dL_law_736 : decode cL_law 736 = .ok (.iconst 2, 1) := dk_5 (dk_at dksL_law_29 18 rfl rfl)
theorem dL_law_737 : decode cL_law 737 = .ok (.iadd, 1) := dk_96 (dk_at dksL_law_29 19 rfl rfl)
theorem dL_law_738 : decode cL_law 738 = .ok (.iaload, 1) := dk_46 (dk_at dksL_law_29 20 rfl rfl)
theorem dL_law_739 : decode cL_law 739 = .ok (.aload_n 3, 1) := dk_45 (dk_at dksL_law_29 21 rfl rfl)
theorem dL_law_740 : decode cL_law 740 = .ok (.invokestatic 103, 3) := dk_184 0 103 (dk_at dksL_law_30 0 rfl rfl)
theorem dL_law_743 : decode cL_law 743 = .ok (.istore 5, 2) := dk_54 5 (dk_at dksL_law_30 3 rfl rfl)
theorem dL_law_745 : decode cL_law 745 = .ok (.aload_n 2, 1) := dk_44 (dk_at dksL_law_30 5 rfl rfl)
theorem dL_law_746 : decode cL_law 746 = .ok (.aload_n 0, 1) := dk_42 (dk_at dksL_law_30 6 rfl rfl)
theorem dL_law_747 : decode cL_law 747 = .ok (.iload 4, 2) := dk_21 4 (dk_at dksL_law_30 7 rfl rfl)
theorem dL_law_749 : decode cL_law 749 = .ok (.iconst 1, 1) := dk_4 (dk_at dksL_law_30 9 rfl rfl)
theorem dL_law_750 : decode cL_law 750 = .ok (.iadd, 1) := dk_96 (dk_at dksL_law_30 10 rfl rfl)
theorem dL_law_751 : decode cL_law 751 = .ok (.iaload, 1) := dk_46 (dk_at dksL_law_30 11 rfl rfl)
theorem dL_law_752 : decode cL_law 752 = .ok (.aload_n 0, 1) := dk_42 (dk_at dksL_law_30 12 rfl rfl)
theorem dL_law_753 : decode cL_law 753 = .ok (.iload 4, 2) := dk_21 4 (dk_at dksL_law_30 13 rfl rfl)
theorem dL_law_755 : decode cL_law 755 = .ok (.iconst 2, 1) := dk_5 (dk_at dksL_law_30 15 rfl rfl)
theorem dL_law_756 : decode cL_law 756 = .ok (.iadd, 1) := dk_96 (dk_at dksL_law_30 16 rfl rfl)
theorem dL_law_757 : decode cL_law 757 = .ok (.iaload, 1) := dk_46 (dk_at dksL_law_30 17 rfl rfl)
theorem dL_law_758 : decode cL_law 758 = .ok (.invokevirtual 105, 3) := dk_182 0 105 (dk_at dksL_law_30 18 rfl rfl)
theorem dL_law_761 : decode cL_law 761 = .ok (.istore 6, 2) := dk_54 6 (dk_at dksL_law_30 21 rfl rfl)
theorem dL_law_763 : decode cL_law 763 = .ok (.aload_n 2, 1) := dk_44 (dk_at dksL_law_30 23 rfl rfl)
theorem dL_law_764 : decode cL_law 764 = .ok (.invokevirtual 64, 3) := dk_182 0 64 (dk_at dksL_law_31 0 rfl rfl)
theorem dL_law_767 : decode cL_law 767 = .ok (.iload 5, 2) := dk_21 5 (dk_at dksL_law_31 3 rfl rfl)
theorem dL_law_769 : decode cL_law 769 = .ok (.if_icmp .eq 5, 3) := dk_159 0 5 (dk_at dksL_law_31 5 rfl rfl)
theorem dL_law_772 : decode cL_law 772 = .ok (.iconst 0, 1) := dk_3 (dk_at dksL_law_31 8 rfl rfl)
theorem dL_law_773 : decode cL_law 773 = .ok (.ireturn, 1) := dk_172 (dk_at dksL_law_31 9 rfl rfl)
theorem dL_law_774 : decode cL_law 774 = .ok (.iload 5, 2) := dk_21 5 (dk_at dksL_law_31 10 rfl rfl)
theorem dL_law_776 : decode cL_law 776 = .ok (.ifCond .ne 15, 3) := dk_154 0 15 (dk_at dksL_law_31 12 rfl rfl)
theorem dL_law_779 : decode cL_law 779 = .ok (.aload_n 3, 1) := dk_45 (dk_at dksL_law_31 15 rfl rfl)
theorem dL_law_780 : decode cL_law 780 = .ok (.iconst 0, 1) := dk_3 (dk_at dksL_law_31 16 rfl rfl)
theorem dL_law_781 : decode cL_law 781 = .ok (.laload, 1) := dk_47 (dk_at dksL_law_31 17 rfl rfl)
theorem dL_law_782 : decode cL_law 782 = .ok (.iload 6, 2) := dk_21 6 (dk_at dksL_law_31 18 rfl rfl)
theorem dL_law_784 : decode cL_law 784 = .ok (.i2l, 1) := dk_133 (dk_at dksL_law_31 20 rfl rfl)
theorem dL_law_785 : decode cL_law 785 = .ok (.lcmp, 1) := dk_148 (dk_at dksL_law_31 21 rfl rfl)
theorem dL_law_786 : decode cL_law 786 = .ok (.ifCond .eq 5, 3) := dk_153 0 5 (dk_at dksL_law_32 0 rfl rfl)
theorem dL_law_789 : decode cL_law 789 = .ok (.iconst 0, 1) := dk_3 (dk_at dksL_law_32 3 rfl rfl)
theorem dL_law_790 : decode cL_law 790 = .ok (.ireturn, 1) := dk_172 (dk_at dksL_law_32 4 rfl rfl)
theorem dL_law_791 : decode cL_law 791 = .ok (.goto 170, 3) := dk_167 0 170 (dk_at dksL_law_32 5 rfl rfl)
theorem dL_law_794 : decode cL_law 794 = .ok (.aload_n 1, 1) := dk_43 (dk_at dksL_law_32 8 rfl rfl)
theorem dL_law_795 : decode cL_law 795 = .ok (.aload_n 0, 1) := dk_42 (dk_at dksL_law_32 9 rfl rfl)
theorem dL_law_796 : decode cL_law 796 = .ok (.iload 4, 2) := dk_21 4 (dk_at dksL_law_32 10 rfl rfl)
theorem dL_law_798 : decode cL_law 798 = .ok (.iconst 1, 1) := dk_4 (dk_at dksL_law_32 12 rfl rfl)
theorem dL_law_799 : decode cL_law 799 = .ok (.iadd, 1) := dk_96 (dk_at dksL_law_32 13 rfl rfl)
theorem dL_law_800 : decode cL_law 800 = .ok (.iaload, 1) := dk_46 (dk_at dksL_law_32 14 rfl rfl)
theorem dL_law_801 : decode cL_law 801 = .ok (.aload_n 3, 1) := dk_45 (dk_at dksL_law_32 15 rfl rfl)
theorem dL_law_802 : decode cL_law 802 = .ok (.invokestatic 106, 3) := dk_184 0 106 (dk_at dksL_law_32 16 rfl rfl)
theorem dL_law_805 : decode cL_law 805 = .ok (.istore 5, 2) := dk_54 5 (dk_at dksL_law_32 19 rfl rfl)
theorem dL_law_807 : decode cL_law 807 = .ok (.aload_n 2, 1) := dk_44 (dk_at dksL_law_32 21 rfl rfl)
theorem dL_law_808 : decode cL_law 808 = .ok (.aload_n 0, 1) := dk_42 (dk_at dksL_law_32 22 rfl rfl)
theorem dL_law_809 : decode cL_law 809 = .ok (.iload 4, 2) := dk_21 4 (dk_at dksL_law_33 0 rfl rfl)
theorem dL_law_811 : decode cL_law 811 = .ok (.iconst 1, 1) := dk_4 (dk_at dksL_law_33 2 rfl rfl)
theorem dL_law_812 : decode cL_law 812 = .ok (.iadd, 1) := dk_96 (dk_at dksL_law_33 3 rfl rfl)
theorem dL_law_813 : decode cL_law 813 = .ok (.iaload, 1) := dk_46 (dk_at dksL_law_33 4 rfl rfl)
theorem dL_law_814 : decode cL_law 814 = .ok (.invokevirtual 108, 3) := dk_182 0 108 (dk_at dksL_law_33 5 rfl rfl)
theorem dL_law_817 : decode cL_law 817 = .ok (.istore 6, 2) := dk_54 6 (dk_at dksL_law_33 8 rfl rfl)
theorem dL_law_819 : decode cL_law 819 = .ok (.aload_n 2, 1) := dk_44 (dk_at dksL_law_33 10 rfl rfl)
theorem dL_law_820 : decode cL_law 820 = .ok (.invokevirtual 64, 3) := dk_182 0 64 (dk_at dksL_law_33 11 rfl rfl)
theorem dL_law_823 : decode cL_law 823 = .ok (.iload 5, 2) := dk_21 5 (dk_at dksL_law_33 14 rfl rfl)
theorem dL_law_825 : decode cL_law 825 = .ok (.if_icmp .eq 5, 3) := dk_159 0 5 (dk_at dksL_law_33 16 rfl rfl)
theorem dL_law_828 : decode cL_law 828 = .ok (.iconst 0, 1) := dk_3 (dk_at dksL_law_33 19 rfl rfl)
theorem dL_law_829 : decode cL_law 829 = .ok (.ireturn, 1) := dk_172 (dk_at dksL_law_33 20 rfl rfl)
theorem dL_law_830 : decode cL_law 830 = .ok (.iload 5, 2) := dk_21 5 (dk_at dksL_law_33 21 rfl rfl)
theorem dL_law_832 : decode cL_law 832 = .ok (.ifCond .ne 15, 3) := dk_154 0 15 (dk_at dksL_law_34 0 rfl rfl)
theorem dL_law_835 : decode cL_law 835 = .ok (.aload_n 3, 1) := dk_45 (dk_at dksL_law_34 3 rfl rfl)
theorem dL_law_836 : decode cL_law 836 = .ok (.iconst 0, 1) := dk_3 (dk_at dksL_law_34 4 rfl rfl)
theorem dL_law_837 : decode cL_law 837 = .ok (.laload, 1) := dk_47 (dk_at dksL_law_34 5 rfl rfl)
theorem dL_law_838 : decode cL_law 838 = .ok (.iload 6, 2) := dk_21 6 (dk_at dksL_law_34 6 rfl rfl)
theorem dL_law_840 : decode cL_law 840 = .ok (.i2l, 1) := dk_133 (dk_at dksL_law_34 8 rfl rfl)
theorem dL_law_841 : decode cL_law 841 = .ok (.lcmp, 1) := dk_148 (dk_at dksL_law_34 9 rfl rfl)
theorem dL_law_842 : decode cL_law 842 = .ok (.ifCond .eq 5, 3) := dk_153 0 5 (dk_at dksL_law_34 10 rfl rfl)
theorem dL_law_845 : decode cL_law 845 = .ok (.iconst 0, 1) := dk_3 (dk_at dksL_law_34 13 rfl rfl)
theorem dL_law_846 : decode cL_law 846 = .ok (.ireturn, 1) := dk_172 (dk_at dksL_law_34 14 rfl rfl)
theorem dL_law_847 : decode cL_law 847 = .ok (.goto 114, 3) := dk_167 0 114 (dk_at dksL_law_34 15 rfl rfl)
theorem dL_law_850 : decode cL_law 850 = .ok (.aload_n 1, 1) := dk_43 (dk_at dksL_law_34 18 rfl rfl)
theorem dL_law_851 : decode cL_law 851 = .ok (.aload_n 0, 1) := dk_42 (dk_at dksL_law_34 19 rfl rfl)
theorem dL_law_852 : decode cL_law 852 = .ok (.iload 4, 2) := dk_21 4 (dk_at dksL_law_34 20 rfl rfl)
theorem dL_law_854 : decode cL_law 854 = .ok (.iconst 1, 1) := dk_4 (dk_at dksL_law_34 22 rfl rfl)
theorem dL_law_855 : decode cL_law 855 = .ok (.iadd, 1) := dk_96 (dk_at dksL_law_34 23 rfl rfl)
theorem dL_law_856 : decode cL_law 856 = .ok (.iaload, 1) := dk_46 (dk_at dksL_law_35 0 rfl rfl)
theorem dL_law_857 : decode cL_law 857 = .ok (.aload_n 3, 1) := dk_45 (dk_at dksL_law_35 1 rfl rfl)
theorem dL_law_858 : decode cL_law 858 = .ok (.invokestatic 109, 3) := dk_184 0 109 (dk_at dksL_law_35 2 rfl rfl)
theorem dL_law_861 : decode cL_law 861 = .ok (.istore 5, 2) := dk_54 5 (dk_at dksL_law_35 5 rfl rfl)
theorem dL_law_863 : decode cL_law 863 = .ok (.aload_n 2, 1) := dk_44 (dk_at dksL_law_35 7 rfl rfl)
theorem dL_law_864 : decode cL_law 864 = .ok (.aload_n 0, 1) := dk_42 (dk_at dksL_law_35 8 rfl rfl)
theorem dL_law_865 : decode cL_law 865 = .ok (.iload 4, 2) := dk_21 4 (dk_at dksL_law_35 9 rfl rfl)
theorem dL_law_867 : decode cL_law 867 = .ok (.iconst 1, 1) := dk_4 (dk_at dksL_law_35 11 rfl rfl)
theorem dL_law_868 : decode cL_law 868 = .ok (.iadd, 1) := dk_96 (dk_at dksL_law_35 12 rfl rfl)
theorem dL_law_869 : decode cL_law 869 = .ok (.iaload, 1) := dk_46 (dk_at dksL_law_35 13 rfl rfl)
theorem dL_law_870 : decode cL_law 870 = .ok (.invokevirtual 111, 3) := dk_182 0 111 (dk_at dksL_law_35 14 rfl rfl)
theorem dL_law_873 : decode cL_law 873 = .ok (.istore 6, 2) := dk_54 6 (dk_at dksL_law_35 17 rfl rfl)
theorem dL_law_875 : decode cL_law 875 = .ok (.aload_n 2, 1) := dk_44 (dk_at dksL_law_35 19 rfl rfl)
theorem dL_law_876 : decode cL_law 876 = .ok (.invokevirtual 64, 3) := dk_182 0 64 (dk_at dksL_law_35 20 rfl rfl)
theorem dL_law_879 : decode cL_law 879 = .ok (.iload 5, 2) := dk_21 5 (dk_at dksL_law_36 0 rfl rfl)
theorem dL_law_881 : decode cL_law 881 = .ok (.if_icmp .eq 5, 3) := dk_159 0 5 (dk_at dksL_law_36 2 rfl rfl)
theorem dL_law_884 : decode cL_law 884 = .ok (.iconst 0, 1) := dk_3 (dk_at dksL_law_36 5 rfl rfl)
theorem dL_law_885 : decode cL_law 885 = .ok (.ireturn, 1) := dk_172 (dk_at dksL_law_36 6 rfl rfl)
theorem dL_law_886 : decode cL_law 886 = .ok (.iload 5, 2) := dk_21 5 (dk_at dksL_law_36 7 rfl rfl)
theorem dL_law_888 : decode cL_law 888 = .ok (.ifCond .ne 15, 3) := dk_154 0 15 (dk_at dksL_law_36 9 rfl rfl)
theorem dL_law_891 : decode cL_law 891 = .ok (.aload_n 3, 1) := dk_45 (dk_at dksL_law_36 12 rfl rfl)
theorem dL_law_892 : decode cL_law 892 = .ok (.iconst 0, 1) := dk_3 (dk_at dksL_law_36 13 rfl rfl)
theorem dL_law_893 : decode cL_law 893 = .ok (.laload, 1) := dk_47 (dk_at dksL_law_36 14 rfl rfl)
theorem dL_law_894 : decode cL_law 894 = .ok (.iload 6, 2) := dk_21 6 (dk_at dksL_law_36 15 rfl rfl)
theorem dL_law_896 : decode cL_law 896 = .ok (.i2l, 1) := dk_133 (dk_at dksL_law_36 17 rfl rfl)
theorem dL_law_897 : decode cL_law 897 = .ok (.lcmp, 1) := dk_148 (dk_at dksL_law_36 18 rfl rfl)
theorem dL_law_898 : decode cL_law 898 = .ok (.ifCond .eq 5, 3) := dk_153 0 5 (dk_at dksL_law_36 19 rfl rfl)
theorem dL_law_901 : decode cL_law 901 = .ok (.iconst 0, 1) := dk_3 (dk_at dksL_law_36 22 rfl rfl)
theorem dL_law_902 : decode cL_law 902 = .ok (.ireturn, 1) := dk_172 (dk_at dksL_law_36 23 rfl rfl)
theorem dL_law_903 : decode cL_law 903 = .ok (.goto 58, 3) := dk_167 0 58 (dk_at dksL_law_37 0 rfl rfl)
theorem dL_law_906 : decode cL_law 906 = .ok (.aload_n 1, 1) := dk_43 (dk_at dksL_law_37 3 rfl rfl)
theorem dL_law_907 : decode cL_law 907 = .ok (.invokevirtual 112, 3) := dk_182 0 112 (dk_at dksL_law_37 4 rfl rfl)
theorem dL_law_910 : decode cL_law 910 = .ok (.dstore 5, 2) := dk_57 5 (dk_at dksL_law_37 7 rfl rfl)
theorem dL_law_912 : decode cL_law 912 = .ok (.aload_n 2, 1) := dk_44 (dk_at dksL_law_37 9 rfl rfl)
theorem dL_law_913 : decode cL_law 913 = .ok (.invokevirtual 116, 3) := dk_182 0 116 (dk_at dksL_law_37 10 rfl rfl)
theorem dL_law_916 : decode cL_law 916 = .ok (.dstore 7, 2) := dk_57 7 (dk_at dksL_law_37 13 rfl rfl)
theorem dL_law_918 : decode cL_law 918 = .ok (.dload 5, 2) := dk_24 5 (dk_at dksL_law_37 15 rfl rfl)
theorem dL_law_920 : decode cL_law 920 = .ok (.dload 7, 2) := dk_24 7 (dk_at dksL_law_37 17 rfl rfl)
theorem dL_law_922 : decode cL_law 922 = .ok (.dcmp .l, 1) := dk_151 (dk_at dksL_law_37 19 rfl rfl)
theorem dL_law_923 : decode cL_law 923 = .ok (.ifCond .eq 21, 3) := dk_153 0 21 (dk_at dksL_law_37 20 rfl rfl)
theorem dL_law_926 : decode cL_law 926 = .ok (.dload 5, 2) := dk_24 5 (dk_at dksL_law_38 0 rfl rfl)
theorem dL_law_928 : decode cL_law 928 = .ok (.dload 5, 2) := dk_24 5 (dk_at dksL_law_38 2 rfl rfl)
theorem dL_law_930 : decode cL_law 930 = .ok (.dcmp .l, 1) := dk_151 (dk_at dksL_law_38 4 rfl rfl)
theorem dL_law_931 : decode cL_law 931 = .ok (.ifCond .eq 11, 3) := dk_153 0 11 (dk_at dksL_law_38 5 rfl rfl)
theorem dL_law_934 : decode cL_law 934 = .ok (.dload 7, 2) := dk_24 7 (dk_at dksL_law_38 8 rfl rfl)
theorem dL_law_936 : decode cL_law 936 = .ok (.dload 7, 2) := dk_24 7 (dk_at dksL_law_38 10 rfl rfl)
theorem dL_law_938 : decode cL_law 938 = .ok (.dcmp .l, 1) := dk_151 (dk_at dksL_law_38 12 rfl rfl)
theorem dL_law_939 : decode cL_law 939 = .ok (.ifCond .ne 5, 3) := dk_154 0 5 (dk_at dksL_law_38 13 rfl rfl)
theorem dL_law_942 : decode cL_law 942 = .ok (.iconst 0, 1) := dk_3 (dk_at dksL_law_38 16 rfl rfl)
theorem dL_law_943 : decode cL_law 943 = .ok (.ireturn, 1) := dk_172 (dk_at dksL_law_38 17 rfl rfl)
theorem dL_law_944 : decode cL_law 944 = .ok (.goto 17, 3) := dk_167 0 17 (dk_at dksL_law_38 18 rfl rfl)
theorem dL_law_947 : decode cL_law 947 = .ok (.aload_n 1, 1) := dk_43 (dk_at dksL_law_38 21 rfl rfl)
theorem dL_law_948 : decode cL_law 948 = .ok (.invokevirtual 117, 3) := dk_182 0 117 (dk_at dksL_law_39 0 rfl rfl)
theorem dL_law_951 : decode cL_law 951 = .ok (.aload_n 2, 1) := dk_44 (dk_at dksL_law_39 3 rfl rfl)
theorem dL_law_952 : decode cL_law 952 = .ok (.invokevirtual 121, 3) := dk_182 0 121 (dk_at dksL_law_39 4 rfl rfl)
theorem dL_law_955 : decode cL_law 955 = .ok (.lcmp, 1) := dk_148 (dk_at dksL_law_39 7 rfl rfl)
theorem dL_law_956 : decode cL_law 956 = .ok (.ifCond .eq 5, 3) := dk_153 0 5 (dk_at dksL_law_39 8 rfl rfl)
theorem dL_law_959 : decode cL_law 959 = .ok (.iconst 0, 1) := dk_3 (dk_at dksL_law_39 11 rfl rfl)
theorem dL_law_960 : decode cL_law 960 = .ok (.ireturn, 1) := dk_172 (dk_at dksL_law_39 12 rfl rfl)
theorem dL_law_961 : decode cL_law 961 = .ok (.iinc 4 3, 3) := dk_132 4 3 (dk_at dksL_law_39 13 rfl rfl)
theorem dL_law_964 : decode cL_law 964 = .ok (.goto (-941), 3) := dk_167 252 83 (dk_at dksL_law_39 16 rfl rfl)
theorem dL_law_967 : decode cL_law 967 = .ok (.iconst 1, 1) := dk_4 (dk_at dksL_law_39 19 rfl rfl)
theorem dL_law_968 : decode cL_law 968 = .ok (.ireturn, 1) := dk_172 (dk_at dksL_law_39 20 rfl rfl)
