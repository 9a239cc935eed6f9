/-! TrunkYardsLaw -/
set_option maxRecDepth 100000
def RX0 : String := "TrunkYardsLaw"
abbrev cX0_wagon : ByteArray := method_3_code
def yX0_wagon : MethodName := ⟨RX0, "wagon", "(LTrunkYards;II[J)I"⟩
def dkwX0_wagon_0 : List UInt8 := [45, 3, 42, 27, 28, 182, 0, 7, 133, 80, 167, 0, 11, 58, 4, 4, 172, 58, 4, 5, 172, 3, 172]
abbrev dktX0_wagon_0 : List UInt8 := dkwX0_wagon_0 ++ []
theorem dksX0_wagon_0 : cX0_wagon.data.toList.drop 0 = dktX0_wagon_0 := by decide +kernel
theorem dX0_wagon_0 : decode cX0_wagon 0 = .ok (.aload_n 3, 1) := dk_45 (dk_at dksX0_wagon_0 0 rfl rfl)
theorem dX0_wagon_1 : decode cX0_wagon 1 = .ok (.iconst 0, 1) := dk_3 (dk_at dksX0_wagon_0 1 rfl rfl)
theorem dX0_wagon_2 : decode cX0_wagon 2 = .ok (.aload_n 0, 1) := dk_42 (dk_at dksX0_wagon_0 2 rfl rfl)
theorem dX0_wagon_3 : decode cX0_wagon 3 = .ok (.iload_n 1, 1) := dk_27 (dk_at dksX0_wagon_0 3 rfl rfl)
theorem dX0_wagon_4 : decode cX0_wagon 4 = .ok (.iload_n 2, 1) := dk_28 (dk_at dksX0_wagon_0 4 rfl rfl)
theorem dX0_wagon_5 : decode cX0_wagon 5 = .ok (.invokevirtual 7, 3) := dk_182 0 7 (dk_at dksX0_wagon_0 5 rfl rfl)
theorem dX0_wagon_8 : decode cX0_wagon 8 = .ok (.i2l, 1) := dk_133 (dk_at dksX0_wagon_0 8 rfl rfl)
theorem dX0_wagon_9 : decode cX0_wagon 9 = .ok (.lastore, 1) := dk_80 (dk_at dksX0_wagon_0 9 rfl rfl)
theorem dX0_wagon_10 : decode cX0_wagon 10 = .ok (.goto 11, 3) := dk_167 0 11 (dk_at dksX0_wagon_0 10 rfl rfl)
theorem dX0_wagon_13 : decode cX0_wagon 13 = .ok (.astore 4, 2) := dk_58 4 (dk_at dksX0_wagon_0 13 rfl rfl)
theorem dX0_wagon_15 : decode cX0_wagon 15 = .ok (.iconst 1, 1) := dk_4 (dk_at dksX0_wagon_0 15 rfl rfl)
theorem dX0_wagon_16 : decode cX0_wagon 16 = .ok (.ireturn, 1) := dk_172 (dk_at dksX0_wagon_0 16 rfl rfl)
theorem dX0_wagon_17 : decode cX0_wagon 17 = .ok (.astore 4, 2) := dk_58 4 (dk_at dksX0_wagon_0 17 rfl rfl)
theorem dX0_wagon_19 : decode cX0_wagon 19 = .ok (.iconst 2, 1) := dk_5 (dk_at dksX0_wagon_0 19 rfl rfl)
theorem dX0_wagon_20 : decode cX0_wagon 20 = .ok (.ireturn, 1) := dk_172 (dk_at dksX0_wagon_0 20 rfl rfl)
theorem dX0_wagon_21 : decode cX0_wagon 21 = .ok (.iconst 0, 1) := dk_3 (dk_at dksX0_wagon_0 21 rfl rfl)
theorem dX0_wagon_22 : decode cX0_wagon 22 = .ok (.ireturn, 1) := dk_172 (dk_at dksX0_wagon_0 22 rfl rfl)
abbrev cX0_shunt : ByteArray := method_4_code
def yX0_shunt : MethodName := ⟨RX0, "shunt", "(LTrunkYards;IIII[J)I"⟩
def dkwX0_shunt_1 : List UInt8 := [172, 3, 172]
abbrev dktX0_shunt_1 : List UInt8 := dkwX0_shunt_1 ++ []
def dkwX0_shunt_0 : List UInt8 := [25, 5, 3, 42, 27, 28, 29, 21, 4, 182, 0, 17, 133, 80, 167, 0, 11, 58, 6, 4, 172, 58, 6, 5]
abbrev dktX0_shunt_0 : List UInt8 := dkwX0_shunt_0 ++ dktX0_shunt_1
theorem dksX0_shunt_0 : cX0_shunt.data.toList.drop 0 = dktX0_shunt_0 := by decide +kernel
theorem dksX0_shunt_1 : cX0_shunt.data.toList.drop 24 = dktX0_shunt_1 := dk_seg dksX0_shunt_0 24 rfl rfl
theorem dX0_shunt_0 : decode cX0_shunt 0 = .ok (.aload 5, 2) := dk_25 5 (dk_at dksX0_shunt_0 0 rfl rfl)
theorem dX0_shunt_2 : decode cX0_shunt 2 = .ok (.iconst 0, 1) := dk_3 (dk_at dksX0_shunt_0 2 rfl rfl)
theorem dX0_shunt_3 : decode cX0_shunt 3 = .ok (.aload_n 0, 1) := dk_42 (dk_at dksX0_shunt_0 3 rfl rfl)
theorem dX0_shunt_4 : decode cX0_shunt 4 = .ok (.iload_n 1, 1) := dk_27 (dk_at dksX0_shunt_0 4 rfl rfl)
theorem dX0_shunt_5 : decode cX0_shunt 5 = .ok (.iload_n 2, 1) := dk_28 (dk_at dksX0_shunt_0 5 rfl rfl)
theorem dX0_shunt_6 : decode cX0_shunt 6 = .ok (.iload_n 3, 1) := dk_29 (dk_at dksX0_shunt_0 6 rfl rfl)
theorem dX0_shunt_7 : decode cX0_shunt 7 = .ok (.iload 4, 2) := dk_21 4 (dk_at dksX0_shunt_0 7 rfl rfl)
theorem dX0_shunt_9 : decode cX0_shunt 9 = .ok (.invokevirtual 17, 3) := dk_182 0 17 (dk_at dksX0_shunt_0 9 rfl rfl)
theorem dX0_shunt_12 : decode cX0_shunt 12 = .ok (.i2l, 1) := dk_133 (dk_at dksX0_shunt_0 12 rfl rfl)
theorem dX0_shunt_13 : decode cX0_shunt 13 = .ok (.lastore, 1) := dk_80 (dk_at dksX0_shunt_0 13 rfl rfl)
theorem dX0_shunt_14 : decode cX0_shunt 14 = .ok (.goto 11, 3) := dk_167 0 11 (dk_at dksX0_shunt_0 14 rfl rfl)
theorem dX0_shunt_17 : decode cX0_shunt 17 = .ok (.astore 6, 2) := dk_58 6 (dk_at dksX0_shunt_0 17 rfl rfl)
theorem dX0_shunt_19 : decode cX0_shunt 19 = .ok (.iconst 1, 1) := dk_4 (dk_at dksX0_shunt_0 19 rfl rfl)
theorem dX0_shunt_20 : decode cX0_shunt 20 = .ok (.ireturn, 1) := dk_172 (dk_at dksX0_shunt_0 20 rfl rfl)
theorem dX0_shunt_21 : decode cX0_shunt 21 = .ok (.astore 6, 2) := dk_58 6 (dk_at dksX0_shunt_0 21 rfl rfl)
theorem dX0_shunt_23 : decode cX0_shunt 23 = .ok (.iconst 2, 1) := dk_5 (dk_at dksX0_shunt_0 23 rfl rfl)
theorem dX0_shunt_24 : decode cX0_shunt 24 = .ok (.ireturn, 1) := dk_172 (dk_at dksX0_shunt_1 0 rfl rfl)
theorem dX0_shunt_25 : decode cX0_shunt 25 = .ok (.iconst 0, 1) := dk_3 (dk_at dksX0_shunt_1 1 rfl rfl)
theorem dX0_shunt_26 : decode cX0_shunt 26 = .ok (.ireturn, 1) := dk_172 (dk_at dksX0_shunt_1 2 rfl rfl)
abbrev cX0_wash : ByteArray := method_5_code
def yX0_wash : MethodName := ⟨RX0, "wash", "(LTrunkYards;I[J)I"⟩
def dkwX0_wash_0 : List UInt8 := [44, 3, 42, 27, 182, 0, 21, 133, 80, 167, 0, 9, 78, 4, 172, 78, 5, 172, 3, 172]
abbrev dktX0_wash_0 : List UInt8 := dkwX0_wash_0 ++ []
theorem dksX0_wash_0 : cX0_wash.data.toList.drop 0 = dktX0_wash_0 := by decide +kernel
theorem dX0_wash_0 : decode cX0_wash 0 = .ok (.aload_n 2, 1) := dk_44 (dk_at dksX0_wash_0 0 rfl rfl)
theorem dX0_wash_1 : decode cX0_wash 1 = .ok (.iconst 0, 1) := dk_3 (dk_at dksX0_wash_0 1 rfl rfl)
theorem dX0_wash_2 : decode cX0_wash 2 = .ok (.aload_n 0, 1) := dk_42 (dk_at dksX0_wash_0 2 rfl rfl)
theorem dX0_wash_3 : decode cX0_wash 3 = .ok (.iload_n 1, 1) := dk_27 (dk_at dksX0_wash_0 3 rfl rfl)
theorem dX0_wash_4 : decode cX0_wash 4 = .ok (.invokevirtual 21, 3) := dk_182 0 21 (dk_at dksX0_wash_0 4 rfl rfl)
theorem dX0_wash_7 : decode cX0_wash 7 = .ok (.i2l, 1) := dk_133 (dk_at dksX0_wash_0 7 rfl rfl)
theorem dX0_wash_8 : decode cX0_wash 8 = .ok (.lastore, 1) := dk_80 (dk_at dksX0_wash_0 8 rfl rfl)
theorem dX0_wash_9 : decode cX0_wash 9 = .ok (.goto 9, 3) := dk_167 0 9 (dk_at dksX0_wash_0 9 rfl rfl)
theorem dX0_wash_12 : decode cX0_wash 12 = .ok (.astore_n 3, 1) := dk_78 (dk_at dksX0_wash_0 12 rfl rfl)
theorem dX0_wash_13 : decode cX0_wash 13 = .ok (.iconst 1, 1) := dk_4 (dk_at dksX0_wash_0 13 rfl rfl)
theorem dX0_wash_14 : decode cX0_wash 14 = .ok (.ireturn, 1) := dk_172 (dk_at dksX0_wash_0 14 rfl rfl)
theorem dX0_wash_15 : decode cX0_wash 15 = .ok (.astore_n 3, 1) := dk_78 (dk_at dksX0_wash_0 15 rfl rfl)
theorem dX0_wash_16 : decode cX0_wash 16 = .ok (.iconst 2, 1) := dk_5 (dk_at dksX0_wash_0 16 rfl rfl)
theorem dX0_wash_17 : decode cX0_wash 17 = .ok (.ireturn, 1) := dk_172 (dk_at dksX0_wash_0 17 rfl rfl)
theorem dX0_wash_18 : decode cX0_wash 18 = .ok (.iconst 0, 1) := dk_3 (dk_at dksX0_wash_0 18 rfl rfl)
theorem dX0_wash_19 : decode cX0_wash 19 = .ok (.ireturn, 1) := dk_172 (dk_at dksX0_wash_0 19 rfl rfl)
abbrev cX0_follow : ByteArray := method_6_code
def yX0_follow : MethodName := ⟨RX0, "follow", "(LTrunkYards;II[J)I"⟩
def dkwX0_follow_1 : List UInt8 := [3, 172]
abbrev dktX0_follow_1 : List UInt8 := dkwX0_follow_1 ++ []
def dkwX0_follow_0 : List UInt8 := [45, 3, 42, 27, 28, 182, 0, 25, 153, 0, 7, 10, 167, 0, 4, 9, 80, 167, 0, 7, 58, 4, 4, 172]
abbrev dktX0_follow_0 : List UInt8 := dkwX0_follow_0 ++ dktX0_follow_1
theorem dksX0_follow_0 : cX0_follow.data.toList.drop 0 = dktX0_follow_0 := by decide +kernel
theorem dksX0_follow_1 : cX0_follow.data.toList.drop 24 = dktX0_follow_1 := dk_seg dksX0_follow_0 24 rfl rfl
theorem dX0_follow_0 : decode cX0_follow 0 = .ok (.aload_n 3, 1) := dk_45 (dk_at dksX0_follow_0 0 rfl rfl)
theorem dX0_follow_1 : decode cX0_follow 1 = .ok (.iconst 0, 1) := dk_3 (dk_at dksX0_follow_0 1 rfl rfl)
theorem dX0_follow_2 : decode cX0_follow 2 = .ok (.aload_n 0, 1) := dk_42 (dk_at dksX0_follow_0 2 rfl rfl)
theorem dX0_follow_3 : decode cX0_follow 3 = .ok (.iload_n 1, 1) := dk_27 (dk_at dksX0_follow_0 3 rfl rfl)
theorem dX0_follow_4 : decode cX0_follow 4 = .ok (.iload_n 2, 1) := dk_28 (dk_at dksX0_follow_0 4 rfl rfl)
theorem dX0_follow_5 : decode cX0_follow 5 = .ok (.invokevirtual 25, 3) := dk_182 0 25 (dk_at dksX0_follow_0 5 rfl rfl)
theorem dX0_follow_8 : decode cX0_follow 8 = .ok (.ifCond .eq 7, 3) := dk_153 0 7 (dk_at dksX0_follow_0 8 rfl rfl)
theorem dX0_follow_11 : decode cX0_follow 11 = .ok (.lconst 1, 1) := dk_10 (dk_at dksX0_follow_0 11 rfl rfl)
theorem dX0_follow_12 : decode cX0_follow 12 = .ok (.goto 4, 3) := dk_167 0 4 (dk_at dksX0_follow_0 12 rfl rfl)
theorem dX0_follow_15 : decode cX0_follow 15 = .ok (.lconst 0, 1) := dk_9 (dk_at dksX0_follow_0 15 rfl rfl)
theorem dX0_follow_16 : decode cX0_follow 16 = .ok (.lastore, 1) := dk_80 (dk_at dksX0_follow_0 16 rfl rfl)
theorem dX0_follow_17 : decode cX0_follow 17 = .ok (.goto 7, 3) := dk_167 0 7 (dk_at dksX0_follow_0 17 rfl rfl)
theorem dX0_follow_20 : decode cX0_follow 20 = .ok (.astore 4, 2) := dk_58 4 (dk_at dksX0_follow_0 20 rfl rfl)
theorem dX0_follow_22 : decode cX0_follow 22 = .ok (.iconst 1, 1) := dk_4 (dk_at dksX0_follow_0 22 rfl rfl)
theorem dX0_follow_23 : decode cX0_follow 23 = .ok (.ireturn, 1) := dk_172 (dk_at dksX0_follow_0 23 rfl rfl)
theorem dX0_follow_24 : decode cX0_follow 24 = .ok (.iconst 0, 1) := dk_3 (dk_at dksX0_follow_1 0 rfl rfl)
theorem dX0_follow_25 : decode cX0_follow 25 = .ok (.ireturn, 1) := dk_172 (dk_at dksX0_follow_1 1 rfl rfl)
abbrev cX0_on : ByteArray := method_7_code
def yX0_on : MethodName := ⟨RX0, "on", "(LTrunkYards;II[J)I"⟩
def dkwX0_on_0 : List UInt8 := [45, 3, 42, 27, 28, 182, 0, 29, 133, 80, 167, 0, 7, 58, 4, 4, 172, 3, 172]
abbrev dktX0_on_0 : List UInt8 := dkwX0_on_0 ++ []
theorem dksX0_on_0 : cX0_on.data.toList.drop 0 = dktX0_on_0 := by decide +kernel
theorem dX0_on_0 : decode cX0_on 0 = .ok (.aload_n 3, 1) := dk_45 (dk_at dksX0_on_0 0 rfl rfl)
theorem dX0_on_1 : decode cX0_on 1 = .ok (.iconst 0, 1) := dk_3 (dk_at dksX0_on_0 1 rfl rfl)
theorem dX0_on_2 : decode cX0_on 2 = .ok (.aload_n 0, 1) := dk_42 (dk_at dksX0_on_0 2 rfl rfl)
theorem dX0_on_3 : decode cX0_on 3 = .ok (.iload_n 1, 1) := dk_27 (dk_at dksX0_on_0 3 rfl rfl)
theorem dX0_on_4 : decode cX0_on 4 = .ok (.iload_n 2, 1) := dk_28 (dk_at dksX0_on_0 4 rfl rfl)
theorem dX0_on_5 : decode cX0_on 5 = .ok (.invokevirtual 29, 3) := dk_182 0 29 (dk_at dksX0_on_0 5 rfl rfl)
theorem dX0_on_8 : decode cX0_on 8 = .ok (.i2l, 1) := dk_133 (dk_at dksX0_on_0 8 rfl rfl)
theorem dX0_on_9 : decode cX0_on 9 = .ok (.lastore, 1) := dk_80 (dk_at dksX0_on_0 9 rfl rfl)
theorem dX0_on_10 : decode cX0_on 10 = .ok (.goto 7, 3) := dk_167 0 7 (dk_at dksX0_on_0 10 rfl rfl)
theorem dX0_on_13 : decode cX0_on 13 = .ok (.astore 4, 2) := dk_58 4 (dk_at dksX0_on_0 13 rfl rfl)
theorem dX0_on_15 : decode cX0_on 15 = .ok (.iconst 1, 1) := dk_4 (dk_at dksX0_on_0 15 rfl rfl)
theorem dX0_on_16 : decode cX0_on 16 = .ok (.ireturn, 1) := dk_172 (dk_at dksX0_on_0 16 rfl rfl)
theorem dX0_on_17 : decode cX0_on 17 = .ok (.iconst 0, 1) := dk_3 (dk_at dksX0_on_0 17 rfl rfl)
theorem dX0_on_18 : decode cX0_on 18 = .ok (.ireturn, 1) := dk_172 (dk_at dksX0_on_0 18 rfl rfl)
abbrev cX0_at : ByteArray := method_8_code
def yX0_at : MethodName := ⟨RX0, "at", "(LTrunkYards;III[J)I"⟩
def dkwX0_at_1 : List UInt8 := [172]
abbrev dktX0_at_1 : List UInt8 := dkwX0_at_1 ++ []
def dkwX0_at_0 : List UInt8 := [25, 4, 3, 42, 27, 28, 29, 182, 0, 32, 133, 80, 167, 0, 11, 58, 5, 4, 172, 58, 5, 5, 172, 3]
abbrev dktX0_at_0 : List UInt8 := dkwX0_at_0 ++ dktX0_at_1
theorem dksX0_at_0 : cX0_at.data.toList.drop 0 = dktX0_at_0 := by decide +kernel
theorem dksX0_at_1 : cX0_at.data.toList.drop 24 = dktX0_at_1 := dk_seg dksX0_at_0 24 rfl rfl
theorem dX0_at_0 : decode cX0_at 0 = .ok (.aload 4, 2) := dk_25 4 (dk_at dksX0_at_0 0 rfl rfl)
theorem dX0_at_2 : decode cX0_at 2 = .ok (.iconst 0, 1) := dk_3 (dk_at dksX0_at_0 2 rfl rfl)
theorem dX0_at_3 : decode cX0_at 3 = .ok (.aload_n 0, 1) := dk_42 (dk_at dksX0_at_0 3 rfl rfl)
theorem dX0_at_4 : decode cX0_at 4 = .ok (.iload_n 1, 1) := dk_27 (dk_at dksX0_at_0 4 rfl rfl)
theorem dX0_at_5 : decode cX0_at 5 = .ok (.iload_n 2, 1) := dk_28 (dk_at dksX0_at_0 5 rfl rfl)
theorem dX0_at_6 : decode cX0_at 6 = .ok (.iload_n 3, 1) := dk_29 (dk_at dksX0_at_0 6 rfl rfl)
theorem dX0_at_7 : decode cX0_at 7 = .ok (.invokevirtual 32, 3) := dk_182 0 32 (dk_at dksX0_at_0 7 rfl rfl)
theorem dX0_at_10 : decode cX0_at 10 = .ok (.i2l, 1) := dk_133 (dk_at dksX0_at_0 10 rfl rfl)
theorem dX0_at_11 : decode cX0_at 11 = .ok (.lastore, 1) := dk_80 (dk_at dksX0_at_0 11 rfl rfl)
theorem dX0_at_12 : decode cX0_at 12 = .ok (.goto 11, 3) := dk_167 0 11 (dk_at dksX0_at_0 12 rfl rfl)
theorem dX0_at_15 : decode cX0_at 15 = .ok (.astore 5, 2) := dk_58 5 (dk_at dksX0_at_0 15 rfl rfl)
theorem dX0_at_17 : decode cX0_at 17 = .ok (.iconst 1, 1) := dk_4 (dk_at dksX0_at_0 17 rfl rfl)
theorem dX0_at_18 : decode cX0_at 18 = .ok (.ireturn, 1) := dk_172 (dk_at dksX0_at_0 18 rfl rfl)
theorem dX0_at_19 : decode cX0_at 19 = .ok (.astore 5, 2) := dk_58 5 (dk_at dksX0_at_0 19 rfl rfl)
theorem dX0_at_21 : decode cX0_at 21 = .ok (.iconst 2, 1) := dk_5 (dk_at dksX0_at_0 21 rfl rfl)
theorem dX0_at_22 : decode cX0_at 22 = .ok (.ireturn, 1) := dk_172 (dk_at dksX0_at_0 22 rfl rfl)
theorem dX0_at_23 : decode cX0_at 23 = .ok (.iconst 0, 1) := dk_3 (dk_at dksX0_at_0 23 rfl rfl)
theorem dX0_at_24 : decode cX0_at 24 = .ok (.ireturn, 1) := dk_172 (dk_at dksX0_at_1 0 rfl rfl)
abbrev cX0_atByReplay : ByteArray := method_9_code
def yX0_atByReplay : MethodName := ⟨RX0, "atByReplay", "(LTrunkYards;III[J)I"⟩
def dkwX0_atByReplay_1 : List UInt8 := [172]
abbrev dktX0_atByReplay_1 : List UInt8 := dkwX0_atByReplay_1 ++ []
def dkwX0_atByReplay_0 : List UInt8 := [25, 4, 3, 42, 27, 28, 29, 182, 0, 38, 133, 80, 167, 0, 11, 58, 5, 4, 172, 58, 5, 5, 172, 3]
abbrev dktX0_atByReplay_0 : List UInt8 := dkwX0_atByReplay_0 ++ dktX0_atByReplay_1
theorem dksX0_atByReplay_0 : cX0_atByReplay.data.toList.drop 0 = dktX0_atByReplay_0 := by decide +kernel
theorem dksX0_atByReplay_1 : cX0_atByReplay.data.toList.drop 24 = dktX0_atByReplay_1 := dk_seg dksX0_atByReplay_0 24 rfl rfl
theorem dX0_atByReplay_0 : decode cX0_atByReplay 0 = .ok (.aload 4, 2) := dk_25 4 (dk_at dksX0_atByReplay_0 0 rfl rfl)
theorem dX0_atByReplay_2 : decode cX0_atByReplay 2 = .ok (.iconst 0, 1) := dk_3 (dk_at dksX0_atByReplay_0 2 rfl rfl)
theorem dX0_atByReplay_3 : decode cX0_atByReplay 3 = .ok (.aload_n 0, 1) := dk_42 (dk_at dksX0_atByReplay_0 3 rfl rfl)
theorem dX0_atByReplay_4 : decode cX0_atByReplay 4 = .ok (.iload_n 1, 1) := dk_27 (dk_at dksX0_atByReplay_0 4 rfl rfl)
theorem dX0_atByReplay_5 : decode cX0_atByReplay 5 = .ok (.iload_n 2, 1) := dk_28 (dk_at dksX0_atByReplay_0 5 rfl rfl)
theorem dX0_atByReplay_6 : decode cX0_atByReplay 6 = .ok (.iload_n 3, 1) := dk_29 (dk_at dksX0_atByReplay_0 6 rfl rfl)
theorem dX0_atByReplay_7 : decode cX0_atByReplay 7 = .ok (.invokevirtual 38, 3) := dk_182 0 38 (dk_at dksX0_atByReplay_0 7 rfl rfl)
theorem dX0_atByReplay_10 : decode cX0_atByReplay 10 = .ok (.i2l, 1) := dk_133 (dk_at dksX0_atByReplay_0 10 rfl rfl)
theorem dX0_atByReplay_11 : decode cX0_atByReplay 11 = .ok (.lastore, 1) := dk_80 (dk_at dksX0_atByReplay_0 11 rfl rfl)
theorem dX0_atByReplay_12 : decode cX0_atByReplay 12 = .ok (.goto 11, 3) := dk_167 0 11 (dk_at dksX0_atByReplay_0 12 rfl rfl)
theorem dX0_atByReplay_15 : decode cX0_atByReplay 15 = .ok (.astore 5, 2) := dk_58 5 (dk_at dksX0_atByReplay_0 15 rfl rfl)
theorem dX0_atByReplay_17 : decode cX0_atByReplay 17 = .ok (.iconst 1, 1) := dk_4 (dk_at dksX0_atByReplay_0 17 rfl rfl)
theorem dX0_atByReplay_18 : decode cX0_atByReplay 18 = .ok (.ireturn, 1) := dk_172 (dk_at dksX0_atByReplay_0 18 rfl rfl)
theorem dX0_atByReplay_19 : decode cX0_atByReplay 19 = .ok (.astore 5, 2) := dk_58 5 (dk_at dksX0_atByReplay_0 19 rfl rfl)
theorem dX0_atByReplay_21 : decode cX0_atByReplay 21 = .ok (.iconst 2, 1) := dk_5 (dk_at dksX0_atByReplay_0 21 rfl rfl)
theorem dX0_atByReplay_22 : decode cX0_atByReplay 22 = .ok (.ireturn, 1) := dk_172 (dk_at dksX0_atByReplay_0 22 rfl rfl)
theorem dX0_atByReplay_23 : decode cX0_atByReplay 23 = .ok (.iconst 0, 1) := dk_3 (dk_at dksX0_atByReplay_0 23 rfl rfl)
theorem dX0_atByReplay_24 : decode cX0_atByReplay 24 = .ok (.ireturn, 1) := dk_172 (dk_at dksX0_atByReplay_1 0 rfl rfl)
abbrev cX0_where : ByteArray := method_10_code
def yX0_where : MethodName := ⟨RX0, "where", "(LTrunkYards;I[J)I"⟩
def dkwX0_where_0 : List UInt8 := [44, 3, 42, 27, 182, 0, 41, 133, 80, 167, 0, 6, 78, 4, 172, 3, 172]
abbrev dktX0_where_0 : List UInt8 := dkwX0_where_0 ++ []
theorem dksX0_where_0 : cX0_where.data.toList.drop 0 = dktX0_where_0 := by decide +kernel
theorem dX0_where_0 : decode cX0_where 0 = .ok (.aload_n 2, 1) := dk_44 (dk_at dksX0_where_0 0 rfl rfl)
theorem dX0_where_1 : decode cX0_where 1 = .ok (.iconst 0, 1) := dk_3 (dk_at dksX0_where_0 1 rfl rfl)
theorem dX0_where_2 : decode cX0_where 2 = .ok (.aload_n 0, 1) := dk_42 (dk_at dksX0_where_0 2 rfl rfl)
theorem dX0_where_3 : decode cX0_where 3 = .ok (.iload_n 1, 1) := dk_27 (dk_at dksX0_where_0 3 rfl rfl)
theorem dX0_where_4 : decode cX0_where 4 = .ok (.invokevirtual 41, 3) := dk_182 0 41 (dk_at dksX0_where_0 4 rfl rfl)
theorem dX0_where_7 : decode cX0_where 7 = .ok (.i2l, 1) := dk_133 (dk_at dksX0_where_0 7 rfl rfl)
theorem dX0_where_8 : decode cX0_where 8 = .ok (.lastore, 1) := dk_80 (dk_at dksX0_where_0 8 rfl rfl)
theorem dX0_where_9 : decode cX0_where 9 = .ok (.goto 6, 3) := dk_167 0 6 (dk_at dksX0_where_0 9 rfl rfl)
theorem dX0_where_12 : decode cX0_where 12 = .ok (.astore_n 3, 1) := dk_78 (dk_at dksX0_where_0 12 rfl rfl)
theorem dX0_where_13 : decode cX0_where 13 = .ok (.iconst 1, 1) := dk_4 (dk_at dksX0_where_0 13 rfl rfl)
theorem dX0_where_14 : decode cX0_where 14 = .ok (.ireturn, 1) := dk_172 (dk_at dksX0_where_0 14 rfl rfl)
theorem dX0_where_15 : decode cX0_where 15 = .ok (.iconst 0, 1) := dk_3 (dk_at dksX0_where_0 15 rfl rfl)
theorem dX0_where_16 : decode cX0_where 16 = .ok (.ireturn, 1) := dk_172 (dk_at dksX0_where_0 16 rfl rfl)
abbrev cX0_carried : ByteArray := method_11_code
def yX0_carried : MethodName := ⟨RX0, "carried", "(LTrunkYards;I[J)I"⟩
def dkwX0_carried_0 : List UInt8 := [44, 3, 42, 27, 182, 0, 44, 133, 80, 167, 0, 6, 78, 4, 172, 3, 172]
abbrev dktX0_carried_0 : List UInt8 := dkwX0_carried_0 ++ []
theorem dksX0_carried_0 : cX0_carried.data.toList.drop 0 = dktX0_carried_0 := by decide +kernel
theorem dX0_carried_0 : decode cX0_carried 0 = .ok (.aload_n 2, 1) := dk_44 (dk_at dksX0_carried_0 0 rfl rfl)
theorem dX0_carried_1 : decode cX0_carried 1 = .ok (.iconst 0, 1) := dk_3 (dk_at dksX0_carried_0 1 rfl rfl)
theorem dX0_carried_2 : decode cX0_carried 2 = .ok (.aload_n 0, 1) := dk_42 (dk_at dksX0_carried_0 2 rfl rfl)
theorem dX0_carried_3 : decode cX0_carried 3 = .ok (.iload_n 1, 1) := dk_27 (dk_at dksX0_carried_0 3 rfl rfl)
theorem dX0_carried_4 : decode cX0_carried 4 = .ok (.invokevirtual 44, 3) := dk_182 0 44 (dk_at dksX0_carried_0 4 rfl rfl)
theorem dX0_carried_7 : decode cX0_carried 7 = .ok (.i2l, 1) := dk_133 (dk_at dksX0_carried_0 7 rfl rfl)
theorem dX0_carried_8 : decode cX0_carried 8 = .ok (.lastore, 1) := dk_80 (dk_at dksX0_carried_0 8 rfl rfl)
theorem dX0_carried_9 : decode cX0_carried 9 = .ok (.goto 6, 3) := dk_167 0 6 (dk_at dksX0_carried_0 9 rfl rfl)
theorem dX0_carried_12 : decode cX0_carried 12 = .ok (.astore_n 3, 1) := dk_78 (dk_at dksX0_carried_0 12 rfl rfl)
theorem dX0_carried_13 : decode cX0_carried 13 = .ok (.iconst 1, 1) := dk_4 (dk_at dksX0_carried_0 13 rfl rfl)
theorem dX0_carried_14 : decode cX0_carried 14 = .ok (.ireturn, 1) := dk_172 (dk_at dksX0_carried_0 14 rfl rfl)
theorem dX0_carried_15 : decode cX0_carried 15 = .ok (.iconst 0, 1) := dk_3 (dk_at dksX0_carried_0 15 rfl rfl)
theorem dX0_carried_16 : decode cX0_carried 16 = .ok (.ireturn, 1) := dk_172 (dk_at dksX0_carried_0 16 rfl rfl)
abbrev cX0_promised : ByteArray := method_12_code
def yX0_promised : MethodName := ⟨RX0, "promised", "(LTrunkYards;I[J)I"⟩
def dkwX0_promised_0 : List UInt8 := [44, 3, 42, 27, 182, 0, 47, 133, 80, 167, 0, 6, 78, 4, 172, 3, 172]
abbrev dktX0_promised_0 : List UInt8 := dkwX0_promised_0 ++ []
theorem dksX0_promised_0 : cX0_promised.data.toList.drop 0 = dktX0_promised_0 := by decide +kernel
theorem dX0_promised_0 : decode cX0_promised 0 = .ok (.aload_n 2, 1) := dk_44 (dk_at dksX0_promised_0 0 rfl rfl)
theorem dX0_promised_1 : decode cX0_promised 1 = .ok (.iconst 0, 1) := dk_3 (dk_at dksX0_promised_0 1 rfl rfl)
theorem dX0_promised_2 : decode cX0_promised 2 = .ok (.aload_n 0, 1) := dk_42 (dk_at dksX0_promised_0 2 rfl rfl)
theorem dX0_promised_3 : decode cX0_promised 3 = .ok (.iload_n 1, 1) := dk_27 (dk_at dksX0_promised_0 3 rfl rfl)
theorem dX0_promised_4 : decode cX0_promised 4 = .ok (.invokevirtual 47, 3) := dk_182 0 47 (dk_at dksX0_promised_0 4 rfl rfl)
theorem dX0_promised_7 : decode cX0_promised 7 = .ok (.i2l, 1) := dk_133 (dk_at dksX0_promised_0 7 rfl rfl)
theorem dX0_promised_8 : decode cX0_promised 8 = .ok (.lastore, 1) := dk_80 (dk_at dksX0_promised_0 8 rfl rfl)
theorem dX0_promised_9 : decode cX0_promised 9 = .ok (.goto 6, 3) := dk_167 0 6 (dk_at dksX0_promised_0 9 rfl rfl)
theorem dX0_promised_12 : decode cX0_promised 12 = .ok (.astore_n 3, 1) := dk_78 (dk_at dksX0_promised_0 12 rfl rfl)
theorem dX0_promised_13 : decode cX0_promised 13 = .ok (.iconst 1, 1) := dk_4 (dk_at dksX0_promised_0 13 rfl rfl)
theorem dX0_promised_14 : decode cX0_promised 14 = .ok (.ireturn, 1) := dk_172 (dk_at dksX0_promised_0 14 rfl rfl)
theorem dX0_promised_15 : decode cX0_promised 15 = .ok (.iconst 0, 1) := dk_3 (dk_at dksX0_promised_0 15 rfl rfl)
theorem dX0_promised_16 : decode cX0_promised 16 = .ok (.ireturn, 1) := dk_172 (dk_at dksX0_promised_0 16 rfl rfl)
abbrev cX0_call : ByteArray := method_13_code
def yX0_call : MethodName := ⟨RX0, "call", "(LTrunkYards;II[J)I"⟩
def dkwX0_call_0 : List UInt8 := [45, 3, 42, 27, 28, 182, 0, 50, 133, 80, 167, 0, 11, 58, 4, 4, 172, 58, 4, 5, 172, 3, 172]
abbrev dktX0_call_0 : List UInt8 := dkwX0_call_0 ++ []
theorem dksX0_call_0 : cX0_call.data.toList.drop 0 = dktX0_call_0 := by decide +kernel
theorem dX0_call_0 : decode cX0_call 0 = .ok (.aload_n 3, 1) := dk_45 (dk_at dksX0_call_0 0 rfl rfl)
theorem dX0_call_1 : decode cX0_call 1 = .ok (.iconst 0, 1) := dk_3 (dk_at dksX0_call_0 1 rfl rfl)
theorem dX0_call_2 : decode cX0_call 2 = .ok (.aload_n 0, 1) := dk_42 (dk_at dksX0_call_0 2 rfl rfl)
theorem dX0_call_3 : decode cX0_call 3 = .ok (.iload_n 1, 1) := dk_27 (dk_at dksX0_call_0 3 rfl rfl)
theorem dX0_call_4 : decode cX0_call 4 = .ok (.iload_n 2, 1) := dk_28 (dk_at dksX0_call_0 4 rfl rfl)
theorem dX0_call_5 : decode cX0_call 5 = .ok (.invokevirtual 50, 3) := dk_182 0 50 (dk_at dksX0_call_0 5 rfl rfl)
theorem dX0_call_8 : decode cX0_call 8 = .ok (.i2l, 1) := dk_133 (dk_at dksX0_call_0 8 rfl rfl)
theorem dX0_call_9 : decode cX0_call 9 = .ok (.lastore, 1) := dk_80 (dk_at dksX0_call_0 9 rfl rfl)
theorem dX0_call_10 : decode cX0_call 10 = .ok (.goto 11, 3) := dk_167 0 11 (dk_at dksX0_call_0 10 rfl rfl)
theorem dX0_call_13 : decode cX0_call 13 = .ok (.astore 4, 2) := dk_58 4 (dk_at dksX0_call_0 13 rfl rfl)
theorem dX0_call_15 : decode cX0_call 15 = .ok (.iconst 1, 1) := dk_4 (dk_at dksX0_call_0 15 rfl rfl)
theorem dX0_call_16 : decode cX0_call 16 = .ok (.ireturn, 1) := dk_172 (dk_at dksX0_call_0 16 rfl rfl)
theorem dX0_call_17 : decode cX0_call 17 = .ok (.astore 4, 2) := dk_58 4 (dk_at dksX0_call_0 17 rfl rfl)
theorem dX0_call_19 : decode cX0_call 19 = .ok (.iconst 2, 1) := dk_5 (dk_at dksX0_call_0 19 rfl rfl)
theorem dX0_call_20 : decode cX0_call 20 = .ok (.ireturn, 1) := dk_172 (dk_at dksX0_call_0 20 rfl rfl)
theorem dX0_call_21 : decode cX0_call 21 = .ok (.iconst 0, 1) := dk_3 (dk_at dksX0_call_0 21 rfl rfl)
theorem dX0_call_22 : decode cX0_call 22 = .ok (.ireturn, 1) := dk_172 (dk_at dksX0_call_0 22 rfl rfl)
abbrev cX0_ask : ByteArray := method_14_code
def yX0_ask : MethodName := ⟨RX0, "ask", "(LTrunkYards;II[J)I"⟩
def dkwX0_ask_1 : List UInt8 := [172, 3, 172]
abbrev dktX0_ask_1 : List UInt8 := dkwX0_ask_1 ++ []
def dkwX0_ask_0 : List UInt8 := [45, 3, 42, 27, 28, 182, 0, 53, 133, 80, 167, 0, 15, 58, 4, 4, 172, 58, 4, 5, 172, 58, 4, 6]
abbrev dktX0_ask_0 : List UInt8 := dkwX0_ask_0 ++ dktX0_ask_1
theorem dksX0_ask_0 : cX0_ask.data.toList.drop 0 = dktX0_ask_0 := by decide +kernel
theorem dksX0_ask_1 : cX0_ask.data.toList.drop 24 = dktX0_ask_1 := dk_seg dksX0_ask_0 24 rfl rfl
theorem dX0_ask_0 : decode cX0_ask 0 = .ok (.aload_n 3, 1) := dk_45 (dk_at dksX0_ask_0 0 rfl rfl)
theorem dX0_ask_1 : decode cX0_ask 1 = .ok (.iconst 0, 1) := dk_3 (dk_at dksX0_ask_0 1 rfl rfl)
theorem dX0_ask_2 : decode cX0_ask 2 = .ok (.aload_n 0, 1) := dk_42 (dk_at dksX0_ask_0 2 rfl rfl)
theorem dX0_ask_3 : decode cX0_ask 3 = .ok (.iload_n 1, 1) := dk_27 (dk_at dksX0_ask_0 3 rfl rfl)
theorem dX0_ask_4 : decode cX0_ask 4 = .ok (.iload_n 2, 1) := dk_28 (dk_at dksX0_ask_0 4 rfl rfl)
theorem dX0_ask_5 : decode cX0_ask 5 = .ok (.invokevirtual 53, 3) := dk_182 0 53 (dk_at dksX0_ask_0 5 rfl rfl)
theorem dX0_ask_8 : decode cX0_ask 8 = .ok (.i2l, 1) := dk_133 (dk_at dksX0_ask_0 8 rfl rfl)
theorem dX0_ask_9 : decode cX0_ask 9 = .ok (.lastore, 1) := dk_80 (dk_at dksX0_ask_0 9 rfl rfl)
theorem dX0_ask_10 : decode cX0_ask 10 = .ok (.goto 15, 3) := dk_167 0 15 (dk_at dksX0_ask_0 10 rfl rfl)
theorem dX0_ask_13 : decode cX0_ask 13 = .ok (.astore 4, 2) := dk_58 4 (dk_at dksX0_ask_0 13 rfl rfl)
theorem dX0_ask_15 : decode cX0_ask 15 = .ok (.iconst 1, 1) := dk_4 (dk_at dksX0_ask_0 15 rfl rfl)
theorem dX0_ask_16 : decode cX0_ask 16 = .ok (.ireturn, 1) := dk_172 (dk_at dksX0_ask_0 16 rfl rfl)
theorem dX0_ask_17 : decode cX0_ask 17 = .ok (.astore 4, 2) := dk_58 4 (dk_at dksX0_ask_0 17 rfl rfl)
theorem dX0_ask_19 : decode cX0_ask 19 = .ok (.iconst 2, 1) := dk_5 (dk_at dksX0_ask_0 19 rfl rfl)
theorem dX0_ask_20 : decode cX0_ask 20 = .ok (.ireturn, 1) := dk_172 (dk_at dksX0_ask_0 20 rfl rfl)
theorem dX0_ask_21 : decode cX0_ask 21 = .ok (.astore 4, 2) := dk_58 4 (dk_at dksX0_ask_0 21 rfl rfl)
theorem dX0_ask_23 : decode cX0_ask 23 = .ok (.iconst 3, 1) := dk_6 (dk_at dksX0_ask_0 23 rfl rfl)
theorem dX0_ask_24 : decode cX0_ask 24 = .ok (.ireturn, 1) := dk_172 (dk_at dksX0_ask_1 0 rfl rfl)
theorem dX0_ask_25 : decode cX0_ask 25 = .ok (.iconst 0, 1) := dk_3 (dk_at dksX0_ask_1 1 rfl rfl)
theorem dX0_ask_26 : decode cX0_ask 26 = .ok (.ireturn, 1) := dk_172 (dk_at dksX0_ask_1 2 rfl rfl)
abbrev cX0_confirm : ByteArray := method_15_code
def yX0_confirm : MethodName := ⟨RX0, "confirm", "(LTrunkYards;I[J)I"⟩
def dkwX0_confirm_0 : List UInt8 := [44, 3, 42, 27, 182, 0, 56, 133, 80, 167, 0, 9, 78, 4, 172, 78, 5, 172, 3, 172]
abbrev dktX0_confirm_0 : List UInt8 := dkwX0_confirm_0 ++ []
theorem dksX0_confirm_0 : cX0_confirm.data.toList.drop 0 = dktX0_confirm_0 := by decide +kernel
theorem dX0_confirm_0 : decode cX0_confirm 0 = .ok (.aload_n 2, 1) := dk_44 (dk_at dksX0_confirm_0 0 rfl rfl)
theorem dX0_confirm_1 : decode cX0_confirm 1 = .ok (.iconst 0, 1) := dk_3 (dk_at dksX0_confirm_0 1 rfl rfl)
theorem dX0_confirm_2 : decode cX0_confirm 2 = .ok (.aload_n 0, 1) := dk_42 (dk_at dksX0_confirm_0 2 rfl rfl)
theorem dX0_confirm_3 : decode cX0_confirm 3 = .ok (.iload_n 1, 1) := dk_27 (dk_at dksX0_confirm_0 3 rfl rfl)
theorem dX0_confirm_4 : decode cX0_confirm 4 = .ok (.invokevirtual 56, 3) := dk_182 0 56 (dk_at dksX0_confirm_0 4 rfl rfl)
theorem dX0_confirm_7 : decode cX0_confirm 7 = .ok (.i2l, 1) := dk_133 (dk_at dksX0_confirm_0 7 rfl rfl)
theorem dX0_confirm_8 : decode cX0_confirm 8 = .ok (.lastore, 1) := dk_80 (dk_at dksX0_confirm_0 8 rfl rfl)
theorem dX0_confirm_9 : decode cX0_confirm 9 = .ok (.goto 9, 3) := dk_167 0 9 (dk_at dksX0_confirm_0 9 rfl rfl)
theorem dX0_confirm_12 : decode cX0_confirm 12 = .ok (.astore_n 3, 1) := dk_78 (dk_at dksX0_confirm_0 12 rfl rfl)
theorem dX0_confirm_13 : decode cX0_confirm 13 = .ok (.iconst 1, 1) := dk_4 (dk_at dksX0_confirm_0 13 rfl rfl)
theorem dX0_confirm_14 : decode cX0_confirm 14 = .ok (.ireturn, 1) := dk_172 (dk_at dksX0_confirm_0 14 rfl rfl)
theorem dX0_confirm_15 : decode cX0_confirm 15 = .ok (.astore_n 3, 1) := dk_78 (dk_at dksX0_confirm_0 15 rfl rfl)
theorem dX0_confirm_16 : decode cX0_confirm 16 = .ok (.iconst 2, 1) := dk_5 (dk_at dksX0_confirm_0 16 rfl rfl)
theorem dX0_confirm_17 : decode cX0_confirm 17 = .ok (.ireturn, 1) := dk_172 (dk_at dksX0_confirm_0 17 rfl rfl)
theorem dX0_confirm_18 : decode cX0_confirm 18 = .ok (.iconst 0, 1) := dk_3 (dk_at dksX0_confirm_0 18 rfl rfl)
theorem dX0_confirm_19 : decode cX0_confirm 19 = .ok (.ireturn, 1) := dk_172 (dk_at dksX0_confirm_0 19 rfl rfl)
abbrev cX0_resume : ByteArray := method_16_code
def yX0_resume : MethodName := ⟨RX0, "resume", "(LTrunkYards;II[J)I"⟩
def dkwX0_resume_0 : List UInt8 := [45, 3, 42, 27, 28, 182, 0, 59, 133, 80, 167, 0, 11, 58, 4, 4, 172, 58, 4, 5, 172, 3, 172]
abbrev dktX0_resume_0 : List UInt8 := dkwX0_resume_0 ++ []
theorem dksX0_resume_0 : cX0_resume.data.toList.drop 0 = dktX0_resume_0 := by decide +kernel
theorem dX0_resume_0 : decode cX0_resume 0 = .ok (.aload_n 3, 1) := dk_45 (dk_at dksX0_resume_0 0 rfl rfl)
theorem dX0_resume_1 : decode cX0_resume 1 = .ok (.iconst 0, 1) := dk_3 (dk_at dksX0_resume_0 1 rfl rfl)
theorem dX0_resume_2 : decode cX0_resume 2 = .ok (.aload_n 0, 1) := dk_42 (dk_at dksX0_resume_0 2 rfl rfl)
theorem dX0_resume_3 : decode cX0_resume 3 = .ok (.iload_n 1, 1) := dk_27 (dk_at dksX0_resume_0 3 rfl rfl)
theorem dX0_resume_4 : decode cX0_resume 4 = .ok (.iload_n 2, 1) := dk_28 (dk_at dksX0_resume_0 4 rfl rfl)
theorem dX0_resume_5 : decode cX0_resume 5 = .ok (.invokevirtual 59, 3) := dk_182 0 59 (dk_at dksX0_resume_0 5 rfl rfl)
theorem dX0_resume_8 : decode cX0_resume 8 = .ok (.i2l, 1) := dk_133 (dk_at dksX0_resume_0 8 rfl rfl)
theorem dX0_resume_9 : decode cX0_resume 9 = .ok (.lastore, 1) := dk_80 (dk_at dksX0_resume_0 9 rfl rfl)
theorem dX0_resume_10 : decode cX0_resume 10 = .ok (.goto 11, 3) := dk_167 0 11 (dk_at dksX0_resume_0 10 rfl rfl)
theorem dX0_resume_13 : decode cX0_resume 13 = .ok (.astore 4, 2) := dk_58 4 (dk_at dksX0_resume_0 13 rfl rfl)
theorem dX0_resume_15 : decode cX0_resume 15 = .ok (.iconst 1, 1) := dk_4 (dk_at dksX0_resume_0 15 rfl rfl)
theorem dX0_resume_16 : decode cX0_resume 16 = .ok (.ireturn, 1) := dk_172 (dk_at dksX0_resume_0 16 rfl rfl)
theorem dX0_resume_17 : decode cX0_resume 17 = .ok (.astore 4, 2) := dk_58 4 (dk_at dksX0_resume_0 17 rfl rfl)
theorem dX0_resume_19 : decode cX0_resume 19 = .ok (.iconst 2, 1) := dk_5 (dk_at dksX0_resume_0 19 rfl rfl)
theorem dX0_resume_20 : decode cX0_resume 20 = .ok (.ireturn, 1) := dk_172 (dk_at dksX0_resume_0 20 rfl rfl)
theorem dX0_resume_21 : decode cX0_resume 21 = .ok (.iconst 0, 1) := dk_3 (dk_at dksX0_resume_0 21 rfl rfl)
theorem dX0_resume_22 : decode cX0_resume 22 = .ok (.ireturn, 1) := dk_172 (dk_at dksX0_resume_0 22 rfl rfl)
abbrev cX0_cancel : ByteArray := method_17_code
def yX0_cancel : MethodName := ⟨RX0, "cancel", "(LTrunkYards;II[J)I"⟩
def dkwX0_cancel_0 : List UInt8 := [45, 3, 42, 27, 28, 182, 0, 62, 133, 80, 167, 0, 11, 58, 4, 4, 172, 58, 4, 5, 172, 3, 172]
abbrev dktX0_cancel_0 : List UInt8 := dkwX0_cancel_0 ++ []
theorem dksX0_cancel_0 : cX0_cancel.data.toList.drop 0 = dktX0_cancel_0 := by decide +kernel
theorem dX0_cancel_0 : decode cX0_cancel 0 = .ok (.aload_n 3, 1) := dk_45 (dk_at dksX0_cancel_0 0 rfl rfl)
theorem dX0_cancel_1 : decode cX0_cancel 1 = .ok (.iconst 0, 1) := dk_3 (dk_at dksX0_cancel_0 1 rfl rfl)
theorem dX0_cancel_2 : decode cX0_cancel 2 = .ok (.aload_n 0, 1) := dk_42 (dk_at dksX0_cancel_0 2 rfl rfl)
theorem dX0_cancel_3 : decode cX0_cancel 3 = .ok (.iload_n 1, 1) := dk_27 (dk_at dksX0_cancel_0 3 rfl rfl)
theorem dX0_cancel_4 : decode cX0_cancel 4 = .ok (.iload_n 2, 1) := dk_28 (dk_at dksX0_cancel_0 4 rfl rfl)
theorem dX0_cancel_5 : decode cX0_cancel 5 = .ok (.invokevirtual 62, 3) := dk_182 0 62 (dk_at dksX0_cancel_0 5 rfl rfl)
theorem dX0_cancel_8 : decode cX0_cancel 8 = .ok (.i2l, 1) := dk_133 (dk_at dksX0_cancel_0 8 rfl rfl)
theorem dX0_cancel_9 : decode cX0_cancel 9 = .ok (.lastore, 1) := dk_80 (dk_at dksX0_cancel_0 9 rfl rfl)
theorem dX0_cancel_10 : decode cX0_cancel 10 = .ok (.goto 11, 3) := dk_167 0 11 (dk_at dksX0_cancel_0 10 rfl rfl)
theorem dX0_cancel_13 : decode cX0_cancel 13 = .ok (.astore 4, 2) := dk_58 4 (dk_at dksX0_cancel_0 13 rfl rfl)
theorem dX0_cancel_15 : decode cX0_cancel 15 = .ok (.iconst 1, 1) := dk_4 (dk_at dksX0_cancel_0 15 rfl rfl)
theorem dX0_cancel_16 : decode cX0_cancel 16 = .ok (.ireturn, 1) := dk_172 (dk_at dksX0_cancel_0 16 rfl rfl)
theorem dX0_cancel_17 : decode cX0_cancel 17 = .ok (.astore 4, 2) := dk_58 4 (dk_at dksX0_cancel_0 17 rfl rfl)
theorem dX0_cancel_19 : decode cX0_cancel 19 = .ok (.iconst 2, 1) := dk_5 (dk_at dksX0_cancel_0 19 rfl rfl)
theorem dX0_cancel_20 : decode cX0_cancel 20 = .ok (.ireturn, 1) := dk_172 (dk_at dksX0_cancel_0 20 rfl rfl)
theorem dX0_cancel_21 : decode cX0_cancel 21 = .ok (.iconst 0, 1) := dk_3 (dk_at dksX0_cancel_0 21 rfl rfl)
theorem dX0_cancel_22 : decode cX0_cancel 22 = .ok (.ireturn, 1) := dk_172 (dk_at dksX0_cancel_0 22 rfl rfl)
abbrev cX0_hangUp : ByteArray := method_18_code
def yX0_hangUp : MethodName := ⟨RX0, "hangUp", "(LTrunkYards;I[J)I"⟩
def dkwX0_hangUp_0 : List UInt8 := [44, 3, 42, 27, 182, 0, 65, 133, 80, 167, 0, 9, 78, 4, 172, 78, 5, 172, 3, 172]
abbrev dktX0_hangUp_0 : List UInt8 := dkwX0_hangUp_0 ++ []
theorem dksX0_hangUp_0 : cX0_hangUp.data.toList.drop 0 = dktX0_hangUp_0 := by decide +kernel
theorem dX0_hangUp_0 : decode cX0_hangUp 0 = .ok (.aload_n 2, 1) := dk_44 (dk_at dksX0_hangUp_0 0 rfl rfl)
theorem dX0_hangUp_1 : decode cX0_hangUp 1 = .ok (.iconst 0, 1) := dk_3 (dk_at dksX0_hangUp_0 1 rfl rfl)
theorem dX0_hangUp_2 : decode cX0_hangUp 2 = .ok (.aload_n 0, 1) := dk_42 (dk_at dksX0_hangUp_0 2 rfl rfl)
theorem dX0_hangUp_3 : decode cX0_hangUp 3 = .ok (.iload_n 1, 1) := dk_27 (dk_at dksX0_hangUp_0 3 rfl rfl)
theorem dX0_hangUp_4 : decode cX0_hangUp 4 = .ok (.invokevirtual 65, 3) := dk_182 0 65 (dk_at dksX0_hangUp_0 4 rfl rfl)
theorem dX0_hangUp_7 : decode cX0_hangUp 7 = .ok (.i2l, 1) := dk_133 (dk_at dksX0_hangUp_0 7 rfl rfl)
theorem dX0_hangUp_8 : decode cX0_hangUp 8 = .ok (.lastore, 1) := dk_80 (dk_at dksX0_hangUp_0 8 rfl rfl)
theorem dX0_hangUp_9 : decode cX0_hangUp 9 = .ok (.goto 9, 3) := dk_167 0 9 (dk_at dksX0_hangUp_0 9 rfl rfl)
theorem dX0_hangUp_12 : decode cX0_hangUp 12 = .ok (.astore_n 3, 1) := dk_78 (dk_at dksX0_hangUp_0 12 rfl rfl)
theorem dX0_hangUp_13 : decode cX0_hangUp 13 = .ok (.iconst 1, 1) := dk_4 (dk_at dksX0_hangUp_0 13 rfl rfl)
theorem dX0_hangUp_14 : decode cX0_hangUp 14 = .ok (.ireturn, 1) := dk_172 (dk_at dksX0_hangUp_0 14 rfl rfl)
theorem dX0_hangUp_15 : decode cX0_hangUp 15 = .ok (.astore_n 3, 1) := dk_78 (dk_at dksX0_hangUp_0 15 rfl rfl)
theorem dX0_hangUp_16 : decode cX0_hangUp 16 = .ok (.iconst 2, 1) := dk_5 (dk_at dksX0_hangUp_0 16 rfl rfl)
theorem dX0_hangUp_17 : decode cX0_hangUp 17 = .ok (.ireturn, 1) := dk_172 (dk_at dksX0_hangUp_0 17 rfl rfl)
theorem dX0_hangUp_18 : decode cX0_hangUp 18 = .ok (.iconst 0, 1) := dk_3 (dk_at dksX0_hangUp_0 18 rfl rfl)
theorem dX0_hangUp_19 : decode cX0_hangUp 19 = .ok (.ireturn, 1) := dk_172 (dk_at dksX0_hangUp_0 19 rfl rfl)
abbrev cX0_callOf : ByteArray := method_19_code
def yX0_callOf : MethodName := ⟨RX0, "callOf", "(LTrunkYards;I[J)I"⟩
def dkwX0_callOf_0 : List UInt8 := [44, 3, 42, 27, 182, 0, 68, 133, 80, 167, 0, 6, 78, 4, 172, 3, 172]
abbrev dktX0_callOf_0 : List UInt8 := dkwX0_callOf_0 ++ []
theorem dksX0_callOf_0 : cX0_callOf.data.toList.drop 0 = dktX0_callOf_0 := by decide +kernel
theorem dX0_callOf_0 : decode cX0_callOf 0 = .ok (.aload_n 2, 1) := dk_44 (dk_at dksX0_callOf_0 0 rfl rfl)
theorem dX0_callOf_1 : decode cX0_callOf 1 = .ok (.iconst 0, 1) := dk_3 (dk_at dksX0_callOf_0 1 rfl rfl)
theorem dX0_callOf_2 : decode cX0_callOf 2 = .ok (.aload_n 0, 1) := dk_42 (dk_at dksX0_callOf_0 2 rfl rfl)
theorem dX0_callOf_3 : decode cX0_callOf 3 = .ok (.iload_n 1, 1) := dk_27 (dk_at dksX0_callOf_0 3 rfl rfl)
theorem dX0_callOf_4 : decode cX0_callOf 4 = .ok (.invokevirtual 68, 3) := dk_182 0 68 (dk_at dksX0_callOf_0 4 rfl rfl)
theorem dX0_callOf_7 : decode cX0_callOf 7 = .ok (.i2l, 1) := dk_133 (dk_at dksX0_callOf_0 7 rfl rfl)
theorem dX0_callOf_8 : decode cX0_callOf 8 = .ok (.lastore, 1) := dk_80 (dk_at dksX0_callOf_0 8 rfl rfl)
theorem dX0_callOf_9 : decode cX0_callOf 9 = .ok (.goto 6, 3) := dk_167 0 6 (dk_at dksX0_callOf_0 9 rfl rfl)
theorem dX0_callOf_12 : decode cX0_callOf 12 = .ok (.astore_n 3, 1) := dk_78 (dk_at dksX0_callOf_0 12 rfl rfl)
theorem dX0_callOf_13 : decode cX0_callOf 13 = .ok (.iconst 1, 1) := dk_4 (dk_at dksX0_callOf_0 13 rfl rfl)
theorem dX0_callOf_14 : decode cX0_callOf 14 = .ok (.ireturn, 1) := dk_172 (dk_at dksX0_callOf_0 14 rfl rfl)
theorem dX0_callOf_15 : decode cX0_callOf 15 = .ok (.iconst 0, 1) := dk_3 (dk_at dksX0_callOf_0 15 rfl rfl)
theorem dX0_callOf_16 : decode cX0_callOf 16 = .ok (.ireturn, 1) := dk_172 (dk_at dksX0_callOf_0 16 rfl rfl)
abbrev cX0_way : ByteArray := method_20_code
def yX0_way : MethodName := ⟨RX0, "way", "(LTrunkYards;I[J)I"⟩
def dkwX0_way_0 : List UInt8 := [44, 3, 42, 27, 182, 0, 71, 133, 80, 167, 0, 9, 78, 4, 172, 78, 5, 172, 3, 172]
abbrev dktX0_way_0 : List UInt8 := dkwX0_way_0 ++ []
theorem dksX0_way_0 : cX0_way.data.toList.drop 0 = dktX0_way_0 := by decide +kernel
theorem dX0_way_0 : decode cX0_way 0 = .ok (.aload_n 2, 1) := dk_44 (dk_at dksX0_way_0 0 rfl rfl)
theorem dX0_way_1 : decode cX0_way 1 = .ok (.iconst 0, 1) := dk_3 (dk_at dksX0_way_0 1 rfl rfl)
theorem dX0_way_2 : decode cX0_way 2 = .ok (.aload_n 0, 1) := dk_42 (dk_at dksX0_way_0 2 rfl rfl)
theorem dX0_way_3 : decode cX0_way 3 = .ok (.iload_n 1, 1) := dk_27 (dk_at dksX0_way_0 3 rfl rfl)
theorem dX0_way_4 : decode cX0_way 4 = .ok (.invokevirtual 71, 3) := dk_182 0 71 (dk_at dksX0_way_0 4 rfl rfl)
theorem dX0_way_7 : decode cX0_way 7 = .ok (.i2l, 1) := dk_133 (dk_at dksX0_way_0 7 rfl rfl)
theorem dX0_way_8 : decode cX0_way 8 = .ok (.lastore, 1) := dk_80 (dk_at dksX0_way_0 8 rfl rfl)
theorem dX0_way_9 : decode cX0_way 9 = .ok (.goto 9, 3) := dk_167 0 9 (dk_at dksX0_way_0 9 rfl rfl)
theorem dX0_way_12 : decode cX0_way 12 = .ok (.astore_n 3, 1) := dk_78 (dk_at dksX0_way_0 12 rfl rfl)
theorem dX0_way_13 : decode cX0_way 13 = .ok (.iconst 1, 1) := dk_4 (dk_at dksX0_way_0 13 rfl rfl)
theorem dX0_way_14 : decode cX0_way 14 = .ok (.ireturn, 1) := dk_172 (dk_at dksX0_way_0 14 rfl rfl)
theorem dX0_way_15 : decode cX0_way 15 = .ok (.astore_n 3, 1) := dk_78 (dk_at dksX0_way_0 15 rfl rfl)
theorem dX0_way_16 : decode cX0_way 16 = .ok (.iconst 2, 1) := dk_5 (dk_at dksX0_way_0 16 rfl rfl)
theorem dX0_way_17 : decode cX0_way 17 = .ok (.ireturn, 1) := dk_172 (dk_at dksX0_way_0 17 rfl rfl)
theorem dX0_way_18 : decode cX0_way 18 = .ok (.iconst 0, 1) := dk_3 (dk_at dksX0_way_0 18 rfl rfl)
theorem dX0_way_19 : decode cX0_way 19 = .ok (.ireturn, 1) := dk_172 (dk_at dksX0_way_0 19 rfl rfl)
abbrev cX0_cut : ByteArray := method_21_code
def yX0_cut : MethodName := ⟨RX0, "cut", "(LTrunkYards;III[J)I"⟩
def dkwX0_cut_1 : List UInt8 := [172]
abbrev dktX0_cut_1 : List UInt8 := dkwX0_cut_1 ++ []
def dkwX0_cut_0 : List UInt8 := [25, 4, 3, 42, 27, 28, 29, 182, 0, 74, 133, 80, 167, 0, 11, 58, 5, 4, 172, 58, 5, 5, 172, 3]
abbrev dktX0_cut_0 : List UInt8 := dkwX0_cut_0 ++ dktX0_cut_1
theorem dksX0_cut_0 : cX0_cut.data.toList.drop 0 = dktX0_cut_0 := by decide +kernel
theorem dksX0_cut_1 : cX0_cut.data.toList.drop 24 = dktX0_cut_1 := dk_seg dksX0_cut_0 24 rfl rfl
theorem dX0_cut_0 : decode cX0_cut 0 = .ok (.aload 4, 2) := dk_25 4 (dk_at dksX0_cut_0 0 rfl rfl)
theorem dX0_cut_2 : decode cX0_cut 2 = .ok (.iconst 0, 1) := dk_3 (dk_at dksX0_cut_0 2 rfl rfl)
theorem dX0_cut_3 : decode cX0_cut 3 = .ok (.aload_n 0, 1) := dk_42 (dk_at dksX0_cut_0 3 rfl rfl)
theorem dX0_cut_4 : decode cX0_cut 4 = .ok (.iload_n 1, 1) := dk_27 (dk_at dksX0_cut_0 4 rfl rfl)
theorem dX0_cut_5 : decode cX0_cut 5 = .ok (.iload_n 2, 1) := dk_28 (dk_at dksX0_cut_0 5 rfl rfl)
theorem dX0_cut_6 : decode cX0_cut 6 = .ok (.iload_n 3, 1) := dk_29 (dk_at dksX0_cut_0 6 rfl rfl)
theorem dX0_cut_7 : decode cX0_cut 7 = .ok (.invokevirtual 74, 3) := dk_182 0 74 (dk_at dksX0_cut_0 7 rfl rfl)
theorem dX0_cut_10 : decode cX0_cut 10 = .ok (.i2l, 1) := dk_133 (dk_at dksX0_cut_0 10 rfl rfl)
theorem dX0_cut_11 : decode cX0_cut 11 = .ok (.lastore, 1) := dk_80 (dk_at dksX0_cut_0 11 rfl rfl)
theorem dX0_cut_12 : decode cX0_cut 12 = .ok (.goto 11, 3) := dk_167 0 11 (dk_at dksX0_cut_0 12 rfl rfl)
theorem dX0_cut_15 : decode cX0_cut 15 = .ok (.astore 5, 2) := dk_58 5 (dk_at dksX0_cut_0 15 rfl rfl)
theorem dX0_cut_17 : decode cX0_cut 17 = .ok (.iconst 1, 1) := dk_4 (dk_at dksX0_cut_0 17 rfl rfl)
theorem dX0_cut_18 : decode cX0_cut 18 = .ok (.ireturn, 1) := dk_172 (dk_at dksX0_cut_0 18 rfl rfl)
theorem dX0_cut_19 : decode cX0_cut 19 = .ok (.astore 5, 2) := dk_58 5 (dk_at dksX0_cut_0 19 rfl rfl)
theorem dX0_cut_21 : decode cX0_cut 21 = .ok (.iconst 2, 1) := dk_5 (dk_at dksX0_cut_0 21 rfl rfl)
theorem dX0_cut_22 : decode cX0_cut 22 = .ok (.ireturn, 1) := dk_172 (dk_at dksX0_cut_0 22 rfl rfl)
theorem dX0_cut_23 : decode cX0_cut 23 = .ok (.iconst 0, 1) := dk_3 (dk_at dksX0_cut_0 23 rfl rfl)
theorem dX0_cut_24 : decode cX0_cut 24 = .ok (.ireturn, 1) := dk_172 (dk_at dksX0_cut_1 0 rfl rfl)
abbrev cX0_mend : ByteArray := method_22_code
def yX0_mend : MethodName := ⟨RX0, "mend", "(LTrunkYards;III)I"⟩
def dkwX0_mend_0 : List UInt8 := [42, 27, 28, 29, 182, 0, 77, 167, 0, 11, 58, 4, 4, 172, 58, 4, 5, 172, 3, 172]
abbrev dktX0_mend_0 : List UInt8 := dkwX0_mend_0 ++ []
theorem dksX0_mend_0 : cX0_mend.data.toList.drop 0 = dktX0_mend_0 := by decide +kernel
theorem dX0_mend_0 : decode cX0_mend 0 = .ok (.aload_n 0, 1) := dk_42 (dk_at dksX0_mend_0 0 rfl rfl)
theorem dX0_mend_1 : decode cX0_mend 1 = .ok (.iload_n 1, 1) := dk_27 (dk_at dksX0_mend_0 1 rfl rfl)
theorem dX0_mend_2 : decode cX0_mend 2 = .ok (.iload_n 2, 1) := dk_28 (dk_at dksX0_mend_0 2 rfl rfl)
theorem dX0_mend_3 : decode cX0_mend 3 = .ok (.iload_n 3, 1) := dk_29 (dk_at dksX0_mend_0 3 rfl rfl)
theorem dX0_mend_4 : decode cX0_mend 4 = .ok (.invokevirtual 77, 3) := dk_182 0 77 (dk_at dksX0_mend_0 4 rfl rfl)
theorem dX0_mend_7 : decode cX0_mend 7 = .ok (.goto 11, 3) := dk_167 0 11 (dk_at dksX0_mend_0 7 rfl rfl)
theorem dX0_mend_10 : decode cX0_mend 10 = .ok (.astore 4, 2) := dk_58 4 (dk_at dksX0_mend_0 10 rfl rfl)
theorem dX0_mend_12 : decode cX0_mend 12 = .ok (.iconst 1, 1) := dk_4 (dk_at dksX0_mend_0 12 rfl rfl)
theorem dX0_mend_13 : decode cX0_mend 13 = .ok (.ireturn, 1) := dk_172 (dk_at dksX0_mend_0 13 rfl rfl)
theorem dX0_mend_14 : decode cX0_mend 14 = .ok (.astore 4, 2) := dk_58 4 (dk_at dksX0_mend_0 14 rfl rfl)
theorem dX0_mend_16 : decode cX0_mend 16 = .ok (.iconst 2, 1) := dk_5 (dk_at dksX0_mend_0 16 rfl rfl)
theorem dX0_mend_17 : decode cX0_mend 17 = .ok (.ireturn, 1) := dk_172 (dk_at dksX0_mend_0 17 rfl rfl)
theorem dX0_mend_18 : decode cX0_mend 18 = .ok (.iconst 0, 1) := dk_3 (dk_at dksX0_mend_0 18 rfl rfl)
theorem dX0_mend_19 : decode cX0_mend 19 = .ok (.ireturn, 1) := dk_172 (dk_at dksX0_mend_0 19 rfl rfl)
abbrev cX0_trunk : ByteArray := method_23_code
def yX0_trunk : MethodName := ⟨RX0, "trunk", "(LTrunkYards;III[J)I"⟩
def dkwX0_trunk_0 : List UInt8 := [25, 4, 3, 42, 27, 28, 29, 182, 0, 81, 133, 80, 167, 0, 7, 58, 5, 4, 172, 3, 172]
abbrev dktX0_trunk_0 : List UInt8 := dkwX0_trunk_0 ++ []
theorem dksX0_trunk_0 : cX0_trunk.data.toList.drop 0 = dktX0_trunk_0 := by decide +kernel
theorem dX0_trunk_0 : decode cX0_trunk 0 = .ok (.aload 4, 2) := dk_25 4 (dk_at dksX0_trunk_0 0 rfl rfl)
theorem dX0_trunk_2 : decode cX0_trunk 2 = .ok (.iconst 0, 1) := dk_3 (dk_at dksX0_trunk_0 2 rfl rfl)
theorem dX0_trunk_3 : decode cX0_trunk 3 = .ok (.aload_n 0, 1) := dk_42 (dk_at dksX0_trunk_0 3 rfl rfl)
theorem dX0_trunk_4 : decode cX0_trunk 4 = .ok (.iload_n 1, 1) := dk_27 (dk_at dksX0_trunk_0 4 rfl rfl)
theorem dX0_trunk_5 : decode cX0_trunk 5 = .ok (.iload_n 2, 1) := dk_28 (dk_at dksX0_trunk_0 5 rfl rfl)
theorem dX0_trunk_6 : decode cX0_trunk 6 = .ok (.iload_n 3, 1) := dk_29 (dk_at dksX0_trunk_0 6 rfl rfl)
theorem dX0_trunk_7 : decode cX0_trunk 7 = .ok (.invokevirtual 81, 3) := dk_182 0 81 (dk_at dksX0_trunk_0 7 rfl rfl)
theorem dX0_trunk_10 : decode cX0_trunk 10 = .ok (.i2l, 1) := dk_133 (dk_at dksX0_trunk_0 10 rfl rfl)
theorem dX0_trunk_11 : decode cX0_trunk 11 = .ok (.lastore, 1) := dk_80 (dk_at dksX0_trunk_0 11 rfl rfl)
theorem dX0_trunk_12 : decode cX0_trunk 12 = .ok (.goto 7, 3) := dk_167 0 7 (dk_at dksX0_trunk_0 12 rfl rfl)
theorem dX0_trunk_15 : decode cX0_trunk 15 = .ok (.astore 5, 2) := dk_58 5 (dk_at dksX0_trunk_0 15 rfl rfl)
theorem dX0_trunk_17 : decode cX0_trunk 17 = .ok (.iconst 1, 1) := dk_4 (dk_at dksX0_trunk_0 17 rfl rfl)
theorem dX0_trunk_18 : decode cX0_trunk 18 = .ok (.ireturn, 1) := dk_172 (dk_at dksX0_trunk_0 18 rfl rfl)
theorem dX0_trunk_19 : decode cX0_trunk 19 = .ok (.iconst 0, 1) := dk_3 (dk_at dksX0_trunk_0 19 rfl rfl)
theorem dX0_trunk_20 : decode cX0_trunk 20 = .ok (.ireturn, 1) := dk_172 (dk_at dksX0_trunk_0 20 rfl rfl)
abbrev cX0_setLines : ByteArray := method_24_code
def yX0_setLines : MethodName := ⟨RX0, "setLines", "(LTrunkYards;II[J)I"⟩
def dkwX0_setLines_0 : List UInt8 := [45, 3, 42, 27, 28, 182, 0, 84, 133, 80, 167, 0, 11, 58, 4, 4, 172, 58, 4, 5, 172, 3, 172]
abbrev dktX0_setLines_0 : List UInt8 := dkwX0_setLines_0 ++ []
theorem dksX0_setLines_0 : cX0_setLines.data.toList.drop 0 = dktX0_setLines_0 := by decide +kernel
theorem dX0_setLines_0 : decode cX0_setLines 0 = .ok (.aload_n 3, 1) := dk_45 (dk_at dksX0_setLines_0 0 rfl rfl)
theorem dX0_setLines_1 : decode cX0_setLines 1 = .ok (.iconst 0, 1) := dk_3 (dk_at dksX0_setLines_0 1 rfl rfl)
theorem dX0_setLines_2 : decode cX0_setLines 2 = .ok (.aload_n 0, 1) := dk_42 (dk_at dksX0_setLines_0 2 rfl rfl)
theorem dX0_setLines_3 : decode cX0_setLines 3 = .ok (.iload_n 1, 1) := dk_27 (dk_at dksX0_setLines_0 3 rfl rfl)
theorem dX0_setLines_4 : decode cX0_setLines 4 = .ok (.iload_n 2, 1) := dk_28 (dk_at dksX0_setLines_0 4 rfl rfl)
theorem dX0_setLines_5 : decode cX0_setLines 5 = .ok (.invokevirtual 84, 3) := dk_182 0 84 (dk_at dksX0_setLines_0 5 rfl rfl)
theorem dX0_setLines_8 : decode cX0_setLines 8 = .ok (.i2l, 1) := dk_133 (dk_at dksX0_setLines_0 8 rfl rfl)
theorem dX0_setLines_9 : decode cX0_setLines 9 = .ok (.lastore, 1) := dk_80 (dk_at dksX0_setLines_0 9 rfl rfl)
theorem dX0_setLines_10 : decode cX0_setLines 10 = .ok (.goto 11, 3) := dk_167 0 11 (dk_at dksX0_setLines_0 10 rfl rfl)
theorem dX0_setLines_13 : decode cX0_setLines 13 = .ok (.astore 4, 2) := dk_58 4 (dk_at dksX0_setLines_0 13 rfl rfl)
theorem dX0_setLines_15 : decode cX0_setLines 15 = .ok (.iconst 1, 1) := dk_4 (dk_at dksX0_setLines_0 15 rfl rfl)
theorem dX0_setLines_16 : decode cX0_setLines 16 = .ok (.ireturn, 1) := dk_172 (dk_at dksX0_setLines_0 16 rfl rfl)
theorem dX0_setLines_17 : decode cX0_setLines 17 = .ok (.astore 4, 2) := dk_58 4 (dk_at dksX0_setLines_0 17 rfl rfl)
theorem dX0_setLines_19 : decode cX0_setLines 19 = .ok (.iconst 2, 1) := dk_5 (dk_at dksX0_setLines_0 19 rfl rfl)
theorem dX0_setLines_20 : decode cX0_setLines 20 = .ok (.ireturn, 1) := dk_172 (dk_at dksX0_setLines_0 20 rfl rfl)
theorem dX0_setLines_21 : decode cX0_setLines 21 = .ok (.iconst 0, 1) := dk_3 (dk_at dksX0_setLines_0 21 rfl rfl)
theorem dX0_setLines_22 : decode cX0_setLines 22 = .ok (.ireturn, 1) := dk_172 (dk_at dksX0_setLines_0 22 rfl rfl)
abbrev cX0_pass : ByteArray := method_25_code
def yX0_pass : MethodName := ⟨RX0, "pass", "(LTrunkYards;I[J)I"⟩
def dkwX0_pass_0 : List UInt8 := [44, 3, 42, 27, 182, 0, 87, 133, 80, 167, 0, 9, 78, 4, 172, 78, 5, 172, 3, 172]
abbrev dktX0_pass_0 : List UInt8 := dkwX0_pass_0 ++ []
theorem dksX0_pass_0 : cX0_pass.data.toList.drop 0 = dktX0_pass_0 := by decide +kernel
theorem dX0_pass_0 : decode cX0_pass 0 = .ok (.aload_n 2, 1) := dk_44 (dk_at dksX0_pass_0 0 rfl rfl)
theorem dX0_pass_1 : decode cX0_pass 1 = .ok (.iconst 0, 1) := dk_3 (dk_at dksX0_pass_0 1 rfl rfl)
theorem dX0_pass_2 : decode cX0_pass 2 = .ok (.aload_n 0, 1) := dk_42 (dk_at dksX0_pass_0 2 rfl rfl)
theorem dX0_pass_3 : decode cX0_pass 3 = .ok (.iload_n 1, 1) := dk_27 (dk_at dksX0_pass_0 3 rfl rfl)
theorem dX0_pass_4 : decode cX0_pass 4 = .ok (.invokevirtual 87, 3) := dk_182 0 87 (dk_at dksX0_pass_0 4 rfl rfl)
theorem dX0_pass_7 : decode cX0_pass 7 = .ok (.i2l, 1) := dk_133 (dk_at dksX0_pass_0 7 rfl rfl)
theorem dX0_pass_8 : decode cX0_pass 8 = .ok (.lastore, 1) := dk_80 (dk_at dksX0_pass_0 8 rfl rfl)
theorem dX0_pass_9 : decode cX0_pass 9 = .ok (.goto 9, 3) := dk_167 0 9 (dk_at dksX0_pass_0 9 rfl rfl)
theorem dX0_pass_12 : decode cX0_pass 12 = .ok (.astore_n 3, 1) := dk_78 (dk_at dksX0_pass_0 12 rfl rfl)
theorem dX0_pass_13 : decode cX0_pass 13 = .ok (.iconst 1, 1) := dk_4 (dk_at dksX0_pass_0 13 rfl rfl)
theorem dX0_pass_14 : decode cX0_pass 14 = .ok (.ireturn, 1) := dk_172 (dk_at dksX0_pass_0 14 rfl rfl)
theorem dX0_pass_15 : decode cX0_pass 15 = .ok (.astore_n 3, 1) := dk_78 (dk_at dksX0_pass_0 15 rfl rfl)
theorem dX0_pass_16 : decode cX0_pass 16 = .ok (.iconst 2, 1) := dk_5 (dk_at dksX0_pass_0 16 rfl rfl)
theorem dX0_pass_17 : decode cX0_pass 17 = .ok (.ireturn, 1) := dk_172 (dk_at dksX0_pass_0 17 rfl rfl)
theorem dX0_pass_18 : decode cX0_pass 18 = .ok (.iconst 0, 1) := dk_3 (dk_at dksX0_pass_0 18 rfl rfl)
theorem dX0_pass_19 : decode cX0_pass 19 = .ok (.ireturn, 1) := dk_172 (dk_at dksX0_pass_0 19 rfl rfl)
abbrev cX0_state : ByteArray := method_26_code
def yX0_state : MethodName := ⟨RX0, "state", "(LTrunkYards;I[J)I"⟩
def dkwX0_state_0 : List UInt8 := [44, 3, 42, 27, 182, 0, 90, 133, 80, 167, 0, 6, 78, 4, 172, 3, 172]
abbrev dktX0_state_0 : List UInt8 := dkwX0_state_0 ++ []
theorem dksX0_state_0 : cX0_state.data.toList.drop 0 = dktX0_state_0 := by decide +kernel
theorem dX0_state_0 : decode cX0_state 0 = .ok (.aload_n 2, 1) := dk_44 (dk_at dksX0_state_0 0 rfl rfl)
theorem dX0_state_1 : decode cX0_state 1 = .ok (.iconst 0, 1) := dk_3 (dk_at dksX0_state_0 1 rfl rfl)
theorem dX0_state_2 : decode cX0_state 2 = .ok (.aload_n 0, 1) := dk_42 (dk_at dksX0_state_0 2 rfl rfl)
theorem dX0_state_3 : decode cX0_state 3 = .ok (.iload_n 1, 1) := dk_27 (dk_at dksX0_state_0 3 rfl rfl)
theorem dX0_state_4 : decode cX0_state 4 = .ok (.invokevirtual 90, 3) := dk_182 0 90 (dk_at dksX0_state_0 4 rfl rfl)
theorem dX0_state_7 : decode cX0_state 7 = .ok (.i2l, 1) := dk_133 (dk_at dksX0_state_0 7 rfl rfl)
theorem dX0_state_8 : decode cX0_state 8 = .ok (.lastore, 1) := dk_80 (dk_at dksX0_state_0 8 rfl rfl)
theorem dX0_state_9 : decode cX0_state 9 = .ok (.goto 6, 3) := dk_167 0 6 (dk_at dksX0_state_0 9 rfl rfl)
theorem dX0_state_12 : decode cX0_state 12 = .ok (.astore_n 3, 1) := dk_78 (dk_at dksX0_state_0 12 rfl rfl)
theorem dX0_state_13 : decode cX0_state 13 = .ok (.iconst 1, 1) := dk_4 (dk_at dksX0_state_0 13 rfl rfl)
theorem dX0_state_14 : decode cX0_state 14 = .ok (.ireturn, 1) := dk_172 (dk_at dksX0_state_0 14 rfl rfl)
theorem dX0_state_15 : decode cX0_state 15 = .ok (.iconst 0, 1) := dk_3 (dk_at dksX0_state_0 15 rfl rfl)
theorem dX0_state_16 : decode cX0_state 16 = .ok (.ireturn, 1) := dk_172 (dk_at dksX0_state_0 16 rfl rfl)
abbrev cX0_wagons : ByteArray := method_27_code
def yX0_wagons : MethodName := ⟨RX0, "wagons", "(LTrunkYards;I[J)I"⟩
def dkwX0_wagons_0 : List UInt8 := [44, 3, 42, 27, 182, 0, 93, 133, 80, 167, 0, 6, 78, 4, 172, 3, 172]
abbrev dktX0_wagons_0 : List UInt8 := dkwX0_wagons_0 ++ []
theorem dksX0_wagons_0 : cX0_wagons.data.toList.drop 0 = dktX0_wagons_0 := by decide +kernel
theorem dX0_wagons_0 : decode cX0_wagons 0 = .ok (.aload_n 2, 1) := dk_44 (dk_at dksX0_wagons_0 0 rfl rfl)
theorem dX0_wagons_1 : decode cX0_wagons 1 = .ok (.iconst 0, 1) := dk_3 (dk_at dksX0_wagons_0 1 rfl rfl)
theorem dX0_wagons_2 : decode cX0_wagons 2 = .ok (.aload_n 0, 1) := dk_42 (dk_at dksX0_wagons_0 2 rfl rfl)
theorem dX0_wagons_3 : decode cX0_wagons 3 = .ok (.iload_n 1, 1) := dk_27 (dk_at dksX0_wagons_0 3 rfl rfl)
theorem dX0_wagons_4 : decode cX0_wagons 4 = .ok (.invokevirtual 93, 3) := dk_182 0 93 (dk_at dksX0_wagons_0 4 rfl rfl)
theorem dX0_wagons_7 : decode cX0_wagons 7 = .ok (.i2l, 1) := dk_133 (dk_at dksX0_wagons_0 7 rfl rfl)
theorem dX0_wagons_8 : decode cX0_wagons 8 = .ok (.lastore, 1) := dk_80 (dk_at dksX0_wagons_0 8 rfl rfl)
theorem dX0_wagons_9 : decode cX0_wagons 9 = .ok (.goto 6, 3) := dk_167 0 6 (dk_at dksX0_wagons_0 9 rfl rfl)
theorem dX0_wagons_12 : decode cX0_wagons 12 = .ok (.astore_n 3, 1) := dk_78 (dk_at dksX0_wagons_0 12 rfl rfl)
theorem dX0_wagons_13 : decode cX0_wagons 13 = .ok (.iconst 1, 1) := dk_4 (dk_at dksX0_wagons_0 13 rfl rfl)
theorem dX0_wagons_14 : decode cX0_wagons 14 = .ok (.ireturn, 1) := dk_172 (dk_at dksX0_wagons_0 14 rfl rfl)
theorem dX0_wagons_15 : decode cX0_wagons 15 = .ok (.iconst 0, 1) := dk_3 (dk_at dksX0_wagons_0 15 rfl rfl)
theorem dX0_wagons_16 : decode cX0_wagons 16 = .ok (.ireturn, 1) := dk_172 (dk_at dksX0_wagons_0 16 rfl rfl)
abbrev cX0_wagonOf : ByteArray := method_28_code
def yX0_wagonOf : MethodName := ⟨RX0, "wagonOf", "(LTrunkYards;II[J)I"⟩
def dkwX0_wagonOf_0 : List UInt8 := [45, 3, 42, 27, 28, 182, 0, 96, 133, 80, 167, 0, 7, 58, 4, 4, 172, 3, 172]
abbrev dktX0_wagonOf_0 : List UInt8 := dkwX0_wagonOf_0 ++ []
theorem dksX0_wagonOf_0 : cX0_wagonOf.data.toList.drop 0 = dktX0_wagonOf_0 := by decide +kernel
theorem dX0_wagonOf_0 : decode cX0_wagonOf 0 = .ok (.aload_n 3, 1) := dk_45 (dk_at dksX0_wagonOf_0 0 rfl rfl)
theorem dX0_wagonOf_1 : decode cX0_wagonOf 1 = .ok (.iconst 0, 1) := dk_3 (dk_at dksX0_wagonOf_0 1 rfl rfl)
theorem dX0_wagonOf_2 : decode cX0_wagonOf 2 = .ok (.aload_n 0, 1) := dk_42 (dk_at dksX0_wagonOf_0 2 rfl rfl)
theorem dX0_wagonOf_3 : decode cX0_wagonOf 3 = .ok (.iload_n 1, 1) := dk_27 (dk_at dksX0_wagonOf_0 3 rfl rfl)
theorem dX0_wagonOf_4 : decode cX0_wagonOf 4 = .ok (.iload_n 2, 1) := dk_28 (dk_at dksX0_wagonOf_0 4 rfl rfl)
theorem dX0_wagonOf_5 : decode cX0_wagonOf 5 = .ok (.invokevirtual 96, 3) := dk_182 0 96 (dk_at dksX0_wagonOf_0 5 rfl rfl)
theorem dX0_wagonOf_8 : decode cX0_wagonOf 8 = .ok (.i2l, 1) := dk_133 (dk_at dksX0_wagonOf_0 8 rfl rfl)
theorem dX0_wagonOf_9 : decode cX0_wagonOf 9 = .ok (.lastore, 1) := dk_80 (dk_at dksX0_wagonOf_0 9 rfl rfl)
theorem dX0_wagonOf_10 : decode cX0_wagonOf 10 = .ok (.goto 7, 3) := dk_167 0 7 (dk_at dksX0_wagonOf_0 10 rfl rfl)
theorem dX0_wagonOf_13 : decode cX0_wagonOf 13 = .ok (.astore 4, 2) := dk_58 4 (dk_at dksX0_wagonOf_0 13 rfl rfl)
theorem dX0_wagonOf_15 : decode cX0_wagonOf 15 = .ok (.iconst 1, 1) := dk_4 (dk_at dksX0_wagonOf_0 15 rfl rfl)
theorem dX0_wagonOf_16 : decode cX0_wagonOf 16 = .ok (.ireturn, 1) := dk_172 (dk_at dksX0_wagonOf_0 16 rfl rfl)
theorem dX0_wagonOf_17 : decode cX0_wagonOf 17 = .ok (.iconst 0, 1) := dk_3 (dk_at dksX0_wagonOf_0 17 rfl rfl)
theorem dX0_wagonOf_18 : decode cX0_wagonOf 18 = .ok (.ireturn, 1) := dk_172 (dk_at dksX0_wagonOf_0 18 rfl rfl)
abbrev cX0_lapses : ByteArray := method_29_code
def yX0_lapses : MethodName := ⟨RX0, "lapses", "(LTrunkYards;I[J)I"⟩
def dkwX0_lapses_0 : List UInt8 := [44, 3, 42, 27, 182, 0, 99, 133, 80, 167, 0, 9, 78, 4, 172, 78, 5, 172, 3, 172]
abbrev dktX0_lapses_0 : List UInt8 := dkwX0_lapses_0 ++ []
theorem dksX0_lapses_0 : cX0_lapses.data.toList.drop 0 = dktX0_lapses_0 := by decide +kernel
theorem dX0_lapses_0 : decode cX0_lapses 0 = .ok (.aload_n 2, 1) := dk_44 (dk_at dksX0_lapses_0 0 rfl rfl)
theorem dX0_lapses_1 : decode cX0_lapses 1 = .ok (.iconst 0, 1) := dk_3 (dk_at dksX0_lapses_0 1 rfl rfl)
theorem dX0_lapses_2 : decode cX0_lapses 2 = .ok (.aload_n 0, 1) := dk_42 (dk_at dksX0_lapses_0 2 rfl rfl)
theorem dX0_lapses_3 : decode cX0_lapses 3 = .ok (.iload_n 1, 1) := dk_27 (dk_at dksX0_lapses_0 3 rfl rfl)
theorem dX0_lapses_4 : decode cX0_lapses 4 = .ok (.invokevirtual 99, 3) := dk_182 0 99 (dk_at dksX0_lapses_0 4 rfl rfl)
theorem dX0_lapses_7 : decode cX0_lapses 7 = .ok (.i2l, 1) := dk_133 (dk_at dksX0_lapses_0 7 rfl rfl)
theorem dX0_lapses_8 : decode cX0_lapses 8 = .ok (.lastore, 1) := dk_80 (dk_at dksX0_lapses_0 8 rfl rfl)
theorem dX0_lapses_9 : decode cX0_lapses 9 = .ok (.goto 9, 3) := dk_167 0 9 (dk_at dksX0_lapses_0 9 rfl rfl)
theorem dX0_lapses_12 : decode cX0_lapses 12 = .ok (.astore_n 3, 1) := dk_78 (dk_at dksX0_lapses_0 12 rfl rfl)
theorem dX0_lapses_13 : decode cX0_lapses 13 = .ok (.iconst 1, 1) := dk_4 (dk_at dksX0_lapses_0 13 rfl rfl)
theorem dX0_lapses_14 : decode cX0_lapses 14 = .ok (.ireturn, 1) := dk_172 (dk_at dksX0_lapses_0 14 rfl rfl)
theorem dX0_lapses_15 : decode cX0_lapses 15 = .ok (.astore_n 3, 1) := dk_78 (dk_at dksX0_lapses_0 15 rfl rfl)
theorem dX0_lapses_16 : decode cX0_lapses 16 = .ok (.iconst 2, 1) := dk_5 (dk_at dksX0_lapses_0 16 rfl rfl)
theorem dX0_lapses_17 : decode cX0_lapses 17 = .ok (.ireturn, 1) := dk_172 (dk_at dksX0_lapses_0 17 rfl rfl)
theorem dX0_lapses_18 : decode cX0_lapses 18 = .ok (.iconst 0, 1) := dk_3 (dk_at dksX0_lapses_0 18 rfl rfl)
theorem dX0_lapses_19 : decode cX0_lapses 19 = .ok (.ireturn, 1) := dk_172 (dk_at dksX0_lapses_0 19 rfl rfl)
abbrev cX0_depart : ByteArray := method_30_code
def yX0_depart : MethodName := ⟨RX0, "depart", "(LTrunkYards;III[J)I"⟩
def dkwX0_depart_1 : List UInt8 := [172]
abbrev dktX0_depart_1 : List UInt8 := dkwX0_depart_1 ++ []
def dkwX0_depart_0 : List UInt8 := [25, 4, 3, 42, 27, 28, 29, 182, 0, 102, 133, 80, 167, 0, 11, 58, 5, 4, 172, 58, 5, 5, 172, 3]
abbrev dktX0_depart_0 : List UInt8 := dkwX0_depart_0 ++ dktX0_depart_1
theorem dksX0_depart_0 : cX0_depart.data.toList.drop 0 = dktX0_depart_0 := by decide +kernel
theorem dksX0_depart_1 : cX0_depart.data.toList.drop 24 = dktX0_depart_1 := dk_seg dksX0_depart_0 24 rfl rfl
theorem dX0_depart_0 : decode cX0_depart 0 = .ok (.aload 4, 2) := dk_25 4 (dk_at dksX0_depart_0 0 rfl rfl)
theorem dX0_depart_2 : decode cX0_depart 2 = .ok (.iconst 0, 1) := dk_3 (dk_at dksX0_depart_0 2 rfl rfl)
theorem dX0_depart_3 : decode cX0_depart 3 = .ok (.aload_n 0, 1) := dk_42 (dk_at dksX0_depart_0 3 rfl rfl)
theorem dX0_depart_4 : decode cX0_depart 4 = .ok (.iload_n 1, 1) := dk_27 (dk_at dksX0_depart_0 4 rfl rfl)
theorem dX0_depart_5 : decode cX0_depart 5 = .ok (.iload_n 2, 1) := dk_28 (dk_at dksX0_depart_0 5 rfl rfl)
theorem dX0_depart_6 : decode cX0_depart 6 = .ok (.iload_n 3, 1) := dk_29 (dk_at dksX0_depart_0 6 rfl rfl)
theorem dX0_depart_7 : decode cX0_depart 7 = .ok (.invokevirtual 102, 3) := dk_182 0 102 (dk_at dksX0_depart_0 7 rfl rfl)
theorem dX0_depart_10 : decode cX0_depart 10 = .ok (.i2l, 1) := dk_133 (dk_at dksX0_depart_0 10 rfl rfl)
theorem dX0_depart_11 : decode cX0_depart 11 = .ok (.lastore, 1) := dk_80 (dk_at dksX0_depart_0 11 rfl rfl)
theorem dX0_depart_12 : decode cX0_depart 12 = .ok (.goto 11, 3) := dk_167 0 11 (dk_at dksX0_depart_0 12 rfl rfl)
theorem dX0_depart_15 : decode cX0_depart 15 = .ok (.astore 5, 2) := dk_58 5 (dk_at dksX0_depart_0 15 rfl rfl)
theorem dX0_depart_17 : decode cX0_depart 17 = .ok (.iconst 1, 1) := dk_4 (dk_at dksX0_depart_0 17 rfl rfl)
theorem dX0_depart_18 : decode cX0_depart 18 = .ok (.ireturn, 1) := dk_172 (dk_at dksX0_depart_0 18 rfl rfl)
theorem dX0_depart_19 : decode cX0_depart 19 = .ok (.astore 5, 2) := dk_58 5 (dk_at dksX0_depart_0 19 rfl rfl)
theorem dX0_depart_21 : decode cX0_depart 21 = .ok (.iconst 2, 1) := dk_5 (dk_at dksX0_depart_0 21 rfl rfl)
theorem dX0_depart_22 : decode cX0_depart 22 = .ok (.ireturn, 1) := dk_172 (dk_at dksX0_depart_0 22 rfl rfl)
theorem dX0_depart_23 : decode cX0_depart 23 = .ok (.iconst 0, 1) := dk_3 (dk_at dksX0_depart_0 23 rfl rfl)
theorem dX0_depart_24 : decode cX0_depart 24 = .ok (.ireturn, 1) := dk_172 (dk_at dksX0_depart_1 0 rfl rfl)
abbrev cX0_arrive : ByteArray := method_31_code
def yX0_arrive : MethodName := ⟨RX0, "arrive", "(LTrunkYards;II[J)I"⟩
def dkwX0_arrive_1 : List UInt8 := [172, 3, 172]
abbrev dktX0_arrive_1 : List UInt8 := dkwX0_arrive_1 ++ []
def dkwX0_arrive_0 : List UInt8 := [45, 3, 42, 27, 28, 182, 0, 105, 133, 80, 167, 0, 15, 58, 4, 4, 172, 58, 4, 5, 172, 58, 4, 6]
abbrev dktX0_arrive_0 : List UInt8 := dkwX0_arrive_0 ++ dktX0_arrive_1
theorem dksX0_arrive_0 : cX0_arrive.data.toList.drop 0 = dktX0_arrive_0 := by decide +kernel
theorem dksX0_arrive_1 : cX0_arrive.data.toList.drop 24 = dktX0_arrive_1 := dk_seg dksX0_arrive_0 24 rfl rfl
theorem dX0_arrive_0 : decode cX0_arrive 0 = .ok (.aload_n 3, 1) := dk_45 (dk_at dksX0_arrive_0 0 rfl rfl)
theorem dX0_arrive_1 : decode cX0_arrive 1 = .ok (.iconst 0, 1) := dk_3 (dk_at dksX0_arrive_0 1 rfl rfl)
theorem dX0_arrive_2 : decode cX0_arrive 2 = .ok (.aload_n 0, 1) := dk_42 (dk_at dksX0_arrive_0 2 rfl rfl)
theorem dX0_arrive_3 : decode cX0_arrive 3 = .ok (.iload_n 1, 1) := dk_27 (dk_at dksX0_arrive_0 3 rfl rfl)
theorem dX0_arrive_4 : decode cX0_arrive 4 = .ok (.iload_n 2, 1) := dk_28 (dk_at dksX0_arrive_0 4 rfl rfl)
theorem dX0_arrive_5 : decode cX0_arrive 5 = .ok (.invokevirtual 105, 3) := dk_182 0 105 (dk_at dksX0_arrive_0 5 rfl rfl)
theorem dX0_arrive_8 : decode cX0_arrive 8 = .ok (.i2l, 1) := dk_133 (dk_at dksX0_arrive_0 8 rfl rfl)
theorem dX0_arrive_9 : decode cX0_arrive 9 = .ok (.lastore, 1) := dk_80 (dk_at dksX0_arrive_0 9 rfl rfl)
theorem dX0_arrive_10 : decode cX0_arrive 10 = .ok (.goto 15, 3) := dk_167 0 15 (dk_at dksX0_arrive_0 10 rfl rfl)
theorem dX0_arrive_13 : decode cX0_arrive 13 = .ok (.astore 4, 2) := dk_58 4 (dk_at dksX0_arrive_0 13 rfl rfl)
theorem dX0_arrive_15 : decode cX0_arrive 15 = .ok (.iconst 1, 1) := dk_4 (dk_at dksX0_arrive_0 15 rfl rfl)
theorem dX0_arrive_16 : decode cX0_arrive 16 = .ok (.ireturn, 1) := dk_172 (dk_at dksX0_arrive_0 16 rfl rfl)
theorem dX0_arrive_17 : decode cX0_arrive 17 = .ok (.astore 4, 2) := dk_58 4 (dk_at dksX0_arrive_0 17 rfl rfl)
theorem dX0_arrive_19 : decode cX0_arrive 19 = .ok (.iconst 2, 1) := dk_5 (dk_at dksX0_arrive_0 19 rfl rfl)
theorem dX0_arrive_20 : decode cX0_arrive 20 = .ok (.ireturn, 1) := dk_172 (dk_at dksX0_arrive_0 20 rfl rfl)
theorem dX0_arrive_21 : decode cX0_arrive 21 = .ok (.astore 4, 2) := dk_58 4 (dk_at dksX0_arrive_0 21 rfl rfl)
theorem dX0_arrive_23 : decode cX0_arrive 23 = .ok (.iconst 3, 1) := dk_6 (dk_at dksX0_arrive_0 23 rfl rfl)
theorem dX0_arrive_24 : decode cX0_arrive 24 = .ok (.ireturn, 1) := dk_172 (dk_at dksX0_arrive_1 0 rfl rfl)
theorem dX0_arrive_25 : decode cX0_arrive 25 = .ok (.iconst 0, 1) := dk_3 (dk_at dksX0_arrive_1 1 rfl rfl)
theorem dX0_arrive_26 : decode cX0_arrive 26 = .ok (.ireturn, 1) := dk_172 (dk_at dksX0_arrive_1 2 rfl rfl)
theorem q48 : (Jvm.Cond.initialized "TrunkYardsLaw") ∈ lw_all := lw_g (lw_at lw_m1 0 rfl) rfl
theorem q107 : (Jvm.Cond.classLink "TrunkYardsLaw" (8 : Nat) "TrunkYards") ∈ lw_all := lw_g (lw_at lw_m1 59 rfl) rfl
theorem q109 : (Jvm.Cond.methodLink "TrunkYardsLaw" (108 : Nat) ({ cls := "TrunkYards", name := "<init>", desc := "()V" } : Jvm.MethodName)) ∈ lw_all := lw_g (lw_at lw_m1 61 rfl) rfl
theorem q1232 : (Jvm.Cond.methodLink "TrunkYardsLaw" (176 : Nat) ({ cls := "TrunkYards", name := "busy", desc := "()I" } : Jvm.MethodName)) ∈ lw_all := lw_g (lw_at lw_m5 224 rfl) rfl
theorem q1236 : (Jvm.Cond.methodLink "TrunkYardsLaw" (196 : Nat) ({ cls := "TrunkYards", name := "bookings", desc := "()I" } : Jvm.MethodName)) ∈ lw_all := lw_g (lw_at lw_m5 228 rfl) rfl
theorem q1244 : (Jvm.Cond.methodLink "TrunkYardsLaw" (218 : Nat) ({ cls := "TrunkYards", name := "trains", desc := "()I" } : Jvm.MethodName)) ∈ lw_all := lw_g (lw_at lw_m5 236 rfl) rfl
theorem q1248 : (Jvm.Cond.methodLink "TrunkYardsLaw" (112 : Nat) ({ cls := "TrunkYardsLaw", name := "wagon", desc := "(LTrunkYards;II[J)I" } : Jvm.MethodName)) ∈ lw_all := lw_g (lw_at lw_m6 0 rfl) rfl
theorem q1249 : (Jvm.Cond.static ({ cls := "TrunkYardsLaw", name := "wagon", desc := "(LTrunkYards;II[J)I" } : Jvm.MethodName)) ∈ lw_all := lw_g (lw_at lw_m6 1 rfl) rfl
theorem q1250 : (Jvm.Cond.codeWith ({ cls := "TrunkYardsLaw", name := "wagon", desc := "(LTrunkYards;II[J)I" } : Jvm.MethodName) method_3_code (5 : Nat) (Option.some Jvm.ClassFile.FieldType.int) [((0 : Nat), (10 : Nat), (13 : Nat), (13 : Nat)), ((0 : Nat), (10 : Nat), (17 : Nat), (15 : Nat))]) ∈ lw_all := lw_g (lw_at lw_m6 2 rfl) rfl
theorem q1251 : (Jvm.Cond.classLink "TrunkYardsLaw" (13 : Nat) "java/lang/IllegalArgumentException") ∈ lw_all := lw_g (lw_at lw_m6 3 rfl) rfl
theorem q1252 : (Jvm.Cond.classLink "TrunkYardsLaw" (15 : Nat) "java/lang/IllegalStateException") ∈ lw_all := lw_g (lw_at lw_m6 4 rfl) rfl
theorem q1253 : (Jvm.Cond.methodLink "TrunkYardsLaw" (7 : Nat) ({ cls := "TrunkYards", name := "wagon", desc := "(II)I" } : Jvm.MethodName)) ∈ lw_all := lw_g (lw_at lw_m6 5 rfl) rfl
theorem q1377 : (Jvm.Cond.methodLink "TrunkYardsLaw" (122 : Nat) ({ cls := "TrunkYardsLaw", name := "shunt", desc := "(LTrunkYards;IIII[J)I" } : Jvm.MethodName)) ∈ lw_all := lw_g (lw_at lw_m6 129 rfl) rfl
theorem q1378 : (Jvm.Cond.static ({ cls := "TrunkYardsLaw", name := "shunt", desc := "(LTrunkYards;IIII[J)I" } : Jvm.MethodName)) ∈ lw_all := lw_g (lw_at lw_m6 130 rfl) rfl
theorem q1379 : (Jvm.Cond.codeWith ({ cls := "TrunkYardsLaw", name := "shunt", desc := "(LTrunkYards;IIII[J)I" } : Jvm.MethodName) method_4_code (7 : Nat) (Option.some Jvm.ClassFile.FieldType.int) [((0 : Nat), (14 : Nat), (17 : Nat), (13 : Nat)), ((0 : Nat), (14 : Nat), (21 : Nat), (15 : Nat))]) ∈ lw_all := lw_g (lw_at lw_m6 131 rfl) rfl
theorem q1380 : (Jvm.Cond.methodLink "TrunkYardsLaw" (17 : Nat) ({ cls := "TrunkYards", name := "shunt", desc := "(IIII)I" } : Jvm.MethodName)) ∈ lw_all := lw_g (lw_at lw_m6 132 rfl) rfl
theorem q1674 : (Jvm.Cond.methodLink "TrunkYardsLaw" (126 : Nat) ({ cls := "TrunkYardsLaw", name := "wash", desc := "(LTrunkYards;I[J)I" } : Jvm.MethodName)) ∈ lw_all := lw_g (lw_at lw_m7 186 rfl) rfl
theorem q1675 : (Jvm.Cond.static ({ cls := "TrunkYardsLaw", name := "wash", desc := "(LTrunkYards;I[J)I" } : Jvm.MethodName)) ∈ lw_all := lw_g (lw_at lw_m7 187 rfl) rfl
theorem q1676 : (Jvm.Cond.codeWith ({ cls := "TrunkYardsLaw", name := "wash", desc := "(LTrunkYards;I[J)I" } : Jvm.MethodName) method_5_code (4 : Nat) (Option.some Jvm.ClassFile.FieldType.int) [((0 : Nat), (9 : Nat), (12 : Nat), (13 : Nat)), ((0 : Nat), (9 : Nat), (15 : Nat), (15 : Nat))]) ∈ lw_all := lw_g (lw_at lw_m7 188 rfl) rfl
theorem q1677 : (Jvm.Cond.methodLink "TrunkYardsLaw" (21 : Nat) ({ cls := "TrunkYards", name := "wash", desc := "(I)I" } : Jvm.MethodName)) ∈ lw_all := lw_g (lw_at lw_m7 189 rfl) rfl
theorem q1692 : (Jvm.Cond.methodLink "TrunkYardsLaw" (130 : Nat) ({ cls := "TrunkYardsLaw", name := "follow", desc := "(LTrunkYards;II[J)I" } : Jvm.MethodName)) ∈ lw_all := lw_g (lw_at lw_m7 204 rfl) rfl
theorem q1693 : (Jvm.Cond.static ({ cls := "TrunkYardsLaw", name := "follow", desc := "(LTrunkYards;II[J)I" } : Jvm.MethodName)) ∈ lw_all := lw_g (lw_at lw_m7 205 rfl) rfl
theorem q1694 : (Jvm.Cond.codeWith ({ cls := "TrunkYardsLaw", name := "follow", desc := "(LTrunkYards;II[J)I" } : Jvm.MethodName) method_6_code (5 : Nat) (Option.some Jvm.ClassFile.FieldType.int) [((0 : Nat), (17 : Nat), (20 : Nat), (13 : Nat))]) ∈ lw_all := lw_g (lw_at lw_m7 206 rfl) rfl
theorem q1695 : (Jvm.Cond.methodLink "TrunkYardsLaw" (25 : Nat) ({ cls := "TrunkYards", name := "follow", desc := "(II)Z" } : Jvm.MethodName)) ∈ lw_all := lw_g (lw_at lw_m7 207 rfl) rfl
theorem q1699 : (Jvm.Cond.methodLink "TrunkYardsLaw" (133 : Nat) ({ cls := "TrunkYardsLaw", name := "on", desc := "(LTrunkYards;II[J)I" } : Jvm.MethodName)) ∈ lw_all := lw_g (lw_at lw_m7 211 rfl) rfl
theorem q1700 : (Jvm.Cond.static ({ cls := "TrunkYardsLaw", name := "on", desc := "(LTrunkYards;II[J)I" } : Jvm.MethodName)) ∈ lw_all := lw_g (lw_at lw_m7 212 rfl) rfl
theorem q1701 : (Jvm.Cond.codeWith ({ cls := "TrunkYardsLaw", name := "on", desc := "(LTrunkYards;II[J)I" } : Jvm.MethodName) method_7_code (5 : Nat) (Option.some Jvm.ClassFile.FieldType.int) [((0 : Nat), (10 : Nat), (13 : Nat), (13 : Nat))]) ∈ lw_all := lw_g (lw_at lw_m7 213 rfl) rfl
theorem q1702 : (Jvm.Cond.methodLink "TrunkYardsLaw" (29 : Nat) ({ cls := "TrunkYards", name := "on", desc := "(II)I" } : Jvm.MethodName)) ∈ lw_all := lw_g (lw_at lw_m7 214 rfl) rfl
theorem q1706 : (Jvm.Cond.methodLink "TrunkYardsLaw" (136 : Nat) ({ cls := "TrunkYardsLaw", name := "at", desc := "(LTrunkYards;III[J)I" } : Jvm.MethodName)) ∈ lw_all := lw_g (lw_at lw_m7 218 rfl) rfl
theorem q1707 : (Jvm.Cond.static ({ cls := "TrunkYardsLaw", name := "at", desc := "(LTrunkYards;III[J)I" } : Jvm.MethodName)) ∈ lw_all := lw_g (lw_at lw_m7 219 rfl) rfl
theorem q1708 : (Jvm.Cond.codeWith ({ cls := "TrunkYardsLaw", name := "at", desc := "(LTrunkYards;III[J)I" } : Jvm.MethodName) method_8_code (6 : Nat) (Option.some Jvm.ClassFile.FieldType.int) [((0 : Nat), (12 : Nat), (15 : Nat), (13 : Nat)), ((0 : Nat), (12 : Nat), (19 : Nat), (36 : Nat))]) ∈ lw_all := lw_g (lw_at lw_m7 220 rfl) rfl
theorem q1709 : (Jvm.Cond.classLink "TrunkYardsLaw" (36 : Nat) "java/lang/IndexOutOfBoundsException") ∈ lw_all := lw_g (lw_at lw_m7 221 rfl) rfl
theorem q1725 : (Jvm.Cond.methodLink "TrunkYardsLaw" (32 : Nat) ({ cls := "TrunkYards", name := "at", desc := "(III)I" } : Jvm.MethodName)) ∈ lw_all := lw_g (lw_at lw_m7 237 rfl) rfl
theorem q1738 : (Jvm.Cond.methodLink "TrunkYardsLaw" (140 : Nat) ({ cls := "TrunkYardsLaw", name := "atByReplay", desc := "(LTrunkYards;III[J)I" } : Jvm.MethodName)) ∈ lw_all := lw_g (lw_at lw_m8 10 rfl) rfl
theorem q1739 : (Jvm.Cond.static ({ cls := "TrunkYardsLaw", name := "atByReplay", desc := "(LTrunkYards;III[J)I" } : Jvm.MethodName)) ∈ lw_all := lw_g (lw_at lw_m8 11 rfl) rfl
theorem q1740 : (Jvm.Cond.codeWith ({ cls := "TrunkYardsLaw", name := "atByReplay", desc := "(LTrunkYards;III[J)I" } : Jvm.MethodName) method_9_code (6 : Nat) (Option.some Jvm.ClassFile.FieldType.int) [((0 : Nat), (12 : Nat), (15 : Nat), (13 : Nat)), ((0 : Nat), (12 : Nat), (19 : Nat), (36 : Nat))]) ∈ lw_all := lw_g (lw_at lw_m8 12 rfl) rfl
theorem q1741 : (Jvm.Cond.methodLink "TrunkYardsLaw" (38 : Nat) ({ cls := "TrunkYards", name := "atByReplay", desc := "(III)I" } : Jvm.MethodName)) ∈ lw_all := lw_g (lw_at lw_m8 13 rfl) rfl
theorem q1784 : (Jvm.Cond.methodLink "TrunkYardsLaw" (143 : Nat) ({ cls := "TrunkYardsLaw", name := "where", desc := "(LTrunkYards;I[J)I" } : Jvm.MethodName)) ∈ lw_all := lw_g (lw_at lw_m8 56 rfl) rfl
theorem q1785 : (Jvm.Cond.static ({ cls := "TrunkYardsLaw", name := "where", desc := "(LTrunkYards;I[J)I" } : Jvm.MethodName)) ∈ lw_all := lw_g (lw_at lw_m8 57 rfl) rfl
theorem q1786 : (Jvm.Cond.codeWith ({ cls := "TrunkYardsLaw", name := "where", desc := "(LTrunkYards;I[J)I" } : Jvm.MethodName) method_10_code (4 : Nat) (Option.some Jvm.ClassFile.FieldType.int) [((0 : Nat), (9 : Nat), (12 : Nat), (36 : Nat))]) ∈ lw_all := lw_g (lw_at lw_m8 58 rfl) rfl
theorem q1787 : (Jvm.Cond.methodLink "TrunkYardsLaw" (41 : Nat) ({ cls := "TrunkYards", name := "where", desc := "(I)I" } : Jvm.MethodName)) ∈ lw_all := lw_g (lw_at lw_m8 59 rfl) rfl
theorem q1795 : (Jvm.Cond.methodLink "TrunkYardsLaw" (146 : Nat) ({ cls := "TrunkYardsLaw", name := "carried", desc := "(LTrunkYards;I[J)I" } : Jvm.MethodName)) ∈ lw_all := lw_g (lw_at lw_m8 67 rfl) rfl
theorem q1796 : (Jvm.Cond.static ({ cls := "TrunkYardsLaw", name := "carried", desc := "(LTrunkYards;I[J)I" } : Jvm.MethodName)) ∈ lw_all := lw_g (lw_at lw_m8 68 rfl) rfl
theorem q1797 : (Jvm.Cond.codeWith ({ cls := "TrunkYardsLaw", name := "carried", desc := "(LTrunkYards;I[J)I" } : Jvm.MethodName) method_11_code (4 : Nat) (Option.some Jvm.ClassFile.FieldType.int) [((0 : Nat), (9 : Nat), (12 : Nat), (36 : Nat))]) ∈ lw_all := lw_g (lw_at lw_m8 69 rfl) rfl
theorem q1798 : (Jvm.Cond.methodLink "TrunkYardsLaw" (44 : Nat) ({ cls := "TrunkYards", name := "carried", desc := "(I)I" } : Jvm.MethodName)) ∈ lw_all := lw_g (lw_at lw_m8 70 rfl) rfl
theorem q1802 : (Jvm.Cond.methodLink "TrunkYardsLaw" (149 : Nat) ({ cls := "TrunkYardsLaw", name := "promised", desc := "(LTrunkYards;I[J)I" } : Jvm.MethodName)) ∈ lw_all := lw_g (lw_at lw_m8 74 rfl) rfl
theorem q1803 : (Jvm.Cond.static ({ cls := "TrunkYardsLaw", name := "promised", desc := "(LTrunkYards;I[J)I" } : Jvm.MethodName)) ∈ lw_all := lw_g (lw_at lw_m8 75 rfl) rfl
theorem q1804 : (Jvm.Cond.codeWith ({ cls := "TrunkYardsLaw", name := "promised", desc := "(LTrunkYards;I[J)I" } : Jvm.MethodName) method_12_code (4 : Nat) (Option.some Jvm.ClassFile.FieldType.int) [((0 : Nat), (9 : Nat), (12 : Nat), (36 : Nat))]) ∈ lw_all := lw_g (lw_at lw_m8 76 rfl) rfl
theorem q1805 : (Jvm.Cond.methodLink "TrunkYardsLaw" (47 : Nat) ({ cls := "TrunkYards", name := "promised", desc := "(I)I" } : Jvm.MethodName)) ∈ lw_all := lw_g (lw_at lw_m8 77 rfl) rfl
theorem q1809 : (Jvm.Cond.methodLink "TrunkYardsLaw" (152 : Nat) ({ cls := "TrunkYardsLaw", name := "call", desc := "(LTrunkYards;II[J)I" } : Jvm.MethodName)) ∈ lw_all := lw_g (lw_at lw_m8 81 rfl) rfl
theorem q1810 : (Jvm.Cond.static ({ cls := "TrunkYardsLaw", name := "call", desc := "(LTrunkYards;II[J)I" } : Jvm.MethodName)) ∈ lw_all := lw_g (lw_at lw_m8 82 rfl) rfl
theorem q1811 : (Jvm.Cond.codeWith ({ cls := "TrunkYardsLaw", name := "call", desc := "(LTrunkYards;II[J)I" } : Jvm.MethodName) method_13_code (5 : Nat) (Option.some Jvm.ClassFile.FieldType.int) [((0 : Nat), (10 : Nat), (13 : Nat), (13 : Nat)), ((0 : Nat), (10 : Nat), (17 : Nat), (15 : Nat))]) ∈ lw_all := lw_g (lw_at lw_m8 83 rfl) rfl
theorem q1812 : (Jvm.Cond.methodLink "TrunkYardsLaw" (50 : Nat) ({ cls := "TrunkYards", name := "call", desc := "(II)I" } : Jvm.MethodName)) ∈ lw_all := lw_g (lw_at lw_m8 84 rfl) rfl
theorem q1913 : (Jvm.Cond.methodLink "TrunkYardsLaw" (155 : Nat) ({ cls := "TrunkYardsLaw", name := "ask", desc := "(LTrunkYards;II[J)I" } : Jvm.MethodName)) ∈ lw_all := lw_g (lw_at lw_m8 185 rfl) rfl
theorem q1914 : (Jvm.Cond.static ({ cls := "TrunkYardsLaw", name := "ask", desc := "(LTrunkYards;II[J)I" } : Jvm.MethodName)) ∈ lw_all := lw_g (lw_at lw_m8 186 rfl) rfl
theorem q1915 : (Jvm.Cond.codeWith ({ cls := "TrunkYardsLaw", name := "ask", desc := "(LTrunkYards;II[J)I" } : Jvm.MethodName) method_14_code (5 : Nat) (Option.some Jvm.ClassFile.FieldType.int) [((0 : Nat), (10 : Nat), (13 : Nat), (36 : Nat)), ((0 : Nat), (10 : Nat), (17 : Nat), (13 : Nat)), ((0 : Nat), (10 : Nat), (21 : Nat), (15 : Nat))]) ∈ lw_all := lw_g (lw_at lw_m8 187 rfl) rfl
theorem q1916 : (Jvm.Cond.methodLink "TrunkYardsLaw" (53 : Nat) ({ cls := "TrunkYards", name := "ask", desc := "(II)I" } : Jvm.MethodName)) ∈ lw_all := lw_g (lw_at lw_m8 188 rfl) rfl
theorem q1971 : (Jvm.Cond.methodLink "TrunkYardsLaw" (158 : Nat) ({ cls := "TrunkYardsLaw", name := "confirm", desc := "(LTrunkYards;I[J)I" } : Jvm.MethodName)) ∈ lw_all := lw_g (lw_at lw_m9 3 rfl) rfl
theorem q1972 : (Jvm.Cond.static ({ cls := "TrunkYardsLaw", name := "confirm", desc := "(LTrunkYards;I[J)I" } : Jvm.MethodName)) ∈ lw_all := lw_g (lw_at lw_m9 4 rfl) rfl
theorem q1973 : (Jvm.Cond.codeWith ({ cls := "TrunkYardsLaw", name := "confirm", desc := "(LTrunkYards;I[J)I" } : Jvm.MethodName) method_15_code (4 : Nat) (Option.some Jvm.ClassFile.FieldType.int) [((0 : Nat), (9 : Nat), (12 : Nat), (36 : Nat)), ((0 : Nat), (9 : Nat), (15 : Nat), (15 : Nat))]) ∈ lw_all := lw_g (lw_at lw_m9 5 rfl) rfl
theorem q1974 : (Jvm.Cond.methodLink "TrunkYardsLaw" (56 : Nat) ({ cls := "TrunkYards", name := "confirm", desc := "(I)I" } : Jvm.MethodName)) ∈ lw_all := lw_g (lw_at lw_m9 6 rfl) rfl
theorem q2007 : (Jvm.Cond.methodLink "TrunkYardsLaw" (161 : Nat) ({ cls := "TrunkYardsLaw", name := "resume", desc := "(LTrunkYards;II[J)I" } : Jvm.MethodName)) ∈ lw_all := lw_g (lw_at lw_m9 39 rfl) rfl
theorem q2008 : (Jvm.Cond.static ({ cls := "TrunkYardsLaw", name := "resume", desc := "(LTrunkYards;II[J)I" } : Jvm.MethodName)) ∈ lw_all := lw_g (lw_at lw_m9 40 rfl) rfl
theorem q2009 : (Jvm.Cond.codeWith ({ cls := "TrunkYardsLaw", name := "resume", desc := "(LTrunkYards;II[J)I" } : Jvm.MethodName) method_16_code (5 : Nat) (Option.some Jvm.ClassFile.FieldType.int) [((0 : Nat), (10 : Nat), (13 : Nat), (36 : Nat)), ((0 : Nat), (10 : Nat), (17 : Nat), (15 : Nat))]) ∈ lw_all := lw_g (lw_at lw_m9 41 rfl) rfl
theorem q2010 : (Jvm.Cond.methodLink "TrunkYardsLaw" (59 : Nat) ({ cls := "TrunkYards", name := "resume", desc := "(II)I" } : Jvm.MethodName)) ∈ lw_all := lw_g (lw_at lw_m9 42 rfl) rfl
theorem q2024 : (Jvm.Cond.methodLink "TrunkYardsLaw" (164 : Nat) ({ cls := "TrunkYardsLaw", name := "cancel", desc := "(LTrunkYards;II[J)I" } : Jvm.MethodName)) ∈ lw_all := lw_g (lw_at lw_m9 56 rfl) rfl
theorem q2025 : (Jvm.Cond.static ({ cls := "TrunkYardsLaw", name := "cancel", desc := "(LTrunkYards;II[J)I" } : Jvm.MethodName)) ∈ lw_all := lw_g (lw_at lw_m9 57 rfl) rfl
theorem q2026 : (Jvm.Cond.codeWith ({ cls := "TrunkYardsLaw", name := "cancel", desc := "(LTrunkYards;II[J)I" } : Jvm.MethodName) method_17_code (5 : Nat) (Option.some Jvm.ClassFile.FieldType.int) [((0 : Nat), (10 : Nat), (13 : Nat), (36 : Nat)), ((0 : Nat), (10 : Nat), (17 : Nat), (15 : Nat))]) ∈ lw_all := lw_g (lw_at lw_m9 58 rfl) rfl
theorem q2027 : (Jvm.Cond.methodLink "TrunkYardsLaw" (62 : Nat) ({ cls := "TrunkYards", name := "cancel", desc := "(II)I" } : Jvm.MethodName)) ∈ lw_all := lw_g (lw_at lw_m9 59 rfl) rfl
theorem q2033 : (Jvm.Cond.methodLink "TrunkYardsLaw" (167 : Nat) ({ cls := "TrunkYardsLaw", name := "hangUp", desc := "(LTrunkYards;I[J)I" } : Jvm.MethodName)) ∈ lw_all := lw_g (lw_at lw_m9 65 rfl) rfl
theorem q2034 : (Jvm.Cond.static ({ cls := "TrunkYardsLaw", name := "hangUp", desc := "(LTrunkYards;I[J)I" } : Jvm.MethodName)) ∈ lw_all := lw_g (lw_at lw_m9 66 rfl) rfl
theorem q2035 : (Jvm.Cond.codeWith ({ cls := "TrunkYardsLaw", name := "hangUp", desc := "(LTrunkYards;I[J)I" } : Jvm.MethodName) method_18_code (4 : Nat) (Option.some Jvm.ClassFile.FieldType.int) [((0 : Nat), (9 : Nat), (12 : Nat), (36 : Nat)), ((0 : Nat), (9 : Nat), (15 : Nat), (15 : Nat))]) ∈ lw_all := lw_g (lw_at lw_m9 67 rfl) rfl
theorem q2036 : (Jvm.Cond.methodLink "TrunkYardsLaw" (65 : Nat) ({ cls := "TrunkYards", name := "hangUp", desc := "(I)I" } : Jvm.MethodName)) ∈ lw_all := lw_g (lw_at lw_m9 68 rfl) rfl
theorem q2044 : (Jvm.Cond.methodLink "TrunkYardsLaw" (170 : Nat) ({ cls := "TrunkYardsLaw", name := "callOf", desc := "(LTrunkYards;I[J)I" } : Jvm.MethodName)) ∈ lw_all := lw_g (lw_at lw_m9 76 rfl) rfl
theorem q2045 : (Jvm.Cond.static ({ cls := "TrunkYardsLaw", name := "callOf", desc := "(LTrunkYards;I[J)I" } : Jvm.MethodName)) ∈ lw_all := lw_g (lw_at lw_m9 77 rfl) rfl
theorem q2046 : (Jvm.Cond.codeWith ({ cls := "TrunkYardsLaw", name := "callOf", desc := "(LTrunkYards;I[J)I" } : Jvm.MethodName) method_19_code (4 : Nat) (Option.some Jvm.ClassFile.FieldType.int) [((0 : Nat), (9 : Nat), (12 : Nat), (13 : Nat))]) ∈ lw_all := lw_g (lw_at lw_m9 78 rfl) rfl
theorem q2047 : (Jvm.Cond.methodLink "TrunkYardsLaw" (68 : Nat) ({ cls := "TrunkYards", name := "callOf", desc := "(I)I" } : Jvm.MethodName)) ∈ lw_all := lw_g (lw_at lw_m9 79 rfl) rfl
theorem q2051 : (Jvm.Cond.methodLink "TrunkYardsLaw" (173 : Nat) ({ cls := "TrunkYardsLaw", name := "way", desc := "(LTrunkYards;I[J)I" } : Jvm.MethodName)) ∈ lw_all := lw_g (lw_at lw_m9 83 rfl) rfl
theorem q2052 : (Jvm.Cond.static ({ cls := "TrunkYardsLaw", name := "way", desc := "(LTrunkYards;I[J)I" } : Jvm.MethodName)) ∈ lw_all := lw_g (lw_at lw_m9 84 rfl) rfl
theorem q2053 : (Jvm.Cond.codeWith ({ cls := "TrunkYardsLaw", name := "way", desc := "(LTrunkYards;I[J)I" } : Jvm.MethodName) method_20_code (4 : Nat) (Option.some Jvm.ClassFile.FieldType.int) [((0 : Nat), (9 : Nat), (12 : Nat), (36 : Nat)), ((0 : Nat), (9 : Nat), (15 : Nat), (15 : Nat))]) ∈ lw_all := lw_g (lw_at lw_m9 85 rfl) rfl
theorem q2054 : (Jvm.Cond.methodLink "TrunkYardsLaw" (71 : Nat) ({ cls := "TrunkYards", name := "way", desc := "(I)I" } : Jvm.MethodName)) ∈ lw_all := lw_g (lw_at lw_m9 86 rfl) rfl
theorem q2058 : (Jvm.Cond.methodLink "TrunkYardsLaw" (180 : Nat) ({ cls := "TrunkYardsLaw", name := "cut", desc := "(LTrunkYards;III[J)I" } : Jvm.MethodName)) ∈ lw_all := lw_g (lw_at lw_m9 90 rfl) rfl
theorem q2059 : (Jvm.Cond.static ({ cls := "TrunkYardsLaw", name := "cut", desc := "(LTrunkYards;III[J)I" } : Jvm.MethodName)) ∈ lw_all := lw_g (lw_at lw_m9 91 rfl) rfl
theorem q2060 : (Jvm.Cond.codeWith ({ cls := "TrunkYardsLaw", name := "cut", desc := "(LTrunkYards;III[J)I" } : Jvm.MethodName) method_21_code (6 : Nat) (Option.some Jvm.ClassFile.FieldType.int) [((0 : Nat), (12 : Nat), (15 : Nat), (13 : Nat)), ((0 : Nat), (12 : Nat), (19 : Nat), (15 : Nat))]) ∈ lw_all := lw_g (lw_at lw_m9 92 rfl) rfl
theorem q2061 : (Jvm.Cond.methodLink "TrunkYardsLaw" (74 : Nat) ({ cls := "TrunkYards", name := "cut", desc := "(III)I" } : Jvm.MethodName)) ∈ lw_all := lw_g (lw_at lw_m9 93 rfl) rfl
theorem q2069 : (Jvm.Cond.methodLink "TrunkYardsLaw" (183 : Nat) ({ cls := "TrunkYardsLaw", name := "mend", desc := "(LTrunkYards;III)I" } : Jvm.MethodName)) ∈ lw_all := lw_g (lw_at lw_m9 101 rfl) rfl
theorem q2070 : (Jvm.Cond.static ({ cls := "TrunkYardsLaw", name := "mend", desc := "(LTrunkYards;III)I" } : Jvm.MethodName)) ∈ lw_all := lw_g (lw_at lw_m9 102 rfl) rfl
theorem q2071 : (Jvm.Cond.codeWith ({ cls := "TrunkYardsLaw", name := "mend", desc := "(LTrunkYards;III)I" } : Jvm.MethodName) method_22_code (5 : Nat) (Option.some Jvm.ClassFile.FieldType.int) [((0 : Nat), (7 : Nat), (10 : Nat), (13 : Nat)), ((0 : Nat), (7 : Nat), (14 : Nat), (15 : Nat))]) ∈ lw_all := lw_g (lw_at lw_m9 103 rfl) rfl
theorem q2072 : (Jvm.Cond.methodLink "TrunkYardsLaw" (77 : Nat) ({ cls := "TrunkYards", name := "mend", desc := "(III)V" } : Jvm.MethodName)) ∈ lw_all := lw_g (lw_at lw_m9 104 rfl) rfl
theorem q2076 : (Jvm.Cond.methodLink "TrunkYardsLaw" (187 : Nat) ({ cls := "TrunkYardsLaw", name := "trunk", desc := "(LTrunkYards;III[J)I" } : Jvm.MethodName)) ∈ lw_all := lw_g (lw_at lw_m9 108 rfl) rfl
theorem q2077 : (Jvm.Cond.static ({ cls := "TrunkYardsLaw", name := "trunk", desc := "(LTrunkYards;III[J)I" } : Jvm.MethodName)) ∈ lw_all := lw_g (lw_at lw_m9 109 rfl) rfl
theorem q2078 : (Jvm.Cond.codeWith ({ cls := "TrunkYardsLaw", name := "trunk", desc := "(LTrunkYards;III[J)I" } : Jvm.MethodName) method_23_code (6 : Nat) (Option.some Jvm.ClassFile.FieldType.int) [((0 : Nat), (12 : Nat), (15 : Nat), (13 : Nat))]) ∈ lw_all := lw_g (lw_at lw_m9 110 rfl) rfl
theorem q2079 : (Jvm.Cond.methodLink "TrunkYardsLaw" (81 : Nat) ({ cls := "TrunkYards", name := "trunk", desc := "(III)I" } : Jvm.MethodName)) ∈ lw_all := lw_g (lw_at lw_m9 111 rfl) rfl
theorem q2083 : (Jvm.Cond.methodLink "TrunkYardsLaw" (190 : Nat) ({ cls := "TrunkYardsLaw", name := "setLines", desc := "(LTrunkYards;II[J)I" } : Jvm.MethodName)) ∈ lw_all := lw_g (lw_at lw_m9 115 rfl) rfl
theorem q2084 : (Jvm.Cond.static ({ cls := "TrunkYardsLaw", name := "setLines", desc := "(LTrunkYards;II[J)I" } : Jvm.MethodName)) ∈ lw_all := lw_g (lw_at lw_m9 116 rfl) rfl
theorem q2085 : (Jvm.Cond.codeWith ({ cls := "TrunkYardsLaw", name := "setLines", desc := "(LTrunkYards;II[J)I" } : Jvm.MethodName) method_24_code (5 : Nat) (Option.some Jvm.ClassFile.FieldType.int) [((0 : Nat), (10 : Nat), (13 : Nat), (13 : Nat)), ((0 : Nat), (10 : Nat), (17 : Nat), (15 : Nat))]) ∈ lw_all := lw_g (lw_at lw_m9 117 rfl) rfl
theorem q2086 : (Jvm.Cond.methodLink "TrunkYardsLaw" (84 : Nat) ({ cls := "TrunkYards", name := "setLines", desc := "(II)I" } : Jvm.MethodName)) ∈ lw_all := lw_g (lw_at lw_m9 118 rfl) rfl
theorem q2090 : (Jvm.Cond.methodLink "TrunkYardsLaw" (193 : Nat) ({ cls := "TrunkYardsLaw", name := "pass", desc := "(LTrunkYards;I[J)I" } : Jvm.MethodName)) ∈ lw_all := lw_g (lw_at lw_m9 122 rfl) rfl
theorem q2091 : (Jvm.Cond.static ({ cls := "TrunkYardsLaw", name := "pass", desc := "(LTrunkYards;I[J)I" } : Jvm.MethodName)) ∈ lw_all := lw_g (lw_at lw_m9 123 rfl) rfl
theorem q2092 : (Jvm.Cond.codeWith ({ cls := "TrunkYardsLaw", name := "pass", desc := "(LTrunkYards;I[J)I" } : Jvm.MethodName) method_25_code (4 : Nat) (Option.some Jvm.ClassFile.FieldType.int) [((0 : Nat), (9 : Nat), (12 : Nat), (13 : Nat)), ((0 : Nat), (9 : Nat), (15 : Nat), (15 : Nat))]) ∈ lw_all := lw_g (lw_at lw_m9 124 rfl) rfl
theorem q2093 : (Jvm.Cond.methodLink "TrunkYardsLaw" (87 : Nat) ({ cls := "TrunkYards", name := "pass", desc := "(I)I" } : Jvm.MethodName)) ∈ lw_all := lw_g (lw_at lw_m9 125 rfl) rfl
theorem q2097 : (Jvm.Cond.methodLink "TrunkYardsLaw" (200 : Nat) ({ cls := "TrunkYardsLaw", name := "state", desc := "(LTrunkYards;I[J)I" } : Jvm.MethodName)) ∈ lw_all := lw_g (lw_at lw_m9 129 rfl) rfl
theorem q2098 : (Jvm.Cond.static ({ cls := "TrunkYardsLaw", name := "state", desc := "(LTrunkYards;I[J)I" } : Jvm.MethodName)) ∈ lw_all := lw_g (lw_at lw_m9 130 rfl) rfl
theorem q2099 : (Jvm.Cond.codeWith ({ cls := "TrunkYardsLaw", name := "state", desc := "(LTrunkYards;I[J)I" } : Jvm.MethodName) method_26_code (4 : Nat) (Option.some Jvm.ClassFile.FieldType.int) [((0 : Nat), (9 : Nat), (12 : Nat), (36 : Nat))]) ∈ lw_all := lw_g (lw_at lw_m9 131 rfl) rfl
theorem q2100 : (Jvm.Cond.methodLink "TrunkYardsLaw" (90 : Nat) ({ cls := "TrunkYards", name := "state", desc := "(I)I" } : Jvm.MethodName)) ∈ lw_all := lw_g (lw_at lw_m9 132 rfl) rfl
theorem q2113 : (Jvm.Cond.methodLink "TrunkYardsLaw" (203 : Nat) ({ cls := "TrunkYardsLaw", name := "wagons", desc := "(LTrunkYards;I[J)I" } : Jvm.MethodName)) ∈ lw_all := lw_g (lw_at lw_m9 145 rfl) rfl
theorem q2114 : (Jvm.Cond.static ({ cls := "TrunkYardsLaw", name := "wagons", desc := "(LTrunkYards;I[J)I" } : Jvm.MethodName)) ∈ lw_all := lw_g (lw_at lw_m9 146 rfl) rfl
theorem q2115 : (Jvm.Cond.codeWith ({ cls := "TrunkYardsLaw", name := "wagons", desc := "(LTrunkYards;I[J)I" } : Jvm.MethodName) method_27_code (4 : Nat) (Option.some Jvm.ClassFile.FieldType.int) [((0 : Nat), (9 : Nat), (12 : Nat), (36 : Nat))]) ∈ lw_all := lw_g (lw_at lw_m9 147 rfl) rfl
theorem q2116 : (Jvm.Cond.methodLink "TrunkYardsLaw" (93 : Nat) ({ cls := "TrunkYards", name := "wagons", desc := "(I)I" } : Jvm.MethodName)) ∈ lw_all := lw_g (lw_at lw_m9 148 rfl) rfl
theorem q2120 : (Jvm.Cond.methodLink "TrunkYardsLaw" (206 : Nat) ({ cls := "TrunkYardsLaw", name := "wagonOf", desc := "(LTrunkYards;II[J)I" } : Jvm.MethodName)) ∈ lw_all := lw_g (lw_at lw_m9 152 rfl) rfl
theorem q2121 : (Jvm.Cond.static ({ cls := "TrunkYardsLaw", name := "wagonOf", desc := "(LTrunkYards;II[J)I" } : Jvm.MethodName)) ∈ lw_all := lw_g (lw_at lw_m9 153 rfl) rfl
theorem q2122 : (Jvm.Cond.codeWith ({ cls := "TrunkYardsLaw", name := "wagonOf", desc := "(LTrunkYards;II[J)I" } : Jvm.MethodName) method_28_code (5 : Nat) (Option.some Jvm.ClassFile.FieldType.int) [((0 : Nat), (10 : Nat), (13 : Nat), (36 : Nat))]) ∈ lw_all := lw_g (lw_at lw_m9 154 rfl) rfl
theorem q2123 : (Jvm.Cond.methodLink "TrunkYardsLaw" (96 : Nat) ({ cls := "TrunkYards", name := "wagonOf", desc := "(II)I" } : Jvm.MethodName)) ∈ lw_all := lw_g (lw_at lw_m9 155 rfl) rfl
theorem q2127 : (Jvm.Cond.methodLink "TrunkYardsLaw" (209 : Nat) ({ cls := "TrunkYardsLaw", name := "lapses", desc := "(LTrunkYards;I[J)I" } : Jvm.MethodName)) ∈ lw_all := lw_g (lw_at lw_m9 159 rfl) rfl
theorem q2128 : (Jvm.Cond.static ({ cls := "TrunkYardsLaw", name := "lapses", desc := "(LTrunkYards;I[J)I" } : Jvm.MethodName)) ∈ lw_all := lw_g (lw_at lw_m9 160 rfl) rfl
theorem q2129 : (Jvm.Cond.codeWith ({ cls := "TrunkYardsLaw", name := "lapses", desc := "(LTrunkYards;I[J)I" } : Jvm.MethodName) method_29_code (4 : Nat) (Option.some Jvm.ClassFile.FieldType.int) [((0 : Nat), (9 : Nat), (12 : Nat), (36 : Nat)), ((0 : Nat), (9 : Nat), (15 : Nat), (15 : Nat))]) ∈ lw_all := lw_g (lw_at lw_m9 161 rfl) rfl
theorem q2130 : (Jvm.Cond.methodLink "TrunkYardsLaw" (99 : Nat) ({ cls := "TrunkYards", name := "lapses", desc := "(I)I" } : Jvm.MethodName)) ∈ lw_all := lw_g (lw_at lw_m9 162 rfl) rfl
theorem q2134 : (Jvm.Cond.methodLink "TrunkYardsLaw" (212 : Nat) ({ cls := "TrunkYardsLaw", name := "depart", desc := "(LTrunkYards;III[J)I" } : Jvm.MethodName)) ∈ lw_all := lw_g (lw_at lw_m9 166 rfl) rfl
theorem q2135 : (Jvm.Cond.static ({ cls := "TrunkYardsLaw", name := "depart", desc := "(LTrunkYards;III[J)I" } : Jvm.MethodName)) ∈ lw_all := lw_g (lw_at lw_m9 167 rfl) rfl
theorem q2136 : (Jvm.Cond.codeWith ({ cls := "TrunkYardsLaw", name := "depart", desc := "(LTrunkYards;III[J)I" } : Jvm.MethodName) method_30_code (6 : Nat) (Option.some Jvm.ClassFile.FieldType.int) [((0 : Nat), (12 : Nat), (15 : Nat), (13 : Nat)), ((0 : Nat), (12 : Nat), (19 : Nat), (15 : Nat))]) ∈ lw_all := lw_g (lw_at lw_m9 168 rfl) rfl
theorem q2137 : (Jvm.Cond.methodLink "TrunkYardsLaw" (102 : Nat) ({ cls := "TrunkYards", name := "depart", desc := "(III)I" } : Jvm.MethodName)) ∈ lw_all := lw_g (lw_at lw_m9 169 rfl) rfl
theorem q2316 : (Jvm.Cond.methodLink "TrunkYardsLaw" (215 : Nat) ({ cls := "TrunkYardsLaw", name := "arrive", desc := "(LTrunkYards;II[J)I" } : Jvm.MethodName)) ∈ lw_all := lw_g (lw_at lw_m10 108 rfl) rfl
theorem q2317 : (Jvm.Cond.static ({ cls := "TrunkYardsLaw", name := "arrive", desc := "(LTrunkYards;II[J)I" } : Jvm.MethodName)) ∈ lw_all := lw_g (lw_at lw_m10 109 rfl) rfl
theorem q2318 : (Jvm.Cond.codeWith ({ cls := "TrunkYardsLaw", name := "arrive", desc := "(LTrunkYards;II[J)I" } : Jvm.MethodName) method_31_code (5 : Nat) (Option.some Jvm.ClassFile.FieldType.int) [((0 : Nat), (10 : Nat), (13 : Nat), (36 : Nat)), ((0 : Nat), (10 : Nat), (17 : Nat), (13 : Nat)), ((0 : Nat), (10 : Nat), (21 : Nat), (15 : Nat))]) ∈ lw_all := lw_g (lw_at lw_m10 110 rfl) rfl
theorem q2319 : (Jvm.Cond.methodLink "TrunkYardsLaw" (105 : Nat) ({ cls := "TrunkYards", name := "arrive", desc := "(II)I" } : Jvm.MethodName)) ∈ lw_all := lw_g (lw_at lw_m10 111 rfl) rfl
theorem q2340 : (Jvm.Cond.classLink "TrunkYardsLaw" (109 : Nat) "TrunkYardsModel") ∈ lw_all := lw_g (lw_at lw_m10 132 rfl) rfl
theorem q2342 : (Jvm.Cond.methodLink "TrunkYardsLaw" (111 : Nat) ({ cls := "TrunkYardsModel", name := "<init>", desc := "()V" } : Jvm.MethodName)) ∈ lw_all := lw_g (lw_at lw_m10 134 rfl) rfl
theorem q2437 : (Jvm.Cond.methodLink "TrunkYardsLaw" (118 : Nat) ({ cls := "TrunkYardsModel", name := "thrown", desc := "()I" } : Jvm.MethodName)) ∈ lw_all := lw_g (lw_at lw_m10 229 rfl) rfl
theorem q2441 : (Jvm.Cond.methodLink "TrunkYardsLaw" (117 : Nat) ({ cls := "TrunkYardsModel", name := "wagon", desc := "(II)I" } : Jvm.MethodName)) ∈ lw_all := lw_g (lw_at lw_m10 233 rfl) rfl
theorem q2458 : (Jvm.Cond.methodLink "TrunkYardsLaw" (125 : Nat) ({ cls := "TrunkYardsModel", name := "shunt", desc := "(IIII)I" } : Jvm.MethodName)) ∈ lw_all := lw_g (lw_at lw_m11 10 rfl) rfl
theorem q2462 : (Jvm.Cond.methodLink "TrunkYardsLaw" (129 : Nat) ({ cls := "TrunkYardsModel", name := "wash", desc := "(I)I" } : Jvm.MethodName)) ∈ lw_all := lw_g (lw_at lw_m11 14 rfl) rfl
theorem q2466 : (Jvm.Cond.methodLink "TrunkYardsLaw" (132 : Nat) ({ cls := "TrunkYardsModel", name := "follow", desc := "(II)Z" } : Jvm.MethodName)) ∈ lw_all := lw_g (lw_at lw_m11 18 rfl) rfl
theorem q2473 : (Jvm.Cond.methodLink "TrunkYardsLaw" (135 : Nat) ({ cls := "TrunkYardsModel", name := "on", desc := "(II)I" } : Jvm.MethodName)) ∈ lw_all := lw_g (lw_at lw_m11 25 rfl) rfl
theorem q2477 : (Jvm.Cond.methodLink "TrunkYardsLaw" (139 : Nat) ({ cls := "TrunkYardsModel", name := "at", desc := "(III)I" } : Jvm.MethodName)) ∈ lw_all := lw_g (lw_at lw_m11 29 rfl) rfl
theorem q2485 : (Jvm.Cond.methodLink "TrunkYardsLaw" (142 : Nat) ({ cls := "TrunkYardsModel", name := "atByReplay", desc := "(III)I" } : Jvm.MethodName)) ∈ lw_all := lw_g (lw_at lw_m11 37 rfl) rfl
theorem q2489 : (Jvm.Cond.methodLink "TrunkYardsLaw" (145 : Nat) ({ cls := "TrunkYardsModel", name := "where", desc := "(I)I" } : Jvm.MethodName)) ∈ lw_all := lw_g (lw_at lw_m11 41 rfl) rfl
theorem q2501 : (Jvm.Cond.methodLink "TrunkYardsLaw" (148 : Nat) ({ cls := "TrunkYardsModel", name := "carried", desc := "(I)I" } : Jvm.MethodName)) ∈ lw_all := lw_g (lw_at lw_m11 53 rfl) rfl
theorem q2505 : (Jvm.Cond.methodLink "TrunkYardsLaw" (151 : Nat) ({ cls := "TrunkYardsModel", name := "promised", desc := "(I)I" } : Jvm.MethodName)) ∈ lw_all := lw_g (lw_at lw_m11 57 rfl) rfl
theorem q2513 : (Jvm.Cond.methodLink "TrunkYardsLaw" (154 : Nat) ({ cls := "TrunkYardsModel", name := "call", desc := "(II)I" } : Jvm.MethodName)) ∈ lw_all := lw_g (lw_at lw_m11 65 rfl) rfl
theorem q2536 : (Jvm.Cond.methodLink "TrunkYardsLaw" (157 : Nat) ({ cls := "TrunkYardsModel", name := "ask", desc := "(II)I" } : Jvm.MethodName)) ∈ lw_all := lw_g (lw_at lw_m11 88 rfl) rfl
theorem q2556 : (Jvm.Cond.methodLink "TrunkYardsLaw" (160 : Nat) ({ cls := "TrunkYardsModel", name := "confirm", desc := "(I)I" } : Jvm.MethodName)) ∈ lw_all := lw_g (lw_at lw_m11 108 rfl) rfl
theorem q2560 : (Jvm.Cond.methodLink "TrunkYardsLaw" (163 : Nat) ({ cls := "TrunkYardsModel", name := "resume", desc := "(II)I" } : Jvm.MethodName)) ∈ lw_all := lw_g (lw_at lw_m11 112 rfl) rfl
theorem q2572 : (Jvm.Cond.methodLink "TrunkYardsLaw" (166 : Nat) ({ cls := "TrunkYardsModel", name := "cancel", desc := "(II)I" } : Jvm.MethodName)) ∈ lw_all := lw_g (lw_at lw_m11 124 rfl) rfl
theorem q2576 : (Jvm.Cond.methodLink "TrunkYardsLaw" (169 : Nat) ({ cls := "TrunkYardsModel", name := "hangUp", desc := "(I)I" } : Jvm.MethodName)) ∈ lw_all := lw_g (lw_at lw_m11 128 rfl) rfl
theorem q2584 : (Jvm.Cond.methodLink "TrunkYardsLaw" (172 : Nat) ({ cls := "TrunkYardsModel", name := "callOf", desc := "(I)I" } : Jvm.MethodName)) ∈ lw_all := lw_g (lw_at lw_m11 136 rfl) rfl
theorem q2588 : (Jvm.Cond.methodLink "TrunkYardsLaw" (175 : Nat) ({ cls := "TrunkYardsModel", name := "way", desc := "(I)I" } : Jvm.MethodName)) ∈ lw_all := lw_g (lw_at lw_m11 140 rfl) rfl
theorem q2592 : (Jvm.Cond.methodLink "TrunkYardsLaw" (179 : Nat) ({ cls := "TrunkYardsModel", name := "busy", desc := "()I" } : Jvm.MethodName)) ∈ lw_all := lw_g (lw_at lw_m11 144 rfl) rfl
theorem q2596 : (Jvm.Cond.methodLink "TrunkYardsLaw" (182 : Nat) ({ cls := "TrunkYardsModel", name := "cut", desc := "(III)I" } : Jvm.MethodName)) ∈ lw_all := lw_g (lw_at lw_m11 148 rfl) rfl
theorem q2603 : (Jvm.Cond.methodLink "TrunkYardsLaw" (186 : Nat) ({ cls := "TrunkYardsModel", name := "mend", desc := "(III)V" } : Jvm.MethodName)) ∈ lw_all := lw_g (lw_at lw_m11 155 rfl) rfl
theorem q2607 : (Jvm.Cond.methodLink "TrunkYardsLaw" (189 : Nat) ({ cls := "TrunkYardsModel", name := "trunk", desc := "(III)I" } : Jvm.MethodName)) ∈ lw_all := lw_g (lw_at lw_m11 159 rfl) rfl
theorem q2611 : (Jvm.Cond.methodLink "TrunkYardsLaw" (192 : Nat) ({ cls := "TrunkYardsModel", name := "setLines", desc := "(II)I" } : Jvm.MethodName)) ∈ lw_all := lw_g (lw_at lw_m11 163 rfl) rfl
theorem q2615 : (Jvm.Cond.methodLink "TrunkYardsLaw" (195 : Nat) ({ cls := "TrunkYardsModel", name := "pass", desc := "(I)I" } : Jvm.MethodName)) ∈ lw_all := lw_g (lw_at lw_m11 167 rfl) rfl
theorem q2619 : (Jvm.Cond.methodLink "TrunkYardsLaw" (199 : Nat) ({ cls := "TrunkYardsModel", name := "bookings", desc := "()I" } : Jvm.MethodName)) ∈ lw_all := lw_g (lw_at lw_m11 171 rfl) rfl
theorem q2623 : (Jvm.Cond.methodLink "TrunkYardsLaw" (202 : Nat) ({ cls := "TrunkYardsModel", name := "state", desc := "(I)I" } : Jvm.MethodName)) ∈ lw_all := lw_g (lw_at lw_m11 175 rfl) rfl
theorem q2631 : (Jvm.Cond.methodLink "TrunkYardsLaw" (205 : Nat) ({ cls := "TrunkYardsModel", name := "wagons", desc := "(I)I" } : Jvm.MethodName)) ∈ lw_all := lw_g (lw_at lw_m11 183 rfl) rfl
theorem q2635 : (Jvm.Cond.methodLink "TrunkYardsLaw" (208 : Nat) ({ cls := "TrunkYardsModel", name := "wagonOf", desc := "(II)I" } : Jvm.MethodName)) ∈ lw_all := lw_g (lw_at lw_m11 187 rfl) rfl
theorem q2639 : (Jvm.Cond.methodLink "TrunkYardsLaw" (211 : Nat) ({ cls := "TrunkYardsModel", name := "lapses", desc := "(I)I" } : Jvm.MethodName)) ∈ lw_all := lw_g (lw_at lw_m11 191 rfl) rfl
theorem q2643 : (Jvm.Cond.methodLink "TrunkYardsLaw" (214 : Nat) ({ cls := "TrunkYardsModel", name := "depart", desc := "(III)I" } : Jvm.MethodName)) ∈ lw_all := lw_g (lw_at lw_m11 195 rfl) rfl
theorem q2655 : (Jvm.Cond.methodLink "TrunkYardsLaw" (217 : Nat) ({ cls := "TrunkYardsModel", name := "arrive", desc := "(II)I" } : Jvm.MethodName)) ∈ lw_all := lw_g (lw_at lw_m11 207 rfl) rfl
theorem q2659 : (Jvm.Cond.methodLink "TrunkYardsLaw" (221 : Nat) ({ cls := "TrunkYardsModel", name := "trains", desc := "()I" } : Jvm.MethodName)) ∈ lw_all := lw_g (lw_at lw_m11 211 rfl) rfl

/-! the law's own entry -/
set_option maxRecDepth 100000
abbrev cL_law : ByteArray := code
def dkwL_law_86 : List UInt8 := [167, 0, 16, 43, 182, 0, 218, 44, 182, 0, 221, 159, 0, 5, 3, 172, 132, 4, 5, 167, 247, 194, 4, 172]
abbrev dktL_law_86 : List UInt8 := dkwL_law_86 ++ []
def dkwL_law_85 : List UInt8 := [159, 0, 5, 3, 172, 21, 5, 154, 0, 15, 45, 3, 47, 21, 6, 133, 148, 153, 0, 5, 3, 172]
abbrev dktL_law_85 : List UInt8 := dkwL_law_85 ++ dktL_law_86
def dkwL_law_84 : List UInt8 := [21, 4, 4, 96, 46, 42, 21, 4, 5, 96, 46, 182, 0, 217, 54, 6, 44, 182, 0, 118, 21, 5]
abbrev dktL_law_84 : List UInt8 := dkwL_law_84 ++ dktL_law_85
def dkwL_law_83 : List UInt8 := [167, 0, 84, 43, 42, 21, 4, 4, 96, 46, 42, 21, 4, 5, 96, 46, 45, 184, 0, 215, 54, 5, 44, 42]
abbrev dktL_law_83 : List UInt8 := dkwL_law_83 ++ dktL_law_84
def dkwL_law_82 : List UInt8 := [21, 5, 159, 0, 5, 3, 172, 21, 5, 154, 0, 15, 45, 3, 47, 21, 6, 133, 148, 153, 0, 5, 3, 172]
abbrev dktL_law_82 : List UInt8 := dkwL_law_82 ++ dktL_law_83
def dkwL_law_81 : List UInt8 := [96, 46, 42, 21, 4, 5, 96, 46, 42, 21, 4, 6, 96, 46, 182, 0, 214, 54, 6, 44, 182, 0, 118]
abbrev dktL_law_81 : List UInt8 := dkwL_law_81 ++ dktL_law_82
def dkwL_law_80 : List UInt8 := [46, 42, 21, 4, 5, 96, 46, 42, 21, 4, 6, 96, 46, 45, 184, 0, 212, 54, 5, 44, 42, 21, 4, 4]
abbrev dktL_law_80 : List UInt8 := dkwL_law_80 ++ dktL_law_81
def dkwL_law_79 : List UInt8 := [154, 0, 15, 45, 3, 47, 21, 6, 133, 148, 153, 0, 5, 3, 172, 167, 0, 164, 43, 42, 21, 4, 4, 96]
abbrev dktL_law_79 : List UInt8 := dkwL_law_79 ++ dktL_law_80
def dkwL_law_78 : List UInt8 := [21, 4, 4, 96, 46, 182, 0, 211, 54, 6, 44, 182, 0, 118, 21, 5, 159, 0, 5, 3, 172, 21, 5]
abbrev dktL_law_78 : List UInt8 := dkwL_law_78 ++ dktL_law_79
def dkwL_law_77 : List UInt8 := [148, 153, 0, 5, 3, 172, 167, 0, 220, 43, 42, 21, 4, 4, 96, 46, 45, 184, 0, 209, 54, 5, 44, 42]
abbrev dktL_law_77 : List UInt8 := dkwL_law_77 ++ dktL_law_78
def dkwL_law_76 : List UInt8 := [54, 6, 44, 182, 0, 118, 21, 5, 159, 0, 5, 3, 172, 21, 5, 154, 0, 15, 45, 3, 47, 21, 6, 133]
abbrev dktL_law_76 : List UInt8 := dkwL_law_76 ++ dktL_law_77
def dkwL_law_75 : List UInt8 := [46, 45, 184, 0, 206, 54, 5, 44, 42, 21, 4, 4, 96, 46, 42, 21, 4, 5, 96, 46, 182, 0, 208]
abbrev dktL_law_75 : List UInt8 := dkwL_law_75 ++ dktL_law_76
def dkwL_law_74 : List UInt8 := [21, 6, 133, 148, 153, 0, 5, 3, 172, 167, 1, 32, 43, 42, 21, 4, 4, 96, 46, 42, 21, 4, 5, 96]
abbrev dktL_law_74 : List UInt8 := dkwL_law_74 ++ dktL_law_75
def dkwL_law_73 : List UInt8 := [182, 0, 205, 54, 6, 44, 182, 0, 118, 21, 5, 159, 0, 5, 3, 172, 21, 5, 154, 0, 15, 45, 3, 47]
abbrev dktL_law_73 : List UInt8 := dkwL_law_73 ++ dktL_law_74
def dkwL_law_72 : List UInt8 := [167, 1, 88, 43, 42, 21, 4, 4, 96, 46, 45, 184, 0, 203, 54, 5, 44, 42, 21, 4, 4, 96, 46]
abbrev dktL_law_72 : List UInt8 := dkwL_law_72 ++ dktL_law_73
def dkwL_law_71 : List UInt8 := [159, 0, 5, 3, 172, 21, 5, 154, 0, 15, 45, 3, 47, 21, 6, 133, 148, 153, 0, 5, 3, 172]
abbrev dktL_law_71 : List UInt8 := dkwL_law_71 ++ dktL_law_72
def dkwL_law_70 : List UInt8 := [184, 0, 200, 54, 5, 44, 42, 21, 4, 4, 96, 46, 182, 0, 202, 54, 6, 44, 182, 0, 118, 21, 5]
abbrev dktL_law_70 : List UInt8 := dkwL_law_70 ++ dktL_law_71
def dkwL_law_69 : List UInt8 := [167, 1, 157, 43, 182, 0, 196, 44, 182, 0, 199, 159, 1, 146, 3, 172, 43, 42, 21, 4, 4, 96, 46, 45]
abbrev dktL_law_69 : List UInt8 := dkwL_law_69 ++ dktL_law_70
def dkwL_law_68 : List UInt8 := [159, 0, 5, 3, 172, 21, 5, 154, 0, 15, 45, 3, 47, 21, 6, 133, 148, 153, 0, 5, 3, 172]
abbrev dktL_law_68 : List UInt8 := dkwL_law_68 ++ dktL_law_69
def dkwL_law_67 : List UInt8 := [184, 0, 193, 54, 5, 44, 42, 21, 4, 4, 96, 46, 182, 0, 195, 54, 6, 44, 182, 0, 118, 21, 5]
abbrev dktL_law_67 : List UInt8 := dkwL_law_67 ++ dktL_law_68
def dkwL_law_66 : List UInt8 := [3, 47, 21, 6, 133, 148, 153, 0, 5, 3, 172, 167, 1, 213, 43, 42, 21, 4, 4, 96, 46, 45]
abbrev dktL_law_66 : List UInt8 := dkwL_law_66 ++ dktL_law_67
def dkwL_law_65 : List UInt8 := [96, 46, 182, 0, 192, 54, 6, 44, 182, 0, 118, 21, 5, 159, 0, 5, 3, 172, 21, 5, 154, 0, 15, 45]
abbrev dktL_law_65 : List UInt8 := dkwL_law_65 ++ dktL_law_66
def dkwL_law_64 : List UInt8 := [46, 42, 21, 4, 5, 96, 46, 45, 184, 0, 190, 54, 5, 44, 42, 21, 4, 4, 96, 46, 42, 21, 4, 5]
abbrev dktL_law_64 : List UInt8 := dkwL_law_64 ++ dktL_law_65
def dkwL_law_63 : List UInt8 := [154, 0, 15, 45, 3, 47, 21, 6, 133, 148, 153, 0, 5, 3, 172, 167, 2, 25, 43, 42, 21, 4, 4, 96]
abbrev dktL_law_63 : List UInt8 := dkwL_law_63 ++ dktL_law_64
def dkwL_law_62 : List UInt8 := [21, 4, 6, 96, 46, 182, 0, 189, 54, 6, 44, 182, 0, 118, 21, 5, 159, 0, 5, 3, 172, 21, 5]
abbrev dktL_law_62 : List UInt8 := dkwL_law_62 ++ dktL_law_63
def dkwL_law_61 : List UInt8 := [6, 96, 46, 45, 184, 0, 187, 54, 5, 44, 42, 21, 4, 4, 96, 46, 42, 21, 4, 5, 96, 46, 42]
abbrev dktL_law_61 : List UInt8 := dkwL_law_61 ++ dktL_law_62
def dkwL_law_60 : List UInt8 := [159, 0, 5, 3, 172, 167, 2, 105, 43, 42, 21, 4, 4, 96, 46, 42, 21, 4, 5, 96, 46, 42, 21, 4]
abbrev dktL_law_60 : List UInt8 := dkwL_law_60 ++ dktL_law_61
def dkwL_law_59 : List UInt8 := [46, 42, 21, 4, 5, 96, 46, 42, 21, 4, 6, 96, 46, 182, 0, 186, 44, 182, 0, 118, 21, 5]
abbrev dktL_law_59 : List UInt8 := dkwL_law_59 ++ dktL_law_60
def dkwL_law_58 : List UInt8 := [46, 42, 21, 4, 5, 96, 46, 42, 21, 4, 6, 96, 46, 184, 0, 183, 54, 5, 44, 42, 21, 4, 4, 96]
abbrev dktL_law_58 : List UInt8 := dkwL_law_58 ++ dktL_law_59
def dkwL_law_57 : List UInt8 := [154, 0, 15, 45, 3, 47, 21, 6, 133, 148, 153, 0, 5, 3, 172, 167, 2, 165, 43, 42, 21, 4, 4, 96]
abbrev dktL_law_57 : List UInt8 := dkwL_law_57 ++ dktL_law_58
def dkwL_law_56 : List UInt8 := [21, 4, 6, 96, 46, 182, 0, 182, 54, 6, 44, 182, 0, 118, 21, 5, 159, 0, 5, 3, 172, 21, 5]
abbrev dktL_law_56 : List UInt8 := dkwL_law_56 ++ dktL_law_57
def dkwL_law_55 : List UInt8 := [6, 96, 46, 45, 184, 0, 180, 54, 5, 44, 42, 21, 4, 4, 96, 46, 42, 21, 4, 5, 96, 46, 42]
abbrev dktL_law_55 : List UInt8 := dkwL_law_55 ++ dktL_law_56
def dkwL_law_54 : List UInt8 := [182, 0, 179, 159, 2, 247, 3, 172, 43, 42, 21, 4, 4, 96, 46, 42, 21, 4, 5, 96, 46, 42, 21, 4]
abbrev dktL_law_54 : List UInt8 := dkwL_law_54 ++ dktL_law_55
def dkwL_law_53 : List UInt8 := [154, 0, 15, 45, 3, 47, 21, 6, 133, 148, 153, 0, 5, 3, 172, 167, 3, 2, 43, 182, 0, 176, 44]
abbrev dktL_law_53 : List UInt8 := dkwL_law_53 ++ dktL_law_54
def dkwL_law_52 : List UInt8 := [21, 4, 4, 96, 46, 182, 0, 175, 54, 6, 44, 182, 0, 118, 21, 5, 159, 0, 5, 3, 172, 21, 5]
abbrev dktL_law_52 : List UInt8 := dkwL_law_52 ++ dktL_law_53
def dkwL_law_51 : List UInt8 := [153, 0, 5, 3, 172, 167, 3, 58, 43, 42, 21, 4, 4, 96, 46, 45, 184, 0, 173, 54, 5, 44, 42]
abbrev dktL_law_51 : List UInt8 := dkwL_law_51 ++ dktL_law_52
def dkwL_law_50 : List UInt8 := [182, 0, 118, 21, 5, 159, 0, 5, 3, 172, 21, 5, 154, 0, 15, 45, 3, 47, 21, 6, 133, 148]
abbrev dktL_law_50 : List UInt8 := dkwL_law_50 ++ dktL_law_51
def dkwL_law_49 : List UInt8 := [21, 4, 4, 96, 46, 45, 184, 0, 170, 54, 5, 44, 42, 21, 4, 4, 96, 46, 182, 0, 172, 54, 6, 44]
abbrev dktL_law_49 : List UInt8 := dkwL_law_49 ++ dktL_law_50
def dkwL_law_48 : List UInt8 := [172, 21, 5, 154, 0, 15, 45, 3, 47, 21, 6, 133, 148, 153, 0, 5, 3, 172, 167, 3, 114, 43, 42]
abbrev dktL_law_48 : List UInt8 := dkwL_law_48 ++ dktL_law_49
def dkwL_law_47 : List UInt8 := [54, 5, 44, 42, 21, 4, 4, 96, 46, 182, 0, 169, 54, 6, 44, 182, 0, 118, 21, 5, 159, 0, 5, 3]
abbrev dktL_law_47 : List UInt8 := dkwL_law_47 ++ dktL_law_48
def dkwL_law_46 : List UInt8 := [21, 6, 133, 148, 153, 0, 5, 3, 172, 167, 3, 170, 43, 42, 21, 4, 4, 96, 46, 45, 184, 0, 167]
abbrev dktL_law_46 : List UInt8 := dkwL_law_46 ++ dktL_law_47
def dkwL_law_45 : List UInt8 := [182, 0, 166, 54, 6, 44, 182, 0, 118, 21, 5, 159, 0, 5, 3, 172, 21, 5, 154, 0, 15, 45, 3, 47]
abbrev dktL_law_45 : List UInt8 := dkwL_law_45 ++ dktL_law_46
def dkwL_law_44 : List UInt8 := [5, 96, 46, 45, 184, 0, 164, 54, 5, 44, 42, 21, 4, 4, 96, 46, 42, 21, 4, 5, 96, 46]
abbrev dktL_law_44 : List UInt8 := dkwL_law_44 ++ dktL_law_45
def dkwL_law_43 : List UInt8 := [3, 47, 21, 6, 133, 148, 153, 0, 5, 3, 172, 167, 3, 238, 43, 42, 21, 4, 4, 96, 46, 42, 21, 4]
abbrev dktL_law_43 : List UInt8 := dkwL_law_43 ++ dktL_law_44
def dkwL_law_42 : List UInt8 := [96, 46, 182, 0, 163, 54, 6, 44, 182, 0, 118, 21, 5, 159, 0, 5, 3, 172, 21, 5, 154, 0, 15, 45]
abbrev dktL_law_42 : List UInt8 := dkwL_law_42 ++ dktL_law_43
def dkwL_law_41 : List UInt8 := [46, 42, 21, 4, 5, 96, 46, 45, 184, 0, 161, 54, 5, 44, 42, 21, 4, 4, 96, 46, 42, 21, 4, 5]
abbrev dktL_law_41 : List UInt8 := dkwL_law_41 ++ dktL_law_42
def dkwL_law_40 : List UInt8 := [154, 0, 15, 45, 3, 47, 21, 6, 133, 148, 153, 0, 5, 3, 172, 167, 4, 50, 43, 42, 21, 4, 4, 96]
abbrev dktL_law_40 : List UInt8 := dkwL_law_40 ++ dktL_law_41
def dkwL_law_39 : List UInt8 := [21, 4, 4, 96, 46, 182, 0, 160, 54, 6, 44, 182, 0, 118, 21, 5, 159, 0, 5, 3, 172, 21, 5]
abbrev dktL_law_39 : List UInt8 := dkwL_law_39 ++ dktL_law_40
def dkwL_law_38 : List UInt8 := [153, 0, 5, 3, 172, 167, 4, 106, 43, 42, 21, 4, 4, 96, 46, 45, 184, 0, 158, 54, 5, 44, 42]
abbrev dktL_law_38 : List UInt8 := dkwL_law_38 ++ dktL_law_39
def dkwL_law_37 : List UInt8 := [182, 0, 118, 21, 5, 159, 0, 5, 3, 172, 21, 5, 154, 0, 15, 45, 3, 47, 21, 6, 133, 148]
abbrev dktL_law_37 : List UInt8 := dkwL_law_37 ++ dktL_law_38
def dkwL_law_36 : List UInt8 := [184, 0, 155, 54, 5, 44, 42, 21, 4, 4, 96, 46, 42, 21, 4, 5, 96, 46, 182, 0, 157, 54, 6, 44]
abbrev dktL_law_36 : List UInt8 := dkwL_law_36 ++ dktL_law_37
def dkwL_law_35 : List UInt8 := [153, 0, 5, 3, 172, 167, 4, 174, 43, 42, 21, 4, 4, 96, 46, 42, 21, 4, 5, 96, 46, 45]
abbrev dktL_law_35 : List UInt8 := dkwL_law_35 ++ dktL_law_36
def dkwL_law_34 : List UInt8 := [182, 0, 118, 21, 5, 159, 0, 5, 3, 172, 21, 5, 154, 0, 15, 45, 3, 47, 21, 6, 133, 148]
abbrev dktL_law_34 : List UInt8 := dkwL_law_34 ++ dktL_law_35
def dkwL_law_33 : List UInt8 := [184, 0, 152, 54, 5, 44, 42, 21, 4, 4, 96, 46, 42, 21, 4, 5, 96, 46, 182, 0, 154, 54, 6, 44]
abbrev dktL_law_33 : List UInt8 := dkwL_law_33 ++ dktL_law_34
def dkwL_law_32 : List UInt8 := [153, 0, 5, 3, 172, 167, 4, 242, 43, 42, 21, 4, 4, 96, 46, 42, 21, 4, 5, 96, 46, 45]
abbrev dktL_law_32 : List UInt8 := dkwL_law_32 ++ dktL_law_33
def dkwL_law_31 : List UInt8 := [182, 0, 118, 21, 5, 159, 0, 5, 3, 172, 21, 5, 154, 0, 15, 45, 3, 47, 21, 6, 133, 148]
abbrev dktL_law_31 : List UInt8 := dkwL_law_31 ++ dktL_law_32
def dkwL_law_30 : List UInt8 := [21, 4, 4, 96, 46, 45, 184, 0, 149, 54, 5, 44, 42, 21, 4, 4, 96, 46, 182, 0, 151, 54, 6, 44]
abbrev dktL_law_30 : List UInt8 := dkwL_law_30 ++ dktL_law_31
def dkwL_law_29 : List UInt8 := [172, 21, 5, 154, 0, 15, 45, 3, 47, 21, 6, 133, 148, 153, 0, 5, 3, 172, 167, 5, 42, 43, 42]
abbrev dktL_law_29 : List UInt8 := dkwL_law_29 ++ dktL_law_30
def dkwL_law_28 : List UInt8 := [54, 5, 44, 42, 21, 4, 4, 96, 46, 182, 0, 148, 54, 6, 44, 182, 0, 118, 21, 5, 159, 0, 5, 3]
abbrev dktL_law_28 : List UInt8 := dkwL_law_28 ++ dktL_law_29
def dkwL_law_27 : List UInt8 := [21, 6, 133, 148, 153, 0, 5, 3, 172, 167, 5, 98, 43, 42, 21, 4, 4, 96, 46, 45, 184, 0, 146]
abbrev dktL_law_27 : List UInt8 := dkwL_law_27 ++ dktL_law_28
def dkwL_law_26 : List UInt8 := [182, 0, 145, 54, 6, 44, 182, 0, 118, 21, 5, 159, 0, 5, 3, 172, 21, 5, 154, 0, 15, 45, 3, 47]
abbrev dktL_law_26 : List UInt8 := dkwL_law_26 ++ dktL_law_27
def dkwL_law_25 : List UInt8 := [167, 5, 154, 43, 42, 21, 4, 4, 96, 46, 45, 184, 0, 143, 54, 5, 44, 42, 21, 4, 4, 96, 46]
abbrev dktL_law_25 : List UInt8 := dkwL_law_25 ++ dktL_law_26
def dkwL_law_24 : List UInt8 := [21, 5, 159, 0, 5, 3, 172, 21, 5, 154, 0, 15, 45, 3, 47, 21, 6, 133, 148, 153, 0, 5, 3, 172]
abbrev dktL_law_24 : List UInt8 := dkwL_law_24 ++ dktL_law_25
def dkwL_law_23 : List UInt8 := [96, 46, 42, 21, 4, 5, 96, 46, 42, 21, 4, 6, 96, 46, 182, 0, 142, 54, 6, 44, 182, 0, 118]
abbrev dktL_law_23 : List UInt8 := dkwL_law_23 ++ dktL_law_24
def dkwL_law_22 : List UInt8 := [46, 42, 21, 4, 5, 96, 46, 42, 21, 4, 6, 96, 46, 45, 184, 0, 140, 54, 5, 44, 42, 21, 4, 4]
abbrev dktL_law_22 : List UInt8 := dkwL_law_22 ++ dktL_law_23
def dkwL_law_21 : List UInt8 := [154, 0, 15, 45, 3, 47, 21, 6, 133, 148, 153, 0, 5, 3, 172, 167, 5, 234, 43, 42, 21, 4, 4, 96]
abbrev dktL_law_21 : List UInt8 := dkwL_law_21 ++ dktL_law_22
def dkwL_law_20 : List UInt8 := [21, 4, 6, 96, 46, 182, 0, 139, 54, 6, 44, 182, 0, 118, 21, 5, 159, 0, 5, 3, 172, 21, 5]
abbrev dktL_law_20 : List UInt8 := dkwL_law_20 ++ dktL_law_21
def dkwL_law_19 : List UInt8 := [6, 96, 46, 45, 184, 0, 136, 54, 5, 44, 42, 21, 4, 4, 96, 46, 42, 21, 4, 5, 96, 46, 42]
abbrev dktL_law_19 : List UInt8 := dkwL_law_19 ++ dktL_law_20
def dkwL_law_18 : List UInt8 := [153, 0, 5, 3, 172, 167, 6, 58, 43, 42, 21, 4, 4, 96, 46, 42, 21, 4, 5, 96, 46, 42, 21, 4]
abbrev dktL_law_18 : List UInt8 := dkwL_law_18 ++ dktL_law_19
def dkwL_law_17 : List UInt8 := [182, 0, 118, 21, 5, 159, 0, 5, 3, 172, 21, 5, 154, 0, 15, 45, 3, 47, 21, 6, 133, 148]
abbrev dktL_law_17 : List UInt8 := dkwL_law_17 ++ dktL_law_18
def dkwL_law_16 : List UInt8 := [184, 0, 133, 54, 5, 44, 42, 21, 4, 4, 96, 46, 42, 21, 4, 5, 96, 46, 182, 0, 135, 54, 6, 44]
abbrev dktL_law_16 : List UInt8 := dkwL_law_16 ++ dktL_law_17
def dkwL_law_15 : List UInt8 := [153, 0, 5, 3, 172, 167, 6, 126, 43, 42, 21, 4, 4, 96, 46, 42, 21, 4, 5, 96, 46, 45]
abbrev dktL_law_15 : List UInt8 := dkwL_law_15 ++ dktL_law_16
def dkwL_law_14 : List UInt8 := [159, 0, 5, 3, 172, 21, 5, 154, 0, 22, 45, 3, 47, 21, 6, 153, 0, 7, 10, 167, 0, 4, 9, 148]
abbrev dktL_law_14 : List UInt8 := dkwL_law_14 ++ dktL_law_15
def dkwL_law_13 : List UInt8 := [21, 4, 4, 96, 46, 42, 21, 4, 5, 96, 46, 182, 0, 132, 54, 6, 44, 182, 0, 118, 21, 5]
abbrev dktL_law_13 : List UInt8 := dkwL_law_13 ++ dktL_law_14
def dkwL_law_12 : List UInt8 := [167, 6, 201, 43, 42, 21, 4, 4, 96, 46, 42, 21, 4, 5, 96, 46, 45, 184, 0, 130, 54, 5, 44, 42]
abbrev dktL_law_12 : List UInt8 := dkwL_law_12 ++ dktL_law_13
def dkwL_law_11 : List UInt8 := [21, 5, 159, 0, 5, 3, 172, 21, 5, 154, 0, 15, 45, 3, 47, 21, 6, 133, 148, 153, 0, 5, 3, 172]
abbrev dktL_law_11 : List UInt8 := dkwL_law_11 ++ dktL_law_12
def dkwL_law_10 : List UInt8 := [46, 45, 184, 0, 126, 54, 5, 44, 42, 21, 4, 4, 96, 46, 182, 0, 129, 54, 6, 44, 182, 0, 118]
abbrev dktL_law_10 : List UInt8 := dkwL_law_10 ++ dktL_law_11
def dkwL_law_9 : List UInt8 := [154, 0, 15, 45, 3, 47, 21, 6, 133, 148, 153, 0, 5, 3, 172, 167, 7, 1, 43, 42, 21, 4, 4, 96]
abbrev dktL_law_9 : List UInt8 := dkwL_law_9 ++ dktL_law_10
def dkwL_law_8 : List UInt8 := [42, 21, 4, 7, 96, 46, 182, 0, 125, 54, 6, 44, 182, 0, 118, 21, 5, 159, 0, 5, 3, 172, 21, 5]
abbrev dktL_law_8 : List UInt8 := dkwL_law_8 ++ dktL_law_9
def dkwL_law_7 : List UInt8 := [184, 0, 122, 54, 5, 44, 42, 21, 4, 4, 96, 46, 42, 21, 4, 5, 96, 46, 42, 21, 4, 6, 96, 46]
abbrev dktL_law_7 : List UInt8 := dkwL_law_7 ++ dktL_law_8
def dkwL_law_6 : List UInt8 := [4, 96, 46, 42, 21, 4, 5, 96, 46, 42, 21, 4, 6, 96, 46, 42, 21, 4, 7, 96, 46, 45]
abbrev dktL_law_6 : List UInt8 := dkwL_law_6 ++ dktL_law_7
def dkwL_law_5 : List UInt8 := [21, 5, 154, 0, 15, 45, 3, 47, 21, 6, 133, 148, 153, 0, 5, 3, 172, 167, 7, 93, 43, 42, 21, 4]
abbrev dktL_law_5 : List UInt8 := dkwL_law_5 ++ dktL_law_6
def dkwL_law_4 : List UInt8 := [96, 46, 42, 21, 4, 5, 96, 46, 182, 0, 117, 54, 6, 44, 182, 0, 118, 21, 5, 159, 0, 5, 3, 172]
abbrev dktL_law_4 : List UInt8 := dkwL_law_4 ++ dktL_law_5
def dkwL_law_3 : List UInt8 := [43, 42, 21, 4, 4, 96, 46, 42, 21, 4, 5, 96, 46, 45, 184, 0, 112, 54, 5, 44, 42, 21, 4, 4]
abbrev dktL_law_3 : List UInt8 := dkwL_law_3 ++ dktL_law_4
def dkwL_law_2 : List UInt8 := [170, 0, 0, 8, 43, 0, 0, 0, 0, 0, 0, 0, 31, 0, 0, 0, 141, 0, 0, 0, 209, 0, 0, 1, 45, 0, 0, 1, 101, 0, 0, 1, 176, 0, 0, 1, 244, 0, 0, 2, 68, 0, 0, 2, 148, 0, 0, 2, 204, 0, 0, 3, 4, 0, 0, 3, 60, 0, 0, 3, 128, 0, 0, 3, 196, 0, 0, 3, 252, 0, 0, 4, 64, 0, 0, 4, 132, 0, 0, 4, 188, 0, 0, 4, 244, 0, 0, 5, 44, 0, 0, 5, 57, 0, 0, 5, 137, 0, 0, 5, 197, 0, 0, 6, 21, 0, 0, 6, 89, 0, 0, 6, 145, 0, 0, 6, 158, 0, 0, 6, 214, 0, 0, 7, 14, 0, 0, 7, 82, 0, 0, 7, 138, 0, 0, 7, 218, 0, 0, 8, 30]
abbrev dktL_law_2 : List UInt8 := dkwL_law_2 ++ dktL_law_3
def dkwL_law_1 : List UInt8 := [21, 4, 42, 190, 8, 100, 163, 8, 59, 42, 21, 4, 46, 16, 31, 126]
abbrev dktL_law_1 : List UInt8 := dkwL_law_1 ++ dktL_law_2
def dkwL_law_0 : List UInt8 := [187, 0, 8, 89, 183, 0, 108, 76, 187, 0, 109, 89, 183, 0, 111, 77, 4, 188, 11, 78, 3, 54, 4]
abbrev dktL_law_0 : List UInt8 := dkwL_law_0 ++ dktL_law_1
theorem dksL_law_0 : cL_law.data.toList.drop 0 = dktL_law_0 := by decide +kernel
theorem dksL_law_1 : cL_law.data.toList.drop 23 = dktL_law_1 := dk_seg dksL_law_0 23 rfl rfl
theorem dksL_law_2 : cL_law.data.toList.drop 39 = dktL_law_2 := dk_seg dksL_law_1 16 rfl rfl
theorem dksL_law_3 : cL_law.data.toList.drop 180 = dktL_law_3 := dk_seg dksL_law_2 141 rfl rfl
theorem dksL_law_4 : cL_law.data.toList.drop 204 = dktL_law_4 := dk_seg dksL_law_3 24 rfl rfl
theorem dksL_law_5 : cL_law.data.toList.drop 228 = dktL_law_5 := dk_seg dksL_law_4 24 rfl rfl
theorem dksL_law_6 : cL_law.data.toList.drop 252 = dktL_law_6 := dk_seg dksL_law_5 24 rfl rfl
theorem dksL_law_7 : cL_law.data.toList.drop 274 = dktL_law_7 := dk_seg dksL_law_6 22 rfl rfl
theorem dksL_law_8 : cL_law.data.toList.drop 298 = dktL_law_8 := dk_seg dksL_law_7 24 rfl rfl
theorem dksL_law_9 : cL_law.data.toList.drop 322 = dktL_law_9 := dk_seg dksL_law_8 24 rfl rfl
theorem dksL_law_10 : cL_law.data.toList.drop 346 = dktL_law_10 := dk_seg dksL_law_9 24 rfl rfl
theorem dksL_law_11 : cL_law.data.toList.drop 369 = dktL_law_11 := dk_seg dksL_law_10 23 rfl rfl
theorem dksL_law_12 : cL_law.data.toList.drop 393 = dktL_law_12 := dk_seg dksL_law_11 24 rfl rfl
theorem dksL_law_13 : cL_law.data.toList.drop 417 = dktL_law_13 := dk_seg dksL_law_12 24 rfl rfl
theorem dksL_law_14 : cL_law.data.toList.drop 439 = dktL_law_14 := dk_seg dksL_law_13 22 rfl rfl
theorem dksL_law_15 : cL_law.data.toList.drop 463 = dktL_law_15 := dk_seg dksL_law_14 24 rfl rfl
theorem dksL_law_16 : cL_law.data.toList.drop 485 = dktL_law_16 := dk_seg dksL_law_15 22 rfl rfl
theorem dksL_law_17 : cL_law.data.toList.drop 509 = dktL_law_17 := dk_seg dksL_law_16 24 rfl rfl
theorem dksL_law_18 : cL_law.data.toList.drop 531 = dktL_law_18 := dk_seg dksL_law_17 22 rfl rfl
theorem dksL_law_19 : cL_law.data.toList.drop 555 = dktL_law_19 := dk_seg dksL_law_18 24 rfl rfl
theorem dksL_law_20 : cL_law.data.toList.drop 578 = dktL_law_20 := dk_seg dksL_law_19 23 rfl rfl
theorem dksL_law_21 : cL_law.data.toList.drop 601 = dktL_law_21 := dk_seg dksL_law_20 23 rfl rfl
theorem dksL_law_22 : cL_law.data.toList.drop 625 = dktL_law_22 := dk_seg dksL_law_21 24 rfl rfl
theorem dksL_law_23 : cL_law.data.toList.drop 649 = dktL_law_23 := dk_seg dksL_law_22 24 rfl rfl
theorem dksL_law_24 : cL_law.data.toList.drop 672 = dktL_law_24 := dk_seg dksL_law_23 23 rfl rfl
theorem dksL_law_25 : cL_law.data.toList.drop 696 = dktL_law_25 := dk_seg dksL_law_24 24 rfl rfl
theorem dksL_law_26 : cL_law.data.toList.drop 719 = dktL_law_26 := dk_seg dksL_law_25 23 rfl rfl
theorem dksL_law_27 : cL_law.data.toList.drop 743 = dktL_law_27 := dk_seg dksL_law_26 24 rfl rfl
theorem dksL_law_28 : cL_law.data.toList.drop 766 = dktL_law_28 := dk_seg dksL_law_27 23 rfl rfl
theorem dksL_law_29 : cL_law.data.toList.drop 790 = dktL_law_29 := dk_seg dksL_law_28 24 rfl rfl
theorem dksL_law_30 : cL_law.data.toList.drop 813 = dktL_law_30 := dk_seg dksL_law_29 23 rfl rfl
theorem dksL_law_31 : cL_law.data.toList.drop 837 = dktL_law_31 := dk_seg dksL_law_30 24 rfl rfl
theorem dksL_law_32 : cL_law.data.toList.drop 859 = dktL_law_32 := dk_seg dksL_law_31 22 rfl rfl
theorem dksL_law_33 : cL_law.data.toList.drop 881 = dktL_law_33 := dk_seg dksL_law_32 22 rfl rfl
theorem dksL_law_34 : cL_law.data.toList.drop 905 = dktL_law_34 := dk_seg dksL_law_33 24 rfl rfl
theorem dksL_law_35 : cL_law.data.toList.drop 927 = dktL_law_35 := dk_seg dksL_law_34 22 rfl rfl
theorem dksL_law_36 : cL_law.data.toList.drop 949 = dktL_law_36 := dk_seg dksL_law_35 22 rfl rfl
theorem dksL_law_37 : cL_law.data.toList.drop 973 = dktL_law_37 := dk_seg dksL_law_36 24 rfl rfl
theorem dksL_law_38 : cL_law.data.toList.drop 995 = dktL_law_38 := dk_seg dksL_law_37 22 rfl rfl
theorem dksL_law_39 : cL_law.data.toList.drop 1018 = dktL_law_39 := dk_seg dksL_law_38 23 rfl rfl
theorem dksL_law_40 : cL_law.data.toList.drop 1041 = dktL_law_40 := dk_seg dksL_law_39 23 rfl rfl
theorem dksL_law_41 : cL_law.data.toList.drop 1065 = dktL_law_41 := dk_seg dksL_law_40 24 rfl rfl
theorem dksL_law_42 : cL_law.data.toList.drop 1089 = dktL_law_42 := dk_seg dksL_law_41 24 rfl rfl
theorem dksL_law_43 : cL_law.data.toList.drop 1113 = dktL_law_43 := dk_seg dksL_law_42 24 rfl rfl
theorem dksL_law_44 : cL_law.data.toList.drop 1137 = dktL_law_44 := dk_seg dksL_law_43 24 rfl rfl
theorem dksL_law_45 : cL_law.data.toList.drop 1159 = dktL_law_45 := dk_seg dksL_law_44 22 rfl rfl
theorem dksL_law_46 : cL_law.data.toList.drop 1183 = dktL_law_46 := dk_seg dksL_law_45 24 rfl rfl
theorem dksL_law_47 : cL_law.data.toList.drop 1206 = dktL_law_47 := dk_seg dksL_law_46 23 rfl rfl
theorem dksL_law_48 : cL_law.data.toList.drop 1230 = dktL_law_48 := dk_seg dksL_law_47 24 rfl rfl
theorem dksL_law_49 : cL_law.data.toList.drop 1253 = dktL_law_49 := dk_seg dksL_law_48 23 rfl rfl
theorem dksL_law_50 : cL_law.data.toList.drop 1277 = dktL_law_50 := dk_seg dksL_law_49 24 rfl rfl
theorem dksL_law_51 : cL_law.data.toList.drop 1299 = dktL_law_51 := dk_seg dksL_law_50 22 rfl rfl
theorem dksL_law_52 : cL_law.data.toList.drop 1322 = dktL_law_52 := dk_seg dksL_law_51 23 rfl rfl
theorem dksL_law_53 : cL_law.data.toList.drop 1345 = dktL_law_53 := dk_seg dksL_law_52 23 rfl rfl
theorem dksL_law_54 : cL_law.data.toList.drop 1368 = dktL_law_54 := dk_seg dksL_law_53 23 rfl rfl
theorem dksL_law_55 : cL_law.data.toList.drop 1392 = dktL_law_55 := dk_seg dksL_law_54 24 rfl rfl
theorem dksL_law_56 : cL_law.data.toList.drop 1415 = dktL_law_56 := dk_seg dksL_law_55 23 rfl rfl
theorem dksL_law_57 : cL_law.data.toList.drop 1438 = dktL_law_57 := dk_seg dksL_law_56 23 rfl rfl
theorem dksL_law_58 : cL_law.data.toList.drop 1462 = dktL_law_58 := dk_seg dksL_law_57 24 rfl rfl
theorem dksL_law_59 : cL_law.data.toList.drop 1486 = dktL_law_59 := dk_seg dksL_law_58 24 rfl rfl
theorem dksL_law_60 : cL_law.data.toList.drop 1508 = dktL_law_60 := dk_seg dksL_law_59 22 rfl rfl
theorem dksL_law_61 : cL_law.data.toList.drop 1532 = dktL_law_61 := dk_seg dksL_law_60 24 rfl rfl
theorem dksL_law_62 : cL_law.data.toList.drop 1555 = dktL_law_62 := dk_seg dksL_law_61 23 rfl rfl
theorem dksL_law_63 : cL_law.data.toList.drop 1578 = dktL_law_63 := dk_seg dksL_law_62 23 rfl rfl
theorem dksL_law_64 : cL_law.data.toList.drop 1602 = dktL_law_64 := dk_seg dksL_law_63 24 rfl rfl
theorem dksL_law_65 : cL_law.data.toList.drop 1626 = dktL_law_65 := dk_seg dksL_law_64 24 rfl rfl
theorem dksL_law_66 : cL_law.data.toList.drop 1650 = dktL_law_66 := dk_seg dksL_law_65 24 rfl rfl
theorem dksL_law_67 : cL_law.data.toList.drop 1672 = dktL_law_67 := dk_seg dksL_law_66 22 rfl rfl
theorem dksL_law_68 : cL_law.data.toList.drop 1695 = dktL_law_68 := dk_seg dksL_law_67 23 rfl rfl
theorem dksL_law_69 : cL_law.data.toList.drop 1717 = dktL_law_69 := dk_seg dksL_law_68 22 rfl rfl
theorem dksL_law_70 : cL_law.data.toList.drop 1741 = dktL_law_70 := dk_seg dksL_law_69 24 rfl rfl
theorem dksL_law_71 : cL_law.data.toList.drop 1764 = dktL_law_71 := dk_seg dksL_law_70 23 rfl rfl
theorem dksL_law_72 : cL_law.data.toList.drop 1786 = dktL_law_72 := dk_seg dksL_law_71 22 rfl rfl
theorem dksL_law_73 : cL_law.data.toList.drop 1809 = dktL_law_73 := dk_seg dksL_law_72 23 rfl rfl
theorem dksL_law_74 : cL_law.data.toList.drop 1833 = dktL_law_74 := dk_seg dksL_law_73 24 rfl rfl
theorem dksL_law_75 : cL_law.data.toList.drop 1857 = dktL_law_75 := dk_seg dksL_law_74 24 rfl rfl
theorem dksL_law_76 : cL_law.data.toList.drop 1880 = dktL_law_76 := dk_seg dksL_law_75 23 rfl rfl
theorem dksL_law_77 : cL_law.data.toList.drop 1904 = dktL_law_77 := dk_seg dksL_law_76 24 rfl rfl
theorem dksL_law_78 : cL_law.data.toList.drop 1928 = dktL_law_78 := dk_seg dksL_law_77 24 rfl rfl
theorem dksL_law_79 : cL_law.data.toList.drop 1951 = dktL_law_79 := dk_seg dksL_law_78 23 rfl rfl
theorem dksL_law_80 : cL_law.data.toList.drop 1975 = dktL_law_80 := dk_seg dksL_law_79 24 rfl rfl
theorem dksL_law_81 : cL_law.data.toList.drop 1999 = dktL_law_81 := dk_seg dksL_law_80 24 rfl rfl
theorem dksL_law_82 : cL_law.data.toList.drop 2022 = dktL_law_82 := dk_seg dksL_law_81 23 rfl rfl
theorem dksL_law_83 : cL_law.data.toList.drop 2046 = dktL_law_83 := dk_seg dksL_law_82 24 rfl rfl
theorem dksL_law_84 : cL_law.data.toList.drop 2070 = dktL_law_84 := dk_seg dksL_law_83 24 rfl rfl
theorem dksL_law_85 : cL_law.data.toList.drop 2092 = dktL_law_85 := dk_seg dksL_law_84 22 rfl rfl
theorem dksL_law_86 : cL_law.data.toList.drop 2114 = dktL_law_86 := dk_seg dksL_law_85 22 rfl rfl
theorem dL_law_0 : decode cL_law 0 = .ok (.new 8, 3) := dk_187 0 8 (dk_at dksL_law_0 0 rfl rfl)
theorem dL_law_3 : decode cL_law 3 = .ok (.dup, 1) := dk_89 (dk_at dksL_law_0 3 rfl rfl)
theorem dL_law_4 : decode cL_law 4 = .ok (.invokespecial 108, 3) := dk_183 0 108 (dk_at dksL_law_0 4 rfl rfl)
theorem dL_law_7 : decode cL_law 7 = .ok (.astore_n 1, 1) := dk_76 (dk_at dksL_law_0 7 rfl rfl)
theorem dL_law_8 : decode cL_law 8 = .ok (.new 109, 3) := dk_187 0 109 (dk_at dksL_law_0 8 rfl rfl)
theorem dL_law_11 : decode cL_law 11 = .ok (.dup, 1) := dk_89 (dk_at dksL_law_0 11 rfl rfl)
theorem dL_law_12 : decode cL_law 12 = .ok (.invokespecial 111, 3) := dk_183 0 111 (dk_at dksL_law_0 12 rfl rfl)
theorem dL_law_15 : decode cL_law 15 = .ok (.astore_n 2, 1) := dk_77 (dk_at dksL_law_0 15 rfl rfl)
theorem dL_law_16 : decode cL_law 16 = .ok (.iconst 1, 1) := dk_4 (dk_at dksL_law_0 16 rfl rfl)
theorem dL_law_17 : decode cL_law 17 = .ok (.newarray .long, 2) := dk_188_11 (dk_at dksL_law_0 17 rfl rfl)
theorem dL_law_19 : decode cL_law 19 = .ok (.astore_n 3, 1) := dk_78 (dk_at dksL_law_0 19 rfl rfl)
theorem dL_law_20 : decode cL_law 20 = .ok (.iconst 0, 1) := dk_3 (dk_at dksL_law_0 20 rfl rfl)
theorem dL_law_21 : decode cL_law 21 = .ok (.istore 4, 2) := dk_54 4 (dk_at dksL_law_0 21 rfl rfl)
theorem dL_law_23 : decode cL_law 23 = .ok (.iload 4, 2) := dk_21 4 (dk_at dksL_law_1 0 rfl rfl)
theorem dL_law_25 : decode cL_law 25 = .ok (.aload_n 0, 1) := dk_42 (dk_at dksL_law_1 2 rfl rfl)
theorem dL_law_26 : decode cL_law 26 = .ok (.arraylength, 1) := dk_190 (dk_at dksL_law_1 3 rfl rfl)
theorem dL_law_27 : decode cL_law 27 = .ok (.iconst 5, 1) := dk_8 (dk_at dksL_law_1 4 rfl rfl)
theorem dL_law_28 : decode cL_law 28 = .ok (.isub, 1) := dk_100 (dk_at dksL_law_1 5 rfl rfl)
theorem dL_law_29 : decode cL_law 29 = .ok (.if_icmp .gt 2107, 3) := dk_163 8 59 (dk_at dksL_law_1 6 rfl rfl)
theorem dL_law_32 : decode cL_law 32 = .ok (.aload_n 0, 1) := dk_42 (dk_at dksL_law_1 9 rfl rfl)
theorem dL_law_33 : decode cL_law 33 = .ok (.iload 4, 2) := dk_21 4 (dk_at dksL_law_1 10 rfl rfl)
theorem dL_law_35 : decode cL_law 35 = .ok (.iaload, 1) := dk_46 (dk_at dksL_law_1 12 rfl rfl)
theorem dL_law_36 : decode cL_law 36 = .ok (.bipush 31, 2) := dk_16 31 (dk_at dksL_law_1 13 rfl rfl)
theorem dL_law_38 : decode cL_law 38 = .ok (.iand, 1) := dk_126 (dk_at dksL_law_1 15 rfl rfl)
theorem dL_law_39 : decode cL_law 39 = .ok (.tableswitch 2091 0 31 #[141, 209, 301, 357, 432, 500, 580, 660, 716, 772, 828, 896, 964, 1020, 1088, 1156, 1212, 1268, 1324, 1337, 1417, 1477, 1557, 1625, 1681, 1694, 1750, 1806, 1874, 1930, 2010, 2078], 141) := by decide +kernel
theorem dL_law_180 : decode cL_law 180 = .ok (.aload_n 1, 1) := dk_43 (dk_at dksL_law_3 0 rfl rfl)
theorem dL_law_181 : decode cL_law 181 = .ok (.aload_n 0, 1) := dk_42 (dk_at dksL_law_3 1 rfl rfl)
theorem dL_law_182 : decode cL_law 182 = .ok (.iload 4, 2) := dk_21 4 (dk_at dksL_law_3 2 rfl rfl)
theorem dL_law_184 : decode cL_law 184 = .ok (.iconst 1, 1) := dk_4 (dk_at dksL_law_3 4 rfl rfl)
theorem dL_law_185 : decode cL_law 185 = .ok (.iadd, 1) := dk_96 (dk_at dksL_law_3 5 rfl rfl)
theorem dL_law_186 : decode cL_law 186 = .ok (.iaload, 1) := dk_46 (dk_at dksL_law_3 6 rfl rfl)
theorem dL_law_187 : decode cL_law 187 = .ok (.aload_n 0, 1) := dk_42 (dk_at dksL_law_3 7 rfl rfl)
theorem dL_law_188 : decode cL_law 188 = .ok (.iload 4, 2) := dk_21 4 (dk_at dksL_law_3 8 rfl rfl)
theorem dL_law_190 : decode cL_law 190 = .ok (.iconst 2, 1) := dk_5 (dk_at dksL_law_3 10 rfl rfl)
theorem dL_law_191 : decode cL_law 191 = .ok (.iadd, 1) := dk_96 (dk_at dksL_law_3 11 rfl rfl)
theorem dL_law_192 : decode cL_law 192 = .ok (.iaload, 1) := dk_46 (dk_at dksL_law_3 12 rfl rfl)
theorem dL_law_193 : decode cL_law 193 = .ok (.aload_n 3, 1) := dk_45 (dk_at dksL_law_3 13 rfl rfl)
theorem dL_law_194 : decode cL_law 194 = .ok (.invokestatic 112, 3) := dk_184 0 112 (dk_at dksL_law_3 14 rfl rfl)
theorem dL_law_197 : decode cL_law 197 = .ok (.istore 5, 2) := dk_54 5 (dk_at dksL_law_3 17 rfl rfl)
theorem dL_law_199 : decode cL_law 199 = .ok (.aload_n 2, 1) := dk_44 (dk_at dksL_law_3 19 rfl rfl)
theorem dL_law_200 : decode cL_law 200 = .ok (.aload_n 0, 1) := dk_42 (dk_at dksL_law_3 20 rfl rfl)
theorem dL_law_201 : decode cL_law 201 = .ok (.iload 4, 2) := dk_21 4 (dk_at dksL_law_3 21 rfl rfl)
theorem dL_law_203 : decode cL_law 203 = .ok (.iconst 1, 1) := dk_4 (dk_at dksL_law_3 23 rfl rfl)
theorem dL_law_204 : decode cL_law 204 = .ok (.iadd, 1) := dk_96 (dk_at dksL_law_4 0 rfl rfl)
theorem dL_law_205 : decode cL_law 205 = .ok (.iaload, 1) := dk_46 (dk_at dksL_law_4 1 rfl rfl)
theorem dL_law_206 : decode cL_law 206 = .ok (.aload_n 0, 1) := dk_42 (dk_at dksL_law_4 2 rfl rfl)
theorem dL_law_207 : decode cL_law 207 = .ok (.iload 4, 2) := dk_21 4 (dk_at dksL_law_4 3 rfl rfl)
theorem dL_law_209 : decode cL_law 209 = .ok (.iconst 2, 1) := dk_5 (dk_at dksL_law_4 5 rfl rfl)
theorem dL_law_210 : decode cL_law 210 = .ok (.iadd, 1) := dk_96 (dk_at dksL_law_4 6 rfl rfl)
theorem dL_law_211 : decode cL_law 211 = .ok (.iaload, 1) := dk_46 (dk_at dksL_law_4 7 rfl rfl)
theorem dL_law_212 : decode cL_law 212 = .ok (.invokevirtual 117, 3) := dk_182 0 117 (dk_at dksL_law_4 8 rfl rfl)
theorem dL_law_215 : decode cL_law 215 = .ok (.istore 6, 2) := dk_54 6 (dk_at dksL_law_4 11 rfl rfl)
theorem dL_law_217 : decode cL_law 217 = .ok (.aload_n 2, 1) := dk_44 (dk_at dksL_law_4 13 rfl rfl)
theorem dL_law_218 : decode cL_law 218 = .ok (.invokevirtual 118, 3) := dk_182 0 118 (dk_at dksL_law_4 14 rfl rfl)
theorem dL_law_221 : decode cL_law 221 = .ok (.iload 5, 2) := dk_21 5 (dk_at dksL_law_4 17 rfl rfl)
theorem dL_law_223 : decode cL_law 223 = .ok (.if_icmp .eq 5, 3) := dk_159 0 5 (dk_at dksL_law_4 19 rfl rfl)
theorem dL_law_226 : decode cL_law 226 = .ok (.iconst 0, 1) := dk_3 (dk_at dksL_law_4 22 rfl rfl)
theorem dL_law_227 : decode cL_law 227 = .ok (.ireturn, 1) := dk_172 (dk_at dksL_law_4 23 rfl rfl)
theorem dL_law_228 : decode cL_law 228 = .ok (.iload 5, 2) := dk_21 5 (dk_at dksL_law_5 0 rfl rfl)
theorem dL_law_230 : decode cL_law 230 = .ok (.ifCond .ne 15, 3) := dk_154 0 15 (dk_at dksL_law_5 2 rfl rfl)
theorem dL_law_233 : decode cL_law 233 = .ok (.aload_n 3, 1) := dk_45 (dk_at dksL_law_5 5 rfl rfl)
theorem dL_law_234 : decode cL_law 234 = .ok (.iconst 0, 1) := dk_3 (dk_at dksL_law_5 6 rfl rfl)
theorem dL_law_235 : decode cL_law 235 = .ok (.laload, 1) := dk_47 (dk_at dksL_law_5 7 rfl rfl)
theorem dL_law_236 : decode cL_law 236 = .ok (.iload 6, 2) := dk_21 6 (dk_at dksL_law_5 8 rfl rfl)
theorem dL_law_238 : decode cL_law 238 = .ok (.i2l, 1) := dk_133 (dk_at dksL_law_5 10 rfl rfl)
theorem dL_law_239 : decode cL_law 239 = .ok (.lcmp, 1) := dk_148 (dk_at dksL_law_5 11 rfl rfl)
theorem dL_law_240 : decode cL_law 240 = .ok (.ifCond .eq 5, 3) := dk_153 0 5 (dk_at dksL_law_5 12 rfl rfl)
theorem dL_law_243 : decode cL_law 243 = .ok (.iconst 0, 1) := dk_3 (dk_at dksL_law_5 15 rfl rfl)
theorem dL_law_244 : decode cL_law 244 = .ok (.ireturn, 1) := dk_172 (dk_at dksL_law_5 16 rfl rfl)
theorem dL_law_245 : decode cL_law 245 = .ok (.goto 1885, 3) := dk_167 7 93 (dk_at dksL_law_5 17 rfl rfl)
theorem dL_law_248 : decode cL_law 248 = .ok (.aload_n 1, 1) := dk_43 (dk_at dksL_law_5 20 rfl rfl)
theorem dL_law_249 : decode cL_law 249 = .ok (.aload_n 0, 1) := dk_42 (dk_at dksL_law_5 21 rfl rfl)
theorem dL_law_250 : decode cL_law 250 = .ok (.iload 4, 2) := dk_21 4 (dk_at dksL_law_5 22 rfl rfl)
theorem dL_law_252 : decode cL_law 252 = .ok (.iconst 1, 1) := dk_4 (dk_at dksL_law_6 0 rfl rfl)
theorem dL_law_253 : decode cL_law 253 = .ok (.iadd, 1) := dk_96 (dk_at dksL_law_6 1 rfl rfl)
theorem dL_law_254 : decode cL_law 254 = .ok (.iaload, 1) := dk_46 (dk_at dksL_law_6 2 rfl rfl)
theorem dL_law_255 : decode cL_law 255 = .ok (.aload_n 0, 1) := dk_42 (dk_at dksL_law_6 3 rfl rfl)
theorem dL_law_256 : decode cL_law 256 = .ok (.iload 4, 2) := dk_21 4 (dk_at dksL_law_6 4 rfl rfl)
theorem dL_law_258 : decode cL_law 258 = .ok (.iconst 2, 1) := dk_5 (dk_at dksL_law_6 6 rfl rfl)
theorem dL_law_259 : decode cL_law 259 = .ok (.iadd, 1) := dk_96 (dk_at dksL_law_6 7 rfl rfl)
theorem dL_law_260 : decode cL_law 260 = .ok (.iaload, 1) := dk_46 (dk_at dksL_law_6 8 rfl rfl)
theorem dL_law_261 : decode cL_law 261 = .ok (.aload_n 0, 1) := dk_42 (dk_at dksL_law_6 9 rfl rfl)
theorem dL_law_262 : decode cL_law 262 = .ok (.iload 4, 2) := dk_21 4 (dk_at dksL_law_6 10 rfl rfl)
theorem dL_law_264 : decode cL_law 264 = .ok (.iconst 3, 1) := dk_6 (dk_at dksL_law_6 12 rfl rfl)
theorem dL_law_265 : decode cL_law 265 = .ok (.iadd, 1) := dk_96 (dk_at dksL_law_6 13 rfl rfl)
theorem dL_law_266 : decode cL_law 266 = .ok (.iaload, 1) := dk_46 (dk_at dksL_law_6 14 rfl rfl)
theorem dL_law_267 : decode cL_law 267 = .ok (.aload_n 0, 1) := dk_42 (dk_at dksL_law_6 15 rfl rfl)
theorem dL_law_268 : decode cL_law 268 = .ok (.iload 4, 2) := dk_21 4 (dk_at dksL_law_6 16 rfl rfl)
theorem dL_law_270 : decode cL_law 270 = .ok (.iconst 4, 1) := dk_7 (dk_at dksL_law_6 18 rfl rfl)
theorem dL_law_271 : decode cL_law 271 = .ok (.iadd, 1) := dk_96 (dk_at dksL_law_6 19 rfl rfl)
theorem dL_law_272 : decode cL_law 272 = .ok (.iaload, 1) := dk_46 (dk_at dksL_law_6 20 rfl rfl)
theorem dL_law_273 : decode cL_law 273 = .ok (.aload_n 3, 1) := dk_45 (dk_at dksL_law_6 21 rfl rfl)
theorem dL_law_274 : decode cL_law 274 = .ok (.invokestatic 122, 3) := dk_184 0 122 (dk_at dksL_law_7 0 rfl rfl)
theorem dL_law_277 : decode cL_law 277 = .ok (.istore 5, 2) := dk_54 5 (dk_at dksL_law_7 3 rfl rfl)
theorem dL_law_279 : decode cL_law 279 = .ok (.aload_n 2, 1) := dk_44 (dk_at dksL_law_7 5 rfl rfl)
theorem dL_law_280 : decode cL_law 280 = .ok (.aload_n 0, 1) := dk_42 (dk_at dksL_law_7 6 rfl rfl)
theorem dL_law_281 : decode cL_law 281 = .ok (.iload 4, 2) := dk_21 4 (dk_at dksL_law_7 7 rfl rfl)
theorem dL_law_283 : decode cL_law 283 = .ok (.iconst 1, 1) := dk_4 (dk_at dksL_law_7 9 rfl rfl)
theorem dL_law_284 : decode cL_law 284 = .ok (.iadd, 1) := dk_96 (dk_at dksL_law_7 10 rfl rfl)
theorem dL_law_285 : decode cL_law 285 = .ok (.iaload, 1) := dk_46 (dk_at dksL_law_7 11 rfl rfl)
theorem dL_law_286 : decode cL_law 286 = .ok (.aload_n 0, 1) := dk_42 (dk_at dksL_law_7 12 rfl rfl)
theorem dL_law_287 : decode cL_law 287 = .ok (.iload 4, 2) := dk_21 4 (dk_at dksL_law_7 13 rfl rfl)
theorem dL_law_289 : decode cL_law 289 = .ok (.iconst 2, 1) := dk_5 (dk_at dksL_law_7 15 rfl rfl)
theorem dL_law_290 : decode cL_law 290 = .ok (.iadd, 1) := dk_96 (dk_at dksL_law_7 16 rfl rfl)
theorem dL_law_291 : decode cL_law 291 = .ok (.iaload, 1) := dk_46 (dk_at dksL_law_7 17 rfl rfl)
theorem dL_law_292 : decode cL_law 292 = .ok (.aload_n 0, 1) := dk_42 (dk_at dksL_law_7 18 rfl rfl)
theorem dL_law_293 : decode cL_law 293 = .ok (.iload 4, 2) := dk_21 4 (dk_at dksL_law_7 19 rfl rfl)
theorem dL_law_295 : decode cL_law 295 = .ok (.iconst 3, 1) := dk_6 (dk_at dksL_law_7 21 rfl rfl)
theorem dL_law_296 : decode cL_law 296 = .ok (.iadd, 1) := dk_96 (dk_at dksL_law_7 22 rfl rfl)
theorem dL_law_297 : decode cL_law 297 = .ok (.iaload, 1) := dk_46 (dk_at dksL_law_7 23 rfl rfl)
theorem dL_law_298 : decode cL_law 298 = .ok (.aload_n 0, 1) := dk_42 (dk_at dksL_law_8 0 rfl rfl)
theorem dL_law_299 : decode cL_law 299 = .ok (.iload 4, 2) := dk_21 4 (dk_at dksL_law_8 1 rfl rfl)
theorem dL_law_301 : decode cL_law 301 = .ok (.iconst 4, 1) := dk_7 (dk_at dksL_law_8 3 rfl rfl)
theorem dL_law_302 : decode cL_law 302 = .ok (.iadd, 1) := dk_96 (dk_at dksL_law_8 4 rfl rfl)
theorem dL_law_303 : decode cL_law 303 = .ok (.iaload, 1) := dk_46 (dk_at dksL_law_8 5 rfl rfl)
theorem dL_law_304 : decode cL_law 304 = .ok (.invokevirtual 125, 3) := dk_182 0 125 (dk_at dksL_law_8 6 rfl rfl)
theorem dL_law_307 : decode cL_law 307 = .ok (.istore 6, 2) := dk_54 6 (dk_at dksL_law_8 9 rfl rfl)
theorem dL_law_309 : decode cL_law 309 = .ok (.aload_n 2, 1) := dk_44 (dk_at dksL_law_8 11 rfl rfl)
theorem dL_law_310 : decode cL_law 310 = .ok (.invokevirtual 118, 3) := dk_182 0 118 (dk_at dksL_law_8 12 rfl rfl)
theorem dL_law_313 : decode cL_law 313 = .ok (.iload 5, 2) := dk_21 5 (dk_at dksL_law_8 15 rfl rfl)
theorem dL_law_315 : decode cL_law 315 = .ok (.if_icmp .eq 5, 3) := dk_159 0 5 (dk_at dksL_law_8 17 rfl rfl)
theorem dL_law_318 : decode cL_law 318 = .ok (.iconst 0, 1) := dk_3 (dk_at dksL_law_8 20 rfl rfl)
theorem dL_law_319 : decode cL_law 319 = .ok (.ireturn, 1) := dk_172 (dk_at dksL_law_8 21 rfl rfl)
theorem dL_law_320 : decode cL_law 320 = .ok (.iload 5, 2) := dk_21 5 (dk_at dksL_law_8 22 rfl rfl)
theorem dL_law_322 : decode cL_law 322 = .ok (.ifCond .ne 15, 3) := dk_154 0 15 (dk_at dksL_law_9 0 rfl rfl)
theorem dL_law_325 : decode cL_law 325 = .ok (.aload_n 3, 1) := dk_45 (dk_at dksL_law_9 3 rfl rfl)
theorem dL_law_326 : decode cL_law 326 = .ok (.iconst 0, 1) := dk_3 (dk_at dksL_law_9 4 rfl rfl)
theorem dL_law_327 : decode cL_law 327 = .ok (.laload, 1) := dk_47 (dk_at dksL_law_9 5 rfl rfl)
theorem dL_law_328 : decode cL_law 328 = .ok (.iload 6, 2) := dk_21 6 (dk_at dksL_law_9 6 rfl rfl)
theorem dL_law_330 : decode cL_law 330 = .ok (.i2l, 1) := dk_133 (dk_at dksL_law_9 8 rfl rfl)
theorem dL_law_331 : decode cL_law 331 = .ok (.lcmp, 1) := dk_148 (dk_at dksL_law_9 9 rfl rfl)
theorem dL_law_332 : decode cL_law 332 = .ok (.ifCond .eq 5, 3) := dk_153 0 5 (dk_at dksL_law_9 10 rfl rfl)
theorem dL_law_335 : decode cL_law 335 = .ok (.iconst 0, 1) := dk_3 (dk_at dksL_law_9 13 rfl rfl)
theorem dL_law_336 : decode cL_law 336 = .ok (.ireturn, 1) := dk_172 (dk_at dksL_law_9 14 rfl rfl)
theorem dL_law_337 : decode cL_law 337 = .ok (.goto 1793, 3) := dk_167 7 1 (dk_at dksL_law_9 15 rfl rfl)
theorem dL_law_340 : decode cL_law 340 = .ok (.aload_n 1, 1) := dk_43 (dk_at dksL_law_9 18 rfl rfl)
theorem dL_law_341 : decode cL_law 341 = .ok (.aload_n 0, 1) := dk_42 (dk_at dksL_law_9 19 rfl rfl)
theorem dL_law_342 : decode cL_law 342 = .ok (.iload 4, 2) := dk_21 4 (dk_at dksL_law_9 20 rfl rfl)
theorem dL_law_344 : decode cL_law 344 = .ok (.iconst 1, 1) := dk_4 (dk_at dksL_law_9 22 rfl rfl)
theorem dL_law_345 : decode cL_law 345 = .ok (.iadd, 1) := dk_96 (dk_at dksL_law_9 23 rfl rfl)
theorem dL_law_346 : decode cL_law 346 = .ok (.iaload, 1) := dk_46 (dk_at dksL_law_10 0 rfl rfl)
theorem dL_law_347 : decode cL_law 347 = .ok (.aload_n 3, 1) := dk_45 (dk_at dksL_law_10 1 rfl rfl)
theorem dL_law_348 : decode cL_law 348 = .ok (.invokestatic 126, 3) := dk_184 0 126 (dk_at dksL_law_10 2 rfl rfl)
theorem dL_law_351 : decode cL_law 351 = .ok (.istore 5, 2) := dk_54 5 (dk_at dksL_law_10 5 rfl rfl)
theorem dL_law_353 : decode cL_law 353 = .ok (.aload_n 2, 1) := dk_44 (dk_at dksL_law_10 7 rfl rfl)
theorem dL_law_354 : decode cL_law 354 = .ok (.aload_n 0, 1) := dk_42 (dk_at dksL_law_10 8 rfl rfl)
theorem dL_law_355 : decode cL_law 355 = .ok (.iload 4, 2) := dk_21 4 (dk_at dksL_law_10 9 rfl rfl)
theorem dL_law_357 : decode cL_law 357 = .ok (.iconst 1, 1) := dk_4 (dk_at dksL_law_10 11 rfl rfl)
theorem dL_law_358 : decode cL_law 358 = .ok (.iadd, 1) := dk_96 (dk_at dksL_law_10 12 rfl rfl)
theorem dL_law_359 : decode cL_law 359 = .ok (.iaload, 1) := dk_46 (dk_at dksL_law_10 13 rfl rfl)
theorem dL_law_360 : decode cL_law 360 = .ok (.invokevirtual 129, 3) := dk_182 0 129 (dk_at dksL_law_10 14 rfl rfl)
theorem dL_law_363 : decode cL_law 363 = .ok (.istore 6, 2) := dk_54 6 (dk_at dksL_law_10 17 rfl rfl)
theorem dL_law_365 : decode cL_law 365 = .ok (.aload_n 2, 1) := dk_44 (dk_at dksL_law_10 19 rfl rfl)
theorem dL_law_366 : decode cL_law 366 = .ok (.invokevirtual 118, 3) := dk_182 0 118 (dk_at dksL_law_10 20 rfl rfl)
theorem dL_law_369 : decode cL_law 369 = .ok (.iload 5, 2) := dk_21 5 (dk_at dksL_law_11 0 rfl rfl)
theorem dL_law_371 : decode cL_law 371 = .ok (.if_icmp .eq 5, 3) := dk_159 0 5 (dk_at dksL_law_11 2 rfl rfl)
theorem dL_law_374 : decode cL_law 374 = .ok (.iconst 0, 1) := dk_3 (dk_at dksL_law_11 5 rfl rfl)
theorem dL_law_375 : decode cL_law 375 = .ok (.ireturn, 1) := dk_172 (dk_at dksL_law_11 6 rfl rfl)
theorem dL_law_376 : decode cL_law 376 = .ok (.iload 5, 2) := dk_21 5 (dk_at dksL_law_11 7 rfl rfl)
theorem dL_law_378 : decode cL_law 378 = .ok (.ifCond .ne 15, 3) := dk_154 0 15 (dk_at dksL_law_11 9 rfl rfl)
theorem dL_law_381 : decode cL_law 381 = .ok (.aload_n 3, 1) := dk_45 (dk_at dksL_law_11 12 rfl rfl)
theorem dL_law_382 : decode cL_law 382 = .ok (.iconst 0, 1) := dk_3 (dk_at dksL_law_11 13 rfl rfl)
theorem dL_law_383 : decode cL_law 383 = .ok (.laload, 1) := dk_47 (dk_at dksL_law_11 14 rfl rfl)
theorem dL_law_384 : decode cL_law 384 = .ok (.iload 6, 2) := dk_21 6 (dk_at dksL_law_11 15 rfl rfl)
theorem dL_law_386 : decode cL_law 386 = .ok (.i2l, 1) := dk_133 (dk_at dksL_law_11 17 rfl rfl)
theorem dL_law_387 : decode cL_law 387 = .ok (.lcmp, 1) := dk_148 (dk_at dksL_law_11 18 rfl rfl)
theorem dL_law_388 : decode cL_law 388 = .ok (.ifCond .eq 5, 3) := dk_153 0 5 (dk_at dksL_law_11 19 rfl rfl)
theorem dL_law_391 : decode cL_law 391 = .ok (.iconst 0, 1) := dk_3 (dk_at dksL_law_11 22 rfl rfl)
theorem dL_law_392 : decode cL_law 392 = .ok (.ireturn, 1) := dk_172 (dk_at dksL_law_11 23 rfl rfl)
theorem dL_law_393 : decode cL_law 393 = .ok (.goto 1737, 3) := dk_167 6 201 (dk_at dksL_law_12 0 rfl rfl)
theorem dL_law_396 : decode cL_law 396 = .ok (.aload_n 1, 1) := dk_43 (dk_at dksL_law_12 3 rfl rfl)
theorem dL_law_397 : decode cL_law 397 = .ok (.aload_n 0, 1) := dk_42 (dk_at dksL_law_12 4 rfl rfl)
theorem dL_law_398 : decode cL_law 398 = .ok (.iload 4, 2) := dk_21 4 (dk_at dksL_law_12 5 rfl rfl)
theorem dL_law_400 : decode cL_law 400 = .ok (.iconst 1, 1) := dk_4 (dk_at dksL_law_12 7 rfl rfl)
theorem dL_law_401 : decode cL_law 401 = .ok (.iadd, 1) := dk_96 (dk_at dksL_law_12 8 rfl rfl)
theorem dL_law_402 : decode cL_law 402 = .ok (.iaload, 1) := dk_46 (dk_at dksL_law_12 9 rfl rfl)
theorem dL_law_403 : decode cL_law 403 = .ok (.aload_n 0, 1) := dk_42 (dk_at dksL_law_12 10 rfl rfl)
theorem dL_law_404 : decode cL_law 404 = .ok (.iload 4, 2) := dk_21 4 (dk_at dksL_law_12 11 rfl rfl)
theorem dL_law_406 : decode cL_law 406 = .ok (.iconst 2, 1) := dk_5 (dk_at dksL_law_12 13 rfl rfl)
theorem dL_law_407 : decode cL_law 407 = .ok (.iadd, 1) := dk_96 (dk_at dksL_law_12 14 rfl rfl)
theorem dL_law_408 : decode cL_law 408 = .ok (.iaload, 1) := dk_46 (dk_at dksL_law_12 15 rfl rfl)
theorem dL_law_409 : decode cL_law 409 = .ok (.aload_n 3, 1) := dk_45 (dk_at dksL_law_12 16 rfl rfl)
theorem dL_law_410 : decode cL_law 410 = .ok (.invokestatic 130, 3) := dk_184 0 130 (dk_at dksL_law_12 17 rfl rfl)
theorem dL_law_413 : decode cL_law 413 = .ok (.istore 5, 2) := dk_54 5 (dk_at dksL_law_12 20 rfl rfl)
theorem dL_law_415 : decode cL_law 415 = .ok (.aload_n 2, 1) := dk_44 (dk_at dksL_law_12 22 rfl rfl)
theorem dL_law_416 : decode cL_law 416 = .ok (.aload_n 0, 1) := dk_42 (dk_at dksL_law_12 23 rfl rfl)
theorem dL_law_417 : decode cL_law 417 = .ok (.iload 4, 2) := dk_21 4 (dk_at dksL_law_13 0 rfl rfl)
theorem dL_law_419 : decode cL_law 419 = .ok (.iconst 1, 1) := dk_4 (dk_at dksL_law_13 2 rfl rfl)
theorem dL_law_420 : decode cL_law 420 = .ok (.iadd, 1) := dk_96 (dk_at dksL_law_13 3 rfl rfl)
theorem dL_law_421 : decode cL_law 421 = .ok (.iaload, 1) := dk_46 (dk_at dksL_law_13 4 rfl rfl)
theorem dL_law_422 : decode cL_law 422 = .ok (.aload_n 0, 1) := dk_42 (dk_at dksL_law_13 5 rfl rfl)
theorem dL_law_423 : decode cL_law 423 = .ok (.iload 4, 2) := dk_21 4 (dk_at dksL_law_13 6 rfl rfl)
theorem dL_law_425 : decode cL_law 425 = .ok (.iconst 2, 1) := dk_5 (dk_at dksL_law_13 8 rfl rfl)
theorem dL_law_426 : decode cL_law 426 = .ok (.iadd, 1) := dk_96 (dk_at dksL_law_13 9 rfl rfl)
theorem dL_law_427 : decode cL_law 427 = .ok (.iaload, 1) := dk_46 (dk_at dksL_law_13 10 rfl rfl)
theorem dL_law_428 : decode cL_law 428 = .ok (.invokevirtual 132, 3) := dk_182 0 132 (dk_at dksL_law_13 11 rfl rfl)
theorem dL_law_431 : decode cL_law 431 = .ok (.istore 6, 2) := dk_54 6 (dk_at dksL_law_13 14 rfl rfl)
theorem dL_law_433 : decode cL_law 433 = .ok (.aload_n 2, 1) := dk_44 (dk_at dksL_law_13 16 rfl rfl)
theorem dL_law_434 : decode cL_law 434 = .ok (.invokevirtual 118, 3) := dk_182 0 118 (dk_at dksL_law_13 17 rfl rfl)
theorem dL_law_437 : decode cL_law 437 = .ok (.iload 5, 2) := dk_21 5 (dk_at dksL_law_13 20 rfl rfl)
theorem dL_law_439 : decode cL_law 439 = .ok (.if_icmp .eq 5, 3) := dk_159 0 5 (dk_at dksL_law_14 0 rfl rfl)
theorem dL_law_442 : decode cL_law 442 = .ok (.iconst 0, 1) := dk_3 (dk_at dksL_law_14 3 rfl rfl)
theorem dL_law_443 : decode cL_law 443 = .ok (.ireturn, 1) := dk_172 (dk_at dksL_law_14 4 rfl rfl)
theorem dL_law_444 : decode cL_law 444 = .ok (.iload 5, 2) := dk_21 5 (dk_at dksL_law_14 5 rfl rfl)
theorem dL_law_446 : decode cL_law 446 = .ok (.ifCond .ne 22, 3) := dk_154 0 22 (dk_at dksL_law_14 7 rfl rfl)
theorem dL_law_449 : decode cL_law 449 = .ok (.aload_n 3, 1) := dk_45 (dk_at dksL_law_14 10 rfl rfl)
theorem dL_law_450 : decode cL_law 450 = .ok (.iconst 0, 1) := dk_3 (dk_at dksL_law_14 11 rfl rfl)
theorem dL_law_451 : decode cL_law 451 = .ok (.laload, 1) := dk_47 (dk_at dksL_law_14 12 rfl rfl)
theorem dL_law_452 : decode cL_law 452 = .ok (.iload 6, 2) := dk_21 6 (dk_at dksL_law_14 13 rfl rfl)
theorem dL_law_454 : decode cL_law 454 = .ok (.ifCond .eq 7, 3) := dk_153 0 7 (dk_at dksL_law_14 15 rfl rfl)
theorem dL_law_457 : decode cL_law 457 = .ok (.lconst 1, 1) := dk_10 (dk_at dksL_law_14 18 rfl rfl)
theorem dL_law_458 : decode cL_law 458 = .ok (.goto 4, 3) := dk_167 0 4 (dk_at dksL_law_14 19 rfl rfl)
theorem dL_law_461 : decode cL_law 461 = .ok (.lconst 0, 1) := dk_9 (dk_at dksL_law_14 22 rfl rfl)
theorem dL_law_462 : decode cL_law 462 = .ok (.lcmp, 1) := dk_148 (dk_at dksL_law_14 23 rfl rfl)
theorem dL_law_463 : decode cL_law 463 = .ok (.ifCond .eq 5, 3) := dk_153 0 5 (dk_at dksL_law_15 0 rfl rfl)
theorem dL_law_466 : decode cL_law 466 = .ok (.iconst 0, 1) := dk_3 (dk_at dksL_law_15 3 rfl rfl)
theorem dL_law_467 : decode cL_law 467 = .ok (.ireturn, 1) := dk_172 (dk_at dksL_law_15 4 rfl rfl)
theorem dL_law_468 : decode cL_law 468 = .ok (.goto 1662, 3) := dk_167 6 126 (dk_at dksL_law_15 5 rfl rfl)
theorem dL_law_471 : decode cL_law 471 = .ok (.aload_n 1, 1) := dk_43 (dk_at dksL_law_15 8 rfl rfl)
theorem dL_law_472 : decode cL_law 472 = .ok (.aload_n 0, 1) := dk_42 (dk_at dksL_law_15 9 rfl rfl)
theorem dL_law_473 : decode cL_law 473 = .ok (.iload 4, 2) := dk_21 4 (dk_at dksL_law_15 10 rfl rfl)
theorem dL_law_475 : decode cL_law 475 = .ok (.iconst 1, 1) := dk_4 (dk_at dksL_law_15 12 rfl rfl)
theorem dL_law_476 : decode cL_law 476 = .ok (.iadd, 1) := dk_96 (dk_at dksL_law_15 13 rfl rfl)
theorem dL_law_477 : decode cL_law 477 = .ok (.iaload, 1) := dk_46 (dk_at dksL_law_15 14 rfl rfl)
theorem dL_law_478 : decode cL_law 478 = .ok (.aload_n 0, 1) := dk_42 (dk_at dksL_law_15 15 rfl rfl)
theorem dL_law_479 : decode cL_law 479 = .ok (.iload 4, 2) := dk_21 4 (dk_at dksL_law_15 16 rfl rfl)
theorem dL_law_481 : decode cL_law 481 = .ok (.iconst 2, 1) := dk_5 (dk_at dksL_law_15 18 rfl rfl)
theorem dL_law_482 : decode cL_law 482 = .ok (.iadd, 1) := dk_96 (dk_at dksL_law_15 19 rfl rfl)
theorem dL_law_483 : decode cL_law 483 = .ok (.iaload, 1) := dk_46 (dk_at dksL_law_15 20 rfl rfl)
theorem dL_law_484 : decode cL_law 484 = .ok (.aload_n 3, 1) := dk_45 (dk_at dksL_law_15 21 rfl rfl)
theorem dL_law_485 : decode cL_law 485 = .ok (.invokestatic 133, 3) := dk_184 0 133 (dk_at dksL_law_16 0 rfl rfl)
theorem dL_law_488 : decode cL_law 488 = .ok (.istore 5, 2) := dk_54 5 (dk_at dksL_law_16 3 rfl rfl)
theorem dL_law_490 : decode cL_law 490 = .ok (.aload_n 2, 1) := dk_44 (dk_at dksL_law_16 5 rfl rfl)
theorem dL_law_491 : decode cL_law 491 = .ok (.aload_n 0, 1) := dk_42 (dk_at dksL_law_16 6 rfl rfl)
theorem dL_law_492 : decode cL_law 492 = .ok (.iload 4, 2) := dk_21 4 (dk_at dksL_law_16 7 rfl rfl)
theorem dL_law_494 : decode cL_law 494 = .ok (.iconst 1, 1) := dk_4 (dk_at dksL_law_16 9 rfl rfl)
theorem dL_law_495 : decode cL_law 495 = .ok (.iadd, 1) := dk_96 (dk_at dksL_law_16 10 rfl rfl)
theorem dL_law_496 : decode cL_law 496 = .ok (.iaload, 1) := dk_46 (dk_at dksL_law_16 11 rfl rfl)
theorem dL_law_497 : decode cL_law 497 = .ok (.aload_n 0, 1) := dk_42 (dk_at dksL_law_16 12 rfl rfl)
theorem dL_law_498 : decode cL_law 498 = .ok (.iload 4, 2) := dk_21 4 (dk_at dksL_law_16 13 rfl rfl)
theorem dL_law_500 : decode cL_law 500 = .ok (.iconst 2, 1) := dk_5 (dk_at dksL_law_16 15 rfl rfl)
theorem dL_law_501 : decode cL_law 501 = .ok (.iadd, 1) := dk_96 (dk_at dksL_law_16 16 rfl rfl)
theorem dL_law_502 : decode cL_law 502 = .ok (.iaload, 1) := dk_46 (dk_at dksL_law_16 17 rfl rfl)
theorem dL_law_503 : decode cL_law 503 = .ok (.invokevirtual 135, 3) := dk_182 0 135 (dk_at dksL_law_16 18 rfl rfl)
theorem dL_law_506 : decode cL_law 506 = .ok (.istore 6, 2) := dk_54 6 (dk_at dksL_law_16 21 rfl rfl)
theorem dL_law_508 : decode cL_law 508 = .ok (.aload_n 2, 1) := dk_44 (dk_at dksL_law_16 23 rfl rfl)
theorem dL_law_509 : decode cL_law 509 = .ok (.invokevirtual 118, 3) := dk_182 0 118 (dk_at dksL_law_17 0 rfl rfl)
theorem dL_law_512 : decode cL_law 512 = .ok (.iload 5, 2) := dk_21 5 (dk_at dksL_law_17 3 rfl rfl)
theorem dL_law_514 : decode cL_law 514 = .ok (.if_icmp .eq 5, 3) := dk_159 0 5 (dk_at dksL_law_17 5 rfl rfl)
theorem dL_law_517 : decode cL_law 517 = .ok (.iconst 0, 1) := dk_3 (dk_at dksL_law_17 8 rfl rfl)
theorem dL_law_518 : decode cL_law 518 = .ok (.ireturn, 1) := dk_172 (dk_at dksL_law_17 9 rfl rfl)
theorem dL_law_519 : decode cL_law 519 = .ok (.iload 5, 2) := dk_21 5 (dk_at dksL_law_17 10 rfl rfl)
theorem dL_law_521 : decode cL_law 521 = .ok (.ifCond .ne 15, 3) := dk_154 0 15 (dk_at dksL_law_17 12 rfl rfl)
theorem dL_law_524 : decode cL_law 524 = .ok (.aload_n 3, 1) := dk_45 (dk_at dksL_law_17 15 rfl rfl)
theorem dL_law_525 : decode cL_law 525 = .ok (.iconst 0, 1) := dk_3 (dk_at dksL_law_17 16 rfl rfl)
theorem dL_law_526 : decode cL_law 526 = .ok (.laload, 1) := dk_47 (dk_at dksL_law_17 17 rfl rfl)
theorem dL_law_527 : decode cL_law 527 = .ok (.iload 6, 2) := dk_21 6 (dk_at dksL_law_17 18 rfl rfl)
theorem dL_law_529 : decode cL_law 529 = .ok (.i2l, 1) := dk_133 (dk_at dksL_law_17 20 rfl rfl)
theorem dL_law_530 : decode cL_law 530 = .ok (.lcmp, 1) := dk_148 (dk_at dksL_law_17 21 rfl rfl)
theorem dL_law_531 : decode cL_law 531 = .ok (.ifCond .eq 5, 3) := dk_153 0 5 (dk_at dksL_law_18 0 rfl rfl)
theorem dL_law_534 : decode cL_law 534 = .ok (.iconst 0, 1) := dk_3 (dk_at dksL_law_18 3 rfl rfl)
theorem dL_law_535 : decode cL_law 535 = .ok (.ireturn, 1) := dk_172 (dk_at dksL_law_18 4 rfl rfl)
theorem dL_law_536 : decode cL_law 536 = .ok (.goto 1594, 3) := dk_167 6 58 (dk_at dksL_law_18 5 rfl rfl)
theorem dL_law_539 : decode cL_law 539 = .ok (.aload_n 1, 1) := dk_43 (dk_at dksL_law_18 8 rfl rfl)
theorem dL_law_540 : decode cL_law 540 = .ok (.aload_n 0, 1) := dk_42 (dk_at dksL_law_18 9 rfl rfl)
theorem dL_law_541 : decode cL_law 541 = .ok (.iload 4, 2) := dk_21 4 (dk_at dksL_law_18 10 rfl rfl)
theorem dL_law_543 : decode cL_law 543 = .ok (.iconst 1, 1) := dk_4 (dk_at dksL_law_18 12 rfl rfl)
theorem dL_law_544 : decode cL_law 544 = .ok (.iadd, 1) := dk_96 (dk_at dksL_law_18 13 rfl rfl)
theorem dL_law_545 : decode cL_law 545 = .ok (.iaload, 1) := dk_46 (dk_at dksL_law_18 14 rfl rfl)
theorem dL_law_546 : decode cL_law 546 = .ok (.aload_n 0, 1) := dk_42 (dk_at dksL_law_18 15 rfl rfl)
theorem dL_law_547 : decode cL_law 547 = .ok (.iload 4, 2) := dk_21 4 (dk_at dksL_law_18 16 rfl rfl)
theorem dL_law_549 : decode cL_law 549 = .ok (.iconst 2, 1) := dk_5 (dk_at dksL_law_18 18 rfl rfl)
theorem dL_law_550 : decode cL_law 550 = .ok (.iadd, 1) := dk_96 (dk_at dksL_law_18 19 rfl rfl)
theorem dL_law_551 : decode cL_law 551 = .ok (.iaload, 1) := dk_46 (dk_at dksL_law_18 20 rfl rfl)
theorem dL_law_552 : decode cL_law 552 = .ok (.aload_n 0, 1) := dk_42 (dk_at dksL_law_18 21 rfl rfl)
theorem dL_law_553 : decode cL_law 553 = .ok (.iload 4, 2) := dk_21 4 (dk_at dksL_law_18 22 rfl rfl)
theorem dL_law_555 : decode cL_law 555 = .ok (.iconst 3, 1) := dk_6 (dk_at dksL_law_19 0 rfl rfl)
theorem dL_law_556 : decode cL_law 556 = .ok (.iadd, 1) := dk_96 (dk_at dksL_law_19 1 rfl rfl)
theorem dL_law_557 : decode cL_law 557 = .ok (.iaload, 1) := dk_46 (dk_at dksL_law_19 2 rfl rfl)
theorem dL_law_558 : decode cL_law 558 = .ok (.aload_n 3, 1) := dk_45 (dk_at dksL_law_19 3 rfl rfl)
theorem dL_law_559 : decode cL_law 559 = .ok (.invokestatic 136, 3) := dk_184 0 136 (dk_at dksL_law_19 4 rfl rfl)
theorem dL_law_562 : decode cL_law 562 = .ok (.istore 5, 2) := dk_54 5 (dk_at dksL_law_19 7 rfl rfl)
theorem dL_law_564 : decode cL_law 564 = .ok (.aload_n 2, 1) := dk_44 (dk_at dksL_law_19 9 rfl rfl)
theorem dL_law_565 : decode cL_law 565 = .ok (.aload_n 0, 1) := dk_42 (dk_at dksL_law_19 10 rfl rfl)
theorem dL_law_566 : decode cL_law 566 = .ok (.iload 4, 2) := dk_21 4 (dk_at dksL_law_19 11 rfl rfl)
theorem dL_law_568 : decode cL_law 568 = .ok (.iconst 1, 1) := dk_4 (dk_at dksL_law_19 13 rfl rfl)
theorem dL_law_569 : decode cL_law 569 = .ok (.iadd, 1) := dk_96 (dk_at dksL_law_19 14 rfl rfl)
theorem dL_law_570 : decode cL_law 570 = .ok (.iaload, 1) := dk_46 (dk_at dksL_law_19 15 rfl rfl)
theorem dL_law_571 : decode cL_law 571 = .ok (.aload_n 0, 1) := dk_42 (dk_at dksL_law_19 16 rfl rfl)
theorem dL_law_572 : decode cL_law 572 = .ok (.iload 4, 2) := dk_21 4 (dk_at dksL_law_19 17 rfl rfl)
theorem dL_law_574 : decode cL_law 574 = .ok (.iconst 2, 1) := dk_5 (dk_at dksL_law_19 19 rfl rfl)
theorem dL_law_575 : decode cL_law 575 = .ok (.iadd, 1) := dk_96 (dk_at dksL_law_19 20 rfl rfl)
theorem dL_law_576 : decode cL_law 576 = .ok (.iaload, 1) := dk_46 (dk_at dksL_law_19 21 rfl rfl)
theorem dL_law_577 : decode cL_law 577 = .ok (.aload_n 0, 1) := dk_42 (dk_at dksL_law_19 22 rfl rfl)
theorem dL_law_578 : decode cL_law 578 = .ok (.iload 4, 2) := dk_21 4 (dk_at dksL_law_20 0 rfl rfl)
theorem dL_law_580 : decode cL_law 580 = .ok (.iconst 3, 1) := dk_6 (dk_at dksL_law_20 2 rfl rfl)
theorem dL_law_581 : decode cL_law 581 = .ok (.iadd, 1) := dk_96 (dk_at dksL_law_20 3 rfl rfl)
theorem dL_law_582 : decode cL_law 582 = .ok (.iaload, 1) := dk_46 (dk_at dksL_law_20 4 rfl rfl)
theorem dL_law_583 : decode cL_law 583 = .ok (.invokevirtual 139, 3) := dk_182 0 139 (dk_at dksL_law_20 5 rfl rfl)
theorem dL_law_586 : decode cL_law 586 = .ok (.istore 6, 2) := dk_54 6 (dk_at dksL_law_20 8 rfl rfl)
theorem dL_law_588 : decode cL_law 588 = .ok (.aload_n 2, 1) := dk_44 (dk_at dksL_law_20 10 rfl rfl)
theorem dL_law_589 : decode cL_law 589 = .ok (.invokevirtual 118, 3) := dk_182 0 118 (dk_at dksL_law_20 11 rfl rfl)
theorem dL_law_592 : decode cL_law 592 = .ok (.iload 5, 2) := dk_21 5 (dk_at dksL_law_20 14 rfl rfl)
theorem dL_law_594 : decode cL_law 594 = .ok (.if_icmp .eq 5, 3) := dk_159 0 5 (dk_at dksL_law_20 16 rfl rfl)
theorem dL_law_597 : decode cL_law 597 = .ok (.iconst 0, 1) := dk_3 (dk_at dksL_law_20 19 rfl rfl)
theorem dL_law_598 : decode cL_law 598 = .ok (.ireturn, 1) := dk_172 (dk_at dksL_law_20 20 rfl rfl)
theorem dL_law_599 : decode cL_law 599 = .ok (.iload 5, 2) := dk_21 5 (dk_at dksL_law_20 21 rfl rfl)
theorem dL_law_601 : decode cL_law 601 = .ok (.ifCond .ne 15, 3) := dk_154 0 15 (dk_at dksL_law_21 0 rfl rfl)
theorem dL_law_604 : decode cL_law 604 = .ok (.aload_n 3, 1) := dk_45 (dk_at dksL_law_21 3 rfl rfl)
theorem dL_law_605 : decode cL_law 605 = .ok (.iconst 0, 1) := dk_3 (dk_at dksL_law_21 4 rfl rfl)
theorem dL_law_606 : decode cL_law 606 = .ok (.laload, 1) := dk_47 (dk_at dksL_law_21 5 rfl rfl)
theorem dL_law_607 : decode cL_law 607 = .ok (.iload 6, 2) := dk_21 6 (dk_at dksL_law_21 6 rfl rfl)
theorem dL_law_609 : decode cL_law 609 = .ok (.i2l, 1) := dk_133 (dk_at dksL_law_21 8 rfl rfl)
theorem dL_law_610 : decode cL_law 610 = .ok (.lcmp, 1) := dk_148 (dk_at dksL_law_21 9 rfl rfl)
theorem dL_law_611 : decode cL_law 611 = .ok (.ifCond .eq 5, 3) := dk_153 0 5 (dk_at dksL_law_21 10 rfl rfl)
theorem dL_law_614 : decode cL_law 614 = .ok (.iconst 0, 1) := dk_3 (dk_at dksL_law_21 13 rfl rfl)
theorem dL_law_615 : decode cL_law 615 = .ok (.ireturn, 1) := dk_172 (dk_at dksL_law_21 14 rfl rfl)
theorem dL_law_616 : decode cL_law 616 = .ok (.goto 1514, 3) := dk_167 5 234 (dk_at dksL_law_21 15 rfl rfl)
theorem dL_law_619 : decode cL_law 619 = .ok (.aload_n 1, 1) := dk_43 (dk_at dksL_law_21 18 rfl rfl)
theorem dL_law_620 : decode cL_law 620 = .ok (.aload_n 0, 1) := dk_42 (dk_at dksL_law_21 19 rfl rfl)
theorem dL_law_621 : decode cL_law 621 = .ok (.iload 4, 2) := dk_21 4 (dk_at dksL_law_21 20 rfl rfl)
theorem dL_law_623 : decode cL_law 623 = .ok (.iconst 1, 1) := dk_4 (dk_at dksL_law_21 22 rfl rfl)
theorem dL_law_624 : decode cL_law 624 = .ok (.iadd, 1) := dk_96 (dk_at dksL_law_21 23 rfl rfl)
theorem dL_law_625 : decode cL_law 625 = .ok (.iaload, 1) := dk_46 (dk_at dksL_law_22 0 rfl rfl)
theorem dL_law_626 : decode cL_law 626 = .ok (.aload_n 0, 1) := dk_42 (dk_at dksL_law_22 1 rfl rfl)
theorem dL_law_627 : decode cL_law 627 = .ok (.iload 4, 2) := dk_21 4 (dk_at dksL_law_22 2 rfl rfl)
theorem dL_law_629 : decode cL_law 629 = .ok (.iconst 2, 1) := dk_5 (dk_at dksL_law_22 4 rfl rfl)
theorem dL_law_630 : decode cL_law 630 = .ok (.iadd, 1) := dk_96 (dk_at dksL_law_22 5 rfl rfl)
theorem dL_law_631 : decode cL_law 631 = .ok (.iaload, 1) := dk_46 (dk_at dksL_law_22 6 rfl rfl)
theorem dL_law_632 : decode cL_law 632 = .ok (.aload_n 0, 1) := dk_42 (dk_at dksL_law_22 7 rfl rfl)
theorem dL_law_633 : decode cL_law 633 = .ok (.iload 4, 2) := dk_21 4 (dk_at dksL_law_22 8 rfl rfl)
theorem dL_law_635 : decode cL_law 635 = .ok (.iconst 3, 1) := dk_6 (dk_at dksL_law_22 10 rfl rfl)
theorem dL_law_636 : decode cL_law 636 = .ok (.iadd, 1) := dk_96 (dk_at dksL_law_22 11 rfl rfl)
theorem dL_law_637 : decode cL_law 637 = .ok (.iaload, 1) := dk_46 (dk_at dksL_law_22 12 rfl rfl)
theorem dL_law_638 : decode cL_law 638 = .ok (.aload_n 3, 1) := dk_45 (dk_at dksL_law_22 13 rfl rfl)
theorem dL_law_639 : decode cL_law 639 = .ok (.invokestatic 140, 3) := dk_184 0 140 (dk_at dksL_law_22 14 rfl rfl)
theorem dL_law_642 : decode cL_law 642 = .ok (.istore 5, 2) := dk_54 5 (dk_at dksL_law_22 17 rfl rfl)
theorem dL_law_644 : decode cL_law 644 = .ok (.aload_n 2, 1) := dk_44 (dk_at dksL_law_22 19 rfl rfl)
theorem dL_law_645 : decode cL_law 645 = .ok (.aload_n 0, 1) := dk_42 (dk_at dksL_law_22 20 rfl rfl)
theorem dL_law_646 : decode cL_law 646 = .ok (.iload 4, 2) := dk_21 4 (dk_at dksL_law_22 21 rfl rfl)
theorem dL_law_648 : decode cL_law 648 = .ok (.iconst 1, 1) := dk_4 (dk_at dksL_law_22 23 rfl rfl)
theorem dL_law_649 : decode cL_law 649 = .ok (.iadd, 1) := dk_96 (dk_at dksL_law_23 0 rfl rfl)
theorem dL_law_650 : decode cL_law 650 = .ok (.iaload, 1) := dk_46 (dk_at dksL_law_23 1 rfl rfl)
theorem dL_law_651 : decode cL_law 651 = .ok (.aload_n 0, 1) := dk_42 (dk_at dksL_law_23 2 rfl rfl)
theorem dL_law_652 : decode cL_law 652 = .ok (.iload 4, 2) := dk_21 4 (dk_at dksL_law_23 3 rfl rfl)
theorem dL_law_654 : decode cL_law 654 = .ok (.iconst 2, 1) := dk_5 (dk_at dksL_law_23 5 rfl rfl)
theorem dL_law_655 : decode cL_law 655 = .ok (.iadd, 1) := dk_96 (dk_at dksL_law_23 6 rfl rfl)
theorem dL_law_656 : decode cL_law 656 = .ok (.iaload, 1) := dk_46 (dk_at dksL_law_23 7 rfl rfl)
theorem dL_law_657 : decode cL_law 657 = .ok (.aload_n 0, 1) := dk_42 (dk_at dksL_law_23 8 rfl rfl)
theorem dL_law_658 : decode cL_law 658 = .ok (.iload 4, 2) := dk_21 4 (dk_at dksL_law_23 9 rfl rfl)
theorem dL_law_660 : decode cL_law 660 = .ok (.iconst 3, 1) := dk_6 (dk_at dksL_law_23 11 rfl rfl)
theorem dL_law_661 : decode cL_law 661 = .ok (.iadd, 1) := dk_96 (dk_at dksL_law_23 12 rfl rfl)
theorem dL_law_662 : decode cL_law 662 = .ok (.iaload, 1) := dk_46 (dk_at dksL_law_23 13 rfl rfl)
theorem dL_law_663 : decode cL_law 663 = .ok (.invokevirtual 142, 3) := dk_182 0 142 (dk_at dksL_law_23 14 rfl rfl)
theorem dL_law_666 : decode cL_law 666 = .ok (.istore 6, 2) := dk_54 6 (dk_at dksL_law_23 17 rfl rfl)
theorem dL_law_668 : decode cL_law 668 = .ok (.aload_n 2, 1) := dk_44 (dk_at dksL_law_23 19 rfl rfl)
theorem dL_law_669 : decode cL_law 669 = .ok (.invokevirtual 118, 3) := dk_182 0 118 (dk_at dksL_law_23 20 rfl rfl)
theorem dL_law_672 : decode cL_law 672 = .ok (.iload 5, 2) := dk_21 5 (dk_at dksL_law_24 0 rfl rfl)
theorem dL_law_674 : decode cL_law 674 = .ok (.if_icmp .eq 5, 3) := dk_159 0 5 (dk_at dksL_law_24 2 rfl rfl)
theorem dL_law_677 : decode cL_law 677 = .ok (.iconst 0, 1) := dk_3 (dk_at dksL_law_24 5 rfl rfl)
theorem dL_law_678 : decode cL_law 678 = .ok (.ireturn, 1) := dk_172 (dk_at dksL_law_24 6 rfl rfl)
theorem dL_law_679 : decode cL_law 679 = .ok (.iload 5, 2) := dk_21 5 (dk_at dksL_law_24 7 rfl rfl)
theorem dL_law_681 : decode cL_law 681 = .ok (.ifCond .ne 15, 3) := dk_154 0 15 (dk_at dksL_law_24 9 rfl rfl)
theorem dL_law_684 : decode cL_law 684 = .ok (.aload_n 3, 1) := dk_45 (dk_at dksL_law_24 12 rfl rfl)
theorem dL_law_685 : decode cL_law 685 = .ok (.iconst 0, 1) := dk_3 (dk_at dksL_law_24 13 rfl rfl)
theorem dL_law_686 : decode cL_law 686 = .ok (.laload, 1) := dk_47 (dk_at dksL_law_24 14 rfl rfl)
theorem dL_law_687 : decode cL_law 687 = .ok (.iload 6, 2) := dk_21 6 (dk_at dksL_law_24 15 rfl rfl)
theorem dL_law_689 : decode cL_law 689 = .ok (.i2l, 1) := dk_133 (dk_at dksL_law_24 17 rfl rfl)
theorem dL_law_690 : decode cL_law 690 = .ok (.lcmp, 1) := dk_148 (dk_at dksL_law_24 18 rfl rfl)
theorem dL_law_691 : decode cL_law 691 = .ok (.ifCond .eq 5, 3) := dk_153 0 5 (dk_at dksL_law_24 19 rfl rfl)
theorem dL_law_694 : decode cL_law 694 = .ok (.iconst 0, 1) := dk_3 (dk_at dksL_law_24 22 rfl rfl)
theorem dL_law_695 : decode cL_law 695 = .ok (.ireturn, 1) := dk_172 (dk_at dksL_law_24 23 rfl rfl)
theorem dL_law_696 : decode cL_law 696 = .ok (.goto 1434, 3) := dk_167 5 154 (dk_at dksL_law_25 0 rfl rfl)
theorem dL_law_699 : decode cL_law 699 = .ok (.aload_n 1, 1) := dk_43 (dk_at dksL_law_25 3 rfl rfl)
theorem dL_law_700 : decode cL_law 700 = .ok (.aload_n 0, 1) := dk_42 (dk_at dksL_law_25 4 rfl rfl)
theorem dL_law_701 : decode cL_law 701 = .ok (.iload 4, 2) := dk_21 4 (dk_at dksL_law_25 5 rfl rfl)
theorem dL_law_703 : decode cL_law 703 = .ok (.iconst 1, 1) := dk_4 (dk_at dksL_law_25 7 rfl rfl)
theorem dL_law_704 : decode cL_law 704 = .ok (.iadd, 1) := dk_96 (dk_at dksL_law_25 8 rfl rfl)
theorem dL_law_705 : decode cL_law 705 = .ok (.iaload, 1) := dk_46 (dk_at dksL_law_25 9 rfl rfl)
theorem dL_law_706 : decode cL_law 706 = .ok (.aload_n 3, 1) := dk_45 (dk_at dksL_law_25 10 rfl rfl)
theorem dL_law_707 : decode cL_law 707 = .ok (.invokestatic 143, 3) := dk_184 0 143 (dk_at dksL_law_25 11 rfl rfl)
theorem dL_law_710 : decode cL_law 710 = .ok (.istore 5, 2) := dk_54 5 (dk_at dksL_law_25 14 rfl rfl)
theorem dL_law_712 : decode cL_law 712 = .ok (.aload_n 2, 1) := dk_44 (dk_at dksL_law_25 16 rfl rfl)
theorem dL_law_713 : decode cL_law 713 = .ok (.aload_n 0, 1) := dk_42 (dk_at dksL_law_25 17 rfl rfl)
theorem dL_law_714 : decode cL_law 714 = .ok (.iload 4, 2) := dk_21 4 (dk_at dksL_law_25 18 rfl rfl)
theorem dL_law_716 : decode cL_law 716 = .ok (.iconst 1, 1) := dk_4 (dk_at dksL_law_25 20 rfl rfl)
theorem dL_law_717 : decode cL_law 717 = .ok (.iadd, 1) := dk_96 (dk_at dksL_law_25 21 rfl rfl)
theorem dL_law_718 : decode cL_law 718 = .ok (.iaload, 1) := dk_46 (dk_at dksL_law_25 22 rfl rfl)
theorem dL_law_719 : decode cL_law 719 = .ok (.invokevirtual 145, 3) := dk_182 0 145 (dk_at dksL_law_26 0 rfl rfl)
theorem dL_law_722 : decode cL_law 722 = .ok (.istore 6, 2) := dk_54 6 (dk_at dksL_law_26 3 rfl rfl)
theorem dL_law_724 : decode cL_law 724 = .ok (.aload_n 2, 1) := dk_44 (dk_at dksL_law_26 5 rfl rfl)
theorem dL_law_725 : decode cL_law 725 = .ok (.invokevirtual 118, 3) := dk_182 0 118 (dk_at dksL_law_26 6 rfl rfl)
theorem dL_law_728 : decode cL_law 728 = .ok (.iload 5, 2) := dk_21 5 (dk_at dksL_law_26 9 rfl rfl)
theorem dL_law_730 : decode cL_law 730 = .ok (.if_icmp .eq 5, 3) := dk_159 0 5 (dk_at dksL_law_26 11 rfl rfl)
theorem dL_law_733 : decode cL_law 733 = .ok (.iconst 0, 1) := dk_3 (dk_at dksL_law_26 14 rfl rfl)
theorem dL_law_734 : decode cL_law 734 = .ok (.ireturn, 1) := dk_172 (dk_at dksL_law_26 15 rfl rfl)
theorem dL_law_735 : decode cL_law 735 = .ok (.iload 5, 2) := dk_21 5 (dk_at dksL_law_26 16 rfl rfl)
theorem dL_law_737 : decode cL_law 737 = .ok (.ifCond .ne 15, 3) := dk_154 0 15 (dk_at dksL_law_26 18 rfl rfl)
theorem dL_law_740 : decode cL_law 740 = .ok (.aload_n 3, 1) := dk_45 (dk_at dksL_law_26 21 rfl rfl)
theorem dL_law_741 : decode cL_law 741 = .ok (.iconst 0, 1) := dk_3 (dk_at dksL_law_26 22 rfl rfl)
theorem dL_law_742 : decode cL_law 742 = .ok (.laload, 1) := dk_47 (dk_at dksL_law_26 23 rfl rfl)
theorem dL_law_743 : decode cL_law 743 = .ok (.iload 6, 2) := dk_21 6 (dk_at dksL_law_27 0 rfl rfl)
theorem dL_law_745 : decode cL_law 745 = .ok (.i2l, 1) := dk_133 (dk_at dksL_law_27 2 rfl rfl)
theorem dL_law_746 : decode cL_law 746 = .ok (.lcmp, 1) := dk_148 (dk_at dksL_law_27 3 rfl rfl)
theorem dL_law_747 : decode cL_law 747 = .ok (.ifCond .eq 5, 3) := dk_153 0 5 (dk_at dksL_law_27 4 rfl rfl)
theorem dL_law_750 : decode cL_law 750 = .ok (.iconst 0, 1) := dk_3 (dk_at dksL_law_27 7 rfl rfl)
theorem dL_law_751 : decode cL_law 751 = .ok (.ireturn, 1) := dk_172 (dk_at dksL_law_27 8 rfl rfl)
theorem dL_law_752 : decode cL_law 752 = .ok (.goto 1378, 3) := dk_167 5 98 (dk_at dksL_law_27 9 rfl rfl)
theorem dL_law_755 : decode cL_law 755 = .ok (.aload_n 1, 1) := dk_43 (dk_at dksL_law_27 12 rfl rfl)
theorem dL_law_756 : decode cL_law 756 = .ok (.aload_n 0, 1) := dk_42 (dk_at dksL_law_27 13 rfl rfl)
theorem dL_law_757 : decode cL_law 757 = .ok (.iload 4, 2) := dk_21 4 (dk_at dksL_law_27 14 rfl rfl)
theorem dL_law_759 : decode cL_law 759 = .ok (.iconst 1, 1) := dk_4 (dk_at dksL_law_27 16 rfl rfl)
theorem dL_law_760 : decode cL_law 760 = .ok (.iadd, 1) := dk_96 (dk_at dksL_law_27 17 rfl rfl)
theorem dL_law_761 : decode cL_law 761 = .ok (.iaload, 1) := dk_46 (dk_at dksL_law_27 18 rfl rfl)
theorem dL_law_762 : decode cL_law 762 = .ok (.aload_n 3, 1) := dk_45 (dk_at dksL_law_27 19 rfl rfl)
theorem dL_law_763 : decode cL_law 763 = .ok (.invokestatic 146, 3) := dk_184 0 146 (dk_at dksL_law_27 20 rfl rfl)
theorem dL_law_766 : decode cL_law 766 = .ok (.istore 5, 2) := dk_54 5 (dk_at dksL_law_28 0 rfl rfl)
theorem dL_law_768 : decode cL_law 768 = .ok (.aload_n 2, 1) := dk_44 (dk_at dksL_law_28 2 rfl rfl)
theorem dL_law_769 : decode cL_law 769 = .ok (.aload_n 0, 1) := dk_42 (dk_at dksL_law_28 3 rfl rfl)
theorem dL_law_770 : decode cL_law 770 = .ok (.iload 4, 2) := dk_21 4 (dk_at dksL_law_28 4 rfl rfl)
theorem dL_law_772 : decode cL_law 772 = .ok (.iconst 1, 1) := dk_4 (dk_at dksL_law_28 6 rfl rfl)
theorem dL_law_773 : decode cL_law 773 = .ok (.iadd, 1) := dk_96 (dk_at dksL_law_28 7 rfl rfl)
theorem dL_law_774 : decode cL_law 774 = .ok (.iaload, 1) := dk_46 (dk_at dksL_law_28 8 rfl rfl)
theorem dL_law_775 : decode cL_law 775 = .ok (.invokevirtual 148, 3) := dk_182 0 148 (dk_at dksL_law_28 9 rfl rfl)
theorem dL_law_778 : decode cL_law 778 = .ok (.istore 6, 2) := dk_54 6 (dk_at dksL_law_28 12 rfl rfl)
theorem dL_law_780 : decode cL_law 780 = .ok (.aload_n 2, 1) := dk_44 (dk_at dksL_law_28 14 rfl rfl)
theorem dL_law_781 : decode cL_law 781 = .ok (.invokevirtual 118, 3) := dk_182 0 118 (dk_at dksL_law_28 15 rfl rfl)
theorem dL_law_784 : decode cL_law 784 = .ok (.iload 5, 2) := dk_21 5 (dk_at dksL_law_28 18 rfl rfl)
theorem dL_law_786 : decode cL_law 786 = .ok (.if_icmp .eq 5, 3) := dk_159 0 5 (dk_at dksL_law_28 20 rfl rfl)
theorem dL_law_789 : decode cL_law 789 = .ok (.iconst 0, 1) := dk_3 (dk_at dksL_law_28 23 rfl rfl)
theorem dL_law_790 : decode cL_law 790 = .ok (.ireturn, 1) := dk_172 (dk_at dksL_law_29 0 rfl rfl)
theorem dL_law_791 : decode cL_law 791 = .ok (.iload 5, 2) := dk_21 5 (dk_at dksL_law_29 1 rfl rfl)
theorem dL_law_793 : decode cL_law 793 = .ok (.ifCond .ne 15, 3) := dk_154 0 15 (dk_at dksL_law_29 3 rfl rfl)
theorem dL_law_796 : decode cL_law 796 = .ok (.aload_n 3, 1) := dk_45 (dk_at dksL_law_29 6 rfl rfl)
theorem dL_law_797 : decode cL_law 797 = .ok (.iconst 0, 1) := dk_3 (dk_at dksL_law_29 7 rfl rfl)
theorem dL_law_798 : decode cL_law 798 = .ok (.laload, 1) := dk_47 (dk_at dksL_law_29 8 rfl rfl)
theorem dL_law_799 : decode cL_law 799 = .ok (.iload 6, 2) := dk_21 6 (dk_at dksL_law_29 9 rfl rfl)
theorem dL_law_801 : decode cL_law 801 = .ok (.i2l, 1) := dk_133 (dk_at dksL_law_29 11 rfl rfl)
theorem dL_law_802 : decode cL_law 802 = .ok (.lcmp, 1) := dk_148 (dk_at dksL_law_29 12 rfl rfl)
theorem dL_law_803 : decode cL_law 803 = .ok (.ifCond .eq 5, 3) := dk_153 0 5 (dk_at dksL_law_29 13 rfl rfl)
theorem dL_law_806 : decode cL_law 806 = .ok (.iconst 0, 1) := dk_3 (dk_at dksL_law_29 16 rfl rfl)
theorem dL_law_807 : decode cL_law 807 = .ok (.ireturn, 1) := dk_172 (dk_at dksL_law_29 17 rfl rfl)
theorem dL_law_808 : decode cL_law 808 = .ok (.goto 1322, 3) := dk_167 5 42 (dk_at dksL_law_29 18 rfl rfl)
theorem dL_law_811 : decode cL_law 811 = .ok (.aload_n 1, 1) := dk_43 (dk_at dksL_law_29 21 rfl rfl)
theorem dL_law_812 : decode cL_law 812 = .ok (.aload_n 0, 1) := dk_42 (dk_at dksL_law_29 22 rfl rfl)
theorem dL_law_813 : decode cL_law 813 = .ok (.iload 4, 2) := dk_21 4 (dk_at dksL_law_30 0 rfl rfl)
theorem dL_law_815 : decode cL_law 815 = .ok (.iconst 1, 1) := dk_4 (dk_at dksL_law_30 2 rfl rfl)
theorem dL_law_816 : decode cL_law 816 = .ok (.iadd, 1) := dk_96 (dk_at dksL_law_30 3 rfl rfl)
theorem dL_law_817 : decode cL_law 817 = .ok (.iaload, 1) := dk_46 (dk_at dksL_law_30 4 rfl rfl)
theorem dL_law_818 : decode cL_law 818 = .ok (.aload_n 3, 1) := dk_45 (dk_at dksL_law_30 5 rfl rfl)
theorem dL_law_819 : decode cL_law 819 = .ok (.invokestatic 149, 3) := dk_184 0 149 (dk_at dksL_law_30 6 rfl rfl)
theorem dL_law_822 : decode cL_law 822 = .ok (.istore 5, 2) := dk_54 5 (dk_at dksL_law_30 9 rfl rfl)
theorem dL_law_824 : decode cL_law 824 = .ok (.aload_n 2, 1) := dk_44 (dk_at dksL_law_30 11 rfl rfl)
theorem dL_law_825 : decode cL_law 825 = .ok (.aload_n 0, 1) := dk_42 (dk_at dksL_law_30 12 rfl rfl)
theorem dL_law_826 : decode cL_law 826 = .ok (.iload 4, 2) := dk_21 4 (dk_at dksL_law_30 13 rfl rfl)
theorem dL_law_828 : decode cL_law 828 = .ok (.iconst 1, 1) := dk_4 (dk_at dksL_law_30 15 rfl rfl)
theorem dL_law_829 : decode cL_law 829 = .ok (.iadd, 1) := dk_96 (dk_at dksL_law_30 16 rfl rfl)
theorem dL_law_830 : decode cL_law 830 = .ok (.iaload, 1) := dk_46 (dk_at dksL_law_30 17 rfl rfl)
theorem dL_law_831 : decode cL_law 831 = .ok (.invokevirtual 151, 3) := dk_182 0 151 (dk_at dksL_law_30 18 rfl rfl)
theorem dL_law_834 : decode cL_law 834 = .ok (.istore 6, 2) := dk_54 6 (dk_at dksL_law_30 21 rfl rfl)
theorem dL_law_836 : decode cL_law 836 = .ok (.aload_n 2, 1) := dk_44 (dk_at dksL_law_30 23 rfl rfl)
theorem dL_law_837 : decode cL_law 837 = .ok (.invokevirtual 118, 3) := dk_182 0 118 (dk_at dksL_law_31 0 rfl rfl)
theorem dL_law_840 : decode cL_law 840 = .ok (.iload 5, 2) := dk_21 5 (dk_at dksL_law_31 3 rfl rfl)
theorem dL_law_842 : decode cL_law 842 = .ok (.if_icmp .eq 5, 3) := dk_159 0 5 (dk_at dksL_law_31 5 rfl rfl)
theorem dL_law_845 : decode cL_law 845 = .ok (.iconst 0, 1) := dk_3 (dk_at dksL_law_31 8 rfl rfl)
theorem dL_law_846 : decode cL_law 846 = .ok (.ireturn, 1) := dk_172 (dk_at dksL_law_31 9 rfl rfl)
theorem dL_law_847 : decode cL_law 847 = .ok (.iload 5, 2) := dk_21 5 (dk_at dksL_law_31 10 rfl rfl)
theorem dL_law_849 : decode cL_law 849 = .ok (.ifCond .ne 15, 3) := dk_154 0 15 (dk_at dksL_law_31 12 rfl rfl)
theorem dL_law_852 : decode cL_law 852 = .ok (.aload_n 3, 1) := dk_45 (dk_at dksL_law_31 15 rfl rfl)
theorem dL_law_853 : decode cL_law 853 = .ok (.iconst 0, 1) := dk_3 (dk_at dksL_law_31 16 rfl rfl)
theorem dL_law_854 : decode cL_law 854 = .ok (.laload, 1) := dk_47 (dk_at dksL_law_31 17 rfl rfl)
theorem dL_law_855 : decode cL_law 855 = .ok (.iload 6, 2) := dk_21 6 (dk_at dksL_law_31 18 rfl rfl)
theorem dL_law_857 : decode cL_law 857 = .ok (.i2l, 1) := dk_133 (dk_at dksL_law_31 20 rfl rfl)
theorem dL_law_858 : decode cL_law 858 = .ok (.lcmp, 1) := dk_148 (dk_at dksL_law_31 21 rfl rfl)
theorem dL_law_859 : decode cL_law 859 = .ok (.ifCond .eq 5, 3) := dk_153 0 5 (dk_at dksL_law_32 0 rfl rfl)
theorem dL_law_862 : decode cL_law 862 = .ok (.iconst 0, 1) := dk_3 (dk_at dksL_law_32 3 rfl rfl)
theorem dL_law_863 : decode cL_law 863 = .ok (.ireturn, 1) := dk_172 (dk_at dksL_law_32 4 rfl rfl)
theorem dL_law_864 : decode cL_law 864 = .ok (.goto 1266, 3) := dk_167 4 242 (dk_at dksL_law_32 5 rfl rfl)
theorem dL_law_867 : decode cL_law 867 = .ok (.aload_n 1, 1) := dk_43 (dk_at dksL_law_32 8 rfl rfl)
theorem dL_law_868 : decode cL_law 868 = .ok (.aload_n 0, 1) := dk_42 (dk_at dksL_law_32 9 rfl rfl)
theorem dL_law_869 : decode cL_law 869 = .ok (.iload 4, 2) := dk_21 4 (dk_at dksL_law_32 10 rfl rfl)
theorem dL_law_871 : decode cL_law 871 = .ok (.iconst 1, 1) := dk_4 (dk_at dksL_law_32 12 rfl rfl)
theorem dL_law_872 : decode cL_law 872 = .ok (.iadd, 1) := dk_96 (dk_at dksL_law_32 13 rfl rfl)
theorem dL_law_873 : decode cL_law 873 = .ok (.iaload, 1) := dk_46 (dk_at dksL_law_32 14 rfl rfl)
theorem dL_law_874 : decode cL_law 874 = .ok (.aload_n 0, 1) := dk_42 (dk_at dksL_law_32 15 rfl rfl)
theorem dL_law_875 : decode cL_law 875 = .ok (.iload 4, 2) := dk_21 4 (dk_at dksL_law_32 16 rfl rfl)
theorem dL_law_877 : decode cL_law 877 = .ok (.iconst 2, 1) := dk_5 (dk_at dksL_law_32 18 rfl rfl)
theorem dL_law_878 : decode cL_law 878 = .ok (.iadd, 1) := dk_96 (dk_at dksL_law_32 19 rfl rfl)
theorem dL_law_879 : decode cL_law 879 = .ok (.iaload, 1) := dk_46 (dk_at dksL_law_32 20 rfl rfl)
theorem dL_law_880 : decode cL_law 880 = .ok (.aload_n 3, 1) := dk_45 (dk_at dksL_law_32 21 rfl rfl)
theorem dL_law_881 : decode cL_law 881 = .ok (.invokestatic 152, 3) := dk_184 0 152 (dk_at dksL_law_33 0 rfl rfl)
theorem dL_law_884 : decode cL_law 884 = .ok (.istore 5, 2) := dk_54 5 (dk_at dksL_law_33 3 rfl rfl)
theorem dL_law_886 : decode cL_law 886 = .ok (.aload_n 2, 1) := dk_44 (dk_at dksL_law_33 5 rfl rfl)
theorem dL_law_887 : decode cL_law 887 = .ok (.aload_n 0, 1) := dk_42 (dk_at dksL_law_33 6 rfl rfl)
theorem dL_law_888 : decode cL_law 888 = .ok (.iload 4, 2) := dk_21 4 (dk_at dksL_law_33 7 rfl rfl)
theorem dL_law_890 : decode cL_law 890 = .ok (.iconst 1, 1) := dk_4 (dk_at dksL_law_33 9 rfl rfl)
theorem dL_law_891 : decode cL_law 891 = .ok (.iadd, 1) := dk_96 (dk_at dksL_law_33 10 rfl rfl)
theorem dL_law_892 : decode cL_law 892 = .ok (.iaload, 1) := dk_46 (dk_at dksL_law_33 11 rfl rfl)
theorem dL_law_893 : decode cL_law 893 = .ok (.aload_n 0, 1) := dk_42 (dk_at dksL_law_33 12 rfl rfl)
theorem dL_law_894 : decode cL_law 894 = .ok (.iload 4, 2) := dk_21 4 (dk_at dksL_law_33 13 rfl rfl)
theorem dL_law_896 : decode cL_law 896 = .ok (.iconst 2, 1) := dk_5 (dk_at dksL_law_33 15 rfl rfl)
theorem dL_law_897 : decode cL_law 897 = .ok (.iadd, 1) := dk_96 (dk_at dksL_law_33 16 rfl rfl)
theorem dL_law_898 : decode cL_law 898 = .ok (.iaload, 1) := dk_46 (dk_at dksL_law_33 17 rfl rfl)
theorem dL_law_899 : decode cL_law 899 = .ok (.invokevirtual 154, 3) := dk_182 0 154 (dk_at dksL_law_33 18 rfl rfl)
theorem dL_law_902 : decode cL_law 902 = .ok (.istore 6, 2) := dk_54 6 (dk_at dksL_law_33 21 rfl rfl)
theorem dL_law_904 : decode cL_law 904 = .ok (.aload_n 2, 1) := dk_44 (dk_at dksL_law_33 23 rfl rfl)
theorem dL_law_905 : decode cL_law 905 = .ok (.invokevirtual 118, 3) := dk_182 0 118 (dk_at dksL_law_34 0 rfl rfl)
theorem dL_law_908 : decode cL_law 908 = .ok (.iload 5, 2) := dk_21 5 (dk_at dksL_law_34 3 rfl rfl)
theorem dL_law_910 : decode cL_law 910 = .ok (.if_icmp .eq 5, 3) := dk_159 0 5 (dk_at dksL_law_34 5 rfl rfl)
theorem dL_law_913 : decode cL_law 913 = .ok (.iconst 0, 1) := dk_3 (dk_at dksL_law_34 8 rfl rfl)
theorem dL_law_914 : decode cL_law 914 = .ok (.ireturn, 1) := dk_172 (dk_at dksL_law_34 9 rfl rfl)
theorem dL_law_915 : decode cL_law 915 = .ok (.iload 5, 2) := dk_21 5 (dk_at dksL_law_34 10 rfl rfl)
theorem dL_law_917 : decode cL_law 917 = .ok (.ifCond .ne 15, 3) := dk_154 0 15 (dk_at dksL_law_34 12 rfl rfl)
theorem dL_law_920 : decode cL_law 920 = .ok (.aload_n 3, 1) := dk_45 (dk_at dksL_law_34 15 rfl rfl)
theorem dL_law_921 : decode cL_law 921 = .ok (.iconst 0, 1) := dk_3 (dk_at dksL_law_34 16 rfl rfl)
theorem dL_law_922 : decode cL_law 922 = .ok (.laload, 1) := dk_47 (dk_at dksL_law_34 17 rfl rfl)
theorem dL_law_923 : decode cL_law 923 = .ok (.iload 6, 2) := dk_21 6 (dk_at dksL_law_34 18 rfl rfl)
theorem dL_law_925 : decode cL_law 925 = .ok (.i2l, 1) := dk_133 (dk_at dksL_law_34 20 rfl rfl)
theorem dL_law_926 : decode cL_law 926 = .ok (.lcmp, 1) := dk_148 (dk_at dksL_law_34 21 rfl rfl)
theorem dL_law_927 : decode cL_law 927 = .ok (.ifCond .eq 5, 3) := dk_153 0 5 (dk_at dksL_law_35 0 rfl rfl)
theorem dL_law_930 : decode cL_law 930 = .ok (.iconst 0, 1) := dk_3 (dk_at dksL_law_35 3 rfl rfl)
theorem dL_law_931 : decode cL_law 931 = .ok (.ireturn, 1) := dk_172 (dk_at dksL_law_35 4 rfl rfl)
theorem dL_law_932 : decode cL_law 932 = .ok (.goto 1198, 3) := dk_167 4 174 (dk_at dksL_law_35 5 rfl rfl)
theorem dL_law_935 : decode cL_law 935 = .ok (.aload_n 1, 1) := dk_43 (dk_at dksL_law_35 8 rfl rfl)
theorem dL_law_936 : decode cL_law 936 = .ok (.aload_n 0, 1) := dk_42 (dk_at dksL_law_35 9 rfl rfl)
theorem dL_law_937 : decode cL_law 937 = .ok (.iload 4, 2) := dk_21 4 (dk_at dksL_law_35 10 rfl rfl)
theorem dL_law_939 : decode cL_law 939 = .ok (.iconst 1, 1) := dk_4 (dk_at dksL_law_35 12 rfl rfl)
theorem dL_law_940 : decode cL_law 940 = .ok (.iadd, 1) := dk_96 (dk_at dksL_law_35 13 rfl rfl)
theorem dL_law_941 : decode cL_law 941 = .ok (.iaload, 1) := dk_46 (dk_at dksL_law_35 14 rfl rfl)
theorem dL_law_942 : decode cL_law 942 = .ok (.aload_n 0, 1) := dk_42 (dk_at dksL_law_35 15 rfl rfl)
theorem dL_law_943 : decode cL_law 943 = .ok (.iload 4, 2) := dk_21 4 (dk_at dksL_law_35 16 rfl rfl)
theorem dL_law_945 : decode cL_law 945 = .ok (.iconst 2, 1) := dk_5 (dk_at dksL_law_35 18 rfl rfl)
theorem dL_law_946 : decode cL_law 946 = .ok (.iadd, 1) := dk_96 (dk_at dksL_law_35 19 rfl rfl)
theorem dL_law_947 : decode cL_law 947 = .ok (.iaload, 1) := dk_46 (dk_at dksL_law_35 20 rfl rfl)
theorem dL_law_948 : decode cL_law 948 = .ok (.aload_n 3, 1) := dk_45 (dk_at dksL_law_35 21 rfl rfl)
theorem dL_law_949 : decode cL_law 949 = .ok (.invokestatic 155, 3) := dk_184 0 155 (dk_at dksL_law_36 0 rfl rfl)
theorem dL_law_952 : decode cL_law 952 = .ok (.istore 5, 2) := dk_54 5 (dk_at dksL_law_36 3 rfl rfl)
theorem dL_law_954 : decode cL_law 954 = .ok (.aload_n 2, 1) := dk_44 (dk_at dksL_law_36 5 rfl rfl)
theorem dL_law_955 : decode cL_law 955 = .ok (.aload_n 0, 1) := dk_42 (dk_at dksL_law_36 6 rfl rfl)
theorem dL_law_956 : decode cL_law 956 = .ok (.iload 4, 2) := dk_21 4 (dk_at dksL_law_36 7 rfl rfl)
theorem dL_law_958 : decode cL_law 958 = .ok (.iconst 1, 1) := dk_4 (dk_at dksL_law_36 9 rfl rfl)
theorem dL_law_959 : decode cL_law 959 = .ok (.iadd, 1) := dk_96 (dk_at dksL_law_36 10 rfl rfl)
theorem dL_law_960 : decode cL_law 960 = .ok (.iaload, 1) := dk_46 (dk_at dksL_law_36 11 rfl rfl)
theorem dL_law_961 : decode cL_law 961 = .ok (.aload_n 0, 1) := dk_42 (dk_at dksL_law_36 12 rfl rfl)
theorem dL_law_962 : decode cL_law 962 = .ok (.iload 4, 2) := dk_21 4 (dk_at dksL_law_36 13 rfl rfl)
theorem dL_law_964 : decode cL_law 964 = .ok (.iconst 2, 1) := dk_5 (dk_at dksL_law_36 15 rfl rfl)
theorem dL_law_965 : decode cL_law 965 = .ok (.iadd, 1) := dk_96 (dk_at dksL_law_36 16 rfl rfl)
theorem dL_law_966 : decode cL_law 966 = .ok (.iaload, 1) := dk_46 (dk_at dksL_law_36 17 rfl rfl)
theorem dL_law_967 : decode cL_law 967 = .ok (.invokevirtual 157, 3) := dk_182 0 157 (dk_at dksL_law_36 18 rfl rfl)
theorem dL_law_970 : decode cL_law 970 = .ok (.istore 6, 2) := dk_54 6 (dk_at dksL_law_36 21 rfl rfl)
theorem dL_law_972 : decode cL_law 972 = .ok (.aload_n 2, 1) := dk_44 (dk_at dksL_law_36 23 rfl rfl)
theorem dL_law_973 : decode cL_law 973 = .ok (.invokevirtual 118, 3) := dk_182 0 118 (dk_at dksL_law_37 0 rfl rfl)
theorem dL_law_976 : decode cL_law 976 = .ok (.iload 5, 2) := dk_21 5 (dk_at dksL_law_37 3 rfl rfl)
theorem dL_law_978 : decode cL_law 978 = .ok (.if_icmp .eq 5, 3) := dk_159 0 5 (dk_at dksL_law_37 5 rfl rfl)
theorem dL_law_981 : decode cL_law 981 = .ok (.iconst 0, 1) := dk_3 (dk_at dksL_law_37 8 rfl rfl)
theorem dL_law_982 : decode cL_law 982 = .ok (.ireturn, 1) := dk_172 (dk_at dksL_law_37 9 rfl rfl)
theorem dL_law_983 : decode cL_law 983 = .ok (.iload 5, 2) := dk_21 5 (dk_at dksL_law_37 10 rfl rfl)
theorem dL_law_985 : decode cL_law 985 = .ok (.ifCond .ne 15, 3) := dk_154 0 15 (dk_at dksL_law_37 12 rfl rfl)
theorem dL_law_988 : decode cL_law 988 = .ok (.aload_n 3, 1) := dk_45 (dk_at dksL_law_37 15 rfl rfl)
theorem dL_law_989 : decode cL_law 989 = .ok (.iconst 0, 1) := dk_3 (dk_at dksL_law_37 16 rfl rfl)
theorem dL_law_990 : decode cL_law 990 = .ok (.laload, 1) := dk_47 (dk_at dksL_law_37 17 rfl rfl)
theorem dL_law_991 : decode cL_law 991 = .ok (.iload 6, 2) := dk_21 6 (dk_at dksL_law_37 18 rfl rfl)
theorem dL_law_993 : decode cL_law 993 = .ok (.i2l, 1) := dk_133 (dk_at dksL_law_37 20 rfl rfl)
theorem dL_law_994 : decode cL_law 994 = .ok (.lcmp, 1) := dk_148 (dk_at dksL_law_37 21 rfl rfl)
theorem dL_law_995 : decode cL_law 995 = .ok (.ifCond .eq 5, 3) := dk_153 0 5 (dk_at dksL_law_38 0 rfl rfl)
theorem dL_law_998 : decode cL_law 998 = .ok (.iconst 0, 1) := dk_3 (dk_at dksL_law_38 3 rfl rfl)
theorem dL_law_999 : decode cL_law 999 = .ok (.ireturn, 1) := dk_172 (dk_at dksL_law_38 4 rfl rfl)
theorem dL_law_1000 : decode cL_law 1000 = .ok (.goto 1130, 3) := dk_167 4 106 (dk_at dksL_law_38 5 rfl rfl)
theorem dL_law_1003 : decode cL_law 1003 = .ok (.aload_n 1, 1) := dk_43 (dk_at dksL_law_38 8 rfl rfl)
theorem dL_law_1004 : decode cL_law 1004 = .ok (.aload_n 0, 1) := dk_42 (dk_at dksL_law_38 9 rfl rfl)
theorem dL_law_1005 : decode cL_law 1005 = .ok (.iload 4, 2) := dk_21 4 (dk_at dksL_law_38 10 rfl rfl)
theorem dL_law_1007 : decode cL_law 1007 = .ok (.iconst 1, 1) := dk_4 (dk_at dksL_law_38 12 rfl rfl)
theorem dL_law_1008 : decode cL_law 1008 = .ok (.iadd, 1) := dk_96 (dk_at dksL_law_38 13 rfl rfl)
theorem dL_law_1009 : decode cL_law 1009 = .ok (.iaload, 1) := dk_46 (dk_at dksL_law_38 14 rfl rfl)
theorem dL_law_1010 : decode cL_law 1010 = .ok (.aload_n 3, 1) := dk_45 (dk_at dksL_law_38 15 rfl rfl)
theorem dL_law_1011 : decode cL_law 1011 = .ok (.invokestatic 158, 3) := dk_184 0 158 (dk_at dksL_law_38 16 rfl rfl)
theorem dL_law_1014 : decode cL_law 1014 = .ok (.istore 5, 2) := dk_54 5 (dk_at dksL_law_38 19 rfl rfl)
theorem dL_law_1016 : decode cL_law 1016 = .ok (.aload_n 2, 1) := dk_44 (dk_at dksL_law_38 21 rfl rfl)
theorem dL_law_1017 : decode cL_law 1017 = .ok (.aload_n 0, 1) := dk_42 (dk_at dksL_law_38 22 rfl rfl)
theorem dL_law_1018 : decode cL_law 1018 = .ok (.iload 4, 2) := dk_21 4 (dk_at dksL_law_39 0 rfl rfl)
theorem dL_law_1020 : decode cL_law 1020 = .ok (.iconst 1, 1) := dk_4 (dk_at dksL_law_39 2 rfl rfl)
theorem dL_law_1021 : decode cL_law 1021 = .ok (.iadd, 1) := dk_96 (dk_at dksL_law_39 3 rfl rfl)
theorem dL_law_1022 : decode cL_law 1022 = .ok (.iaload, 1) := dk_46 (dk_at dksL_law_39 4 rfl rfl)
theorem dL_law_1023 : decode cL_law 1023 = .ok (.invokevirtual 160, 3) := dk_182 0 160 (dk_at dksL_law_39 5 rfl rfl)
theorem dL_law_1026 : decode cL_law 1026 = .ok (.istore 6, 2) := dk_54 6 (dk_at dksL_law_39 8 rfl rfl)
theorem dL_law_1028 : decode cL_law 1028 = .ok (.aload_n 2, 1) := dk_44 (dk_at dksL_law_39 10 rfl rfl)
theorem dL_law_1029 : decode cL_law 1029 = .ok (.invokevirtual 118, 3) := dk_182 0 118 (dk_at dksL_law_39 11 rfl rfl)
theorem dL_law_1032 : decode cL_law 1032 = .ok (.iload 5, 2) := dk_21 5 (dk_at dksL_law_39 14 rfl rfl)
theorem dL_law_1034 : decode cL_law 1034 = .ok (.if_icmp .eq 5, 3) := dk_159 0 5 (dk_at dksL_law_39 16 rfl rfl)
theorem dL_law_1037 : decode cL_law 1037 = .ok (.iconst 0, 1) := dk_3 (dk_at dksL_law_39 19 rfl rfl)
theorem dL_law_1038 : decode cL_law 1038 = .ok (.ireturn, 1) := dk_172 (dk_at dksL_law_39 20 rfl rfl)
theorem dL_law_1039 : decode cL_law 1039 = .ok (.iload 5, 2) := dk_21 5 (dk_at dksL_law_39 21 rfl rfl)
theorem dL_law_1041 : decode cL_law 1041 = .ok (.ifCond .ne 15, 3) := dk_154 0 15 (dk_at dksL_law_40 0 rfl rfl)
theorem dL_law_1044 : decode cL_law 1044 = .ok (.aload_n 3, 1) := dk_45 (dk_at dksL_law_40 3 rfl rfl)
theorem dL_law_1045 : decode cL_law 1045 = .ok (.iconst 0, 1) := dk_3 (dk_at dksL_law_40 4 rfl rfl)
theorem dL_law_1046 : decode cL_law 1046 = .ok (.laload, 1) := dk_47 (dk_at dksL_law_40 5 rfl rfl)
theorem dL_law_1047 : decode cL_law 1047 = .ok (.iload 6, 2) := dk_21 6 (dk_at dksL_law_40 6 rfl rfl)
theorem dL_law_1049 : decode cL_law 1049 = .ok (.i2l, 1) := dk_133 (dk_at dksL_law_40 8 rfl rfl)
theorem dL_law_1050 : decode cL_law 1050 = .ok (.lcmp, 1) := dk_148 (dk_at dksL_law_40 9 rfl rfl)
theorem dL_law_1051 : decode cL_law 1051 = .ok (.ifCond .eq 5, 3) := dk_153 0 5 (dk_at dksL_law_40 10 rfl rfl)
theorem dL_law_1054 : decode cL_law 1054 = .ok (.iconst 0, 1) := dk_3 (dk_at dksL_law_40 13 rfl rfl)
theorem dL_law_1055 : decode cL_law 1055 = .ok (.ireturn, 1) := dk_172 (dk_at dksL_law_40 14 rfl rfl)
theorem dL_law_1056 : decode cL_law 1056 = .ok (.goto 1074, 3) := dk_167 4 50 (dk_at dksL_law_40 15 rfl rfl)
theorem dL_law_1059 : decode cL_law 1059 = .ok (.aload_n 1, 1) := dk_43 (dk_at dksL_law_40 18 rfl rfl)
theorem dL_law_1060 : decode cL_law 1060 = .ok (.aload_n 0, 1) := dk_42 (dk_at dksL_law_40 19 rfl rfl)
theorem dL_law_1061 : decode cL_law 1061 = .ok (.iload 4, 2) := dk_21 4 (dk_at dksL_law_40 20 rfl rfl)
theorem dL_law_1063 : decode cL_law 1063 = .ok (.iconst 1, 1) := dk_4 (dk_at dksL_law_40 22 rfl rfl)
theorem dL_law_1064 : decode cL_law 1064 = .ok (.iadd, 1) := dk_96 (dk_at dksL_law_40 23 rfl rfl)
theorem dL_law_1065 : decode cL_law 1065 = .ok (.iaload, 1) := dk_46 (dk_at dksL_law_41 0 rfl rfl)
theorem dL_law_1066 : decode cL_law 1066 = .ok (.aload_n 0, 1) := dk_42 (dk_at dksL_law_41 1 rfl rfl)
theorem dL_law_1067 : decode cL_law 1067 = .ok (.iload 4, 2) := dk_21 4 (dk_at dksL_law_41 2 rfl rfl)
theorem dL_law_1069 : decode cL_law 1069 = .ok (.iconst 2, 1) := dk_5 (dk_at dksL_law_41 4 rfl rfl)
theorem dL_law_1070 : decode cL_law 1070 = .ok (.iadd, 1) := dk_96 (dk_at dksL_law_41 5 rfl rfl)
theorem dL_law_1071 : decode cL_law 1071 = .ok (.iaload, 1) := dk_46 (dk_at dksL_law_41 6 rfl rfl)
theorem dL_law_1072 : decode cL_law 1072 = .ok (.aload_n 3, 1) := dk_45 (dk_at dksL_law_41 7 rfl rfl)
theorem dL_law_1073 : decode cL_law 1073 = .ok (.invokestatic 161, 3) := dk_184 0 161 (dk_at dksL_law_41 8 rfl rfl)
theorem dL_law_1076 : decode cL_law 1076 = .ok (.istore 5, 2) := dk_54 5 (dk_at dksL_law_41 11 rfl rfl)
theorem dL_law_1078 : decode cL_law 1078 = .ok (.aload_n 2, 1) := dk_44 (dk_at dksL_law_41 13 rfl rfl)
theorem dL_law_1079 : decode cL_law 1079 = .ok (.aload_n 0, 1) := dk_42 (dk_at dksL_law_41 14 rfl rfl)
theorem dL_law_1080 : decode cL_law 1080 = .ok (.iload 4, 2) := dk_21 4 (dk_at dksL_law_41 15 rfl rfl)
theorem dL_law_1082 : decode cL_law 1082 = .ok (.iconst 1, 1) := dk_4 (dk_at dksL_law_41 17 rfl rfl)
theorem dL_law_1083 : decode cL_law 1083 = .ok (.iadd, 1) := dk_96 (dk_at dksL_law_41 18 rfl rfl)
theorem dL_law_1084 : decode cL_law 1084 = .ok (.iaload, 1) := dk_46 (dk_at dksL_law_41 19 rfl rfl)
theorem dL_law_1085 : decode cL_law 1085 = .ok (.aload_n 0, 1) := dk_42 (dk_at dksL_law_41 20 rfl rfl)
theorem dL_law_1086 : decode cL_law 1086 = .ok (.iload 4, 2) := dk_21 4 (dk_at dksL_law_41 21 rfl rfl)
theorem dL_law_1088 : decode cL_law 1088 = .ok (.iconst 2, 1) := dk_5 (dk_at dksL_law_41 23 rfl rfl)
theorem dL_law_1089 : decode cL_law 1089 = .ok (.iadd, 1) := dk_96 (dk_at dksL_law_42 0 rfl rfl)
theorem dL_law_1090 : decode cL_law 1090 = .ok (.iaload, 1) := dk_46 (dk_at dksL_law_42 1 rfl rfl)
theorem dL_law_1091 : decode cL_law 1091 = .ok (.invokevirtual 163, 3) := dk_182 0 163 (dk_at dksL_law_42 2 rfl rfl)
theorem dL_law_1094 : decode cL_law 1094 = .ok (.istore 6, 2) := dk_54 6 (dk_at dksL_law_42 5 rfl rfl)
theorem dL_law_1096 : decode cL_law 1096 = .ok (.aload_n 2, 1) := dk_44 (dk_at dksL_law_42 7 rfl rfl)
theorem dL_law_1097 : decode cL_law 1097 = .ok (.invokevirtual 118, 3) := dk_182 0 118 (dk_at dksL_law_42 8 rfl rfl)
theorem dL_law_1100 : decode cL_law 1100 = .ok (.iload 5, 2) := dk_21 5 (dk_at dksL_law_42 11 rfl rfl)
theorem dL_law_1102 : decode cL_law 1102 = .ok (.if_icmp .eq 5, 3) := dk_159 0 5 (dk_at dksL_law_42 13 rfl rfl)
theorem dL_law_1105 : decode cL_law 1105 = .ok (.iconst 0, 1) := dk_3 (dk_at dksL_law_42 16 rfl rfl)
theorem dL_law_1106 : decode cL_law 1106 = .ok (.ireturn, 1) := dk_172 (dk_at dksL_law_42 17 rfl rfl)
theorem dL_law_1107 : decode cL_law 1107 = .ok (.iload 5, 2) := dk_21 5 (dk_at dksL_law_42 18 rfl rfl)
theorem dL_law_1109 : decode cL_law 1109 = .ok (.ifCond .ne 15, 3) := dk_154 0 15 (dk_at dksL_law_42 20 rfl rfl)
theorem dL_law_1112 : decode cL_law 1112 = .ok (.aload_n 3, 1) := dk_45 (dk_at dksL_law_42 23 rfl rfl)
theorem dL_law_1113 : decode cL_law 1113 = .ok (.iconst 0, 1) := dk_3 (dk_at dksL_law_43 0 rfl rfl)
theorem dL_law_1114 : decode cL_law 1114 = .ok (.laload, 1) := dk_47 (dk_at dksL_law_43 1 rfl rfl)
theorem dL_law_1115 : decode cL_law 1115 = .ok (.iload 6, 2) := dk_21 6 (dk_at dksL_law_43 2 rfl rfl)
theorem dL_law_1117 : decode cL_law 1117 = .ok (.i2l, 1) := dk_133 (dk_at dksL_law_43 4 rfl rfl)
theorem dL_law_1118 : decode cL_law 1118 = .ok (.lcmp, 1) := dk_148 (dk_at dksL_law_43 5 rfl rfl)
theorem dL_law_1119 : decode cL_law 1119 = .ok (.ifCond .eq 5, 3) := dk_153 0 5 (dk_at dksL_law_43 6 rfl rfl)
theorem dL_law_1122 : decode cL_law 1122 = .ok (.iconst 0, 1) := dk_3 (dk_at dksL_law_43 9 rfl rfl)
theorem dL_law_1123 : decode cL_law 1123 = .ok (.ireturn, 1) := dk_172 (dk_at dksL_law_43 10 rfl rfl)
theorem dL_law_1124 : decode cL_law 1124 = .ok (.goto 1006, 3) := dk_167 3 238 (dk_at dksL_law_43 11 rfl rfl)
theorem dL_law_1127 : decode cL_law 1127 = .ok (.aload_n 1, 1) := dk_43 (dk_at dksL_law_43 14 rfl rfl)
theorem dL_law_1128 : decode cL_law 1128 = .ok (.aload_n 0, 1) := dk_42 (dk_at dksL_law_43 15 rfl rfl)
theorem dL_law_1129 : decode cL_law 1129 = .ok (.iload 4, 2) := dk_21 4 (dk_at dksL_law_43 16 rfl rfl)
theorem dL_law_1131 : decode cL_law 1131 = .ok (.iconst 1, 1) := dk_4 (dk_at dksL_law_43 18 rfl rfl)
theorem dL_law_1132 : decode cL_law 1132 = .ok (.iadd, 1) := dk_96 (dk_at dksL_law_43 19 rfl rfl)
theorem dL_law_1133 : decode cL_law 1133 = .ok (.iaload, 1) := dk_46 (dk_at dksL_law_43 20 rfl rfl)
theorem dL_law_1134 : decode cL_law 1134 = .ok (.aload_n 0, 1) := dk_42 (dk_at dksL_law_43 21 rfl rfl)
theorem dL_law_1135 : decode cL_law 1135 = .ok (.iload 4, 2) := dk_21 4 (dk_at dksL_law_43 22 rfl rfl)
theorem dL_law_1137 : decode cL_law 1137 = .ok (.iconst 2, 1) := dk_5 (dk_at dksL_law_44 0 rfl rfl)
theorem dL_law_1138 : decode cL_law 1138 = .ok (.iadd, 1) := dk_96 (dk_at dksL_law_44 1 rfl rfl)
theorem dL_law_1139 : decode cL_law 1139 = .ok (.iaload, 1) := dk_46 (dk_at dksL_law_44 2 rfl rfl)
theorem dL_law_1140 : decode cL_law 1140 = .ok (.aload_n 3, 1) := dk_45 (dk_at dksL_law_44 3 rfl rfl)
theorem dL_law_1141 : decode cL_law 1141 = .ok (.invokestatic 164, 3) := dk_184 0 164 (dk_at dksL_law_44 4 rfl rfl)
theorem dL_law_1144 : decode cL_law 1144 = .ok (.istore 5, 2) := dk_54 5 (dk_at dksL_law_44 7 rfl rfl)
theorem dL_law_1146 : decode cL_law 1146 = .ok (.aload_n 2, 1) := dk_44 (dk_at dksL_law_44 9 rfl rfl)
theorem dL_law_1147 : decode cL_law 1147 = .ok (.aload_n 0, 1) := dk_42 (dk_at dksL_law_44 10 rfl rfl)
theorem dL_law_1148 : decode cL_law 1148 = .ok (.iload 4, 2) := dk_21 4 (dk_at dksL_law_44 11 rfl rfl)
theorem dL_law_1150 : decode cL_law 1150 = .ok (.iconst 1, 1) := dk_4 (dk_at dksL_law_44 13 rfl rfl)
theorem dL_law_1151 : decode cL_law 1151 = .ok (.iadd, 1) := dk_96 (dk_at dksL_law_44 14 rfl rfl)
theorem dL_law_1152 : decode cL_law 1152 = .ok (.iaload, 1) := dk_46 (dk_at dksL_law_44 15 rfl rfl)
theorem dL_law_1153 : decode cL_law 1153 = .ok (.aload_n 0, 1) := dk_42 (dk_at dksL_law_44 16 rfl rfl)
theorem dL_law_1154 : decode cL_law 1154 = .ok (.iload 4, 2) := dk_21 4 (dk_at dksL_law_44 17 rfl rfl)
theorem dL_law_1156 : decode cL_law 1156 = .ok (.iconst 2, 1) := dk_5 (dk_at dksL_law_44 19 rfl rfl)
theorem dL_law_1157 : decode cL_law 1157 = .ok (.iadd, 1) := dk_96 (dk_at dksL_law_44 20 rfl rfl)
theorem dL_law_1158 : decode cL_law 1158 = .ok (.iaload, 1) := dk_46 (dk_at dksL_law_44 21 rfl rfl)
theorem dL_law_1159 : decode cL_law 1159 = .ok (.invokevirtual 166, 3) := dk_182 0 166 (dk_at dksL_law_45 0 rfl rfl)
theorem dL_law_1162 : decode cL_law 1162 = .ok (.istore 6, 2) := dk_54 6 (dk_at dksL_law_45 3 rfl rfl)
theorem dL_law_1164 : decode cL_law 1164 = .ok (.aload_n 2, 1) := dk_44 (dk_at dksL_law_45 5 rfl rfl)
theorem dL_law_1165 : decode cL_law 1165 = .ok (.invokevirtual 118, 3) := dk_182 0 118 (dk_at dksL_law_45 6 rfl rfl)
theorem dL_law_1168 : decode cL_law 1168 = .ok (.iload 5, 2) := dk_21 5 (dk_at dksL_law_45 9 rfl rfl)
theorem dL_law_1170 : decode cL_law 1170 = .ok (.if_icmp .eq 5, 3) := dk_159 0 5 (dk_at dksL_law_45 11 rfl rfl)
theorem dL_law_1173 : decode cL_law 1173 = .ok (.iconst 0, 1) := dk_3 (dk_at dksL_law_45 14 rfl rfl)
theorem dL_law_1174 : decode cL_law 1174 = .ok (.ireturn, 1) := dk_172 (dk_at dksL_law_45 15 rfl rfl)
theorem dL_law_1175 : decode cL_law 1175 = .ok (.iload 5, 2) := dk_21 5 (dk_at dksL_law_45 16 rfl rfl)
theorem dL_law_1177 : decode cL_law 1177 = .ok (.ifCond .ne 15, 3) := dk_154 0 15 (dk_at dksL_law_45 18 rfl rfl)
theorem dL_law_1180 : decode cL_law 1180 = .ok (.aload_n 3, 1) := dk_45 (dk_at dksL_law_45 21 rfl rfl)
theorem dL_law_1181 : decode cL_law 1181 = .ok (.iconst 0, 1) := dk_3 (dk_at dksL_law_45 22 rfl rfl)
theorem dL_law_1182 : decode cL_law 1182 = .ok (.laload, 1) := dk_47 (dk_at dksL_law_45 23 rfl rfl)
theorem dL_law_1183 : decode cL_law 1183 = .ok (.iload 6, 2) := dk_21 6 (dk_at dksL_law_46 0 rfl rfl)
theorem dL_law_1185 : decode cL_law 1185 = .ok (.i2l, 1) := dk_133 (dk_at dksL_law_46 2 rfl rfl)
theorem dL_law_1186 : decode cL_law 1186 = .ok (.lcmp, 1) := dk_148 (dk_at dksL_law_46 3 rfl rfl)
theorem dL_law_1187 : decode cL_law 1187 = .ok (.ifCond .eq 5, 3) := dk_153 0 5 (dk_at dksL_law_46 4 rfl rfl)
theorem dL_law_1190 : decode cL_law 1190 = .ok (.iconst 0, 1) := dk_3 (dk_at dksL_law_46 7 rfl rfl)
theorem dL_law_1191 : decode cL_law 1191 = .ok (.ireturn, 1) := dk_172 (dk_at dksL_law_46 8 rfl rfl)
theorem dL_law_1192 : decode cL_law 1192 = .ok (.goto 938, 3) := dk_167 3 170 (dk_at dksL_law_46 9 rfl rfl)
theorem dL_law_1195 : decode cL_law 1195 = .ok (.aload_n 1, 1) := dk_43 (dk_at dksL_law_46 12 rfl rfl)
theorem dL_law_1196 : decode cL_law 1196 = .ok (.aload_n 0, 1) := dk_42 (dk_at dksL_law_46 13 rfl rfl)
theorem dL_law_1197 : decode cL_law 1197 = .ok (.iload 4, 2) := dk_21 4 (dk_at dksL_law_46 14 rfl rfl)
theorem dL_law_1199 : decode cL_law 1199 = .ok (.iconst 1, 1) := dk_4 (dk_at dksL_law_46 16 rfl rfl)
theorem dL_law_1200 : decode cL_law 1200 = .ok (.iadd, 1) := dk_96 (dk_at dksL_law_46 17 rfl rfl)
theorem dL_law_1201 : decode cL_law 1201 = .ok (.iaload, 1) := dk_46 (dk_at dksL_law_46 18 rfl rfl)
theorem dL_law_1202 : decode cL_law 1202 = .ok (.aload_n 3, 1) := dk_45 (dk_at dksL_law_46 19 rfl rfl)
theorem dL_law_1203 : decode cL_law 1203 = .ok (.invokestatic 167, 3) := dk_184 0 167 (dk_at dksL_law_46 20 rfl rfl)
theorem dL_law_1206 : decode cL_law 1206 = .ok (.istore 5, 2) := dk_54 5 (dk_at dksL_law_47 0 rfl rfl)
theorem dL_law_1208 : decode cL_law 1208 = .ok (.aload_n 2, 1) := dk_44 (dk_at dksL_law_47 2 rfl rfl)
theorem dL_law_1209 : decode cL_law 1209 = .ok (.aload_n 0, 1) := dk_42 (dk_at dksL_law_47 3 rfl rfl)
theorem dL_law_1210 : decode cL_law 1210 = .ok (.iload 4, 2) := dk_21 4 (dk_at dksL_law_47 4 rfl rfl)
theorem dL_law_1212 : decode cL_law 1212 = .ok (.iconst 1, 1) := dk_4 (dk_at dksL_law_47 6 rfl rfl)
theorem dL_law_1213 : decode cL_law 1213 = .ok (.iadd, 1) := dk_96 (dk_at dksL_law_47 7 rfl rfl)
theorem dL_law_1214 : decode cL_law 1214 = .ok (.iaload, 1) := dk_46 (dk_at dksL_law_47 8 rfl rfl)
theorem dL_law_1215 : decode cL_law 1215 = .ok (.invokevirtual 169, 3) := dk_182 0 169 (dk_at dksL_law_47 9 rfl rfl)
theorem dL_law_1218 : decode cL_law 1218 = .ok (.istore 6, 2) := dk_54 6 (dk_at dksL_law_47 12 rfl rfl)
theorem dL_law_1220 : decode cL_law 1220 = .ok (.aload_n 2, 1) := dk_44 (dk_at dksL_law_47 14 rfl rfl)
theorem dL_law_1221 : decode cL_law 1221 = .ok (.invokevirtual 118, 3) := dk_182 0 118 (dk_at dksL_law_47 15 rfl rfl)
theorem dL_law_1224 : decode cL_law 1224 = .ok (.iload 5, 2) := dk_21 5 (dk_at dksL_law_47 18 rfl rfl)
theorem dL_law_1226 : decode cL_law 1226 = .ok (.if_icmp .eq 5, 3) := dk_159 0 5 (dk_at dksL_law_47 20 rfl rfl)
theorem dL_law_1229 : decode cL_law 1229 = .ok (.iconst 0, 1) := dk_3 (dk_at dksL_law_47 23 rfl rfl)
theorem dL_law_1230 : decode cL_law 1230 = .ok (.ireturn, 1) := dk_172 (dk_at dksL_law_48 0 rfl rfl)
theorem dL_law_1231 : decode cL_law 1231 = .ok (.iload 5, 2) := dk_21 5 (dk_at dksL_law_48 1 rfl rfl)
theorem dL_law_1233 : decode cL_law 1233 = .ok (.ifCond .ne 15, 3) := dk_154 0 15 (dk_at dksL_law_48 3 rfl rfl)
theorem dL_law_1236 : decode cL_law 1236 = .ok (.aload_n 3, 1) := dk_45 (dk_at dksL_law_48 6 rfl rfl)
theorem dL_law_1237 : decode cL_law 1237 = .ok (.iconst 0, 1) := dk_3 (dk_at dksL_law_48 7 rfl rfl)
theorem dL_law_1238 : decode cL_law 1238 = .ok (.laload, 1) := dk_47 (dk_at dksL_law_48 8 rfl rfl)
theorem dL_law_1239 : decode cL_law 1239 = .ok (.iload 6, 2) := dk_21 6 (dk_at dksL_law_48 9 rfl rfl)
theorem dL_law_1241 : decode cL_law 1241 = .ok (.i2l, 1) := dk_133 (dk_at dksL_law_48 11 rfl rfl)
theorem dL_law_1242 : decode cL_law 1242 = .ok (.lcmp, 1) := dk_148 (dk_at dksL_law_48 12 rfl rfl)
theorem dL_law_1243 : decode cL_law 1243 = .ok (.ifCond .eq 5, 3) := dk_153 0 5 (dk_at dksL_law_48 13 rfl rfl)
theorem dL_law_1246 : decode cL_law 1246 = .ok (.iconst 0, 1) := dk_3 (dk_at dksL_law_48 16 rfl rfl)
theorem dL_law_1247 : decode cL_law 1247 = .ok (.ireturn, 1) := dk_172 (dk_at dksL_law_48 17 rfl rfl)
theorem dL_law_1248 : decode cL_law 1248 = .ok (.goto 882, 3) := dk_167 3 114 (dk_at dksL_law_48 18 rfl rfl)
theorem dL_law_1251 : decode cL_law 1251 = .ok (.aload_n 1, 1) := dk_43 (dk_at dksL_law_48 21 rfl rfl)
theorem dL_law_1252 : decode cL_law 1252 = .ok (.aload_n 0, 1) := dk_42 (dk_at dksL_law_48 22 rfl rfl)
theorem dL_law_1253 : decode cL_law 1253 = .ok (.iload 4, 2) := dk_21 4 (dk_at dksL_law_49 0 rfl rfl)
theorem dL_law_1255 : decode cL_law 1255 = .ok (.iconst 1, 1) := dk_4 (dk_at dksL_law_49 2 rfl rfl)
theorem dL_law_1256 : decode cL_law 1256 = .ok (.iadd, 1) := dk_96 (dk_at dksL_law_49 3 rfl rfl)
theorem dL_law_1257 : decode cL_law 1257 = .ok (.iaload, 1) := dk_46 (dk_at dksL_law_49 4 rfl rfl)
theorem dL_law_1258 : decode cL_law 1258 = .ok (.aload_n 3, 1) := dk_45 (dk_at dksL_law_49 5 rfl rfl)
theorem dL_law_1259 : decode cL_law 1259 = .ok (.invokestatic 170, 3) := dk_184 0 170 (dk_at dksL_law_49 6 rfl rfl)
theorem dL_law_1262 : decode cL_law 1262 = .ok (.istore 5, 2) := dk_54 5 (dk_at dksL_law_49 9 rfl rfl)
theorem dL_law_1264 : decode cL_law 1264 = .ok (.aload_n 2, 1) := dk_44 (dk_at dksL_law_49 11 rfl rfl)
theorem dL_law_1265 : decode cL_law 1265 = .ok (.aload_n 0, 1) := dk_42 (dk_at dksL_law_49 12 rfl rfl)
theorem dL_law_1266 : decode cL_law 1266 = .ok (.iload 4, 2) := dk_21 4 (dk_at dksL_law_49 13 rfl rfl)
theorem dL_law_1268 : decode cL_law 1268 = .ok (.iconst 1, 1) := dk_4 (dk_at dksL_law_49 15 rfl rfl)
theorem dL_law_1269 : decode cL_law 1269 = .ok (.iadd, 1) := dk_96 (dk_at dksL_law_49 16 rfl rfl)
theorem dL_law_1270 : decode cL_law 1270 = .ok (.iaload, 1) := dk_46 (dk_at dksL_law_49 17 rfl rfl)
theorem dL_law_1271 : decode cL_law 1271 = .ok (.invokevirtual 172, 3) := dk_182 0 172 (dk_at dksL_law_49 18 rfl rfl)
theorem dL_law_1274 : decode cL_law 1274 = .ok (.istore 6, 2) := dk_54 6 (dk_at dksL_law_49 21 rfl rfl)
theorem dL_law_1276 : decode cL_law 1276 = .ok (.aload_n 2, 1) := dk_44 (dk_at dksL_law_49 23 rfl rfl)
theorem dL_law_1277 : decode cL_law 1277 = .ok (.invokevirtual 118, 3) := dk_182 0 118 (dk_at dksL_law_50 0 rfl rfl)
theorem dL_law_1280 : decode cL_law 1280 = .ok (.iload 5, 2) := dk_21 5 (dk_at dksL_law_50 3 rfl rfl)
theorem dL_law_1282 : decode cL_law 1282 = .ok (.if_icmp .eq 5, 3) := dk_159 0 5 (dk_at dksL_law_50 5 rfl rfl)
theorem dL_law_1285 : decode cL_law 1285 = .ok (.iconst 0, 1) := dk_3 (dk_at dksL_law_50 8 rfl rfl)
theorem dL_law_1286 : decode cL_law 1286 = .ok (.ireturn, 1) := dk_172 (dk_at dksL_law_50 9 rfl rfl)
theorem dL_law_1287 : decode cL_law 1287 = .ok (.iload 5, 2) := dk_21 5 (dk_at dksL_law_50 10 rfl rfl)
theorem dL_law_1289 : decode cL_law 1289 = .ok (.ifCond .ne 15, 3) := dk_154 0 15 (dk_at dksL_law_50 12 rfl rfl)
theorem dL_law_1292 : decode cL_law 1292 = .ok (.aload_n 3, 1) := dk_45 (dk_at dksL_law_50 15 rfl rfl)
theorem dL_law_1293 : decode cL_law 1293 = .ok (.iconst 0, 1) := dk_3 (dk_at dksL_law_50 16 rfl rfl)
theorem dL_law_1294 : decode cL_law 1294 = .ok (.laload, 1) := dk_47 (dk_at dksL_law_50 17 rfl rfl)
theorem dL_law_1295 : decode cL_law 1295 = .ok (.iload 6, 2) := dk_21 6 (dk_at dksL_law_50 18 rfl rfl)
theorem dL_law_1297 : decode cL_law 1297 = .ok (.i2l, 1) := dk_133 (dk_at dksL_law_50 20 rfl rfl)
theorem dL_law_1298 : decode cL_law 1298 = .ok (.lcmp, 1) := dk_148 (dk_at dksL_law_50 21 rfl rfl)
theorem dL_law_1299 : decode cL_law 1299 = .ok (.ifCond .eq 5, 3) := dk_153 0 5 (dk_at dksL_law_51 0 rfl rfl)
theorem dL_law_1302 : decode cL_law 1302 = .ok (.iconst 0, 1) := dk_3 (dk_at dksL_law_51 3 rfl rfl)
theorem dL_law_1303 : decode cL_law 1303 = .ok (.ireturn, 1) := dk_172 (dk_at dksL_law_51 4 rfl rfl)
theorem dL_law_1304 : decode cL_law 1304 = .ok (.goto 826, 3) := dk_167 3 58 (dk_at dksL_law_51 5 rfl rfl)
theorem dL_law_1307 : decode cL_law 1307 = .ok (.aload_n 1, 1) := dk_43 (dk_at dksL_law_51 8 rfl rfl)
theorem dL_law_1308 : decode cL_law 1308 = .ok (.aload_n 0, 1) := dk_42 (dk_at dksL_law_51 9 rfl rfl)
theorem dL_law_1309 : decode cL_law 1309 = .ok (.iload 4, 2) := dk_21 4 (dk_at dksL_law_51 10 rfl rfl)
theorem dL_law_1311 : decode cL_law 1311 = .ok (.iconst 1, 1) := dk_4 (dk_at dksL_law_51 12 rfl rfl)
theorem dL_law_1312 : decode cL_law 1312 = .ok (.iadd, 1) := dk_96 (dk_at dksL_law_51 13 rfl rfl)
theorem dL_law_1313 : decode cL_law 1313 = .ok (.iaload, 1) := dk_46 (dk_at dksL_law_51 14 rfl rfl)
theorem dL_law_1314 : decode cL_law 1314 = .ok (.aload_n 3, 1) := dk_45 (dk_at dksL_law_51 15 rfl rfl)
theorem dL_law_1315 : decode cL_law 1315 = .ok (.invokestatic 173, 3) := dk_184 0 173 (dk_at dksL_law_51 16 rfl rfl)
theorem dL_law_1318 : decode cL_law 1318 = .ok (.istore 5, 2) := dk_54 5 (dk_at dksL_law_51 19 rfl rfl)
theorem dL_law_1320 : decode cL_law 1320 = .ok (.aload_n 2, 1) := dk_44 (dk_at dksL_law_51 21 rfl rfl)
theorem dL_law_1321 : decode cL_law 1321 = .ok (.aload_n 0, 1) := dk_42 (dk_at dksL_law_51 22 rfl rfl)
theorem dL_law_1322 : decode cL_law 1322 = .ok (.iload 4, 2) := dk_21 4 (dk_at dksL_law_52 0 rfl rfl)
theorem dL_law_1324 : decode cL_law 1324 = .ok (.iconst 1, 1) := dk_4 (dk_at dksL_law_52 2 rfl rfl)
theorem dL_law_1325 : decode cL_law 1325 = .ok (.iadd, 1) := dk_96 (dk_at dksL_law_52 3 rfl rfl)
theorem dL_law_1326 : decode cL_law 1326 = .ok (.iaload, 1) := dk_46 (dk_at dksL_law_52 4 rfl rfl)
theorem dL_law_1327 : decode cL_law 1327 = .ok (.invokevirtual 175, 3) := dk_182 0 175 (dk_at dksL_law_52 5 rfl rfl)
theorem dL_law_1330 : decode cL_law 1330 = .ok (.istore 6, 2) := dk_54 6 (dk_at dksL_law_52 8 rfl rfl)
theorem dL_law_1332 : decode cL_law 1332 = .ok (.aload_n 2, 1) := dk_44 (dk_at dksL_law_52 10 rfl rfl)
theorem dL_law_1333 : decode cL_law 1333 = .ok (.invokevirtual 118, 3) := dk_182 0 118 (dk_at dksL_law_52 11 rfl rfl)
theorem dL_law_1336 : decode cL_law 1336 = .ok (.iload 5, 2) := dk_21 5 (dk_at dksL_law_52 14 rfl rfl)
theorem dL_law_1338 : decode cL_law 1338 = .ok (.if_icmp .eq 5, 3) := dk_159 0 5 (dk_at dksL_law_52 16 rfl rfl)
theorem dL_law_1341 : decode cL_law 1341 = .ok (.iconst 0, 1) := dk_3 (dk_at dksL_law_52 19 rfl rfl)
theorem dL_law_1342 : decode cL_law 1342 = .ok (.ireturn, 1) := dk_172 (dk_at dksL_law_52 20 rfl rfl)
theorem dL_law_1343 : decode cL_law 1343 = .ok (.iload 5, 2) := dk_21 5 (dk_at dksL_law_52 21 rfl rfl)
theorem dL_law_1345 : decode cL_law 1345 = .ok (.ifCond .ne 15, 3) := dk_154 0 15 (dk_at dksL_law_53 0 rfl rfl)
theorem dL_law_1348 : decode cL_law 1348 = .ok (.aload_n 3, 1) := dk_45 (dk_at dksL_law_53 3 rfl rfl)
theorem dL_law_1349 : decode cL_law 1349 = .ok (.iconst 0, 1) := dk_3 (dk_at dksL_law_53 4 rfl rfl)
theorem dL_law_1350 : decode cL_law 1350 = .ok (.laload, 1) := dk_47 (dk_at dksL_law_53 5 rfl rfl)
theorem dL_law_1351 : decode cL_law 1351 = .ok (.iload 6, 2) := dk_21 6 (dk_at dksL_law_53 6 rfl rfl)
theorem dL_law_1353 : decode cL_law 1353 = .ok (.i2l, 1) := dk_133 (dk_at dksL_law_53 8 rfl rfl)
theorem dL_law_1354 : decode cL_law 1354 = .ok (.lcmp, 1) := dk_148 (dk_at dksL_law_53 9 rfl rfl)
theorem dL_law_1355 : decode cL_law 1355 = .ok (.ifCond .eq 5, 3) := dk_153 0 5 (dk_at dksL_law_53 10 rfl rfl)
theorem dL_law_1358 : decode cL_law 1358 = .ok (.iconst 0, 1) := dk_3 (dk_at dksL_law_53 13 rfl rfl)
theorem dL_law_1359 : decode cL_law 1359 = .ok (.ireturn, 1) := dk_172 (dk_at dksL_law_53 14 rfl rfl)
theorem dL_law_1360 : decode cL_law 1360 = .ok (.goto 770, 3) := dk_167 3 2 (dk_at dksL_law_53 15 rfl rfl)
theorem dL_law_1363 : decode cL_law 1363 = .ok (.aload_n 1, 1) := dk_43 (dk_at dksL_law_53 18 rfl rfl)
theorem dL_law_1364 : decode cL_law 1364 = .ok (.invokevirtual 176, 3) := dk_182 0 176 (dk_at dksL_law_53 19 rfl rfl)
theorem dL_law_1367 : decode cL_law 1367 = .ok (.aload_n 2, 1) := dk_44 (dk_at dksL_law_53 22 rfl rfl)
theorem dL_law_1368 : decode cL_law 1368 = .ok (.invokevirtual 179, 3) := dk_182 0 179 (dk_at dksL_law_54 0 rfl rfl)
theorem dL_law_1371 : decode cL_law 1371 = .ok (.if_icmp .eq 759, 3) := dk_159 2 247 (dk_at dksL_law_54 3 rfl rfl)
theorem dL_law_1374 : decode cL_law 1374 = .ok (.iconst 0, 1) := dk_3 (dk_at dksL_law_54 6 rfl rfl)
theorem dL_law_1375 : decode cL_law 1375 = .ok (.ireturn, 1) := dk_172 (dk_at dksL_law_54 7 rfl rfl)
theorem dL_law_1376 : decode cL_law 1376 = .ok (.aload_n 1, 1) := dk_43 (dk_at dksL_law_54 8 rfl rfl)
theorem dL_law_1377 : decode cL_law 1377 = .ok (.aload_n 0, 1) := dk_42 (dk_at dksL_law_54 9 rfl rfl)
theorem dL_law_1378 : decode cL_law 1378 = .ok (.iload 4, 2) := dk_21 4 (dk_at dksL_law_54 10 rfl rfl)
theorem dL_law_1380 : decode cL_law 1380 = .ok (.iconst 1, 1) := dk_4 (dk_at dksL_law_54 12 rfl rfl)
theorem dL_law_1381 : decode cL_law 1381 = .ok (.iadd, 1) := dk_96 (dk_at dksL_law_54 13 rfl rfl)
theorem dL_law_1382 : decode cL_law 1382 = .ok (.iaload, 1) := dk_46 (dk_at dksL_law_54 14 rfl rfl)
theorem dL_law_1383 : decode cL_law 1383 = .ok (.aload_n 0, 1) := dk_42 (dk_at dksL_law_54 15 rfl rfl)
theorem dL_law_1384 : decode cL_law 1384 = .ok (.iload 4, 2) := dk_21 4 (dk_at dksL_law_54 16 rfl rfl)
theorem dL_law_1386 : decode cL_law 1386 = .ok (.iconst 2, 1) := dk_5 (dk_at dksL_law_54 18 rfl rfl)
theorem dL_law_1387 : decode cL_law 1387 = .ok (.iadd, 1) := dk_96 (dk_at dksL_law_54 19 rfl rfl)
theorem dL_law_1388 : decode cL_law 1388 = .ok (.iaload, 1) := dk_46 (dk_at dksL_law_54 20 rfl rfl)
theorem dL_law_1389 : decode cL_law 1389 = .ok (.aload_n 0, 1) := dk_42 (dk_at dksL_law_54 21 rfl rfl)
theorem dL_law_1390 : decode cL_law 1390 = .ok (.iload 4, 2) := dk_21 4 (dk_at dksL_law_54 22 rfl rfl)
theorem dL_law_1392 : decode cL_law 1392 = .ok (.iconst 3, 1) := dk_6 (dk_at dksL_law_55 0 rfl rfl)
theorem dL_law_1393 : decode cL_law 1393 = .ok (.iadd, 1) := dk_96 (dk_at dksL_law_55 1 rfl rfl)
theorem dL_law_1394 : decode cL_law 1394 = .ok (.iaload, 1) := dk_46 (dk_at dksL_law_55 2 rfl rfl)
theorem dL_law_1395 : decode cL_law 1395 = .ok (.aload_n 3, 1) := dk_45 (dk_at dksL_law_55 3 rfl rfl)
theorem dL_law_1396 : decode cL_law 1396 = .ok (.invokestatic 180, 3) := dk_184 0 180 (dk_at dksL_law_55 4 rfl rfl)
theorem dL_law_1399 : decode cL_law 1399 = .ok (.istore 5, 2) := dk_54 5 (dk_at dksL_law_55 7 rfl rfl)
theorem dL_law_1401 : decode cL_law 1401 = .ok (.aload_n 2, 1) := dk_44 (dk_at dksL_law_55 9 rfl rfl)
theorem dL_law_1402 : decode cL_law 1402 = .ok (.aload_n 0, 1) := dk_42 (dk_at dksL_law_55 10 rfl rfl)
theorem dL_law_1403 : decode cL_law 1403 = .ok (.iload 4, 2) := dk_21 4 (dk_at dksL_law_55 11 rfl rfl)
theorem dL_law_1405 : decode cL_law 1405 = .ok (.iconst 1, 1) := dk_4 (dk_at dksL_law_55 13 rfl rfl)
theorem dL_law_1406 : decode cL_law 1406 = .ok (.iadd, 1) := dk_96 (dk_at dksL_law_55 14 rfl rfl)
theorem dL_law_1407 : decode cL_law 1407 = .ok (.iaload, 1) := dk_46 (dk_at dksL_law_55 15 rfl rfl)
theorem dL_law_1408 : decode cL_law 1408 = .ok (.aload_n 0, 1) := dk_42 (dk_at dksL_law_55 16 rfl rfl)
theorem dL_law_1409 : decode cL_law 1409 = .ok (.iload 4, 2) := dk_21 4 (dk_at dksL_law_55 17 rfl rfl)
theorem dL_law_1411 : decode cL_law 1411 = .ok (.iconst 2, 1) := dk_5 (dk_at dksL_law_55 19 rfl rfl)
theorem dL_law_1412 : decode cL_law 1412 = .ok (.iadd, 1) := dk_96 (dk_at dksL_law_55 20 rfl rfl)
theorem dL_law_1413 : decode cL_law 1413 = .ok (.iaload, 1) := dk_46 (dk_at dksL_law_55 21 rfl rfl)
theorem dL_law_1414 : decode cL_law 1414 = .ok (.aload_n 0, 1) := dk_42 (dk_at dksL_law_55 22 rfl rfl)
theorem dL_law_1415 : decode cL_law 1415 = .ok (.iload 4, 2) := dk_21 4 (dk_at dksL_law_56 0 rfl rfl)
theorem dL_law_1417 : decode cL_law 1417 = .ok (.iconst 3, 1) := dk_6 (dk_at dksL_law_56 2 rfl rfl)
theorem dL_law_1418 : decode cL_law 1418 = .ok (.iadd, 1) := dk_96 (dk_at dksL_law_56 3 rfl rfl)
theorem dL_law_1419 : decode cL_law 1419 = .ok (.iaload, 1) := dk_46 (dk_at dksL_law_56 4 rfl rfl)
theorem dL_law_1420 : decode cL_law 1420 = .ok (.invokevirtual 182, 3) := dk_182 0 182 (dk_at dksL_law_56 5 rfl rfl)
theorem dL_law_1423 : decode cL_law 1423 = .ok (.istore 6, 2) := dk_54 6 (dk_at dksL_law_56 8 rfl rfl)
theorem dL_law_1425 : decode cL_law 1425 = .ok (.aload_n 2, 1) := dk_44 (dk_at dksL_law_56 10 rfl rfl)
theorem dL_law_1426 : decode cL_law 1426 = .ok (.invokevirtual 118, 3) := dk_182 0 118 (dk_at dksL_law_56 11 rfl rfl)
theorem dL_law_1429 : decode cL_law 1429 = .ok (.iload 5, 2) := dk_21 5 (dk_at dksL_law_56 14 rfl rfl)
theorem dL_law_1431 : decode cL_law 1431 = .ok (.if_icmp .eq 5, 3) := dk_159 0 5 (dk_at dksL_law_56 16 rfl rfl)
theorem dL_law_1434 : decode cL_law 1434 = .ok (.iconst 0, 1) := dk_3 (dk_at dksL_law_56 19 rfl rfl)
theorem dL_law_1435 : decode cL_law 1435 = .ok (.ireturn, 1) := dk_172 (dk_at dksL_law_56 20 rfl rfl)
theorem dL_law_1436 : decode cL_law 1436 = .ok (.iload 5, 2) := dk_21 5 (dk_at dksL_law_56 21 rfl rfl)
theorem dL_law_1438 : decode cL_law 1438 = .ok (.ifCond .ne 15, 3) := dk_154 0 15 (dk_at dksL_law_57 0 rfl rfl)
theorem dL_law_1441 : decode cL_law 1441 = .ok (.aload_n 3, 1) := dk_45 (dk_at dksL_law_57 3 rfl rfl)
theorem dL_law_1442 : decode cL_law 1442 = .ok (.iconst 0, 1) := dk_3 (dk_at dksL_law_57 4 rfl rfl)
theorem dL_law_1443 : decode cL_law 1443 = .ok (.laload, 1) := dk_47 (dk_at dksL_law_57 5 rfl rfl)
theorem dL_law_1444 : decode cL_law 1444 = .ok (.iload 6, 2) := dk_21 6 (dk_at dksL_law_57 6 rfl rfl)
theorem dL_law_1446 : decode cL_law 1446 = .ok (.i2l, 1) := dk_133 (dk_at dksL_law_57 8 rfl rfl)
theorem dL_law_1447 : decode cL_law 1447 = .ok (.lcmp, 1) := dk_148 (dk_at dksL_law_57 9 rfl rfl)
theorem dL_law_1448 : decode cL_law 1448 = .ok (.ifCond .eq 5, 3) := dk_153 0 5 (dk_at dksL_law_57 10 rfl rfl)
theorem dL_law_1451 : decode cL_law 1451 = .ok (.iconst 0, 1) := dk_3 (dk_at dksL_law_57 13 rfl rfl)
theorem dL_law_1452 : decode cL_law 1452 = .ok (.ireturn, 1) := dk_172 (dk_at dksL_law_57 14 rfl rfl)
theorem dL_law_1453 : decode cL_law 1453 = .ok (.goto 677, 3) := dk_167 2 165 (dk_at dksL_law_57 15 rfl rfl)
theorem dL_law_1456 : decode cL_law 1456 = .ok (.aload_n 1, 1) := dk_43 (dk_at dksL_law_57 18 rfl rfl)
theorem dL_law_1457 : decode cL_law 1457 = .ok (.aload_n 0, 1) := dk_42 (dk_at dksL_law_57 19 rfl rfl)
theorem dL_law_1458 : decode cL_law 1458 = .ok (.iload 4, 2) := dk_21 4 (dk_at dksL_law_57 20 rfl rfl)
theorem dL_law_1460 : decode cL_law 1460 = .ok (.iconst 1, 1) := dk_4 (dk_at dksL_law_57 22 rfl rfl)
theorem dL_law_1461 : decode cL_law 1461 = .ok (.iadd, 1) := dk_96 (dk_at dksL_law_57 23 rfl rfl)
theorem dL_law_1462 : decode cL_law 1462 = .ok (.iaload, 1) := dk_46 (dk_at dksL_law_58 0 rfl rfl)
theorem dL_law_1463 : decode cL_law 1463 = .ok (.aload_n 0, 1) := dk_42 (dk_at dksL_law_58 1 rfl rfl)
theorem dL_law_1464 : decode cL_law 1464 = .ok (.iload 4, 2) := dk_21 4 (dk_at dksL_law_58 2 rfl rfl)
theorem dL_law_1466 : decode cL_law 1466 = .ok (.iconst 2, 1) := dk_5 (dk_at dksL_law_58 4 rfl rfl)
theorem dL_law_1467 : decode cL_law 1467 = .ok (.iadd, 1) := dk_96 (dk_at dksL_law_58 5 rfl rfl)
theorem dL_law_1468 : decode cL_law 1468 = .ok (.iaload, 1) := dk_46 (dk_at dksL_law_58 6 rfl rfl)
theorem dL_law_1469 : decode cL_law 1469 = .ok (.aload_n 0, 1) := dk_42 (dk_at dksL_law_58 7 rfl rfl)
theorem dL_law_1470 : decode cL_law 1470 = .ok (.iload 4, 2) := dk_21 4 (dk_at dksL_law_58 8 rfl rfl)
theorem dL_law_1472 : decode cL_law 1472 = .ok (.iconst 3, 1) := dk_6 (dk_at dksL_law_58 10 rfl rfl)
theorem dL_law_1473 : decode cL_law 1473 = .ok (.iadd, 1) := dk_96 (dk_at dksL_law_58 11 rfl rfl)
theorem dL_law_1474 : decode cL_law 1474 = .ok (.iaload, 1) := dk_46 (dk_at dksL_law_58 12 rfl rfl)
theorem dL_law_1475 : decode cL_law 1475 = .ok (.invokestatic 183, 3) := dk_184 0 183 (dk_at dksL_law_58 13 rfl rfl)
theorem dL_law_1478 : decode cL_law 1478 = .ok (.istore 5, 2) := dk_54 5 (dk_at dksL_law_58 16 rfl rfl)
theorem dL_law_1480 : decode cL_law 1480 = .ok (.aload_n 2, 1) := dk_44 (dk_at dksL_law_58 18 rfl rfl)
theorem dL_law_1481 : decode cL_law 1481 = .ok (.aload_n 0, 1) := dk_42 (dk_at dksL_law_58 19 rfl rfl)
theorem dL_law_1482 : decode cL_law 1482 = .ok (.iload 4, 2) := dk_21 4 (dk_at dksL_law_58 20 rfl rfl)
theorem dL_law_1484 : decode cL_law 1484 = .ok (.iconst 1, 1) := dk_4 (dk_at dksL_law_58 22 rfl rfl)
theorem dL_law_1485 : decode cL_law 1485 = .ok (.iadd, 1) := dk_96 (dk_at dksL_law_58 23 rfl rfl)
theorem dL_law_1486 : decode cL_law 1486 = .ok (.iaload, 1) := dk_46 (dk_at dksL_law_59 0 rfl rfl)
theorem dL_law_1487 : decode cL_law 1487 = .ok (.aload_n 0, 1) := dk_42 (dk_at dksL_law_59 1 rfl rfl)
theorem dL_law_1488 : decode cL_law 1488 = .ok (.iload 4, 2) := dk_21 4 (dk_at dksL_law_59 2 rfl rfl)
theorem dL_law_1490 : decode cL_law 1490 = .ok (.iconst 2, 1) := dk_5 (dk_at dksL_law_59 4 rfl rfl)
theorem dL_law_1491 : decode cL_law 1491 = .ok (.iadd, 1) := dk_96 (dk_at dksL_law_59 5 rfl rfl)
theorem dL_law_1492 : decode cL_law 1492 = .ok (.iaload, 1) := dk_46 (dk_at dksL_law_59 6 rfl rfl)
theorem dL_law_1493 : decode cL_law 1493 = .ok (.aload_n 0, 1) := dk_42 (dk_at dksL_law_59 7 rfl rfl)
theorem dL_law_1494 : decode cL_law 1494 = .ok (.iload 4, 2) := dk_21 4 (dk_at dksL_law_59 8 rfl rfl)
theorem dL_law_1496 : decode cL_law 1496 = .ok (.iconst 3, 1) := dk_6 (dk_at dksL_law_59 10 rfl rfl)
theorem dL_law_1497 : decode cL_law 1497 = .ok (.iadd, 1) := dk_96 (dk_at dksL_law_59 11 rfl rfl)
theorem dL_law_1498 : decode cL_law 1498 = .ok (.iaload, 1) := dk_46 (dk_at dksL_law_59 12 rfl rfl)
theorem dL_law_1499 : decode cL_law 1499 = .ok (.invokevirtual 186, 3) := dk_182 0 186 (dk_at dksL_law_59 13 rfl rfl)
theorem dL_law_1502 : decode cL_law 1502 = .ok (.aload_n 2, 1) := dk_44 (dk_at dksL_law_59 16 rfl rfl)
theorem dL_law_1503 : decode cL_law 1503 = .ok (.invokevirtual 118, 3) := dk_182 0 118 (dk_at dksL_law_59 17 rfl rfl)
theorem dL_law_1506 : decode cL_law 1506 = .ok (.iload 5, 2) := dk_21 5 (dk_at dksL_law_59 20 rfl rfl)
theorem dL_law_1508 : decode cL_law 1508 = .ok (.if_icmp .eq 5, 3) := dk_159 0 5 (dk_at dksL_law_60 0 rfl rfl)
theorem dL_law_1511 : decode cL_law 1511 = .ok (.iconst 0, 1) := dk_3 (dk_at dksL_law_60 3 rfl rfl)
theorem dL_law_1512 : decode cL_law 1512 = .ok (.ireturn, 1) := dk_172 (dk_at dksL_law_60 4 rfl rfl)
theorem dL_law_1513 : decode cL_law 1513 = .ok (.goto 617, 3) := dk_167 2 105 (dk_at dksL_law_60 5 rfl rfl)
theorem dL_law_1516 : decode cL_law 1516 = .ok (.aload_n 1, 1) := dk_43 (dk_at dksL_law_60 8 rfl rfl)
theorem dL_law_1517 : decode cL_law 1517 = .ok (.aload_n 0, 1) := dk_42 (dk_at dksL_law_60 9 rfl rfl)
theorem dL_law_1518 : decode cL_law 1518 = .ok (.iload 4, 2) := dk_21 4 (dk_at dksL_law_60 10 rfl rfl)
theorem dL_law_1520 : decode cL_law 1520 = .ok (.iconst 1, 1) := dk_4 (dk_at dksL_law_60 12 rfl rfl)
theorem dL_law_1521 : decode cL_law 1521 = .ok (.iadd, 1) := dk_96 (dk_at dksL_law_60 13 rfl rfl)
theorem dL_law_1522 : decode cL_law 1522 = .ok (.iaload, 1) := dk_46 (dk_at dksL_law_60 14 rfl rfl)
theorem dL_law_1523 : decode cL_law 1523 = .ok (.aload_n 0, 1) := dk_42 (dk_at dksL_law_60 15 rfl rfl)
theorem dL_law_1524 : decode cL_law 1524 = .ok (.iload 4, 2) := dk_21 4 (dk_at dksL_law_60 16 rfl rfl)
theorem dL_law_1526 : decode cL_law 1526 = .ok (.iconst 2, 1) := dk_5 (dk_at dksL_law_60 18 rfl rfl)
theorem dL_law_1527 : decode cL_law 1527 = .ok (.iadd, 1) := dk_96 (dk_at dksL_law_60 19 rfl rfl)
theorem dL_law_1528 : decode cL_law 1528 = .ok (.iaload, 1) := dk_46 (dk_at dksL_law_60 20 rfl rfl)
theorem dL_law_1529 : decode cL_law 1529 = .ok (.aload_n 0, 1) := dk_42 (dk_at dksL_law_60 21 rfl rfl)
theorem dL_law_1530 : decode cL_law 1530 = .ok (.iload 4, 2) := dk_21 4 (dk_at dksL_law_60 22 rfl rfl)
theorem dL_law_1532 : decode cL_law 1532 = .ok (.iconst 3, 1) := dk_6 (dk_at dksL_law_61 0 rfl rfl)
theorem dL_law_1533 : decode cL_law 1533 = .ok (.iadd, 1) := dk_96 (dk_at dksL_law_61 1 rfl rfl)
theorem dL_law_1534 : decode cL_law 1534 = .ok (.iaload, 1) := dk_46 (dk_at dksL_law_61 2 rfl rfl)
theorem dL_law_1535 : decode cL_law 1535 = .ok (.aload_n 3, 1) := dk_45 (dk_at dksL_law_61 3 rfl rfl)
theorem dL_law_1536 : decode cL_law 1536 = .ok (.invokestatic 187, 3) := dk_184 0 187 (dk_at dksL_law_61 4 rfl rfl)
theorem dL_law_1539 : decode cL_law 1539 = .ok (.istore 5, 2) := dk_54 5 (dk_at dksL_law_61 7 rfl rfl)
theorem dL_law_1541 : decode cL_law 1541 = .ok (.aload_n 2, 1) := dk_44 (dk_at dksL_law_61 9 rfl rfl)
theorem dL_law_1542 : decode cL_law 1542 = .ok (.aload_n 0, 1) := dk_42 (dk_at dksL_law_61 10 rfl rfl)
theorem dL_law_1543 : decode cL_law 1543 = .ok (.iload 4, 2) := dk_21 4 (dk_at dksL_law_61 11 rfl rfl)
theorem dL_law_1545 : decode cL_law 1545 = .ok (.iconst 1, 1) := dk_4 (dk_at dksL_law_61 13 rfl rfl)
theorem dL_law_1546 : decode cL_law 1546 = .ok (.iadd, 1) := dk_96 (dk_at dksL_law_61 14 rfl rfl)
theorem dL_law_1547 : decode cL_law 1547 = .ok (.iaload, 1) := dk_46 (dk_at dksL_law_61 15 rfl rfl)
theorem dL_law_1548 : decode cL_law 1548 = .ok (.aload_n 0, 1) := dk_42 (dk_at dksL_law_61 16 rfl rfl)
theorem dL_law_1549 : decode cL_law 1549 = .ok (.iload 4, 2) := dk_21 4 (dk_at dksL_law_61 17 rfl rfl)
theorem dL_law_1551 : decode cL_law 1551 = .ok (.iconst 2, 1) := dk_5 (dk_at dksL_law_61 19 rfl rfl)
theorem dL_law_1552 : decode cL_law 1552 = .ok (.iadd, 1) := dk_96 (dk_at dksL_law_61 20 rfl rfl)
theorem dL_law_1553 : decode cL_law 1553 = .ok (.iaload, 1) := dk_46 (dk_at dksL_law_61 21 rfl rfl)
theorem dL_law_1554 : decode cL_law 1554 = .ok (.aload_n 0, 1) := dk_42 (dk_at dksL_law_61 22 rfl rfl)
theorem dL_law_1555 : decode cL_law 1555 = .ok (.iload 4, 2) := dk_21 4 (dk_at dksL_law_62 0 rfl rfl)
theorem dL_law_1557 : decode cL_law 1557 = .ok (.iconst 3, 1) := dk_6 (dk_at dksL_law_62 2 rfl rfl)
theorem dL_law_1558 : decode cL_law 1558 = .ok (.iadd, 1) := dk_96 (dk_at dksL_law_62 3 rfl rfl)
theorem dL_law_1559 : decode cL_law 1559 = .ok (.iaload, 1) := dk_46 (dk_at dksL_law_62 4 rfl rfl)
theorem dL_law_1560 : decode cL_law 1560 = .ok (.invokevirtual 189, 3) := dk_182 0 189 (dk_at dksL_law_62 5 rfl rfl)
theorem dL_law_1563 : decode cL_law 1563 = .ok (.istore 6, 2) := dk_54 6 (dk_at dksL_law_62 8 rfl rfl)
theorem dL_law_1565 : decode cL_law 1565 = .ok (.aload_n 2, 1) := dk_44 (dk_at dksL_law_62 10 rfl rfl)
theorem dL_law_1566 : decode cL_law 1566 = .ok (.invokevirtual 118, 3) := dk_182 0 118 (dk_at dksL_law_62 11 rfl rfl)
theorem dL_law_1569 : decode cL_law 1569 = .ok (.iload 5, 2) := dk_21 5 (dk_at dksL_law_62 14 rfl rfl)
theorem dL_law_1571 : decode cL_law 1571 = .ok (.if_icmp .eq 5, 3) := dk_159 0 5 (dk_at dksL_law_62 16 rfl rfl)
theorem dL_law_1574 : decode cL_law 1574 = .ok (.iconst 0, 1) := dk_3 (dk_at dksL_law_62 19 rfl rfl)
theorem dL_law_1575 : decode cL_law 1575 = .ok (.ireturn, 1) := dk_172 (dk_at dksL_law_62 20 rfl rfl)
theorem dL_law_1576 : decode cL_law 1576 = .ok (.iload 5, 2) := dk_21 5 (dk_at dksL_law_62 21 rfl rfl)
theorem dL_law_1578 : decode cL_law 1578 = .ok (.ifCond .ne 15, 3) := dk_154 0 15 (dk_at dksL_law_63 0 rfl rfl)
theorem dL_law_1581 : decode cL_law 1581 = .ok (.aload_n 3, 1) := dk_45 (dk_at dksL_law_63 3 rfl rfl)
theorem dL_law_1582 : decode cL_law 1582 = .ok (.iconst 0, 1) := dk_3 (dk_at dksL_law_63 4 rfl rfl)
theorem dL_law_1583 : decode cL_law 1583 = .ok (.laload, 1) := dk_47 (dk_at dksL_law_63 5 rfl rfl)
theorem dL_law_1584 : decode cL_law 1584 = .ok (.iload 6, 2) := dk_21 6 (dk_at dksL_law_63 6 rfl rfl)
theorem dL_law_1586 : decode cL_law 1586 = .ok (.i2l, 1) := dk_133 (dk_at dksL_law_63 8 rfl rfl)
theorem dL_law_1587 : decode cL_law 1587 = .ok (.lcmp, 1) := dk_148 (dk_at dksL_law_63 9 rfl rfl)
theorem dL_law_1588 : decode cL_law 1588 = .ok (.ifCond .eq 5, 3) := dk_153 0 5 (dk_at dksL_law_63 10 rfl rfl)
theorem dL_law_1591 : decode cL_law 1591 = .ok (.iconst 0, 1) := dk_3 (dk_at dksL_law_63 13 rfl rfl)
theorem dL_law_1592 : decode cL_law 1592 = .ok (.ireturn, 1) := dk_172 (dk_at dksL_law_63 14 rfl rfl)
theorem dL_law_1593 : decode cL_law 1593 = .ok (.goto 537, 3) := dk_167 2 25 (dk_at dksL_law_63 15 rfl rfl)
theorem dL_law_1596 : decode cL_law 1596 = .ok (.aload_n 1, 1) := dk_43 (dk_at dksL_law_63 18 rfl rfl)
theorem dL_law_1597 : decode cL_law 1597 = .ok (.aload_n 0, 1) := dk_42 (dk_at dksL_law_63 19 rfl rfl)
theorem dL_law_1598 : decode cL_law 1598 = .ok (.iload 4, 2) := dk_21 4 (dk_at dksL_law_63 20 rfl rfl)
theorem dL_law_1600 : decode cL_law 1600 = .ok (.iconst 1, 1) := dk_4 (dk_at dksL_law_63 22 rfl rfl)
theorem dL_law_1601 : decode cL_law 1601 = .ok (.iadd, 1) := dk_96 (dk_at dksL_law_63 23 rfl rfl)
theorem dL_law_1602 : decode cL_law 1602 = .ok (.iaload, 1) := dk_46 (dk_at dksL_law_64 0 rfl rfl)
theorem dL_law_1603 : decode cL_law 1603 = .ok (.aload_n 0, 1) := dk_42 (dk_at dksL_law_64 1 rfl rfl)
theorem dL_law_1604 : decode cL_law 1604 = .ok (.iload 4, 2) := dk_21 4 (dk_at dksL_law_64 2 rfl rfl)
theorem dL_law_1606 : decode cL_law 1606 = .ok (.iconst 2, 1) := dk_5 (dk_at dksL_law_64 4 rfl rfl)
theorem dL_law_1607 : decode cL_law 1607 = .ok (.iadd, 1) := dk_96 (dk_at dksL_law_64 5 rfl rfl)
theorem dL_law_1608 : decode cL_law 1608 = .ok (.iaload, 1) := dk_46 (dk_at dksL_law_64 6 rfl rfl)
theorem dL_law_1609 : decode cL_law 1609 = .ok (.aload_n 3, 1) := dk_45 (dk_at dksL_law_64 7 rfl rfl)
theorem dL_law_1610 : decode cL_law 1610 = .ok (.invokestatic 190, 3) := dk_184 0 190 (dk_at dksL_law_64 8 rfl rfl)
theorem dL_law_1613 : decode cL_law 1613 = .ok (.istore 5, 2) := dk_54 5 (dk_at dksL_law_64 11 rfl rfl)
theorem dL_law_1615 : decode cL_law 1615 = .ok (.aload_n 2, 1) := dk_44 (dk_at dksL_law_64 13 rfl rfl)
theorem dL_law_1616 : decode cL_law 1616 = .ok (.aload_n 0, 1) := dk_42 (dk_at dksL_law_64 14 rfl rfl)
theorem dL_law_1617 : decode cL_law 1617 = .ok (.iload 4, 2) := dk_21 4 (dk_at dksL_law_64 15 rfl rfl)
theorem dL_law_1619 : decode cL_law 1619 = .ok (.iconst 1, 1) := dk_4 (dk_at dksL_law_64 17 rfl rfl)
theorem dL_law_1620 : decode cL_law 1620 = .ok (.iadd, 1) := dk_96 (dk_at dksL_law_64 18 rfl rfl)
theorem dL_law_1621 : decode cL_law 1621 = .ok (.iaload, 1) := dk_46 (dk_at dksL_law_64 19 rfl rfl)
theorem dL_law_1622 : decode cL_law 1622 = .ok (.aload_n 0, 1) := dk_42 (dk_at dksL_law_64 20 rfl rfl)
theorem dL_law_1623 : decode cL_law 1623 = .ok (.iload 4, 2) := dk_21 4 (dk_at dksL_law_64 21 rfl rfl)
theorem dL_law_1625 : decode cL_law 1625 = .ok (.iconst 2, 1) := dk_5 (dk_at dksL_law_64 23 rfl rfl)
theorem dL_law_1626 : decode cL_law 1626 = .ok (.iadd, 1) := dk_96 (dk_at dksL_law_65 0 rfl rfl)
theorem dL_law_1627 : decode cL_law 1627 = .ok (.iaload, 1) := dk_46 (dk_at dksL_law_65 1 rfl rfl)
theorem dL_law_1628 : decode cL_law 1628 = .ok (.invokevirtual 192, 3) := dk_182 0 192 (dk_at dksL_law_65 2 rfl rfl)
theorem dL_law_1631 : decode cL_law 1631 = .ok (.istore 6, 2) := dk_54 6 (dk_at dksL_law_65 5 rfl rfl)
theorem dL_law_1633 : decode cL_law 1633 = .ok (.aload_n 2, 1) := dk_44 (dk_at dksL_law_65 7 rfl rfl)
theorem dL_law_1634 : decode cL_law 1634 = .ok (.invokevirtual 118, 3) := dk_182 0 118 (dk_at dksL_law_65 8 rfl rfl)
theorem dL_law_1637 : decode cL_law 1637 = .ok (.iload 5, 2) := dk_21 5 (dk_at dksL_law_65 11 rfl rfl)
theorem dL_law_1639 : decode cL_law 1639 = .ok (.if_icmp .eq 5, 3) := dk_159 0 5 (dk_at dksL_law_65 13 rfl rfl)
theorem dL_law_1642 : decode cL_law 1642 = .ok (.iconst 0, 1) := dk_3 (dk_at dksL_law_65 16 rfl rfl)
theorem dL_law_1643 : decode cL_law 1643 = .ok (.ireturn, 1) := dk_172 (dk_at dksL_law_65 17 rfl rfl)
theorem dL_law_1644 : decode cL_law 1644 = .ok (.iload 5, 2) := dk_21 5 (dk_at dksL_law_65 18 rfl rfl)
theorem dL_law_1646 : decode cL_law 1646 = .ok (.ifCond .ne 15, 3) := dk_154 0 15 (dk_at dksL_law_65 20 rfl rfl)
theorem dL_law_1649 : decode cL_law 1649 = .ok (.aload_n 3, 1) := dk_45 (dk_at dksL_law_65 23 rfl rfl)
theorem dL_law_1650 : decode cL_law 1650 = .ok (.iconst 0, 1) := dk_3 (dk_at dksL_law_66 0 rfl rfl)
theorem dL_law_1651 : decode cL_law 1651 = .ok (.laload, 1) := dk_47 (dk_at dksL_law_66 1 rfl rfl)
theorem dL_law_1652 : decode cL_law 1652 = .ok (.iload 6, 2) := dk_21 6 (dk_at dksL_law_66 2 rfl rfl)
theorem dL_law_1654 : decode cL_law 1654 = .ok (.i2l, 1) := dk_133 (dk_at dksL_law_66 4 rfl rfl)
theorem dL_law_1655 : decode cL_law 1655 = .ok (.lcmp, 1) := dk_148 (dk_at dksL_law_66 5 rfl rfl)
theorem dL_law_1656 : decode cL_law 1656 = .ok (.ifCond .eq 5, 3) := dk_153 0 5 (dk_at dksL_law_66 6 rfl rfl)
theorem dL_law_1659 : decode cL_law 1659 = .ok (.iconst 0, 1) := dk_3 (dk_at dksL_law_66 9 rfl rfl)
theorem dL_law_1660 : decode cL_law 1660 = .ok (.ireturn, 1) := dk_172 (dk_at dksL_law_66 10 rfl rfl)
theorem dL_law_1661 : decode cL_law 1661 = .ok (.goto 469, 3) := dk_167 1 213 (dk_at dksL_law_66 11 rfl rfl)
theorem dL_law_1664 : decode cL_law 1664 = .ok (.aload_n 1, 1) := dk_43 (dk_at dksL_law_66 14 rfl rfl)
theorem dL_law_1665 : decode cL_law 1665 = .ok (.aload_n 0, 1) := dk_42 (dk_at dksL_law_66 15 rfl rfl)
theorem dL_law_1666 : decode cL_law 1666 = .ok (.iload 4, 2) := dk_21 4 (dk_at dksL_law_66 16 rfl rfl)
theorem dL_law_1668 : decode cL_law 1668 = .ok (.iconst 1, 1) := dk_4 (dk_at dksL_law_66 18 rfl rfl)
theorem dL_law_1669 : decode cL_law 1669 = .ok (.iadd, 1) := dk_96 (dk_at dksL_law_66 19 rfl rfl)
theorem dL_law_1670 : decode cL_law 1670 = .ok (.iaload, 1) := dk_46 (dk_at dksL_law_66 20 rfl rfl)
theorem dL_law_1671 : decode cL_law 1671 = .ok (.aload_n 3, 1) := dk_45 (dk_at dksL_law_66 21 rfl rfl)
theorem dL_law_1672 : decode cL_law 1672 = .ok (.invokestatic 193, 3) := dk_184 0 193 (dk_at dksL_law_67 0 rfl rfl)
theorem dL_law_1675 : decode cL_law 1675 = .ok (.istore 5, 2) := dk_54 5 (dk_at dksL_law_67 3 rfl rfl)
theorem dL_law_1677 : decode cL_law 1677 = .ok (.aload_n 2, 1) := dk_44 (dk_at dksL_law_67 5 rfl rfl)
theorem dL_law_1678 : decode cL_law 1678 = .ok (.aload_n 0, 1) := dk_42 (dk_at dksL_law_67 6 rfl rfl)
theorem dL_law_1679 : decode cL_law 1679 = .ok (.iload 4, 2) := dk_21 4 (dk_at dksL_law_67 7 rfl rfl)
theorem dL_law_1681 : decode cL_law 1681 = .ok (.iconst 1, 1) := dk_4 (dk_at dksL_law_67 9 rfl rfl)
theorem dL_law_1682 : decode cL_law 1682 = .ok (.iadd, 1) := dk_96 (dk_at dksL_law_67 10 rfl rfl)
theorem dL_law_1683 : decode cL_law 1683 = .ok (.iaload, 1) := dk_46 (dk_at dksL_law_67 11 rfl rfl)
theorem dL_law_1684 : decode cL_law 1684 = .ok (.invokevirtual 195, 3) := dk_182 0 195 (dk_at dksL_law_67 12 rfl rfl)
theorem dL_law_1687 : decode cL_law 1687 = .ok (.istore 6, 2) := dk_54 6 (dk_at dksL_law_67 15 rfl rfl)
theorem dL_law_1689 : decode cL_law 1689 = .ok (.aload_n 2, 1) := dk_44 (dk_at dksL_law_67 17 rfl rfl)
theorem dL_law_1690 : decode cL_law 1690 = .ok (.invokevirtual 118, 3) := dk_182 0 118 (dk_at dksL_law_67 18 rfl rfl)
theorem dL_law_1693 : decode cL_law 1693 = .ok (.iload 5, 2) := dk_21 5 (dk_at dksL_law_67 21 rfl rfl)
theorem dL_law_1695 : decode cL_law 1695 = .ok (.if_icmp .eq 5, 3) := dk_159 0 5 (dk_at dksL_law_68 0 rfl rfl)
theorem dL_law_1698 : decode cL_law 1698 = .ok (.iconst 0, 1) := dk_3 (dk_at dksL_law_68 3 rfl rfl)
theorem dL_law_1699 : decode cL_law 1699 = .ok (.ireturn, 1) := dk_172 (dk_at dksL_law_68 4 rfl rfl)
theorem dL_law_1700 : decode cL_law 1700 = .ok (.iload 5, 2) := dk_21 5 (dk_at dksL_law_68 5 rfl rfl)
theorem dL_law_1702 : decode cL_law 1702 = .ok (.ifCond .ne 15, 3) := dk_154 0 15 (dk_at dksL_law_68 7 rfl rfl)
theorem dL_law_1705 : decode cL_law 1705 = .ok (.aload_n 3, 1) := dk_45 (dk_at dksL_law_68 10 rfl rfl)
theorem dL_law_1706 : decode cL_law 1706 = .ok (.iconst 0, 1) := dk_3 (dk_at dksL_law_68 11 rfl rfl)
theorem dL_law_1707 : decode cL_law 1707 = .ok (.laload, 1) := dk_47 (dk_at dksL_law_68 12 rfl rfl)
theorem dL_law_1708 : decode cL_law 1708 = .ok (.iload 6, 2) := dk_21 6 (dk_at dksL_law_68 13 rfl rfl)
theorem dL_law_1710 : decode cL_law 1710 = .ok (.i2l, 1) := dk_133 (dk_at dksL_law_68 15 rfl rfl)
theorem dL_law_1711 : decode cL_law 1711 = .ok (.lcmp, 1) := dk_148 (dk_at dksL_law_68 16 rfl rfl)
theorem dL_law_1712 : decode cL_law 1712 = .ok (.ifCond .eq 5, 3) := dk_153 0 5 (dk_at dksL_law_68 17 rfl rfl)
theorem dL_law_1715 : decode cL_law 1715 = .ok (.iconst 0, 1) := dk_3 (dk_at dksL_law_68 20 rfl rfl)
theorem dL_law_1716 : decode cL_law 1716 = .ok (.ireturn, 1) := dk_172 (dk_at dksL_law_68 21 rfl rfl)
theorem dL_law_1717 : decode cL_law 1717 = .ok (.goto 413, 3) := dk_167 1 157 (dk_at dksL_law_69 0 rfl rfl)
theorem dL_law_1720 : decode cL_law 1720 = .ok (.aload_n 1, 1) := dk_43 (dk_at dksL_law_69 3 rfl rfl)
theorem dL_law_1721 : decode cL_law 1721 = .ok (.invokevirtual 196, 3) := dk_182 0 196 (dk_at dksL_law_69 4 rfl rfl)
theorem dL_law_1724 : decode cL_law 1724 = .ok (.aload_n 2, 1) := dk_44 (dk_at dksL_law_69 7 rfl rfl)
theorem dL_law_1725 : decode cL_law 1725 = .ok (.invokevirtual 199, 3) := dk_182 0 199 (dk_at dksL_law_69 8 rfl rfl)
theorem dL_law_1728 : decode cL_law 1728 = .ok (.if_icmp .eq 402, 3) := dk_159 1 146 (dk_at dksL_law_69 11 rfl rfl)
theorem dL_law_1731 : decode cL_law 1731 = .ok (.iconst 0, 1) := dk_3 (dk_at dksL_law_69 14 rfl rfl)
theorem dL_law_1732 : decode cL_law 1732 = .ok (.ireturn, 1) := dk_172 (dk_at dksL_law_69 15 rfl rfl)
theorem dL_law_1733 : decode cL_law 1733 = .ok (.aload_n 1, 1) := dk_43 (dk_at dksL_law_69 16 rfl rfl)
theorem dL_law_1734 : decode cL_law 1734 = .ok (.aload_n 0, 1) := dk_42 (dk_at dksL_law_69 17 rfl rfl)
theorem dL_law_1735 : decode cL_law 1735 = .ok (.iload 4, 2) := dk_21 4 (dk_at dksL_law_69 18 rfl rfl)
theorem dL_law_1737 : decode cL_law 1737 = .ok (.iconst 1, 1) := dk_4 (dk_at dksL_law_69 20 rfl rfl)
theorem dL_law_1738 : decode cL_law 1738 = .ok (.iadd, 1) := dk_96 (dk_at dksL_law_69 21 rfl rfl)
theorem dL_law_1739 : decode cL_law 1739 = .ok (.iaload, 1) := dk_46 (dk_at dksL_law_69 22 rfl rfl)
theorem dL_law_1740 : decode cL_law 1740 = .ok (.aload_n 3, 1) := dk_45 (dk_at dksL_law_69 23 rfl rfl)
theorem dL_law_1741 : decode cL_law 1741 = .ok (.invokestatic 200, 3) := dk_184 0 200 (dk_at dksL_law_70 0 rfl rfl)
theorem dL_law_1744 : decode cL_law 1744 = .ok (.istore 5, 2) := dk_54 5 (dk_at dksL_law_70 3 rfl rfl)
theorem dL_law_1746 : decode cL_law 1746 = .ok (.aload_n 2, 1) := dk_44 (dk_at dksL_law_70 5 rfl rfl)
theorem dL_law_1747 : decode cL_law 1747 = .ok (.aload_n 0, 1) := dk_42 (dk_at dksL_law_70 6 rfl rfl)
theorem dL_law_1748 : decode cL_law 1748 = .ok (.iload 4, 2) := dk_21 4 (dk_at dksL_law_70 7 rfl rfl)
theorem dL_law_1750 : decode cL_law 1750 = .ok (.iconst 1, 1) := dk_4 (dk_at dksL_law_70 9 rfl rfl)
theorem dL_law_1751 : decode cL_law 1751 = .ok (.iadd, 1) := dk_96 (dk_at dksL_law_70 10 rfl rfl)
theorem dL_law_1752 : decode cL_law 1752 = .ok (.iaload, 1) := dk_46 (dk_at dksL_law_70 11 rfl rfl)
theorem dL_law_1753 : decode cL_law 1753 = .ok (.invokevirtual 202, 3) := dk_182 0 202 (dk_at dksL_law_70 12 rfl rfl)
theorem dL_law_1756 : decode cL_law 1756 = .ok (.istore 6, 2) := dk_54 6 (dk_at dksL_law_70 15 rfl rfl)
theorem dL_law_1758 : decode cL_law 1758 = .ok (.aload_n 2, 1) := dk_44 (dk_at dksL_law_70 17 rfl rfl)
theorem dL_law_1759 : decode cL_law 1759 = .ok (.invokevirtual 118, 3) := dk_182 0 118 (dk_at dksL_law_70 18 rfl rfl)
theorem dL_law_1762 : decode cL_law 1762 = .ok (.iload 5, 2) := dk_21 5 (dk_at dksL_law_70 21 rfl rfl)
theorem dL_law_1764 : decode cL_law 1764 = .ok (.if_icmp .eq 5, 3) := dk_159 0 5 (dk_at dksL_law_71 0 rfl rfl)
theorem dL_law_1767 : decode cL_law 1767 = .ok (.iconst 0, 1) := dk_3 (dk_at dksL_law_71 3 rfl rfl)
theorem dL_law_1768 : decode cL_law 1768 = .ok (.ireturn, 1) := dk_172 (dk_at dksL_law_71 4 rfl rfl)
theorem dL_law_1769 : decode cL_law 1769 = .ok (.iload 5, 2) := dk_21 5 (dk_at dksL_law_71 5 rfl rfl)
theorem dL_law_1771 : decode cL_law 1771 = .ok (.ifCond .ne 15, 3) := dk_154 0 15 (dk_at dksL_law_71 7 rfl rfl)
theorem dL_law_1774 : decode cL_law 1774 = .ok (.aload_n 3, 1) := dk_45 (dk_at dksL_law_71 10 rfl rfl)
theorem dL_law_1775 : decode cL_law 1775 = .ok (.iconst 0, 1) := dk_3 (dk_at dksL_law_71 11 rfl rfl)
theorem dL_law_1776 : decode cL_law 1776 = .ok (.laload, 1) := dk_47 (dk_at dksL_law_71 12 rfl rfl)
theorem dL_law_1777 : decode cL_law 1777 = .ok (.iload 6, 2) := dk_21 6 (dk_at dksL_law_71 13 rfl rfl)
theorem dL_law_1779 : decode cL_law 1779 = .ok (.i2l, 1) := dk_133 (dk_at dksL_law_71 15 rfl rfl)
theorem dL_law_1780 : decode cL_law 1780 = .ok (.lcmp, 1) := dk_148 (dk_at dksL_law_71 16 rfl rfl)
theorem dL_law_1781 : decode cL_law 1781 = .ok (.ifCond .eq 5, 3) := dk_153 0 5 (dk_at dksL_law_71 17 rfl rfl)
theorem dL_law_1784 : decode cL_law 1784 = .ok (.iconst 0, 1) := dk_3 (dk_at dksL_law_71 20 rfl rfl)
theorem dL_law_1785 : decode cL_law 1785 = .ok (.ireturn, 1) := dk_172 (dk_at dksL_law_71 21 rfl rfl)
theorem dL_law_1786 : decode cL_law 1786 = .ok (.goto 344, 3) := dk_167 1 88 (dk_at dksL_law_72 0 rfl rfl)
theorem dL_law_1789 : decode cL_law 1789 = .ok (.aload_n 1, 1) := dk_43 (dk_at dksL_law_72 3 rfl rfl)
theorem dL_law_1790 : decode cL_law 1790 = .ok (.aload_n 0, 1) := dk_42 (dk_at dksL_law_72 4 rfl rfl)
theorem dL_law_1791 : decode cL_law 1791 = .ok (.iload 4, 2) := dk_21 4 (dk_at dksL_law_72 5 rfl rfl)
theorem dL_law_1793 : decode cL_law 1793 = .ok (.iconst 1, 1) := dk_4 (dk_at dksL_law_72 7 rfl rfl)
theorem dL_law_1794 : decode cL_law 1794 = .ok (.iadd, 1) := dk_96 (dk_at dksL_law_72 8 rfl rfl)
theorem dL_law_1795 : decode cL_law 1795 = .ok (.iaload, 1) := dk_46 (dk_at dksL_law_72 9 rfl rfl)
theorem dL_law_1796 : decode cL_law 1796 = .ok (.aload_n 3, 1) := dk_45 (dk_at dksL_law_72 10 rfl rfl)
theorem dL_law_1797 : decode cL_law 1797 = .ok (.invokestatic 203, 3) := dk_184 0 203 (dk_at dksL_law_72 11 rfl rfl)
theorem dL_law_1800 : decode cL_law 1800 = .ok (.istore 5, 2) := dk_54 5 (dk_at dksL_law_72 14 rfl rfl)
theorem dL_law_1802 : decode cL_law 1802 = .ok (.aload_n 2, 1) := dk_44 (dk_at dksL_law_72 16 rfl rfl)
theorem dL_law_1803 : decode cL_law 1803 = .ok (.aload_n 0, 1) := dk_42 (dk_at dksL_law_72 17 rfl rfl)
theorem dL_law_1804 : decode cL_law 1804 = .ok (.iload 4, 2) := dk_21 4 (dk_at dksL_law_72 18 rfl rfl)
theorem dL_law_1806 : decode cL_law 1806 = .ok (.iconst 1, 1) := dk_4 (dk_at dksL_law_72 20 rfl rfl)
theorem dL_law_1807 : decode cL_law 1807 = .ok (.iadd, 1) := dk_96 (dk_at dksL_law_72 21 rfl rfl)
theorem dL_law_1808 : decode cL_law 1808 = .ok (.iaload, 1) := dk_46 (dk_at dksL_law_72 22 rfl rfl)
theorem dL_law_1809 : decode cL_law 1809 = .ok (.invokevirtual 205, 3) := dk_182 0 205 (dk_at dksL_law_73 0 rfl rfl)
theorem dL_law_1812 : decode cL_law 1812 = .ok (.istore 6, 2) := dk_54 6 (dk_at dksL_law_73 3 rfl rfl)
theorem dL_law_1814 : decode cL_law 1814 = .ok (.aload_n 2, 1) := dk_44 (dk_at dksL_law_73 5 rfl rfl)
theorem dL_law_1815 : decode cL_law 1815 = .ok (.invokevirtual 118, 3) := dk_182 0 118 (dk_at dksL_law_73 6 rfl rfl)
theorem dL_law_1818 : decode cL_law 1818 = .ok (.iload 5, 2) := dk_21 5 (dk_at dksL_law_73 9 rfl rfl)
theorem dL_law_1820 : decode cL_law 1820 = .ok (.if_icmp .eq 5, 3) := dk_159 0 5 (dk_at dksL_law_73 11 rfl rfl)
theorem dL_law_1823 : decode cL_law 1823 = .ok (.iconst 0, 1) := dk_3 (dk_at dksL_law_73 14 rfl rfl)
theorem dL_law_1824 : decode cL_law 1824 = .ok (.ireturn, 1) := dk_172 (dk_at dksL_law_73 15 rfl rfl)
theorem dL_law_1825 : decode cL_law 1825 = .ok (.iload 5, 2) := dk_21 5 (dk_at dksL_law_73 16 rfl rfl)
theorem dL_law_1827 : decode cL_law 1827 = .ok (.ifCond .ne 15, 3) := dk_154 0 15 (dk_at dksL_law_73 18 rfl rfl)
theorem dL_law_1830 : decode cL_law 1830 = .ok (.aload_n 3, 1) := dk_45 (dk_at dksL_law_73 21 rfl rfl)
theorem dL_law_1831 : decode cL_law 1831 = .ok (.iconst 0, 1) := dk_3 (dk_at dksL_law_73 22 rfl rfl)
theorem dL_law_1832 : decode cL_law 1832 = .ok (.laload, 1) := dk_47 (dk_at dksL_law_73 23 rfl rfl)
theorem dL_law_1833 : decode cL_law 1833 = .ok (.iload 6, 2) := dk_21 6 (dk_at dksL_law_74 0 rfl rfl)
theorem dL_law_1835 : decode cL_law 1835 = .ok (.i2l, 1) := dk_133 (dk_at dksL_law_74 2 rfl rfl)
theorem dL_law_1836 : decode cL_law 1836 = .ok (.lcmp, 1) := dk_148 (dk_at dksL_law_74 3 rfl rfl)
theorem dL_law_1837 : decode cL_law 1837 = .ok (.ifCond .eq 5, 3) := dk_153 0 5 (dk_at dksL_law_74 4 rfl rfl)
theorem dL_law_1840 : decode cL_law 1840 = .ok (.iconst 0, 1) := dk_3 (dk_at dksL_law_74 7 rfl rfl)
theorem dL_law_1841 : decode cL_law 1841 = .ok (.ireturn, 1) := dk_172 (dk_at dksL_law_74 8 rfl rfl)
theorem dL_law_1842 : decode cL_law 1842 = .ok (.goto 288, 3) := dk_167 1 32 (dk_at dksL_law_74 9 rfl rfl)
theorem dL_law_1845 : decode cL_law 1845 = .ok (.aload_n 1, 1) := dk_43 (dk_at dksL_law_74 12 rfl rfl)
theorem dL_law_1846 : decode cL_law 1846 = .ok (.aload_n 0, 1) := dk_42 (dk_at dksL_law_74 13 rfl rfl)
theorem dL_law_1847 : decode cL_law 1847 = .ok (.iload 4, 2) := dk_21 4 (dk_at dksL_law_74 14 rfl rfl)
theorem dL_law_1849 : decode cL_law 1849 = .ok (.iconst 1, 1) := dk_4 (dk_at dksL_law_74 16 rfl rfl)
theorem dL_law_1850 : decode cL_law 1850 = .ok (.iadd, 1) := dk_96 (dk_at dksL_law_74 17 rfl rfl)
theorem dL_law_1851 : decode cL_law 1851 = .ok (.iaload, 1) := dk_46 (dk_at dksL_law_74 18 rfl rfl)
theorem dL_law_1852 : decode cL_law 1852 = .ok (.aload_n 0, 1) := dk_42 (dk_at dksL_law_74 19 rfl rfl)
theorem dL_law_1853 : decode cL_law 1853 = .ok (.iload 4, 2) := dk_21 4 (dk_at dksL_law_74 20 rfl rfl)
theorem dL_law_1855 : decode cL_law 1855 = .ok (.iconst 2, 1) := dk_5 (dk_at dksL_law_74 22 rfl rfl)
theorem dL_law_1856 : decode cL_law 1856 = .ok (.iadd, 1) := dk_96 (dk_at dksL_law_74 23 rfl rfl)
theorem dL_law_1857 : decode cL_law 1857 = .ok (.iaload, 1) := dk_46 (dk_at dksL_law_75 0 rfl rfl)
theorem dL_law_1858 : decode cL_law 1858 = .ok (.aload_n 3, 1) := dk_45 (dk_at dksL_law_75 1 rfl rfl)
theorem dL_law_1859 : decode cL_law 1859 = .ok (.invokestatic 206, 3) := dk_184 0 206 (dk_at dksL_law_75 2 rfl rfl)
theorem dL_law_1862 : decode cL_law 1862 = .ok (.istore 5, 2) := dk_54 5 (dk_at dksL_law_75 5 rfl rfl)
theorem dL_law_1864 : decode cL_law 1864 = .ok (.aload_n 2, 1) := dk_44 (dk_at dksL_law_75 7 rfl rfl)
theorem dL_law_1865 : decode cL_law 1865 = .ok (.aload_n 0, 1) := dk_42 (dk_at dksL_law_75 8 rfl rfl)
theorem dL_law_1866 : decode cL_law 1866 = .ok (.iload 4, 2) := dk_21 4 (dk_at dksL_law_75 9 rfl rfl)
theorem dL_law_1868 : decode cL_law 1868 = .ok (.iconst 1, 1) := dk_4 (dk_at dksL_law_75 11 rfl rfl)
theorem dL_law_1869 : decode cL_law 1869 = .ok (.iadd, 1) := dk_96 (dk_at dksL_law_75 12 rfl rfl)
theorem dL_law_1870 : decode cL_law 1870 = .ok (.iaload, 1) := dk_46 (dk_at dksL_law_75 13 rfl rfl)
theorem dL_law_1871 : decode cL_law 1871 = .ok (.aload_n 0, 1) := dk_42 (dk_at dksL_law_75 14 rfl rfl)
theorem dL_law_1872 : decode cL_law 1872 = .ok (.iload 4, 2) := dk_21 4 (dk_at dksL_law_75 15 rfl rfl)
theorem dL_law_1874 : decode cL_law 1874 = .ok (.iconst 2, 1) := dk_5 (dk_at dksL_law_75 17 rfl rfl)
theorem dL_law_1875 : decode cL_law 1875 = .ok (.iadd, 1) := dk_96 (dk_at dksL_law_75 18 rfl rfl)
theorem dL_law_1876 : decode cL_law 1876 = .ok (.iaload, 1) := dk_46 (dk_at dksL_law_75 19 rfl rfl)
theorem dL_law_1877 : decode cL_law 1877 = .ok (.invokevirtual 208, 3) := dk_182 0 208 (dk_at dksL_law_75 20 rfl rfl)
theorem dL_law_1880 : decode cL_law 1880 = .ok (.istore 6, 2) := dk_54 6 (dk_at dksL_law_76 0 rfl rfl)
theorem dL_law_1882 : decode cL_law 1882 = .ok (.aload_n 2, 1) := dk_44 (dk_at dksL_law_76 2 rfl rfl)
theorem dL_law_1883 : decode cL_law 1883 = .ok (.invokevirtual 118, 3) := dk_182 0 118 (dk_at dksL_law_76 3 rfl rfl)
theorem dL_law_1886 : decode cL_law 1886 = .ok (.iload 5, 2) := dk_21 5 (dk_at dksL_law_76 6 rfl rfl)
theorem dL_law_1888 : decode cL_law 1888 = .ok (.if_icmp .eq 5, 3) := dk_159 0 5 (dk_at dksL_law_76 8 rfl rfl)
theorem dL_law_1891 : decode cL_law 1891 = .ok (.iconst 0, 1) := dk_3 (dk_at dksL_law_76 11 rfl rfl)
theorem dL_law_1892 : decode cL_law 1892 = .ok (.ireturn, 1) := dk_172 (dk_at dksL_law_76 12 rfl rfl)
theorem dL_law_1893 : decode cL_law 1893 = .ok (.iload 5, 2) := dk_21 5 (dk_at dksL_law_76 13 rfl rfl)
theorem dL_law_1895 : decode cL_law 1895 = .ok (.ifCond .ne 15, 3) := dk_154 0 15 (dk_at dksL_law_76 15 rfl rfl)
theorem dL_law_1898 : decode cL_law 1898 = .ok (.aload_n 3, 1) := dk_45 (dk_at dksL_law_76 18 rfl rfl)
theorem dL_law_1899 : decode cL_law 1899 = .ok (.iconst 0, 1) := dk_3 (dk_at dksL_law_76 19 rfl rfl)
theorem dL_law_1900 : decode cL_law 1900 = .ok (.laload, 1) := dk_47 (dk_at dksL_law_76 20 rfl rfl)
theorem dL_law_1901 : decode cL_law 1901 = .ok (.iload 6, 2) := dk_21 6 (dk_at dksL_law_76 21 rfl rfl)
theorem dL_law_1903 : decode cL_law 1903 = .ok (.i2l, 1) := dk_133 (dk_at dksL_law_76 23 rfl rfl)
theorem dL_law_1904 : decode cL_law 1904 = .ok (.lcmp, 1) := dk_148 (dk_at dksL_law_77 0 rfl rfl)
theorem dL_law_1905 : decode cL_law 1905 = .ok (.ifCond .eq 5, 3) := dk_153 0 5 (dk_at dksL_law_77 1 rfl rfl)
theorem dL_law_1908 : decode cL_law 1908 = .ok (.iconst 0, 1) := dk_3 (dk_at dksL_law_77 4 rfl rfl)
theorem dL_law_1909 : decode cL_law 1909 = .ok (.ireturn, 1) := dk_172 (dk_at dksL_law_77 5 rfl rfl)
theorem dL_law_1910 : decode cL_law 1910 = .ok (.goto 220, 3) := dk_167 0 220 (dk_at dksL_law_77 6 rfl rfl)
theorem dL_law_1913 : decode cL_law 1913 = .ok (.aload_n 1, 1) := dk_43 (dk_at dksL_law_77 9 rfl rfl)
theorem dL_law_1914 : decode cL_law 1914 = .ok (.aload_n 0, 1) := dk_42 (dk_at dksL_law_77 10 rfl rfl)
theorem dL_law_1915 : decode cL_law 1915 = .ok (.iload 4, 2) := dk_21 4 (dk_at dksL_law_77 11 rfl rfl)
theorem dL_law_1917 : decode cL_law 1917 = .ok (.iconst 1, 1) := dk_4 (dk_at dksL_law_77 13 rfl rfl)
theorem dL_law_1918 : decode cL_law 1918 = .ok (.iadd, 1) := dk_96 (dk_at dksL_law_77 14 rfl rfl)
theorem dL_law_1919 : decode cL_law 1919 = .ok (.iaload, 1) := dk_46 (dk_at dksL_law_77 15 rfl rfl)
theorem dL_law_1920 : decode cL_law 1920 = .ok (.aload_n 3, 1) := dk_45 (dk_at dksL_law_77 16 rfl rfl)
theorem dL_law_1921 : decode cL_law 1921 = .ok (.invokestatic 209, 3) := dk_184 0 209 (dk_at dksL_law_77 17 rfl rfl)
theorem dL_law_1924 : decode cL_law 1924 = .ok (.istore 5, 2) := dk_54 5 (dk_at dksL_law_77 20 rfl rfl)
theorem dL_law_1926 : decode cL_law 1926 = .ok (.aload_n 2, 1) := dk_44 (dk_at dksL_law_77 22 rfl rfl)
theorem dL_law_1927 : decode cL_law 1927 = .ok (.aload_n 0, 1) := dk_42 (dk_at dksL_law_77 23 rfl rfl)
theorem dL_law_1928 : decode cL_law 1928 = .ok (.iload 4, 2) := dk_21 4 (dk_at dksL_law_78 0 rfl rfl)
theorem dL_law_1930 : decode cL_law 1930 = .ok (.iconst 1, 1) := dk_4 (dk_at dksL_law_78 2 rfl rfl)
theorem dL_law_1931 : decode cL_law 1931 = .ok (.iadd, 1) := dk_96 (dk_at dksL_law_78 3 rfl rfl)
theorem dL_law_1932 : decode cL_law 1932 = .ok (.iaload, 1) := dk_46 (dk_at dksL_law_78 4 rfl rfl)
theorem dL_law_1933 : decode cL_law 1933 = .ok (.invokevirtual 211, 3) := dk_182 0 211 (dk_at dksL_law_78 5 rfl rfl)
theorem dL_law_1936 : decode cL_law 1936 = .ok (.istore 6, 2) := dk_54 6 (dk_at dksL_law_78 8 rfl rfl)
theorem dL_law_1938 : decode cL_law 1938 = .ok (.aload_n 2, 1) := dk_44 (dk_at dksL_law_78 10 rfl rfl)
theorem dL_law_1939 : decode cL_law 1939 = .ok (.invokevirtual 118, 3) := dk_182 0 118 (dk_at dksL_law_78 11 rfl rfl)
theorem dL_law_1942 : decode cL_law 1942 = .ok (.iload 5, 2) := dk_21 5 (dk_at dksL_law_78 14 rfl rfl)
theorem dL_law_1944 : decode cL_law 1944 = .ok (.if_icmp .eq 5, 3) := dk_159 0 5 (dk_at dksL_law_78 16 rfl rfl)
theorem dL_law_1947 : decode cL_law 1947 = .ok (.iconst 0, 1) := dk_3 (dk_at dksL_law_78 19 rfl rfl)
theorem dL_law_1948 : decode cL_law 1948 = .ok (.ireturn, 1) := dk_172 (dk_at dksL_law_78 20 rfl rfl)
theorem dL_law_1949 : decode cL_law 1949 = .ok (.iload 5, 2) := dk_21 5 (dk_at dksL_law_78 21 rfl rfl)
theorem dL_law_1951 : decode cL_law 1951 = .ok (.ifCond .ne 15, 3) := dk_154 0 15 (dk_at dksL_law_79 0 rfl rfl)
theorem dL_law_1954 : decode cL_law 1954 = .ok (.aload_n 3, 1) := dk_45 (dk_at dksL_law_79 3 rfl rfl)
theorem dL_law_1955 : decode cL_law 1955 = .ok (.iconst 0, 1) := dk_3 (dk_at dksL_law_79 4 rfl rfl)
theorem dL_law_1956 : decode cL_law 1956 = .ok (.laload, 1) := dk_47 (dk_at dksL_law_79 5 rfl rfl)
theorem dL_law_1957 : decode cL_law 1957 = .ok (.iload 6, 2) := dk_21 6 (dk_at dksL_law_79 6 rfl rfl)
theorem dL_law_1959 : decode cL_law 1959 = .ok (.i2l, 1) := dk_133 (dk_at dksL_law_79 8 rfl rfl)
theorem dL_law_1960 : decode cL_law 1960 = .ok (.lcmp, 1) := dk_148 (dk_at dksL_law_79 9 rfl rfl)
theorem dL_law_1961 : decode cL_law 1961 = .ok (.ifCond .eq 5, 3) := dk_153 0 5 (dk_at dksL_law_79 10 rfl rfl)
theorem dL_law_1964 : decode cL_law 1964 = .ok (.iconst 0, 1) := dk_3 (dk_at dksL_law_79 13 rfl rfl)
theorem dL_law_1965 : decode cL_law 1965 = .ok (.ireturn, 1) := dk_172 (dk_at dksL_law_79 14 rfl rfl)
theorem dL_law_1966 : decode cL_law 1966 = .ok (.goto 164, 3) := dk_167 0 164 (dk_at dksL_law_79 15 rfl rfl)
theorem dL_law_1969 : decode cL_law 1969 = .ok (.aload_n 1, 1) := dk_43 (dk_at dksL_law_79 18 rfl rfl)
theorem dL_law_1970 : decode cL_law 1970 = .ok (.aload_n 0, 1) := dk_42 (dk_at dksL_law_79 19 rfl rfl)
theorem dL_law_1971 : decode cL_law 1971 = .ok (.iload 4, 2) := dk_21 4 (dk_at dksL_law_79 20 rfl rfl)
theorem dL_law_1973 : decode cL_law 1973 = .ok (.iconst 1, 1) := dk_4 (dk_at dksL_law_79 22 rfl rfl)
theorem dL_law_1974 : decode cL_law 1974 = .ok (.iadd, 1) := dk_96 (dk_at dksL_law_79 23 rfl rfl)
theorem dL_law_1975 : decode cL_law 1975 = .ok (.iaload, 1) := dk_46 (dk_at dksL_law_80 0 rfl rfl)
theorem dL_law_1976 : decode cL_law 1976 = .ok (.aload_n 0, 1) := dk_42 (dk_at dksL_law_80 1 rfl rfl)
theorem dL_law_1977 : decode cL_law 1977 = .ok (.iload 4, 2) := dk_21 4 (dk_at dksL_law_80 2 rfl rfl)
theorem dL_law_1979 : decode cL_law 1979 = .ok (.iconst 2, 1) := dk_5 (dk_at dksL_law_80 4 rfl rfl)
theorem dL_law_1980 : decode cL_law 1980 = .ok (.iadd, 1) := dk_96 (dk_at dksL_law_80 5 rfl rfl)
theorem dL_law_1981 : decode cL_law 1981 = .ok (.iaload, 1) := dk_46 (dk_at dksL_law_80 6 rfl rfl)
theorem dL_law_1982 : decode cL_law 1982 = .ok (.aload_n 0, 1) := dk_42 (dk_at dksL_law_80 7 rfl rfl)
theorem dL_law_1983 : decode cL_law 1983 = .ok (.iload 4, 2) := dk_21 4 (dk_at dksL_law_80 8 rfl rfl)
theorem dL_law_1985 : decode cL_law 1985 = .ok (.iconst 3, 1) := dk_6 (dk_at dksL_law_80 10 rfl rfl)
theorem dL_law_1986 : decode cL_law 1986 = .ok (.iadd, 1) := dk_96 (dk_at dksL_law_80 11 rfl rfl)
theorem dL_law_1987 : decode cL_law 1987 = .ok (.iaload, 1) := dk_46 (dk_at dksL_law_80 12 rfl rfl)
theorem dL_law_1988 : decode cL_law 1988 = .ok (.aload_n 3, 1) := dk_45 (dk_at dksL_law_80 13 rfl rfl)
theorem dL_law_1989 : decode cL_law 1989 = .ok (.invokestatic 212, 3) := dk_184 0 212 (dk_at dksL_law_80 14 rfl rfl)
theorem dL_law_1992 : decode cL_law 1992 = .ok (.istore 5, 2) := dk_54 5 (dk_at dksL_law_80 17 rfl rfl)
theorem dL_law_1994 : decode cL_law 1994 = .ok (.aload_n 2, 1) := dk_44 (dk_at dksL_law_80 19 rfl rfl)
theorem dL_law_1995 : decode cL_law 1995 = .ok (.aload_n 0, 1) := dk_42 (dk_at dksL_law_80 20 rfl rfl)
theorem dL_law_1996 : decode cL_law 1996 = .ok (.iload 4, 2) := dk_21 4 (dk_at dksL_law_80 21 rfl rfl)
theorem dL_law_1998 : decode cL_law 1998 = .ok (.iconst 1, 1) := dk_4 (dk_at dksL_law_80 23 rfl rfl)
theorem dL_law_1999 : decode cL_law 1999 = .ok (.iadd, 1) := dk_96 (dk_at dksL_law_81 0 rfl rfl)
theorem dL_law_2000 : decode cL_law 2000 = .ok (.iaload, 1) := dk_46 (dk_at dksL_law_81 1 rfl rfl)
theorem dL_law_2001 : decode cL_law 2001 = .ok (.aload_n 0, 1) := dk_42 (dk_at dksL_law_81 2 rfl rfl)
theorem dL_law_2002 : decode cL_law 2002 = .ok (.iload 4, 2) := dk_21 4 (dk_at dksL_law_81 3 rfl rfl)
theorem dL_law_2004 : decode cL_law 2004 = .ok (.iconst 2, 1) := dk_5 (dk_at dksL_law_81 5 rfl rfl)
theorem dL_law_2005 : decode cL_law 2005 = .ok (.iadd, 1) := dk_96 (dk_at dksL_law_81 6 rfl rfl)
theorem dL_law_2006 : decode cL_law 2006 = .ok (.iaload, 1) := dk_46 (dk_at dksL_law_81 7 rfl rfl)
theorem dL_law_2007 : decode cL_law 2007 = .ok (.aload_n 0, 1) := dk_42 (dk_at dksL_law_81 8 rfl rfl)
theorem dL_law_2008 : decode cL_law 2008 = .ok (.iload 4, 2) := dk_21 4 (dk_at dksL_law_81 9 rfl rfl)
theorem dL_law_2010 : decode cL_law 2010 = .ok (.iconst 3, 1) := dk_6 (dk_at dksL_law_81 11 rfl rfl)
theorem dL_law_2011 : decode cL_law 2011 = .ok (.iadd, 1) := dk_96 (dk_at dksL_law_81 12 rfl rfl)
theorem dL_law_2012 : decode cL_law 2012 = .ok (.iaload, 1) := dk_46 (dk_at dksL_law_81 13 rfl rfl)
theorem dL_law_2013 : decode cL_law 2013 = .ok (.invokevirtual 214, 3) := dk_182 0 214 (dk_at dksL_law_81 14 rfl rfl)
theorem dL_law_2016 : decode cL_law 2016 = .ok (.istore 6, 2) := dk_54 6 (dk_at dksL_law_81 17 rfl rfl)
theorem dL_law_2018 : decode cL_law 2018 = .ok (.aload_n 2, 1) := dk_44 (dk_at dksL_law_81 19 rfl rfl)
theorem dL_law_2019 : decode cL_law 2019 = .ok (.invokevirtual 118, 3) := dk_182 0 118 (dk_at dksL_law_81 20 rfl rfl)
theorem dL_law_2022 : decode cL_law 2022 = .ok (.iload 5, 2) := dk_21 5 (dk_at dksL_law_82 0 rfl rfl)
theorem dL_law_2024 : decode cL_law 2024 = .ok (.if_icmp .eq 5, 3) := dk_159 0 5 (dk_at dksL_law_82 2 rfl rfl)
theorem dL_law_2027 : decode cL_law 2027 = .ok (.iconst 0, 1) := dk_3 (dk_at dksL_law_82 5 rfl rfl)
theorem dL_law_2028 : decode cL_law 2028 = .ok (.ireturn, 1) := dk_172 (dk_at dksL_law_82 6 rfl rfl)
theorem dL_law_2029 : decode cL_law 2029 = .ok (.iload 5, 2) := dk_21 5 (dk_at dksL_law_82 7 rfl rfl)
theorem dL_law_2031 : decode cL_law 2031 = .ok (.ifCond .ne 15, 3) := dk_154 0 15 (dk_at dksL_law_82 9 rfl rfl)
theorem dL_law_2034 : decode cL_law 2034 = .ok (.aload_n 3, 1) := dk_45 (dk_at dksL_law_82 12 rfl rfl)
theorem dL_law_2035 : decode cL_law 2035 = .ok (.iconst 0, 1) := dk_3 (dk_at dksL_law_82 13 rfl rfl)
theorem dL_law_2036 : decode cL_law 2036 = .ok (.laload, 1) := dk_47 (dk_at dksL_law_82 14 rfl rfl)
theorem dL_law_2037 : decode cL_law 2037 = .ok (.iload 6, 2) := dk_21 6 (dk_at dksL_law_82 15 rfl rfl)
theorem dL_law_2039 : decode cL_law 2039 = .ok (.i2l, 1) := dk_133 (dk_at dksL_law_82 17 rfl rfl)
theorem dL_law_2040 : decode cL_law 2040 = .ok (.lcmp, 1) := dk_148 (dk_at dksL_law_82 18 rfl rfl)
theorem dL_law_2041 : decode cL_law 2041 = .ok (.ifCond .eq 5, 3) := dk_153 0 5 (dk_at dksL_law_82 19 rfl rfl)
theorem dL_law_2044 : decode cL_law 2044 = .ok (.iconst 0, 1) := dk_3 (dk_at dksL_law_82 22 rfl rfl)
theorem dL_law_2045 : decode cL_law 2045 = .ok (.ireturn, 1) := dk_172 (dk_at dksL_law_82 23 rfl rfl)
theorem dL_law_2046 : decode cL_law 2046 = .ok (.goto 84, 3) := dk_167 0 84 (dk_at dksL_law_83 0 rfl rfl)
theorem dL_law_2049 : decode cL_law 2049 = .ok (.aload_n 1, 1) := dk_43 (dk_at dksL_law_83 3 rfl rfl)
theorem dL_law_2050 : decode cL_law 2050 = .ok (.aload_n 0, 1) := dk_42 (dk_at dksL_law_83 4 rfl rfl)
theorem dL_law_2051 : decode cL_law 2051 = .ok (.iload 4, 2) := dk_21 4 (dk_at dksL_law_83 5 rfl rfl)
theorem dL_law_2053 : decode cL_law 2053 = .ok (.iconst 1, 1) := dk_4 (dk_at dksL_law_83 7 rfl rfl)
theorem dL_law_2054 : decode cL_law 2054 = .ok (.iadd, 1) := dk_96 (dk_at dksL_law_83 8 rfl rfl)
theorem dL_law_2055 : decode cL_law 2055 = .ok (.iaload, 1) := dk_46 (dk_at dksL_law_83 9 rfl rfl)
theorem dL_law_2056 : decode cL_law 2056 = .ok (.aload_n 0, 1) := dk_42 (dk_at dksL_law_83 10 rfl rfl)
theorem dL_law_2057 : decode cL_law 2057 = .ok (.iload 4, 2) := dk_21 4 (dk_at dksL_law_83 11 rfl rfl)
theorem dL_law_2059 : decode cL_law 2059 = .ok (.iconst 2, 1) := dk_5 (dk_at dksL_law_83 13 rfl rfl)
theorem dL_law_2060 : decode cL_law 2060 = .ok (.iadd, 1) := dk_96 (dk_at dksL_law_83 14 rfl rfl)
theorem dL_law_2061 : decode cL_law 2061 = .ok (.iaload, 1) := dk_46 (dk_at dksL_law_83 15 rfl rfl)
theorem dL_law_2062 : decode cL_law 2062 = .ok (.aload_n 3, 1) := dk_45 (dk_at dksL_law_83 16 rfl rfl)
theorem dL_law_2063 : decode cL_law 2063 = .ok (.invokestatic 215, 3) := dk_184 0 215 (dk_at dksL_law_83 17 rfl rfl)
theorem dL_law_2066 : decode cL_law 2066 = .ok (.istore 5, 2) := dk_54 5 (dk_at dksL_law_83 20 rfl rfl)
theorem dL_law_2068 : decode cL_law 2068 = .ok (.aload_n 2, 1) := dk_44 (dk_at dksL_law_83 22 rfl rfl)
theorem dL_law_2069 : decode cL_law 2069 = .ok (.aload_n 0, 1) := dk_42 (dk_at dksL_law_83 23 rfl rfl)
theorem dL_law_2070 : decode cL_law 2070 = .ok (.iload 4, 2) := dk_21 4 (dk_at dksL_law_84 0 rfl rfl)
theorem dL_law_2072 : decode cL_law 2072 = .ok (.iconst 1, 1) := dk_4 (dk_at dksL_law_84 2 rfl rfl)
theorem dL_law_2073 : decode cL_law 2073 = .ok (.iadd, 1) := dk_96 (dk_at dksL_law_84 3 rfl rfl)
theorem dL_law_2074 : decode cL_law 2074 = .ok (.iaload, 1) := dk_46 (dk_at dksL_law_84 4 rfl rfl)
theorem dL_law_2075 : decode cL_law 2075 = .ok (.aload_n 0, 1) := dk_42 (dk_at dksL_law_84 5 rfl rfl)
theorem dL_law_2076 : decode cL_law 2076 = .ok (.iload 4, 2) := dk_21 4 (dk_at dksL_law_84 6 rfl rfl)
theorem dL_law_2078 : decode cL_law 2078 = .ok (.iconst 2, 1) := dk_5 (dk_at dksL_law_84 8 rfl rfl)
theorem dL_law_2079 : decode cL_law 2079 = .ok (.iadd, 1) := dk_96 (dk_at dksL_law_84 9 rfl rfl)
theorem dL_law_2080 : decode cL_law 2080 = .ok (.iaload, 1) := dk_46 (dk_at dksL_law_84 10 rfl rfl)
theorem dL_law_2081 : decode cL_law 2081 = .ok (.invokevirtual 217, 3) := dk_182 0 217 (dk_at dksL_law_84 11 rfl rfl)
theorem dL_law_2084 : decode cL_law 2084 = .ok (.istore 6, 2) := dk_54 6 (dk_at dksL_law_84 14 rfl rfl)
theorem dL_law_2086 : decode cL_law 2086 = .ok (.aload_n 2, 1) := dk_44 (dk_at dksL_law_84 16 rfl rfl)
theorem dL_law_2087 : decode cL_law 2087 = .ok (.invokevirtual 118, 3) := dk_182 0 118 (dk_at dksL_law_84 17 rfl rfl)
theorem dL_law_2090 : decode cL_law 2090 = .ok (.iload 5, 2) := dk_21 5 (dk_at dksL_law_84 20 rfl rfl)
theorem dL_law_2092 : decode cL_law 2092 = .ok (.if_icmp .eq 5, 3) := dk_159 0 5 (dk_at dksL_law_85 0 rfl rfl)
theorem dL_law_2095 : decode cL_law 2095 = .ok (.iconst 0, 1) := dk_3 (dk_at dksL_law_85 3 rfl rfl)
theorem dL_law_2096 : decode cL_law 2096 = .ok (.ireturn, 1) := dk_172 (dk_at dksL_law_85 4 rfl rfl)
theorem dL_law_2097 : decode cL_law 2097 = .ok (.iload 5, 2) := dk_21 5 (dk_at dksL_law_85 5 rfl rfl)
theorem dL_law_2099 : decode cL_law 2099 = .ok (.ifCond .ne 15, 3) := dk_154 0 15 (dk_at dksL_law_85 7 rfl rfl)
theorem dL_law_2102 : decode cL_law 2102 = .ok (.aload_n 3, 1) := dk_45 (dk_at dksL_law_85 10 rfl rfl)
theorem dL_law_2103 : decode cL_law 2103 = .ok (.iconst 0, 1) := dk_3 (dk_at dksL_law_85 11 rfl rfl)
theorem dL_law_2104 : decode cL_law 2104 = .ok (.laload, 1) := dk_47 (dk_at dksL_law_85 12 rfl rfl)
theorem dL_law_2105 : decode cL_law 2105 = .ok (.iload 6, 2) := dk_21 6 (dk_at dksL_law_85 13 rfl rfl)
theorem dL_law_2107 : decode cL_law 2107 = .ok (.i2l, 1) := dk_133 (dk_at dksL_law_85 15 rfl rfl)
theorem dL_law_2108 : decode cL_law 2108 = .ok (.lcmp, 1) := dk_148 (dk_at dksL_law_85 16 rfl rfl)
theorem dL_law_2109 : decode cL_law 2109 = .ok (.ifCond .eq 5, 3) := dk_153 0 5 (dk_at dksL_law_85 17 rfl rfl)
theorem dL_law_2112 : decode cL_law 2112 = .ok (.iconst 0, 1) := dk_3 (dk_at dksL_law_85 20 rfl rfl)
theorem dL_law_2113 : decode cL_law 2113 = .ok (.ireturn, 1) := dk_172 (dk_at dksL_law_85 21 rfl rfl)
theorem dL_law_2114 : decode cL_law 2114 = .ok (.goto 16, 3) := dk_167 0 16 (dk_at dksL_law_86 0 rfl rfl)
theorem dL_law_2117 : decode cL_law 2117 = .ok (.aload_n 1, 1) := dk_43 (dk_at dksL_law_86 3 rfl rfl)
theorem dL_law_2118 : decode cL_law 2118 = .ok (.invokevirtual 218, 3) := dk_182 0 218 (dk_at dksL_law_86 4 rfl rfl)
theorem dL_law_2121 : decode cL_law 2121 = .ok (.aload_n 2, 1) := dk_44 (dk_at dksL_law_86 7 rfl rfl)
theorem dL_law_2122 : decode cL_law 2122 = .ok (.invokevirtual 221, 3) := dk_182 0 221 (dk_at dksL_law_86 8 rfl rfl)
theorem dL_law_2125 : decode cL_law 2125 = .ok (.if_icmp .eq 5, 3) := dk_159 0 5 (dk_at dksL_law_86 11 rfl rfl)
theorem dL_law_2128 : decode cL_law 2128 = .ok (.iconst 0, 1) := dk_3 (dk_at dksL_law_86 14 rfl rfl)
theorem dL_law_2129 : decode cL_law 2129 = .ok (.ireturn, 1) := dk_172 (dk_at dksL_law_86 15 rfl rfl)
theorem dL_law_2130 : decode cL_law 2130 = .ok (.iinc 4 5, 3) := dk_132 4 5 (dk_at dksL_law_86 16 rfl rfl)
theorem dL_law_2133 : decode cL_law 2133 = .ok (.goto (-2110), 3) := dk_167 247 194 (dk_at dksL_law_86 19 rfl rfl)
theorem dL_law_2136 : decode cL_law 2136 = .ok (.iconst 1, 1) := dk_4 (dk_at dksL_law_86 22 rfl rfl)
theorem dL_law_2137 : decode cL_law 2137 = .ok (.ireturn, 1) := dk_172 (dk_at dksL_law_86 23 rfl rfl)

def tbX0_wagon (pc : Nat) : Option (Instr × Nat) := (cond (Nat.ble pc 9) (cond (Nat.ble pc 3) (cond (Nat.ble pc 1) (cond (Nat.ble pc 0) (cond (Nat.beq pc 0) (some (.aload_n 3, 1)) none) (cond (Nat.beq pc 1) (some (.iconst 0, 1)) none)) (cond (Nat.ble pc 2) (cond (Nat.beq pc 2) (some (.aload_n 0, 1)) none) (cond (Nat.beq pc 3) (some (.iload_n 1, 1)) none))) (cond (Nat.ble pc 5) (cond (Nat.ble pc 4) (cond (Nat.beq pc 4) (some (.iload_n 2, 1)) none) (cond (Nat.beq pc 5) (some (.invokevirtual 7, 3)) none)) (cond (Nat.ble pc 8) (cond (Nat.beq pc 8) (some (.i2l, 1)) none) (cond (Nat.beq pc 9) (some (.lastore, 1)) none)))) (cond (Nat.ble pc 16) (cond (Nat.ble pc 13) (cond (Nat.ble pc 10) (cond (Nat.beq pc 10) (some (.goto 11, 3)) none) (cond (Nat.beq pc 13) (some (.astore 4, 2)) none)) (cond (Nat.ble pc 15) (cond (Nat.beq pc 15) (some (.iconst 1, 1)) none) (cond (Nat.beq pc 16) (some (.ireturn, 1)) none))) (cond (Nat.ble pc 19) (cond (Nat.ble pc 17) (cond (Nat.beq pc 17) (some (.astore 4, 2)) none) (cond (Nat.beq pc 19) (some (.iconst 2, 1)) none)) (cond (Nat.ble pc 20) (cond (Nat.beq pc 20) (some (.ireturn, 1)) none) (cond (Nat.ble pc 21) (cond (Nat.beq pc 21) (some (.iconst 0, 1)) none) (cond (Nat.beq pc 22) (some (.ireturn, 1)) none))))))
theorem tkX0_wagon : tkAll cX0_wagon tbX0_wagon := fun pc => (tk_b (tk_b (tk_b (tk_b (tk_l dX0_wagon_0) (tk_l dX0_wagon_1)) (tk_b (tk_l dX0_wagon_2) (tk_l dX0_wagon_3))) (tk_b (tk_b (tk_l dX0_wagon_4) (tk_l dX0_wagon_5)) (tk_b (tk_l dX0_wagon_8) (tk_l dX0_wagon_9)))) (tk_b (tk_b (tk_b (tk_l dX0_wagon_10) (tk_l dX0_wagon_13)) (tk_b (tk_l dX0_wagon_15) (tk_l dX0_wagon_16))) (tk_b (tk_b (tk_l dX0_wagon_17) (tk_l dX0_wagon_19)) (tk_b (tk_l dX0_wagon_20) (tk_b (tk_l dX0_wagon_21) (tk_l dX0_wagon_22))))))
def tbX0_shunt (pc : Nat) : Option (Instr × Nat) := (cond (Nat.ble pc 12) (cond (Nat.ble pc 4) (cond (Nat.ble pc 2) (cond (Nat.ble pc 0) (cond (Nat.beq pc 0) (some (.aload 5, 2)) none) (cond (Nat.beq pc 2) (some (.iconst 0, 1)) none)) (cond (Nat.ble pc 3) (cond (Nat.beq pc 3) (some (.aload_n 0, 1)) none) (cond (Nat.beq pc 4) (some (.iload_n 1, 1)) none))) (cond (Nat.ble pc 6) (cond (Nat.ble pc 5) (cond (Nat.beq pc 5) (some (.iload_n 2, 1)) none) (cond (Nat.beq pc 6) (some (.iload_n 3, 1)) none)) (cond (Nat.ble pc 7) (cond (Nat.beq pc 7) (some (.iload 4, 2)) none) (cond (Nat.ble pc 9) (cond (Nat.beq pc 9) (some (.invokevirtual 17, 3)) none) (cond (Nat.beq pc 12) (some (.i2l, 1)) none))))) (cond (Nat.ble pc 20) (cond (Nat.ble pc 14) (cond (Nat.ble pc 13) (cond (Nat.beq pc 13) (some (.lastore, 1)) none) (cond (Nat.beq pc 14) (some (.goto 11, 3)) none)) (cond (Nat.ble pc 17) (cond (Nat.beq pc 17) (some (.astore 6, 2)) none) (cond (Nat.ble pc 19) (cond (Nat.beq pc 19) (some (.iconst 1, 1)) none) (cond (Nat.beq pc 20) (some (.ireturn, 1)) none)))) (cond (Nat.ble pc 23) (cond (Nat.ble pc 21) (cond (Nat.beq pc 21) (some (.astore 6, 2)) none) (cond (Nat.beq pc 23) (some (.iconst 2, 1)) none)) (cond (Nat.ble pc 24) (cond (Nat.beq pc 24) (some (.ireturn, 1)) none) (cond (Nat.ble pc 25) (cond (Nat.beq pc 25) (some (.iconst 0, 1)) none) (cond (Nat.beq pc 26) (some (.ireturn, 1)) none))))))
theorem tkX0_shunt : tkAll cX0_shunt tbX0_shunt := fun pc => (tk_b (tk_b (tk_b (tk_b (tk_l dX0_shunt_0) (tk_l dX0_shunt_2)) (tk_b (tk_l dX0_shunt_3) (tk_l dX0_shunt_4))) (tk_b (tk_b (tk_l dX0_shunt_5) (tk_l dX0_shunt_6)) (tk_b (tk_l dX0_shunt_7) (tk_b (tk_l dX0_shunt_9) (tk_l dX0_shunt_12))))) (tk_b (tk_b (tk_b (tk_l dX0_shunt_13) (tk_l dX0_shunt_14)) (tk_b (tk_l dX0_shunt_17) (tk_b (tk_l dX0_shunt_19) (tk_l dX0_shunt_20)))) (tk_b (tk_b (tk_l dX0_shunt_21) (tk_l dX0_shunt_23)) (tk_b (tk_l dX0_shunt_24) (tk_b (tk_l dX0_shunt_25) (tk_l dX0_shunt_26))))))
def tbX0_wash (pc : Nat) : Option (Instr × Nat) := (cond (Nat.ble pc 9) (cond (Nat.ble pc 3) (cond (Nat.ble pc 1) (cond (Nat.ble pc 0) (cond (Nat.beq pc 0) (some (.aload_n 2, 1)) none) (cond (Nat.beq pc 1) (some (.iconst 0, 1)) none)) (cond (Nat.ble pc 2) (cond (Nat.beq pc 2) (some (.aload_n 0, 1)) none) (cond (Nat.beq pc 3) (some (.iload_n 1, 1)) none))) (cond (Nat.ble pc 7) (cond (Nat.ble pc 4) (cond (Nat.beq pc 4) (some (.invokevirtual 21, 3)) none) (cond (Nat.beq pc 7) (some (.i2l, 1)) none)) (cond (Nat.ble pc 8) (cond (Nat.beq pc 8) (some (.lastore, 1)) none) (cond (Nat.beq pc 9) (some (.goto 9, 3)) none)))) (cond (Nat.ble pc 15) (cond (Nat.ble pc 13) (cond (Nat.ble pc 12) (cond (Nat.beq pc 12) (some (.astore_n 3, 1)) none) (cond (Nat.beq pc 13) (some (.iconst 1, 1)) none)) (cond (Nat.ble pc 14) (cond (Nat.beq pc 14) (some (.ireturn, 1)) none) (cond (Nat.beq pc 15) (some (.astore_n 3, 1)) none))) (cond (Nat.ble pc 17) (cond (Nat.ble pc 16) (cond (Nat.beq pc 16) (some (.iconst 2, 1)) none) (cond (Nat.beq pc 17) (some (.ireturn, 1)) none)) (cond (Nat.ble pc 18) (cond (Nat.beq pc 18) (some (.iconst 0, 1)) none) (cond (Nat.beq pc 19) (some (.ireturn, 1)) none)))))
theorem tkX0_wash : tkAll cX0_wash tbX0_wash := fun pc => (tk_b (tk_b (tk_b (tk_b (tk_l dX0_wash_0) (tk_l dX0_wash_1)) (tk_b (tk_l dX0_wash_2) (tk_l dX0_wash_3))) (tk_b (tk_b (tk_l dX0_wash_4) (tk_l dX0_wash_7)) (tk_b (tk_l dX0_wash_8) (tk_l dX0_wash_9)))) (tk_b (tk_b (tk_b (tk_l dX0_wash_12) (tk_l dX0_wash_13)) (tk_b (tk_l dX0_wash_14) (tk_l dX0_wash_15))) (tk_b (tk_b (tk_l dX0_wash_16) (tk_l dX0_wash_17)) (tk_b (tk_l dX0_wash_18) (tk_l dX0_wash_19)))))
def tbX0_follow (pc : Nat) : Option (Instr × Nat) := (cond (Nat.ble pc 11) (cond (Nat.ble pc 3) (cond (Nat.ble pc 1) (cond (Nat.ble pc 0) (cond (Nat.beq pc 0) (some (.aload_n 3, 1)) none) (cond (Nat.beq pc 1) (some (.iconst 0, 1)) none)) (cond (Nat.ble pc 2) (cond (Nat.beq pc 2) (some (.aload_n 0, 1)) none) (cond (Nat.beq pc 3) (some (.iload_n 1, 1)) none))) (cond (Nat.ble pc 5) (cond (Nat.ble pc 4) (cond (Nat.beq pc 4) (some (.iload_n 2, 1)) none) (cond (Nat.beq pc 5) (some (.invokevirtual 25, 3)) none)) (cond (Nat.ble pc 8) (cond (Nat.beq pc 8) (some (.ifCond .eq 7, 3)) none) (cond (Nat.beq pc 11) (some (.lconst 1, 1)) none)))) (cond (Nat.ble pc 17) (cond (Nat.ble pc 15) (cond (Nat.ble pc 12) (cond (Nat.beq pc 12) (some (.goto 4, 3)) none) (cond (Nat.beq pc 15) (some (.lconst 0, 1)) none)) (cond (Nat.ble pc 16) (cond (Nat.beq pc 16) (some (.lastore, 1)) none) (cond (Nat.beq pc 17) (some (.goto 7, 3)) none))) (cond (Nat.ble pc 22) (cond (Nat.ble pc 20) (cond (Nat.beq pc 20) (some (.astore 4, 2)) none) (cond (Nat.beq pc 22) (some (.iconst 1, 1)) none)) (cond (Nat.ble pc 23) (cond (Nat.beq pc 23) (some (.ireturn, 1)) none) (cond (Nat.ble pc 24) (cond (Nat.beq pc 24) (some (.iconst 0, 1)) none) (cond (Nat.beq pc 25) (some (.ireturn, 1)) none))))))
theorem tkX0_follow : tkAll cX0_follow tbX0_follow := fun pc => (tk_b (tk_b (tk_b (tk_b (tk_l dX0_follow_0) (tk_l dX0_follow_1)) (tk_b (tk_l dX0_follow_2) (tk_l dX0_follow_3))) (tk_b (tk_b (tk_l dX0_follow_4) (tk_l dX0_follow_5)) (tk_b (tk_l dX0_follow_8) (tk_l dX0_follow_11)))) (tk_b (tk_b (tk_b (tk_l dX0_follow_12) (tk_l dX0_follow_15)) (tk_b (tk_l dX0_follow_16) (tk_l dX0_follow_17))) (tk_b (tk_b (tk_l dX0_follow_20) (tk_l dX0_follow_22)) (tk_b (tk_l dX0_follow_23) (tk_b (tk_l dX0_follow_24) (tk_l dX0_follow_25))))))
def tbX0_on (pc : Nat) : Option (Instr × Nat) := (cond (Nat.ble pc 8) (cond (Nat.ble pc 2) (cond (Nat.ble pc 0) (cond (Nat.beq pc 0) (some (.aload_n 3, 1)) none) (cond (Nat.ble pc 1) (cond (Nat.beq pc 1) (some (.iconst 0, 1)) none) (cond (Nat.beq pc 2) (some (.aload_n 0, 1)) none))) (cond (Nat.ble pc 4) (cond (Nat.ble pc 3) (cond (Nat.beq pc 3) (some (.iload_n 1, 1)) none) (cond (Nat.beq pc 4) (some (.iload_n 2, 1)) none)) (cond (Nat.ble pc 5) (cond (Nat.beq pc 5) (some (.invokevirtual 29, 3)) none) (cond (Nat.beq pc 8) (some (.i2l, 1)) none)))) (cond (Nat.ble pc 13) (cond (Nat.ble pc 9) (cond (Nat.beq pc 9) (some (.lastore, 1)) none) (cond (Nat.ble pc 10) (cond (Nat.beq pc 10) (some (.goto 7, 3)) none) (cond (Nat.beq pc 13) (some (.astore 4, 2)) none))) (cond (Nat.ble pc 16) (cond (Nat.ble pc 15) (cond (Nat.beq pc 15) (some (.iconst 1, 1)) none) (cond (Nat.beq pc 16) (some (.ireturn, 1)) none)) (cond (Nat.ble pc 17) (cond (Nat.beq pc 17) (some (.iconst 0, 1)) none) (cond (Nat.beq pc 18) (some (.ireturn, 1)) none)))))
theorem tkX0_on : tkAll cX0_on tbX0_on := fun pc => (tk_b (tk_b (tk_b (tk_l dX0_on_0) (tk_b (tk_l dX0_on_1) (tk_l dX0_on_2))) (tk_b (tk_b (tk_l dX0_on_3) (tk_l dX0_on_4)) (tk_b (tk_l dX0_on_5) (tk_l dX0_on_8)))) (tk_b (tk_b (tk_l dX0_on_9) (tk_b (tk_l dX0_on_10) (tk_l dX0_on_13))) (tk_b (tk_b (tk_l dX0_on_15) (tk_l dX0_on_16)) (tk_b (tk_l dX0_on_17) (tk_l dX0_on_18)))))
def tbX0_at (pc : Nat) : Option (Instr × Nat) := (cond (Nat.ble pc 11) (cond (Nat.ble pc 4) (cond (Nat.ble pc 2) (cond (Nat.ble pc 0) (cond (Nat.beq pc 0) (some (.aload 4, 2)) none) (cond (Nat.beq pc 2) (some (.iconst 0, 1)) none)) (cond (Nat.ble pc 3) (cond (Nat.beq pc 3) (some (.aload_n 0, 1)) none) (cond (Nat.beq pc 4) (some (.iload_n 1, 1)) none))) (cond (Nat.ble pc 6) (cond (Nat.ble pc 5) (cond (Nat.beq pc 5) (some (.iload_n 2, 1)) none) (cond (Nat.beq pc 6) (some (.iload_n 3, 1)) none)) (cond (Nat.ble pc 7) (cond (Nat.beq pc 7) (some (.invokevirtual 32, 3)) none) (cond (Nat.ble pc 10) (cond (Nat.beq pc 10) (some (.i2l, 1)) none) (cond (Nat.beq pc 11) (some (.lastore, 1)) none))))) (cond (Nat.ble pc 18) (cond (Nat.ble pc 15) (cond (Nat.ble pc 12) (cond (Nat.beq pc 12) (some (.goto 11, 3)) none) (cond (Nat.beq pc 15) (some (.astore 5, 2)) none)) (cond (Nat.ble pc 17) (cond (Nat.beq pc 17) (some (.iconst 1, 1)) none) (cond (Nat.beq pc 18) (some (.ireturn, 1)) none))) (cond (Nat.ble pc 21) (cond (Nat.ble pc 19) (cond (Nat.beq pc 19) (some (.astore 5, 2)) none) (cond (Nat.beq pc 21) (some (.iconst 2, 1)) none)) (cond (Nat.ble pc 22) (cond (Nat.beq pc 22) (some (.ireturn, 1)) none) (cond (Nat.ble pc 23) (cond (Nat.beq pc 23) (some (.iconst 0, 1)) none) (cond (Nat.beq pc 24) (some (.ireturn, 1)) none))))))
theorem tkX0_at : tkAll cX0_at tbX0_at := fun pc => (tk_b (tk_b (tk_b (tk_b (tk_l dX0_at_0) (tk_l dX0_at_2)) (tk_b (tk_l dX0_at_3) (tk_l dX0_at_4))) (tk_b (tk_b (tk_l dX0_at_5) (tk_l dX0_at_6)) (tk_b (tk_l dX0_at_7) (tk_b (tk_l dX0_at_10) (tk_l dX0_at_11))))) (tk_b (tk_b (tk_b (tk_l dX0_at_12) (tk_l dX0_at_15)) (tk_b (tk_l dX0_at_17) (tk_l dX0_at_18))) (tk_b (tk_b (tk_l dX0_at_19) (tk_l dX0_at_21)) (tk_b (tk_l dX0_at_22) (tk_b (tk_l dX0_at_23) (tk_l dX0_at_24))))))
def tbX0_atByReplay (pc : Nat) : Option (Instr × Nat) := (cond (Nat.ble pc 11) (cond (Nat.ble pc 4) (cond (Nat.ble pc 2) (cond (Nat.ble pc 0) (cond (Nat.beq pc 0) (some (.aload 4, 2)) none) (cond (Nat.beq pc 2) (some (.iconst 0, 1)) none)) (cond (Nat.ble pc 3) (cond (Nat.beq pc 3) (some (.aload_n 0, 1)) none) (cond (Nat.beq pc 4) (some (.iload_n 1, 1)) none))) (cond (Nat.ble pc 6) (cond (Nat.ble pc 5) (cond (Nat.beq pc 5) (some (.iload_n 2, 1)) none) (cond (Nat.beq pc 6) (some (.iload_n 3, 1)) none)) (cond (Nat.ble pc 7) (cond (Nat.beq pc 7) (some (.invokevirtual 38, 3)) none) (cond (Nat.ble pc 10) (cond (Nat.beq pc 10) (some (.i2l, 1)) none) (cond (Nat.beq pc 11) (some (.lastore, 1)) none))))) (cond (Nat.ble pc 18) (cond (Nat.ble pc 15) (cond (Nat.ble pc 12) (cond (Nat.beq pc 12) (some (.goto 11, 3)) none) (cond (Nat.beq pc 15) (some (.astore 5, 2)) none)) (cond (Nat.ble pc 17) (cond (Nat.beq pc 17) (some (.iconst 1, 1)) none) (cond (Nat.beq pc 18) (some (.ireturn, 1)) none))) (cond (Nat.ble pc 21) (cond (Nat.ble pc 19) (cond (Nat.beq pc 19) (some (.astore 5, 2)) none) (cond (Nat.beq pc 21) (some (.iconst 2, 1)) none)) (cond (Nat.ble pc 22) (cond (Nat.beq pc 22) (some (.ireturn, 1)) none) (cond (Nat.ble pc 23) (cond (Nat.beq pc 23) (some (.iconst 0, 1)) none) (cond (Nat.beq pc 24) (some (.ireturn, 1)) none))))))
theorem tkX0_atByReplay : tkAll cX0_atByReplay tbX0_atByReplay := fun pc => (tk_b (tk_b (tk_b (tk_b (tk_l dX0_atByReplay_0) (tk_l dX0_atByReplay_2)) (tk_b (tk_l dX0_atByReplay_3) (tk_l dX0_atByReplay_4))) (tk_b (tk_b (tk_l dX0_atByReplay_5) (tk_l dX0_atByReplay_6)) (tk_b (tk_l dX0_atByReplay_7) (tk_b (tk_l dX0_atByReplay_10) (tk_l dX0_atByReplay_11))))) (tk_b (tk_b (tk_b (tk_l dX0_atByReplay_12) (tk_l dX0_atByReplay_15)) (tk_b (tk_l dX0_atByReplay_17) (tk_l dX0_atByReplay_18))) (tk_b (tk_b (tk_l dX0_atByReplay_19) (tk_l dX0_atByReplay_21)) (tk_b (tk_l dX0_atByReplay_22) (tk_b (tk_l dX0_atByReplay_23) (tk_l dX0_atByReplay_24))))))
def tbX0_where (pc : Nat) : Option (Instr × Nat) := (cond (Nat.ble pc 7) (cond (Nat.ble pc 2) (cond (Nat.ble pc 0) (cond (Nat.beq pc 0) (some (.aload_n 2, 1)) none) (cond (Nat.ble pc 1) (cond (Nat.beq pc 1) (some (.iconst 0, 1)) none) (cond (Nat.beq pc 2) (some (.aload_n 0, 1)) none))) (cond (Nat.ble pc 3) (cond (Nat.beq pc 3) (some (.iload_n 1, 1)) none) (cond (Nat.ble pc 4) (cond (Nat.beq pc 4) (some (.invokevirtual 41, 3)) none) (cond (Nat.beq pc 7) (some (.i2l, 1)) none)))) (cond (Nat.ble pc 12) (cond (Nat.ble pc 8) (cond (Nat.beq pc 8) (some (.lastore, 1)) none) (cond (Nat.ble pc 9) (cond (Nat.beq pc 9) (some (.goto 6, 3)) none) (cond (Nat.beq pc 12) (some (.astore_n 3, 1)) none))) (cond (Nat.ble pc 14) (cond (Nat.ble pc 13) (cond (Nat.beq pc 13) (some (.iconst 1, 1)) none) (cond (Nat.beq pc 14) (some (.ireturn, 1)) none)) (cond (Nat.ble pc 15) (cond (Nat.beq pc 15) (some (.iconst 0, 1)) none) (cond (Nat.beq pc 16) (some (.ireturn, 1)) none)))))
theorem tkX0_where : tkAll cX0_where tbX0_where := fun pc => (tk_b (tk_b (tk_b (tk_l dX0_where_0) (tk_b (tk_l dX0_where_1) (tk_l dX0_where_2))) (tk_b (tk_l dX0_where_3) (tk_b (tk_l dX0_where_4) (tk_l dX0_where_7)))) (tk_b (tk_b (tk_l dX0_where_8) (tk_b (tk_l dX0_where_9) (tk_l dX0_where_12))) (tk_b (tk_b (tk_l dX0_where_13) (tk_l dX0_where_14)) (tk_b (tk_l dX0_where_15) (tk_l dX0_where_16)))))
def tbX0_carried (pc : Nat) : Option (Instr × Nat) := (cond (Nat.ble pc 7) (cond (Nat.ble pc 2) (cond (Nat.ble pc 0) (cond (Nat.beq pc 0) (some (.aload_n 2, 1)) none) (cond (Nat.ble pc 1) (cond (Nat.beq pc 1) (some (.iconst 0, 1)) none) (cond (Nat.beq pc 2) (some (.aload_n 0, 1)) none))) (cond (Nat.ble pc 3) (cond (Nat.beq pc 3) (some (.iload_n 1, 1)) none) (cond (Nat.ble pc 4) (cond (Nat.beq pc 4) (some (.invokevirtual 44, 3)) none) (cond (Nat.beq pc 7) (some (.i2l, 1)) none)))) (cond (Nat.ble pc 12) (cond (Nat.ble pc 8) (cond (Nat.beq pc 8) (some (.lastore, 1)) none) (cond (Nat.ble pc 9) (cond (Nat.beq pc 9) (some (.goto 6, 3)) none) (cond (Nat.beq pc 12) (some (.astore_n 3, 1)) none))) (cond (Nat.ble pc 14) (cond (Nat.ble pc 13) (cond (Nat.beq pc 13) (some (.iconst 1, 1)) none) (cond (Nat.beq pc 14) (some (.ireturn, 1)) none)) (cond (Nat.ble pc 15) (cond (Nat.beq pc 15) (some (.iconst 0, 1)) none) (cond (Nat.beq pc 16) (some (.ireturn, 1)) none)))))
theorem tkX0_carried : tkAll cX0_carried tbX0_carried := fun pc => (tk_b (tk_b (tk_b (tk_l dX0_carried_0) (tk_b (tk_l dX0_carried_1) (tk_l dX0_carried_2))) (tk_b (tk_l dX0_carried_3) (tk_b (tk_l dX0_carried_4) (tk_l dX0_carried_7)))) (tk_b (tk_b (tk_l dX0_carried_8) (tk_b (tk_l dX0_carried_9) (tk_l dX0_carried_12))) (tk_b (tk_b (tk_l dX0_carried_13) (tk_l dX0_carried_14)) (tk_b (tk_l dX0_carried_15) (tk_l dX0_carried_16)))))
def tbX0_promised (pc : Nat) : Option (Instr × Nat) := (cond (Nat.ble pc 7) (cond (Nat.ble pc 2) (cond (Nat.ble pc 0) (cond (Nat.beq pc 0) (some (.aload_n 2, 1)) none) (cond (Nat.ble pc 1) (cond (Nat.beq pc 1) (some (.iconst 0, 1)) none) (cond (Nat.beq pc 2) (some (.aload_n 0, 1)) none))) (cond (Nat.ble pc 3) (cond (Nat.beq pc 3) (some (.iload_n 1, 1)) none) (cond (Nat.ble pc 4) (cond (Nat.beq pc 4) (some (.invokevirtual 47, 3)) none) (cond (Nat.beq pc 7) (some (.i2l, 1)) none)))) (cond (Nat.ble pc 12) (cond (Nat.ble pc 8) (cond (Nat.beq pc 8) (some (.lastore, 1)) none) (cond (Nat.ble pc 9) (cond (Nat.beq pc 9) (some (.goto 6, 3)) none) (cond (Nat.beq pc 12) (some (.astore_n 3, 1)) none))) (cond (Nat.ble pc 14) (cond (Nat.ble pc 13) (cond (Nat.beq pc 13) (some (.iconst 1, 1)) none) (cond (Nat.beq pc 14) (some (.ireturn, 1)) none)) (cond (Nat.ble pc 15) (cond (Nat.beq pc 15) (some (.iconst 0, 1)) none) (cond (Nat.beq pc 16) (some (.ireturn, 1)) none)))))
theorem tkX0_promised : tkAll cX0_promised tbX0_promised := fun pc => (tk_b (tk_b (tk_b (tk_l dX0_promised_0) (tk_b (tk_l dX0_promised_1) (tk_l dX0_promised_2))) (tk_b (tk_l dX0_promised_3) (tk_b (tk_l dX0_promised_4) (tk_l dX0_promised_7)))) (tk_b (tk_b (tk_l dX0_promised_8) (tk_b (tk_l dX0_promised_9) (tk_l dX0_promised_12))) (tk_b (tk_b (tk_l dX0_promised_13) (tk_l dX0_promised_14)) (tk_b (tk_l dX0_promised_15) (tk_l dX0_promised_16)))))
def tbX0_call (pc : Nat) : Option (Instr × Nat) := (cond (Nat.ble pc 9) (cond (Nat.ble pc 3) (cond (Nat.ble pc 1) (cond (Nat.ble pc 0) (cond (Nat.beq pc 0) (some (.aload_n 3, 1)) none) (cond (Nat.beq pc 1) (some (.iconst 0, 1)) none)) (cond (Nat.ble pc 2) (cond (Nat.beq pc 2) (some (.aload_n 0, 1)) none) (cond (Nat.beq pc 3) (some (.iload_n 1, 1)) none))) (cond (Nat.ble pc 5) (cond (Nat.ble pc 4) (cond (Nat.beq pc 4) (some (.iload_n 2, 1)) none) (cond (Nat.beq pc 5) (some (.invokevirtual 50, 3)) none)) (cond (Nat.ble pc 8) (cond (Nat.beq pc 8) (some (.i2l, 1)) none) (cond (Nat.beq pc 9) (some (.lastore, 1)) none)))) (cond (Nat.ble pc 16) (cond (Nat.ble pc 13) (cond (Nat.ble pc 10) (cond (Nat.beq pc 10) (some (.goto 11, 3)) none) (cond (Nat.beq pc 13) (some (.astore 4, 2)) none)) (cond (Nat.ble pc 15) (cond (Nat.beq pc 15) (some (.iconst 1, 1)) none) (cond (Nat.beq pc 16) (some (.ireturn, 1)) none))) (cond (Nat.ble pc 19) (cond (Nat.ble pc 17) (cond (Nat.beq pc 17) (some (.astore 4, 2)) none) (cond (Nat.beq pc 19) (some (.iconst 2, 1)) none)) (cond (Nat.ble pc 20) (cond (Nat.beq pc 20) (some (.ireturn, 1)) none) (cond (Nat.ble pc 21) (cond (Nat.beq pc 21) (some (.iconst 0, 1)) none) (cond (Nat.beq pc 22) (some (.ireturn, 1)) none))))))
theorem tkX0_call : tkAll cX0_call tbX0_call := fun pc => (tk_b (tk_b (tk_b (tk_b (tk_l dX0_call_0) (tk_l dX0_call_1)) (tk_b (tk_l dX0_call_2) (tk_l dX0_call_3))) (tk_b (tk_b (tk_l dX0_call_4) (tk_l dX0_call_5)) (tk_b (tk_l dX0_call_8) (tk_l dX0_call_9)))) (tk_b (tk_b (tk_b (tk_l dX0_call_10) (tk_l dX0_call_13)) (tk_b (tk_l dX0_call_15) (tk_l dX0_call_16))) (tk_b (tk_b (tk_l dX0_call_17) (tk_l dX0_call_19)) (tk_b (tk_l dX0_call_20) (tk_b (tk_l dX0_call_21) (tk_l dX0_call_22))))))
def tbX0_ask (pc : Nat) : Option (Instr × Nat) := (cond (Nat.ble pc 13) (cond (Nat.ble pc 4) (cond (Nat.ble pc 1) (cond (Nat.ble pc 0) (cond (Nat.beq pc 0) (some (.aload_n 3, 1)) none) (cond (Nat.beq pc 1) (some (.iconst 0, 1)) none)) (cond (Nat.ble pc 2) (cond (Nat.beq pc 2) (some (.aload_n 0, 1)) none) (cond (Nat.ble pc 3) (cond (Nat.beq pc 3) (some (.iload_n 1, 1)) none) (cond (Nat.beq pc 4) (some (.iload_n 2, 1)) none)))) (cond (Nat.ble pc 8) (cond (Nat.ble pc 5) (cond (Nat.beq pc 5) (some (.invokevirtual 53, 3)) none) (cond (Nat.beq pc 8) (some (.i2l, 1)) none)) (cond (Nat.ble pc 9) (cond (Nat.beq pc 9) (some (.lastore, 1)) none) (cond (Nat.ble pc 10) (cond (Nat.beq pc 10) (some (.goto 15, 3)) none) (cond (Nat.beq pc 13) (some (.astore 4, 2)) none))))) (cond (Nat.ble pc 20) (cond (Nat.ble pc 16) (cond (Nat.ble pc 15) (cond (Nat.beq pc 15) (some (.iconst 1, 1)) none) (cond (Nat.beq pc 16) (some (.ireturn, 1)) none)) (cond (Nat.ble pc 17) (cond (Nat.beq pc 17) (some (.astore 4, 2)) none) (cond (Nat.ble pc 19) (cond (Nat.beq pc 19) (some (.iconst 2, 1)) none) (cond (Nat.beq pc 20) (some (.ireturn, 1)) none)))) (cond (Nat.ble pc 23) (cond (Nat.ble pc 21) (cond (Nat.beq pc 21) (some (.astore 4, 2)) none) (cond (Nat.beq pc 23) (some (.iconst 3, 1)) none)) (cond (Nat.ble pc 24) (cond (Nat.beq pc 24) (some (.ireturn, 1)) none) (cond (Nat.ble pc 25) (cond (Nat.beq pc 25) (some (.iconst 0, 1)) none) (cond (Nat.beq pc 26) (some (.ireturn, 1)) none))))))
theorem tkX0_ask : tkAll cX0_ask tbX0_ask := fun pc => (tk_b (tk_b (tk_b (tk_b (tk_l dX0_ask_0) (tk_l dX0_ask_1)) (tk_b (tk_l dX0_ask_2) (tk_b (tk_l dX0_ask_3) (tk_l dX0_ask_4)))) (tk_b (tk_b (tk_l dX0_ask_5) (tk_l dX0_ask_8)) (tk_b (tk_l dX0_ask_9) (tk_b (tk_l dX0_ask_10) (tk_l dX0_ask_13))))) (tk_b (tk_b (tk_b (tk_l dX0_ask_15) (tk_l dX0_ask_16)) (tk_b (tk_l dX0_ask_17) (tk_b (tk_l dX0_ask_19) (tk_l dX0_ask_20)))) (tk_b (tk_b (tk_l dX0_ask_21) (tk_l dX0_ask_23)) (tk_b (tk_l dX0_ask_24) (tk_b (tk_l dX0_ask_25) (tk_l dX0_ask_26))))))
def tbX0_confirm (pc : Nat) : Option (Instr × Nat) := (cond (Nat.ble pc 9) (cond (Nat.ble pc 3) (cond (Nat.ble pc 1) (cond (Nat.ble pc 0) (cond (Nat.beq pc 0) (some (.aload_n 2, 1)) none) (cond (Nat.beq pc 1) (some (.iconst 0, 1)) none)) (cond (Nat.ble pc 2) (cond (Nat.beq pc 2) (some (.aload_n 0, 1)) none) (cond (Nat.beq pc 3) (some (.iload_n 1, 1)) none))) (cond (Nat.ble pc 7) (cond (Nat.ble pc 4) (cond (Nat.beq pc 4) (some (.invokevirtual 56, 3)) none) (cond (Nat.beq pc 7) (some (.i2l, 1)) none)) (cond (Nat.ble pc 8) (cond (Nat.beq pc 8) (some (.lastore, 1)) none) (cond (Nat.beq pc 9) (some (.goto 9, 3)) none)))) (cond (Nat.ble pc 15) (cond (Nat.ble pc 13) (cond (Nat.ble pc 12) (cond (Nat.beq pc 12) (some (.astore_n 3, 1)) none) (cond (Nat.beq pc 13) (some (.iconst 1, 1)) none)) (cond (Nat.ble pc 14) (cond (Nat.beq pc 14) (some (.ireturn, 1)) none) (cond (Nat.beq pc 15) (some (.astore_n 3, 1)) none))) (cond (Nat.ble pc 17) (cond (Nat.ble pc 16) (cond (Nat.beq pc 16) (some (.iconst 2, 1)) none) (cond (Nat.beq pc 17) (some (.ireturn, 1)) none)) (cond (Nat.ble pc 18) (cond (Nat.beq pc 18) (some (.iconst 0, 1)) none) (cond (Nat.beq pc 19) (some (.ireturn, 1)) none)))))
theorem tkX0_confirm : tkAll cX0_confirm tbX0_confirm := fun pc => (tk_b (tk_b (tk_b (tk_b (tk_l dX0_confirm_0) (tk_l dX0_confirm_1)) (tk_b (tk_l dX0_confirm_2) (tk_l dX0_confirm_3))) (tk_b (tk_b (tk_l dX0_confirm_4) (tk_l dX0_confirm_7)) (tk_b (tk_l dX0_confirm_8) (tk_l dX0_confirm_9)))) (tk_b (tk_b (tk_b (tk_l dX0_confirm_12) (tk_l dX0_confirm_13)) (tk_b (tk_l dX0_confirm_14) (tk_l dX0_confirm_15))) (tk_b (tk_b (tk_l dX0_confirm_16) (tk_l dX0_confirm_17)) (tk_b (tk_l dX0_confirm_18) (tk_l dX0_confirm_19)))))
def tbX0_resume (pc : Nat) : Option (Instr × Nat) := (cond (Nat.ble pc 9) (cond (Nat.ble pc 3) (cond (Nat.ble pc 1) (cond (Nat.ble pc 0) (cond (Nat.beq pc 0) (some (.aload_n 3, 1)) none) (cond (Nat.beq pc 1) (some (.iconst 0, 1)) none)) (cond (Nat.ble pc 2) (cond (Nat.beq pc 2) (some (.aload_n 0, 1)) none) (cond (Nat.beq pc 3) (some (.iload_n 1, 1)) none))) (cond (Nat.ble pc 5) (cond (Nat.ble pc 4) (cond (Nat.beq pc 4) (some (.iload_n 2, 1)) none) (cond (Nat.beq pc 5) (some (.invokevirtual 59, 3)) none)) (cond (Nat.ble pc 8) (cond (Nat.beq pc 8) (some (.i2l, 1)) none) (cond (Nat.beq pc 9) (some (.lastore, 1)) none)))) (cond (Nat.ble pc 16) (cond (Nat.ble pc 13) (cond (Nat.ble pc 10) (cond (Nat.beq pc 10) (some (.goto 11, 3)) none) (cond (Nat.beq pc 13) (some (.astore 4, 2)) none)) (cond (Nat.ble pc 15) (cond (Nat.beq pc 15) (some (.iconst 1, 1)) none) (cond (Nat.beq pc 16) (some (.ireturn, 1)) none))) (cond (Nat.ble pc 19) (cond (Nat.ble pc 17) (cond (Nat.beq pc 17) (some (.astore 4, 2)) none) (cond (Nat.beq pc 19) (some (.iconst 2, 1)) none)) (cond (Nat.ble pc 20) (cond (Nat.beq pc 20) (some (.ireturn, 1)) none) (cond (Nat.ble pc 21) (cond (Nat.beq pc 21) (some (.iconst 0, 1)) none) (cond (Nat.beq pc 22) (some (.ireturn, 1)) none))))))
theorem tkX0_resume : tkAll cX0_resume tbX0_resume := fun pc => (tk_b (tk_b (tk_b (tk_b (tk_l dX0_resume_0) (tk_l dX0_resume_1)) (tk_b (tk_l dX0_resume_2) (tk_l dX0_resume_3))) (tk_b (tk_b (tk_l dX0_resume_4) (tk_l dX0_resume_5)) (tk_b (tk_l dX0_resume_8) (tk_l dX0_resume_9)))) (tk_b (tk_b (tk_b (tk_l dX0_resume_10) (tk_l dX0_resume_13)) (tk_b (tk_l dX0_resume_15) (tk_l dX0_resume_16))) (tk_b (tk_b (tk_l dX0_resume_17) (tk_l dX0_resume_19)) (tk_b (tk_l dX0_resume_20) (tk_b (tk_l dX0_resume_21) (tk_l dX0_resume_22))))))
def tbX0_cancel (pc : Nat) : Option (Instr × Nat) := (cond (Nat.ble pc 9) (cond (Nat.ble pc 3) (cond (Nat.ble pc 1) (cond (Nat.ble pc 0) (cond (Nat.beq pc 0) (some (.aload_n 3, 1)) none) (cond (Nat.beq pc 1) (some (.iconst 0, 1)) none)) (cond (Nat.ble pc 2) (cond (Nat.beq pc 2) (some (.aload_n 0, 1)) none) (cond (Nat.beq pc 3) (some (.iload_n 1, 1)) none))) (cond (Nat.ble pc 5) (cond (Nat.ble pc 4) (cond (Nat.beq pc 4) (some (.iload_n 2, 1)) none) (cond (Nat.beq pc 5) (some (.invokevirtual 62, 3)) none)) (cond (Nat.ble pc 8) (cond (Nat.beq pc 8) (some (.i2l, 1)) none) (cond (Nat.beq pc 9) (some (.lastore, 1)) none)))) (cond (Nat.ble pc 16) (cond (Nat.ble pc 13) (cond (Nat.ble pc 10) (cond (Nat.beq pc 10) (some (.goto 11, 3)) none) (cond (Nat.beq pc 13) (some (.astore 4, 2)) none)) (cond (Nat.ble pc 15) (cond (Nat.beq pc 15) (some (.iconst 1, 1)) none) (cond (Nat.beq pc 16) (some (.ireturn, 1)) none))) (cond (Nat.ble pc 19) (cond (Nat.ble pc 17) (cond (Nat.beq pc 17) (some (.astore 4, 2)) none) (cond (Nat.beq pc 19) (some (.iconst 2, 1)) none)) (cond (Nat.ble pc 20) (cond (Nat.beq pc 20) (some (.ireturn, 1)) none) (cond (Nat.ble pc 21) (cond (Nat.beq pc 21) (some (.iconst 0, 1)) none) (cond (Nat.beq pc 22) (some (.ireturn, 1)) none))))))
theorem tkX0_cancel : tkAll cX0_cancel tbX0_cancel := fun pc => (tk_b (tk_b (tk_b (tk_b (tk_l dX0_cancel_0) (tk_l dX0_cancel_1)) (tk_b (tk_l dX0_cancel_2) (tk_l dX0_cancel_3))) (tk_b (tk_b (tk_l dX0_cancel_4) (tk_l dX0_cancel_5)) (tk_b (tk_l dX0_cancel_8) (tk_l dX0_cancel_9)))) (tk_b (tk_b (tk_b (tk_l dX0_cancel_10) (tk_l dX0_cancel_13)) (tk_b (tk_l dX0_cancel_15) (tk_l dX0_cancel_16))) (tk_b (tk_b (tk_l dX0_cancel_17) (tk_l dX0_cancel_19)) (tk_b (tk_l dX0_cancel_20) (tk_b (tk_l dX0_cancel_21) (tk_l dX0_cancel_22))))))
def tbX0_hangUp (pc : Nat) : Option (Instr × Nat) := (cond (Nat.ble pc 9) (cond (Nat.ble pc 3) (cond (Nat.ble pc 1) (cond (Nat.ble pc 0) (cond (Nat.beq pc 0) (some (.aload_n 2, 1)) none) (cond (Nat.beq pc 1) (some (.iconst 0, 1)) none)) (cond (Nat.ble pc 2) (cond (Nat.beq pc 2) (some (.aload_n 0, 1)) none) (cond (Nat.beq pc 3) (some (.iload_n 1, 1)) none))) (cond (Nat.ble pc 7) (cond (Nat.ble pc 4) (cond (Nat.beq pc 4) (some (.invokevirtual 65, 3)) none) (cond (Nat.beq pc 7) (some (.i2l, 1)) none)) (cond (Nat.ble pc 8) (cond (Nat.beq pc 8) (some (.lastore, 1)) none) (cond (Nat.beq pc 9) (some (.goto 9, 3)) none)))) (cond (Nat.ble pc 15) (cond (Nat.ble pc 13) (cond (Nat.ble pc 12) (cond (Nat.beq pc 12) (some (.astore_n 3, 1)) none) (cond (Nat.beq pc 13) (some (.iconst 1, 1)) none)) (cond (Nat.ble pc 14) (cond (Nat.beq pc 14) (some (.ireturn, 1)) none) (cond (Nat.beq pc 15) (some (.astore_n 3, 1)) none))) (cond (Nat.ble pc 17) (cond (Nat.ble pc 16) (cond (Nat.beq pc 16) (some (.iconst 2, 1)) none) (cond (Nat.beq pc 17) (some (.ireturn, 1)) none)) (cond (Nat.ble pc 18) (cond (Nat.beq pc 18) (some (.iconst 0, 1)) none) (cond (Nat.beq pc 19) (some (.ireturn, 1)) none)))))
theorem tkX0_hangUp : tkAll cX0_hangUp tbX0_hangUp := fun pc => (tk_b (tk_b (tk_b (tk_b (tk_l dX0_hangUp_0) (tk_l dX0_hangUp_1)) (tk_b (tk_l dX0_hangUp_2) (tk_l dX0_hangUp_3))) (tk_b (tk_b (tk_l dX0_hangUp_4) (tk_l dX0_hangUp_7)) (tk_b (tk_l dX0_hangUp_8) (tk_l dX0_hangUp_9)))) (tk_b (tk_b (tk_b (tk_l dX0_hangUp_12) (tk_l dX0_hangUp_13)) (tk_b (tk_l dX0_hangUp_14) (tk_l dX0_hangUp_15))) (tk_b (tk_b (tk_l dX0_hangUp_16) (tk_l dX0_hangUp_17)) (tk_b (tk_l dX0_hangUp_18) (tk_l dX0_hangUp_19)))))
def tbX0_callOf (pc : Nat) : Option (Instr × Nat) := (cond (Nat.ble pc 7) (cond (Nat.ble pc 2) (cond (Nat.ble pc 0) (cond (Nat.beq pc 0) (some (.aload_n 2, 1)) none) (cond (Nat.ble pc 1) (cond (Nat.beq pc 1) (some (.iconst 0, 1)) none) (cond (Nat.beq pc 2) (some (.aload_n 0, 1)) none))) (cond (Nat.ble pc 3) (cond (Nat.beq pc 3) (some (.iload_n 1, 1)) none) (cond (Nat.ble pc 4) (cond (Nat.beq pc 4) (some (.invokevirtual 68, 3)) none) (cond (Nat.beq pc 7) (some (.i2l, 1)) none)))) (cond (Nat.ble pc 12) (cond (Nat.ble pc 8) (cond (Nat.beq pc 8) (some (.lastore, 1)) none) (cond (Nat.ble pc 9) (cond (Nat.beq pc 9) (some (.goto 6, 3)) none) (cond (Nat.beq pc 12) (some (.astore_n 3, 1)) none))) (cond (Nat.ble pc 14) (cond (Nat.ble pc 13) (cond (Nat.beq pc 13) (some (.iconst 1, 1)) none) (cond (Nat.beq pc 14) (some (.ireturn, 1)) none)) (cond (Nat.ble pc 15) (cond (Nat.beq pc 15) (some (.iconst 0, 1)) none) (cond (Nat.beq pc 16) (some (.ireturn, 1)) none)))))
theorem tkX0_callOf : tkAll cX0_callOf tbX0_callOf := fun pc => (tk_b (tk_b (tk_b (tk_l dX0_callOf_0) (tk_b (tk_l dX0_callOf_1) (tk_l dX0_callOf_2))) (tk_b (tk_l dX0_callOf_3) (tk_b (tk_l dX0_callOf_4) (tk_l dX0_callOf_7)))) (tk_b (tk_b (tk_l dX0_callOf_8) (tk_b (tk_l dX0_callOf_9) (tk_l dX0_callOf_12))) (tk_b (tk_b (tk_l dX0_callOf_13) (tk_l dX0_callOf_14)) (tk_b (tk_l dX0_callOf_15) (tk_l dX0_callOf_16)))))
def tbX0_way (pc : Nat) : Option (Instr × Nat) := (cond (Nat.ble pc 9) (cond (Nat.ble pc 3) (cond (Nat.ble pc 1) (cond (Nat.ble pc 0) (cond (Nat.beq pc 0) (some (.aload_n 2, 1)) none) (cond (Nat.beq pc 1) (some (.iconst 0, 1)) none)) (cond (Nat.ble pc 2) (cond (Nat.beq pc 2) (some (.aload_n 0, 1)) none) (cond (Nat.beq pc 3) (some (.iload_n 1, 1)) none))) (cond (Nat.ble pc 7) (cond (Nat.ble pc 4) (cond (Nat.beq pc 4) (some (.invokevirtual 71, 3)) none) (cond (Nat.beq pc 7) (some (.i2l, 1)) none)) (cond (Nat.ble pc 8) (cond (Nat.beq pc 8) (some (.lastore, 1)) none) (cond (Nat.beq pc 9) (some (.goto 9, 3)) none)))) (cond (Nat.ble pc 15) (cond (Nat.ble pc 13) (cond (Nat.ble pc 12) (cond (Nat.beq pc 12) (some (.astore_n 3, 1)) none) (cond (Nat.beq pc 13) (some (.iconst 1, 1)) none)) (cond (Nat.ble pc 14) (cond (Nat.beq pc 14) (some (.ireturn, 1)) none) (cond (Nat.beq pc 15) (some (.astore_n 3, 1)) none))) (cond (Nat.ble pc 17) (cond (Nat.ble pc 16) (cond (Nat.beq pc 16) (some (.iconst 2, 1)) none) (cond (Nat.beq pc 17) (some (.ireturn, 1)) none)) (cond (Nat.ble pc 18) (cond (Nat.beq pc 18) (some (.iconst 0, 1)) none) (cond (Nat.beq pc 19) (some (.ireturn, 1)) none)))))
theorem tkX0_way : tkAll cX0_way tbX0_way := fun pc => (tk_b (tk_b (tk_b (tk_b (tk_l dX0_way_0) (tk_l dX0_way_1)) (tk_b (tk_l dX0_way_2) (tk_l dX0_way_3))) (tk_b (tk_b (tk_l dX0_way_4) (tk_l dX0_way_7)) (tk_b (tk_l dX0_way_8) (tk_l dX0_way_9)))) (tk_b (tk_b (tk_b (tk_l dX0_way_12) (tk_l dX0_way_13)) (tk_b (tk_l dX0_way_14) (tk_l dX0_way_15))) (tk_b (tk_b (tk_l dX0_way_16) (tk_l dX0_way_17)) (tk_b (tk_l dX0_way_18) (tk_l dX0_way_19)))))
def tbX0_cut (pc : Nat) : Option (Instr × Nat) := (cond (Nat.ble pc 11) (cond (Nat.ble pc 4) (cond (Nat.ble pc 2) (cond (Nat.ble pc 0) (cond (Nat.beq pc 0) (some (.aload 4, 2)) none) (cond (Nat.beq pc 2) (some (.iconst 0, 1)) none)) (cond (Nat.ble pc 3) (cond (Nat.beq pc 3) (some (.aload_n 0, 1)) none) (cond (Nat.beq pc 4) (some (.iload_n 1, 1)) none))) (cond (Nat.ble pc 6) (cond (Nat.ble pc 5) (cond (Nat.beq pc 5) (some (.iload_n 2, 1)) none) (cond (Nat.beq pc 6) (some (.iload_n 3, 1)) none)) (cond (Nat.ble pc 7) (cond (Nat.beq pc 7) (some (.invokevirtual 74, 3)) none) (cond (Nat.ble pc 10) (cond (Nat.beq pc 10) (some (.i2l, 1)) none) (cond (Nat.beq pc 11) (some (.lastore, 1)) none))))) (cond (Nat.ble pc 18) (cond (Nat.ble pc 15) (cond (Nat.ble pc 12) (cond (Nat.beq pc 12) (some (.goto 11, 3)) none) (cond (Nat.beq pc 15) (some (.astore 5, 2)) none)) (cond (Nat.ble pc 17) (cond (Nat.beq pc 17) (some (.iconst 1, 1)) none) (cond (Nat.beq pc 18) (some (.ireturn, 1)) none))) (cond (Nat.ble pc 21) (cond (Nat.ble pc 19) (cond (Nat.beq pc 19) (some (.astore 5, 2)) none) (cond (Nat.beq pc 21) (some (.iconst 2, 1)) none)) (cond (Nat.ble pc 22) (cond (Nat.beq pc 22) (some (.ireturn, 1)) none) (cond (Nat.ble pc 23) (cond (Nat.beq pc 23) (some (.iconst 0, 1)) none) (cond (Nat.beq pc 24) (some (.ireturn, 1)) none))))))
theorem tkX0_cut : tkAll cX0_cut tbX0_cut := fun pc => (tk_b (tk_b (tk_b (tk_b (tk_l dX0_cut_0) (tk_l dX0_cut_2)) (tk_b (tk_l dX0_cut_3) (tk_l dX0_cut_4))) (tk_b (tk_b (tk_l dX0_cut_5) (tk_l dX0_cut_6)) (tk_b (tk_l dX0_cut_7) (tk_b (tk_l dX0_cut_10) (tk_l dX0_cut_11))))) (tk_b (tk_b (tk_b (tk_l dX0_cut_12) (tk_l dX0_cut_15)) (tk_b (tk_l dX0_cut_17) (tk_l dX0_cut_18))) (tk_b (tk_b (tk_l dX0_cut_19) (tk_l dX0_cut_21)) (tk_b (tk_l dX0_cut_22) (tk_b (tk_l dX0_cut_23) (tk_l dX0_cut_24))))))
def tbX0_mend (pc : Nat) : Option (Instr × Nat) := (cond (Nat.ble pc 10) (cond (Nat.ble pc 2) (cond (Nat.ble pc 0) (cond (Nat.beq pc 0) (some (.aload_n 0, 1)) none) (cond (Nat.ble pc 1) (cond (Nat.beq pc 1) (some (.iload_n 1, 1)) none) (cond (Nat.beq pc 2) (some (.iload_n 2, 1)) none))) (cond (Nat.ble pc 4) (cond (Nat.ble pc 3) (cond (Nat.beq pc 3) (some (.iload_n 3, 1)) none) (cond (Nat.beq pc 4) (some (.invokevirtual 77, 3)) none)) (cond (Nat.ble pc 7) (cond (Nat.beq pc 7) (some (.goto 11, 3)) none) (cond (Nat.beq pc 10) (some (.astore 4, 2)) none)))) (cond (Nat.ble pc 14) (cond (Nat.ble pc 12) (cond (Nat.beq pc 12) (some (.iconst 1, 1)) none) (cond (Nat.ble pc 13) (cond (Nat.beq pc 13) (some (.ireturn, 1)) none) (cond (Nat.beq pc 14) (some (.astore 4, 2)) none))) (cond (Nat.ble pc 17) (cond (Nat.ble pc 16) (cond (Nat.beq pc 16) (some (.iconst 2, 1)) none) (cond (Nat.beq pc 17) (some (.ireturn, 1)) none)) (cond (Nat.ble pc 18) (cond (Nat.beq pc 18) (some (.iconst 0, 1)) none) (cond (Nat.beq pc 19) (some (.ireturn, 1)) none)))))
theorem tkX0_mend : tkAll cX0_mend tbX0_mend := fun pc => (tk_b (tk_b (tk_b (tk_l dX0_mend_0) (tk_b (tk_l dX0_mend_1) (tk_l dX0_mend_2))) (tk_b (tk_b (tk_l dX0_mend_3) (tk_l dX0_mend_4)) (tk_b (tk_l dX0_mend_7) (tk_l dX0_mend_10)))) (tk_b (tk_b (tk_l dX0_mend_12) (tk_b (tk_l dX0_mend_13) (tk_l dX0_mend_14))) (tk_b (tk_b (tk_l dX0_mend_16) (tk_l dX0_mend_17)) (tk_b (tk_l dX0_mend_18) (tk_l dX0_mend_19)))))
def tbX0_trunk (pc : Nat) : Option (Instr × Nat) := (cond (Nat.ble pc 7) (cond (Nat.ble pc 3) (cond (Nat.ble pc 0) (cond (Nat.beq pc 0) (some (.aload 4, 2)) none) (cond (Nat.ble pc 2) (cond (Nat.beq pc 2) (some (.iconst 0, 1)) none) (cond (Nat.beq pc 3) (some (.aload_n 0, 1)) none))) (cond (Nat.ble pc 5) (cond (Nat.ble pc 4) (cond (Nat.beq pc 4) (some (.iload_n 1, 1)) none) (cond (Nat.beq pc 5) (some (.iload_n 2, 1)) none)) (cond (Nat.ble pc 6) (cond (Nat.beq pc 6) (some (.iload_n 3, 1)) none) (cond (Nat.beq pc 7) (some (.invokevirtual 81, 3)) none)))) (cond (Nat.ble pc 15) (cond (Nat.ble pc 11) (cond (Nat.ble pc 10) (cond (Nat.beq pc 10) (some (.i2l, 1)) none) (cond (Nat.beq pc 11) (some (.lastore, 1)) none)) (cond (Nat.ble pc 12) (cond (Nat.beq pc 12) (some (.goto 7, 3)) none) (cond (Nat.beq pc 15) (some (.astore 5, 2)) none))) (cond (Nat.ble pc 18) (cond (Nat.ble pc 17) (cond (Nat.beq pc 17) (some (.iconst 1, 1)) none) (cond (Nat.beq pc 18) (some (.ireturn, 1)) none)) (cond (Nat.ble pc 19) (cond (Nat.beq pc 19) (some (.iconst 0, 1)) none) (cond (Nat.beq pc 20) (some (.ireturn, 1)) none)))))
theorem tkX0_trunk : tkAll cX0_trunk tbX0_trunk := fun pc => (tk_b (tk_b (tk_b (tk_l dX0_trunk_0) (tk_b (tk_l dX0_trunk_2) (tk_l dX0_trunk_3))) (tk_b (tk_b (tk_l dX0_trunk_4) (tk_l dX0_trunk_5)) (tk_b (tk_l dX0_trunk_6) (tk_l dX0_trunk_7)))) (tk_b (tk_b (tk_b (tk_l dX0_trunk_10) (tk_l dX0_trunk_11)) (tk_b (tk_l dX0_trunk_12) (tk_l dX0_trunk_15))) (tk_b (tk_b (tk_l dX0_trunk_17) (tk_l dX0_trunk_18)) (tk_b (tk_l dX0_trunk_19) (tk_l dX0_trunk_20)))))
def tbX0_setLines (pc : Nat) : Option (Instr × Nat) := (cond (Nat.ble pc 9) (cond (Nat.ble pc 3) (cond (Nat.ble pc 1) (cond (Nat.ble pc 0) (cond (Nat.beq pc 0) (some (.aload_n 3, 1)) none) (cond (Nat.beq pc 1) (some (.iconst 0, 1)) none)) (cond (Nat.ble pc 2) (cond (Nat.beq pc 2) (some (.aload_n 0, 1)) none) (cond (Nat.beq pc 3) (some (.iload_n 1, 1)) none))) (cond (Nat.ble pc 5) (cond (Nat.ble pc 4) (cond (Nat.beq pc 4) (some (.iload_n 2, 1)) none) (cond (Nat.beq pc 5) (some (.invokevirtual 84, 3)) none)) (cond (Nat.ble pc 8) (cond (Nat.beq pc 8) (some (.i2l, 1)) none) (cond (Nat.beq pc 9) (some (.lastore, 1)) none)))) (cond (Nat.ble pc 16) (cond (Nat.ble pc 13) (cond (Nat.ble pc 10) (cond (Nat.beq pc 10) (some (.goto 11, 3)) none) (cond (Nat.beq pc 13) (some (.astore 4, 2)) none)) (cond (Nat.ble pc 15) (cond (Nat.beq pc 15) (some (.iconst 1, 1)) none) (cond (Nat.beq pc 16) (some (.ireturn, 1)) none))) (cond (Nat.ble pc 19) (cond (Nat.ble pc 17) (cond (Nat.beq pc 17) (some (.astore 4, 2)) none) (cond (Nat.beq pc 19) (some (.iconst 2, 1)) none)) (cond (Nat.ble pc 20) (cond (Nat.beq pc 20) (some (.ireturn, 1)) none) (cond (Nat.ble pc 21) (cond (Nat.beq pc 21) (some (.iconst 0, 1)) none) (cond (Nat.beq pc 22) (some (.ireturn, 1)) none))))))
theorem tkX0_setLines : tkAll cX0_setLines tbX0_setLines := fun pc => (tk_b (tk_b (tk_b (tk_b (tk_l dX0_setLines_0) (tk_l dX0_setLines_1)) (tk_b (tk_l dX0_setLines_2) (tk_l dX0_setLines_3))) (tk_b (tk_b (tk_l dX0_setLines_4) (tk_l dX0_setLines_5)) (tk_b (tk_l dX0_setLines_8) (tk_l dX0_setLines_9)))) (tk_b (tk_b (tk_b (tk_l dX0_setLines_10) (tk_l dX0_setLines_13)) (tk_b (tk_l dX0_setLines_15) (tk_l dX0_setLines_16))) (tk_b (tk_b (tk_l dX0_setLines_17) (tk_l dX0_setLines_19)) (tk_b (tk_l dX0_setLines_20) (tk_b (tk_l dX0_setLines_21) (tk_l dX0_setLines_22))))))
def tbX0_pass (pc : Nat) : Option (Instr × Nat) := (cond (Nat.ble pc 9) (cond (Nat.ble pc 3) (cond (Nat.ble pc 1) (cond (Nat.ble pc 0) (cond (Nat.beq pc 0) (some (.aload_n 2, 1)) none) (cond (Nat.beq pc 1) (some (.iconst 0, 1)) none)) (cond (Nat.ble pc 2) (cond (Nat.beq pc 2) (some (.aload_n 0, 1)) none) (cond (Nat.beq pc 3) (some (.iload_n 1, 1)) none))) (cond (Nat.ble pc 7) (cond (Nat.ble pc 4) (cond (Nat.beq pc 4) (some (.invokevirtual 87, 3)) none) (cond (Nat.beq pc 7) (some (.i2l, 1)) none)) (cond (Nat.ble pc 8) (cond (Nat.beq pc 8) (some (.lastore, 1)) none) (cond (Nat.beq pc 9) (some (.goto 9, 3)) none)))) (cond (Nat.ble pc 15) (cond (Nat.ble pc 13) (cond (Nat.ble pc 12) (cond (Nat.beq pc 12) (some (.astore_n 3, 1)) none) (cond (Nat.beq pc 13) (some (.iconst 1, 1)) none)) (cond (Nat.ble pc 14) (cond (Nat.beq pc 14) (some (.ireturn, 1)) none) (cond (Nat.beq pc 15) (some (.astore_n 3, 1)) none))) (cond (Nat.ble pc 17) (cond (Nat.ble pc 16) (cond (Nat.beq pc 16) (some (.iconst 2, 1)) none) (cond (Nat.beq pc 17) (some (.ireturn, 1)) none)) (cond (Nat.ble pc 18) (cond (Nat.beq pc 18) (some (.iconst 0, 1)) none) (cond (Nat.beq pc 19) (some (.ireturn, 1)) none)))))
theorem tkX0_pass : tkAll cX0_pass tbX0_pass := fun pc => (tk_b (tk_b (tk_b (tk_b (tk_l dX0_pass_0) (tk_l dX0_pass_1)) (tk_b (tk_l dX0_pass_2) (tk_l dX0_pass_3))) (tk_b (tk_b (tk_l dX0_pass_4) (tk_l dX0_pass_7)) (tk_b (tk_l dX0_pass_8) (tk_l dX0_pass_9)))) (tk_b (tk_b (tk_b (tk_l dX0_pass_12) (tk_l dX0_pass_13)) (tk_b (tk_l dX0_pass_14) (tk_l dX0_pass_15))) (tk_b (tk_b (tk_l dX0_pass_16) (tk_l dX0_pass_17)) (tk_b (tk_l dX0_pass_18) (tk_l dX0_pass_19)))))
def tbX0_state (pc : Nat) : Option (Instr × Nat) := (cond (Nat.ble pc 7) (cond (Nat.ble pc 2) (cond (Nat.ble pc 0) (cond (Nat.beq pc 0) (some (.aload_n 2, 1)) none) (cond (Nat.ble pc 1) (cond (Nat.beq pc 1) (some (.iconst 0, 1)) none) (cond (Nat.beq pc 2) (some (.aload_n 0, 1)) none))) (cond (Nat.ble pc 3) (cond (Nat.beq pc 3) (some (.iload_n 1, 1)) none) (cond (Nat.ble pc 4) (cond (Nat.beq pc 4) (some (.invokevirtual 90, 3)) none) (cond (Nat.beq pc 7) (some (.i2l, 1)) none)))) (cond (Nat.ble pc 12) (cond (Nat.ble pc 8) (cond (Nat.beq pc 8) (some (.lastore, 1)) none) (cond (Nat.ble pc 9) (cond (Nat.beq pc 9) (some (.goto 6, 3)) none) (cond (Nat.beq pc 12) (some (.astore_n 3, 1)) none))) (cond (Nat.ble pc 14) (cond (Nat.ble pc 13) (cond (Nat.beq pc 13) (some (.iconst 1, 1)) none) (cond (Nat.beq pc 14) (some (.ireturn, 1)) none)) (cond (Nat.ble pc 15) (cond (Nat.beq pc 15) (some (.iconst 0, 1)) none) (cond (Nat.beq pc 16) (some (.ireturn, 1)) none)))))
theorem tkX0_state : tkAll cX0_state tbX0_state := fun pc => (tk_b (tk_b (tk_b (tk_l dX0_state_0) (tk_b (tk_l dX0_state_1) (tk_l dX0_state_2))) (tk_b (tk_l dX0_state_3) (tk_b (tk_l dX0_state_4) (tk_l dX0_state_7)))) (tk_b (tk_b (tk_l dX0_state_8) (tk_b (tk_l dX0_state_9) (tk_l dX0_state_12))) (tk_b (tk_b (tk_l dX0_state_13) (tk_l dX0_state_14)) (tk_b (tk_l dX0_state_15) (tk_l dX0_state_16)))))
def tbX0_wagons (pc : Nat) : Option (Instr × Nat) := (cond (Nat.ble pc 7) (cond (Nat.ble pc 2) (cond (Nat.ble pc 0) (cond (Nat.beq pc 0) (some (.aload_n 2, 1)) none) (cond (Nat.ble pc 1) (cond (Nat.beq pc 1) (some (.iconst 0, 1)) none) (cond (Nat.beq pc 2) (some (.aload_n 0, 1)) none))) (cond (Nat.ble pc 3) (cond (Nat.beq pc 3) (some (.iload_n 1, 1)) none) (cond (Nat.ble pc 4) (cond (Nat.beq pc 4) (some (.invokevirtual 93, 3)) none) (cond (Nat.beq pc 7) (some (.i2l, 1)) none)))) (cond (Nat.ble pc 12) (cond (Nat.ble pc 8) (cond (Nat.beq pc 8) (some (.lastore, 1)) none) (cond (Nat.ble pc 9) (cond (Nat.beq pc 9) (some (.goto 6, 3)) none) (cond (Nat.beq pc 12) (some (.astore_n 3, 1)) none))) (cond (Nat.ble pc 14) (cond (Nat.ble pc 13) (cond (Nat.beq pc 13) (some (.iconst 1, 1)) none) (cond (Nat.beq pc 14) (some (.ireturn, 1)) none)) (cond (Nat.ble pc 15) (cond (Nat.beq pc 15) (some (.iconst 0, 1)) none) (cond (Nat.beq pc 16) (some (.ireturn, 1)) none)))))
theorem tkX0_wagons : tkAll cX0_wagons tbX0_wagons := fun pc => (tk_b (tk_b (tk_b (tk_l dX0_wagons_0) (tk_b (tk_l dX0_wagons_1) (tk_l dX0_wagons_2))) (tk_b (tk_l dX0_wagons_3) (tk_b (tk_l dX0_wagons_4) (tk_l dX0_wagons_7)))) (tk_b (tk_b (tk_l dX0_wagons_8) (tk_b (tk_l dX0_wagons_9) (tk_l dX0_wagons_12))) (tk_b (tk_b (tk_l dX0_wagons_13) (tk_l dX0_wagons_14)) (tk_b (tk_l dX0_wagons_15) (tk_l dX0_wagons_16)))))
def tbX0_wagonOf (pc : Nat) : Option (Instr × Nat) := (cond (Nat.ble pc 8) (cond (Nat.ble pc 2) (cond (Nat.ble pc 0) (cond (Nat.beq pc 0) (some (.aload_n 3, 1)) none) (cond (Nat.ble pc 1) (cond (Nat.beq pc 1) (some (.iconst 0, 1)) none) (cond (Nat.beq pc 2) (some (.aload_n 0, 1)) none))) (cond (Nat.ble pc 4) (cond (Nat.ble pc 3) (cond (Nat.beq pc 3) (some (.iload_n 1, 1)) none) (cond (Nat.beq pc 4) (some (.iload_n 2, 1)) none)) (cond (Nat.ble pc 5) (cond (Nat.beq pc 5) (some (.invokevirtual 96, 3)) none) (cond (Nat.beq pc 8) (some (.i2l, 1)) none)))) (cond (Nat.ble pc 13) (cond (Nat.ble pc 9) (cond (Nat.beq pc 9) (some (.lastore, 1)) none) (cond (Nat.ble pc 10) (cond (Nat.beq pc 10) (some (.goto 7, 3)) none) (cond (Nat.beq pc 13) (some (.astore 4, 2)) none))) (cond (Nat.ble pc 16) (cond (Nat.ble pc 15) (cond (Nat.beq pc 15) (some (.iconst 1, 1)) none) (cond (Nat.beq pc 16) (some (.ireturn, 1)) none)) (cond (Nat.ble pc 17) (cond (Nat.beq pc 17) (some (.iconst 0, 1)) none) (cond (Nat.beq pc 18) (some (.ireturn, 1)) none)))))
theorem tkX0_wagonOf : tkAll cX0_wagonOf tbX0_wagonOf := fun pc => (tk_b (tk_b (tk_b (tk_l dX0_wagonOf_0) (tk_b (tk_l dX0_wagonOf_1) (tk_l dX0_wagonOf_2))) (tk_b (tk_b (tk_l dX0_wagonOf_3) (tk_l dX0_wagonOf_4)) (tk_b (tk_l dX0_wagonOf_5) (tk_l dX0_wagonOf_8)))) (tk_b (tk_b (tk_l dX0_wagonOf_9) (tk_b (tk_l dX0_wagonOf_10) (tk_l dX0_wagonOf_13))) (tk_b (tk_b (tk_l dX0_wagonOf_15) (tk_l dX0_wagonOf_16)) (tk_b (tk_l dX0_wagonOf_17) (tk_l dX0_wagonOf_18)))))
def tbX0_lapses (pc : Nat) : Option (Instr × Nat) := (cond (Nat.ble pc 9) (cond (Nat.ble pc 3) (cond (Nat.ble pc 1) (cond (Nat.ble pc 0) (cond (Nat.beq pc 0) (some (.aload_n 2, 1)) none) (cond (Nat.beq pc 1) (some (.iconst 0, 1)) none)) (cond (Nat.ble pc 2) (cond (Nat.beq pc 2) (some (.aload_n 0, 1)) none) (cond (Nat.beq pc 3) (some (.iload_n 1, 1)) none))) (cond (Nat.ble pc 7) (cond (Nat.ble pc 4) (cond (Nat.beq pc 4) (some (.invokevirtual 99, 3)) none) (cond (Nat.beq pc 7) (some (.i2l, 1)) none)) (cond (Nat.ble pc 8) (cond (Nat.beq pc 8) (some (.lastore, 1)) none) (cond (Nat.beq pc 9) (some (.goto 9, 3)) none)))) (cond (Nat.ble pc 15) (cond (Nat.ble pc 13) (cond (Nat.ble pc 12) (cond (Nat.beq pc 12) (some (.astore_n 3, 1)) none) (cond (Nat.beq pc 13) (some (.iconst 1, 1)) none)) (cond (Nat.ble pc 14) (cond (Nat.beq pc 14) (some (.ireturn, 1)) none) (cond (Nat.beq pc 15) (some (.astore_n 3, 1)) none))) (cond (Nat.ble pc 17) (cond (Nat.ble pc 16) (cond (Nat.beq pc 16) (some (.iconst 2, 1)) none) (cond (Nat.beq pc 17) (some (.ireturn, 1)) none)) (cond (Nat.ble pc 18) (cond (Nat.beq pc 18) (some (.iconst 0, 1)) none) (cond (Nat.beq pc 19) (some (.ireturn, 1)) none)))))
theorem tkX0_lapses : tkAll cX0_lapses tbX0_lapses := fun pc => (tk_b (tk_b (tk_b (tk_b (tk_l dX0_lapses_0) (tk_l dX0_lapses_1)) (tk_b (tk_l dX0_lapses_2) (tk_l dX0_lapses_3))) (tk_b (tk_b (tk_l dX0_lapses_4) (tk_l dX0_lapses_7)) (tk_b (tk_l dX0_lapses_8) (tk_l dX0_lapses_9)))) (tk_b (tk_b (tk_b (tk_l dX0_lapses_12) (tk_l dX0_lapses_13)) (tk_b (tk_l dX0_lapses_14) (tk_l dX0_lapses_15))) (tk_b (tk_b (tk_l dX0_lapses_16) (tk_l dX0_lapses_17)) (tk_b (tk_l dX0_lapses_18) (tk_l dX0_lapses_19)))))
def tbX0_depart (pc : Nat) : Option (Instr × Nat) := (cond (Nat.ble pc 11) (cond (Nat.ble pc 4) (cond (Nat.ble pc 2) (cond (Nat.ble pc 0) (cond (Nat.beq pc 0) (some (.aload 4, 2)) none) (cond (Nat.beq pc 2) (some (.iconst 0, 1)) none)) (cond (Nat.ble pc 3) (cond (Nat.beq pc 3) (some (.aload_n 0, 1)) none) (cond (Nat.beq pc 4) (some (.iload_n 1, 1)) none))) (cond (Nat.ble pc 6) (cond (Nat.ble pc 5) (cond (Nat.beq pc 5) (some (.iload_n 2, 1)) none) (cond (Nat.beq pc 6) (some (.iload_n 3, 1)) none)) (cond (Nat.ble pc 7) (cond (Nat.beq pc 7) (some (.invokevirtual 102, 3)) none) (cond (Nat.ble pc 10) (cond (Nat.beq pc 10) (some (.i2l, 1)) none) (cond (Nat.beq pc 11) (some (.lastore, 1)) none))))) (cond (Nat.ble pc 18) (cond (Nat.ble pc 15) (cond (Nat.ble pc 12) (cond (Nat.beq pc 12) (some (.goto 11, 3)) none) (cond (Nat.beq pc 15) (some (.astore 5, 2)) none)) (cond (Nat.ble pc 17) (cond (Nat.beq pc 17) (some (.iconst 1, 1)) none) (cond (Nat.beq pc 18) (some (.ireturn, 1)) none))) (cond (Nat.ble pc 21) (cond (Nat.ble pc 19) (cond (Nat.beq pc 19) (some (.astore 5, 2)) none) (cond (Nat.beq pc 21) (some (.iconst 2, 1)) none)) (cond (Nat.ble pc 22) (cond (Nat.beq pc 22) (some (.ireturn, 1)) none) (cond (Nat.ble pc 23) (cond (Nat.beq pc 23) (some (.iconst 0, 1)) none) (cond (Nat.beq pc 24) (some (.ireturn, 1)) none))))))
theorem tkX0_depart : tkAll cX0_depart tbX0_depart := fun pc => (tk_b (tk_b (tk_b (tk_b (tk_l dX0_depart_0) (tk_l dX0_depart_2)) (tk_b (tk_l dX0_depart_3) (tk_l dX0_depart_4))) (tk_b (tk_b (tk_l dX0_depart_5) (tk_l dX0_depart_6)) (tk_b (tk_l dX0_depart_7) (tk_b (tk_l dX0_depart_10) (tk_l dX0_depart_11))))) (tk_b (tk_b (tk_b (tk_l dX0_depart_12) (tk_l dX0_depart_15)) (tk_b (tk_l dX0_depart_17) (tk_l dX0_depart_18))) (tk_b (tk_b (tk_l dX0_depart_19) (tk_l dX0_depart_21)) (tk_b (tk_l dX0_depart_22) (tk_b (tk_l dX0_depart_23) (tk_l dX0_depart_24))))))
def tbX0_arrive (pc : Nat) : Option (Instr × Nat) := (cond (Nat.ble pc 13) (cond (Nat.ble pc 4) (cond (Nat.ble pc 1) (cond (Nat.ble pc 0) (cond (Nat.beq pc 0) (some (.aload_n 3, 1)) none) (cond (Nat.beq pc 1) (some (.iconst 0, 1)) none)) (cond (Nat.ble pc 2) (cond (Nat.beq pc 2) (some (.aload_n 0, 1)) none) (cond (Nat.ble pc 3) (cond (Nat.beq pc 3) (some (.iload_n 1, 1)) none) (cond (Nat.beq pc 4) (some (.iload_n 2, 1)) none)))) (cond (Nat.ble pc 8) (cond (Nat.ble pc 5) (cond (Nat.beq pc 5) (some (.invokevirtual 105, 3)) none) (cond (Nat.beq pc 8) (some (.i2l, 1)) none)) (cond (Nat.ble pc 9) (cond (Nat.beq pc 9) (some (.lastore, 1)) none) (cond (Nat.ble pc 10) (cond (Nat.beq pc 10) (some (.goto 15, 3)) none) (cond (Nat.beq pc 13) (some (.astore 4, 2)) none))))) (cond (Nat.ble pc 20) (cond (Nat.ble pc 16) (cond (Nat.ble pc 15) (cond (Nat.beq pc 15) (some (.iconst 1, 1)) none) (cond (Nat.beq pc 16) (some (.ireturn, 1)) none)) (cond (Nat.ble pc 17) (cond (Nat.beq pc 17) (some (.astore 4, 2)) none) (cond (Nat.ble pc 19) (cond (Nat.beq pc 19) (some (.iconst 2, 1)) none) (cond (Nat.beq pc 20) (some (.ireturn, 1)) none)))) (cond (Nat.ble pc 23) (cond (Nat.ble pc 21) (cond (Nat.beq pc 21) (some (.astore 4, 2)) none) (cond (Nat.beq pc 23) (some (.iconst 3, 1)) none)) (cond (Nat.ble pc 24) (cond (Nat.beq pc 24) (some (.ireturn, 1)) none) (cond (Nat.ble pc 25) (cond (Nat.beq pc 25) (some (.iconst 0, 1)) none) (cond (Nat.beq pc 26) (some (.ireturn, 1)) none))))))
theorem tkX0_arrive : tkAll cX0_arrive tbX0_arrive := fun pc => (tk_b (tk_b (tk_b (tk_b (tk_l dX0_arrive_0) (tk_l dX0_arrive_1)) (tk_b (tk_l dX0_arrive_2) (tk_b (tk_l dX0_arrive_3) (tk_l dX0_arrive_4)))) (tk_b (tk_b (tk_l dX0_arrive_5) (tk_l dX0_arrive_8)) (tk_b (tk_l dX0_arrive_9) (tk_b (tk_l dX0_arrive_10) (tk_l dX0_arrive_13))))) (tk_b (tk_b (tk_b (tk_l dX0_arrive_15) (tk_l dX0_arrive_16)) (tk_b (tk_l dX0_arrive_17) (tk_b (tk_l dX0_arrive_19) (tk_l dX0_arrive_20)))) (tk_b (tk_b (tk_l dX0_arrive_21) (tk_l dX0_arrive_23)) (tk_b (tk_l dX0_arrive_24) (tk_b (tk_l dX0_arrive_25) (tk_l dX0_arrive_26))))))
def tbL_law (pc : Nat) : Option (Instr × Nat) := (cond (Nat.ble pc 1131) (cond (Nat.ble pc 627) (cond (Nat.ble pc 383) (cond (Nat.ble pc 260) (cond (Nat.ble pc 199) (cond (Nat.ble pc 32) (cond (Nat.ble pc 17) (cond (Nat.ble pc 8) (cond (Nat.ble pc 3) (cond (Nat.ble pc 0) (cond (Nat.beq pc 0) (some (.new 8, 3)) none) (cond (Nat.beq pc 3) (some (.dup, 1)) none)) (cond (Nat.ble pc 4) (cond (Nat.beq pc 4) (some (.invokespecial 108, 3)) none) (cond (Nat.ble pc 7) (cond (Nat.beq pc 7) (some (.astore_n 1, 1)) none) (cond (Nat.beq pc 8) (some (.new 109, 3)) none)))) (cond (Nat.ble pc 12) (cond (Nat.ble pc 11) (cond (Nat.beq pc 11) (some (.dup, 1)) none) (cond (Nat.beq pc 12) (some (.invokespecial 111, 3)) none)) (cond (Nat.ble pc 15) (cond (Nat.beq pc 15) (some (.astore_n 2, 1)) none) (cond (Nat.ble pc 16) (cond (Nat.beq pc 16) (some (.iconst 1, 1)) none) (cond (Nat.beq pc 17) (some (.newarray .long, 2)) none))))) (cond (Nat.ble pc 25) (cond (Nat.ble pc 20) (cond (Nat.ble pc 19) (cond (Nat.beq pc 19) (some (.astore_n 3, 1)) none) (cond (Nat.beq pc 20) (some (.iconst 0, 1)) none)) (cond (Nat.ble pc 21) (cond (Nat.beq pc 21) (some (.istore 4, 2)) none) (cond (Nat.ble pc 23) (cond (Nat.beq pc 23) (some (.iload 4, 2)) none) (cond (Nat.beq pc 25) (some (.aload_n 0, 1)) none)))) (cond (Nat.ble pc 27) (cond (Nat.ble pc 26) (cond (Nat.beq pc 26) (some (.arraylength, 1)) none) (cond (Nat.beq pc 27) (some (.iconst 5, 1)) none)) (cond (Nat.ble pc 28) (cond (Nat.beq pc 28) (some (.isub, 1)) none) (cond (Nat.ble pc 29) (cond (Nat.beq pc 29) (some (.if_icmp .gt 2107, 3)) none) (cond (Nat.beq pc 32) (some (.aload_n 0, 1)) none)))))) (cond (Nat.ble pc 185) (cond (Nat.ble pc 39) (cond (Nat.ble pc 35) (cond (Nat.ble pc 33) (cond (Nat.beq pc 33) (some (.iload 4, 2)) none) (cond (Nat.beq pc 35) (some (.iaload, 1)) none)) (cond (Nat.ble pc 36) (cond (Nat.beq pc 36) (some (.bipush 31, 2)) none) (cond (Nat.ble pc 38) (cond (Nat.beq pc 38) (some (.iand, 1)) none) (cond (Nat.beq pc 39) (some (.tableswitch 2091 0 31 #[141, 209, 301, 357, 432, 500, 580, 660, 716, 772, 828, 896, 964, 1020, 1088, 1156, 1212, 1268, 1324, 1337, 1417, 1477, 1557, 1625, 1681, 1694, 1750, 1806, 1874, 1930, 2010, 2078], 141)) none)))) (cond (Nat.ble pc 181) (cond (Nat.ble pc 180) (cond (Nat.beq pc 180) (some (.aload_n 1, 1)) none) (cond (Nat.beq pc 181) (some (.aload_n 0, 1)) none)) (cond (Nat.ble pc 182) (cond (Nat.beq pc 182) (some (.iload 4, 2)) none) (cond (Nat.ble pc 184) (cond (Nat.beq pc 184) (some (.iconst 1, 1)) none) (cond (Nat.beq pc 185) (some (.iadd, 1)) none))))) (cond (Nat.ble pc 191) (cond (Nat.ble pc 187) (cond (Nat.ble pc 186) (cond (Nat.beq pc 186) (some (.iaload, 1)) none) (cond (Nat.beq pc 187) (some (.aload_n 0, 1)) none)) (cond (Nat.ble pc 188) (cond (Nat.beq pc 188) (some (.iload 4, 2)) none) (cond (Nat.ble pc 190) (cond (Nat.beq pc 190) (some (.iconst 2, 1)) none) (cond (Nat.beq pc 191) (some (.iadd, 1)) none)))) (cond (Nat.ble pc 193) (cond (Nat.ble pc 192) (cond (Nat.beq pc 192) (some (.iaload, 1)) none) (cond (Nat.beq pc 193) (some (.aload_n 3, 1)) none)) (cond (Nat.ble pc 194) (cond (Nat.beq pc 194) (some (.invokestatic 112, 3)) none) (cond (Nat.ble pc 197) (cond (Nat.beq pc 197) (some (.istore 5, 2)) none) (cond (Nat.beq pc 199) (some (.aload_n 2, 1)) none))))))) (cond (Nat.ble pc 230) (cond (Nat.ble pc 211) (cond (Nat.ble pc 205) (cond (Nat.ble pc 201) (cond (Nat.ble pc 200) (cond (Nat.beq pc 200) (some (.aload_n 0, 1)) none) (cond (Nat.beq pc 201) (some (.iload 4, 2)) none)) (cond (Nat.ble pc 203) (cond (Nat.beq pc 203) (some (.iconst 1, 1)) none) (cond (Nat.ble pc 204) (cond (Nat.beq pc 204) (some (.iadd, 1)) none) (cond (Nat.beq pc 205) (some (.iaload, 1)) none)))) (cond (Nat.ble pc 207) (cond (Nat.ble pc 206) (cond (Nat.beq pc 206) (some (.aload_n 0, 1)) none) (cond (Nat.beq pc 207) (some (.iload 4, 2)) none)) (cond (Nat.ble pc 209) (cond (Nat.beq pc 209) (some (.iconst 2, 1)) none) (cond (Nat.ble pc 210) (cond (Nat.beq pc 210) (some (.iadd, 1)) none) (cond (Nat.beq pc 211) (some (.iaload, 1)) none))))) (cond (Nat.ble pc 221) (cond (Nat.ble pc 215) (cond (Nat.ble pc 212) (cond (Nat.beq pc 212) (some (.invokevirtual 117, 3)) none) (cond (Nat.beq pc 215) (some (.istore 6, 2)) none)) (cond (Nat.ble pc 217) (cond (Nat.beq pc 217) (some (.aload_n 2, 1)) none) (cond (Nat.ble pc 218) (cond (Nat.beq pc 218) (some (.invokevirtual 118, 3)) none) (cond (Nat.beq pc 221) (some (.iload 5, 2)) none)))) (cond (Nat.ble pc 226) (cond (Nat.ble pc 223) (cond (Nat.beq pc 223) (some (.if_icmp .eq 5, 3)) none) (cond (Nat.beq pc 226) (some (.iconst 0, 1)) none)) (cond (Nat.ble pc 227) (cond (Nat.beq pc 227) (some (.ireturn, 1)) none) (cond (Nat.ble pc 228) (cond (Nat.beq pc 228) (some (.iload 5, 2)) none) (cond (Nat.beq pc 230) (some (.ifCond .ne 15, 3)) none)))))) (cond (Nat.ble pc 245) (cond (Nat.ble pc 238) (cond (Nat.ble pc 234) (cond (Nat.ble pc 233) (cond (Nat.beq pc 233) (some (.aload_n 3, 1)) none) (cond (Nat.beq pc 234) (some (.iconst 0, 1)) none)) (cond (Nat.ble pc 235) (cond (Nat.beq pc 235) (some (.laload, 1)) none) (cond (Nat.ble pc 236) (cond (Nat.beq pc 236) (some (.iload 6, 2)) none) (cond (Nat.beq pc 238) (some (.i2l, 1)) none)))) (cond (Nat.ble pc 240) (cond (Nat.ble pc 239) (cond (Nat.beq pc 239) (some (.lcmp, 1)) none) (cond (Nat.beq pc 240) (some (.ifCond .eq 5, 3)) none)) (cond (Nat.ble pc 243) (cond (Nat.beq pc 243) (some (.iconst 0, 1)) none) (cond (Nat.ble pc 244) (cond (Nat.beq pc 244) (some (.ireturn, 1)) none) (cond (Nat.beq pc 245) (some (.goto 1885, 3)) none))))) (cond (Nat.ble pc 253) (cond (Nat.ble pc 249) (cond (Nat.ble pc 248) (cond (Nat.beq pc 248) (some (.aload_n 1, 1)) none) (cond (Nat.beq pc 249) (some (.aload_n 0, 1)) none)) (cond (Nat.ble pc 250) (cond (Nat.beq pc 250) (some (.iload 4, 2)) none) (cond (Nat.ble pc 252) (cond (Nat.beq pc 252) (some (.iconst 1, 1)) none) (cond (Nat.beq pc 253) (some (.iadd, 1)) none)))) (cond (Nat.ble pc 256) (cond (Nat.ble pc 254) (cond (Nat.beq pc 254) (some (.iaload, 1)) none) (cond (Nat.ble pc 255) (cond (Nat.beq pc 255) (some (.aload_n 0, 1)) none) (cond (Nat.beq pc 256) (some (.iload 4, 2)) none))) (cond (Nat.ble pc 258) (cond (Nat.beq pc 258) (some (.iconst 2, 1)) none) (cond (Nat.ble pc 259) (cond (Nat.beq pc 259) (some (.iadd, 1)) none) (cond (Nat.beq pc 260) (some (.iaload, 1)) none)))))))) (cond (Nat.ble pc 318) (cond (Nat.ble pc 286) (cond (Nat.ble pc 272) (cond (Nat.ble pc 266) (cond (Nat.ble pc 262) (cond (Nat.ble pc 261) (cond (Nat.beq pc 261) (some (.aload_n 0, 1)) none) (cond (Nat.beq pc 262) (some (.iload 4, 2)) none)) (cond (Nat.ble pc 264) (cond (Nat.beq pc 264) (some (.iconst 3, 1)) none) (cond (Nat.ble pc 265) (cond (Nat.beq pc 265) (some (.iadd, 1)) none) (cond (Nat.beq pc 266) (some (.iaload, 1)) none)))) (cond (Nat.ble pc 268) (cond (Nat.ble pc 267) (cond (Nat.beq pc 267) (some (.aload_n 0, 1)) none) (cond (Nat.beq pc 268) (some (.iload 4, 2)) none)) (cond (Nat.ble pc 270) (cond (Nat.beq pc 270) (some (.iconst 4, 1)) none) (cond (Nat.ble pc 271) (cond (Nat.beq pc 271) (some (.iadd, 1)) none) (cond (Nat.beq pc 272) (some (.iaload, 1)) none))))) (cond (Nat.ble pc 280) (cond (Nat.ble pc 274) (cond (Nat.ble pc 273) (cond (Nat.beq pc 273) (some (.aload_n 3, 1)) none) (cond (Nat.beq pc 274) (some (.invokestatic 122, 3)) none)) (cond (Nat.ble pc 277) (cond (Nat.beq pc 277) (some (.istore 5, 2)) none) (cond (Nat.ble pc 279) (cond (Nat.beq pc 279) (some (.aload_n 2, 1)) none) (cond (Nat.beq pc 280) (some (.aload_n 0, 1)) none)))) (cond (Nat.ble pc 283) (cond (Nat.ble pc 281) (cond (Nat.beq pc 281) (some (.iload 4, 2)) none) (cond (Nat.beq pc 283) (some (.iconst 1, 1)) none)) (cond (Nat.ble pc 284) (cond (Nat.beq pc 284) (some (.iadd, 1)) none) (cond (Nat.ble pc 285) (cond (Nat.beq pc 285) (some (.iaload, 1)) none) (cond (Nat.beq pc 286) (some (.aload_n 0, 1)) none)))))) (cond (Nat.ble pc 298) (cond (Nat.ble pc 292) (cond (Nat.ble pc 289) (cond (Nat.ble pc 287) (cond (Nat.beq pc 287) (some (.iload 4, 2)) none) (cond (Nat.beq pc 289) (some (.iconst 2, 1)) none)) (cond (Nat.ble pc 290) (cond (Nat.beq pc 290) (some (.iadd, 1)) none) (cond (Nat.ble pc 291) (cond (Nat.beq pc 291) (some (.iaload, 1)) none) (cond (Nat.beq pc 292) (some (.aload_n 0, 1)) none)))) (cond (Nat.ble pc 295) (cond (Nat.ble pc 293) (cond (Nat.beq pc 293) (some (.iload 4, 2)) none) (cond (Nat.beq pc 295) (some (.iconst 3, 1)) none)) (cond (Nat.ble pc 296) (cond (Nat.beq pc 296) (some (.iadd, 1)) none) (cond (Nat.ble pc 297) (cond (Nat.beq pc 297) (some (.iaload, 1)) none) (cond (Nat.beq pc 298) (some (.aload_n 0, 1)) none))))) (cond (Nat.ble pc 304) (cond (Nat.ble pc 301) (cond (Nat.ble pc 299) (cond (Nat.beq pc 299) (some (.iload 4, 2)) none) (cond (Nat.beq pc 301) (some (.iconst 4, 1)) none)) (cond (Nat.ble pc 302) (cond (Nat.beq pc 302) (some (.iadd, 1)) none) (cond (Nat.ble pc 303) (cond (Nat.beq pc 303) (some (.iaload, 1)) none) (cond (Nat.beq pc 304) (some (.invokevirtual 125, 3)) none)))) (cond (Nat.ble pc 310) (cond (Nat.ble pc 307) (cond (Nat.beq pc 307) (some (.istore 6, 2)) none) (cond (Nat.ble pc 309) (cond (Nat.beq pc 309) (some (.aload_n 2, 1)) none) (cond (Nat.beq pc 310) (some (.invokevirtual 118, 3)) none))) (cond (Nat.ble pc 313) (cond (Nat.beq pc 313) (some (.iload 5, 2)) none) (cond (Nat.ble pc 315) (cond (Nat.beq pc 315) (some (.if_icmp .eq 5, 3)) none) (cond (Nat.beq pc 318) (some (.iconst 0, 1)) none))))))) (cond (Nat.ble pc 347) (cond (Nat.ble pc 332) (cond (Nat.ble pc 326) (cond (Nat.ble pc 320) (cond (Nat.ble pc 319) (cond (Nat.beq pc 319) (some (.ireturn, 1)) none) (cond (Nat.beq pc 320) (some (.iload 5, 2)) none)) (cond (Nat.ble pc 322) (cond (Nat.beq pc 322) (some (.ifCond .ne 15, 3)) none) (cond (Nat.ble pc 325) (cond (Nat.beq pc 325) (some (.aload_n 3, 1)) none) (cond (Nat.beq pc 326) (some (.iconst 0, 1)) none)))) (cond (Nat.ble pc 328) (cond (Nat.ble pc 327) (cond (Nat.beq pc 327) (some (.laload, 1)) none) (cond (Nat.beq pc 328) (some (.iload 6, 2)) none)) (cond (Nat.ble pc 330) (cond (Nat.beq pc 330) (some (.i2l, 1)) none) (cond (Nat.ble pc 331) (cond (Nat.beq pc 331) (some (.lcmp, 1)) none) (cond (Nat.beq pc 332) (some (.ifCond .eq 5, 3)) none))))) (cond (Nat.ble pc 341) (cond (Nat.ble pc 336) (cond (Nat.ble pc 335) (cond (Nat.beq pc 335) (some (.iconst 0, 1)) none) (cond (Nat.beq pc 336) (some (.ireturn, 1)) none)) (cond (Nat.ble pc 337) (cond (Nat.beq pc 337) (some (.goto 1793, 3)) none) (cond (Nat.ble pc 340) (cond (Nat.beq pc 340) (some (.aload_n 1, 1)) none) (cond (Nat.beq pc 341) (some (.aload_n 0, 1)) none)))) (cond (Nat.ble pc 344) (cond (Nat.ble pc 342) (cond (Nat.beq pc 342) (some (.iload 4, 2)) none) (cond (Nat.beq pc 344) (some (.iconst 1, 1)) none)) (cond (Nat.ble pc 345) (cond (Nat.beq pc 345) (some (.iadd, 1)) none) (cond (Nat.ble pc 346) (cond (Nat.beq pc 346) (some (.iaload, 1)) none) (cond (Nat.beq pc 347) (some (.aload_n 3, 1)) none)))))) (cond (Nat.ble pc 363) (cond (Nat.ble pc 355) (cond (Nat.ble pc 351) (cond (Nat.ble pc 348) (cond (Nat.beq pc 348) (some (.invokestatic 126, 3)) none) (cond (Nat.beq pc 351) (some (.istore 5, 2)) none)) (cond (Nat.ble pc 353) (cond (Nat.beq pc 353) (some (.aload_n 2, 1)) none) (cond (Nat.ble pc 354) (cond (Nat.beq pc 354) (some (.aload_n 0, 1)) none) (cond (Nat.beq pc 355) (some (.iload 4, 2)) none)))) (cond (Nat.ble pc 358) (cond (Nat.ble pc 357) (cond (Nat.beq pc 357) (some (.iconst 1, 1)) none) (cond (Nat.beq pc 358) (some (.iadd, 1)) none)) (cond (Nat.ble pc 359) (cond (Nat.beq pc 359) (some (.iaload, 1)) none) (cond (Nat.ble pc 360) (cond (Nat.beq pc 360) (some (.invokevirtual 129, 3)) none) (cond (Nat.beq pc 363) (some (.istore 6, 2)) none))))) (cond (Nat.ble pc 374) (cond (Nat.ble pc 366) (cond (Nat.ble pc 365) (cond (Nat.beq pc 365) (some (.aload_n 2, 1)) none) (cond (Nat.beq pc 366) (some (.invokevirtual 118, 3)) none)) (cond (Nat.ble pc 369) (cond (Nat.beq pc 369) (some (.iload 5, 2)) none) (cond (Nat.ble pc 371) (cond (Nat.beq pc 371) (some (.if_icmp .eq 5, 3)) none) (cond (Nat.beq pc 374) (some (.iconst 0, 1)) none)))) (cond (Nat.ble pc 378) (cond (Nat.ble pc 375) (cond (Nat.beq pc 375) (some (.ireturn, 1)) none) (cond (Nat.ble pc 376) (cond (Nat.beq pc 376) (some (.iload 5, 2)) none) (cond (Nat.beq pc 378) (some (.ifCond .ne 15, 3)) none))) (cond (Nat.ble pc 381) (cond (Nat.beq pc 381) (some (.aload_n 3, 1)) none) (cond (Nat.ble pc 382) (cond (Nat.beq pc 382) (some (.iconst 0, 1)) none) (cond (Nat.beq pc 383) (some (.laload, 1)) none))))))))) (cond (Nat.ble pc 503) (cond (Nat.ble pc 443) (cond (Nat.ble pc 410) (cond (Nat.ble pc 398) (cond (Nat.ble pc 391) (cond (Nat.ble pc 386) (cond (Nat.ble pc 384) (cond (Nat.beq pc 384) (some (.iload 6, 2)) none) (cond (Nat.beq pc 386) (some (.i2l, 1)) none)) (cond (Nat.ble pc 387) (cond (Nat.beq pc 387) (some (.lcmp, 1)) none) (cond (Nat.ble pc 388) (cond (Nat.beq pc 388) (some (.ifCond .eq 5, 3)) none) (cond (Nat.beq pc 391) (some (.iconst 0, 1)) none)))) (cond (Nat.ble pc 393) (cond (Nat.ble pc 392) (cond (Nat.beq pc 392) (some (.ireturn, 1)) none) (cond (Nat.beq pc 393) (some (.goto 1737, 3)) none)) (cond (Nat.ble pc 396) (cond (Nat.beq pc 396) (some (.aload_n 1, 1)) none) (cond (Nat.ble pc 397) (cond (Nat.beq pc 397) (some (.aload_n 0, 1)) none) (cond (Nat.beq pc 398) (some (.iload 4, 2)) none))))) (cond (Nat.ble pc 404) (cond (Nat.ble pc 401) (cond (Nat.ble pc 400) (cond (Nat.beq pc 400) (some (.iconst 1, 1)) none) (cond (Nat.beq pc 401) (some (.iadd, 1)) none)) (cond (Nat.ble pc 402) (cond (Nat.beq pc 402) (some (.iaload, 1)) none) (cond (Nat.ble pc 403) (cond (Nat.beq pc 403) (some (.aload_n 0, 1)) none) (cond (Nat.beq pc 404) (some (.iload 4, 2)) none)))) (cond (Nat.ble pc 407) (cond (Nat.ble pc 406) (cond (Nat.beq pc 406) (some (.iconst 2, 1)) none) (cond (Nat.beq pc 407) (some (.iadd, 1)) none)) (cond (Nat.ble pc 408) (cond (Nat.beq pc 408) (some (.iaload, 1)) none) (cond (Nat.ble pc 409) (cond (Nat.beq pc 409) (some (.aload_n 3, 1)) none) (cond (Nat.beq pc 410) (some (.invokestatic 130, 3)) none)))))) (cond (Nat.ble pc 425) (cond (Nat.ble pc 419) (cond (Nat.ble pc 415) (cond (Nat.ble pc 413) (cond (Nat.beq pc 413) (some (.istore 5, 2)) none) (cond (Nat.beq pc 415) (some (.aload_n 2, 1)) none)) (cond (Nat.ble pc 416) (cond (Nat.beq pc 416) (some (.aload_n 0, 1)) none) (cond (Nat.ble pc 417) (cond (Nat.beq pc 417) (some (.iload 4, 2)) none) (cond (Nat.beq pc 419) (some (.iconst 1, 1)) none)))) (cond (Nat.ble pc 421) (cond (Nat.ble pc 420) (cond (Nat.beq pc 420) (some (.iadd, 1)) none) (cond (Nat.beq pc 421) (some (.iaload, 1)) none)) (cond (Nat.ble pc 422) (cond (Nat.beq pc 422) (some (.aload_n 0, 1)) none) (cond (Nat.ble pc 423) (cond (Nat.beq pc 423) (some (.iload 4, 2)) none) (cond (Nat.beq pc 425) (some (.iconst 2, 1)) none))))) (cond (Nat.ble pc 433) (cond (Nat.ble pc 427) (cond (Nat.ble pc 426) (cond (Nat.beq pc 426) (some (.iadd, 1)) none) (cond (Nat.beq pc 427) (some (.iaload, 1)) none)) (cond (Nat.ble pc 428) (cond (Nat.beq pc 428) (some (.invokevirtual 132, 3)) none) (cond (Nat.ble pc 431) (cond (Nat.beq pc 431) (some (.istore 6, 2)) none) (cond (Nat.beq pc 433) (some (.aload_n 2, 1)) none)))) (cond (Nat.ble pc 437) (cond (Nat.ble pc 434) (cond (Nat.beq pc 434) (some (.invokevirtual 118, 3)) none) (cond (Nat.beq pc 437) (some (.iload 5, 2)) none)) (cond (Nat.ble pc 439) (cond (Nat.beq pc 439) (some (.if_icmp .eq 5, 3)) none) (cond (Nat.ble pc 442) (cond (Nat.beq pc 442) (some (.iconst 0, 1)) none) (cond (Nat.beq pc 443) (some (.ireturn, 1)) none))))))) (cond (Nat.ble pc 476) (cond (Nat.ble pc 461) (cond (Nat.ble pc 451) (cond (Nat.ble pc 446) (cond (Nat.ble pc 444) (cond (Nat.beq pc 444) (some (.iload 5, 2)) none) (cond (Nat.beq pc 446) (some (.ifCond .ne 22, 3)) none)) (cond (Nat.ble pc 449) (cond (Nat.beq pc 449) (some (.aload_n 3, 1)) none) (cond (Nat.ble pc 450) (cond (Nat.beq pc 450) (some (.iconst 0, 1)) none) (cond (Nat.beq pc 451) (some (.laload, 1)) none)))) (cond (Nat.ble pc 454) (cond (Nat.ble pc 452) (cond (Nat.beq pc 452) (some (.iload 6, 2)) none) (cond (Nat.beq pc 454) (some (.ifCond .eq 7, 3)) none)) (cond (Nat.ble pc 457) (cond (Nat.beq pc 457) (some (.lconst 1, 1)) none) (cond (Nat.ble pc 458) (cond (Nat.beq pc 458) (some (.goto 4, 3)) none) (cond (Nat.beq pc 461) (some (.lconst 0, 1)) none))))) (cond (Nat.ble pc 468) (cond (Nat.ble pc 463) (cond (Nat.ble pc 462) (cond (Nat.beq pc 462) (some (.lcmp, 1)) none) (cond (Nat.beq pc 463) (some (.ifCond .eq 5, 3)) none)) (cond (Nat.ble pc 466) (cond (Nat.beq pc 466) (some (.iconst 0, 1)) none) (cond (Nat.ble pc 467) (cond (Nat.beq pc 467) (some (.ireturn, 1)) none) (cond (Nat.beq pc 468) (some (.goto 1662, 3)) none)))) (cond (Nat.ble pc 472) (cond (Nat.ble pc 471) (cond (Nat.beq pc 471) (some (.aload_n 1, 1)) none) (cond (Nat.beq pc 472) (some (.aload_n 0, 1)) none)) (cond (Nat.ble pc 473) (cond (Nat.beq pc 473) (some (.iload 4, 2)) none) (cond (Nat.ble pc 475) (cond (Nat.beq pc 475) (some (.iconst 1, 1)) none) (cond (Nat.beq pc 476) (some (.iadd, 1)) none)))))) (cond (Nat.ble pc 490) (cond (Nat.ble pc 482) (cond (Nat.ble pc 478) (cond (Nat.ble pc 477) (cond (Nat.beq pc 477) (some (.iaload, 1)) none) (cond (Nat.beq pc 478) (some (.aload_n 0, 1)) none)) (cond (Nat.ble pc 479) (cond (Nat.beq pc 479) (some (.iload 4, 2)) none) (cond (Nat.ble pc 481) (cond (Nat.beq pc 481) (some (.iconst 2, 1)) none) (cond (Nat.beq pc 482) (some (.iadd, 1)) none)))) (cond (Nat.ble pc 484) (cond (Nat.ble pc 483) (cond (Nat.beq pc 483) (some (.iaload, 1)) none) (cond (Nat.beq pc 484) (some (.aload_n 3, 1)) none)) (cond (Nat.ble pc 485) (cond (Nat.beq pc 485) (some (.invokestatic 133, 3)) none) (cond (Nat.ble pc 488) (cond (Nat.beq pc 488) (some (.istore 5, 2)) none) (cond (Nat.beq pc 490) (some (.aload_n 2, 1)) none))))) (cond (Nat.ble pc 496) (cond (Nat.ble pc 492) (cond (Nat.ble pc 491) (cond (Nat.beq pc 491) (some (.aload_n 0, 1)) none) (cond (Nat.beq pc 492) (some (.iload 4, 2)) none)) (cond (Nat.ble pc 494) (cond (Nat.beq pc 494) (some (.iconst 1, 1)) none) (cond (Nat.ble pc 495) (cond (Nat.beq pc 495) (some (.iadd, 1)) none) (cond (Nat.beq pc 496) (some (.iaload, 1)) none)))) (cond (Nat.ble pc 500) (cond (Nat.ble pc 497) (cond (Nat.beq pc 497) (some (.aload_n 0, 1)) none) (cond (Nat.ble pc 498) (cond (Nat.beq pc 498) (some (.iload 4, 2)) none) (cond (Nat.beq pc 500) (some (.iconst 2, 1)) none))) (cond (Nat.ble pc 501) (cond (Nat.beq pc 501) (some (.iadd, 1)) none) (cond (Nat.ble pc 502) (cond (Nat.beq pc 502) (some (.iaload, 1)) none) (cond (Nat.beq pc 503) (some (.invokevirtual 135, 3)) none)))))))) (cond (Nat.ble pc 566) (cond (Nat.ble pc 539) (cond (Nat.ble pc 524) (cond (Nat.ble pc 514) (cond (Nat.ble pc 508) (cond (Nat.ble pc 506) (cond (Nat.beq pc 506) (some (.istore 6, 2)) none) (cond (Nat.beq pc 508) (some (.aload_n 2, 1)) none)) (cond (Nat.ble pc 509) (cond (Nat.beq pc 509) (some (.invokevirtual 118, 3)) none) (cond (Nat.ble pc 512) (cond (Nat.beq pc 512) (some (.iload 5, 2)) none) (cond (Nat.beq pc 514) (some (.if_icmp .eq 5, 3)) none)))) (cond (Nat.ble pc 518) (cond (Nat.ble pc 517) (cond (Nat.beq pc 517) (some (.iconst 0, 1)) none) (cond (Nat.beq pc 518) (some (.ireturn, 1)) none)) (cond (Nat.ble pc 519) (cond (Nat.beq pc 519) (some (.iload 5, 2)) none) (cond (Nat.ble pc 521) (cond (Nat.beq pc 521) (some (.ifCond .ne 15, 3)) none) (cond (Nat.beq pc 524) (some (.aload_n 3, 1)) none))))) (cond (Nat.ble pc 530) (cond (Nat.ble pc 526) (cond (Nat.ble pc 525) (cond (Nat.beq pc 525) (some (.iconst 0, 1)) none) (cond (Nat.beq pc 526) (some (.laload, 1)) none)) (cond (Nat.ble pc 527) (cond (Nat.beq pc 527) (some (.iload 6, 2)) none) (cond (Nat.ble pc 529) (cond (Nat.beq pc 529) (some (.i2l, 1)) none) (cond (Nat.beq pc 530) (some (.lcmp, 1)) none)))) (cond (Nat.ble pc 534) (cond (Nat.ble pc 531) (cond (Nat.beq pc 531) (some (.ifCond .eq 5, 3)) none) (cond (Nat.beq pc 534) (some (.iconst 0, 1)) none)) (cond (Nat.ble pc 535) (cond (Nat.beq pc 535) (some (.ireturn, 1)) none) (cond (Nat.ble pc 536) (cond (Nat.beq pc 536) (some (.goto 1594, 3)) none) (cond (Nat.beq pc 539) (some (.aload_n 1, 1)) none)))))) (cond (Nat.ble pc 551) (cond (Nat.ble pc 545) (cond (Nat.ble pc 541) (cond (Nat.ble pc 540) (cond (Nat.beq pc 540) (some (.aload_n 0, 1)) none) (cond (Nat.beq pc 541) (some (.iload 4, 2)) none)) (cond (Nat.ble pc 543) (cond (Nat.beq pc 543) (some (.iconst 1, 1)) none) (cond (Nat.ble pc 544) (cond (Nat.beq pc 544) (some (.iadd, 1)) none) (cond (Nat.beq pc 545) (some (.iaload, 1)) none)))) (cond (Nat.ble pc 547) (cond (Nat.ble pc 546) (cond (Nat.beq pc 546) (some (.aload_n 0, 1)) none) (cond (Nat.beq pc 547) (some (.iload 4, 2)) none)) (cond (Nat.ble pc 549) (cond (Nat.beq pc 549) (some (.iconst 2, 1)) none) (cond (Nat.ble pc 550) (cond (Nat.beq pc 550) (some (.iadd, 1)) none) (cond (Nat.beq pc 551) (some (.iaload, 1)) none))))) (cond (Nat.ble pc 557) (cond (Nat.ble pc 553) (cond (Nat.ble pc 552) (cond (Nat.beq pc 552) (some (.aload_n 0, 1)) none) (cond (Nat.beq pc 553) (some (.iload 4, 2)) none)) (cond (Nat.ble pc 555) (cond (Nat.beq pc 555) (some (.iconst 3, 1)) none) (cond (Nat.ble pc 556) (cond (Nat.beq pc 556) (some (.iadd, 1)) none) (cond (Nat.beq pc 557) (some (.iaload, 1)) none)))) (cond (Nat.ble pc 562) (cond (Nat.ble pc 558) (cond (Nat.beq pc 558) (some (.aload_n 3, 1)) none) (cond (Nat.ble pc 559) (cond (Nat.beq pc 559) (some (.invokestatic 136, 3)) none) (cond (Nat.beq pc 562) (some (.istore 5, 2)) none))) (cond (Nat.ble pc 564) (cond (Nat.beq pc 564) (some (.aload_n 2, 1)) none) (cond (Nat.ble pc 565) (cond (Nat.beq pc 565) (some (.aload_n 0, 1)) none) (cond (Nat.beq pc 566) (some (.iload 4, 2)) none))))))) (cond (Nat.ble pc 597) (cond (Nat.ble pc 578) (cond (Nat.ble pc 572) (cond (Nat.ble pc 569) (cond (Nat.ble pc 568) (cond (Nat.beq pc 568) (some (.iconst 1, 1)) none) (cond (Nat.beq pc 569) (some (.iadd, 1)) none)) (cond (Nat.ble pc 570) (cond (Nat.beq pc 570) (some (.iaload, 1)) none) (cond (Nat.ble pc 571) (cond (Nat.beq pc 571) (some (.aload_n 0, 1)) none) (cond (Nat.beq pc 572) (some (.iload 4, 2)) none)))) (cond (Nat.ble pc 575) (cond (Nat.ble pc 574) (cond (Nat.beq pc 574) (some (.iconst 2, 1)) none) (cond (Nat.beq pc 575) (some (.iadd, 1)) none)) (cond (Nat.ble pc 576) (cond (Nat.beq pc 576) (some (.iaload, 1)) none) (cond (Nat.ble pc 577) (cond (Nat.beq pc 577) (some (.aload_n 0, 1)) none) (cond (Nat.beq pc 578) (some (.iload 4, 2)) none))))) (cond (Nat.ble pc 586) (cond (Nat.ble pc 581) (cond (Nat.ble pc 580) (cond (Nat.beq pc 580) (some (.iconst 3, 1)) none) (cond (Nat.beq pc 581) (some (.iadd, 1)) none)) (cond (Nat.ble pc 582) (cond (Nat.beq pc 582) (some (.iaload, 1)) none) (cond (Nat.ble pc 583) (cond (Nat.beq pc 583) (some (.invokevirtual 139, 3)) none) (cond (Nat.beq pc 586) (some (.istore 6, 2)) none)))) (cond (Nat.ble pc 589) (cond (Nat.ble pc 588) (cond (Nat.beq pc 588) (some (.aload_n 2, 1)) none) (cond (Nat.beq pc 589) (some (.invokevirtual 118, 3)) none)) (cond (Nat.ble pc 592) (cond (Nat.beq pc 592) (some (.iload 5, 2)) none) (cond (Nat.ble pc 594) (cond (Nat.beq pc 594) (some (.if_icmp .eq 5, 3)) none) (cond (Nat.beq pc 597) (some (.iconst 0, 1)) none)))))) (cond (Nat.ble pc 611) (cond (Nat.ble pc 605) (cond (Nat.ble pc 599) (cond (Nat.ble pc 598) (cond (Nat.beq pc 598) (some (.ireturn, 1)) none) (cond (Nat.beq pc 599) (some (.iload 5, 2)) none)) (cond (Nat.ble pc 601) (cond (Nat.beq pc 601) (some (.ifCond .ne 15, 3)) none) (cond (Nat.ble pc 604) (cond (Nat.beq pc 604) (some (.aload_n 3, 1)) none) (cond (Nat.beq pc 605) (some (.iconst 0, 1)) none)))) (cond (Nat.ble pc 607) (cond (Nat.ble pc 606) (cond (Nat.beq pc 606) (some (.laload, 1)) none) (cond (Nat.beq pc 607) (some (.iload 6, 2)) none)) (cond (Nat.ble pc 609) (cond (Nat.beq pc 609) (some (.i2l, 1)) none) (cond (Nat.ble pc 610) (cond (Nat.beq pc 610) (some (.lcmp, 1)) none) (cond (Nat.beq pc 611) (some (.ifCond .eq 5, 3)) none))))) (cond (Nat.ble pc 620) (cond (Nat.ble pc 615) (cond (Nat.ble pc 614) (cond (Nat.beq pc 614) (some (.iconst 0, 1)) none) (cond (Nat.beq pc 615) (some (.ireturn, 1)) none)) (cond (Nat.ble pc 616) (cond (Nat.beq pc 616) (some (.goto 1514, 3)) none) (cond (Nat.ble pc 619) (cond (Nat.beq pc 619) (some (.aload_n 1, 1)) none) (cond (Nat.beq pc 620) (some (.aload_n 0, 1)) none)))) (cond (Nat.ble pc 624) (cond (Nat.ble pc 621) (cond (Nat.beq pc 621) (some (.iload 4, 2)) none) (cond (Nat.ble pc 623) (cond (Nat.beq pc 623) (some (.iconst 1, 1)) none) (cond (Nat.beq pc 624) (some (.iadd, 1)) none))) (cond (Nat.ble pc 625) (cond (Nat.beq pc 625) (some (.iaload, 1)) none) (cond (Nat.ble pc 626) (cond (Nat.beq pc 626) (some (.aload_n 0, 1)) none) (cond (Nat.beq pc 627) (some (.iload 4, 2)) none)))))))))) (cond (Nat.ble pc 879) (cond (Nat.ble pc 751) (cond (Nat.ble pc 686) (cond (Nat.ble pc 654) (cond (Nat.ble pc 639) (cond (Nat.ble pc 633) (cond (Nat.ble pc 630) (cond (Nat.ble pc 629) (cond (Nat.beq pc 629) (some (.iconst 2, 1)) none) (cond (Nat.beq pc 630) (some (.iadd, 1)) none)) (cond (Nat.ble pc 631) (cond (Nat.beq pc 631) (some (.iaload, 1)) none) (cond (Nat.ble pc 632) (cond (Nat.beq pc 632) (some (.aload_n 0, 1)) none) (cond (Nat.beq pc 633) (some (.iload 4, 2)) none)))) (cond (Nat.ble pc 636) (cond (Nat.ble pc 635) (cond (Nat.beq pc 635) (some (.iconst 3, 1)) none) (cond (Nat.beq pc 636) (some (.iadd, 1)) none)) (cond (Nat.ble pc 637) (cond (Nat.beq pc 637) (some (.iaload, 1)) none) (cond (Nat.ble pc 638) (cond (Nat.beq pc 638) (some (.aload_n 3, 1)) none) (cond (Nat.beq pc 639) (some (.invokestatic 140, 3)) none))))) (cond (Nat.ble pc 648) (cond (Nat.ble pc 644) (cond (Nat.ble pc 642) (cond (Nat.beq pc 642) (some (.istore 5, 2)) none) (cond (Nat.beq pc 644) (some (.aload_n 2, 1)) none)) (cond (Nat.ble pc 645) (cond (Nat.beq pc 645) (some (.aload_n 0, 1)) none) (cond (Nat.ble pc 646) (cond (Nat.beq pc 646) (some (.iload 4, 2)) none) (cond (Nat.beq pc 648) (some (.iconst 1, 1)) none)))) (cond (Nat.ble pc 650) (cond (Nat.ble pc 649) (cond (Nat.beq pc 649) (some (.iadd, 1)) none) (cond (Nat.beq pc 650) (some (.iaload, 1)) none)) (cond (Nat.ble pc 651) (cond (Nat.beq pc 651) (some (.aload_n 0, 1)) none) (cond (Nat.ble pc 652) (cond (Nat.beq pc 652) (some (.iload 4, 2)) none) (cond (Nat.beq pc 654) (some (.iconst 2, 1)) none)))))) (cond (Nat.ble pc 668) (cond (Nat.ble pc 660) (cond (Nat.ble pc 656) (cond (Nat.ble pc 655) (cond (Nat.beq pc 655) (some (.iadd, 1)) none) (cond (Nat.beq pc 656) (some (.iaload, 1)) none)) (cond (Nat.ble pc 657) (cond (Nat.beq pc 657) (some (.aload_n 0, 1)) none) (cond (Nat.ble pc 658) (cond (Nat.beq pc 658) (some (.iload 4, 2)) none) (cond (Nat.beq pc 660) (some (.iconst 3, 1)) none)))) (cond (Nat.ble pc 662) (cond (Nat.ble pc 661) (cond (Nat.beq pc 661) (some (.iadd, 1)) none) (cond (Nat.beq pc 662) (some (.iaload, 1)) none)) (cond (Nat.ble pc 663) (cond (Nat.beq pc 663) (some (.invokevirtual 142, 3)) none) (cond (Nat.ble pc 666) (cond (Nat.beq pc 666) (some (.istore 6, 2)) none) (cond (Nat.beq pc 668) (some (.aload_n 2, 1)) none))))) (cond (Nat.ble pc 678) (cond (Nat.ble pc 672) (cond (Nat.ble pc 669) (cond (Nat.beq pc 669) (some (.invokevirtual 118, 3)) none) (cond (Nat.beq pc 672) (some (.iload 5, 2)) none)) (cond (Nat.ble pc 674) (cond (Nat.beq pc 674) (some (.if_icmp .eq 5, 3)) none) (cond (Nat.ble pc 677) (cond (Nat.beq pc 677) (some (.iconst 0, 1)) none) (cond (Nat.beq pc 678) (some (.ireturn, 1)) none)))) (cond (Nat.ble pc 681) (cond (Nat.ble pc 679) (cond (Nat.beq pc 679) (some (.iload 5, 2)) none) (cond (Nat.beq pc 681) (some (.ifCond .ne 15, 3)) none)) (cond (Nat.ble pc 684) (cond (Nat.beq pc 684) (some (.aload_n 3, 1)) none) (cond (Nat.ble pc 685) (cond (Nat.beq pc 685) (some (.iconst 0, 1)) none) (cond (Nat.beq pc 686) (some (.laload, 1)) none))))))) (cond (Nat.ble pc 716) (cond (Nat.ble pc 701) (cond (Nat.ble pc 694) (cond (Nat.ble pc 689) (cond (Nat.ble pc 687) (cond (Nat.beq pc 687) (some (.iload 6, 2)) none) (cond (Nat.beq pc 689) (some (.i2l, 1)) none)) (cond (Nat.ble pc 690) (cond (Nat.beq pc 690) (some (.lcmp, 1)) none) (cond (Nat.ble pc 691) (cond (Nat.beq pc 691) (some (.ifCond .eq 5, 3)) none) (cond (Nat.beq pc 694) (some (.iconst 0, 1)) none)))) (cond (Nat.ble pc 696) (cond (Nat.ble pc 695) (cond (Nat.beq pc 695) (some (.ireturn, 1)) none) (cond (Nat.beq pc 696) (some (.goto 1434, 3)) none)) (cond (Nat.ble pc 699) (cond (Nat.beq pc 699) (some (.aload_n 1, 1)) none) (cond (Nat.ble pc 700) (cond (Nat.beq pc 700) (some (.aload_n 0, 1)) none) (cond (Nat.beq pc 701) (some (.iload 4, 2)) none))))) (cond (Nat.ble pc 707) (cond (Nat.ble pc 704) (cond (Nat.ble pc 703) (cond (Nat.beq pc 703) (some (.iconst 1, 1)) none) (cond (Nat.beq pc 704) (some (.iadd, 1)) none)) (cond (Nat.ble pc 705) (cond (Nat.beq pc 705) (some (.iaload, 1)) none) (cond (Nat.ble pc 706) (cond (Nat.beq pc 706) (some (.aload_n 3, 1)) none) (cond (Nat.beq pc 707) (some (.invokestatic 143, 3)) none)))) (cond (Nat.ble pc 712) (cond (Nat.ble pc 710) (cond (Nat.beq pc 710) (some (.istore 5, 2)) none) (cond (Nat.beq pc 712) (some (.aload_n 2, 1)) none)) (cond (Nat.ble pc 713) (cond (Nat.beq pc 713) (some (.aload_n 0, 1)) none) (cond (Nat.ble pc 714) (cond (Nat.beq pc 714) (some (.iload 4, 2)) none) (cond (Nat.beq pc 716) (some (.iconst 1, 1)) none)))))) (cond (Nat.ble pc 734) (cond (Nat.ble pc 724) (cond (Nat.ble pc 718) (cond (Nat.ble pc 717) (cond (Nat.beq pc 717) (some (.iadd, 1)) none) (cond (Nat.beq pc 718) (some (.iaload, 1)) none)) (cond (Nat.ble pc 719) (cond (Nat.beq pc 719) (some (.invokevirtual 145, 3)) none) (cond (Nat.ble pc 722) (cond (Nat.beq pc 722) (some (.istore 6, 2)) none) (cond (Nat.beq pc 724) (some (.aload_n 2, 1)) none)))) (cond (Nat.ble pc 728) (cond (Nat.ble pc 725) (cond (Nat.beq pc 725) (some (.invokevirtual 118, 3)) none) (cond (Nat.beq pc 728) (some (.iload 5, 2)) none)) (cond (Nat.ble pc 730) (cond (Nat.beq pc 730) (some (.if_icmp .eq 5, 3)) none) (cond (Nat.ble pc 733) (cond (Nat.beq pc 733) (some (.iconst 0, 1)) none) (cond (Nat.beq pc 734) (some (.ireturn, 1)) none))))) (cond (Nat.ble pc 742) (cond (Nat.ble pc 737) (cond (Nat.ble pc 735) (cond (Nat.beq pc 735) (some (.iload 5, 2)) none) (cond (Nat.beq pc 737) (some (.ifCond .ne 15, 3)) none)) (cond (Nat.ble pc 740) (cond (Nat.beq pc 740) (some (.aload_n 3, 1)) none) (cond (Nat.ble pc 741) (cond (Nat.beq pc 741) (some (.iconst 0, 1)) none) (cond (Nat.beq pc 742) (some (.laload, 1)) none)))) (cond (Nat.ble pc 746) (cond (Nat.ble pc 743) (cond (Nat.beq pc 743) (some (.iload 6, 2)) none) (cond (Nat.ble pc 745) (cond (Nat.beq pc 745) (some (.i2l, 1)) none) (cond (Nat.beq pc 746) (some (.lcmp, 1)) none))) (cond (Nat.ble pc 747) (cond (Nat.beq pc 747) (some (.ifCond .eq 5, 3)) none) (cond (Nat.ble pc 750) (cond (Nat.beq pc 750) (some (.iconst 0, 1)) none) (cond (Nat.beq pc 751) (some (.ireturn, 1)) none)))))))) (cond (Nat.ble pc 816) (cond (Nat.ble pc 781) (cond (Nat.ble pc 766) (cond (Nat.ble pc 759) (cond (Nat.ble pc 755) (cond (Nat.ble pc 752) (cond (Nat.beq pc 752) (some (.goto 1378, 3)) none) (cond (Nat.beq pc 755) (some (.aload_n 1, 1)) none)) (cond (Nat.ble pc 756) (cond (Nat.beq pc 756) (some (.aload_n 0, 1)) none) (cond (Nat.ble pc 757) (cond (Nat.beq pc 757) (some (.iload 4, 2)) none) (cond (Nat.beq pc 759) (some (.iconst 1, 1)) none)))) (cond (Nat.ble pc 761) (cond (Nat.ble pc 760) (cond (Nat.beq pc 760) (some (.iadd, 1)) none) (cond (Nat.beq pc 761) (some (.iaload, 1)) none)) (cond (Nat.ble pc 762) (cond (Nat.beq pc 762) (some (.aload_n 3, 1)) none) (cond (Nat.ble pc 763) (cond (Nat.beq pc 763) (some (.invokestatic 146, 3)) none) (cond (Nat.beq pc 766) (some (.istore 5, 2)) none))))) (cond (Nat.ble pc 773) (cond (Nat.ble pc 769) (cond (Nat.ble pc 768) (cond (Nat.beq pc 768) (some (.aload_n 2, 1)) none) (cond (Nat.beq pc 769) (some (.aload_n 0, 1)) none)) (cond (Nat.ble pc 770) (cond (Nat.beq pc 770) (some (.iload 4, 2)) none) (cond (Nat.ble pc 772) (cond (Nat.beq pc 772) (some (.iconst 1, 1)) none) (cond (Nat.beq pc 773) (some (.iadd, 1)) none)))) (cond (Nat.ble pc 775) (cond (Nat.ble pc 774) (cond (Nat.beq pc 774) (some (.iaload, 1)) none) (cond (Nat.beq pc 775) (some (.invokevirtual 148, 3)) none)) (cond (Nat.ble pc 778) (cond (Nat.beq pc 778) (some (.istore 6, 2)) none) (cond (Nat.ble pc 780) (cond (Nat.beq pc 780) (some (.aload_n 2, 1)) none) (cond (Nat.beq pc 781) (some (.invokevirtual 118, 3)) none)))))) (cond (Nat.ble pc 799) (cond (Nat.ble pc 791) (cond (Nat.ble pc 786) (cond (Nat.ble pc 784) (cond (Nat.beq pc 784) (some (.iload 5, 2)) none) (cond (Nat.beq pc 786) (some (.if_icmp .eq 5, 3)) none)) (cond (Nat.ble pc 789) (cond (Nat.beq pc 789) (some (.iconst 0, 1)) none) (cond (Nat.ble pc 790) (cond (Nat.beq pc 790) (some (.ireturn, 1)) none) (cond (Nat.beq pc 791) (some (.iload 5, 2)) none)))) (cond (Nat.ble pc 796) (cond (Nat.ble pc 793) (cond (Nat.beq pc 793) (some (.ifCond .ne 15, 3)) none) (cond (Nat.beq pc 796) (some (.aload_n 3, 1)) none)) (cond (Nat.ble pc 797) (cond (Nat.beq pc 797) (some (.iconst 0, 1)) none) (cond (Nat.ble pc 798) (cond (Nat.beq pc 798) (some (.laload, 1)) none) (cond (Nat.beq pc 799) (some (.iload 6, 2)) none))))) (cond (Nat.ble pc 807) (cond (Nat.ble pc 802) (cond (Nat.ble pc 801) (cond (Nat.beq pc 801) (some (.i2l, 1)) none) (cond (Nat.beq pc 802) (some (.lcmp, 1)) none)) (cond (Nat.ble pc 803) (cond (Nat.beq pc 803) (some (.ifCond .eq 5, 3)) none) (cond (Nat.ble pc 806) (cond (Nat.beq pc 806) (some (.iconst 0, 1)) none) (cond (Nat.beq pc 807) (some (.ireturn, 1)) none)))) (cond (Nat.ble pc 812) (cond (Nat.ble pc 808) (cond (Nat.beq pc 808) (some (.goto 1322, 3)) none) (cond (Nat.ble pc 811) (cond (Nat.beq pc 811) (some (.aload_n 1, 1)) none) (cond (Nat.beq pc 812) (some (.aload_n 0, 1)) none))) (cond (Nat.ble pc 813) (cond (Nat.beq pc 813) (some (.iload 4, 2)) none) (cond (Nat.ble pc 815) (cond (Nat.beq pc 815) (some (.iconst 1, 1)) none) (cond (Nat.beq pc 816) (some (.iadd, 1)) none))))))) (cond (Nat.ble pc 849) (cond (Nat.ble pc 830) (cond (Nat.ble pc 824) (cond (Nat.ble pc 818) (cond (Nat.ble pc 817) (cond (Nat.beq pc 817) (some (.iaload, 1)) none) (cond (Nat.beq pc 818) (some (.aload_n 3, 1)) none)) (cond (Nat.ble pc 819) (cond (Nat.beq pc 819) (some (.invokestatic 149, 3)) none) (cond (Nat.ble pc 822) (cond (Nat.beq pc 822) (some (.istore 5, 2)) none) (cond (Nat.beq pc 824) (some (.aload_n 2, 1)) none)))) (cond (Nat.ble pc 826) (cond (Nat.ble pc 825) (cond (Nat.beq pc 825) (some (.aload_n 0, 1)) none) (cond (Nat.beq pc 826) (some (.iload 4, 2)) none)) (cond (Nat.ble pc 828) (cond (Nat.beq pc 828) (some (.iconst 1, 1)) none) (cond (Nat.ble pc 829) (cond (Nat.beq pc 829) (some (.iadd, 1)) none) (cond (Nat.beq pc 830) (some (.iaload, 1)) none))))) (cond (Nat.ble pc 840) (cond (Nat.ble pc 834) (cond (Nat.ble pc 831) (cond (Nat.beq pc 831) (some (.invokevirtual 151, 3)) none) (cond (Nat.beq pc 834) (some (.istore 6, 2)) none)) (cond (Nat.ble pc 836) (cond (Nat.beq pc 836) (some (.aload_n 2, 1)) none) (cond (Nat.ble pc 837) (cond (Nat.beq pc 837) (some (.invokevirtual 118, 3)) none) (cond (Nat.beq pc 840) (some (.iload 5, 2)) none)))) (cond (Nat.ble pc 845) (cond (Nat.ble pc 842) (cond (Nat.beq pc 842) (some (.if_icmp .eq 5, 3)) none) (cond (Nat.beq pc 845) (some (.iconst 0, 1)) none)) (cond (Nat.ble pc 846) (cond (Nat.beq pc 846) (some (.ireturn, 1)) none) (cond (Nat.ble pc 847) (cond (Nat.beq pc 847) (some (.iload 5, 2)) none) (cond (Nat.beq pc 849) (some (.ifCond .ne 15, 3)) none)))))) (cond (Nat.ble pc 864) (cond (Nat.ble pc 857) (cond (Nat.ble pc 853) (cond (Nat.ble pc 852) (cond (Nat.beq pc 852) (some (.aload_n 3, 1)) none) (cond (Nat.beq pc 853) (some (.iconst 0, 1)) none)) (cond (Nat.ble pc 854) (cond (Nat.beq pc 854) (some (.laload, 1)) none) (cond (Nat.ble pc 855) (cond (Nat.beq pc 855) (some (.iload 6, 2)) none) (cond (Nat.beq pc 857) (some (.i2l, 1)) none)))) (cond (Nat.ble pc 859) (cond (Nat.ble pc 858) (cond (Nat.beq pc 858) (some (.lcmp, 1)) none) (cond (Nat.beq pc 859) (some (.ifCond .eq 5, 3)) none)) (cond (Nat.ble pc 862) (cond (Nat.beq pc 862) (some (.iconst 0, 1)) none) (cond (Nat.ble pc 863) (cond (Nat.beq pc 863) (some (.ireturn, 1)) none) (cond (Nat.beq pc 864) (some (.goto 1266, 3)) none))))) (cond (Nat.ble pc 872) (cond (Nat.ble pc 868) (cond (Nat.ble pc 867) (cond (Nat.beq pc 867) (some (.aload_n 1, 1)) none) (cond (Nat.beq pc 868) (some (.aload_n 0, 1)) none)) (cond (Nat.ble pc 869) (cond (Nat.beq pc 869) (some (.iload 4, 2)) none) (cond (Nat.ble pc 871) (cond (Nat.beq pc 871) (some (.iconst 1, 1)) none) (cond (Nat.beq pc 872) (some (.iadd, 1)) none)))) (cond (Nat.ble pc 875) (cond (Nat.ble pc 873) (cond (Nat.beq pc 873) (some (.iaload, 1)) none) (cond (Nat.ble pc 874) (cond (Nat.beq pc 874) (some (.aload_n 0, 1)) none) (cond (Nat.beq pc 875) (some (.iload 4, 2)) none))) (cond (Nat.ble pc 877) (cond (Nat.beq pc 877) (some (.iconst 2, 1)) none) (cond (Nat.ble pc 878) (cond (Nat.beq pc 878) (some (.iadd, 1)) none) (cond (Nat.beq pc 879) (some (.iaload, 1)) none))))))))) (cond (Nat.ble pc 1004) (cond (Nat.ble pc 941) (cond (Nat.ble pc 910) (cond (Nat.ble pc 893) (cond (Nat.ble pc 887) (cond (Nat.ble pc 881) (cond (Nat.ble pc 880) (cond (Nat.beq pc 880) (some (.aload_n 3, 1)) none) (cond (Nat.beq pc 881) (some (.invokestatic 152, 3)) none)) (cond (Nat.ble pc 884) (cond (Nat.beq pc 884) (some (.istore 5, 2)) none) (cond (Nat.ble pc 886) (cond (Nat.beq pc 886) (some (.aload_n 2, 1)) none) (cond (Nat.beq pc 887) (some (.aload_n 0, 1)) none)))) (cond (Nat.ble pc 890) (cond (Nat.ble pc 888) (cond (Nat.beq pc 888) (some (.iload 4, 2)) none) (cond (Nat.beq pc 890) (some (.iconst 1, 1)) none)) (cond (Nat.ble pc 891) (cond (Nat.beq pc 891) (some (.iadd, 1)) none) (cond (Nat.ble pc 892) (cond (Nat.beq pc 892) (some (.iaload, 1)) none) (cond (Nat.beq pc 893) (some (.aload_n 0, 1)) none))))) (cond (Nat.ble pc 899) (cond (Nat.ble pc 896) (cond (Nat.ble pc 894) (cond (Nat.beq pc 894) (some (.iload 4, 2)) none) (cond (Nat.beq pc 896) (some (.iconst 2, 1)) none)) (cond (Nat.ble pc 897) (cond (Nat.beq pc 897) (some (.iadd, 1)) none) (cond (Nat.ble pc 898) (cond (Nat.beq pc 898) (some (.iaload, 1)) none) (cond (Nat.beq pc 899) (some (.invokevirtual 154, 3)) none)))) (cond (Nat.ble pc 904) (cond (Nat.ble pc 902) (cond (Nat.beq pc 902) (some (.istore 6, 2)) none) (cond (Nat.beq pc 904) (some (.aload_n 2, 1)) none)) (cond (Nat.ble pc 905) (cond (Nat.beq pc 905) (some (.invokevirtual 118, 3)) none) (cond (Nat.ble pc 908) (cond (Nat.beq pc 908) (some (.iload 5, 2)) none) (cond (Nat.beq pc 910) (some (.if_icmp .eq 5, 3)) none)))))) (cond (Nat.ble pc 926) (cond (Nat.ble pc 920) (cond (Nat.ble pc 914) (cond (Nat.ble pc 913) (cond (Nat.beq pc 913) (some (.iconst 0, 1)) none) (cond (Nat.beq pc 914) (some (.ireturn, 1)) none)) (cond (Nat.ble pc 915) (cond (Nat.beq pc 915) (some (.iload 5, 2)) none) (cond (Nat.ble pc 917) (cond (Nat.beq pc 917) (some (.ifCond .ne 15, 3)) none) (cond (Nat.beq pc 920) (some (.aload_n 3, 1)) none)))) (cond (Nat.ble pc 922) (cond (Nat.ble pc 921) (cond (Nat.beq pc 921) (some (.iconst 0, 1)) none) (cond (Nat.beq pc 922) (some (.laload, 1)) none)) (cond (Nat.ble pc 923) (cond (Nat.beq pc 923) (some (.iload 6, 2)) none) (cond (Nat.ble pc 925) (cond (Nat.beq pc 925) (some (.i2l, 1)) none) (cond (Nat.beq pc 926) (some (.lcmp, 1)) none))))) (cond (Nat.ble pc 935) (cond (Nat.ble pc 930) (cond (Nat.ble pc 927) (cond (Nat.beq pc 927) (some (.ifCond .eq 5, 3)) none) (cond (Nat.beq pc 930) (some (.iconst 0, 1)) none)) (cond (Nat.ble pc 931) (cond (Nat.beq pc 931) (some (.ireturn, 1)) none) (cond (Nat.ble pc 932) (cond (Nat.beq pc 932) (some (.goto 1198, 3)) none) (cond (Nat.beq pc 935) (some (.aload_n 1, 1)) none)))) (cond (Nat.ble pc 937) (cond (Nat.ble pc 936) (cond (Nat.beq pc 936) (some (.aload_n 0, 1)) none) (cond (Nat.beq pc 937) (some (.iload 4, 2)) none)) (cond (Nat.ble pc 939) (cond (Nat.beq pc 939) (some (.iconst 1, 1)) none) (cond (Nat.ble pc 940) (cond (Nat.beq pc 940) (some (.iadd, 1)) none) (cond (Nat.beq pc 941) (some (.iaload, 1)) none))))))) (cond (Nat.ble pc 967) (cond (Nat.ble pc 955) (cond (Nat.ble pc 947) (cond (Nat.ble pc 943) (cond (Nat.ble pc 942) (cond (Nat.beq pc 942) (some (.aload_n 0, 1)) none) (cond (Nat.beq pc 943) (some (.iload 4, 2)) none)) (cond (Nat.ble pc 945) (cond (Nat.beq pc 945) (some (.iconst 2, 1)) none) (cond (Nat.ble pc 946) (cond (Nat.beq pc 946) (some (.iadd, 1)) none) (cond (Nat.beq pc 947) (some (.iaload, 1)) none)))) (cond (Nat.ble pc 949) (cond (Nat.ble pc 948) (cond (Nat.beq pc 948) (some (.aload_n 3, 1)) none) (cond (Nat.beq pc 949) (some (.invokestatic 155, 3)) none)) (cond (Nat.ble pc 952) (cond (Nat.beq pc 952) (some (.istore 5, 2)) none) (cond (Nat.ble pc 954) (cond (Nat.beq pc 954) (some (.aload_n 2, 1)) none) (cond (Nat.beq pc 955) (some (.aload_n 0, 1)) none))))) (cond (Nat.ble pc 961) (cond (Nat.ble pc 958) (cond (Nat.ble pc 956) (cond (Nat.beq pc 956) (some (.iload 4, 2)) none) (cond (Nat.beq pc 958) (some (.iconst 1, 1)) none)) (cond (Nat.ble pc 959) (cond (Nat.beq pc 959) (some (.iadd, 1)) none) (cond (Nat.ble pc 960) (cond (Nat.beq pc 960) (some (.iaload, 1)) none) (cond (Nat.beq pc 961) (some (.aload_n 0, 1)) none)))) (cond (Nat.ble pc 964) (cond (Nat.ble pc 962) (cond (Nat.beq pc 962) (some (.iload 4, 2)) none) (cond (Nat.beq pc 964) (some (.iconst 2, 1)) none)) (cond (Nat.ble pc 965) (cond (Nat.beq pc 965) (some (.iadd, 1)) none) (cond (Nat.ble pc 966) (cond (Nat.beq pc 966) (some (.iaload, 1)) none) (cond (Nat.beq pc 967) (some (.invokevirtual 157, 3)) none)))))) (cond (Nat.ble pc 988) (cond (Nat.ble pc 978) (cond (Nat.ble pc 972) (cond (Nat.ble pc 970) (cond (Nat.beq pc 970) (some (.istore 6, 2)) none) (cond (Nat.beq pc 972) (some (.aload_n 2, 1)) none)) (cond (Nat.ble pc 973) (cond (Nat.beq pc 973) (some (.invokevirtual 118, 3)) none) (cond (Nat.ble pc 976) (cond (Nat.beq pc 976) (some (.iload 5, 2)) none) (cond (Nat.beq pc 978) (some (.if_icmp .eq 5, 3)) none)))) (cond (Nat.ble pc 982) (cond (Nat.ble pc 981) (cond (Nat.beq pc 981) (some (.iconst 0, 1)) none) (cond (Nat.beq pc 982) (some (.ireturn, 1)) none)) (cond (Nat.ble pc 983) (cond (Nat.beq pc 983) (some (.iload 5, 2)) none) (cond (Nat.ble pc 985) (cond (Nat.beq pc 985) (some (.ifCond .ne 15, 3)) none) (cond (Nat.beq pc 988) (some (.aload_n 3, 1)) none))))) (cond (Nat.ble pc 994) (cond (Nat.ble pc 990) (cond (Nat.ble pc 989) (cond (Nat.beq pc 989) (some (.iconst 0, 1)) none) (cond (Nat.beq pc 990) (some (.laload, 1)) none)) (cond (Nat.ble pc 991) (cond (Nat.beq pc 991) (some (.iload 6, 2)) none) (cond (Nat.ble pc 993) (cond (Nat.beq pc 993) (some (.i2l, 1)) none) (cond (Nat.beq pc 994) (some (.lcmp, 1)) none)))) (cond (Nat.ble pc 999) (cond (Nat.ble pc 995) (cond (Nat.beq pc 995) (some (.ifCond .eq 5, 3)) none) (cond (Nat.ble pc 998) (cond (Nat.beq pc 998) (some (.iconst 0, 1)) none) (cond (Nat.beq pc 999) (some (.ireturn, 1)) none))) (cond (Nat.ble pc 1000) (cond (Nat.beq pc 1000) (some (.goto 1130, 3)) none) (cond (Nat.ble pc 1003) (cond (Nat.beq pc 1003) (some (.aload_n 1, 1)) none) (cond (Nat.beq pc 1004) (some (.aload_n 0, 1)) none)))))))) (cond (Nat.ble pc 1067) (cond (Nat.ble pc 1037) (cond (Nat.ble pc 1018) (cond (Nat.ble pc 1010) (cond (Nat.ble pc 1007) (cond (Nat.ble pc 1005) (cond (Nat.beq pc 1005) (some (.iload 4, 2)) none) (cond (Nat.beq pc 1007) (some (.iconst 1, 1)) none)) (cond (Nat.ble pc 1008) (cond (Nat.beq pc 1008) (some (.iadd, 1)) none) (cond (Nat.ble pc 1009) (cond (Nat.beq pc 1009) (some (.iaload, 1)) none) (cond (Nat.beq pc 1010) (some (.aload_n 3, 1)) none)))) (cond (Nat.ble pc 1014) (cond (Nat.ble pc 1011) (cond (Nat.beq pc 1011) (some (.invokestatic 158, 3)) none) (cond (Nat.beq pc 1014) (some (.istore 5, 2)) none)) (cond (Nat.ble pc 1016) (cond (Nat.beq pc 1016) (some (.aload_n 2, 1)) none) (cond (Nat.ble pc 1017) (cond (Nat.beq pc 1017) (some (.aload_n 0, 1)) none) (cond (Nat.beq pc 1018) (some (.iload 4, 2)) none))))) (cond (Nat.ble pc 1026) (cond (Nat.ble pc 1021) (cond (Nat.ble pc 1020) (cond (Nat.beq pc 1020) (some (.iconst 1, 1)) none) (cond (Nat.beq pc 1021) (some (.iadd, 1)) none)) (cond (Nat.ble pc 1022) (cond (Nat.beq pc 1022) (some (.iaload, 1)) none) (cond (Nat.ble pc 1023) (cond (Nat.beq pc 1023) (some (.invokevirtual 160, 3)) none) (cond (Nat.beq pc 1026) (some (.istore 6, 2)) none)))) (cond (Nat.ble pc 1029) (cond (Nat.ble pc 1028) (cond (Nat.beq pc 1028) (some (.aload_n 2, 1)) none) (cond (Nat.beq pc 1029) (some (.invokevirtual 118, 3)) none)) (cond (Nat.ble pc 1032) (cond (Nat.beq pc 1032) (some (.iload 5, 2)) none) (cond (Nat.ble pc 1034) (cond (Nat.beq pc 1034) (some (.if_icmp .eq 5, 3)) none) (cond (Nat.beq pc 1037) (some (.iconst 0, 1)) none)))))) (cond (Nat.ble pc 1051) (cond (Nat.ble pc 1045) (cond (Nat.ble pc 1039) (cond (Nat.ble pc 1038) (cond (Nat.beq pc 1038) (some (.ireturn, 1)) none) (cond (Nat.beq pc 1039) (some (.iload 5, 2)) none)) (cond (Nat.ble pc 1041) (cond (Nat.beq pc 1041) (some (.ifCond .ne 15, 3)) none) (cond (Nat.ble pc 1044) (cond (Nat.beq pc 1044) (some (.aload_n 3, 1)) none) (cond (Nat.beq pc 1045) (some (.iconst 0, 1)) none)))) (cond (Nat.ble pc 1047) (cond (Nat.ble pc 1046) (cond (Nat.beq pc 1046) (some (.laload, 1)) none) (cond (Nat.beq pc 1047) (some (.iload 6, 2)) none)) (cond (Nat.ble pc 1049) (cond (Nat.beq pc 1049) (some (.i2l, 1)) none) (cond (Nat.ble pc 1050) (cond (Nat.beq pc 1050) (some (.lcmp, 1)) none) (cond (Nat.beq pc 1051) (some (.ifCond .eq 5, 3)) none))))) (cond (Nat.ble pc 1060) (cond (Nat.ble pc 1055) (cond (Nat.ble pc 1054) (cond (Nat.beq pc 1054) (some (.iconst 0, 1)) none) (cond (Nat.beq pc 1055) (some (.ireturn, 1)) none)) (cond (Nat.ble pc 1056) (cond (Nat.beq pc 1056) (some (.goto 1074, 3)) none) (cond (Nat.ble pc 1059) (cond (Nat.beq pc 1059) (some (.aload_n 1, 1)) none) (cond (Nat.beq pc 1060) (some (.aload_n 0, 1)) none)))) (cond (Nat.ble pc 1064) (cond (Nat.ble pc 1061) (cond (Nat.beq pc 1061) (some (.iload 4, 2)) none) (cond (Nat.ble pc 1063) (cond (Nat.beq pc 1063) (some (.iconst 1, 1)) none) (cond (Nat.beq pc 1064) (some (.iadd, 1)) none))) (cond (Nat.ble pc 1065) (cond (Nat.beq pc 1065) (some (.iaload, 1)) none) (cond (Nat.ble pc 1066) (cond (Nat.beq pc 1066) (some (.aload_n 0, 1)) none) (cond (Nat.beq pc 1067) (some (.iload 4, 2)) none))))))) (cond (Nat.ble pc 1096) (cond (Nat.ble pc 1082) (cond (Nat.ble pc 1073) (cond (Nat.ble pc 1070) (cond (Nat.ble pc 1069) (cond (Nat.beq pc 1069) (some (.iconst 2, 1)) none) (cond (Nat.beq pc 1070) (some (.iadd, 1)) none)) (cond (Nat.ble pc 1071) (cond (Nat.beq pc 1071) (some (.iaload, 1)) none) (cond (Nat.ble pc 1072) (cond (Nat.beq pc 1072) (some (.aload_n 3, 1)) none) (cond (Nat.beq pc 1073) (some (.invokestatic 161, 3)) none)))) (cond (Nat.ble pc 1078) (cond (Nat.ble pc 1076) (cond (Nat.beq pc 1076) (some (.istore 5, 2)) none) (cond (Nat.beq pc 1078) (some (.aload_n 2, 1)) none)) (cond (Nat.ble pc 1079) (cond (Nat.beq pc 1079) (some (.aload_n 0, 1)) none) (cond (Nat.ble pc 1080) (cond (Nat.beq pc 1080) (some (.iload 4, 2)) none) (cond (Nat.beq pc 1082) (some (.iconst 1, 1)) none))))) (cond (Nat.ble pc 1088) (cond (Nat.ble pc 1084) (cond (Nat.ble pc 1083) (cond (Nat.beq pc 1083) (some (.iadd, 1)) none) (cond (Nat.beq pc 1084) (some (.iaload, 1)) none)) (cond (Nat.ble pc 1085) (cond (Nat.beq pc 1085) (some (.aload_n 0, 1)) none) (cond (Nat.ble pc 1086) (cond (Nat.beq pc 1086) (some (.iload 4, 2)) none) (cond (Nat.beq pc 1088) (some (.iconst 2, 1)) none)))) (cond (Nat.ble pc 1090) (cond (Nat.ble pc 1089) (cond (Nat.beq pc 1089) (some (.iadd, 1)) none) (cond (Nat.beq pc 1090) (some (.iaload, 1)) none)) (cond (Nat.ble pc 1091) (cond (Nat.beq pc 1091) (some (.invokevirtual 163, 3)) none) (cond (Nat.ble pc 1094) (cond (Nat.beq pc 1094) (some (.istore 6, 2)) none) (cond (Nat.beq pc 1096) (some (.aload_n 2, 1)) none)))))) (cond (Nat.ble pc 1114) (cond (Nat.ble pc 1106) (cond (Nat.ble pc 1100) (cond (Nat.ble pc 1097) (cond (Nat.beq pc 1097) (some (.invokevirtual 118, 3)) none) (cond (Nat.beq pc 1100) (some (.iload 5, 2)) none)) (cond (Nat.ble pc 1102) (cond (Nat.beq pc 1102) (some (.if_icmp .eq 5, 3)) none) (cond (Nat.ble pc 1105) (cond (Nat.beq pc 1105) (some (.iconst 0, 1)) none) (cond (Nat.beq pc 1106) (some (.ireturn, 1)) none)))) (cond (Nat.ble pc 1109) (cond (Nat.ble pc 1107) (cond (Nat.beq pc 1107) (some (.iload 5, 2)) none) (cond (Nat.beq pc 1109) (some (.ifCond .ne 15, 3)) none)) (cond (Nat.ble pc 1112) (cond (Nat.beq pc 1112) (some (.aload_n 3, 1)) none) (cond (Nat.ble pc 1113) (cond (Nat.beq pc 1113) (some (.iconst 0, 1)) none) (cond (Nat.beq pc 1114) (some (.laload, 1)) none))))) (cond (Nat.ble pc 1122) (cond (Nat.ble pc 1117) (cond (Nat.ble pc 1115) (cond (Nat.beq pc 1115) (some (.iload 6, 2)) none) (cond (Nat.beq pc 1117) (some (.i2l, 1)) none)) (cond (Nat.ble pc 1118) (cond (Nat.beq pc 1118) (some (.lcmp, 1)) none) (cond (Nat.ble pc 1119) (cond (Nat.beq pc 1119) (some (.ifCond .eq 5, 3)) none) (cond (Nat.beq pc 1122) (some (.iconst 0, 1)) none)))) (cond (Nat.ble pc 1127) (cond (Nat.ble pc 1123) (cond (Nat.beq pc 1123) (some (.ireturn, 1)) none) (cond (Nat.ble pc 1124) (cond (Nat.beq pc 1124) (some (.goto 1006, 3)) none) (cond (Nat.beq pc 1127) (some (.aload_n 1, 1)) none))) (cond (Nat.ble pc 1128) (cond (Nat.beq pc 1128) (some (.aload_n 0, 1)) none) (cond (Nat.ble pc 1129) (cond (Nat.beq pc 1129) (some (.iload 4, 2)) none) (cond (Nat.beq pc 1131) (some (.iconst 1, 1)) none))))))))))) (cond (Nat.ble pc 1622) (cond (Nat.ble pc 1387) (cond (Nat.ble pc 1256) (cond (Nat.ble pc 1191) (cond (Nat.ble pc 1157) (cond (Nat.ble pc 1144) (cond (Nat.ble pc 1137) (cond (Nat.ble pc 1133) (cond (Nat.ble pc 1132) (cond (Nat.beq pc 1132) (some (.iadd, 1)) none) (cond (Nat.beq pc 1133) (some (.iaload, 1)) none)) (cond (Nat.ble pc 1134) (cond (Nat.beq pc 1134) (some (.aload_n 0, 1)) none) (cond (Nat.ble pc 1135) (cond (Nat.beq pc 1135) (some (.iload 4, 2)) none) (cond (Nat.beq pc 1137) (some (.iconst 2, 1)) none)))) (cond (Nat.ble pc 1139) (cond (Nat.ble pc 1138) (cond (Nat.beq pc 1138) (some (.iadd, 1)) none) (cond (Nat.beq pc 1139) (some (.iaload, 1)) none)) (cond (Nat.ble pc 1140) (cond (Nat.beq pc 1140) (some (.aload_n 3, 1)) none) (cond (Nat.ble pc 1141) (cond (Nat.beq pc 1141) (some (.invokestatic 164, 3)) none) (cond (Nat.beq pc 1144) (some (.istore 5, 2)) none))))) (cond (Nat.ble pc 1151) (cond (Nat.ble pc 1147) (cond (Nat.ble pc 1146) (cond (Nat.beq pc 1146) (some (.aload_n 2, 1)) none) (cond (Nat.beq pc 1147) (some (.aload_n 0, 1)) none)) (cond (Nat.ble pc 1148) (cond (Nat.beq pc 1148) (some (.iload 4, 2)) none) (cond (Nat.ble pc 1150) (cond (Nat.beq pc 1150) (some (.iconst 1, 1)) none) (cond (Nat.beq pc 1151) (some (.iadd, 1)) none)))) (cond (Nat.ble pc 1153) (cond (Nat.ble pc 1152) (cond (Nat.beq pc 1152) (some (.iaload, 1)) none) (cond (Nat.beq pc 1153) (some (.aload_n 0, 1)) none)) (cond (Nat.ble pc 1154) (cond (Nat.beq pc 1154) (some (.iload 4, 2)) none) (cond (Nat.ble pc 1156) (cond (Nat.beq pc 1156) (some (.iconst 2, 1)) none) (cond (Nat.beq pc 1157) (some (.iadd, 1)) none)))))) (cond (Nat.ble pc 1175) (cond (Nat.ble pc 1165) (cond (Nat.ble pc 1159) (cond (Nat.ble pc 1158) (cond (Nat.beq pc 1158) (some (.iaload, 1)) none) (cond (Nat.beq pc 1159) (some (.invokevirtual 166, 3)) none)) (cond (Nat.ble pc 1162) (cond (Nat.beq pc 1162) (some (.istore 6, 2)) none) (cond (Nat.ble pc 1164) (cond (Nat.beq pc 1164) (some (.aload_n 2, 1)) none) (cond (Nat.beq pc 1165) (some (.invokevirtual 118, 3)) none)))) (cond (Nat.ble pc 1170) (cond (Nat.ble pc 1168) (cond (Nat.beq pc 1168) (some (.iload 5, 2)) none) (cond (Nat.beq pc 1170) (some (.if_icmp .eq 5, 3)) none)) (cond (Nat.ble pc 1173) (cond (Nat.beq pc 1173) (some (.iconst 0, 1)) none) (cond (Nat.ble pc 1174) (cond (Nat.beq pc 1174) (some (.ireturn, 1)) none) (cond (Nat.beq pc 1175) (some (.iload 5, 2)) none))))) (cond (Nat.ble pc 1183) (cond (Nat.ble pc 1180) (cond (Nat.ble pc 1177) (cond (Nat.beq pc 1177) (some (.ifCond .ne 15, 3)) none) (cond (Nat.beq pc 1180) (some (.aload_n 3, 1)) none)) (cond (Nat.ble pc 1181) (cond (Nat.beq pc 1181) (some (.iconst 0, 1)) none) (cond (Nat.ble pc 1182) (cond (Nat.beq pc 1182) (some (.laload, 1)) none) (cond (Nat.beq pc 1183) (some (.iload 6, 2)) none)))) (cond (Nat.ble pc 1186) (cond (Nat.ble pc 1185) (cond (Nat.beq pc 1185) (some (.i2l, 1)) none) (cond (Nat.beq pc 1186) (some (.lcmp, 1)) none)) (cond (Nat.ble pc 1187) (cond (Nat.beq pc 1187) (some (.ifCond .eq 5, 3)) none) (cond (Nat.ble pc 1190) (cond (Nat.beq pc 1190) (some (.iconst 0, 1)) none) (cond (Nat.beq pc 1191) (some (.ireturn, 1)) none))))))) (cond (Nat.ble pc 1221) (cond (Nat.ble pc 1206) (cond (Nat.ble pc 1199) (cond (Nat.ble pc 1195) (cond (Nat.ble pc 1192) (cond (Nat.beq pc 1192) (some (.goto 938, 3)) none) (cond (Nat.beq pc 1195) (some (.aload_n 1, 1)) none)) (cond (Nat.ble pc 1196) (cond (Nat.beq pc 1196) (some (.aload_n 0, 1)) none) (cond (Nat.ble pc 1197) (cond (Nat.beq pc 1197) (some (.iload 4, 2)) none) (cond (Nat.beq pc 1199) (some (.iconst 1, 1)) none)))) (cond (Nat.ble pc 1201) (cond (Nat.ble pc 1200) (cond (Nat.beq pc 1200) (some (.iadd, 1)) none) (cond (Nat.beq pc 1201) (some (.iaload, 1)) none)) (cond (Nat.ble pc 1202) (cond (Nat.beq pc 1202) (some (.aload_n 3, 1)) none) (cond (Nat.ble pc 1203) (cond (Nat.beq pc 1203) (some (.invokestatic 167, 3)) none) (cond (Nat.beq pc 1206) (some (.istore 5, 2)) none))))) (cond (Nat.ble pc 1213) (cond (Nat.ble pc 1209) (cond (Nat.ble pc 1208) (cond (Nat.beq pc 1208) (some (.aload_n 2, 1)) none) (cond (Nat.beq pc 1209) (some (.aload_n 0, 1)) none)) (cond (Nat.ble pc 1210) (cond (Nat.beq pc 1210) (some (.iload 4, 2)) none) (cond (Nat.ble pc 1212) (cond (Nat.beq pc 1212) (some (.iconst 1, 1)) none) (cond (Nat.beq pc 1213) (some (.iadd, 1)) none)))) (cond (Nat.ble pc 1215) (cond (Nat.ble pc 1214) (cond (Nat.beq pc 1214) (some (.iaload, 1)) none) (cond (Nat.beq pc 1215) (some (.invokevirtual 169, 3)) none)) (cond (Nat.ble pc 1218) (cond (Nat.beq pc 1218) (some (.istore 6, 2)) none) (cond (Nat.ble pc 1220) (cond (Nat.beq pc 1220) (some (.aload_n 2, 1)) none) (cond (Nat.beq pc 1221) (some (.invokevirtual 118, 3)) none)))))) (cond (Nat.ble pc 1239) (cond (Nat.ble pc 1231) (cond (Nat.ble pc 1226) (cond (Nat.ble pc 1224) (cond (Nat.beq pc 1224) (some (.iload 5, 2)) none) (cond (Nat.beq pc 1226) (some (.if_icmp .eq 5, 3)) none)) (cond (Nat.ble pc 1229) (cond (Nat.beq pc 1229) (some (.iconst 0, 1)) none) (cond (Nat.ble pc 1230) (cond (Nat.beq pc 1230) (some (.ireturn, 1)) none) (cond (Nat.beq pc 1231) (some (.iload 5, 2)) none)))) (cond (Nat.ble pc 1236) (cond (Nat.ble pc 1233) (cond (Nat.beq pc 1233) (some (.ifCond .ne 15, 3)) none) (cond (Nat.beq pc 1236) (some (.aload_n 3, 1)) none)) (cond (Nat.ble pc 1237) (cond (Nat.beq pc 1237) (some (.iconst 0, 1)) none) (cond (Nat.ble pc 1238) (cond (Nat.beq pc 1238) (some (.laload, 1)) none) (cond (Nat.beq pc 1239) (some (.iload 6, 2)) none))))) (cond (Nat.ble pc 1247) (cond (Nat.ble pc 1242) (cond (Nat.ble pc 1241) (cond (Nat.beq pc 1241) (some (.i2l, 1)) none) (cond (Nat.beq pc 1242) (some (.lcmp, 1)) none)) (cond (Nat.ble pc 1243) (cond (Nat.beq pc 1243) (some (.ifCond .eq 5, 3)) none) (cond (Nat.ble pc 1246) (cond (Nat.beq pc 1246) (some (.iconst 0, 1)) none) (cond (Nat.beq pc 1247) (some (.ireturn, 1)) none)))) (cond (Nat.ble pc 1252) (cond (Nat.ble pc 1248) (cond (Nat.beq pc 1248) (some (.goto 882, 3)) none) (cond (Nat.ble pc 1251) (cond (Nat.beq pc 1251) (some (.aload_n 1, 1)) none) (cond (Nat.beq pc 1252) (some (.aload_n 0, 1)) none))) (cond (Nat.ble pc 1253) (cond (Nat.beq pc 1253) (some (.iload 4, 2)) none) (cond (Nat.ble pc 1255) (cond (Nat.beq pc 1255) (some (.iconst 1, 1)) none) (cond (Nat.beq pc 1256) (some (.iadd, 1)) none)))))))) (cond (Nat.ble pc 1321) (cond (Nat.ble pc 1289) (cond (Nat.ble pc 1270) (cond (Nat.ble pc 1264) (cond (Nat.ble pc 1258) (cond (Nat.ble pc 1257) (cond (Nat.beq pc 1257) (some (.iaload, 1)) none) (cond (Nat.beq pc 1258) (some (.aload_n 3, 1)) none)) (cond (Nat.ble pc 1259) (cond (Nat.beq pc 1259) (some (.invokestatic 170, 3)) none) (cond (Nat.ble pc 1262) (cond (Nat.beq pc 1262) (some (.istore 5, 2)) none) (cond (Nat.beq pc 1264) (some (.aload_n 2, 1)) none)))) (cond (Nat.ble pc 1266) (cond (Nat.ble pc 1265) (cond (Nat.beq pc 1265) (some (.aload_n 0, 1)) none) (cond (Nat.beq pc 1266) (some (.iload 4, 2)) none)) (cond (Nat.ble pc 1268) (cond (Nat.beq pc 1268) (some (.iconst 1, 1)) none) (cond (Nat.ble pc 1269) (cond (Nat.beq pc 1269) (some (.iadd, 1)) none) (cond (Nat.beq pc 1270) (some (.iaload, 1)) none))))) (cond (Nat.ble pc 1280) (cond (Nat.ble pc 1274) (cond (Nat.ble pc 1271) (cond (Nat.beq pc 1271) (some (.invokevirtual 172, 3)) none) (cond (Nat.beq pc 1274) (some (.istore 6, 2)) none)) (cond (Nat.ble pc 1276) (cond (Nat.beq pc 1276) (some (.aload_n 2, 1)) none) (cond (Nat.ble pc 1277) (cond (Nat.beq pc 1277) (some (.invokevirtual 118, 3)) none) (cond (Nat.beq pc 1280) (some (.iload 5, 2)) none)))) (cond (Nat.ble pc 1285) (cond (Nat.ble pc 1282) (cond (Nat.beq pc 1282) (some (.if_icmp .eq 5, 3)) none) (cond (Nat.beq pc 1285) (some (.iconst 0, 1)) none)) (cond (Nat.ble pc 1286) (cond (Nat.beq pc 1286) (some (.ireturn, 1)) none) (cond (Nat.ble pc 1287) (cond (Nat.beq pc 1287) (some (.iload 5, 2)) none) (cond (Nat.beq pc 1289) (some (.ifCond .ne 15, 3)) none)))))) (cond (Nat.ble pc 1304) (cond (Nat.ble pc 1297) (cond (Nat.ble pc 1293) (cond (Nat.ble pc 1292) (cond (Nat.beq pc 1292) (some (.aload_n 3, 1)) none) (cond (Nat.beq pc 1293) (some (.iconst 0, 1)) none)) (cond (Nat.ble pc 1294) (cond (Nat.beq pc 1294) (some (.laload, 1)) none) (cond (Nat.ble pc 1295) (cond (Nat.beq pc 1295) (some (.iload 6, 2)) none) (cond (Nat.beq pc 1297) (some (.i2l, 1)) none)))) (cond (Nat.ble pc 1299) (cond (Nat.ble pc 1298) (cond (Nat.beq pc 1298) (some (.lcmp, 1)) none) (cond (Nat.beq pc 1299) (some (.ifCond .eq 5, 3)) none)) (cond (Nat.ble pc 1302) (cond (Nat.beq pc 1302) (some (.iconst 0, 1)) none) (cond (Nat.ble pc 1303) (cond (Nat.beq pc 1303) (some (.ireturn, 1)) none) (cond (Nat.beq pc 1304) (some (.goto 826, 3)) none))))) (cond (Nat.ble pc 1312) (cond (Nat.ble pc 1308) (cond (Nat.ble pc 1307) (cond (Nat.beq pc 1307) (some (.aload_n 1, 1)) none) (cond (Nat.beq pc 1308) (some (.aload_n 0, 1)) none)) (cond (Nat.ble pc 1309) (cond (Nat.beq pc 1309) (some (.iload 4, 2)) none) (cond (Nat.ble pc 1311) (cond (Nat.beq pc 1311) (some (.iconst 1, 1)) none) (cond (Nat.beq pc 1312) (some (.iadd, 1)) none)))) (cond (Nat.ble pc 1315) (cond (Nat.ble pc 1313) (cond (Nat.beq pc 1313) (some (.iaload, 1)) none) (cond (Nat.ble pc 1314) (cond (Nat.beq pc 1314) (some (.aload_n 3, 1)) none) (cond (Nat.beq pc 1315) (some (.invokestatic 173, 3)) none))) (cond (Nat.ble pc 1318) (cond (Nat.beq pc 1318) (some (.istore 5, 2)) none) (cond (Nat.ble pc 1320) (cond (Nat.beq pc 1320) (some (.aload_n 2, 1)) none) (cond (Nat.beq pc 1321) (some (.aload_n 0, 1)) none))))))) (cond (Nat.ble pc 1354) (cond (Nat.ble pc 1338) (cond (Nat.ble pc 1327) (cond (Nat.ble pc 1324) (cond (Nat.ble pc 1322) (cond (Nat.beq pc 1322) (some (.iload 4, 2)) none) (cond (Nat.beq pc 1324) (some (.iconst 1, 1)) none)) (cond (Nat.ble pc 1325) (cond (Nat.beq pc 1325) (some (.iadd, 1)) none) (cond (Nat.ble pc 1326) (cond (Nat.beq pc 1326) (some (.iaload, 1)) none) (cond (Nat.beq pc 1327) (some (.invokevirtual 175, 3)) none)))) (cond (Nat.ble pc 1332) (cond (Nat.ble pc 1330) (cond (Nat.beq pc 1330) (some (.istore 6, 2)) none) (cond (Nat.beq pc 1332) (some (.aload_n 2, 1)) none)) (cond (Nat.ble pc 1333) (cond (Nat.beq pc 1333) (some (.invokevirtual 118, 3)) none) (cond (Nat.ble pc 1336) (cond (Nat.beq pc 1336) (some (.iload 5, 2)) none) (cond (Nat.beq pc 1338) (some (.if_icmp .eq 5, 3)) none))))) (cond (Nat.ble pc 1348) (cond (Nat.ble pc 1342) (cond (Nat.ble pc 1341) (cond (Nat.beq pc 1341) (some (.iconst 0, 1)) none) (cond (Nat.beq pc 1342) (some (.ireturn, 1)) none)) (cond (Nat.ble pc 1343) (cond (Nat.beq pc 1343) (some (.iload 5, 2)) none) (cond (Nat.ble pc 1345) (cond (Nat.beq pc 1345) (some (.ifCond .ne 15, 3)) none) (cond (Nat.beq pc 1348) (some (.aload_n 3, 1)) none)))) (cond (Nat.ble pc 1350) (cond (Nat.ble pc 1349) (cond (Nat.beq pc 1349) (some (.iconst 0, 1)) none) (cond (Nat.beq pc 1350) (some (.laload, 1)) none)) (cond (Nat.ble pc 1351) (cond (Nat.beq pc 1351) (some (.iload 6, 2)) none) (cond (Nat.ble pc 1353) (cond (Nat.beq pc 1353) (some (.i2l, 1)) none) (cond (Nat.beq pc 1354) (some (.lcmp, 1)) none)))))) (cond (Nat.ble pc 1374) (cond (Nat.ble pc 1363) (cond (Nat.ble pc 1358) (cond (Nat.ble pc 1355) (cond (Nat.beq pc 1355) (some (.ifCond .eq 5, 3)) none) (cond (Nat.beq pc 1358) (some (.iconst 0, 1)) none)) (cond (Nat.ble pc 1359) (cond (Nat.beq pc 1359) (some (.ireturn, 1)) none) (cond (Nat.ble pc 1360) (cond (Nat.beq pc 1360) (some (.goto 770, 3)) none) (cond (Nat.beq pc 1363) (some (.aload_n 1, 1)) none)))) (cond (Nat.ble pc 1367) (cond (Nat.ble pc 1364) (cond (Nat.beq pc 1364) (some (.invokevirtual 176, 3)) none) (cond (Nat.beq pc 1367) (some (.aload_n 2, 1)) none)) (cond (Nat.ble pc 1368) (cond (Nat.beq pc 1368) (some (.invokevirtual 179, 3)) none) (cond (Nat.ble pc 1371) (cond (Nat.beq pc 1371) (some (.if_icmp .eq 759, 3)) none) (cond (Nat.beq pc 1374) (some (.iconst 0, 1)) none))))) (cond (Nat.ble pc 1380) (cond (Nat.ble pc 1376) (cond (Nat.ble pc 1375) (cond (Nat.beq pc 1375) (some (.ireturn, 1)) none) (cond (Nat.beq pc 1376) (some (.aload_n 1, 1)) none)) (cond (Nat.ble pc 1377) (cond (Nat.beq pc 1377) (some (.aload_n 0, 1)) none) (cond (Nat.ble pc 1378) (cond (Nat.beq pc 1378) (some (.iload 4, 2)) none) (cond (Nat.beq pc 1380) (some (.iconst 1, 1)) none)))) (cond (Nat.ble pc 1383) (cond (Nat.ble pc 1381) (cond (Nat.beq pc 1381) (some (.iadd, 1)) none) (cond (Nat.ble pc 1382) (cond (Nat.beq pc 1382) (some (.iaload, 1)) none) (cond (Nat.beq pc 1383) (some (.aload_n 0, 1)) none))) (cond (Nat.ble pc 1384) (cond (Nat.beq pc 1384) (some (.iload 4, 2)) none) (cond (Nat.ble pc 1386) (cond (Nat.beq pc 1386) (some (.iconst 2, 1)) none) (cond (Nat.beq pc 1387) (some (.iadd, 1)) none))))))))) (cond (Nat.ble pc 1502) (cond (Nat.ble pc 1446) (cond (Nat.ble pc 1413) (cond (Nat.ble pc 1401) (cond (Nat.ble pc 1393) (cond (Nat.ble pc 1389) (cond (Nat.ble pc 1388) (cond (Nat.beq pc 1388) (some (.iaload, 1)) none) (cond (Nat.beq pc 1389) (some (.aload_n 0, 1)) none)) (cond (Nat.ble pc 1390) (cond (Nat.beq pc 1390) (some (.iload 4, 2)) none) (cond (Nat.ble pc 1392) (cond (Nat.beq pc 1392) (some (.iconst 3, 1)) none) (cond (Nat.beq pc 1393) (some (.iadd, 1)) none)))) (cond (Nat.ble pc 1395) (cond (Nat.ble pc 1394) (cond (Nat.beq pc 1394) (some (.iaload, 1)) none) (cond (Nat.beq pc 1395) (some (.aload_n 3, 1)) none)) (cond (Nat.ble pc 1396) (cond (Nat.beq pc 1396) (some (.invokestatic 180, 3)) none) (cond (Nat.ble pc 1399) (cond (Nat.beq pc 1399) (some (.istore 5, 2)) none) (cond (Nat.beq pc 1401) (some (.aload_n 2, 1)) none))))) (cond (Nat.ble pc 1407) (cond (Nat.ble pc 1403) (cond (Nat.ble pc 1402) (cond (Nat.beq pc 1402) (some (.aload_n 0, 1)) none) (cond (Nat.beq pc 1403) (some (.iload 4, 2)) none)) (cond (Nat.ble pc 1405) (cond (Nat.beq pc 1405) (some (.iconst 1, 1)) none) (cond (Nat.ble pc 1406) (cond (Nat.beq pc 1406) (some (.iadd, 1)) none) (cond (Nat.beq pc 1407) (some (.iaload, 1)) none)))) (cond (Nat.ble pc 1409) (cond (Nat.ble pc 1408) (cond (Nat.beq pc 1408) (some (.aload_n 0, 1)) none) (cond (Nat.beq pc 1409) (some (.iload 4, 2)) none)) (cond (Nat.ble pc 1411) (cond (Nat.beq pc 1411) (some (.iconst 2, 1)) none) (cond (Nat.ble pc 1412) (cond (Nat.beq pc 1412) (some (.iadd, 1)) none) (cond (Nat.beq pc 1413) (some (.iaload, 1)) none)))))) (cond (Nat.ble pc 1429) (cond (Nat.ble pc 1419) (cond (Nat.ble pc 1415) (cond (Nat.ble pc 1414) (cond (Nat.beq pc 1414) (some (.aload_n 0, 1)) none) (cond (Nat.beq pc 1415) (some (.iload 4, 2)) none)) (cond (Nat.ble pc 1417) (cond (Nat.beq pc 1417) (some (.iconst 3, 1)) none) (cond (Nat.ble pc 1418) (cond (Nat.beq pc 1418) (some (.iadd, 1)) none) (cond (Nat.beq pc 1419) (some (.iaload, 1)) none)))) (cond (Nat.ble pc 1423) (cond (Nat.ble pc 1420) (cond (Nat.beq pc 1420) (some (.invokevirtual 182, 3)) none) (cond (Nat.beq pc 1423) (some (.istore 6, 2)) none)) (cond (Nat.ble pc 1425) (cond (Nat.beq pc 1425) (some (.aload_n 2, 1)) none) (cond (Nat.ble pc 1426) (cond (Nat.beq pc 1426) (some (.invokevirtual 118, 3)) none) (cond (Nat.beq pc 1429) (some (.iload 5, 2)) none))))) (cond (Nat.ble pc 1438) (cond (Nat.ble pc 1434) (cond (Nat.ble pc 1431) (cond (Nat.beq pc 1431) (some (.if_icmp .eq 5, 3)) none) (cond (Nat.beq pc 1434) (some (.iconst 0, 1)) none)) (cond (Nat.ble pc 1435) (cond (Nat.beq pc 1435) (some (.ireturn, 1)) none) (cond (Nat.ble pc 1436) (cond (Nat.beq pc 1436) (some (.iload 5, 2)) none) (cond (Nat.beq pc 1438) (some (.ifCond .ne 15, 3)) none)))) (cond (Nat.ble pc 1442) (cond (Nat.ble pc 1441) (cond (Nat.beq pc 1441) (some (.aload_n 3, 1)) none) (cond (Nat.beq pc 1442) (some (.iconst 0, 1)) none)) (cond (Nat.ble pc 1443) (cond (Nat.beq pc 1443) (some (.laload, 1)) none) (cond (Nat.ble pc 1444) (cond (Nat.beq pc 1444) (some (.iload 6, 2)) none) (cond (Nat.beq pc 1446) (some (.i2l, 1)) none))))))) (cond (Nat.ble pc 1473) (cond (Nat.ble pc 1461) (cond (Nat.ble pc 1453) (cond (Nat.ble pc 1448) (cond (Nat.ble pc 1447) (cond (Nat.beq pc 1447) (some (.lcmp, 1)) none) (cond (Nat.beq pc 1448) (some (.ifCond .eq 5, 3)) none)) (cond (Nat.ble pc 1451) (cond (Nat.beq pc 1451) (some (.iconst 0, 1)) none) (cond (Nat.ble pc 1452) (cond (Nat.beq pc 1452) (some (.ireturn, 1)) none) (cond (Nat.beq pc 1453) (some (.goto 677, 3)) none)))) (cond (Nat.ble pc 1457) (cond (Nat.ble pc 1456) (cond (Nat.beq pc 1456) (some (.aload_n 1, 1)) none) (cond (Nat.beq pc 1457) (some (.aload_n 0, 1)) none)) (cond (Nat.ble pc 1458) (cond (Nat.beq pc 1458) (some (.iload 4, 2)) none) (cond (Nat.ble pc 1460) (cond (Nat.beq pc 1460) (some (.iconst 1, 1)) none) (cond (Nat.beq pc 1461) (some (.iadd, 1)) none))))) (cond (Nat.ble pc 1467) (cond (Nat.ble pc 1463) (cond (Nat.ble pc 1462) (cond (Nat.beq pc 1462) (some (.iaload, 1)) none) (cond (Nat.beq pc 1463) (some (.aload_n 0, 1)) none)) (cond (Nat.ble pc 1464) (cond (Nat.beq pc 1464) (some (.iload 4, 2)) none) (cond (Nat.ble pc 1466) (cond (Nat.beq pc 1466) (some (.iconst 2, 1)) none) (cond (Nat.beq pc 1467) (some (.iadd, 1)) none)))) (cond (Nat.ble pc 1469) (cond (Nat.ble pc 1468) (cond (Nat.beq pc 1468) (some (.iaload, 1)) none) (cond (Nat.beq pc 1469) (some (.aload_n 0, 1)) none)) (cond (Nat.ble pc 1470) (cond (Nat.beq pc 1470) (some (.iload 4, 2)) none) (cond (Nat.ble pc 1472) (cond (Nat.beq pc 1472) (some (.iconst 3, 1)) none) (cond (Nat.beq pc 1473) (some (.iadd, 1)) none)))))) (cond (Nat.ble pc 1487) (cond (Nat.ble pc 1481) (cond (Nat.ble pc 1475) (cond (Nat.ble pc 1474) (cond (Nat.beq pc 1474) (some (.iaload, 1)) none) (cond (Nat.beq pc 1475) (some (.invokestatic 183, 3)) none)) (cond (Nat.ble pc 1478) (cond (Nat.beq pc 1478) (some (.istore 5, 2)) none) (cond (Nat.ble pc 1480) (cond (Nat.beq pc 1480) (some (.aload_n 2, 1)) none) (cond (Nat.beq pc 1481) (some (.aload_n 0, 1)) none)))) (cond (Nat.ble pc 1484) (cond (Nat.ble pc 1482) (cond (Nat.beq pc 1482) (some (.iload 4, 2)) none) (cond (Nat.beq pc 1484) (some (.iconst 1, 1)) none)) (cond (Nat.ble pc 1485) (cond (Nat.beq pc 1485) (some (.iadd, 1)) none) (cond (Nat.ble pc 1486) (cond (Nat.beq pc 1486) (some (.iaload, 1)) none) (cond (Nat.beq pc 1487) (some (.aload_n 0, 1)) none))))) (cond (Nat.ble pc 1493) (cond (Nat.ble pc 1490) (cond (Nat.ble pc 1488) (cond (Nat.beq pc 1488) (some (.iload 4, 2)) none) (cond (Nat.beq pc 1490) (some (.iconst 2, 1)) none)) (cond (Nat.ble pc 1491) (cond (Nat.beq pc 1491) (some (.iadd, 1)) none) (cond (Nat.ble pc 1492) (cond (Nat.beq pc 1492) (some (.iaload, 1)) none) (cond (Nat.beq pc 1493) (some (.aload_n 0, 1)) none)))) (cond (Nat.ble pc 1497) (cond (Nat.ble pc 1494) (cond (Nat.beq pc 1494) (some (.iload 4, 2)) none) (cond (Nat.ble pc 1496) (cond (Nat.beq pc 1496) (some (.iconst 3, 1)) none) (cond (Nat.beq pc 1497) (some (.iadd, 1)) none))) (cond (Nat.ble pc 1498) (cond (Nat.beq pc 1498) (some (.iaload, 1)) none) (cond (Nat.ble pc 1499) (cond (Nat.beq pc 1499) (some (.invokevirtual 186, 3)) none) (cond (Nat.beq pc 1502) (some (.aload_n 2, 1)) none)))))))) (cond (Nat.ble pc 1559) (cond (Nat.ble pc 1532) (cond (Nat.ble pc 1520) (cond (Nat.ble pc 1512) (cond (Nat.ble pc 1506) (cond (Nat.ble pc 1503) (cond (Nat.beq pc 1503) (some (.invokevirtual 118, 3)) none) (cond (Nat.beq pc 1506) (some (.iload 5, 2)) none)) (cond (Nat.ble pc 1508) (cond (Nat.beq pc 1508) (some (.if_icmp .eq 5, 3)) none) (cond (Nat.ble pc 1511) (cond (Nat.beq pc 1511) (some (.iconst 0, 1)) none) (cond (Nat.beq pc 1512) (some (.ireturn, 1)) none)))) (cond (Nat.ble pc 1516) (cond (Nat.ble pc 1513) (cond (Nat.beq pc 1513) (some (.goto 617, 3)) none) (cond (Nat.beq pc 1516) (some (.aload_n 1, 1)) none)) (cond (Nat.ble pc 1517) (cond (Nat.beq pc 1517) (some (.aload_n 0, 1)) none) (cond (Nat.ble pc 1518) (cond (Nat.beq pc 1518) (some (.iload 4, 2)) none) (cond (Nat.beq pc 1520) (some (.iconst 1, 1)) none))))) (cond (Nat.ble pc 1526) (cond (Nat.ble pc 1522) (cond (Nat.ble pc 1521) (cond (Nat.beq pc 1521) (some (.iadd, 1)) none) (cond (Nat.beq pc 1522) (some (.iaload, 1)) none)) (cond (Nat.ble pc 1523) (cond (Nat.beq pc 1523) (some (.aload_n 0, 1)) none) (cond (Nat.ble pc 1524) (cond (Nat.beq pc 1524) (some (.iload 4, 2)) none) (cond (Nat.beq pc 1526) (some (.iconst 2, 1)) none)))) (cond (Nat.ble pc 1528) (cond (Nat.ble pc 1527) (cond (Nat.beq pc 1527) (some (.iadd, 1)) none) (cond (Nat.beq pc 1528) (some (.iaload, 1)) none)) (cond (Nat.ble pc 1529) (cond (Nat.beq pc 1529) (some (.aload_n 0, 1)) none) (cond (Nat.ble pc 1530) (cond (Nat.beq pc 1530) (some (.iload 4, 2)) none) (cond (Nat.beq pc 1532) (some (.iconst 3, 1)) none)))))) (cond (Nat.ble pc 1546) (cond (Nat.ble pc 1539) (cond (Nat.ble pc 1534) (cond (Nat.ble pc 1533) (cond (Nat.beq pc 1533) (some (.iadd, 1)) none) (cond (Nat.beq pc 1534) (some (.iaload, 1)) none)) (cond (Nat.ble pc 1535) (cond (Nat.beq pc 1535) (some (.aload_n 3, 1)) none) (cond (Nat.ble pc 1536) (cond (Nat.beq pc 1536) (some (.invokestatic 187, 3)) none) (cond (Nat.beq pc 1539) (some (.istore 5, 2)) none)))) (cond (Nat.ble pc 1542) (cond (Nat.ble pc 1541) (cond (Nat.beq pc 1541) (some (.aload_n 2, 1)) none) (cond (Nat.beq pc 1542) (some (.aload_n 0, 1)) none)) (cond (Nat.ble pc 1543) (cond (Nat.beq pc 1543) (some (.iload 4, 2)) none) (cond (Nat.ble pc 1545) (cond (Nat.beq pc 1545) (some (.iconst 1, 1)) none) (cond (Nat.beq pc 1546) (some (.iadd, 1)) none))))) (cond (Nat.ble pc 1552) (cond (Nat.ble pc 1548) (cond (Nat.ble pc 1547) (cond (Nat.beq pc 1547) (some (.iaload, 1)) none) (cond (Nat.beq pc 1548) (some (.aload_n 0, 1)) none)) (cond (Nat.ble pc 1549) (cond (Nat.beq pc 1549) (some (.iload 4, 2)) none) (cond (Nat.ble pc 1551) (cond (Nat.beq pc 1551) (some (.iconst 2, 1)) none) (cond (Nat.beq pc 1552) (some (.iadd, 1)) none)))) (cond (Nat.ble pc 1555) (cond (Nat.ble pc 1553) (cond (Nat.beq pc 1553) (some (.iaload, 1)) none) (cond (Nat.ble pc 1554) (cond (Nat.beq pc 1554) (some (.aload_n 0, 1)) none) (cond (Nat.beq pc 1555) (some (.iload 4, 2)) none))) (cond (Nat.ble pc 1557) (cond (Nat.beq pc 1557) (some (.iconst 3, 1)) none) (cond (Nat.ble pc 1558) (cond (Nat.beq pc 1558) (some (.iadd, 1)) none) (cond (Nat.beq pc 1559) (some (.iaload, 1)) none))))))) (cond (Nat.ble pc 1593) (cond (Nat.ble pc 1578) (cond (Nat.ble pc 1569) (cond (Nat.ble pc 1563) (cond (Nat.ble pc 1560) (cond (Nat.beq pc 1560) (some (.invokevirtual 189, 3)) none) (cond (Nat.beq pc 1563) (some (.istore 6, 2)) none)) (cond (Nat.ble pc 1565) (cond (Nat.beq pc 1565) (some (.aload_n 2, 1)) none) (cond (Nat.ble pc 1566) (cond (Nat.beq pc 1566) (some (.invokevirtual 118, 3)) none) (cond (Nat.beq pc 1569) (some (.iload 5, 2)) none)))) (cond (Nat.ble pc 1574) (cond (Nat.ble pc 1571) (cond (Nat.beq pc 1571) (some (.if_icmp .eq 5, 3)) none) (cond (Nat.beq pc 1574) (some (.iconst 0, 1)) none)) (cond (Nat.ble pc 1575) (cond (Nat.beq pc 1575) (some (.ireturn, 1)) none) (cond (Nat.ble pc 1576) (cond (Nat.beq pc 1576) (some (.iload 5, 2)) none) (cond (Nat.beq pc 1578) (some (.ifCond .ne 15, 3)) none))))) (cond (Nat.ble pc 1586) (cond (Nat.ble pc 1582) (cond (Nat.ble pc 1581) (cond (Nat.beq pc 1581) (some (.aload_n 3, 1)) none) (cond (Nat.beq pc 1582) (some (.iconst 0, 1)) none)) (cond (Nat.ble pc 1583) (cond (Nat.beq pc 1583) (some (.laload, 1)) none) (cond (Nat.ble pc 1584) (cond (Nat.beq pc 1584) (some (.iload 6, 2)) none) (cond (Nat.beq pc 1586) (some (.i2l, 1)) none)))) (cond (Nat.ble pc 1588) (cond (Nat.ble pc 1587) (cond (Nat.beq pc 1587) (some (.lcmp, 1)) none) (cond (Nat.beq pc 1588) (some (.ifCond .eq 5, 3)) none)) (cond (Nat.ble pc 1591) (cond (Nat.beq pc 1591) (some (.iconst 0, 1)) none) (cond (Nat.ble pc 1592) (cond (Nat.beq pc 1592) (some (.ireturn, 1)) none) (cond (Nat.beq pc 1593) (some (.goto 537, 3)) none)))))) (cond (Nat.ble pc 1607) (cond (Nat.ble pc 1601) (cond (Nat.ble pc 1597) (cond (Nat.ble pc 1596) (cond (Nat.beq pc 1596) (some (.aload_n 1, 1)) none) (cond (Nat.beq pc 1597) (some (.aload_n 0, 1)) none)) (cond (Nat.ble pc 1598) (cond (Nat.beq pc 1598) (some (.iload 4, 2)) none) (cond (Nat.ble pc 1600) (cond (Nat.beq pc 1600) (some (.iconst 1, 1)) none) (cond (Nat.beq pc 1601) (some (.iadd, 1)) none)))) (cond (Nat.ble pc 1603) (cond (Nat.ble pc 1602) (cond (Nat.beq pc 1602) (some (.iaload, 1)) none) (cond (Nat.beq pc 1603) (some (.aload_n 0, 1)) none)) (cond (Nat.ble pc 1604) (cond (Nat.beq pc 1604) (some (.iload 4, 2)) none) (cond (Nat.ble pc 1606) (cond (Nat.beq pc 1606) (some (.iconst 2, 1)) none) (cond (Nat.beq pc 1607) (some (.iadd, 1)) none))))) (cond (Nat.ble pc 1615) (cond (Nat.ble pc 1609) (cond (Nat.ble pc 1608) (cond (Nat.beq pc 1608) (some (.iaload, 1)) none) (cond (Nat.beq pc 1609) (some (.aload_n 3, 1)) none)) (cond (Nat.ble pc 1610) (cond (Nat.beq pc 1610) (some (.invokestatic 190, 3)) none) (cond (Nat.ble pc 1613) (cond (Nat.beq pc 1613) (some (.istore 5, 2)) none) (cond (Nat.beq pc 1615) (some (.aload_n 2, 1)) none)))) (cond (Nat.ble pc 1619) (cond (Nat.ble pc 1616) (cond (Nat.beq pc 1616) (some (.aload_n 0, 1)) none) (cond (Nat.ble pc 1617) (cond (Nat.beq pc 1617) (some (.iload 4, 2)) none) (cond (Nat.beq pc 1619) (some (.iconst 1, 1)) none))) (cond (Nat.ble pc 1620) (cond (Nat.beq pc 1620) (some (.iadd, 1)) none) (cond (Nat.ble pc 1621) (cond (Nat.beq pc 1621) (some (.iaload, 1)) none) (cond (Nat.beq pc 1622) (some (.aload_n 0, 1)) none)))))))))) (cond (Nat.ble pc 1880) (cond (Nat.ble pc 1752) (cond (Nat.ble pc 1684) (cond (Nat.ble pc 1655) (cond (Nat.ble pc 1639) (cond (Nat.ble pc 1628) (cond (Nat.ble pc 1625) (cond (Nat.ble pc 1623) (cond (Nat.beq pc 1623) (some (.iload 4, 2)) none) (cond (Nat.beq pc 1625) (some (.iconst 2, 1)) none)) (cond (Nat.ble pc 1626) (cond (Nat.beq pc 1626) (some (.iadd, 1)) none) (cond (Nat.ble pc 1627) (cond (Nat.beq pc 1627) (some (.iaload, 1)) none) (cond (Nat.beq pc 1628) (some (.invokevirtual 192, 3)) none)))) (cond (Nat.ble pc 1633) (cond (Nat.ble pc 1631) (cond (Nat.beq pc 1631) (some (.istore 6, 2)) none) (cond (Nat.beq pc 1633) (some (.aload_n 2, 1)) none)) (cond (Nat.ble pc 1634) (cond (Nat.beq pc 1634) (some (.invokevirtual 118, 3)) none) (cond (Nat.ble pc 1637) (cond (Nat.beq pc 1637) (some (.iload 5, 2)) none) (cond (Nat.beq pc 1639) (some (.if_icmp .eq 5, 3)) none))))) (cond (Nat.ble pc 1649) (cond (Nat.ble pc 1643) (cond (Nat.ble pc 1642) (cond (Nat.beq pc 1642) (some (.iconst 0, 1)) none) (cond (Nat.beq pc 1643) (some (.ireturn, 1)) none)) (cond (Nat.ble pc 1644) (cond (Nat.beq pc 1644) (some (.iload 5, 2)) none) (cond (Nat.ble pc 1646) (cond (Nat.beq pc 1646) (some (.ifCond .ne 15, 3)) none) (cond (Nat.beq pc 1649) (some (.aload_n 3, 1)) none)))) (cond (Nat.ble pc 1651) (cond (Nat.ble pc 1650) (cond (Nat.beq pc 1650) (some (.iconst 0, 1)) none) (cond (Nat.beq pc 1651) (some (.laload, 1)) none)) (cond (Nat.ble pc 1652) (cond (Nat.beq pc 1652) (some (.iload 6, 2)) none) (cond (Nat.ble pc 1654) (cond (Nat.beq pc 1654) (some (.i2l, 1)) none) (cond (Nat.beq pc 1655) (some (.lcmp, 1)) none)))))) (cond (Nat.ble pc 1670) (cond (Nat.ble pc 1664) (cond (Nat.ble pc 1659) (cond (Nat.ble pc 1656) (cond (Nat.beq pc 1656) (some (.ifCond .eq 5, 3)) none) (cond (Nat.beq pc 1659) (some (.iconst 0, 1)) none)) (cond (Nat.ble pc 1660) (cond (Nat.beq pc 1660) (some (.ireturn, 1)) none) (cond (Nat.ble pc 1661) (cond (Nat.beq pc 1661) (some (.goto 469, 3)) none) (cond (Nat.beq pc 1664) (some (.aload_n 1, 1)) none)))) (cond (Nat.ble pc 1666) (cond (Nat.ble pc 1665) (cond (Nat.beq pc 1665) (some (.aload_n 0, 1)) none) (cond (Nat.beq pc 1666) (some (.iload 4, 2)) none)) (cond (Nat.ble pc 1668) (cond (Nat.beq pc 1668) (some (.iconst 1, 1)) none) (cond (Nat.ble pc 1669) (cond (Nat.beq pc 1669) (some (.iadd, 1)) none) (cond (Nat.beq pc 1670) (some (.iaload, 1)) none))))) (cond (Nat.ble pc 1678) (cond (Nat.ble pc 1672) (cond (Nat.ble pc 1671) (cond (Nat.beq pc 1671) (some (.aload_n 3, 1)) none) (cond (Nat.beq pc 1672) (some (.invokestatic 193, 3)) none)) (cond (Nat.ble pc 1675) (cond (Nat.beq pc 1675) (some (.istore 5, 2)) none) (cond (Nat.ble pc 1677) (cond (Nat.beq pc 1677) (some (.aload_n 2, 1)) none) (cond (Nat.beq pc 1678) (some (.aload_n 0, 1)) none)))) (cond (Nat.ble pc 1681) (cond (Nat.ble pc 1679) (cond (Nat.beq pc 1679) (some (.iload 4, 2)) none) (cond (Nat.beq pc 1681) (some (.iconst 1, 1)) none)) (cond (Nat.ble pc 1682) (cond (Nat.beq pc 1682) (some (.iadd, 1)) none) (cond (Nat.ble pc 1683) (cond (Nat.beq pc 1683) (some (.iaload, 1)) none) (cond (Nat.beq pc 1684) (some (.invokevirtual 195, 3)) none))))))) (cond (Nat.ble pc 1720) (cond (Nat.ble pc 1705) (cond (Nat.ble pc 1695) (cond (Nat.ble pc 1689) (cond (Nat.ble pc 1687) (cond (Nat.beq pc 1687) (some (.istore 6, 2)) none) (cond (Nat.beq pc 1689) (some (.aload_n 2, 1)) none)) (cond (Nat.ble pc 1690) (cond (Nat.beq pc 1690) (some (.invokevirtual 118, 3)) none) (cond (Nat.ble pc 1693) (cond (Nat.beq pc 1693) (some (.iload 5, 2)) none) (cond (Nat.beq pc 1695) (some (.if_icmp .eq 5, 3)) none)))) (cond (Nat.ble pc 1699) (cond (Nat.ble pc 1698) (cond (Nat.beq pc 1698) (some (.iconst 0, 1)) none) (cond (Nat.beq pc 1699) (some (.ireturn, 1)) none)) (cond (Nat.ble pc 1700) (cond (Nat.beq pc 1700) (some (.iload 5, 2)) none) (cond (Nat.ble pc 1702) (cond (Nat.beq pc 1702) (some (.ifCond .ne 15, 3)) none) (cond (Nat.beq pc 1705) (some (.aload_n 3, 1)) none))))) (cond (Nat.ble pc 1711) (cond (Nat.ble pc 1707) (cond (Nat.ble pc 1706) (cond (Nat.beq pc 1706) (some (.iconst 0, 1)) none) (cond (Nat.beq pc 1707) (some (.laload, 1)) none)) (cond (Nat.ble pc 1708) (cond (Nat.beq pc 1708) (some (.iload 6, 2)) none) (cond (Nat.ble pc 1710) (cond (Nat.beq pc 1710) (some (.i2l, 1)) none) (cond (Nat.beq pc 1711) (some (.lcmp, 1)) none)))) (cond (Nat.ble pc 1715) (cond (Nat.ble pc 1712) (cond (Nat.beq pc 1712) (some (.ifCond .eq 5, 3)) none) (cond (Nat.beq pc 1715) (some (.iconst 0, 1)) none)) (cond (Nat.ble pc 1716) (cond (Nat.beq pc 1716) (some (.ireturn, 1)) none) (cond (Nat.ble pc 1717) (cond (Nat.beq pc 1717) (some (.goto 413, 3)) none) (cond (Nat.beq pc 1720) (some (.aload_n 1, 1)) none)))))) (cond (Nat.ble pc 1737) (cond (Nat.ble pc 1731) (cond (Nat.ble pc 1724) (cond (Nat.ble pc 1721) (cond (Nat.beq pc 1721) (some (.invokevirtual 196, 3)) none) (cond (Nat.beq pc 1724) (some (.aload_n 2, 1)) none)) (cond (Nat.ble pc 1725) (cond (Nat.beq pc 1725) (some (.invokevirtual 199, 3)) none) (cond (Nat.ble pc 1728) (cond (Nat.beq pc 1728) (some (.if_icmp .eq 402, 3)) none) (cond (Nat.beq pc 1731) (some (.iconst 0, 1)) none)))) (cond (Nat.ble pc 1733) (cond (Nat.ble pc 1732) (cond (Nat.beq pc 1732) (some (.ireturn, 1)) none) (cond (Nat.beq pc 1733) (some (.aload_n 1, 1)) none)) (cond (Nat.ble pc 1734) (cond (Nat.beq pc 1734) (some (.aload_n 0, 1)) none) (cond (Nat.ble pc 1735) (cond (Nat.beq pc 1735) (some (.iload 4, 2)) none) (cond (Nat.beq pc 1737) (some (.iconst 1, 1)) none))))) (cond (Nat.ble pc 1744) (cond (Nat.ble pc 1739) (cond (Nat.ble pc 1738) (cond (Nat.beq pc 1738) (some (.iadd, 1)) none) (cond (Nat.beq pc 1739) (some (.iaload, 1)) none)) (cond (Nat.ble pc 1740) (cond (Nat.beq pc 1740) (some (.aload_n 3, 1)) none) (cond (Nat.ble pc 1741) (cond (Nat.beq pc 1741) (some (.invokestatic 200, 3)) none) (cond (Nat.beq pc 1744) (some (.istore 5, 2)) none)))) (cond (Nat.ble pc 1748) (cond (Nat.ble pc 1746) (cond (Nat.beq pc 1746) (some (.aload_n 2, 1)) none) (cond (Nat.ble pc 1747) (cond (Nat.beq pc 1747) (some (.aload_n 0, 1)) none) (cond (Nat.beq pc 1748) (some (.iload 4, 2)) none))) (cond (Nat.ble pc 1750) (cond (Nat.beq pc 1750) (some (.iconst 1, 1)) none) (cond (Nat.ble pc 1751) (cond (Nat.beq pc 1751) (some (.iadd, 1)) none) (cond (Nat.beq pc 1752) (some (.iaload, 1)) none)))))))) (cond (Nat.ble pc 1820) (cond (Nat.ble pc 1786) (cond (Nat.ble pc 1771) (cond (Nat.ble pc 1762) (cond (Nat.ble pc 1756) (cond (Nat.ble pc 1753) (cond (Nat.beq pc 1753) (some (.invokevirtual 202, 3)) none) (cond (Nat.beq pc 1756) (some (.istore 6, 2)) none)) (cond (Nat.ble pc 1758) (cond (Nat.beq pc 1758) (some (.aload_n 2, 1)) none) (cond (Nat.ble pc 1759) (cond (Nat.beq pc 1759) (some (.invokevirtual 118, 3)) none) (cond (Nat.beq pc 1762) (some (.iload 5, 2)) none)))) (cond (Nat.ble pc 1767) (cond (Nat.ble pc 1764) (cond (Nat.beq pc 1764) (some (.if_icmp .eq 5, 3)) none) (cond (Nat.beq pc 1767) (some (.iconst 0, 1)) none)) (cond (Nat.ble pc 1768) (cond (Nat.beq pc 1768) (some (.ireturn, 1)) none) (cond (Nat.ble pc 1769) (cond (Nat.beq pc 1769) (some (.iload 5, 2)) none) (cond (Nat.beq pc 1771) (some (.ifCond .ne 15, 3)) none))))) (cond (Nat.ble pc 1779) (cond (Nat.ble pc 1775) (cond (Nat.ble pc 1774) (cond (Nat.beq pc 1774) (some (.aload_n 3, 1)) none) (cond (Nat.beq pc 1775) (some (.iconst 0, 1)) none)) (cond (Nat.ble pc 1776) (cond (Nat.beq pc 1776) (some (.laload, 1)) none) (cond (Nat.ble pc 1777) (cond (Nat.beq pc 1777) (some (.iload 6, 2)) none) (cond (Nat.beq pc 1779) (some (.i2l, 1)) none)))) (cond (Nat.ble pc 1781) (cond (Nat.ble pc 1780) (cond (Nat.beq pc 1780) (some (.lcmp, 1)) none) (cond (Nat.beq pc 1781) (some (.ifCond .eq 5, 3)) none)) (cond (Nat.ble pc 1784) (cond (Nat.beq pc 1784) (some (.iconst 0, 1)) none) (cond (Nat.ble pc 1785) (cond (Nat.beq pc 1785) (some (.ireturn, 1)) none) (cond (Nat.beq pc 1786) (some (.goto 344, 3)) none)))))) (cond (Nat.ble pc 1802) (cond (Nat.ble pc 1794) (cond (Nat.ble pc 1790) (cond (Nat.ble pc 1789) (cond (Nat.beq pc 1789) (some (.aload_n 1, 1)) none) (cond (Nat.beq pc 1790) (some (.aload_n 0, 1)) none)) (cond (Nat.ble pc 1791) (cond (Nat.beq pc 1791) (some (.iload 4, 2)) none) (cond (Nat.ble pc 1793) (cond (Nat.beq pc 1793) (some (.iconst 1, 1)) none) (cond (Nat.beq pc 1794) (some (.iadd, 1)) none)))) (cond (Nat.ble pc 1796) (cond (Nat.ble pc 1795) (cond (Nat.beq pc 1795) (some (.iaload, 1)) none) (cond (Nat.beq pc 1796) (some (.aload_n 3, 1)) none)) (cond (Nat.ble pc 1797) (cond (Nat.beq pc 1797) (some (.invokestatic 203, 3)) none) (cond (Nat.ble pc 1800) (cond (Nat.beq pc 1800) (some (.istore 5, 2)) none) (cond (Nat.beq pc 1802) (some (.aload_n 2, 1)) none))))) (cond (Nat.ble pc 1808) (cond (Nat.ble pc 1804) (cond (Nat.ble pc 1803) (cond (Nat.beq pc 1803) (some (.aload_n 0, 1)) none) (cond (Nat.beq pc 1804) (some (.iload 4, 2)) none)) (cond (Nat.ble pc 1806) (cond (Nat.beq pc 1806) (some (.iconst 1, 1)) none) (cond (Nat.ble pc 1807) (cond (Nat.beq pc 1807) (some (.iadd, 1)) none) (cond (Nat.beq pc 1808) (some (.iaload, 1)) none)))) (cond (Nat.ble pc 1814) (cond (Nat.ble pc 1809) (cond (Nat.beq pc 1809) (some (.invokevirtual 205, 3)) none) (cond (Nat.ble pc 1812) (cond (Nat.beq pc 1812) (some (.istore 6, 2)) none) (cond (Nat.beq pc 1814) (some (.aload_n 2, 1)) none))) (cond (Nat.ble pc 1815) (cond (Nat.beq pc 1815) (some (.invokevirtual 118, 3)) none) (cond (Nat.ble pc 1818) (cond (Nat.beq pc 1818) (some (.iload 5, 2)) none) (cond (Nat.beq pc 1820) (some (.if_icmp .eq 5, 3)) none))))))) (cond (Nat.ble pc 1851) (cond (Nat.ble pc 1836) (cond (Nat.ble pc 1830) (cond (Nat.ble pc 1824) (cond (Nat.ble pc 1823) (cond (Nat.beq pc 1823) (some (.iconst 0, 1)) none) (cond (Nat.beq pc 1824) (some (.ireturn, 1)) none)) (cond (Nat.ble pc 1825) (cond (Nat.beq pc 1825) (some (.iload 5, 2)) none) (cond (Nat.ble pc 1827) (cond (Nat.beq pc 1827) (some (.ifCond .ne 15, 3)) none) (cond (Nat.beq pc 1830) (some (.aload_n 3, 1)) none)))) (cond (Nat.ble pc 1832) (cond (Nat.ble pc 1831) (cond (Nat.beq pc 1831) (some (.iconst 0, 1)) none) (cond (Nat.beq pc 1832) (some (.laload, 1)) none)) (cond (Nat.ble pc 1833) (cond (Nat.beq pc 1833) (some (.iload 6, 2)) none) (cond (Nat.ble pc 1835) (cond (Nat.beq pc 1835) (some (.i2l, 1)) none) (cond (Nat.beq pc 1836) (some (.lcmp, 1)) none))))) (cond (Nat.ble pc 1845) (cond (Nat.ble pc 1840) (cond (Nat.ble pc 1837) (cond (Nat.beq pc 1837) (some (.ifCond .eq 5, 3)) none) (cond (Nat.beq pc 1840) (some (.iconst 0, 1)) none)) (cond (Nat.ble pc 1841) (cond (Nat.beq pc 1841) (some (.ireturn, 1)) none) (cond (Nat.ble pc 1842) (cond (Nat.beq pc 1842) (some (.goto 288, 3)) none) (cond (Nat.beq pc 1845) (some (.aload_n 1, 1)) none)))) (cond (Nat.ble pc 1847) (cond (Nat.ble pc 1846) (cond (Nat.beq pc 1846) (some (.aload_n 0, 1)) none) (cond (Nat.beq pc 1847) (some (.iload 4, 2)) none)) (cond (Nat.ble pc 1849) (cond (Nat.beq pc 1849) (some (.iconst 1, 1)) none) (cond (Nat.ble pc 1850) (cond (Nat.beq pc 1850) (some (.iadd, 1)) none) (cond (Nat.beq pc 1851) (some (.iaload, 1)) none)))))) (cond (Nat.ble pc 1865) (cond (Nat.ble pc 1857) (cond (Nat.ble pc 1853) (cond (Nat.ble pc 1852) (cond (Nat.beq pc 1852) (some (.aload_n 0, 1)) none) (cond (Nat.beq pc 1853) (some (.iload 4, 2)) none)) (cond (Nat.ble pc 1855) (cond (Nat.beq pc 1855) (some (.iconst 2, 1)) none) (cond (Nat.ble pc 1856) (cond (Nat.beq pc 1856) (some (.iadd, 1)) none) (cond (Nat.beq pc 1857) (some (.iaload, 1)) none)))) (cond (Nat.ble pc 1859) (cond (Nat.ble pc 1858) (cond (Nat.beq pc 1858) (some (.aload_n 3, 1)) none) (cond (Nat.beq pc 1859) (some (.invokestatic 206, 3)) none)) (cond (Nat.ble pc 1862) (cond (Nat.beq pc 1862) (some (.istore 5, 2)) none) (cond (Nat.ble pc 1864) (cond (Nat.beq pc 1864) (some (.aload_n 2, 1)) none) (cond (Nat.beq pc 1865) (some (.aload_n 0, 1)) none))))) (cond (Nat.ble pc 1871) (cond (Nat.ble pc 1868) (cond (Nat.ble pc 1866) (cond (Nat.beq pc 1866) (some (.iload 4, 2)) none) (cond (Nat.beq pc 1868) (some (.iconst 1, 1)) none)) (cond (Nat.ble pc 1869) (cond (Nat.beq pc 1869) (some (.iadd, 1)) none) (cond (Nat.ble pc 1870) (cond (Nat.beq pc 1870) (some (.iaload, 1)) none) (cond (Nat.beq pc 1871) (some (.aload_n 0, 1)) none)))) (cond (Nat.ble pc 1875) (cond (Nat.ble pc 1872) (cond (Nat.beq pc 1872) (some (.iload 4, 2)) none) (cond (Nat.ble pc 1874) (cond (Nat.beq pc 1874) (some (.iconst 2, 1)) none) (cond (Nat.beq pc 1875) (some (.iadd, 1)) none))) (cond (Nat.ble pc 1876) (cond (Nat.beq pc 1876) (some (.iaload, 1)) none) (cond (Nat.ble pc 1877) (cond (Nat.beq pc 1877) (some (.invokevirtual 208, 3)) none) (cond (Nat.beq pc 1880) (some (.istore 6, 2)) none))))))))) (cond (Nat.ble pc 2005) (cond (Nat.ble pc 1948) (cond (Nat.ble pc 1914) (cond (Nat.ble pc 1899) (cond (Nat.ble pc 1891) (cond (Nat.ble pc 1883) (cond (Nat.ble pc 1882) (cond (Nat.beq pc 1882) (some (.aload_n 2, 1)) none) (cond (Nat.beq pc 1883) (some (.invokevirtual 118, 3)) none)) (cond (Nat.ble pc 1886) (cond (Nat.beq pc 1886) (some (.iload 5, 2)) none) (cond (Nat.ble pc 1888) (cond (Nat.beq pc 1888) (some (.if_icmp .eq 5, 3)) none) (cond (Nat.beq pc 1891) (some (.iconst 0, 1)) none)))) (cond (Nat.ble pc 1893) (cond (Nat.ble pc 1892) (cond (Nat.beq pc 1892) (some (.ireturn, 1)) none) (cond (Nat.beq pc 1893) (some (.iload 5, 2)) none)) (cond (Nat.ble pc 1895) (cond (Nat.beq pc 1895) (some (.ifCond .ne 15, 3)) none) (cond (Nat.ble pc 1898) (cond (Nat.beq pc 1898) (some (.aload_n 3, 1)) none) (cond (Nat.beq pc 1899) (some (.iconst 0, 1)) none))))) (cond (Nat.ble pc 1905) (cond (Nat.ble pc 1901) (cond (Nat.ble pc 1900) (cond (Nat.beq pc 1900) (some (.laload, 1)) none) (cond (Nat.beq pc 1901) (some (.iload 6, 2)) none)) (cond (Nat.ble pc 1903) (cond (Nat.beq pc 1903) (some (.i2l, 1)) none) (cond (Nat.ble pc 1904) (cond (Nat.beq pc 1904) (some (.lcmp, 1)) none) (cond (Nat.beq pc 1905) (some (.ifCond .eq 5, 3)) none)))) (cond (Nat.ble pc 1909) (cond (Nat.ble pc 1908) (cond (Nat.beq pc 1908) (some (.iconst 0, 1)) none) (cond (Nat.beq pc 1909) (some (.ireturn, 1)) none)) (cond (Nat.ble pc 1910) (cond (Nat.beq pc 1910) (some (.goto 220, 3)) none) (cond (Nat.ble pc 1913) (cond (Nat.beq pc 1913) (some (.aload_n 1, 1)) none) (cond (Nat.beq pc 1914) (some (.aload_n 0, 1)) none)))))) (cond (Nat.ble pc 1928) (cond (Nat.ble pc 1920) (cond (Nat.ble pc 1917) (cond (Nat.ble pc 1915) (cond (Nat.beq pc 1915) (some (.iload 4, 2)) none) (cond (Nat.beq pc 1917) (some (.iconst 1, 1)) none)) (cond (Nat.ble pc 1918) (cond (Nat.beq pc 1918) (some (.iadd, 1)) none) (cond (Nat.ble pc 1919) (cond (Nat.beq pc 1919) (some (.iaload, 1)) none) (cond (Nat.beq pc 1920) (some (.aload_n 3, 1)) none)))) (cond (Nat.ble pc 1924) (cond (Nat.ble pc 1921) (cond (Nat.beq pc 1921) (some (.invokestatic 209, 3)) none) (cond (Nat.beq pc 1924) (some (.istore 5, 2)) none)) (cond (Nat.ble pc 1926) (cond (Nat.beq pc 1926) (some (.aload_n 2, 1)) none) (cond (Nat.ble pc 1927) (cond (Nat.beq pc 1927) (some (.aload_n 0, 1)) none) (cond (Nat.beq pc 1928) (some (.iload 4, 2)) none))))) (cond (Nat.ble pc 1936) (cond (Nat.ble pc 1931) (cond (Nat.ble pc 1930) (cond (Nat.beq pc 1930) (some (.iconst 1, 1)) none) (cond (Nat.beq pc 1931) (some (.iadd, 1)) none)) (cond (Nat.ble pc 1932) (cond (Nat.beq pc 1932) (some (.iaload, 1)) none) (cond (Nat.ble pc 1933) (cond (Nat.beq pc 1933) (some (.invokevirtual 211, 3)) none) (cond (Nat.beq pc 1936) (some (.istore 6, 2)) none)))) (cond (Nat.ble pc 1942) (cond (Nat.ble pc 1938) (cond (Nat.beq pc 1938) (some (.aload_n 2, 1)) none) (cond (Nat.ble pc 1939) (cond (Nat.beq pc 1939) (some (.invokevirtual 118, 3)) none) (cond (Nat.beq pc 1942) (some (.iload 5, 2)) none))) (cond (Nat.ble pc 1944) (cond (Nat.beq pc 1944) (some (.if_icmp .eq 5, 3)) none) (cond (Nat.ble pc 1947) (cond (Nat.beq pc 1947) (some (.iconst 0, 1)) none) (cond (Nat.beq pc 1948) (some (.ireturn, 1)) none))))))) (cond (Nat.ble pc 1977) (cond (Nat.ble pc 1964) (cond (Nat.ble pc 1956) (cond (Nat.ble pc 1951) (cond (Nat.ble pc 1949) (cond (Nat.beq pc 1949) (some (.iload 5, 2)) none) (cond (Nat.beq pc 1951) (some (.ifCond .ne 15, 3)) none)) (cond (Nat.ble pc 1954) (cond (Nat.beq pc 1954) (some (.aload_n 3, 1)) none) (cond (Nat.ble pc 1955) (cond (Nat.beq pc 1955) (some (.iconst 0, 1)) none) (cond (Nat.beq pc 1956) (some (.laload, 1)) none)))) (cond (Nat.ble pc 1959) (cond (Nat.ble pc 1957) (cond (Nat.beq pc 1957) (some (.iload 6, 2)) none) (cond (Nat.beq pc 1959) (some (.i2l, 1)) none)) (cond (Nat.ble pc 1960) (cond (Nat.beq pc 1960) (some (.lcmp, 1)) none) (cond (Nat.ble pc 1961) (cond (Nat.beq pc 1961) (some (.ifCond .eq 5, 3)) none) (cond (Nat.beq pc 1964) (some (.iconst 0, 1)) none))))) (cond (Nat.ble pc 1971) (cond (Nat.ble pc 1966) (cond (Nat.ble pc 1965) (cond (Nat.beq pc 1965) (some (.ireturn, 1)) none) (cond (Nat.beq pc 1966) (some (.goto 164, 3)) none)) (cond (Nat.ble pc 1969) (cond (Nat.beq pc 1969) (some (.aload_n 1, 1)) none) (cond (Nat.ble pc 1970) (cond (Nat.beq pc 1970) (some (.aload_n 0, 1)) none) (cond (Nat.beq pc 1971) (some (.iload 4, 2)) none)))) (cond (Nat.ble pc 1974) (cond (Nat.ble pc 1973) (cond (Nat.beq pc 1973) (some (.iconst 1, 1)) none) (cond (Nat.beq pc 1974) (some (.iadd, 1)) none)) (cond (Nat.ble pc 1975) (cond (Nat.beq pc 1975) (some (.iaload, 1)) none) (cond (Nat.ble pc 1976) (cond (Nat.beq pc 1976) (some (.aload_n 0, 1)) none) (cond (Nat.beq pc 1977) (some (.iload 4, 2)) none)))))) (cond (Nat.ble pc 1989) (cond (Nat.ble pc 1983) (cond (Nat.ble pc 1980) (cond (Nat.ble pc 1979) (cond (Nat.beq pc 1979) (some (.iconst 2, 1)) none) (cond (Nat.beq pc 1980) (some (.iadd, 1)) none)) (cond (Nat.ble pc 1981) (cond (Nat.beq pc 1981) (some (.iaload, 1)) none) (cond (Nat.ble pc 1982) (cond (Nat.beq pc 1982) (some (.aload_n 0, 1)) none) (cond (Nat.beq pc 1983) (some (.iload 4, 2)) none)))) (cond (Nat.ble pc 1986) (cond (Nat.ble pc 1985) (cond (Nat.beq pc 1985) (some (.iconst 3, 1)) none) (cond (Nat.beq pc 1986) (some (.iadd, 1)) none)) (cond (Nat.ble pc 1987) (cond (Nat.beq pc 1987) (some (.iaload, 1)) none) (cond (Nat.ble pc 1988) (cond (Nat.beq pc 1988) (some (.aload_n 3, 1)) none) (cond (Nat.beq pc 1989) (some (.invokestatic 212, 3)) none))))) (cond (Nat.ble pc 1998) (cond (Nat.ble pc 1994) (cond (Nat.ble pc 1992) (cond (Nat.beq pc 1992) (some (.istore 5, 2)) none) (cond (Nat.beq pc 1994) (some (.aload_n 2, 1)) none)) (cond (Nat.ble pc 1995) (cond (Nat.beq pc 1995) (some (.aload_n 0, 1)) none) (cond (Nat.ble pc 1996) (cond (Nat.beq pc 1996) (some (.iload 4, 2)) none) (cond (Nat.beq pc 1998) (some (.iconst 1, 1)) none)))) (cond (Nat.ble pc 2001) (cond (Nat.ble pc 1999) (cond (Nat.beq pc 1999) (some (.iadd, 1)) none) (cond (Nat.ble pc 2000) (cond (Nat.beq pc 2000) (some (.iaload, 1)) none) (cond (Nat.beq pc 2001) (some (.aload_n 0, 1)) none))) (cond (Nat.ble pc 2002) (cond (Nat.beq pc 2002) (some (.iload 4, 2)) none) (cond (Nat.ble pc 2004) (cond (Nat.beq pc 2004) (some (.iconst 2, 1)) none) (cond (Nat.beq pc 2005) (some (.iadd, 1)) none)))))))) (cond (Nat.ble pc 2068) (cond (Nat.ble pc 2037) (cond (Nat.ble pc 2019) (cond (Nat.ble pc 2011) (cond (Nat.ble pc 2007) (cond (Nat.ble pc 2006) (cond (Nat.beq pc 2006) (some (.iaload, 1)) none) (cond (Nat.beq pc 2007) (some (.aload_n 0, 1)) none)) (cond (Nat.ble pc 2008) (cond (Nat.beq pc 2008) (some (.iload 4, 2)) none) (cond (Nat.ble pc 2010) (cond (Nat.beq pc 2010) (some (.iconst 3, 1)) none) (cond (Nat.beq pc 2011) (some (.iadd, 1)) none)))) (cond (Nat.ble pc 2013) (cond (Nat.ble pc 2012) (cond (Nat.beq pc 2012) (some (.iaload, 1)) none) (cond (Nat.beq pc 2013) (some (.invokevirtual 214, 3)) none)) (cond (Nat.ble pc 2016) (cond (Nat.beq pc 2016) (some (.istore 6, 2)) none) (cond (Nat.ble pc 2018) (cond (Nat.beq pc 2018) (some (.aload_n 2, 1)) none) (cond (Nat.beq pc 2019) (some (.invokevirtual 118, 3)) none))))) (cond (Nat.ble pc 2029) (cond (Nat.ble pc 2024) (cond (Nat.ble pc 2022) (cond (Nat.beq pc 2022) (some (.iload 5, 2)) none) (cond (Nat.beq pc 2024) (some (.if_icmp .eq 5, 3)) none)) (cond (Nat.ble pc 2027) (cond (Nat.beq pc 2027) (some (.iconst 0, 1)) none) (cond (Nat.ble pc 2028) (cond (Nat.beq pc 2028) (some (.ireturn, 1)) none) (cond (Nat.beq pc 2029) (some (.iload 5, 2)) none)))) (cond (Nat.ble pc 2034) (cond (Nat.ble pc 2031) (cond (Nat.beq pc 2031) (some (.ifCond .ne 15, 3)) none) (cond (Nat.beq pc 2034) (some (.aload_n 3, 1)) none)) (cond (Nat.ble pc 2035) (cond (Nat.beq pc 2035) (some (.iconst 0, 1)) none) (cond (Nat.ble pc 2036) (cond (Nat.beq pc 2036) (some (.laload, 1)) none) (cond (Nat.beq pc 2037) (some (.iload 6, 2)) none)))))) (cond (Nat.ble pc 2053) (cond (Nat.ble pc 2045) (cond (Nat.ble pc 2040) (cond (Nat.ble pc 2039) (cond (Nat.beq pc 2039) (some (.i2l, 1)) none) (cond (Nat.beq pc 2040) (some (.lcmp, 1)) none)) (cond (Nat.ble pc 2041) (cond (Nat.beq pc 2041) (some (.ifCond .eq 5, 3)) none) (cond (Nat.ble pc 2044) (cond (Nat.beq pc 2044) (some (.iconst 0, 1)) none) (cond (Nat.beq pc 2045) (some (.ireturn, 1)) none)))) (cond (Nat.ble pc 2049) (cond (Nat.ble pc 2046) (cond (Nat.beq pc 2046) (some (.goto 84, 3)) none) (cond (Nat.beq pc 2049) (some (.aload_n 1, 1)) none)) (cond (Nat.ble pc 2050) (cond (Nat.beq pc 2050) (some (.aload_n 0, 1)) none) (cond (Nat.ble pc 2051) (cond (Nat.beq pc 2051) (some (.iload 4, 2)) none) (cond (Nat.beq pc 2053) (some (.iconst 1, 1)) none))))) (cond (Nat.ble pc 2059) (cond (Nat.ble pc 2055) (cond (Nat.ble pc 2054) (cond (Nat.beq pc 2054) (some (.iadd, 1)) none) (cond (Nat.beq pc 2055) (some (.iaload, 1)) none)) (cond (Nat.ble pc 2056) (cond (Nat.beq pc 2056) (some (.aload_n 0, 1)) none) (cond (Nat.ble pc 2057) (cond (Nat.beq pc 2057) (some (.iload 4, 2)) none) (cond (Nat.beq pc 2059) (some (.iconst 2, 1)) none)))) (cond (Nat.ble pc 2062) (cond (Nat.ble pc 2060) (cond (Nat.beq pc 2060) (some (.iadd, 1)) none) (cond (Nat.ble pc 2061) (cond (Nat.beq pc 2061) (some (.iaload, 1)) none) (cond (Nat.beq pc 2062) (some (.aload_n 3, 1)) none))) (cond (Nat.ble pc 2063) (cond (Nat.beq pc 2063) (some (.invokestatic 215, 3)) none) (cond (Nat.ble pc 2066) (cond (Nat.beq pc 2066) (some (.istore 5, 2)) none) (cond (Nat.beq pc 2068) (some (.aload_n 2, 1)) none))))))) (cond (Nat.ble pc 2099) (cond (Nat.ble pc 2080) (cond (Nat.ble pc 2074) (cond (Nat.ble pc 2070) (cond (Nat.ble pc 2069) (cond (Nat.beq pc 2069) (some (.aload_n 0, 1)) none) (cond (Nat.beq pc 2070) (some (.iload 4, 2)) none)) (cond (Nat.ble pc 2072) (cond (Nat.beq pc 2072) (some (.iconst 1, 1)) none) (cond (Nat.ble pc 2073) (cond (Nat.beq pc 2073) (some (.iadd, 1)) none) (cond (Nat.beq pc 2074) (some (.iaload, 1)) none)))) (cond (Nat.ble pc 2076) (cond (Nat.ble pc 2075) (cond (Nat.beq pc 2075) (some (.aload_n 0, 1)) none) (cond (Nat.beq pc 2076) (some (.iload 4, 2)) none)) (cond (Nat.ble pc 2078) (cond (Nat.beq pc 2078) (some (.iconst 2, 1)) none) (cond (Nat.ble pc 2079) (cond (Nat.beq pc 2079) (some (.iadd, 1)) none) (cond (Nat.beq pc 2080) (some (.iaload, 1)) none))))) (cond (Nat.ble pc 2090) (cond (Nat.ble pc 2084) (cond (Nat.ble pc 2081) (cond (Nat.beq pc 2081) (some (.invokevirtual 217, 3)) none) (cond (Nat.beq pc 2084) (some (.istore 6, 2)) none)) (cond (Nat.ble pc 2086) (cond (Nat.beq pc 2086) (some (.aload_n 2, 1)) none) (cond (Nat.ble pc 2087) (cond (Nat.beq pc 2087) (some (.invokevirtual 118, 3)) none) (cond (Nat.beq pc 2090) (some (.iload 5, 2)) none)))) (cond (Nat.ble pc 2095) (cond (Nat.ble pc 2092) (cond (Nat.beq pc 2092) (some (.if_icmp .eq 5, 3)) none) (cond (Nat.beq pc 2095) (some (.iconst 0, 1)) none)) (cond (Nat.ble pc 2096) (cond (Nat.beq pc 2096) (some (.ireturn, 1)) none) (cond (Nat.ble pc 2097) (cond (Nat.beq pc 2097) (some (.iload 5, 2)) none) (cond (Nat.beq pc 2099) (some (.ifCond .ne 15, 3)) none)))))) (cond (Nat.ble pc 2114) (cond (Nat.ble pc 2107) (cond (Nat.ble pc 2103) (cond (Nat.ble pc 2102) (cond (Nat.beq pc 2102) (some (.aload_n 3, 1)) none) (cond (Nat.beq pc 2103) (some (.iconst 0, 1)) none)) (cond (Nat.ble pc 2104) (cond (Nat.beq pc 2104) (some (.laload, 1)) none) (cond (Nat.ble pc 2105) (cond (Nat.beq pc 2105) (some (.iload 6, 2)) none) (cond (Nat.beq pc 2107) (some (.i2l, 1)) none)))) (cond (Nat.ble pc 2109) (cond (Nat.ble pc 2108) (cond (Nat.beq pc 2108) (some (.lcmp, 1)) none) (cond (Nat.beq pc 2109) (some (.ifCond .eq 5, 3)) none)) (cond (Nat.ble pc 2112) (cond (Nat.beq pc 2112) (some (.iconst 0, 1)) none) (cond (Nat.ble pc 2113) (cond (Nat.beq pc 2113) (some (.ireturn, 1)) none) (cond (Nat.beq pc 2114) (some (.goto 16, 3)) none))))) (cond (Nat.ble pc 2125) (cond (Nat.ble pc 2118) (cond (Nat.ble pc 2117) (cond (Nat.beq pc 2117) (some (.aload_n 1, 1)) none) (cond (Nat.beq pc 2118) (some (.invokevirtual 218, 3)) none)) (cond (Nat.ble pc 2121) (cond (Nat.beq pc 2121) (some (.aload_n 2, 1)) none) (cond (Nat.ble pc 2122) (cond (Nat.beq pc 2122) (some (.invokevirtual 221, 3)) none) (cond (Nat.beq pc 2125) (some (.if_icmp .eq 5, 3)) none)))) (cond (Nat.ble pc 2130) (cond (Nat.ble pc 2128) (cond (Nat.beq pc 2128) (some (.iconst 0, 1)) none) (cond (Nat.ble pc 2129) (cond (Nat.beq pc 2129) (some (.ireturn, 1)) none) (cond (Nat.beq pc 2130) (some (.iinc 4 5, 3)) none))) (cond (Nat.ble pc 2133) (cond (Nat.beq pc 2133) (some (.goto (-2110), 3)) none) (cond (Nat.ble pc 2136) (cond (Nat.beq pc 2136) (some (.iconst 1, 1)) none) (cond (Nat.beq pc 2137) (some (.ireturn, 1)) none))))))))))))
theorem tkL_law : tkAll cL_law tbL_law := fun pc => (tk_b (tk_b (tk_b (tk_b (tk_b (tk_b (tk_b (tk_b (tk_b (tk_b (tk_l dL_law_0) (tk_l dL_law_3)) (tk_b (tk_l dL_law_4) (tk_b (tk_l dL_law_7) (tk_l dL_law_8)))) (tk_b (tk_b (tk_l dL_law_11) (tk_l dL_law_12)) (tk_b (tk_l dL_law_15) (tk_b (tk_l dL_law_16) (tk_l dL_law_17))))) (tk_b (tk_b (tk_b (tk_l dL_law_19) (tk_l dL_law_20)) (tk_b (tk_l dL_law_21) (tk_b (tk_l dL_law_23) (tk_l dL_law_25)))) (tk_b (tk_b (tk_l dL_law_26) (tk_l dL_law_27)) (tk_b (tk_l dL_law_28) (tk_b (tk_l dL_law_29) (tk_l dL_law_32)))))) (tk_b (tk_b (tk_b (tk_b (tk_l dL_law_33) (tk_l dL_law_35)) (tk_b (tk_l dL_law_36) (tk_b (tk_l dL_law_38) (tk_l dL_law_39)))) (tk_b (tk_b (tk_l dL_law_180) (tk_l dL_law_181)) (tk_b (tk_l dL_law_182) (tk_b (tk_l dL_law_184) (tk_l dL_law_185))))) (tk_b (tk_b (tk_b (tk_l dL_law_186) (tk_l dL_law_187)) (tk_b (tk_l dL_law_188) (tk_b (tk_l dL_law_190) (tk_l dL_law_191)))) (tk_b (tk_b (tk_l dL_law_192) (tk_l dL_law_193)) (tk_b (tk_l dL_law_194) (tk_b (tk_l dL_law_197) (tk_l dL_law_199))))))) (tk_b (tk_b (tk_b (tk_b (tk_b (tk_l dL_law_200) (tk_l dL_law_201)) (tk_b (tk_l dL_law_203) (tk_b (tk_l dL_law_204) (tk_l dL_law_205)))) (tk_b (tk_b (tk_l dL_law_206) (tk_l dL_law_207)) (tk_b (tk_l dL_law_209) (tk_b (tk_l dL_law_210) (tk_l dL_law_211))))) (tk_b (tk_b (tk_b (tk_l dL_law_212) (tk_l dL_law_215)) (tk_b (tk_l dL_law_217) (tk_b (tk_l dL_law_218) (tk_l dL_law_221)))) (tk_b (tk_b (tk_l dL_law_223) (tk_l dL_law_226)) (tk_b (tk_l dL_law_227) (tk_b (tk_l dL_law_228) (tk_l dL_law_230)))))) (tk_b (tk_b (tk_b (tk_b (tk_l dL_law_233) (tk_l dL_law_234)) (tk_b (tk_l dL_law_235) (tk_b (tk_l dL_law_236) (tk_l dL_law_238)))) (tk_b (tk_b (tk_l dL_law_239) (tk_l dL_law_240)) (tk_b (tk_l dL_law_243) (tk_b (tk_l dL_law_244) (tk_l dL_law_245))))) (tk_b (tk_b (tk_b (tk_l dL_law_248) (tk_l dL_law_249)) (tk_b (tk_l dL_law_250) (tk_b (tk_l dL_law_252) (tk_l dL_law_253)))) (tk_b (tk_b (tk_l dL_law_254) (tk_b (tk_l dL_law_255) (tk_l dL_law_256))) (tk_b (tk_l dL_law_258) (tk_b (tk_l dL_law_259) (tk_l dL_law_260)))))))) (tk_b (tk_b (tk_b (tk_b (tk_b (tk_b (tk_l dL_law_261) (tk_l dL_law_262)) (tk_b (tk_l dL_law_264) (tk_b (tk_l dL_law_265) (tk_l dL_law_266)))) (tk_b (tk_b (tk_l dL_law_267) (tk_l dL_law_268)) (tk_b (tk_l dL_law_270) (tk_b (tk_l dL_law_271) (tk_l dL_law_272))))) (tk_b (tk_b (tk_b (tk_l dL_law_273) (tk_l dL_law_274)) (tk_b (tk_l dL_law_277) (tk_b (tk_l dL_law_279) (tk_l dL_law_280)))) (tk_b (tk_b (tk_l dL_law_281) (tk_l dL_law_283)) (tk_b (tk_l dL_law_284) (tk_b (tk_l dL_law_285) (tk_l dL_law_286)))))) (tk_b (tk_b (tk_b (tk_b (tk_l dL_law_287) (tk_l dL_law_289)) (tk_b (tk_l dL_law_290) (tk_b (tk_l dL_law_291) (tk_l dL_law_292)))) (tk_b (tk_b (tk_l dL_law_293) (tk_l dL_law_295)) (tk_b (tk_l dL_law_296) (tk_b (tk_l dL_law_297) (tk_l dL_law_298))))) (tk_b (tk_b (tk_b (tk_l dL_law_299) (tk_l dL_law_301)) (tk_b (tk_l dL_law_302) (tk_b (tk_l dL_law_303) (tk_l dL_law_304)))) (tk_b (tk_b (tk_l dL_law_307) (tk_b (tk_l dL_law_309) (tk_l dL_law_310))) (tk_b (tk_l dL_law_313) (tk_b (tk_l dL_law_315) (tk_l dL_law_318))))))) (tk_b (tk_b (tk_b (tk_b (tk_b (tk_l dL_law_319) (tk_l dL_law_320)) (tk_b (tk_l dL_law_322) (tk_b (tk_l dL_law_325) (tk_l dL_law_326)))) (tk_b (tk_b (tk_l dL_law_327) (tk_l dL_law_328)) (tk_b (tk_l dL_law_330) (tk_b (tk_l dL_law_331) (tk_l dL_law_332))))) (tk_b (tk_b (tk_b (tk_l dL_law_335) (tk_l dL_law_336)) (tk_b (tk_l dL_law_337) (tk_b (tk_l dL_law_340) (tk_l dL_law_341)))) (tk_b (tk_b (tk_l dL_law_342) (tk_l dL_law_344)) (tk_b (tk_l dL_law_345) (tk_b (tk_l dL_law_346) (tk_l dL_law_347)))))) (tk_b (tk_b (tk_b (tk_b (tk_l dL_law_348) (tk_l dL_law_351)) (tk_b (tk_l dL_law_353) (tk_b (tk_l dL_law_354) (tk_l dL_law_355)))) (tk_b (tk_b (tk_l dL_law_357) (tk_l dL_law_358)) (tk_b (tk_l dL_law_359) (tk_b (tk_l dL_law_360) (tk_l dL_law_363))))) (tk_b (tk_b (tk_b (tk_l dL_law_365) (tk_l dL_law_366)) (tk_b (tk_l dL_law_369) (tk_b (tk_l dL_law_371) (tk_l dL_law_374)))) (tk_b (tk_b (tk_l dL_law_375) (tk_b (tk_l dL_law_376) (tk_l dL_law_378))) (tk_b (tk_l dL_law_381) (tk_b (tk_l dL_law_382) (tk_l dL_law_383))))))))) (tk_b (tk_b (tk_b (tk_b (tk_b (tk_b (tk_b (tk_l dL_law_384) (tk_l dL_law_386)) (tk_b (tk_l dL_law_387) (tk_b (tk_l dL_law_388) (tk_l dL_law_391)))) (tk_b (tk_b (tk_l dL_law_392) (tk_l dL_law_393)) (tk_b (tk_l dL_law_396) (tk_b (tk_l dL_law_397) (tk_l dL_law_398))))) (tk_b (tk_b (tk_b (tk_l dL_law_400) (tk_l dL_law_401)) (tk_b (tk_l dL_law_402) (tk_b (tk_l dL_law_403) (tk_l dL_law_404)))) (tk_b (tk_b (tk_l dL_law_406) (tk_l dL_law_407)) (tk_b (tk_l dL_law_408) (tk_b (tk_l dL_law_409) (tk_l dL_law_410)))))) (tk_b (tk_b (tk_b (tk_b (tk_l dL_law_413) (tk_l dL_law_415)) (tk_b (tk_l dL_law_416) (tk_b (tk_l dL_law_417) (tk_l dL_law_419)))) (tk_b (tk_b (tk_l dL_law_420) (tk_l dL_law_421)) (tk_b (tk_l dL_law_422) (tk_b (tk_l dL_law_423) (tk_l dL_law_425))))) (tk_b (tk_b (tk_b (tk_l dL_law_426) (tk_l dL_law_427)) (tk_b (tk_l dL_law_428) (tk_b (tk_l dL_law_431) (tk_l dL_law_433)))) (tk_b (tk_b (tk_l dL_law_434) (tk_l dL_law_437)) (tk_b (tk_l dL_law_439) (tk_b (tk_l dL_law_442) (tk_l dL_law_443))))))) (tk_b (tk_b (tk_b (tk_b (tk_b (tk_l dL_law_444) (tk_l dL_law_446)) (tk_b (tk_l dL_law_449) (tk_b (tk_l dL_law_450) (tk_l dL_law_451)))) (tk_b (tk_b (tk_l dL_law_452) (tk_l dL_law_454)) (tk_b (tk_l dL_law_457) (tk_b (tk_l dL_law_458) (tk_l dL_law_461))))) (tk_b (tk_b (tk_b (tk_l dL_law_462) (tk_l dL_law_463)) (tk_b (tk_l dL_law_466) (tk_b (tk_l dL_law_467) (tk_l dL_law_468)))) (tk_b (tk_b (tk_l dL_law_471) (tk_l dL_law_472)) (tk_b (tk_l dL_law_473) (tk_b (tk_l dL_law_475) (tk_l dL_law_476)))))) (tk_b (tk_b (tk_b (tk_b (tk_l dL_law_477) (tk_l dL_law_478)) (tk_b (tk_l dL_law_479) (tk_b (tk_l dL_law_481) (tk_l dL_law_482)))) (tk_b (tk_b (tk_l dL_law_483) (tk_l dL_law_484)) (tk_b (tk_l dL_law_485) (tk_b (tk_l dL_law_488) (tk_l dL_law_490))))) (tk_b (tk_b (tk_b (tk_l dL_law_491) (tk_l dL_law_492)) (tk_b (tk_l dL_law_494) (tk_b (tk_l dL_law_495) (tk_l dL_law_496)))) (tk_b (tk_b (tk_l dL_law_497) (tk_b (tk_l dL_law_498) (tk_l dL_law_500))) (tk_b (tk_l dL_law_501) (tk_b (tk_l dL_law_502) (tk_l dL_law_503)))))))) (tk_b (tk_b (tk_b (tk_b (tk_b (tk_b (tk_l dL_law_506) (tk_l dL_law_508)) (tk_b (tk_l dL_law_509) (tk_b (tk_l dL_law_512) (tk_l dL_law_514)))) (tk_b (tk_b (tk_l dL_law_517) (tk_l dL_law_518)) (tk_b (tk_l dL_law_519) (tk_b (tk_l dL_law_521) (tk_l dL_law_524))))) (tk_b (tk_b (tk_b (tk_l dL_law_525) (tk_l dL_law_526)) (tk_b (tk_l dL_law_527) (tk_b (tk_l dL_law_529) (tk_l dL_law_530)))) (tk_b (tk_b (tk_l dL_law_531) (tk_l dL_law_534)) (tk_b (tk_l dL_law_535) (tk_b (tk_l dL_law_536) (tk_l dL_law_539)))))) (tk_b (tk_b (tk_b (tk_b (tk_l dL_law_540) (tk_l dL_law_541)) (tk_b (tk_l dL_law_543) (tk_b (tk_l dL_law_544) (tk_l dL_law_545)))) (tk_b (tk_b (tk_l dL_law_546) (tk_l dL_law_547)) (tk_b (tk_l dL_law_549) (tk_b (tk_l dL_law_550) (tk_l dL_law_551))))) (tk_b (tk_b (tk_b (tk_l dL_law_552) (tk_l dL_law_553)) (tk_b (tk_l dL_law_555) (tk_b (tk_l dL_law_556) (tk_l dL_law_557)))) (tk_b (tk_b (tk_l dL_law_558) (tk_b (tk_l dL_law_559) (tk_l dL_law_562))) (tk_b (tk_l dL_law_564) (tk_b (tk_l dL_law_565) (tk_l dL_law_566))))))) (tk_b (tk_b (tk_b (tk_b (tk_b (tk_l dL_law_568) (tk_l dL_law_569)) (tk_b (tk_l dL_law_570) (tk_b (tk_l dL_law_571) (tk_l dL_law_572)))) (tk_b (tk_b (tk_l dL_law_574) (tk_l dL_law_575)) (tk_b (tk_l dL_law_576) (tk_b (tk_l dL_law_577) (tk_l dL_law_578))))) (tk_b (tk_b (tk_b (tk_l dL_law_580) (tk_l dL_law_581)) (tk_b (tk_l dL_law_582) (tk_b (tk_l dL_law_583) (tk_l dL_law_586)))) (tk_b (tk_b (tk_l dL_law_588) (tk_l dL_law_589)) (tk_b (tk_l dL_law_592) (tk_b (tk_l dL_law_594) (tk_l dL_law_597)))))) (tk_b (tk_b (tk_b (tk_b (tk_l dL_law_598) (tk_l dL_law_599)) (tk_b (tk_l dL_law_601) (tk_b (tk_l dL_law_604) (tk_l dL_law_605)))) (tk_b (tk_b (tk_l dL_law_606) (tk_l dL_law_607)) (tk_b (tk_l dL_law_609) (tk_b (tk_l dL_law_610) (tk_l dL_law_611))))) (tk_b (tk_b (tk_b (tk_l dL_law_614) (tk_l dL_law_615)) (tk_b (tk_l dL_law_616) (tk_b (tk_l dL_law_619) (tk_l dL_law_620)))) (tk_b (tk_b (tk_l dL_law_621) (tk_b (tk_l dL_law_623) (tk_l dL_law_624))) (tk_b (tk_l dL_law_625) (tk_b (tk_l dL_law_626) (tk_l dL_law_627)))))))))) (tk_b (tk_b (tk_b (tk_b (tk_b (tk_b (tk_b (tk_b (tk_l dL_law_629) (tk_l dL_law_630)) (tk_b (tk_l dL_law_631) (tk_b (tk_l dL_law_632) (tk_l dL_law_633)))) (tk_b (tk_b (tk_l dL_law_635) (tk_l dL_law_636)) (tk_b (tk_l dL_law_637) (tk_b (tk_l dL_law_638) (tk_l dL_law_639))))) (tk_b (tk_b (tk_b (tk_l dL_law_642) (tk_l dL_law_644)) (tk_b (tk_l dL_law_645) (tk_b (tk_l dL_law_646) (tk_l dL_law_648)))) (tk_b (tk_b (tk_l dL_law_649) (tk_l dL_law_650)) (tk_b (tk_l dL_law_651) (tk_b (tk_l dL_law_652) (tk_l dL_law_654)))))) (tk_b (tk_b (tk_b (tk_b (tk_l dL_law_655) (tk_l dL_law_656)) (tk_b (tk_l dL_law_657) (tk_b (tk_l dL_law_658) (tk_l dL_law_660)))) (tk_b (tk_b (tk_l dL_law_661) (tk_l dL_law_662)) (tk_b (tk_l dL_law_663) (tk_b (tk_l dL_law_666) (tk_l dL_law_668))))) (tk_b (tk_b (tk_b (tk_l dL_law_669) (tk_l dL_law_672)) (tk_b (tk_l dL_law_674) (tk_b (tk_l dL_law_677) (tk_l dL_law_678)))) (tk_b (tk_b (tk_l dL_law_679) (tk_l dL_law_681)) (tk_b (tk_l dL_law_684) (tk_b (tk_l dL_law_685) (tk_l dL_law_686))))))) (tk_b (tk_b (tk_b (tk_b (tk_b (tk_l dL_law_687) (tk_l dL_law_689)) (tk_b (tk_l dL_law_690) (tk_b (tk_l dL_law_691) (tk_l dL_law_694)))) (tk_b (tk_b (tk_l dL_law_695) (tk_l dL_law_696)) (tk_b (tk_l dL_law_699) (tk_b (tk_l dL_law_700) (tk_l dL_law_701))))) (tk_b (tk_b (tk_b (tk_l dL_law_703) (tk_l dL_law_704)) (tk_b (tk_l dL_law_705) (tk_b (tk_l dL_law_706) (tk_l dL_law_707)))) (tk_b (tk_b (tk_l dL_law_710) (tk_l dL_law_712)) (tk_b (tk_l dL_law_713) (tk_b (tk_l dL_law_714) (tk_l dL_law_716)))))) (tk_b (tk_b (tk_b (tk_b (tk_l dL_law_717) (tk_l dL_law_718)) (tk_b (tk_l dL_law_719) (tk_b (tk_l dL_law_722) (tk_l dL_law_724)))) (tk_b (tk_b (tk_l dL_law_725) (tk_l dL_law_728)) (tk_b (tk_l dL_law_730) (tk_b (tk_l dL_law_733) (tk_l dL_law_734))))) (tk_b (tk_b (tk_b (tk_l dL_law_735) (tk_l dL_law_737)) (tk_b (tk_l dL_law_740) (tk_b (tk_l dL_law_741) (tk_l dL_law_742)))) (tk_b (tk_b (tk_l dL_law_743) (tk_b (tk_l dL_law_745) (tk_l dL_law_746))) (tk_b (tk_l dL_law_747) (tk_b (tk_l dL_law_750) (tk_l dL_law_751)))))))) (tk_b (tk_b (tk_b (tk_b (tk_b (tk_b (tk_l dL_law_752) (tk_l dL_law_755)) (tk_b (tk_l dL_law_756) (tk_b (tk_l dL_law_757) (tk_l dL_law_759)))) (tk_b (tk_b (tk_l dL_law_760) (tk_l dL_law_761)) (tk_b (tk_l dL_law_762) (tk_b (tk_l dL_law_763) (tk_l dL_law_766))))) (tk_b (tk_b (tk_b (tk_l dL_law_768) (tk_l dL_law_769)) (tk_b (tk_l dL_law_770) (tk_b (tk_l dL_law_772) (tk_l dL_law_773)))) (tk_b (tk_b (tk_l dL_law_774) (tk_l dL_law_775)) (tk_b (tk_l dL_law_778) (tk_b (tk_l dL_law_780) (tk_l dL_law_781)))))) (tk_b (tk_b (tk_b (tk_b (tk_l dL_law_784) (tk_l dL_law_786)) (tk_b (tk_l dL_law_789) (tk_b (tk_l dL_law_790) (tk_l dL_law_791)))) (tk_b (tk_b (tk_l dL_law_793) (tk_l dL_law_796)) (tk_b (tk_l dL_law_797) (tk_b (tk_l dL_law_798) (tk_l dL_law_799))))) (tk_b (tk_b (tk_b (tk_l dL_law_801) (tk_l dL_law_802)) (tk_b (tk_l dL_law_803) (tk_b (tk_l dL_law_806) (tk_l dL_law_807)))) (tk_b (tk_b (tk_l dL_law_808) (tk_b (tk_l dL_law_811) (tk_l dL_law_812))) (tk_b (tk_l dL_law_813) (tk_b (tk_l dL_law_815) (tk_l dL_law_816))))))) (tk_b (tk_b (tk_b (tk_b (tk_b (tk_l dL_law_817) (tk_l dL_law_818)) (tk_b (tk_l dL_law_819) (tk_b (tk_l dL_law_822) (tk_l dL_law_824)))) (tk_b (tk_b (tk_l dL_law_825) (tk_l dL_law_826)) (tk_b (tk_l dL_law_828) (tk_b (tk_l dL_law_829) (tk_l dL_law_830))))) (tk_b (tk_b (tk_b (tk_l dL_law_831) (tk_l dL_law_834)) (tk_b (tk_l dL_law_836) (tk_b (tk_l dL_law_837) (tk_l dL_law_840)))) (tk_b (tk_b (tk_l dL_law_842) (tk_l dL_law_845)) (tk_b (tk_l dL_law_846) (tk_b (tk_l dL_law_847) (tk_l dL_law_849)))))) (tk_b (tk_b (tk_b (tk_b (tk_l dL_law_852) (tk_l dL_law_853)) (tk_b (tk_l dL_law_854) (tk_b (tk_l dL_law_855) (tk_l dL_law_857)))) (tk_b (tk_b (tk_l dL_law_858) (tk_l dL_law_859)) (tk_b (tk_l dL_law_862) (tk_b (tk_l dL_law_863) (tk_l dL_law_864))))) (tk_b (tk_b (tk_b (tk_l dL_law_867) (tk_l dL_law_868)) (tk_b (tk_l dL_law_869) (tk_b (tk_l dL_law_871) (tk_l dL_law_872)))) (tk_b (tk_b (tk_l dL_law_873) (tk_b (tk_l dL_law_874) (tk_l dL_law_875))) (tk_b (tk_l dL_law_877) (tk_b (tk_l dL_law_878) (tk_l dL_law_879))))))))) (tk_b (tk_b (tk_b (tk_b (tk_b (tk_b (tk_b (tk_l dL_law_880) (tk_l dL_law_881)) (tk_b (tk_l dL_law_884) (tk_b (tk_l dL_law_886) (tk_l dL_law_887)))) (tk_b (tk_b (tk_l dL_law_888) (tk_l dL_law_890)) (tk_b (tk_l dL_law_891) (tk_b (tk_l dL_law_892) (tk_l dL_law_893))))) (tk_b (tk_b (tk_b (tk_l dL_law_894) (tk_l dL_law_896)) (tk_b (tk_l dL_law_897) (tk_b (tk_l dL_law_898) (tk_l dL_law_899)))) (tk_b (tk_b (tk_l dL_law_902) (tk_l dL_law_904)) (tk_b (tk_l dL_law_905) (tk_b (tk_l dL_law_908) (tk_l dL_law_910)))))) (tk_b (tk_b (tk_b (tk_b (tk_l dL_law_913) (tk_l dL_law_914)) (tk_b (tk_l dL_law_915) (tk_b (tk_l dL_law_917) (tk_l dL_law_920)))) (tk_b (tk_b (tk_l dL_law_921) (tk_l dL_law_922)) (tk_b (tk_l dL_law_923) (tk_b (tk_l dL_law_925) (tk_l dL_law_926))))) (tk_b (tk_b (tk_b (tk_l dL_law_927) (tk_l dL_law_930)) (tk_b (tk_l dL_law_931) (tk_b (tk_l dL_law_932) (tk_l dL_law_935)))) (tk_b (tk_b (tk_l dL_law_936) (tk_l dL_law_937)) (tk_b (tk_l dL_law_939) (tk_b (tk_l dL_law_940) (tk_l dL_law_941))))))) (tk_b (tk_b (tk_b (tk_b (tk_b (tk_l dL_law_942) (tk_l dL_law_943)) (tk_b (tk_l dL_law_945) (tk_b (tk_l dL_law_946) (tk_l dL_law_947)))) (tk_b (tk_b (tk_l dL_law_948) (tk_l dL_law_949)) (tk_b (tk_l dL_law_952) (tk_b (tk_l dL_law_954) (tk_l dL_law_955))))) (tk_b (tk_b (tk_b (tk_l dL_law_956) (tk_l dL_law_958)) (tk_b (tk_l dL_law_959) (tk_b (tk_l dL_law_960) (tk_l dL_law_961)))) (tk_b (tk_b (tk_l dL_law_962) (tk_l dL_law_964)) (tk_b (tk_l dL_law_965) (tk_b (tk_l dL_law_966) (tk_l dL_law_967)))))) (tk_b (tk_b (tk_b (tk_b (tk_l dL_law_970) (tk_l dL_law_972)) (tk_b (tk_l dL_law_973) (tk_b (tk_l dL_law_976) (tk_l dL_law_978)))) (tk_b (tk_b (tk_l dL_law_981) (tk_l dL_law_982)) (tk_b (tk_l dL_law_983) (tk_b (tk_l dL_law_985) (tk_l dL_law_988))))) (tk_b (tk_b (tk_b (tk_l dL_law_989) (tk_l dL_law_990)) (tk_b (tk_l dL_law_991) (tk_b (tk_l dL_law_993) (tk_l dL_law_994)))) (tk_b (tk_b (tk_l dL_law_995) (tk_b (tk_l dL_law_998) (tk_l dL_law_999))) (tk_b (tk_l dL_law_1000) (tk_b (tk_l dL_law_1003) (tk_l dL_law_1004)))))))) (tk_b (tk_b (tk_b (tk_b (tk_b (tk_b (tk_l dL_law_1005) (tk_l dL_law_1007)) (tk_b (tk_l dL_law_1008) (tk_b (tk_l dL_law_1009) (tk_l dL_law_1010)))) (tk_b (tk_b (tk_l dL_law_1011) (tk_l dL_law_1014)) (tk_b (tk_l dL_law_1016) (tk_b (tk_l dL_law_1017) (tk_l dL_law_1018))))) (tk_b (tk_b (tk_b (tk_l dL_law_1020) (tk_l dL_law_1021)) (tk_b (tk_l dL_law_1022) (tk_b (tk_l dL_law_1023) (tk_l dL_law_1026)))) (tk_b (tk_b (tk_l dL_law_1028) (tk_l dL_law_1029)) (tk_b (tk_l dL_law_1032) (tk_b (tk_l dL_law_1034) (tk_l dL_law_1037)))))) (tk_b (tk_b (tk_b (tk_b (tk_l dL_law_1038) (tk_l dL_law_1039)) (tk_b (tk_l dL_law_1041) (tk_b (tk_l dL_law_1044) (tk_l dL_law_1045)))) (tk_b (tk_b (tk_l dL_law_1046) (tk_l dL_law_1047)) (tk_b (tk_l dL_law_1049) (tk_b (tk_l dL_law_1050) (tk_l dL_law_1051))))) (tk_b (tk_b (tk_b (tk_l dL_law_1054) (tk_l dL_law_1055)) (tk_b (tk_l dL_law_1056) (tk_b (tk_l dL_law_1059) (tk_l dL_law_1060)))) (tk_b (tk_b (tk_l dL_law_1061) (tk_b (tk_l dL_law_1063) (tk_l dL_law_1064))) (tk_b (tk_l dL_law_1065) (tk_b (tk_l dL_law_1066) (tk_l dL_law_1067))))))) (tk_b (tk_b (tk_b (tk_b (tk_b (tk_l dL_law_1069) (tk_l dL_law_1070)) (tk_b (tk_l dL_law_1071) (tk_b (tk_l dL_law_1072) (tk_l dL_law_1073)))) (tk_b (tk_b (tk_l dL_law_1076) (tk_l dL_law_1078)) (tk_b (tk_l dL_law_1079) (tk_b (tk_l dL_law_1080) (tk_l dL_law_1082))))) (tk_b (tk_b (tk_b (tk_l dL_law_1083) (tk_l dL_law_1084)) (tk_b (tk_l dL_law_1085) (tk_b (tk_l dL_law_1086) (tk_l dL_law_1088)))) (tk_b (tk_b (tk_l dL_law_1089) (tk_l dL_law_1090)) (tk_b (tk_l dL_law_1091) (tk_b (tk_l dL_law_1094) (tk_l dL_law_1096)))))) (tk_b (tk_b (tk_b (tk_b (tk_l dL_law_1097) (tk_l dL_law_1100)) (tk_b (tk_l dL_law_1102) (tk_b (tk_l dL_law_1105) (tk_l dL_law_1106)))) (tk_b (tk_b (tk_l dL_law_1107) (tk_l dL_law_1109)) (tk_b (tk_l dL_law_1112) (tk_b (tk_l dL_law_1113) (tk_l dL_law_1114))))) (tk_b (tk_b (tk_b (tk_l dL_law_1115) (tk_l dL_law_1117)) (tk_b (tk_l dL_law_1118) (tk_b (tk_l dL_law_1119) (tk_l dL_law_1122)))) (tk_b (tk_b (tk_l dL_law_1123) (tk_b (tk_l dL_law_1124) (tk_l dL_law_1127))) (tk_b (tk_l dL_law_1128) (tk_b (tk_l dL_law_1129) (tk_l dL_law_1131))))))))))) (tk_b (tk_b (tk_b (tk_b (tk_b (tk_b (tk_b (tk_b (tk_b (tk_l dL_law_1132) (tk_l dL_law_1133)) (tk_b (tk_l dL_law_1134) (tk_b (tk_l dL_law_1135) (tk_l dL_law_1137)))) (tk_b (tk_b (tk_l dL_law_1138) (tk_l dL_law_1139)) (tk_b (tk_l dL_law_1140) (tk_b (tk_l dL_law_1141) (tk_l dL_law_1144))))) (tk_b (tk_b (tk_b (tk_l dL_law_1146) (tk_l dL_law_1147)) (tk_b (tk_l dL_law_1148) (tk_b (tk_l dL_law_1150) (tk_l dL_law_1151)))) (tk_b (tk_b (tk_l dL_law_1152) (tk_l dL_law_1153)) (tk_b (tk_l dL_law_1154) (tk_b (tk_l dL_law_1156) (tk_l dL_law_1157)))))) (tk_b (tk_b (tk_b (tk_b (tk_l dL_law_1158) (tk_l dL_law_1159)) (tk_b (tk_l dL_law_1162) (tk_b (tk_l dL_law_1164) (tk_l dL_law_1165)))) (tk_b (tk_b (tk_l dL_law_1168) (tk_l dL_law_1170)) (tk_b (tk_l dL_law_1173) (tk_b (tk_l dL_law_1174) (tk_l dL_law_1175))))) (tk_b (tk_b (tk_b (tk_l dL_law_1177) (tk_l dL_law_1180)) (tk_b (tk_l dL_law_1181) (tk_b (tk_l dL_law_1182) (tk_l dL_law_1183)))) (tk_b (tk_b (tk_l dL_law_1185) (tk_l dL_law_1186)) (tk_b (tk_l dL_law_1187) (tk_b (tk_l dL_law_1190) (tk_l dL_law_1191))))))) (tk_b (tk_b (tk_b (tk_b (tk_b (tk_l dL_law_1192) (tk_l dL_law_1195)) (tk_b (tk_l dL_law_1196) (tk_b (tk_l dL_law_1197) (tk_l dL_law_1199)))) (tk_b (tk_b (tk_l dL_law_1200) (tk_l dL_law_1201)) (tk_b (tk_l dL_law_1202) (tk_b (tk_l dL_law_1203) (tk_l dL_law_1206))))) (tk_b (tk_b (tk_b (tk_l dL_law_1208) (tk_l dL_law_1209)) (tk_b (tk_l dL_law_1210) (tk_b (tk_l dL_law_1212) (tk_l dL_law_1213)))) (tk_b (tk_b (tk_l dL_law_1214) (tk_l dL_law_1215)) (tk_b (tk_l dL_law_1218) (tk_b (tk_l dL_law_1220) (tk_l dL_law_1221)))))) (tk_b (tk_b (tk_b (tk_b (tk_l dL_law_1224) (tk_l dL_law_1226)) (tk_b (tk_l dL_law_1229) (tk_b (tk_l dL_law_1230) (tk_l dL_law_1231)))) (tk_b (tk_b (tk_l dL_law_1233) (tk_l dL_law_1236)) (tk_b (tk_l dL_law_1237) (tk_b (tk_l dL_law_1238) (tk_l dL_law_1239))))) (tk_b (tk_b (tk_b (tk_l dL_law_1241) (tk_l dL_law_1242)) (tk_b (tk_l dL_law_1243) (tk_b (tk_l dL_law_1246) (tk_l dL_law_1247)))) (tk_b (tk_b (tk_l dL_law_1248) (tk_b (tk_l dL_law_1251) (tk_l dL_law_1252))) (tk_b (tk_l dL_law_1253) (tk_b (tk_l dL_law_1255) (tk_l dL_law_1256)))))))) (tk_b (tk_b (tk_b (tk_b (tk_b (tk_b (tk_l dL_law_1257) (tk_l dL_law_1258)) (tk_b (tk_l dL_law_1259) (tk_b (tk_l dL_law_1262) (tk_l dL_law_1264)))) (tk_b (tk_b (tk_l dL_law_1265) (tk_l dL_law_1266)) (tk_b (tk_l dL_law_1268) (tk_b (tk_l dL_law_1269) (tk_l dL_law_1270))))) (tk_b (tk_b (tk_b (tk_l dL_law_1271) (tk_l dL_law_1274)) (tk_b (tk_l dL_law_1276) (tk_b (tk_l dL_law_1277) (tk_l dL_law_1280)))) (tk_b (tk_b (tk_l dL_law_1282) (tk_l dL_law_1285)) (tk_b (tk_l dL_law_1286) (tk_b (tk_l dL_law_1287) (tk_l dL_law_1289)))))) (tk_b (tk_b (tk_b (tk_b (tk_l dL_law_1292) (tk_l dL_law_1293)) (tk_b (tk_l dL_law_1294) (tk_b (tk_l dL_law_1295) (tk_l dL_law_1297)))) (tk_b (tk_b (tk_l dL_law_1298) (tk_l dL_law_1299)) (tk_b (tk_l dL_law_1302) (tk_b (tk_l dL_law_1303) (tk_l dL_law_1304))))) (tk_b (tk_b (tk_b (tk_l dL_law_1307) (tk_l dL_law_1308)) (tk_b (tk_l dL_law_1309) (tk_b (tk_l dL_law_1311) (tk_l dL_law_1312)))) (tk_b (tk_b (tk_l dL_law_1313) (tk_b (tk_l dL_law_1314) (tk_l dL_law_1315))) (tk_b (tk_l dL_law_1318) (tk_b (tk_l dL_law_1320) (tk_l dL_law_1321))))))) (tk_b (tk_b (tk_b (tk_b (tk_b (tk_l dL_law_1322) (tk_l dL_law_1324)) (tk_b (tk_l dL_law_1325) (tk_b (tk_l dL_law_1326) (tk_l dL_law_1327)))) (tk_b (tk_b (tk_l dL_law_1330) (tk_l dL_law_1332)) (tk_b (tk_l dL_law_1333) (tk_b (tk_l dL_law_1336) (tk_l dL_law_1338))))) (tk_b (tk_b (tk_b (tk_l dL_law_1341) (tk_l dL_law_1342)) (tk_b (tk_l dL_law_1343) (tk_b (tk_l dL_law_1345) (tk_l dL_law_1348)))) (tk_b (tk_b (tk_l dL_law_1349) (tk_l dL_law_1350)) (tk_b (tk_l dL_law_1351) (tk_b (tk_l dL_law_1353) (tk_l dL_law_1354)))))) (tk_b (tk_b (tk_b (tk_b (tk_l dL_law_1355) (tk_l dL_law_1358)) (tk_b (tk_l dL_law_1359) (tk_b (tk_l dL_law_1360) (tk_l dL_law_1363)))) (tk_b (tk_b (tk_l dL_law_1364) (tk_l dL_law_1367)) (tk_b (tk_l dL_law_1368) (tk_b (tk_l dL_law_1371) (tk_l dL_law_1374))))) (tk_b (tk_b (tk_b (tk_l dL_law_1375) (tk_l dL_law_1376)) (tk_b (tk_l dL_law_1377) (tk_b (tk_l dL_law_1378) (tk_l dL_law_1380)))) (tk_b (tk_b (tk_l dL_law_1381) (tk_b (tk_l dL_law_1382) (tk_l dL_law_1383))) (tk_b (tk_l dL_law_1384) (tk_b (tk_l dL_law_1386) (tk_l dL_law_1387))))))))) (tk_b (tk_b (tk_b (tk_b (tk_b (tk_b (tk_b (tk_l dL_law_1388) (tk_l dL_law_1389)) (tk_b (tk_l dL_law_1390) (tk_b (tk_l dL_law_1392) (tk_l dL_law_1393)))) (tk_b (tk_b (tk_l dL_law_1394) (tk_l dL_law_1395)) (tk_b (tk_l dL_law_1396) (tk_b (tk_l dL_law_1399) (tk_l dL_law_1401))))) (tk_b (tk_b (tk_b (tk_l dL_law_1402) (tk_l dL_law_1403)) (tk_b (tk_l dL_law_1405) (tk_b (tk_l dL_law_1406) (tk_l dL_law_1407)))) (tk_b (tk_b (tk_l dL_law_1408) (tk_l dL_law_1409)) (tk_b (tk_l dL_law_1411) (tk_b (tk_l dL_law_1412) (tk_l dL_law_1413)))))) (tk_b (tk_b (tk_b (tk_b (tk_l dL_law_1414) (tk_l dL_law_1415)) (tk_b (tk_l dL_law_1417) (tk_b (tk_l dL_law_1418) (tk_l dL_law_1419)))) (tk_b (tk_b (tk_l dL_law_1420) (tk_l dL_law_1423)) (tk_b (tk_l dL_law_1425) (tk_b (tk_l dL_law_1426) (tk_l dL_law_1429))))) (tk_b (tk_b (tk_b (tk_l dL_law_1431) (tk_l dL_law_1434)) (tk_b (tk_l dL_law_1435) (tk_b (tk_l dL_law_1436) (tk_l dL_law_1438)))) (tk_b (tk_b (tk_l dL_law_1441) (tk_l dL_law_1442)) (tk_b (tk_l dL_law_1443) (tk_b (tk_l dL_law_1444) (tk_l dL_law_1446))))))) (tk_b (tk_b (tk_b (tk_b (tk_b (tk_l dL_law_1447) (tk_l dL_law_1448)) (tk_b (tk_l dL_law_1451) (tk_b (tk_l dL_law_1452) (tk_l dL_law_1453)))) (tk_b (tk_b (tk_l dL_law_1456) (tk_l dL_law_1457)) (tk_b (tk_l dL_law_1458) (tk_b (tk_l dL_law_1460) (tk_l dL_law_1461))))) (tk_b (tk_b (tk_b (tk_l dL_law_1462) (tk_l dL_law_1463)) (tk_b (tk_l dL_law_1464) (tk_b (tk_l dL_law_1466) (tk_l dL_law_1467)))) (tk_b (tk_b (tk_l dL_law_1468) (tk_l dL_law_1469)) (tk_b (tk_l dL_law_1470) (tk_b (tk_l dL_law_1472) (tk_l dL_law_1473)))))) (tk_b (tk_b (tk_b (tk_b (tk_l dL_law_1474) (tk_l dL_law_1475)) (tk_b (tk_l dL_law_1478) (tk_b (tk_l dL_law_1480) (tk_l dL_law_1481)))) (tk_b (tk_b (tk_l dL_law_1482) (tk_l dL_law_1484)) (tk_b (tk_l dL_law_1485) (tk_b (tk_l dL_law_1486) (tk_l dL_law_1487))))) (tk_b (tk_b (tk_b (tk_l dL_law_1488) (tk_l dL_law_1490)) (tk_b (tk_l dL_law_1491) (tk_b (tk_l dL_law_1492) (tk_l dL_law_1493)))) (tk_b (tk_b (tk_l dL_law_1494) (tk_b (tk_l dL_law_1496) (tk_l dL_law_1497))) (tk_b (tk_l dL_law_1498) (tk_b (tk_l dL_law_1499) (tk_l dL_law_1502)))))))) (tk_b (tk_b (tk_b (tk_b (tk_b (tk_b (tk_l dL_law_1503) (tk_l dL_law_1506)) (tk_b (tk_l dL_law_1508) (tk_b (tk_l dL_law_1511) (tk_l dL_law_1512)))) (tk_b (tk_b (tk_l dL_law_1513) (tk_l dL_law_1516)) (tk_b (tk_l dL_law_1517) (tk_b (tk_l dL_law_1518) (tk_l dL_law_1520))))) (tk_b (tk_b (tk_b (tk_l dL_law_1521) (tk_l dL_law_1522)) (tk_b (tk_l dL_law_1523) (tk_b (tk_l dL_law_1524) (tk_l dL_law_1526)))) (tk_b (tk_b (tk_l dL_law_1527) (tk_l dL_law_1528)) (tk_b (tk_l dL_law_1529) (tk_b (tk_l dL_law_1530) (tk_l dL_law_1532)))))) (tk_b (tk_b (tk_b (tk_b (tk_l dL_law_1533) (tk_l dL_law_1534)) (tk_b (tk_l dL_law_1535) (tk_b (tk_l dL_law_1536) (tk_l dL_law_1539)))) (tk_b (tk_b (tk_l dL_law_1541) (tk_l dL_law_1542)) (tk_b (tk_l dL_law_1543) (tk_b (tk_l dL_law_1545) (tk_l dL_law_1546))))) (tk_b (tk_b (tk_b (tk_l dL_law_1547) (tk_l dL_law_1548)) (tk_b (tk_l dL_law_1549) (tk_b (tk_l dL_law_1551) (tk_l dL_law_1552)))) (tk_b (tk_b (tk_l dL_law_1553) (tk_b (tk_l dL_law_1554) (tk_l dL_law_1555))) (tk_b (tk_l dL_law_1557) (tk_b (tk_l dL_law_1558) (tk_l dL_law_1559))))))) (tk_b (tk_b (tk_b (tk_b (tk_b (tk_l dL_law_1560) (tk_l dL_law_1563)) (tk_b (tk_l dL_law_1565) (tk_b (tk_l dL_law_1566) (tk_l dL_law_1569)))) (tk_b (tk_b (tk_l dL_law_1571) (tk_l dL_law_1574)) (tk_b (tk_l dL_law_1575) (tk_b (tk_l dL_law_1576) (tk_l dL_law_1578))))) (tk_b (tk_b (tk_b (tk_l dL_law_1581) (tk_l dL_law_1582)) (tk_b (tk_l dL_law_1583) (tk_b (tk_l dL_law_1584) (tk_l dL_law_1586)))) (tk_b (tk_b (tk_l dL_law_1587) (tk_l dL_law_1588)) (tk_b (tk_l dL_law_1591) (tk_b (tk_l dL_law_1592) (tk_l dL_law_1593)))))) (tk_b (tk_b (tk_b (tk_b (tk_l dL_law_1596) (tk_l dL_law_1597)) (tk_b (tk_l dL_law_1598) (tk_b (tk_l dL_law_1600) (tk_l dL_law_1601)))) (tk_b (tk_b (tk_l dL_law_1602) (tk_l dL_law_1603)) (tk_b (tk_l dL_law_1604) (tk_b (tk_l dL_law_1606) (tk_l dL_law_1607))))) (tk_b (tk_b (tk_b (tk_l dL_law_1608) (tk_l dL_law_1609)) (tk_b (tk_l dL_law_1610) (tk_b (tk_l dL_law_1613) (tk_l dL_law_1615)))) (tk_b (tk_b (tk_l dL_law_1616) (tk_b (tk_l dL_law_1617) (tk_l dL_law_1619))) (tk_b (tk_l dL_law_1620) (tk_b (tk_l dL_law_1621) (tk_l dL_law_1622)))))))))) (tk_b (tk_b (tk_b (tk_b (tk_b (tk_b (tk_b (tk_b (tk_l dL_law_1623) (tk_l dL_law_1625)) (tk_b (tk_l dL_law_1626) (tk_b (tk_l dL_law_1627) (tk_l dL_law_1628)))) (tk_b (tk_b (tk_l dL_law_1631) (tk_l dL_law_1633)) (tk_b (tk_l dL_law_1634) (tk_b (tk_l dL_law_1637) (tk_l dL_law_1639))))) (tk_b (tk_b (tk_b (tk_l dL_law_1642) (tk_l dL_law_1643)) (tk_b (tk_l dL_law_1644) (tk_b (tk_l dL_law_1646) (tk_l dL_law_1649)))) (tk_b (tk_b (tk_l dL_law_1650) (tk_l dL_law_1651)) (tk_b (tk_l dL_law_1652) (tk_b (tk_l dL_law_1654) (tk_l dL_law_1655)))))) (tk_b (tk_b (tk_b (tk_b (tk_l dL_law_1656) (tk_l dL_law_1659)) (tk_b (tk_l dL_law_1660) (tk_b (tk_l dL_law_1661) (tk_l dL_law_1664)))) (tk_b (tk_b (tk_l dL_law_1665) (tk_l dL_law_1666)) (tk_b (tk_l dL_law_1668) (tk_b (tk_l dL_law_1669) (tk_l dL_law_1670))))) (tk_b (tk_b (tk_b (tk_l dL_law_1671) (tk_l dL_law_1672)) (tk_b (tk_l dL_law_1675) (tk_b (tk_l dL_law_1677) (tk_l dL_law_1678)))) (tk_b (tk_b (tk_l dL_law_1679) (tk_l dL_law_1681)) (tk_b (tk_l dL_law_1682) (tk_b (tk_l dL_law_1683) (tk_l dL_law_1684))))))) (tk_b (tk_b (tk_b (tk_b (tk_b (tk_l dL_law_1687) (tk_l dL_law_1689)) (tk_b (tk_l dL_law_1690) (tk_b (tk_l dL_law_1693) (tk_l dL_law_1695)))) (tk_b (tk_b (tk_l dL_law_1698) (tk_l dL_law_1699)) (tk_b (tk_l dL_law_1700) (tk_b (tk_l dL_law_1702) (tk_l dL_law_1705))))) (tk_b (tk_b (tk_b (tk_l dL_law_1706) (tk_l dL_law_1707)) (tk_b (tk_l dL_law_1708) (tk_b (tk_l dL_law_1710) (tk_l dL_law_1711)))) (tk_b (tk_b (tk_l dL_law_1712) (tk_l dL_law_1715)) (tk_b (tk_l dL_law_1716) (tk_b (tk_l dL_law_1717) (tk_l dL_law_1720)))))) (tk_b (tk_b (tk_b (tk_b (tk_l dL_law_1721) (tk_l dL_law_1724)) (tk_b (tk_l dL_law_1725) (tk_b (tk_l dL_law_1728) (tk_l dL_law_1731)))) (tk_b (tk_b (tk_l dL_law_1732) (tk_l dL_law_1733)) (tk_b (tk_l dL_law_1734) (tk_b (tk_l dL_law_1735) (tk_l dL_law_1737))))) (tk_b (tk_b (tk_b (tk_l dL_law_1738) (tk_l dL_law_1739)) (tk_b (tk_l dL_law_1740) (tk_b (tk_l dL_law_1741) (tk_l dL_law_1744)))) (tk_b (tk_b (tk_l dL_law_1746) (tk_b (tk_l dL_law_1747) (tk_l dL_law_1748))) (tk_b (tk_l dL_law_1750) (tk_b (tk_l dL_law_1751) (tk_l dL_law_1752)))))))) (tk_b (tk_b (tk_b (tk_b (tk_b (tk_b (tk_l dL_law_1753) (tk_l dL_law_1756)) (tk_b (tk_l dL_law_1758) (tk_b (tk_l dL_law_1759) (tk_l dL_law_1762)))) (tk_b (tk_b (tk_l dL_law_1764) (tk_l dL_law_1767)) (tk_b (tk_l dL_law_1768) (tk_b (tk_l dL_law_1769) (tk_l dL_law_1771))))) (tk_b (tk_b (tk_b (tk_l dL_law_1774) (tk_l dL_law_1775)) (tk_b (tk_l dL_law_1776) (tk_b (tk_l dL_law_1777) (tk_l dL_law_1779)))) (tk_b (tk_b (tk_l dL_law_1780) (tk_l dL_law_1781)) (tk_b (tk_l dL_law_1784) (tk_b (tk_l dL_law_1785) (tk_l dL_law_1786)))))) (tk_b (tk_b (tk_b (tk_b (tk_l dL_law_1789) (tk_l dL_law_1790)) (tk_b (tk_l dL_law_1791) (tk_b (tk_l dL_law_1793) (tk_l dL_law_1794)))) (tk_b (tk_b (tk_l dL_law_1795) (tk_l dL_law_1796)) (tk_b (tk_l dL_law_1797) (tk_b (tk_l dL_law_1800) (tk_l dL_law_1802))))) (tk_b (tk_b (tk_b (tk_l dL_law_1803) (tk_l dL_law_1804)) (tk_b (tk_l dL_law_1806) (tk_b (tk_l dL_law_1807) (tk_l dL_law_1808)))) (tk_b (tk_b (tk_l dL_law_1809) (tk_b (tk_l dL_law_1812) (tk_l dL_law_1814))) (tk_b (tk_l dL_law_1815) (tk_b (tk_l dL_law_1818) (tk_l dL_law_1820))))))) (tk_b (tk_b (tk_b (tk_b (tk_b (tk_l dL_law_1823) (tk_l dL_law_1824)) (tk_b (tk_l dL_law_1825) (tk_b (tk_l dL_law_1827) (tk_l dL_law_1830)))) (tk_b (tk_b (tk_l dL_law_1831) (tk_l dL_law_1832)) (tk_b (tk_l dL_law_1833) (tk_b (tk_l dL_law_1835) (tk_l dL_law_1836))))) (tk_b (tk_b (tk_b (tk_l dL_law_1837) (tk_l dL_law_1840)) (tk_b (tk_l dL_law_1841) (tk_b (tk_l dL_law_1842) (tk_l dL_law_1845)))) (tk_b (tk_b (tk_l dL_law_1846) (tk_l dL_law_1847)) (tk_b (tk_l dL_law_1849) (tk_b (tk_l dL_law_1850) (tk_l dL_law_1851)))))) (tk_b (tk_b (tk_b (tk_b (tk_l dL_law_1852) (tk_l dL_law_1853)) (tk_b (tk_l dL_law_1855) (tk_b (tk_l dL_law_1856) (tk_l dL_law_1857)))) (tk_b (tk_b (tk_l dL_law_1858) (tk_l dL_law_1859)) (tk_b (tk_l dL_law_1862) (tk_b (tk_l dL_law_1864) (tk_l dL_law_1865))))) (tk_b (tk_b (tk_b (tk_l dL_law_1866) (tk_l dL_law_1868)) (tk_b (tk_l dL_law_1869) (tk_b (tk_l dL_law_1870) (tk_l dL_law_1871)))) (tk_b (tk_b (tk_l dL_law_1872) (tk_b (tk_l dL_law_1874) (tk_l dL_law_1875))) (tk_b (tk_l dL_law_1876) (tk_b (tk_l dL_law_1877) (tk_l dL_law_1880))))))))) (tk_b (tk_b (tk_b (tk_b (tk_b (tk_b (tk_b (tk_l dL_law_1882) (tk_l dL_law_1883)) (tk_b (tk_l dL_law_1886) (tk_b (tk_l dL_law_1888) (tk_l dL_law_1891)))) (tk_b (tk_b (tk_l dL_law_1892) (tk_l dL_law_1893)) (tk_b (tk_l dL_law_1895) (tk_b (tk_l dL_law_1898) (tk_l dL_law_1899))))) (tk_b (tk_b (tk_b (tk_l dL_law_1900) (tk_l dL_law_1901)) (tk_b (tk_l dL_law_1903) (tk_b (tk_l dL_law_1904) (tk_l dL_law_1905)))) (tk_b (tk_b (tk_l dL_law_1908) (tk_l dL_law_1909)) (tk_b (tk_l dL_law_1910) (tk_b (tk_l dL_law_1913) (tk_l dL_law_1914)))))) (tk_b (tk_b (tk_b (tk_b (tk_l dL_law_1915) (tk_l dL_law_1917)) (tk_b (tk_l dL_law_1918) (tk_b (tk_l dL_law_1919) (tk_l dL_law_1920)))) (tk_b (tk_b (tk_l dL_law_1921) (tk_l dL_law_1924)) (tk_b (tk_l dL_law_1926) (tk_b (tk_l dL_law_1927) (tk_l dL_law_1928))))) (tk_b (tk_b (tk_b (tk_l dL_law_1930) (tk_l dL_law_1931)) (tk_b (tk_l dL_law_1932) (tk_b (tk_l dL_law_1933) (tk_l dL_law_1936)))) (tk_b (tk_b (tk_l dL_law_1938) (tk_b (tk_l dL_law_1939) (tk_l dL_law_1942))) (tk_b (tk_l dL_law_1944) (tk_b (tk_l dL_law_1947) (tk_l dL_law_1948))))))) (tk_b (tk_b (tk_b (tk_b (tk_b (tk_l dL_law_1949) (tk_l dL_law_1951)) (tk_b (tk_l dL_law_1954) (tk_b (tk_l dL_law_1955) (tk_l dL_law_1956)))) (tk_b (tk_b (tk_l dL_law_1957) (tk_l dL_law_1959)) (tk_b (tk_l dL_law_1960) (tk_b (tk_l dL_law_1961) (tk_l dL_law_1964))))) (tk_b (tk_b (tk_b (tk_l dL_law_1965) (tk_l dL_law_1966)) (tk_b (tk_l dL_law_1969) (tk_b (tk_l dL_law_1970) (tk_l dL_law_1971)))) (tk_b (tk_b (tk_l dL_law_1973) (tk_l dL_law_1974)) (tk_b (tk_l dL_law_1975) (tk_b (tk_l dL_law_1976) (tk_l dL_law_1977)))))) (tk_b (tk_b (tk_b (tk_b (tk_l dL_law_1979) (tk_l dL_law_1980)) (tk_b (tk_l dL_law_1981) (tk_b (tk_l dL_law_1982) (tk_l dL_law_1983)))) (tk_b (tk_b (tk_l dL_law_1985) (tk_l dL_law_1986)) (tk_b (tk_l dL_law_1987) (tk_b (tk_l dL_law_1988) (tk_l dL_law_1989))))) (tk_b (tk_b (tk_b (tk_l dL_law_1992) (tk_l dL_law_1994)) (tk_b (tk_l dL_law_1995) (tk_b (tk_l dL_law_1996) (tk_l dL_law_1998)))) (tk_b (tk_b (tk_l dL_law_1999) (tk_b (tk_l dL_law_2000) (tk_l dL_law_2001))) (tk_b (tk_l dL_law_2002) (tk_b (tk_l dL_law_2004) (tk_l dL_law_2005)))))))) (tk_b (tk_b (tk_b (tk_b (tk_b (tk_b (tk_l dL_law_2006) (tk_l dL_law_2007)) (tk_b (tk_l dL_law_2008) (tk_b (tk_l dL_law_2010) (tk_l dL_law_2011)))) (tk_b (tk_b (tk_l dL_law_2012) (tk_l dL_law_2013)) (tk_b (tk_l dL_law_2016) (tk_b (tk_l dL_law_2018) (tk_l dL_law_2019))))) (tk_b (tk_b (tk_b (tk_l dL_law_2022) (tk_l dL_law_2024)) (tk_b (tk_l dL_law_2027) (tk_b (tk_l dL_law_2028) (tk_l dL_law_2029)))) (tk_b (tk_b (tk_l dL_law_2031) (tk_l dL_law_2034)) (tk_b (tk_l dL_law_2035) (tk_b (tk_l dL_law_2036) (tk_l dL_law_2037)))))) (tk_b (tk_b (tk_b (tk_b (tk_l dL_law_2039) (tk_l dL_law_2040)) (tk_b (tk_l dL_law_2041) (tk_b (tk_l dL_law_2044) (tk_l dL_law_2045)))) (tk_b (tk_b (tk_l dL_law_2046) (tk_l dL_law_2049)) (tk_b (tk_l dL_law_2050) (tk_b (tk_l dL_law_2051) (tk_l dL_law_2053))))) (tk_b (tk_b (tk_b (tk_l dL_law_2054) (tk_l dL_law_2055)) (tk_b (tk_l dL_law_2056) (tk_b (tk_l dL_law_2057) (tk_l dL_law_2059)))) (tk_b (tk_b (tk_l dL_law_2060) (tk_b (tk_l dL_law_2061) (tk_l dL_law_2062))) (tk_b (tk_l dL_law_2063) (tk_b (tk_l dL_law_2066) (tk_l dL_law_2068))))))) (tk_b (tk_b (tk_b (tk_b (tk_b (tk_l dL_law_2069) (tk_l dL_law_2070)) (tk_b (tk_l dL_law_2072) (tk_b (tk_l dL_law_2073) (tk_l dL_law_2074)))) (tk_b (tk_b (tk_l dL_law_2075) (tk_l dL_law_2076)) (tk_b (tk_l dL_law_2078) (tk_b (tk_l dL_law_2079) (tk_l dL_law_2080))))) (tk_b (tk_b (tk_b (tk_l dL_law_2081) (tk_l dL_law_2084)) (tk_b (tk_l dL_law_2086) (tk_b (tk_l dL_law_2087) (tk_l dL_law_2090)))) (tk_b (tk_b (tk_l dL_law_2092) (tk_l dL_law_2095)) (tk_b (tk_l dL_law_2096) (tk_b (tk_l dL_law_2097) (tk_l dL_law_2099)))))) (tk_b (tk_b (tk_b (tk_b (tk_l dL_law_2102) (tk_l dL_law_2103)) (tk_b (tk_l dL_law_2104) (tk_b (tk_l dL_law_2105) (tk_l dL_law_2107)))) (tk_b (tk_b (tk_l dL_law_2108) (tk_l dL_law_2109)) (tk_b (tk_l dL_law_2112) (tk_b (tk_l dL_law_2113) (tk_l dL_law_2114))))) (tk_b (tk_b (tk_b (tk_l dL_law_2117) (tk_l dL_law_2118)) (tk_b (tk_l dL_law_2121) (tk_b (tk_l dL_law_2122) (tk_l dL_law_2125)))) (tk_b (tk_b (tk_l dL_law_2128) (tk_b (tk_l dL_law_2129) (tk_l dL_law_2130))) (tk_b (tk_l dL_law_2133) (tk_b (tk_l dL_law_2136) (tk_l dL_law_2137))))))))))))
