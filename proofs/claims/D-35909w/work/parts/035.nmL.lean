/-! HundiHallLaw -/
set_option maxRecDepth 100000
def RX0 : String := "HundiHallLaw"
abbrev cX0_broker : ByteArray := method_3_code
def yX0_broker : MethodName := ⟨RX0, "broker", "(LHundiHall;III[J)I"⟩
def dkwX0_broker_1 : List UInt8 := [58, 5, 6, 172, 3, 172]
abbrev dktX0_broker_1 : List UInt8 := dkwX0_broker_1 ++ []
def dkwX0_broker_0 : List UInt8 := [25, 4, 3, 42, 27, 28, 29, 182, 0, 7, 133, 80, 167, 0, 15, 58, 5, 4, 172, 58, 5, 5, 172]
abbrev dktX0_broker_0 : List UInt8 := dkwX0_broker_0 ++ dktX0_broker_1
theorem dksX0_broker_0 : cX0_broker.data.toList.drop 0 = dktX0_broker_0 := by decide +kernel
theorem dksX0_broker_1 : cX0_broker.data.toList.drop 23 = dktX0_broker_1 := dk_seg dksX0_broker_0 23 rfl rfl
theorem dX0_broker_0 : decode cX0_broker 0 = .ok (.aload 4, 2) := dk_25 4 (dk_at dksX0_broker_0 0 rfl rfl)
theorem dX0_broker_2 : decode cX0_broker 2 = .ok (.iconst 0, 1) := dk_3 (dk_at dksX0_broker_0 2 rfl rfl)
theorem dX0_broker_3 : decode cX0_broker 3 = .ok (.aload_n 0, 1) := dk_42 (dk_at dksX0_broker_0 3 rfl rfl)
theorem dX0_broker_4 : decode cX0_broker 4 = .ok (.iload_n 1, 1) := dk_27 (dk_at dksX0_broker_0 4 rfl rfl)
theorem dX0_broker_5 : decode cX0_broker 5 = .ok (.iload_n 2, 1) := dk_28 (dk_at dksX0_broker_0 5 rfl rfl)
theorem dX0_broker_6 : decode cX0_broker 6 = .ok (.iload_n 3, 1) := dk_29 (dk_at dksX0_broker_0 6 rfl rfl)
theorem dX0_broker_7 : decode cX0_broker 7 = .ok (.invokevirtual 7, 3) := dk_182 0 7 (dk_at dksX0_broker_0 7 rfl rfl)
theorem dX0_broker_10 : decode cX0_broker 10 = .ok (.i2l, 1) := dk_133 (dk_at dksX0_broker_0 10 rfl rfl)
theorem dX0_broker_11 : decode cX0_broker 11 = .ok (.lastore, 1) := dk_80 (dk_at dksX0_broker_0 11 rfl rfl)
theorem dX0_broker_12 : decode cX0_broker 12 = .ok (.goto 15, 3) := dk_167 0 15 (dk_at dksX0_broker_0 12 rfl rfl)
theorem dX0_broker_15 : decode cX0_broker 15 = .ok (.astore 5, 2) := dk_58 5 (dk_at dksX0_broker_0 15 rfl rfl)
theorem dX0_broker_17 : decode cX0_broker 17 = .ok (.iconst 1, 1) := dk_4 (dk_at dksX0_broker_0 17 rfl rfl)
theorem dX0_broker_18 : decode cX0_broker 18 = .ok (.ireturn, 1) := dk_172 (dk_at dksX0_broker_0 18 rfl rfl)
theorem dX0_broker_19 : decode cX0_broker 19 = .ok (.astore 5, 2) := dk_58 5 (dk_at dksX0_broker_0 19 rfl rfl)
theorem dX0_broker_21 : decode cX0_broker 21 = .ok (.iconst 2, 1) := dk_5 (dk_at dksX0_broker_0 21 rfl rfl)
theorem dX0_broker_22 : decode cX0_broker 22 = .ok (.ireturn, 1) := dk_172 (dk_at dksX0_broker_0 22 rfl rfl)
theorem dX0_broker_23 : decode cX0_broker 23 = .ok (.astore 5, 2) := dk_58 5 (dk_at dksX0_broker_1 0 rfl rfl)
theorem dX0_broker_25 : decode cX0_broker 25 = .ok (.iconst 3, 1) := dk_6 (dk_at dksX0_broker_1 2 rfl rfl)
theorem dX0_broker_26 : decode cX0_broker 26 = .ok (.ireturn, 1) := dk_172 (dk_at dksX0_broker_1 3 rfl rfl)
theorem dX0_broker_27 : decode cX0_broker 27 = .ok (.iconst 0, 1) := dk_3 (dk_at dksX0_broker_1 4 rfl rfl)
theorem dX0_broker_28 : decode cX0_broker 28 = .ok (.ireturn, 1) := dk_172 (dk_at dksX0_broker_1 5 rfl rfl)
abbrev cX0_rate : ByteArray := method_4_code
def yX0_rate : MethodName := ⟨RX0, "rate", "(LHundiHall;II[J)I"⟩
def dkwX0_rate_0 : List UInt8 := [45, 3, 42, 27, 28, 182, 0, 19, 133, 80, 167, 0, 11, 58, 4, 4, 172, 58, 4, 5, 172, 3, 172]
abbrev dktX0_rate_0 : List UInt8 := dkwX0_rate_0 ++ []
theorem dksX0_rate_0 : cX0_rate.data.toList.drop 0 = dktX0_rate_0 := by decide +kernel
theorem dX0_rate_0 : decode cX0_rate 0 = .ok (.aload_n 3, 1) := dk_45 (dk_at dksX0_rate_0 0 rfl rfl)
theorem dX0_rate_1 : decode cX0_rate 1 = .ok (.iconst 0, 1) := dk_3 (dk_at dksX0_rate_0 1 rfl rfl)
theorem dX0_rate_2 : decode cX0_rate 2 = .ok (.aload_n 0, 1) := dk_42 (dk_at dksX0_rate_0 2 rfl rfl)
theorem dX0_rate_3 : decode cX0_rate 3 = .ok (.iload_n 1, 1) := dk_27 (dk_at dksX0_rate_0 3 rfl rfl)
theorem dX0_rate_4 : decode cX0_rate 4 = .ok (.iload_n 2, 1) := dk_28 (dk_at dksX0_rate_0 4 rfl rfl)
theorem dX0_rate_5 : decode cX0_rate 5 = .ok (.invokevirtual 19, 3) := dk_182 0 19 (dk_at dksX0_rate_0 5 rfl rfl)
theorem dX0_rate_8 : decode cX0_rate 8 = .ok (.i2l, 1) := dk_133 (dk_at dksX0_rate_0 8 rfl rfl)
theorem dX0_rate_9 : decode cX0_rate 9 = .ok (.lastore, 1) := dk_80 (dk_at dksX0_rate_0 9 rfl rfl)
theorem dX0_rate_10 : decode cX0_rate 10 = .ok (.goto 11, 3) := dk_167 0 11 (dk_at dksX0_rate_0 10 rfl rfl)
theorem dX0_rate_13 : decode cX0_rate 13 = .ok (.astore 4, 2) := dk_58 4 (dk_at dksX0_rate_0 13 rfl rfl)
theorem dX0_rate_15 : decode cX0_rate 15 = .ok (.iconst 1, 1) := dk_4 (dk_at dksX0_rate_0 15 rfl rfl)
theorem dX0_rate_16 : decode cX0_rate 16 = .ok (.ireturn, 1) := dk_172 (dk_at dksX0_rate_0 16 rfl rfl)
theorem dX0_rate_17 : decode cX0_rate 17 = .ok (.astore 4, 2) := dk_58 4 (dk_at dksX0_rate_0 17 rfl rfl)
theorem dX0_rate_19 : decode cX0_rate 19 = .ok (.iconst 2, 1) := dk_5 (dk_at dksX0_rate_0 19 rfl rfl)
theorem dX0_rate_20 : decode cX0_rate 20 = .ok (.ireturn, 1) := dk_172 (dk_at dksX0_rate_0 20 rfl rfl)
theorem dX0_rate_21 : decode cX0_rate 21 = .ok (.iconst 0, 1) := dk_3 (dk_at dksX0_rate_0 21 rfl rfl)
theorem dX0_rate_22 : decode cX0_rate 22 = .ok (.ireturn, 1) := dk_172 (dk_at dksX0_rate_0 22 rfl rfl)
abbrev cX0_trust : ByteArray := method_5_code
def yX0_trust : MethodName := ⟨RX0, "trust", "(LHundiHall;IIIZ)I"⟩
def dkwX0_trust_0 : List UInt8 := [42, 27, 28, 29, 21, 4, 182, 0, 23, 167, 0, 11, 58, 5, 4, 172, 58, 5, 5, 172, 3, 172]
abbrev dktX0_trust_0 : List UInt8 := dkwX0_trust_0 ++ []
theorem dksX0_trust_0 : cX0_trust.data.toList.drop 0 = dktX0_trust_0 := by decide +kernel
theorem dX0_trust_0 : decode cX0_trust 0 = .ok (.aload_n 0, 1) := dk_42 (dk_at dksX0_trust_0 0 rfl rfl)
theorem dX0_trust_1 : decode cX0_trust 1 = .ok (.iload_n 1, 1) := dk_27 (dk_at dksX0_trust_0 1 rfl rfl)
theorem dX0_trust_2 : decode cX0_trust 2 = .ok (.iload_n 2, 1) := dk_28 (dk_at dksX0_trust_0 2 rfl rfl)
theorem dX0_trust_3 : decode cX0_trust 3 = .ok (.iload_n 3, 1) := dk_29 (dk_at dksX0_trust_0 3 rfl rfl)
theorem dX0_trust_4 : decode cX0_trust 4 = .ok (.iload 4, 2) := dk_21 4 (dk_at dksX0_trust_0 4 rfl rfl)
theorem dX0_trust_6 : decode cX0_trust 6 = .ok (.invokevirtual 23, 3) := dk_182 0 23 (dk_at dksX0_trust_0 6 rfl rfl)
theorem dX0_trust_9 : decode cX0_trust 9 = .ok (.goto 11, 3) := dk_167 0 11 (dk_at dksX0_trust_0 9 rfl rfl)
theorem dX0_trust_12 : decode cX0_trust 12 = .ok (.astore 5, 2) := dk_58 5 (dk_at dksX0_trust_0 12 rfl rfl)
theorem dX0_trust_14 : decode cX0_trust 14 = .ok (.iconst 1, 1) := dk_4 (dk_at dksX0_trust_0 14 rfl rfl)
theorem dX0_trust_15 : decode cX0_trust 15 = .ok (.ireturn, 1) := dk_172 (dk_at dksX0_trust_0 15 rfl rfl)
theorem dX0_trust_16 : decode cX0_trust 16 = .ok (.astore 5, 2) := dk_58 5 (dk_at dksX0_trust_0 16 rfl rfl)
theorem dX0_trust_18 : decode cX0_trust 18 = .ok (.iconst 2, 1) := dk_5 (dk_at dksX0_trust_0 18 rfl rfl)
theorem dX0_trust_19 : decode cX0_trust 19 = .ok (.ireturn, 1) := dk_172 (dk_at dksX0_trust_0 19 rfl rfl)
theorem dX0_trust_20 : decode cX0_trust 20 = .ok (.iconst 0, 1) := dk_3 (dk_at dksX0_trust_0 20 rfl rfl)
theorem dX0_trust_21 : decode cX0_trust 21 = .ok (.ireturn, 1) := dk_172 (dk_at dksX0_trust_0 21 rfl rfl)
abbrev cX0_breakWord : ByteArray := method_6_code
def yX0_breakWord : MethodName := ⟨RX0, "breakWord", "(LHundiHall;I[J)I"⟩
def dkwX0_breakWord_0 : List UInt8 := [44, 3, 42, 27, 182, 0, 27, 133, 80, 167, 0, 9, 78, 4, 172, 78, 5, 172, 3, 172]
abbrev dktX0_breakWord_0 : List UInt8 := dkwX0_breakWord_0 ++ []
theorem dksX0_breakWord_0 : cX0_breakWord.data.toList.drop 0 = dktX0_breakWord_0 := by decide +kernel
theorem dX0_breakWord_0 : decode cX0_breakWord 0 = .ok (.aload_n 2, 1) := dk_44 (dk_at dksX0_breakWord_0 0 rfl rfl)
theorem dX0_breakWord_1 : decode cX0_breakWord 1 = .ok (.iconst 0, 1) := dk_3 (dk_at dksX0_breakWord_0 1 rfl rfl)
theorem dX0_breakWord_2 : decode cX0_breakWord 2 = .ok (.aload_n 0, 1) := dk_42 (dk_at dksX0_breakWord_0 2 rfl rfl)
theorem dX0_breakWord_3 : decode cX0_breakWord 3 = .ok (.iload_n 1, 1) := dk_27 (dk_at dksX0_breakWord_0 3 rfl rfl)
theorem dX0_breakWord_4 : decode cX0_breakWord 4 = .ok (.invokevirtual 27, 3) := dk_182 0 27 (dk_at dksX0_breakWord_0 4 rfl rfl)
theorem dX0_breakWord_7 : decode cX0_breakWord 7 = .ok (.i2l, 1) := dk_133 (dk_at dksX0_breakWord_0 7 rfl rfl)
theorem dX0_breakWord_8 : decode cX0_breakWord 8 = .ok (.lastore, 1) := dk_80 (dk_at dksX0_breakWord_0 8 rfl rfl)
theorem dX0_breakWord_9 : decode cX0_breakWord 9 = .ok (.goto 9, 3) := dk_167 0 9 (dk_at dksX0_breakWord_0 9 rfl rfl)
theorem dX0_breakWord_12 : decode cX0_breakWord 12 = .ok (.astore_n 3, 1) := dk_78 (dk_at dksX0_breakWord_0 12 rfl rfl)
theorem dX0_breakWord_13 : decode cX0_breakWord 13 = .ok (.iconst 1, 1) := dk_4 (dk_at dksX0_breakWord_0 13 rfl rfl)
theorem dX0_breakWord_14 : decode cX0_breakWord 14 = .ok (.ireturn, 1) := dk_172 (dk_at dksX0_breakWord_0 14 rfl rfl)
theorem dX0_breakWord_15 : decode cX0_breakWord 15 = .ok (.astore_n 3, 1) := dk_78 (dk_at dksX0_breakWord_0 15 rfl rfl)
theorem dX0_breakWord_16 : decode cX0_breakWord 16 = .ok (.iconst 2, 1) := dk_5 (dk_at dksX0_breakWord_0 16 rfl rfl)
theorem dX0_breakWord_17 : decode cX0_breakWord 17 = .ok (.ireturn, 1) := dk_172 (dk_at dksX0_breakWord_0 17 rfl rfl)
theorem dX0_breakWord_18 : decode cX0_breakWord 18 = .ok (.iconst 0, 1) := dk_3 (dk_at dksX0_breakWord_0 18 rfl rfl)
theorem dX0_breakWord_19 : decode cX0_breakWord 19 = .ok (.ireturn, 1) := dk_172 (dk_at dksX0_breakWord_0 19 rfl rfl)
abbrev cX0_raid : ByteArray := method_7_code
def yX0_raid : MethodName := ⟨RX0, "raid", "(LHundiHall;I[J)I"⟩
def dkwX0_raid_0 : List UInt8 := [44, 3, 42, 27, 182, 0, 31, 133, 80, 167, 0, 9, 78, 4, 172, 78, 5, 172, 3, 172]
abbrev dktX0_raid_0 : List UInt8 := dkwX0_raid_0 ++ []
theorem dksX0_raid_0 : cX0_raid.data.toList.drop 0 = dktX0_raid_0 := by decide +kernel
theorem dX0_raid_0 : decode cX0_raid 0 = .ok (.aload_n 2, 1) := dk_44 (dk_at dksX0_raid_0 0 rfl rfl)
theorem dX0_raid_1 : decode cX0_raid 1 = .ok (.iconst 0, 1) := dk_3 (dk_at dksX0_raid_0 1 rfl rfl)
theorem dX0_raid_2 : decode cX0_raid 2 = .ok (.aload_n 0, 1) := dk_42 (dk_at dksX0_raid_0 2 rfl rfl)
theorem dX0_raid_3 : decode cX0_raid 3 = .ok (.iload_n 1, 1) := dk_27 (dk_at dksX0_raid_0 3 rfl rfl)
theorem dX0_raid_4 : decode cX0_raid 4 = .ok (.invokevirtual 31, 3) := dk_182 0 31 (dk_at dksX0_raid_0 4 rfl rfl)
theorem dX0_raid_7 : decode cX0_raid 7 = .ok (.i2l, 1) := dk_133 (dk_at dksX0_raid_0 7 rfl rfl)
theorem dX0_raid_8 : decode cX0_raid 8 = .ok (.lastore, 1) := dk_80 (dk_at dksX0_raid_0 8 rfl rfl)
theorem dX0_raid_9 : decode cX0_raid 9 = .ok (.goto 9, 3) := dk_167 0 9 (dk_at dksX0_raid_0 9 rfl rfl)
theorem dX0_raid_12 : decode cX0_raid 12 = .ok (.astore_n 3, 1) := dk_78 (dk_at dksX0_raid_0 12 rfl rfl)
theorem dX0_raid_13 : decode cX0_raid 13 = .ok (.iconst 1, 1) := dk_4 (dk_at dksX0_raid_0 13 rfl rfl)
theorem dX0_raid_14 : decode cX0_raid 14 = .ok (.ireturn, 1) := dk_172 (dk_at dksX0_raid_0 14 rfl rfl)
theorem dX0_raid_15 : decode cX0_raid 15 = .ok (.astore_n 3, 1) := dk_78 (dk_at dksX0_raid_0 15 rfl rfl)
theorem dX0_raid_16 : decode cX0_raid 16 = .ok (.iconst 2, 1) := dk_5 (dk_at dksX0_raid_0 16 rfl rfl)
theorem dX0_raid_17 : decode cX0_raid 17 = .ok (.ireturn, 1) := dk_172 (dk_at dksX0_raid_0 17 rfl rfl)
theorem dX0_raid_18 : decode cX0_raid 18 = .ok (.iconst 0, 1) := dk_3 (dk_at dksX0_raid_0 18 rfl rfl)
theorem dX0_raid_19 : decode cX0_raid 19 = .ok (.ireturn, 1) := dk_172 (dk_at dksX0_raid_0 19 rfl rfl)
abbrev cX0_order : ByteArray := method_8_code
def yX0_order : MethodName := ⟨RX0, "order", "(LHundiHall;IIIII[J)I"⟩
def dkwX0_order_1 : List UInt8 := [58, 7, 5, 172, 58, 7, 6, 172, 3, 172]
abbrev dktX0_order_1 : List UInt8 := dkwX0_order_1 ++ []
def dkwX0_order_0 : List UInt8 := [25, 6, 3, 42, 27, 28, 29, 21, 4, 21, 5, 182, 0, 34, 133, 80, 167, 0, 15, 58, 7, 4, 172]
abbrev dktX0_order_0 : List UInt8 := dkwX0_order_0 ++ dktX0_order_1
theorem dksX0_order_0 : cX0_order.data.toList.drop 0 = dktX0_order_0 := by decide +kernel
theorem dksX0_order_1 : cX0_order.data.toList.drop 23 = dktX0_order_1 := dk_seg dksX0_order_0 23 rfl rfl
theorem dX0_order_0 : decode cX0_order 0 = .ok (.aload 6, 2) := dk_25 6 (dk_at dksX0_order_0 0 rfl rfl)
theorem dX0_order_2 : decode cX0_order 2 = .ok (.iconst 0, 1) := dk_3 (dk_at dksX0_order_0 2 rfl rfl)
theorem dX0_order_3 : decode cX0_order 3 = .ok (.aload_n 0, 1) := dk_42 (dk_at dksX0_order_0 3 rfl rfl)
theorem dX0_order_4 : decode cX0_order 4 = .ok (.iload_n 1, 1) := dk_27 (dk_at dksX0_order_0 4 rfl rfl)
theorem dX0_order_5 : decode cX0_order 5 = .ok (.iload_n 2, 1) := dk_28 (dk_at dksX0_order_0 5 rfl rfl)
theorem dX0_order_6 : decode cX0_order 6 = .ok (.iload_n 3, 1) := dk_29 (dk_at dksX0_order_0 6 rfl rfl)
theorem dX0_order_7 : decode cX0_order 7 = .ok (.iload 4, 2) := dk_21 4 (dk_at dksX0_order_0 7 rfl rfl)
theorem dX0_order_9 : decode cX0_order 9 = .ok (.iload 5, 2) := dk_21 5 (dk_at dksX0_order_0 9 rfl rfl)
theorem dX0_order_11 : decode cX0_order 11 = .ok (.invokevirtual 34, 3) := dk_182 0 34 (dk_at dksX0_order_0 11 rfl rfl)
theorem dX0_order_14 : decode cX0_order 14 = .ok (.i2l, 1) := dk_133 (dk_at dksX0_order_0 14 rfl rfl)
theorem dX0_order_15 : decode cX0_order 15 = .ok (.lastore, 1) := dk_80 (dk_at dksX0_order_0 15 rfl rfl)
theorem dX0_order_16 : decode cX0_order 16 = .ok (.goto 15, 3) := dk_167 0 15 (dk_at dksX0_order_0 16 rfl rfl)
theorem dX0_order_19 : decode cX0_order 19 = .ok (.astore 7, 2) := dk_58 7 (dk_at dksX0_order_0 19 rfl rfl)
theorem dX0_order_21 : decode cX0_order 21 = .ok (.iconst 1, 1) := dk_4 (dk_at dksX0_order_0 21 rfl rfl)
theorem dX0_order_22 : decode cX0_order 22 = .ok (.ireturn, 1) := dk_172 (dk_at dksX0_order_0 22 rfl rfl)
theorem dX0_order_23 : decode cX0_order 23 = .ok (.astore 7, 2) := dk_58 7 (dk_at dksX0_order_1 0 rfl rfl)
theorem dX0_order_25 : decode cX0_order 25 = .ok (.iconst 2, 1) := dk_5 (dk_at dksX0_order_1 2 rfl rfl)
theorem dX0_order_26 : decode cX0_order 26 = .ok (.ireturn, 1) := dk_172 (dk_at dksX0_order_1 3 rfl rfl)
theorem dX0_order_27 : decode cX0_order 27 = .ok (.astore 7, 2) := dk_58 7 (dk_at dksX0_order_1 4 rfl rfl)
theorem dX0_order_29 : decode cX0_order 29 = .ok (.iconst 3, 1) := dk_6 (dk_at dksX0_order_1 6 rfl rfl)
theorem dX0_order_30 : decode cX0_order 30 = .ok (.ireturn, 1) := dk_172 (dk_at dksX0_order_1 7 rfl rfl)
theorem dX0_order_31 : decode cX0_order 31 = .ok (.iconst 0, 1) := dk_3 (dk_at dksX0_order_1 8 rfl rfl)
theorem dX0_order_32 : decode cX0_order 32 = .ok (.ireturn, 1) := dk_172 (dk_at dksX0_order_1 9 rfl rfl)
abbrev cX0_fetch : ByteArray := method_9_code
def yX0_fetch : MethodName := ⟨RX0, "fetch", "(LHundiHall;II[J)I"⟩
def dkwX0_fetch_1 : List UInt8 := [172, 3, 172]
abbrev dktX0_fetch_1 : List UInt8 := dkwX0_fetch_1 ++ []
def dkwX0_fetch_0 : List UInt8 := [45, 3, 42, 27, 28, 182, 0, 38, 133, 80, 167, 0, 15, 58, 4, 4, 172, 58, 4, 5, 172, 58, 4, 6]
abbrev dktX0_fetch_0 : List UInt8 := dkwX0_fetch_0 ++ dktX0_fetch_1
theorem dksX0_fetch_0 : cX0_fetch.data.toList.drop 0 = dktX0_fetch_0 := by decide +kernel
theorem dksX0_fetch_1 : cX0_fetch.data.toList.drop 24 = dktX0_fetch_1 := dk_seg dksX0_fetch_0 24 rfl rfl
theorem dX0_fetch_0 : decode cX0_fetch 0 = .ok (.aload_n 3, 1) := dk_45 (dk_at dksX0_fetch_0 0 rfl rfl)
theorem dX0_fetch_1 : decode cX0_fetch 1 = .ok (.iconst 0, 1) := dk_3 (dk_at dksX0_fetch_0 1 rfl rfl)
theorem dX0_fetch_2 : decode cX0_fetch 2 = .ok (.aload_n 0, 1) := dk_42 (dk_at dksX0_fetch_0 2 rfl rfl)
theorem dX0_fetch_3 : decode cX0_fetch 3 = .ok (.iload_n 1, 1) := dk_27 (dk_at dksX0_fetch_0 3 rfl rfl)
theorem dX0_fetch_4 : decode cX0_fetch 4 = .ok (.iload_n 2, 1) := dk_28 (dk_at dksX0_fetch_0 4 rfl rfl)
theorem dX0_fetch_5 : decode cX0_fetch 5 = .ok (.invokevirtual 38, 3) := dk_182 0 38 (dk_at dksX0_fetch_0 5 rfl rfl)
theorem dX0_fetch_8 : decode cX0_fetch 8 = .ok (.i2l, 1) := dk_133 (dk_at dksX0_fetch_0 8 rfl rfl)
theorem dX0_fetch_9 : decode cX0_fetch 9 = .ok (.lastore, 1) := dk_80 (dk_at dksX0_fetch_0 9 rfl rfl)
theorem dX0_fetch_10 : decode cX0_fetch 10 = .ok (.goto 15, 3) := dk_167 0 15 (dk_at dksX0_fetch_0 10 rfl rfl)
theorem dX0_fetch_13 : decode cX0_fetch 13 = .ok (.astore 4, 2) := dk_58 4 (dk_at dksX0_fetch_0 13 rfl rfl)
theorem dX0_fetch_15 : decode cX0_fetch 15 = .ok (.iconst 1, 1) := dk_4 (dk_at dksX0_fetch_0 15 rfl rfl)
theorem dX0_fetch_16 : decode cX0_fetch 16 = .ok (.ireturn, 1) := dk_172 (dk_at dksX0_fetch_0 16 rfl rfl)
theorem dX0_fetch_17 : decode cX0_fetch 17 = .ok (.astore 4, 2) := dk_58 4 (dk_at dksX0_fetch_0 17 rfl rfl)
theorem dX0_fetch_19 : decode cX0_fetch 19 = .ok (.iconst 2, 1) := dk_5 (dk_at dksX0_fetch_0 19 rfl rfl)
theorem dX0_fetch_20 : decode cX0_fetch 20 = .ok (.ireturn, 1) := dk_172 (dk_at dksX0_fetch_0 20 rfl rfl)
theorem dX0_fetch_21 : decode cX0_fetch 21 = .ok (.astore 4, 2) := dk_58 4 (dk_at dksX0_fetch_0 21 rfl rfl)
theorem dX0_fetch_23 : decode cX0_fetch 23 = .ok (.iconst 3, 1) := dk_6 (dk_at dksX0_fetch_0 23 rfl rfl)
theorem dX0_fetch_24 : decode cX0_fetch 24 = .ok (.ireturn, 1) := dk_172 (dk_at dksX0_fetch_1 0 rfl rfl)
theorem dX0_fetch_25 : decode cX0_fetch 25 = .ok (.iconst 0, 1) := dk_3 (dk_at dksX0_fetch_1 1 rfl rfl)
theorem dX0_fetch_26 : decode cX0_fetch 26 = .ok (.ireturn, 1) := dk_172 (dk_at dksX0_fetch_1 2 rfl rfl)
abbrev cX0_pass : ByteArray := method_10_code
def yX0_pass : MethodName := ⟨RX0, "pass", "(LHundiHall;I[J)I"⟩
def dkwX0_pass_0 : List UInt8 := [44, 3, 42, 27, 182, 0, 41, 133, 80, 167, 0, 6, 78, 4, 172, 3, 172]
abbrev dktX0_pass_0 : List UInt8 := dkwX0_pass_0 ++ []
theorem dksX0_pass_0 : cX0_pass.data.toList.drop 0 = dktX0_pass_0 := by decide +kernel
theorem dX0_pass_0 : decode cX0_pass 0 = .ok (.aload_n 2, 1) := dk_44 (dk_at dksX0_pass_0 0 rfl rfl)
theorem dX0_pass_1 : decode cX0_pass 1 = .ok (.iconst 0, 1) := dk_3 (dk_at dksX0_pass_0 1 rfl rfl)
theorem dX0_pass_2 : decode cX0_pass 2 = .ok (.aload_n 0, 1) := dk_42 (dk_at dksX0_pass_0 2 rfl rfl)
theorem dX0_pass_3 : decode cX0_pass 3 = .ok (.iload_n 1, 1) := dk_27 (dk_at dksX0_pass_0 3 rfl rfl)
theorem dX0_pass_4 : decode cX0_pass 4 = .ok (.invokevirtual 41, 3) := dk_182 0 41 (dk_at dksX0_pass_0 4 rfl rfl)
theorem dX0_pass_7 : decode cX0_pass 7 = .ok (.i2l, 1) := dk_133 (dk_at dksX0_pass_0 7 rfl rfl)
theorem dX0_pass_8 : decode cX0_pass 8 = .ok (.lastore, 1) := dk_80 (dk_at dksX0_pass_0 8 rfl rfl)
theorem dX0_pass_9 : decode cX0_pass 9 = .ok (.goto 6, 3) := dk_167 0 6 (dk_at dksX0_pass_0 9 rfl rfl)
theorem dX0_pass_12 : decode cX0_pass 12 = .ok (.astore_n 3, 1) := dk_78 (dk_at dksX0_pass_0 12 rfl rfl)
theorem dX0_pass_13 : decode cX0_pass 13 = .ok (.iconst 1, 1) := dk_4 (dk_at dksX0_pass_0 13 rfl rfl)
theorem dX0_pass_14 : decode cX0_pass 14 = .ok (.ireturn, 1) := dk_172 (dk_at dksX0_pass_0 14 rfl rfl)
theorem dX0_pass_15 : decode cX0_pass 15 = .ok (.iconst 0, 1) := dk_3 (dk_at dksX0_pass_0 15 rfl rfl)
theorem dX0_pass_16 : decode cX0_pass 16 = .ok (.ireturn, 1) := dk_172 (dk_at dksX0_pass_0 16 rfl rfl)
abbrev cX0_pay : ByteArray := method_11_code
def yX0_pay : MethodName := ⟨RX0, "pay", "(LHundiHall;III[J)I"⟩
def dkwX0_pay_1 : List UInt8 := [58, 5, 6, 172, 3, 172]
abbrev dktX0_pay_1 : List UInt8 := dkwX0_pay_1 ++ []
def dkwX0_pay_0 : List UInt8 := [25, 4, 3, 42, 27, 28, 29, 182, 0, 44, 133, 80, 167, 0, 15, 58, 5, 4, 172, 58, 5, 5, 172]
abbrev dktX0_pay_0 : List UInt8 := dkwX0_pay_0 ++ dktX0_pay_1
theorem dksX0_pay_0 : cX0_pay.data.toList.drop 0 = dktX0_pay_0 := by decide +kernel
theorem dksX0_pay_1 : cX0_pay.data.toList.drop 23 = dktX0_pay_1 := dk_seg dksX0_pay_0 23 rfl rfl
theorem dX0_pay_0 : decode cX0_pay 0 = .ok (.aload 4, 2) := dk_25 4 (dk_at dksX0_pay_0 0 rfl rfl)
theorem dX0_pay_2 : decode cX0_pay 2 = .ok (.iconst 0, 1) := dk_3 (dk_at dksX0_pay_0 2 rfl rfl)
theorem dX0_pay_3 : decode cX0_pay 3 = .ok (.aload_n 0, 1) := dk_42 (dk_at dksX0_pay_0 3 rfl rfl)
theorem dX0_pay_4 : decode cX0_pay 4 = .ok (.iload_n 1, 1) := dk_27 (dk_at dksX0_pay_0 4 rfl rfl)
theorem dX0_pay_5 : decode cX0_pay 5 = .ok (.iload_n 2, 1) := dk_28 (dk_at dksX0_pay_0 5 rfl rfl)
theorem dX0_pay_6 : decode cX0_pay 6 = .ok (.iload_n 3, 1) := dk_29 (dk_at dksX0_pay_0 6 rfl rfl)
theorem dX0_pay_7 : decode cX0_pay 7 = .ok (.invokevirtual 44, 3) := dk_182 0 44 (dk_at dksX0_pay_0 7 rfl rfl)
theorem dX0_pay_10 : decode cX0_pay 10 = .ok (.i2l, 1) := dk_133 (dk_at dksX0_pay_0 10 rfl rfl)
theorem dX0_pay_11 : decode cX0_pay 11 = .ok (.lastore, 1) := dk_80 (dk_at dksX0_pay_0 11 rfl rfl)
theorem dX0_pay_12 : decode cX0_pay 12 = .ok (.goto 15, 3) := dk_167 0 15 (dk_at dksX0_pay_0 12 rfl rfl)
theorem dX0_pay_15 : decode cX0_pay 15 = .ok (.astore 5, 2) := dk_58 5 (dk_at dksX0_pay_0 15 rfl rfl)
theorem dX0_pay_17 : decode cX0_pay 17 = .ok (.iconst 1, 1) := dk_4 (dk_at dksX0_pay_0 17 rfl rfl)
theorem dX0_pay_18 : decode cX0_pay 18 = .ok (.ireturn, 1) := dk_172 (dk_at dksX0_pay_0 18 rfl rfl)
theorem dX0_pay_19 : decode cX0_pay 19 = .ok (.astore 5, 2) := dk_58 5 (dk_at dksX0_pay_0 19 rfl rfl)
theorem dX0_pay_21 : decode cX0_pay 21 = .ok (.iconst 2, 1) := dk_5 (dk_at dksX0_pay_0 21 rfl rfl)
theorem dX0_pay_22 : decode cX0_pay 22 = .ok (.ireturn, 1) := dk_172 (dk_at dksX0_pay_0 22 rfl rfl)
theorem dX0_pay_23 : decode cX0_pay 23 = .ok (.astore 5, 2) := dk_58 5 (dk_at dksX0_pay_1 0 rfl rfl)
theorem dX0_pay_25 : decode cX0_pay 25 = .ok (.iconst 3, 1) := dk_6 (dk_at dksX0_pay_1 2 rfl rfl)
theorem dX0_pay_26 : decode cX0_pay 26 = .ok (.ireturn, 1) := dk_172 (dk_at dksX0_pay_1 3 rfl rfl)
theorem dX0_pay_27 : decode cX0_pay 27 = .ok (.iconst 0, 1) := dk_3 (dk_at dksX0_pay_1 4 rfl rfl)
theorem dX0_pay_28 : decode cX0_pay 28 = .ok (.ireturn, 1) := dk_172 (dk_at dksX0_pay_1 5 rfl rfl)
abbrev cX0_deliver : ByteArray := method_12_code
def yX0_deliver : MethodName := ⟨RX0, "deliver", "(LHundiHall;III[J)I"⟩
def dkwX0_deliver_1 : List UInt8 := [58, 5, 6, 172, 3, 172]
abbrev dktX0_deliver_1 : List UInt8 := dkwX0_deliver_1 ++ []
def dkwX0_deliver_0 : List UInt8 := [25, 4, 3, 42, 27, 28, 29, 182, 0, 47, 133, 80, 167, 0, 15, 58, 5, 4, 172, 58, 5, 5, 172]
abbrev dktX0_deliver_0 : List UInt8 := dkwX0_deliver_0 ++ dktX0_deliver_1
theorem dksX0_deliver_0 : cX0_deliver.data.toList.drop 0 = dktX0_deliver_0 := by decide +kernel
theorem dksX0_deliver_1 : cX0_deliver.data.toList.drop 23 = dktX0_deliver_1 := dk_seg dksX0_deliver_0 23 rfl rfl
theorem dX0_deliver_0 : decode cX0_deliver 0 = .ok (.aload 4, 2) := dk_25 4 (dk_at dksX0_deliver_0 0 rfl rfl)
theorem dX0_deliver_2 : decode cX0_deliver 2 = .ok (.iconst 0, 1) := dk_3 (dk_at dksX0_deliver_0 2 rfl rfl)
theorem dX0_deliver_3 : decode cX0_deliver 3 = .ok (.aload_n 0, 1) := dk_42 (dk_at dksX0_deliver_0 3 rfl rfl)
theorem dX0_deliver_4 : decode cX0_deliver 4 = .ok (.iload_n 1, 1) := dk_27 (dk_at dksX0_deliver_0 4 rfl rfl)
theorem dX0_deliver_5 : decode cX0_deliver 5 = .ok (.iload_n 2, 1) := dk_28 (dk_at dksX0_deliver_0 5 rfl rfl)
theorem dX0_deliver_6 : decode cX0_deliver 6 = .ok (.iload_n 3, 1) := dk_29 (dk_at dksX0_deliver_0 6 rfl rfl)
theorem dX0_deliver_7 : decode cX0_deliver 7 = .ok (.invokevirtual 47, 3) := dk_182 0 47 (dk_at dksX0_deliver_0 7 rfl rfl)
theorem dX0_deliver_10 : decode cX0_deliver 10 = .ok (.i2l, 1) := dk_133 (dk_at dksX0_deliver_0 10 rfl rfl)
theorem dX0_deliver_11 : decode cX0_deliver 11 = .ok (.lastore, 1) := dk_80 (dk_at dksX0_deliver_0 11 rfl rfl)
theorem dX0_deliver_12 : decode cX0_deliver 12 = .ok (.goto 15, 3) := dk_167 0 15 (dk_at dksX0_deliver_0 12 rfl rfl)
theorem dX0_deliver_15 : decode cX0_deliver 15 = .ok (.astore 5, 2) := dk_58 5 (dk_at dksX0_deliver_0 15 rfl rfl)
theorem dX0_deliver_17 : decode cX0_deliver 17 = .ok (.iconst 1, 1) := dk_4 (dk_at dksX0_deliver_0 17 rfl rfl)
theorem dX0_deliver_18 : decode cX0_deliver 18 = .ok (.ireturn, 1) := dk_172 (dk_at dksX0_deliver_0 18 rfl rfl)
theorem dX0_deliver_19 : decode cX0_deliver 19 = .ok (.astore 5, 2) := dk_58 5 (dk_at dksX0_deliver_0 19 rfl rfl)
theorem dX0_deliver_21 : decode cX0_deliver 21 = .ok (.iconst 2, 1) := dk_5 (dk_at dksX0_deliver_0 21 rfl rfl)
theorem dX0_deliver_22 : decode cX0_deliver 22 = .ok (.ireturn, 1) := dk_172 (dk_at dksX0_deliver_0 22 rfl rfl)
theorem dX0_deliver_23 : decode cX0_deliver 23 = .ok (.astore 5, 2) := dk_58 5 (dk_at dksX0_deliver_1 0 rfl rfl)
theorem dX0_deliver_25 : decode cX0_deliver 25 = .ok (.iconst 3, 1) := dk_6 (dk_at dksX0_deliver_1 2 rfl rfl)
theorem dX0_deliver_26 : decode cX0_deliver 26 = .ok (.ireturn, 1) := dk_172 (dk_at dksX0_deliver_1 3 rfl rfl)
theorem dX0_deliver_27 : decode cX0_deliver 27 = .ok (.iconst 0, 1) := dk_3 (dk_at dksX0_deliver_1 4 rfl rfl)
theorem dX0_deliver_28 : decode cX0_deliver 28 = .ok (.ireturn, 1) := dk_172 (dk_at dksX0_deliver_1 5 rfl rfl)
abbrev cX0_courier : ByteArray := method_13_code
def yX0_courier : MethodName := ⟨RX0, "courier", "(LHundiHall;IIII[J)I"⟩
def dkwX0_courier_1 : List UInt8 := [172, 58, 6, 6, 172, 3, 172]
abbrev dktX0_courier_1 : List UInt8 := dkwX0_courier_1 ++ []
def dkwX0_courier_0 : List UInt8 := [25, 5, 3, 42, 27, 28, 29, 21, 4, 182, 0, 50, 133, 80, 167, 0, 15, 58, 6, 4, 172, 58, 6, 5]
abbrev dktX0_courier_0 : List UInt8 := dkwX0_courier_0 ++ dktX0_courier_1
theorem dksX0_courier_0 : cX0_courier.data.toList.drop 0 = dktX0_courier_0 := by decide +kernel
theorem dksX0_courier_1 : cX0_courier.data.toList.drop 24 = dktX0_courier_1 := dk_seg dksX0_courier_0 24 rfl rfl
theorem dX0_courier_0 : decode cX0_courier 0 = .ok (.aload 5, 2) := dk_25 5 (dk_at dksX0_courier_0 0 rfl rfl)
theorem dX0_courier_2 : decode cX0_courier 2 = .ok (.iconst 0, 1) := dk_3 (dk_at dksX0_courier_0 2 rfl rfl)
theorem dX0_courier_3 : decode cX0_courier 3 = .ok (.aload_n 0, 1) := dk_42 (dk_at dksX0_courier_0 3 rfl rfl)
theorem dX0_courier_4 : decode cX0_courier 4 = .ok (.iload_n 1, 1) := dk_27 (dk_at dksX0_courier_0 4 rfl rfl)
theorem dX0_courier_5 : decode cX0_courier 5 = .ok (.iload_n 2, 1) := dk_28 (dk_at dksX0_courier_0 5 rfl rfl)
theorem dX0_courier_6 : decode cX0_courier 6 = .ok (.iload_n 3, 1) := dk_29 (dk_at dksX0_courier_0 6 rfl rfl)
theorem dX0_courier_7 : decode cX0_courier 7 = .ok (.iload 4, 2) := dk_21 4 (dk_at dksX0_courier_0 7 rfl rfl)
theorem dX0_courier_9 : decode cX0_courier 9 = .ok (.invokevirtual 50, 3) := dk_182 0 50 (dk_at dksX0_courier_0 9 rfl rfl)
theorem dX0_courier_12 : decode cX0_courier 12 = .ok (.i2l, 1) := dk_133 (dk_at dksX0_courier_0 12 rfl rfl)
theorem dX0_courier_13 : decode cX0_courier 13 = .ok (.lastore, 1) := dk_80 (dk_at dksX0_courier_0 13 rfl rfl)
theorem dX0_courier_14 : decode cX0_courier 14 = .ok (.goto 15, 3) := dk_167 0 15 (dk_at dksX0_courier_0 14 rfl rfl)
theorem dX0_courier_17 : decode cX0_courier 17 = .ok (.astore 6, 2) := dk_58 6 (dk_at dksX0_courier_0 17 rfl rfl)
theorem dX0_courier_19 : decode cX0_courier 19 = .ok (.iconst 1, 1) := dk_4 (dk_at dksX0_courier_0 19 rfl rfl)
theorem dX0_courier_20 : decode cX0_courier 20 = .ok (.ireturn, 1) := dk_172 (dk_at dksX0_courier_0 20 rfl rfl)
theorem dX0_courier_21 : decode cX0_courier 21 = .ok (.astore 6, 2) := dk_58 6 (dk_at dksX0_courier_0 21 rfl rfl)
theorem dX0_courier_23 : decode cX0_courier 23 = .ok (.iconst 2, 1) := dk_5 (dk_at dksX0_courier_0 23 rfl rfl)
theorem dX0_courier_24 : decode cX0_courier 24 = .ok (.ireturn, 1) := dk_172 (dk_at dksX0_courier_1 0 rfl rfl)
theorem dX0_courier_25 : decode cX0_courier 25 = .ok (.astore 6, 2) := dk_58 6 (dk_at dksX0_courier_1 1 rfl rfl)
theorem dX0_courier_27 : decode cX0_courier 27 = .ok (.iconst 3, 1) := dk_6 (dk_at dksX0_courier_1 3 rfl rfl)
theorem dX0_courier_28 : decode cX0_courier 28 = .ok (.ireturn, 1) := dk_172 (dk_at dksX0_courier_1 4 rfl rfl)
theorem dX0_courier_29 : decode cX0_courier 29 = .ok (.iconst 0, 1) := dk_3 (dk_at dksX0_courier_1 5 rfl rfl)
theorem dX0_courier_30 : decode cX0_courier 30 = .ok (.ireturn, 1) := dk_172 (dk_at dksX0_courier_1 6 rfl rfl)
abbrev cX0_rob : ByteArray := method_14_code
def yX0_rob : MethodName := ⟨RX0, "rob", "(LHundiHall;I[J)I"⟩
def dkwX0_rob_0 : List UInt8 := [44, 3, 42, 27, 182, 0, 54, 133, 80, 167, 0, 9, 78, 4, 172, 78, 5, 172, 3, 172]
abbrev dktX0_rob_0 : List UInt8 := dkwX0_rob_0 ++ []
theorem dksX0_rob_0 : cX0_rob.data.toList.drop 0 = dktX0_rob_0 := by decide +kernel
theorem dX0_rob_0 : decode cX0_rob 0 = .ok (.aload_n 2, 1) := dk_44 (dk_at dksX0_rob_0 0 rfl rfl)
theorem dX0_rob_1 : decode cX0_rob 1 = .ok (.iconst 0, 1) := dk_3 (dk_at dksX0_rob_0 1 rfl rfl)
theorem dX0_rob_2 : decode cX0_rob 2 = .ok (.aload_n 0, 1) := dk_42 (dk_at dksX0_rob_0 2 rfl rfl)
theorem dX0_rob_3 : decode cX0_rob 3 = .ok (.iload_n 1, 1) := dk_27 (dk_at dksX0_rob_0 3 rfl rfl)
theorem dX0_rob_4 : decode cX0_rob 4 = .ok (.invokevirtual 54, 3) := dk_182 0 54 (dk_at dksX0_rob_0 4 rfl rfl)
theorem dX0_rob_7 : decode cX0_rob 7 = .ok (.i2l, 1) := dk_133 (dk_at dksX0_rob_0 7 rfl rfl)
theorem dX0_rob_8 : decode cX0_rob 8 = .ok (.lastore, 1) := dk_80 (dk_at dksX0_rob_0 8 rfl rfl)
theorem dX0_rob_9 : decode cX0_rob 9 = .ok (.goto 9, 3) := dk_167 0 9 (dk_at dksX0_rob_0 9 rfl rfl)
theorem dX0_rob_12 : decode cX0_rob 12 = .ok (.astore_n 3, 1) := dk_78 (dk_at dksX0_rob_0 12 rfl rfl)
theorem dX0_rob_13 : decode cX0_rob 13 = .ok (.iconst 1, 1) := dk_4 (dk_at dksX0_rob_0 13 rfl rfl)
theorem dX0_rob_14 : decode cX0_rob 14 = .ok (.ireturn, 1) := dk_172 (dk_at dksX0_rob_0 14 rfl rfl)
theorem dX0_rob_15 : decode cX0_rob 15 = .ok (.astore_n 3, 1) := dk_78 (dk_at dksX0_rob_0 15 rfl rfl)
theorem dX0_rob_16 : decode cX0_rob 16 = .ok (.iconst 2, 1) := dk_5 (dk_at dksX0_rob_0 16 rfl rfl)
theorem dX0_rob_17 : decode cX0_rob 17 = .ok (.ireturn, 1) := dk_172 (dk_at dksX0_rob_0 17 rfl rfl)
theorem dX0_rob_18 : decode cX0_rob 18 = .ok (.iconst 0, 1) := dk_3 (dk_at dksX0_rob_0 18 rfl rfl)
theorem dX0_rob_19 : decode cX0_rob 19 = .ok (.ireturn, 1) := dk_172 (dk_at dksX0_rob_0 19 rfl rfl)
abbrev cX0_law : ByteArray := method_15_code
def yX0_law : MethodName := ⟨RX0, "law", "(LHundiHall;II[J)I"⟩
def dkwX0_law_0 : List UInt8 := [45, 3, 42, 27, 28, 182, 0, 57, 133, 80, 167, 0, 11, 58, 4, 4, 172, 58, 4, 5, 172, 3, 172]
abbrev dktX0_law_0 : List UInt8 := dkwX0_law_0 ++ []
theorem dksX0_law_0 : cX0_law.data.toList.drop 0 = dktX0_law_0 := by decide +kernel
theorem dX0_law_0 : decode cX0_law 0 = .ok (.aload_n 3, 1) := dk_45 (dk_at dksX0_law_0 0 rfl rfl)
theorem dX0_law_1 : decode cX0_law 1 = .ok (.iconst 0, 1) := dk_3 (dk_at dksX0_law_0 1 rfl rfl)
theorem dX0_law_2 : decode cX0_law 2 = .ok (.aload_n 0, 1) := dk_42 (dk_at dksX0_law_0 2 rfl rfl)
theorem dX0_law_3 : decode cX0_law 3 = .ok (.iload_n 1, 1) := dk_27 (dk_at dksX0_law_0 3 rfl rfl)
theorem dX0_law_4 : decode cX0_law 4 = .ok (.iload_n 2, 1) := dk_28 (dk_at dksX0_law_0 4 rfl rfl)
theorem dX0_law_5 : decode cX0_law 5 = .ok (.invokevirtual 57, 3) := dk_182 0 57 (dk_at dksX0_law_0 5 rfl rfl)
theorem dX0_law_8 : decode cX0_law 8 = .ok (.i2l, 1) := dk_133 (dk_at dksX0_law_0 8 rfl rfl)
theorem dX0_law_9 : decode cX0_law 9 = .ok (.lastore, 1) := dk_80 (dk_at dksX0_law_0 9 rfl rfl)
theorem dX0_law_10 : decode cX0_law 10 = .ok (.goto 11, 3) := dk_167 0 11 (dk_at dksX0_law_0 10 rfl rfl)
theorem dX0_law_13 : decode cX0_law 13 = .ok (.astore 4, 2) := dk_58 4 (dk_at dksX0_law_0 13 rfl rfl)
theorem dX0_law_15 : decode cX0_law 15 = .ok (.iconst 1, 1) := dk_4 (dk_at dksX0_law_0 15 rfl rfl)
theorem dX0_law_16 : decode cX0_law 16 = .ok (.ireturn, 1) := dk_172 (dk_at dksX0_law_0 16 rfl rfl)
theorem dX0_law_17 : decode cX0_law 17 = .ok (.astore 4, 2) := dk_58 4 (dk_at dksX0_law_0 17 rfl rfl)
theorem dX0_law_19 : decode cX0_law 19 = .ok (.iconst 2, 1) := dk_5 (dk_at dksX0_law_0 19 rfl rfl)
theorem dX0_law_20 : decode cX0_law 20 = .ok (.ireturn, 1) := dk_172 (dk_at dksX0_law_0 20 rfl rfl)
theorem dX0_law_21 : decode cX0_law 21 = .ok (.iconst 0, 1) := dk_3 (dk_at dksX0_law_0 21 rfl rfl)
theorem dX0_law_22 : decode cX0_law 22 = .ok (.ireturn, 1) := dk_172 (dk_at dksX0_law_0 22 rfl rfl)
abbrev cX0_list : ByteArray := method_16_code
def yX0_list : MethodName := ⟨RX0, "list", "(LHundiHall;I[J)I"⟩
def dkwX0_list_0 : List UInt8 := [44, 3, 42, 27, 182, 0, 60, 153, 0, 7, 10, 167, 0, 4, 9, 80, 167, 0, 6, 78, 4, 172, 3, 172]
abbrev dktX0_list_0 : List UInt8 := dkwX0_list_0 ++ []
theorem dksX0_list_0 : cX0_list.data.toList.drop 0 = dktX0_list_0 := by decide +kernel
theorem dX0_list_0 : decode cX0_list 0 = .ok (.aload_n 2, 1) := dk_44 (dk_at dksX0_list_0 0 rfl rfl)
theorem dX0_list_1 : decode cX0_list 1 = .ok (.iconst 0, 1) := dk_3 (dk_at dksX0_list_0 1 rfl rfl)
theorem dX0_list_2 : decode cX0_list 2 = .ok (.aload_n 0, 1) := dk_42 (dk_at dksX0_list_0 2 rfl rfl)
theorem dX0_list_3 : decode cX0_list 3 = .ok (.iload_n 1, 1) := dk_27 (dk_at dksX0_list_0 3 rfl rfl)
theorem dX0_list_4 : decode cX0_list 4 = .ok (.invokevirtual 60, 3) := dk_182 0 60 (dk_at dksX0_list_0 4 rfl rfl)
theorem dX0_list_7 : decode cX0_list 7 = .ok (.ifCond .eq 7, 3) := dk_153 0 7 (dk_at dksX0_list_0 7 rfl rfl)
theorem dX0_list_10 : decode cX0_list 10 = .ok (.lconst 1, 1) := dk_10 (dk_at dksX0_list_0 10 rfl rfl)
theorem dX0_list_11 : decode cX0_list 11 = .ok (.goto 4, 3) := dk_167 0 4 (dk_at dksX0_list_0 11 rfl rfl)
theorem dX0_list_14 : decode cX0_list 14 = .ok (.lconst 0, 1) := dk_9 (dk_at dksX0_list_0 14 rfl rfl)
theorem dX0_list_15 : decode cX0_list 15 = .ok (.lastore, 1) := dk_80 (dk_at dksX0_list_0 15 rfl rfl)
theorem dX0_list_16 : decode cX0_list 16 = .ok (.goto 6, 3) := dk_167 0 6 (dk_at dksX0_list_0 16 rfl rfl)
theorem dX0_list_19 : decode cX0_list 19 = .ok (.astore_n 3, 1) := dk_78 (dk_at dksX0_list_0 19 rfl rfl)
theorem dX0_list_20 : decode cX0_list 20 = .ok (.iconst 1, 1) := dk_4 (dk_at dksX0_list_0 20 rfl rfl)
theorem dX0_list_21 : decode cX0_list 21 = .ok (.ireturn, 1) := dk_172 (dk_at dksX0_list_0 21 rfl rfl)
theorem dX0_list_22 : decode cX0_list 22 = .ok (.iconst 0, 1) := dk_3 (dk_at dksX0_list_0 22 rfl rfl)
theorem dX0_list_23 : decode cX0_list 23 = .ok (.ireturn, 1) := dk_172 (dk_at dksX0_list_0 23 rfl rfl)
abbrev cX0_brokerOf : ByteArray := method_17_code
def yX0_brokerOf : MethodName := ⟨RX0, "brokerOf", "(LHundiHall;II[J)I"⟩
def dkwX0_brokerOf_0 : List UInt8 := [45, 3, 42, 27, 28, 182, 0, 64, 80, 167, 0, 11, 58, 4, 4, 172, 58, 4, 5, 172, 3, 172]
abbrev dktX0_brokerOf_0 : List UInt8 := dkwX0_brokerOf_0 ++ []
theorem dksX0_brokerOf_0 : cX0_brokerOf.data.toList.drop 0 = dktX0_brokerOf_0 := by decide +kernel
theorem dX0_brokerOf_0 : decode cX0_brokerOf 0 = .ok (.aload_n 3, 1) := dk_45 (dk_at dksX0_brokerOf_0 0 rfl rfl)
theorem dX0_brokerOf_1 : decode cX0_brokerOf 1 = .ok (.iconst 0, 1) := dk_3 (dk_at dksX0_brokerOf_0 1 rfl rfl)
theorem dX0_brokerOf_2 : decode cX0_brokerOf 2 = .ok (.aload_n 0, 1) := dk_42 (dk_at dksX0_brokerOf_0 2 rfl rfl)
theorem dX0_brokerOf_3 : decode cX0_brokerOf 3 = .ok (.iload_n 1, 1) := dk_27 (dk_at dksX0_brokerOf_0 3 rfl rfl)
theorem dX0_brokerOf_4 : decode cX0_brokerOf 4 = .ok (.iload_n 2, 1) := dk_28 (dk_at dksX0_brokerOf_0 4 rfl rfl)
theorem dX0_brokerOf_5 : decode cX0_brokerOf 5 = .ok (.invokevirtual 64, 3) := dk_182 0 64 (dk_at dksX0_brokerOf_0 5 rfl rfl)
theorem dX0_brokerOf_8 : decode cX0_brokerOf 8 = .ok (.lastore, 1) := dk_80 (dk_at dksX0_brokerOf_0 8 rfl rfl)
theorem dX0_brokerOf_9 : decode cX0_brokerOf 9 = .ok (.goto 11, 3) := dk_167 0 11 (dk_at dksX0_brokerOf_0 9 rfl rfl)
theorem dX0_brokerOf_12 : decode cX0_brokerOf 12 = .ok (.astore 4, 2) := dk_58 4 (dk_at dksX0_brokerOf_0 12 rfl rfl)
theorem dX0_brokerOf_14 : decode cX0_brokerOf 14 = .ok (.iconst 1, 1) := dk_4 (dk_at dksX0_brokerOf_0 14 rfl rfl)
theorem dX0_brokerOf_15 : decode cX0_brokerOf 15 = .ok (.ireturn, 1) := dk_172 (dk_at dksX0_brokerOf_0 15 rfl rfl)
theorem dX0_brokerOf_16 : decode cX0_brokerOf 16 = .ok (.astore 4, 2) := dk_58 4 (dk_at dksX0_brokerOf_0 16 rfl rfl)
theorem dX0_brokerOf_18 : decode cX0_brokerOf 18 = .ok (.iconst 2, 1) := dk_5 (dk_at dksX0_brokerOf_0 18 rfl rfl)
theorem dX0_brokerOf_19 : decode cX0_brokerOf 19 = .ok (.ireturn, 1) := dk_172 (dk_at dksX0_brokerOf_0 19 rfl rfl)
theorem dX0_brokerOf_20 : decode cX0_brokerOf 20 = .ok (.iconst 0, 1) := dk_3 (dk_at dksX0_brokerOf_0 20 rfl rfl)
theorem dX0_brokerOf_21 : decode cX0_brokerOf 21 = .ok (.ireturn, 1) := dk_172 (dk_at dksX0_brokerOf_0 21 rfl rfl)
abbrev cX0_debt : ByteArray := method_18_code
def yX0_debt : MethodName := ⟨RX0, "debt", "(LHundiHall;IIZ[J)I"⟩
def dkwX0_debt_0 : List UInt8 := [25, 4, 3, 42, 27, 28, 29, 182, 0, 68, 80, 167, 0, 7, 58, 5, 4, 172, 3, 172]
abbrev dktX0_debt_0 : List UInt8 := dkwX0_debt_0 ++ []
theorem dksX0_debt_0 : cX0_debt.data.toList.drop 0 = dktX0_debt_0 := by decide +kernel
theorem dX0_debt_0 : decode cX0_debt 0 = .ok (.aload 4, 2) := dk_25 4 (dk_at dksX0_debt_0 0 rfl rfl)
theorem dX0_debt_2 : decode cX0_debt 2 = .ok (.iconst 0, 1) := dk_3 (dk_at dksX0_debt_0 2 rfl rfl)
theorem dX0_debt_3 : decode cX0_debt 3 = .ok (.aload_n 0, 1) := dk_42 (dk_at dksX0_debt_0 3 rfl rfl)
theorem dX0_debt_4 : decode cX0_debt 4 = .ok (.iload_n 1, 1) := dk_27 (dk_at dksX0_debt_0 4 rfl rfl)
theorem dX0_debt_5 : decode cX0_debt 5 = .ok (.iload_n 2, 1) := dk_28 (dk_at dksX0_debt_0 5 rfl rfl)
theorem dX0_debt_6 : decode cX0_debt 6 = .ok (.iload_n 3, 1) := dk_29 (dk_at dksX0_debt_0 6 rfl rfl)
theorem dX0_debt_7 : decode cX0_debt 7 = .ok (.invokevirtual 68, 3) := dk_182 0 68 (dk_at dksX0_debt_0 7 rfl rfl)
theorem dX0_debt_10 : decode cX0_debt 10 = .ok (.lastore, 1) := dk_80 (dk_at dksX0_debt_0 10 rfl rfl)
theorem dX0_debt_11 : decode cX0_debt 11 = .ok (.goto 7, 3) := dk_167 0 7 (dk_at dksX0_debt_0 11 rfl rfl)
theorem dX0_debt_14 : decode cX0_debt 14 = .ok (.astore 5, 2) := dk_58 5 (dk_at dksX0_debt_0 14 rfl rfl)
theorem dX0_debt_16 : decode cX0_debt 16 = .ok (.iconst 1, 1) := dk_4 (dk_at dksX0_debt_0 16 rfl rfl)
theorem dX0_debt_17 : decode cX0_debt 17 = .ok (.ireturn, 1) := dk_172 (dk_at dksX0_debt_0 17 rfl rfl)
theorem dX0_debt_18 : decode cX0_debt 18 = .ok (.iconst 0, 1) := dk_3 (dk_at dksX0_debt_0 18 rfl rfl)
theorem dX0_debt_19 : decode cX0_debt 19 = .ok (.ireturn, 1) := dk_172 (dk_at dksX0_debt_0 19 rfl rfl)
abbrev cX0_agree : ByteArray := method_19_code
def yX0_agree : MethodName := ⟨RX0, "agree", "(LHundiHall;II[J)I"⟩
def dkwX0_agree_1 : List UInt8 := [3, 172]
abbrev dktX0_agree_1 : List UInt8 := dkwX0_agree_1 ++ []
def dkwX0_agree_0 : List UInt8 := [45, 3, 42, 27, 28, 182, 0, 72, 153, 0, 7, 10, 167, 0, 4, 9, 80, 167, 0, 7, 58, 4, 4, 172]
abbrev dktX0_agree_0 : List UInt8 := dkwX0_agree_0 ++ dktX0_agree_1
theorem dksX0_agree_0 : cX0_agree.data.toList.drop 0 = dktX0_agree_0 := by decide +kernel
theorem dksX0_agree_1 : cX0_agree.data.toList.drop 24 = dktX0_agree_1 := dk_seg dksX0_agree_0 24 rfl rfl
theorem dX0_agree_0 : decode cX0_agree 0 = .ok (.aload_n 3, 1) := dk_45 (dk_at dksX0_agree_0 0 rfl rfl)
theorem dX0_agree_1 : decode cX0_agree 1 = .ok (.iconst 0, 1) := dk_3 (dk_at dksX0_agree_0 1 rfl rfl)
theorem dX0_agree_2 : decode cX0_agree 2 = .ok (.aload_n 0, 1) := dk_42 (dk_at dksX0_agree_0 2 rfl rfl)
theorem dX0_agree_3 : decode cX0_agree 3 = .ok (.iload_n 1, 1) := dk_27 (dk_at dksX0_agree_0 3 rfl rfl)
theorem dX0_agree_4 : decode cX0_agree 4 = .ok (.iload_n 2, 1) := dk_28 (dk_at dksX0_agree_0 4 rfl rfl)
theorem dX0_agree_5 : decode cX0_agree 5 = .ok (.invokevirtual 72, 3) := dk_182 0 72 (dk_at dksX0_agree_0 5 rfl rfl)
theorem dX0_agree_8 : decode cX0_agree 8 = .ok (.ifCond .eq 7, 3) := dk_153 0 7 (dk_at dksX0_agree_0 8 rfl rfl)
theorem dX0_agree_11 : decode cX0_agree 11 = .ok (.lconst 1, 1) := dk_10 (dk_at dksX0_agree_0 11 rfl rfl)
theorem dX0_agree_12 : decode cX0_agree 12 = .ok (.goto 4, 3) := dk_167 0 4 (dk_at dksX0_agree_0 12 rfl rfl)
theorem dX0_agree_15 : decode cX0_agree 15 = .ok (.lconst 0, 1) := dk_9 (dk_at dksX0_agree_0 15 rfl rfl)
theorem dX0_agree_16 : decode cX0_agree 16 = .ok (.lastore, 1) := dk_80 (dk_at dksX0_agree_0 16 rfl rfl)
theorem dX0_agree_17 : decode cX0_agree 17 = .ok (.goto 7, 3) := dk_167 0 7 (dk_at dksX0_agree_0 17 rfl rfl)
theorem dX0_agree_20 : decode cX0_agree 20 = .ok (.astore 4, 2) := dk_58 4 (dk_at dksX0_agree_0 20 rfl rfl)
theorem dX0_agree_22 : decode cX0_agree 22 = .ok (.iconst 1, 1) := dk_4 (dk_at dksX0_agree_0 22 rfl rfl)
theorem dX0_agree_23 : decode cX0_agree 23 = .ok (.ireturn, 1) := dk_172 (dk_at dksX0_agree_0 23 rfl rfl)
theorem dX0_agree_24 : decode cX0_agree 24 = .ok (.iconst 0, 1) := dk_3 (dk_at dksX0_agree_1 0 rfl rfl)
theorem dX0_agree_25 : decode cX0_agree 25 = .ok (.ireturn, 1) := dk_172 (dk_at dksX0_agree_1 1 rfl rfl)
abbrev cX0_way : ByteArray := method_20_code
def yX0_way : MethodName := ⟨RX0, "way", "(LHundiHall;IIII[J)I"⟩
def dkwX0_way_1 : List UInt8 := [172, 3, 172]
abbrev dktX0_way_1 : List UInt8 := dkwX0_way_1 ++ []
def dkwX0_way_0 : List UInt8 := [25, 5, 3, 42, 27, 28, 29, 21, 4, 182, 0, 76, 133, 80, 167, 0, 11, 58, 6, 4, 172, 58, 6, 5]
abbrev dktX0_way_0 : List UInt8 := dkwX0_way_0 ++ dktX0_way_1
theorem dksX0_way_0 : cX0_way.data.toList.drop 0 = dktX0_way_0 := by decide +kernel
theorem dksX0_way_1 : cX0_way.data.toList.drop 24 = dktX0_way_1 := dk_seg dksX0_way_0 24 rfl rfl
theorem dX0_way_0 : decode cX0_way 0 = .ok (.aload 5, 2) := dk_25 5 (dk_at dksX0_way_0 0 rfl rfl)
theorem dX0_way_2 : decode cX0_way 2 = .ok (.iconst 0, 1) := dk_3 (dk_at dksX0_way_0 2 rfl rfl)
theorem dX0_way_3 : decode cX0_way 3 = .ok (.aload_n 0, 1) := dk_42 (dk_at dksX0_way_0 3 rfl rfl)
theorem dX0_way_4 : decode cX0_way 4 = .ok (.iload_n 1, 1) := dk_27 (dk_at dksX0_way_0 4 rfl rfl)
theorem dX0_way_5 : decode cX0_way 5 = .ok (.iload_n 2, 1) := dk_28 (dk_at dksX0_way_0 5 rfl rfl)
theorem dX0_way_6 : decode cX0_way 6 = .ok (.iload_n 3, 1) := dk_29 (dk_at dksX0_way_0 6 rfl rfl)
theorem dX0_way_7 : decode cX0_way 7 = .ok (.iload 4, 2) := dk_21 4 (dk_at dksX0_way_0 7 rfl rfl)
theorem dX0_way_9 : decode cX0_way 9 = .ok (.invokevirtual 76, 3) := dk_182 0 76 (dk_at dksX0_way_0 9 rfl rfl)
theorem dX0_way_12 : decode cX0_way 12 = .ok (.i2l, 1) := dk_133 (dk_at dksX0_way_0 12 rfl rfl)
theorem dX0_way_13 : decode cX0_way 13 = .ok (.lastore, 1) := dk_80 (dk_at dksX0_way_0 13 rfl rfl)
theorem dX0_way_14 : decode cX0_way 14 = .ok (.goto 11, 3) := dk_167 0 11 (dk_at dksX0_way_0 14 rfl rfl)
theorem dX0_way_17 : decode cX0_way 17 = .ok (.astore 6, 2) := dk_58 6 (dk_at dksX0_way_0 17 rfl rfl)
theorem dX0_way_19 : decode cX0_way 19 = .ok (.iconst 1, 1) := dk_4 (dk_at dksX0_way_0 19 rfl rfl)
theorem dX0_way_20 : decode cX0_way 20 = .ok (.ireturn, 1) := dk_172 (dk_at dksX0_way_0 20 rfl rfl)
theorem dX0_way_21 : decode cX0_way 21 = .ok (.astore 6, 2) := dk_58 6 (dk_at dksX0_way_0 21 rfl rfl)
theorem dX0_way_23 : decode cX0_way 23 = .ok (.iconst 2, 1) := dk_5 (dk_at dksX0_way_0 23 rfl rfl)
theorem dX0_way_24 : decode cX0_way 24 = .ok (.ireturn, 1) := dk_172 (dk_at dksX0_way_1 0 rfl rfl)
theorem dX0_way_25 : decode cX0_way 25 = .ok (.iconst 0, 1) := dk_3 (dk_at dksX0_way_1 1 rfl rfl)
theorem dX0_way_26 : decode cX0_way 26 = .ok (.ireturn, 1) := dk_172 (dk_at dksX0_way_1 2 rfl rfl)
abbrev cX0_wayOf : ByteArray := method_21_code
def yX0_wayOf : MethodName := ⟨RX0, "wayOf", "(LHundiHall;II[J)I"⟩
def dkwX0_wayOf_0 : List UInt8 := [45, 3, 42, 27, 28, 182, 0, 79, 133, 80, 167, 0, 7, 58, 4, 4, 172, 3, 172]
abbrev dktX0_wayOf_0 : List UInt8 := dkwX0_wayOf_0 ++ []
theorem dksX0_wayOf_0 : cX0_wayOf.data.toList.drop 0 = dktX0_wayOf_0 := by decide +kernel
theorem dX0_wayOf_0 : decode cX0_wayOf 0 = .ok (.aload_n 3, 1) := dk_45 (dk_at dksX0_wayOf_0 0 rfl rfl)
theorem dX0_wayOf_1 : decode cX0_wayOf 1 = .ok (.iconst 0, 1) := dk_3 (dk_at dksX0_wayOf_0 1 rfl rfl)
theorem dX0_wayOf_2 : decode cX0_wayOf 2 = .ok (.aload_n 0, 1) := dk_42 (dk_at dksX0_wayOf_0 2 rfl rfl)
theorem dX0_wayOf_3 : decode cX0_wayOf 3 = .ok (.iload_n 1, 1) := dk_27 (dk_at dksX0_wayOf_0 3 rfl rfl)
theorem dX0_wayOf_4 : decode cX0_wayOf 4 = .ok (.iload_n 2, 1) := dk_28 (dk_at dksX0_wayOf_0 4 rfl rfl)
theorem dX0_wayOf_5 : decode cX0_wayOf 5 = .ok (.invokevirtual 79, 3) := dk_182 0 79 (dk_at dksX0_wayOf_0 5 rfl rfl)
theorem dX0_wayOf_8 : decode cX0_wayOf 8 = .ok (.i2l, 1) := dk_133 (dk_at dksX0_wayOf_0 8 rfl rfl)
theorem dX0_wayOf_9 : decode cX0_wayOf 9 = .ok (.lastore, 1) := dk_80 (dk_at dksX0_wayOf_0 9 rfl rfl)
theorem dX0_wayOf_10 : decode cX0_wayOf 10 = .ok (.goto 7, 3) := dk_167 0 7 (dk_at dksX0_wayOf_0 10 rfl rfl)
theorem dX0_wayOf_13 : decode cX0_wayOf 13 = .ok (.astore 4, 2) := dk_58 4 (dk_at dksX0_wayOf_0 13 rfl rfl)
theorem dX0_wayOf_15 : decode cX0_wayOf 15 = .ok (.iconst 1, 1) := dk_4 (dk_at dksX0_wayOf_0 15 rfl rfl)
theorem dX0_wayOf_16 : decode cX0_wayOf 16 = .ok (.ireturn, 1) := dk_172 (dk_at dksX0_wayOf_0 16 rfl rfl)
theorem dX0_wayOf_17 : decode cX0_wayOf 17 = .ok (.iconst 0, 1) := dk_3 (dk_at dksX0_wayOf_0 17 rfl rfl)
theorem dX0_wayOf_18 : decode cX0_wayOf 18 = .ok (.ireturn, 1) := dk_172 (dk_at dksX0_wayOf_0 18 rfl rfl)
abbrev cX0_orderOf : ByteArray := method_22_code
def yX0_orderOf : MethodName := ⟨RX0, "orderOf", "(LHundiHall;II[J)I"⟩
def dkwX0_orderOf_0 : List UInt8 := [45, 3, 42, 27, 28, 182, 0, 82, 133, 80, 167, 0, 11, 58, 4, 4, 172, 58, 4, 5, 172, 3, 172]
abbrev dktX0_orderOf_0 : List UInt8 := dkwX0_orderOf_0 ++ []
theorem dksX0_orderOf_0 : cX0_orderOf.data.toList.drop 0 = dktX0_orderOf_0 := by decide +kernel
theorem dX0_orderOf_0 : decode cX0_orderOf 0 = .ok (.aload_n 3, 1) := dk_45 (dk_at dksX0_orderOf_0 0 rfl rfl)
theorem dX0_orderOf_1 : decode cX0_orderOf 1 = .ok (.iconst 0, 1) := dk_3 (dk_at dksX0_orderOf_0 1 rfl rfl)
theorem dX0_orderOf_2 : decode cX0_orderOf 2 = .ok (.aload_n 0, 1) := dk_42 (dk_at dksX0_orderOf_0 2 rfl rfl)
theorem dX0_orderOf_3 : decode cX0_orderOf 3 = .ok (.iload_n 1, 1) := dk_27 (dk_at dksX0_orderOf_0 3 rfl rfl)
theorem dX0_orderOf_4 : decode cX0_orderOf 4 = .ok (.iload_n 2, 1) := dk_28 (dk_at dksX0_orderOf_0 4 rfl rfl)
theorem dX0_orderOf_5 : decode cX0_orderOf 5 = .ok (.invokevirtual 82, 3) := dk_182 0 82 (dk_at dksX0_orderOf_0 5 rfl rfl)
theorem dX0_orderOf_8 : decode cX0_orderOf 8 = .ok (.i2l, 1) := dk_133 (dk_at dksX0_orderOf_0 8 rfl rfl)
theorem dX0_orderOf_9 : decode cX0_orderOf 9 = .ok (.lastore, 1) := dk_80 (dk_at dksX0_orderOf_0 9 rfl rfl)
theorem dX0_orderOf_10 : decode cX0_orderOf 10 = .ok (.goto 11, 3) := dk_167 0 11 (dk_at dksX0_orderOf_0 10 rfl rfl)
theorem dX0_orderOf_13 : decode cX0_orderOf 13 = .ok (.astore 4, 2) := dk_58 4 (dk_at dksX0_orderOf_0 13 rfl rfl)
theorem dX0_orderOf_15 : decode cX0_orderOf 15 = .ok (.iconst 1, 1) := dk_4 (dk_at dksX0_orderOf_0 15 rfl rfl)
theorem dX0_orderOf_16 : decode cX0_orderOf 16 = .ok (.ireturn, 1) := dk_172 (dk_at dksX0_orderOf_0 16 rfl rfl)
theorem dX0_orderOf_17 : decode cX0_orderOf 17 = .ok (.astore 4, 2) := dk_58 4 (dk_at dksX0_orderOf_0 17 rfl rfl)
theorem dX0_orderOf_19 : decode cX0_orderOf 19 = .ok (.iconst 2, 1) := dk_5 (dk_at dksX0_orderOf_0 19 rfl rfl)
theorem dX0_orderOf_20 : decode cX0_orderOf 20 = .ok (.ireturn, 1) := dk_172 (dk_at dksX0_orderOf_0 20 rfl rfl)
theorem dX0_orderOf_21 : decode cX0_orderOf 21 = .ok (.iconst 0, 1) := dk_3 (dk_at dksX0_orderOf_0 21 rfl rfl)
theorem dX0_orderOf_22 : decode cX0_orderOf 22 = .ok (.ireturn, 1) := dk_172 (dk_at dksX0_orderOf_0 22 rfl rfl)
abbrev cX0_sum : ByteArray := method_23_code
def yX0_sum : MethodName := ⟨RX0, "sum", "(LHundiHall;I[J)I"⟩
def dkwX0_sum_0 : List UInt8 := [44, 3, 42, 27, 182, 0, 85, 80, 167, 0, 6, 78, 4, 172, 3, 172]
abbrev dktX0_sum_0 : List UInt8 := dkwX0_sum_0 ++ []
theorem dksX0_sum_0 : cX0_sum.data.toList.drop 0 = dktX0_sum_0 := by decide +kernel
theorem dX0_sum_0 : decode cX0_sum 0 = .ok (.aload_n 2, 1) := dk_44 (dk_at dksX0_sum_0 0 rfl rfl)
theorem dX0_sum_1 : decode cX0_sum 1 = .ok (.iconst 0, 1) := dk_3 (dk_at dksX0_sum_0 1 rfl rfl)
theorem dX0_sum_2 : decode cX0_sum 2 = .ok (.aload_n 0, 1) := dk_42 (dk_at dksX0_sum_0 2 rfl rfl)
theorem dX0_sum_3 : decode cX0_sum 3 = .ok (.iload_n 1, 1) := dk_27 (dk_at dksX0_sum_0 3 rfl rfl)
theorem dX0_sum_4 : decode cX0_sum 4 = .ok (.invokevirtual 85, 3) := dk_182 0 85 (dk_at dksX0_sum_0 4 rfl rfl)
theorem dX0_sum_7 : decode cX0_sum 7 = .ok (.lastore, 1) := dk_80 (dk_at dksX0_sum_0 7 rfl rfl)
theorem dX0_sum_8 : decode cX0_sum 8 = .ok (.goto 6, 3) := dk_167 0 6 (dk_at dksX0_sum_0 8 rfl rfl)
theorem dX0_sum_11 : decode cX0_sum 11 = .ok (.astore_n 3, 1) := dk_78 (dk_at dksX0_sum_0 11 rfl rfl)
theorem dX0_sum_12 : decode cX0_sum 12 = .ok (.iconst 1, 1) := dk_4 (dk_at dksX0_sum_0 12 rfl rfl)
theorem dX0_sum_13 : decode cX0_sum 13 = .ok (.ireturn, 1) := dk_172 (dk_at dksX0_sum_0 13 rfl rfl)
theorem dX0_sum_14 : decode cX0_sum 14 = .ok (.iconst 0, 1) := dk_3 (dk_at dksX0_sum_0 14 rfl rfl)
theorem dX0_sum_15 : decode cX0_sum 15 = .ok (.ireturn, 1) := dk_172 (dk_at dksX0_sum_0 15 rfl rfl)
theorem q40 : (Jvm.Cond.initialized "HundiHallLaw") ∈ lw_all := lw_g (lw_at lw_m1 0 rfl) rfl
theorem q69 : (Jvm.Cond.classLink "HundiHallLaw" (8 : Nat) "HundiHall") ∈ lw_all := lw_g (lw_at lw_m1 29 rfl) rfl
theorem q71 : (Jvm.Cond.methodLink "HundiHallLaw" (89 : Nat) ({ cls := "HundiHall", name := "<init>", desc := "()V" } : Jvm.MethodName)) ∈ lw_all := lw_g (lw_at lw_m1 31 rfl) rfl
theorem q138 : (Jvm.Cond.methodLink "HundiHallLaw" (111 : Nat) ({ cls := "HundiHall", name := "festival", desc := "()Z" } : Jvm.MethodName)) ∈ lw_all := lw_g (lw_at lw_m1 98 rfl) rfl
theorem q142 : (Jvm.Cond.methodLink "HundiHallLaw" (146 : Nat) ({ cls := "HundiHall", name := "ring", desc := "()J" } : Jvm.MethodName)) ∈ lw_all := lw_g (lw_at lw_m1 102 rfl) rfl
theorem q253 : (Jvm.Cond.methodLink "HundiHallLaw" (176 : Nat) ({ cls := "HundiHall", name := "inquiry", desc := "()I" } : Jvm.MethodName)) ∈ lw_all := lw_g (lw_at lw_m1 213 rfl) rfl
theorem q261 : (Jvm.Cond.methodLink "HundiHallLaw" (93 : Nat) ({ cls := "HundiHallLaw", name := "broker", desc := "(LHundiHall;III[J)I" } : Jvm.MethodName)) ∈ lw_all := lw_g (lw_at lw_m1 221 rfl) rfl
theorem q262 : (Jvm.Cond.static ({ cls := "HundiHallLaw", name := "broker", desc := "(LHundiHall;III[J)I" } : Jvm.MethodName)) ∈ lw_all := lw_g (lw_at lw_m1 222 rfl) rfl
theorem q263 : (Jvm.Cond.codeWith ({ cls := "HundiHallLaw", name := "broker", desc := "(LHundiHall;III[J)I" } : Jvm.MethodName) method_3_code (6 : Nat) (Option.some Jvm.ClassFile.FieldType.int) [((0 : Nat), (12 : Nat), (15 : Nat), (13 : Nat)), ((0 : Nat), (12 : Nat), (19 : Nat), (15 : Nat)), ((0 : Nat), (12 : Nat), (23 : Nat), (17 : Nat))]) ∈ lw_all := lw_g (lw_at lw_m1 223 rfl) rfl
theorem q264 : (Jvm.Cond.classLink "HundiHallLaw" (13 : Nat) "java/lang/IndexOutOfBoundsException") ∈ lw_all := lw_g (lw_at lw_m1 224 rfl) rfl
theorem q341 : (Jvm.Cond.classLink "HundiHallLaw" (15 : Nat) "java/lang/IllegalArgumentException") ∈ lw_all := lw_g (lw_at lw_m2 61 rfl) rfl
theorem q342 : (Jvm.Cond.classLink "HundiHallLaw" (17 : Nat) "java/lang/IllegalStateException") ∈ lw_all := lw_g (lw_at lw_m2 62 rfl) rfl
theorem q343 : (Jvm.Cond.methodLink "HundiHallLaw" (7 : Nat) ({ cls := "HundiHall", name := "broker", desc := "(III)I" } : Jvm.MethodName)) ∈ lw_all := lw_g (lw_at lw_m2 63 rfl) rfl
theorem q523 : (Jvm.Cond.methodLink "HundiHallLaw" (103 : Nat) ({ cls := "HundiHallLaw", name := "rate", desc := "(LHundiHall;II[J)I" } : Jvm.MethodName)) ∈ lw_all := lw_g (lw_at lw_m3 3 rfl) rfl
theorem q524 : (Jvm.Cond.static ({ cls := "HundiHallLaw", name := "rate", desc := "(LHundiHall;II[J)I" } : Jvm.MethodName)) ∈ lw_all := lw_g (lw_at lw_m3 4 rfl) rfl
theorem q525 : (Jvm.Cond.codeWith ({ cls := "HundiHallLaw", name := "rate", desc := "(LHundiHall;II[J)I" } : Jvm.MethodName) method_4_code (5 : Nat) (Option.some Jvm.ClassFile.FieldType.int) [((0 : Nat), (10 : Nat), (13 : Nat), (13 : Nat)), ((0 : Nat), (10 : Nat), (17 : Nat), (15 : Nat))]) ∈ lw_all := lw_g (lw_at lw_m3 5 rfl) rfl
theorem q526 : (Jvm.Cond.methodLink "HundiHallLaw" (19 : Nat) ({ cls := "HundiHall", name := "rate", desc := "(II)I" } : Jvm.MethodName)) ∈ lw_all := lw_g (lw_at lw_m3 6 rfl) rfl
theorem q564 : (Jvm.Cond.methodLink "HundiHallLaw" (107 : Nat) ({ cls := "HundiHallLaw", name := "trust", desc := "(LHundiHall;IIIZ)I" } : Jvm.MethodName)) ∈ lw_all := lw_g (lw_at lw_m3 44 rfl) rfl
theorem q565 : (Jvm.Cond.static ({ cls := "HundiHallLaw", name := "trust", desc := "(LHundiHall;IIIZ)I" } : Jvm.MethodName)) ∈ lw_all := lw_g (lw_at lw_m3 45 rfl) rfl
theorem q566 : (Jvm.Cond.codeWith ({ cls := "HundiHallLaw", name := "trust", desc := "(LHundiHall;IIIZ)I" } : Jvm.MethodName) method_5_code (6 : Nat) (Option.some Jvm.ClassFile.FieldType.int) [((0 : Nat), (9 : Nat), (12 : Nat), (13 : Nat)), ((0 : Nat), (9 : Nat), (16 : Nat), (15 : Nat))]) ∈ lw_all := lw_g (lw_at lw_m3 46 rfl) rfl
theorem q567 : (Jvm.Cond.methodLink "HundiHallLaw" (23 : Nat) ({ cls := "HundiHall", name := "trust", desc := "(IIIZ)V" } : Jvm.MethodName)) ∈ lw_all := lw_g (lw_at lw_m3 47 rfl) rfl
theorem q571 : (Jvm.Cond.methodLink "HundiHallLaw" (116 : Nat) ({ cls := "HundiHallLaw", name := "breakWord", desc := "(LHundiHall;I[J)I" } : Jvm.MethodName)) ∈ lw_all := lw_g (lw_at lw_m3 51 rfl) rfl
theorem q572 : (Jvm.Cond.static ({ cls := "HundiHallLaw", name := "breakWord", desc := "(LHundiHall;I[J)I" } : Jvm.MethodName)) ∈ lw_all := lw_g (lw_at lw_m3 52 rfl) rfl
theorem q573 : (Jvm.Cond.codeWith ({ cls := "HundiHallLaw", name := "breakWord", desc := "(LHundiHall;I[J)I" } : Jvm.MethodName) method_6_code (4 : Nat) (Option.some Jvm.ClassFile.FieldType.int) [((0 : Nat), (9 : Nat), (12 : Nat), (13 : Nat)), ((0 : Nat), (9 : Nat), (15 : Nat), (17 : Nat))]) ∈ lw_all := lw_g (lw_at lw_m3 53 rfl) rfl
theorem q574 : (Jvm.Cond.methodLink "HundiHallLaw" (27 : Nat) ({ cls := "HundiHall", name := "breakWord", desc := "(I)I" } : Jvm.MethodName)) ∈ lw_all := lw_g (lw_at lw_m3 54 rfl) rfl
theorem q673 : (Jvm.Cond.methodLink "HundiHallLaw" (120 : Nat) ({ cls := "HundiHallLaw", name := "raid", desc := "(LHundiHall;I[J)I" } : Jvm.MethodName)) ∈ lw_all := lw_g (lw_at lw_m3 153 rfl) rfl
theorem q674 : (Jvm.Cond.static ({ cls := "HundiHallLaw", name := "raid", desc := "(LHundiHall;I[J)I" } : Jvm.MethodName)) ∈ lw_all := lw_g (lw_at lw_m3 154 rfl) rfl
theorem q675 : (Jvm.Cond.codeWith ({ cls := "HundiHallLaw", name := "raid", desc := "(LHundiHall;I[J)I" } : Jvm.MethodName) method_7_code (4 : Nat) (Option.some Jvm.ClassFile.FieldType.int) [((0 : Nat), (9 : Nat), (12 : Nat), (13 : Nat)), ((0 : Nat), (9 : Nat), (15 : Nat), (17 : Nat))]) ∈ lw_all := lw_g (lw_at lw_m3 155 rfl) rfl
theorem q676 : (Jvm.Cond.methodLink "HundiHallLaw" (31 : Nat) ({ cls := "HundiHall", name := "raid", desc := "(I)I" } : Jvm.MethodName)) ∈ lw_all := lw_g (lw_at lw_m3 156 rfl) rfl
theorem q694 : (Jvm.Cond.methodLink "HundiHallLaw" (123 : Nat) ({ cls := "HundiHallLaw", name := "order", desc := "(LHundiHall;IIIII[J)I" } : Jvm.MethodName)) ∈ lw_all := lw_g (lw_at lw_m3 174 rfl) rfl
theorem q695 : (Jvm.Cond.static ({ cls := "HundiHallLaw", name := "order", desc := "(LHundiHall;IIIII[J)I" } : Jvm.MethodName)) ∈ lw_all := lw_g (lw_at lw_m3 175 rfl) rfl
theorem q696 : (Jvm.Cond.codeWith ({ cls := "HundiHallLaw", name := "order", desc := "(LHundiHall;IIIII[J)I" } : Jvm.MethodName) method_8_code (8 : Nat) (Option.some Jvm.ClassFile.FieldType.int) [((0 : Nat), (16 : Nat), (19 : Nat), (13 : Nat)), ((0 : Nat), (16 : Nat), (23 : Nat), (15 : Nat)), ((0 : Nat), (16 : Nat), (27 : Nat), (17 : Nat))]) ∈ lw_all := lw_g (lw_at lw_m3 176 rfl) rfl
theorem q697 : (Jvm.Cond.methodLink "HundiHallLaw" (34 : Nat) ({ cls := "HundiHall", name := "order", desc := "(IIIII)I" } : Jvm.MethodName)) ∈ lw_all := lw_g (lw_at lw_m3 177 rfl) rfl
theorem q756 : (Jvm.Cond.methodLink "HundiHallLaw" (127 : Nat) ({ cls := "HundiHallLaw", name := "fetch", desc := "(LHundiHall;II[J)I" } : Jvm.MethodName)) ∈ lw_all := lw_g (lw_at lw_m3 236 rfl) rfl
theorem q757 : (Jvm.Cond.static ({ cls := "HundiHallLaw", name := "fetch", desc := "(LHundiHall;II[J)I" } : Jvm.MethodName)) ∈ lw_all := lw_g (lw_at lw_m3 237 rfl) rfl
theorem q758 : (Jvm.Cond.codeWith ({ cls := "HundiHallLaw", name := "fetch", desc := "(LHundiHall;II[J)I" } : Jvm.MethodName) method_9_code (5 : Nat) (Option.some Jvm.ClassFile.FieldType.int) [((0 : Nat), (10 : Nat), (13 : Nat), (13 : Nat)), ((0 : Nat), (10 : Nat), (17 : Nat), (15 : Nat)), ((0 : Nat), (10 : Nat), (21 : Nat), (17 : Nat))]) ∈ lw_all := lw_g (lw_at lw_m3 238 rfl) rfl
theorem q759 : (Jvm.Cond.methodLink "HundiHallLaw" (38 : Nat) ({ cls := "HundiHall", name := "fetch", desc := "(II)I" } : Jvm.MethodName)) ∈ lw_all := lw_g (lw_at lw_m3 239 rfl) rfl
theorem q763 : (Jvm.Cond.methodLink "HundiHallLaw" (130 : Nat) ({ cls := "HundiHallLaw", name := "pass", desc := "(LHundiHall;I[J)I" } : Jvm.MethodName)) ∈ lw_all := lw_g (lw_at lw_m4 3 rfl) rfl
theorem q764 : (Jvm.Cond.static ({ cls := "HundiHallLaw", name := "pass", desc := "(LHundiHall;I[J)I" } : Jvm.MethodName)) ∈ lw_all := lw_g (lw_at lw_m4 4 rfl) rfl
theorem q765 : (Jvm.Cond.codeWith ({ cls := "HundiHallLaw", name := "pass", desc := "(LHundiHall;I[J)I" } : Jvm.MethodName) method_10_code (4 : Nat) (Option.some Jvm.ClassFile.FieldType.int) [((0 : Nat), (9 : Nat), (12 : Nat), (15 : Nat))]) ∈ lw_all := lw_g (lw_at lw_m4 5 rfl) rfl
theorem q766 : (Jvm.Cond.methodLink "HundiHallLaw" (41 : Nat) ({ cls := "HundiHall", name := "pass", desc := "(I)I" } : Jvm.MethodName)) ∈ lw_all := lw_g (lw_at lw_m4 6 rfl) rfl
theorem q791 : (Jvm.Cond.methodLink "HundiHallLaw" (133 : Nat) ({ cls := "HundiHallLaw", name := "pay", desc := "(LHundiHall;III[J)I" } : Jvm.MethodName)) ∈ lw_all := lw_g (lw_at lw_m4 31 rfl) rfl
theorem q792 : (Jvm.Cond.static ({ cls := "HundiHallLaw", name := "pay", desc := "(LHundiHall;III[J)I" } : Jvm.MethodName)) ∈ lw_all := lw_g (lw_at lw_m4 32 rfl) rfl
theorem q793 : (Jvm.Cond.codeWith ({ cls := "HundiHallLaw", name := "pay", desc := "(LHundiHall;III[J)I" } : Jvm.MethodName) method_11_code (6 : Nat) (Option.some Jvm.ClassFile.FieldType.int) [((0 : Nat), (12 : Nat), (15 : Nat), (13 : Nat)), ((0 : Nat), (12 : Nat), (19 : Nat), (15 : Nat)), ((0 : Nat), (12 : Nat), (23 : Nat), (17 : Nat))]) ∈ lw_all := lw_g (lw_at lw_m4 33 rfl) rfl
theorem q794 : (Jvm.Cond.methodLink "HundiHallLaw" (44 : Nat) ({ cls := "HundiHall", name := "pay", desc := "(III)I" } : Jvm.MethodName)) ∈ lw_all := lw_g (lw_at lw_m4 34 rfl) rfl
theorem q803 : (Jvm.Cond.methodLink "HundiHallLaw" (136 : Nat) ({ cls := "HundiHallLaw", name := "deliver", desc := "(LHundiHall;III[J)I" } : Jvm.MethodName)) ∈ lw_all := lw_g (lw_at lw_m4 43 rfl) rfl
theorem q804 : (Jvm.Cond.static ({ cls := "HundiHallLaw", name := "deliver", desc := "(LHundiHall;III[J)I" } : Jvm.MethodName)) ∈ lw_all := lw_g (lw_at lw_m4 44 rfl) rfl
theorem q805 : (Jvm.Cond.codeWith ({ cls := "HundiHallLaw", name := "deliver", desc := "(LHundiHall;III[J)I" } : Jvm.MethodName) method_12_code (6 : Nat) (Option.some Jvm.ClassFile.FieldType.int) [((0 : Nat), (12 : Nat), (15 : Nat), (13 : Nat)), ((0 : Nat), (12 : Nat), (19 : Nat), (15 : Nat)), ((0 : Nat), (12 : Nat), (23 : Nat), (17 : Nat))]) ∈ lw_all := lw_g (lw_at lw_m4 45 rfl) rfl
theorem q806 : (Jvm.Cond.methodLink "HundiHallLaw" (47 : Nat) ({ cls := "HundiHall", name := "deliver", desc := "(III)I" } : Jvm.MethodName)) ∈ lw_all := lw_g (lw_at lw_m4 46 rfl) rfl
theorem q810 : (Jvm.Cond.methodLink "HundiHallLaw" (139 : Nat) ({ cls := "HundiHallLaw", name := "courier", desc := "(LHundiHall;IIII[J)I" } : Jvm.MethodName)) ∈ lw_all := lw_g (lw_at lw_m4 50 rfl) rfl
theorem q811 : (Jvm.Cond.static ({ cls := "HundiHallLaw", name := "courier", desc := "(LHundiHall;IIII[J)I" } : Jvm.MethodName)) ∈ lw_all := lw_g (lw_at lw_m4 51 rfl) rfl
theorem q812 : (Jvm.Cond.codeWith ({ cls := "HundiHallLaw", name := "courier", desc := "(LHundiHall;IIII[J)I" } : Jvm.MethodName) method_13_code (7 : Nat) (Option.some Jvm.ClassFile.FieldType.int) [((0 : Nat), (14 : Nat), (17 : Nat), (13 : Nat)), ((0 : Nat), (14 : Nat), (21 : Nat), (15 : Nat)), ((0 : Nat), (14 : Nat), (25 : Nat), (17 : Nat))]) ∈ lw_all := lw_g (lw_at lw_m4 52 rfl) rfl
theorem q813 : (Jvm.Cond.methodLink "HundiHallLaw" (50 : Nat) ({ cls := "HundiHall", name := "courier", desc := "(IIII)I" } : Jvm.MethodName)) ∈ lw_all := lw_g (lw_at lw_m4 53 rfl) rfl
theorem q842 : (Jvm.Cond.methodLink "HundiHallLaw" (143 : Nat) ({ cls := "HundiHallLaw", name := "rob", desc := "(LHundiHall;I[J)I" } : Jvm.MethodName)) ∈ lw_all := lw_g (lw_at lw_m4 82 rfl) rfl
theorem q843 : (Jvm.Cond.static ({ cls := "HundiHallLaw", name := "rob", desc := "(LHundiHall;I[J)I" } : Jvm.MethodName)) ∈ lw_all := lw_g (lw_at lw_m4 83 rfl) rfl
theorem q844 : (Jvm.Cond.codeWith ({ cls := "HundiHallLaw", name := "rob", desc := "(LHundiHall;I[J)I" } : Jvm.MethodName) method_14_code (4 : Nat) (Option.some Jvm.ClassFile.FieldType.int) [((0 : Nat), (9 : Nat), (12 : Nat), (13 : Nat)), ((0 : Nat), (9 : Nat), (15 : Nat), (17 : Nat))]) ∈ lw_all := lw_g (lw_at lw_m4 84 rfl) rfl
theorem q845 : (Jvm.Cond.methodLink "HundiHallLaw" (54 : Nat) ({ cls := "HundiHall", name := "rob", desc := "(I)I" } : Jvm.MethodName)) ∈ lw_all := lw_g (lw_at lw_m4 85 rfl) rfl
theorem q849 : (Jvm.Cond.methodLink "HundiHallLaw" (151 : Nat) ({ cls := "HundiHallLaw", name := "law", desc := "(LHundiHall;II[J)I" } : Jvm.MethodName)) ∈ lw_all := lw_g (lw_at lw_m4 89 rfl) rfl
theorem q850 : (Jvm.Cond.static ({ cls := "HundiHallLaw", name := "law", desc := "(LHundiHall;II[J)I" } : Jvm.MethodName)) ∈ lw_all := lw_g (lw_at lw_m4 90 rfl) rfl
theorem q851 : (Jvm.Cond.codeWith ({ cls := "HundiHallLaw", name := "law", desc := "(LHundiHall;II[J)I" } : Jvm.MethodName) method_15_code (5 : Nat) (Option.some Jvm.ClassFile.FieldType.int) [((0 : Nat), (10 : Nat), (13 : Nat), (13 : Nat)), ((0 : Nat), (10 : Nat), (17 : Nat), (15 : Nat))]) ∈ lw_all := lw_g (lw_at lw_m4 91 rfl) rfl
theorem q852 : (Jvm.Cond.methodLink "HundiHallLaw" (57 : Nat) ({ cls := "HundiHall", name := "law", desc := "(II)I" } : Jvm.MethodName)) ∈ lw_all := lw_g (lw_at lw_m4 92 rfl) rfl
theorem q856 : (Jvm.Cond.methodLink "HundiHallLaw" (154 : Nat) ({ cls := "HundiHallLaw", name := "list", desc := "(LHundiHall;I[J)I" } : Jvm.MethodName)) ∈ lw_all := lw_g (lw_at lw_m4 96 rfl) rfl
theorem q857 : (Jvm.Cond.static ({ cls := "HundiHallLaw", name := "list", desc := "(LHundiHall;I[J)I" } : Jvm.MethodName)) ∈ lw_all := lw_g (lw_at lw_m4 97 rfl) rfl
theorem q858 : (Jvm.Cond.codeWith ({ cls := "HundiHallLaw", name := "list", desc := "(LHundiHall;I[J)I" } : Jvm.MethodName) method_16_code (4 : Nat) (Option.some Jvm.ClassFile.FieldType.int) [((0 : Nat), (16 : Nat), (19 : Nat), (13 : Nat))]) ∈ lw_all := lw_g (lw_at lw_m4 98 rfl) rfl
theorem q859 : (Jvm.Cond.methodLink "HundiHallLaw" (60 : Nat) ({ cls := "HundiHall", name := "list", desc := "(I)Z" } : Jvm.MethodName)) ∈ lw_all := lw_g (lw_at lw_m4 99 rfl) rfl
theorem q863 : (Jvm.Cond.methodLink "HundiHallLaw" (157 : Nat) ({ cls := "HundiHallLaw", name := "brokerOf", desc := "(LHundiHall;II[J)I" } : Jvm.MethodName)) ∈ lw_all := lw_g (lw_at lw_m4 103 rfl) rfl
theorem q864 : (Jvm.Cond.static ({ cls := "HundiHallLaw", name := "brokerOf", desc := "(LHundiHall;II[J)I" } : Jvm.MethodName)) ∈ lw_all := lw_g (lw_at lw_m4 104 rfl) rfl
theorem q865 : (Jvm.Cond.codeWith ({ cls := "HundiHallLaw", name := "brokerOf", desc := "(LHundiHall;II[J)I" } : Jvm.MethodName) method_17_code (5 : Nat) (Option.some Jvm.ClassFile.FieldType.int) [((0 : Nat), (9 : Nat), (12 : Nat), (13 : Nat)), ((0 : Nat), (9 : Nat), (16 : Nat), (15 : Nat))]) ∈ lw_all := lw_g (lw_at lw_m4 105 rfl) rfl
theorem q866 : (Jvm.Cond.methodLink "HundiHallLaw" (64 : Nat) ({ cls := "HundiHall", name := "brokerOf", desc := "(II)J" } : Jvm.MethodName)) ∈ lw_all := lw_g (lw_at lw_m4 106 rfl) rfl
theorem q874 : (Jvm.Cond.methodLink "HundiHallLaw" (160 : Nat) ({ cls := "HundiHallLaw", name := "debt", desc := "(LHundiHall;IIZ[J)I" } : Jvm.MethodName)) ∈ lw_all := lw_g (lw_at lw_m4 114 rfl) rfl
theorem q875 : (Jvm.Cond.static ({ cls := "HundiHallLaw", name := "debt", desc := "(LHundiHall;IIZ[J)I" } : Jvm.MethodName)) ∈ lw_all := lw_g (lw_at lw_m4 115 rfl) rfl
theorem q876 : (Jvm.Cond.codeWith ({ cls := "HundiHallLaw", name := "debt", desc := "(LHundiHall;IIZ[J)I" } : Jvm.MethodName) method_18_code (6 : Nat) (Option.some Jvm.ClassFile.FieldType.int) [((0 : Nat), (11 : Nat), (14 : Nat), (13 : Nat))]) ∈ lw_all := lw_g (lw_at lw_m4 116 rfl) rfl
theorem q877 : (Jvm.Cond.methodLink "HundiHallLaw" (68 : Nat) ({ cls := "HundiHall", name := "debt", desc := "(IIZ)J" } : Jvm.MethodName)) ∈ lw_all := lw_g (lw_at lw_m4 117 rfl) rfl
theorem q881 : (Jvm.Cond.methodLink "HundiHallLaw" (164 : Nat) ({ cls := "HundiHallLaw", name := "agree", desc := "(LHundiHall;II[J)I" } : Jvm.MethodName)) ∈ lw_all := lw_g (lw_at lw_m4 121 rfl) rfl
theorem q882 : (Jvm.Cond.static ({ cls := "HundiHallLaw", name := "agree", desc := "(LHundiHall;II[J)I" } : Jvm.MethodName)) ∈ lw_all := lw_g (lw_at lw_m4 122 rfl) rfl
theorem q883 : (Jvm.Cond.codeWith ({ cls := "HundiHallLaw", name := "agree", desc := "(LHundiHall;II[J)I" } : Jvm.MethodName) method_19_code (5 : Nat) (Option.some Jvm.ClassFile.FieldType.int) [((0 : Nat), (17 : Nat), (20 : Nat), (13 : Nat))]) ∈ lw_all := lw_g (lw_at lw_m4 123 rfl) rfl
theorem q884 : (Jvm.Cond.methodLink "HundiHallLaw" (72 : Nat) ({ cls := "HundiHall", name := "agree", desc := "(II)Z" } : Jvm.MethodName)) ∈ lw_all := lw_g (lw_at lw_m4 124 rfl) rfl
theorem q888 : (Jvm.Cond.methodLink "HundiHallLaw" (167 : Nat) ({ cls := "HundiHallLaw", name := "way", desc := "(LHundiHall;IIII[J)I" } : Jvm.MethodName)) ∈ lw_all := lw_g (lw_at lw_m4 128 rfl) rfl
theorem q889 : (Jvm.Cond.static ({ cls := "HundiHallLaw", name := "way", desc := "(LHundiHall;IIII[J)I" } : Jvm.MethodName)) ∈ lw_all := lw_g (lw_at lw_m4 129 rfl) rfl
theorem q890 : (Jvm.Cond.codeWith ({ cls := "HundiHallLaw", name := "way", desc := "(LHundiHall;IIII[J)I" } : Jvm.MethodName) method_20_code (7 : Nat) (Option.some Jvm.ClassFile.FieldType.int) [((0 : Nat), (14 : Nat), (17 : Nat), (13 : Nat)), ((0 : Nat), (14 : Nat), (21 : Nat), (15 : Nat))]) ∈ lw_all := lw_g (lw_at lw_m4 130 rfl) rfl
theorem q891 : (Jvm.Cond.methodLink "HundiHallLaw" (76 : Nat) ({ cls := "HundiHall", name := "way", desc := "(IIII)I" } : Jvm.MethodName)) ∈ lw_all := lw_g (lw_at lw_m4 131 rfl) rfl
theorem q895 : (Jvm.Cond.methodLink "HundiHallLaw" (170 : Nat) ({ cls := "HundiHallLaw", name := "wayOf", desc := "(LHundiHall;II[J)I" } : Jvm.MethodName)) ∈ lw_all := lw_g (lw_at lw_m4 135 rfl) rfl
theorem q896 : (Jvm.Cond.static ({ cls := "HundiHallLaw", name := "wayOf", desc := "(LHundiHall;II[J)I" } : Jvm.MethodName)) ∈ lw_all := lw_g (lw_at lw_m4 136 rfl) rfl
theorem q897 : (Jvm.Cond.codeWith ({ cls := "HundiHallLaw", name := "wayOf", desc := "(LHundiHall;II[J)I" } : Jvm.MethodName) method_21_code (5 : Nat) (Option.some Jvm.ClassFile.FieldType.int) [((0 : Nat), (10 : Nat), (13 : Nat), (13 : Nat))]) ∈ lw_all := lw_g (lw_at lw_m4 137 rfl) rfl
theorem q898 : (Jvm.Cond.methodLink "HundiHallLaw" (79 : Nat) ({ cls := "HundiHall", name := "wayOf", desc := "(II)I" } : Jvm.MethodName)) ∈ lw_all := lw_g (lw_at lw_m4 138 rfl) rfl
theorem q902 : (Jvm.Cond.methodLink "HundiHallLaw" (173 : Nat) ({ cls := "HundiHallLaw", name := "orderOf", desc := "(LHundiHall;II[J)I" } : Jvm.MethodName)) ∈ lw_all := lw_g (lw_at lw_m4 142 rfl) rfl
theorem q903 : (Jvm.Cond.static ({ cls := "HundiHallLaw", name := "orderOf", desc := "(LHundiHall;II[J)I" } : Jvm.MethodName)) ∈ lw_all := lw_g (lw_at lw_m4 143 rfl) rfl
theorem q904 : (Jvm.Cond.codeWith ({ cls := "HundiHallLaw", name := "orderOf", desc := "(LHundiHall;II[J)I" } : Jvm.MethodName) method_22_code (5 : Nat) (Option.some Jvm.ClassFile.FieldType.int) [((0 : Nat), (10 : Nat), (13 : Nat), (13 : Nat)), ((0 : Nat), (10 : Nat), (17 : Nat), (15 : Nat))]) ∈ lw_all := lw_g (lw_at lw_m4 144 rfl) rfl
theorem q905 : (Jvm.Cond.methodLink "HundiHallLaw" (82 : Nat) ({ cls := "HundiHall", name := "orderOf", desc := "(II)I" } : Jvm.MethodName)) ∈ lw_all := lw_g (lw_at lw_m4 145 rfl) rfl
theorem q909 : (Jvm.Cond.methodLink "HundiHallLaw" (180 : Nat) ({ cls := "HundiHallLaw", name := "sum", desc := "(LHundiHall;I[J)I" } : Jvm.MethodName)) ∈ lw_all := lw_g (lw_at lw_m4 149 rfl) rfl
theorem q910 : (Jvm.Cond.static ({ cls := "HundiHallLaw", name := "sum", desc := "(LHundiHall;I[J)I" } : Jvm.MethodName)) ∈ lw_all := lw_g (lw_at lw_m4 150 rfl) rfl
theorem q911 : (Jvm.Cond.codeWith ({ cls := "HundiHallLaw", name := "sum", desc := "(LHundiHall;I[J)I" } : Jvm.MethodName) method_23_code (4 : Nat) (Option.some Jvm.ClassFile.FieldType.int) [((0 : Nat), (8 : Nat), (11 : Nat), (15 : Nat))]) ∈ lw_all := lw_g (lw_at lw_m4 151 rfl) rfl
theorem q912 : (Jvm.Cond.methodLink "HundiHallLaw" (85 : Nat) ({ cls := "HundiHall", name := "sum", desc := "(I)J" } : Jvm.MethodName)) ∈ lw_all := lw_g (lw_at lw_m4 152 rfl) rfl
theorem q916 : (Jvm.Cond.classLink "HundiHallLaw" (90 : Nat) "HundiHallModel") ∈ lw_all := lw_g (lw_at lw_m4 156 rfl) rfl
theorem q918 : (Jvm.Cond.methodLink "HundiHallLaw" (92 : Nat) ({ cls := "HundiHallModel", name := "<init>", desc := "()V" } : Jvm.MethodName)) ∈ lw_all := lw_g (lw_at lw_m4 158 rfl) rfl
theorem q1038 : (Jvm.Cond.methodLink "HundiHallLaw" (99 : Nat) ({ cls := "HundiHallModel", name := "thrown", desc := "()I" } : Jvm.MethodName)) ∈ lw_all := lw_g (lw_at lw_m5 38 rfl) rfl
theorem q1042 : (Jvm.Cond.methodLink "HundiHallLaw" (98 : Nat) ({ cls := "HundiHallModel", name := "broker", desc := "(III)I" } : Jvm.MethodName)) ∈ lw_all := lw_g (lw_at lw_m5 42 rfl) rfl
theorem q1053 : (Jvm.Cond.methodLink "HundiHallLaw" (106 : Nat) ({ cls := "HundiHallModel", name := "rate", desc := "(II)I" } : Jvm.MethodName)) ∈ lw_all := lw_g (lw_at lw_m5 53 rfl) rfl
theorem q1061 : (Jvm.Cond.methodLink "HundiHallLaw" (110 : Nat) ({ cls := "HundiHallModel", name := "trust", desc := "(IIIZ)V" } : Jvm.MethodName)) ∈ lw_all := lw_g (lw_at lw_m5 61 rfl) rfl
theorem q1069 : (Jvm.Cond.methodLink "HundiHallLaw" (115 : Nat) ({ cls := "HundiHallModel", name := "festival", desc := "()Z" } : Jvm.MethodName)) ∈ lw_all := lw_g (lw_at lw_m5 69 rfl) rfl
theorem q1073 : (Jvm.Cond.methodLink "HundiHallLaw" (119 : Nat) ({ cls := "HundiHallModel", name := "breakWord", desc := "(I)I" } : Jvm.MethodName)) ∈ lw_all := lw_g (lw_at lw_m5 73 rfl) rfl
theorem q1136 : (Jvm.Cond.methodLink "HundiHallLaw" (122 : Nat) ({ cls := "HundiHallModel", name := "raid", desc := "(I)I" } : Jvm.MethodName)) ∈ lw_all := lw_g (lw_at lw_m5 136 rfl) rfl
theorem q1140 : (Jvm.Cond.methodLink "HundiHallLaw" (126 : Nat) ({ cls := "HundiHallModel", name := "order", desc := "(IIIII)I" } : Jvm.MethodName)) ∈ lw_all := lw_g (lw_at lw_m5 140 rfl) rfl
theorem q1144 : (Jvm.Cond.methodLink "HundiHallLaw" (129 : Nat) ({ cls := "HundiHallModel", name := "fetch", desc := "(II)I" } : Jvm.MethodName)) ∈ lw_all := lw_g (lw_at lw_m5 144 rfl) rfl
theorem q1152 : (Jvm.Cond.methodLink "HundiHallLaw" (132 : Nat) ({ cls := "HundiHallModel", name := "pass", desc := "(I)I" } : Jvm.MethodName)) ∈ lw_all := lw_g (lw_at lw_m5 152 rfl) rfl
theorem q1172 : (Jvm.Cond.methodLink "HundiHallLaw" (135 : Nat) ({ cls := "HundiHallModel", name := "pay", desc := "(III)I" } : Jvm.MethodName)) ∈ lw_all := lw_g (lw_at lw_m5 172 rfl) rfl
theorem q1176 : (Jvm.Cond.methodLink "HundiHallLaw" (138 : Nat) ({ cls := "HundiHallModel", name := "deliver", desc := "(III)I" } : Jvm.MethodName)) ∈ lw_all := lw_g (lw_at lw_m5 176 rfl) rfl
theorem q1180 : (Jvm.Cond.methodLink "HundiHallLaw" (142 : Nat) ({ cls := "HundiHallModel", name := "courier", desc := "(IIII)I" } : Jvm.MethodName)) ∈ lw_all := lw_g (lw_at lw_m5 180 rfl) rfl
theorem q1184 : (Jvm.Cond.methodLink "HundiHallLaw" (145 : Nat) ({ cls := "HundiHallModel", name := "rob", desc := "(I)I" } : Jvm.MethodName)) ∈ lw_all := lw_g (lw_at lw_m5 184 rfl) rfl
theorem q1188 : (Jvm.Cond.methodLink "HundiHallLaw" (150 : Nat) ({ cls := "HundiHallModel", name := "ring", desc := "()J" } : Jvm.MethodName)) ∈ lw_all := lw_g (lw_at lw_m5 188 rfl) rfl
theorem q1196 : (Jvm.Cond.methodLink "HundiHallLaw" (153 : Nat) ({ cls := "HundiHallModel", name := "law", desc := "(II)I" } : Jvm.MethodName)) ∈ lw_all := lw_g (lw_at lw_m5 196 rfl) rfl
theorem q1200 : (Jvm.Cond.methodLink "HundiHallLaw" (156 : Nat) ({ cls := "HundiHallModel", name := "list", desc := "(I)Z" } : Jvm.MethodName)) ∈ lw_all := lw_g (lw_at lw_m5 200 rfl) rfl
theorem q1204 : (Jvm.Cond.methodLink "HundiHallLaw" (159 : Nat) ({ cls := "HundiHallModel", name := "brokerOf", desc := "(II)J" } : Jvm.MethodName)) ∈ lw_all := lw_g (lw_at lw_m5 204 rfl) rfl
theorem q1208 : (Jvm.Cond.methodLink "HundiHallLaw" (163 : Nat) ({ cls := "HundiHallModel", name := "debt", desc := "(IIZ)J" } : Jvm.MethodName)) ∈ lw_all := lw_g (lw_at lw_m5 208 rfl) rfl
theorem q1212 : (Jvm.Cond.methodLink "HundiHallLaw" (166 : Nat) ({ cls := "HundiHallModel", name := "agree", desc := "(II)Z" } : Jvm.MethodName)) ∈ lw_all := lw_g (lw_at lw_m5 212 rfl) rfl
theorem q1216 : (Jvm.Cond.methodLink "HundiHallLaw" (169 : Nat) ({ cls := "HundiHallModel", name := "way", desc := "(IIII)I" } : Jvm.MethodName)) ∈ lw_all := lw_g (lw_at lw_m5 216 rfl) rfl
theorem q1220 : (Jvm.Cond.methodLink "HundiHallLaw" (172 : Nat) ({ cls := "HundiHallModel", name := "wayOf", desc := "(II)I" } : Jvm.MethodName)) ∈ lw_all := lw_g (lw_at lw_m5 220 rfl) rfl
theorem q1224 : (Jvm.Cond.methodLink "HundiHallLaw" (175 : Nat) ({ cls := "HundiHallModel", name := "orderOf", desc := "(II)I" } : Jvm.MethodName)) ∈ lw_all := lw_g (lw_at lw_m5 224 rfl) rfl
theorem q1228 : (Jvm.Cond.methodLink "HundiHallLaw" (179 : Nat) ({ cls := "HundiHallModel", name := "inquiry", desc := "()I" } : Jvm.MethodName)) ∈ lw_all := lw_g (lw_at lw_m5 228 rfl) rfl
theorem q1232 : (Jvm.Cond.methodLink "HundiHallLaw" (182 : Nat) ({ cls := "HundiHallModel", name := "sum", desc := "(I)J" } : Jvm.MethodName)) ∈ lw_all := lw_g (lw_at lw_m5 232 rfl) rfl
