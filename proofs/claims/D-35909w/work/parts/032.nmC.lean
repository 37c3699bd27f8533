/-! HundiHall -/
set_option maxRecDepth 100000
def RX1 : String := "HundiHall"
def TX1 : u_T := fun k => match k with
  | 0 => ("HundiHall", "brokers", "Ljava/util/ArrayList;", true)
  | 1 => ("HundiHall", "orders", "Ljava/util/ArrayList;", true)
  | 2 => ("HundiHall", "couriers", "Ljava/util/ArrayList;", true)
  | 3 => ("HundiHall", "bounds", "[I", true)
  | 4 => ("HundiHall", "told", "[I", true)
  | 5 => ("HundiHall", "areListed", "[Z", true)
  | 6 => ("HundiHall", "sums", "[J", true)
  | 7 => ("HundiHall", "isFestival", "Z", false)
  | _ => ("HundiHall", "hour", "I", false)
def tyX1 : Nat → FieldType := fun k => match k with
  | 0 => .object "java/util/ArrayList"
  | 1 => .object "java/util/ArrayList"
  | 2 => .object "java/util/ArrayList"
  | 3 => .array .int
  | 4 => .array .int
  | 5 => .array .boolean
  | 6 => .array .long
  | 7 => .boolean
  | _ => .int
abbrev wsX10 : List Cond := u_ws RX1 TX1 9
theorem nmX1 : ∀ a, a < 9 → ∀ b, b < 9 → a ≠ b → (TX1 a).2.1 ≠ (TX1 b).2.1 := by decide +kernel
theorem tyX1_ok : ∀ k, k < 9 → parseFieldDescriptor (TX1 k).2.2.1 = some (tyX1 k) := by decide +kernel
abbrev cX1_init : ByteArray := prog_1_method_7_code
def yX1_init : MethodName := ⟨RX1, "<init>", "()V"⟩
def dkwX1_init_3 : List UInt8 := [27, 16, 8, 162, 0, 17, 42, 180, 0, 63, 27, 18, 78, 79, 132, 1, 1, 167, 255, 239, 177]
abbrev dktX1_init_3 : List UInt8 := dkwX1_init_3 ++ []
def dkwX1_init_2 : List UInt8 := [16, 8, 188, 10, 181, 0, 67, 42, 16, 20, 188, 4, 181, 0, 70, 42, 8, 188, 11, 181, 0, 74, 3, 60]
abbrev dktX1_init_2 : List UInt8 := dkwX1_init_2 ++ dktX1_init_3
def dkwX1_init_1 : List UInt8 := [181, 0, 57, 42, 187, 0, 50, 89, 183, 0, 52, 181, 0, 60, 42, 16, 8, 188, 10, 181, 0, 63, 42]
abbrev dktX1_init_1 : List UInt8 := dkwX1_init_1 ++ dktX1_init_2
def dkwX1_init_0 : List UInt8 := [42, 183, 0, 45, 42, 187, 0, 50, 89, 183, 0, 52, 181, 0, 53, 42, 187, 0, 50, 89, 183, 0, 52]
abbrev dktX1_init_0 : List UInt8 := dkwX1_init_0 ++ dktX1_init_1
theorem dksX1_init_0 : cX1_init.data.toList.drop 0 = dktX1_init_0 := by decide +kernel
theorem dksX1_init_1 : cX1_init.data.toList.drop 23 = dktX1_init_1 := dk_seg dksX1_init_0 23 rfl rfl
theorem dksX1_init_2 : cX1_init.data.toList.drop 46 = dktX1_init_2 := dk_seg dksX1_init_1 23 rfl rfl
theorem dksX1_init_3 : cX1_init.data.toList.drop 70 = dktX1_init_3 := dk_seg dksX1_init_2 24 rfl rfl
theorem dX1_init_0 : decode cX1_init 0 = .ok (.aload_n 0, 1) := dk_42 (dk_at dksX1_init_0 0 rfl rfl)
theorem dX1_init_1 : decode cX1_init 1 = .ok (.invokespecial 45, 3) := dk_183 0 45 (dk_at dksX1_init_0 1 rfl rfl)
theorem dX1_init_4 : decode cX1_init 4 = .ok (.aload_n 0, 1) := dk_42 (dk_at dksX1_init_0 4 rfl rfl)
theorem dX1_init_5 : decode cX1_init 5 = .ok (.new 50, 3) := dk_187 0 50 (dk_at dksX1_init_0 5 rfl rfl)
theorem dX1_init_8 : decode cX1_init 8 = .ok (.dup, 1) := dk_89 (dk_at dksX1_init_0 8 rfl rfl)
theorem dX1_init_9 : decode cX1_init 9 = .ok (.invokespecial 52, 3) := dk_183 0 52 (dk_at dksX1_init_0 9 rfl rfl)
theorem dX1_init_12 : decode cX1_init 12 = .ok (.putfield 53, 3) := dk_181 0 53 (dk_at dksX1_init_0 12 rfl rfl)
theorem dX1_init_15 : decode cX1_init 15 = .ok (.aload_n 0, 1) := dk_42 (dk_at dksX1_init_0 15 rfl rfl)
theorem dX1_init_16 : decode cX1_init 16 = .ok (.new 50, 3) := dk_187 0 50 (dk_at dksX1_init_0 16 rfl rfl)
theorem dX1_init_19 : decode cX1_init 19 = .ok (.dup, 1) := dk_89 (dk_at dksX1_init_0 19 rfl rfl)
theorem dX1_init_20 : decode cX1_init 20 = .ok (.invokespecial 52, 3) := dk_183 0 52 (dk_at dksX1_init_0 20 rfl rfl)
theorem dX1_init_23 : decode cX1_init 23 = .ok (.putfield 57, 3) := dk_181 0 57 (dk_at dksX1_init_1 0 rfl rfl)
theorem dX1_init_26 : decode cX1_init 26 = .ok (.aload_n 0, 1) := dk_42 (dk_at dksX1_init_1 3 rfl rfl)
theorem dX1_init_27 : decode cX1_init 27 = .ok (.new 50, 3) := dk_187 0 50 (dk_at dksX1_init_1 4 rfl rfl)
theorem dX1_init_30 : decode cX1_init 30 = .ok (.dup, 1) := dk_89 (dk_at dksX1_init_1 7 rfl rfl)
theorem dX1_init_31 : decode cX1_init 31 = .ok (.invokespecial 52, 3) := dk_183 0 52 (dk_at dksX1_init_1 8 rfl rfl)
theorem dX1_init_34 : decode cX1_init 34 = .ok (.putfield 60, 3) := dk_181 0 60 (dk_at dksX1_init_1 11 rfl rfl)
theorem dX1_init_37 : decode cX1_init 37 = .ok (.aload_n 0, 1) := dk_42 (dk_at dksX1_init_1 14 rfl rfl)
theorem dX1_init_38 : decode cX1_init 38 = .ok (.bipush 8, 2) := dk_16 8 (dk_at dksX1_init_1 15 rfl rfl)
theorem dX1_init_40 : decode cX1_init 40 = .ok (.newarray .int, 2) := dk_188_10 (dk_at dksX1_init_1 17 rfl rfl)
theorem dX1_init_42 : decode cX1_init 42 = .ok (.putfield 63, 3) := dk_181 0 63 (dk_at dksX1_init_1 19 rfl rfl)
theorem dX1_init_45 : decode cX1_init 45 = .ok (.aload_n 0, 1) := dk_42 (dk_at dksX1_init_1 22 rfl rfl)
theorem dX1_init_46 : decode cX1_init 46 = .ok (.bipush 8, 2) := dk_16 8 (dk_at dksX1_init_2 0 rfl rfl)
theorem dX1_init_48 : decode cX1_init 48 = .ok (.newarray .int, 2) := dk_188_10 (dk_at dksX1_init_2 2 rfl rfl)
theorem dX1_init_50 : decode cX1_init 50 = .ok (.putfield 67, 3) := dk_181 0 67 (dk_at dksX1_init_2 4 rfl rfl)
theorem dX1_init_53 : decode cX1_init 53 = .ok (.aload_n 0, 1) := dk_42 (dk_at dksX1_init_2 7 rfl rfl)
theorem dX1_init_54 : decode cX1_init 54 = .ok (.bipush 20, 2) := dk_16 20 (dk_at dksX1_init_2 8 rfl rfl)
theorem dX1_init_56 : decode cX1_init 56 = .ok (.newarray .boolean, 2) := dk_188_4 (dk_at dksX1_init_2 10 rfl rfl)
theorem dX1_init_58 : decode cX1_init 58 = .ok (.putfield 70, 3) := dk_181 0 70 (dk_at dksX1_init_2 12 rfl rfl)
theorem dX1_init_61 : decode cX1_init 61 = .ok (.aload_n 0, 1) := dk_42 (dk_at dksX1_init_2 15 rfl rfl)
theorem dX1_init_62 : decode cX1_init 62 = .ok (.iconst 5, 1) := dk_8 (dk_at dksX1_init_2 16 rfl rfl)
theorem dX1_init_63 : decode cX1_init 63 = .ok (.newarray .long, 2) := dk_188_11 (dk_at dksX1_init_2 17 rfl rfl)
theorem dX1_init_65 : decode cX1_init 65 = .ok (.putfield 74, 3) := dk_181 0 74 (dk_at dksX1_init_2 19 rfl rfl)
theorem dX1_init_68 : decode cX1_init 68 = .ok (.iconst 0, 1) := dk_3 (dk_at dksX1_init_2 22 rfl rfl)
theorem dX1_init_69 : decode cX1_init 69 = .ok (.istore_n 1, 1) := dk_60 (dk_at dksX1_init_2 23 rfl rfl)
theorem dX1_init_70 : decode cX1_init 70 = .ok (.iload_n 1, 1) := dk_27 (dk_at dksX1_init_3 0 rfl rfl)
theorem dX1_init_71 : decode cX1_init 71 = .ok (.bipush 8, 2) := dk_16 8 (dk_at dksX1_init_3 1 rfl rfl)
theorem dX1_init_73 : decode cX1_init 73 = .ok (.if_icmp .ge 17, 3) := dk_162 0 17 (dk_at dksX1_init_3 3 rfl rfl)
theorem dX1_init_76 : decode cX1_init 76 = .ok (.aload_n 0, 1) := dk_42 (dk_at dksX1_init_3 6 rfl rfl)
theorem dX1_init_77 : decode cX1_init 77 = .ok (.getfield 63, 3) := dk_180 0 63 (dk_at dksX1_init_3 7 rfl rfl)
theorem dX1_init_80 : decode cX1_init 80 = .ok (.iload_n 1, 1) := dk_27 (dk_at dksX1_init_3 10 rfl rfl)
theorem dX1_init_81 : decode cX1_init 81 = .ok (.ldc 78, 2) := dk_18 78 (dk_at dksX1_init_3 11 rfl rfl)
theorem dX1_init_83 : decode cX1_init 83 = .ok (.iastore, 1) := dk_79 (dk_at dksX1_init_3 13 rfl rfl)
theorem dX1_init_84 : decode cX1_init 84 = .ok (.iinc 1 1, 3) := dk_132 1 1 (dk_at dksX1_init_3 14 rfl rfl)
theorem dX1_init_87 : decode cX1_init 87 = .ok (.goto (-17), 3) := dk_167 255 239 (dk_at dksX1_init_3 17 rfl rfl)
theorem dX1_init_90 : decode cX1_init 90 = .ok (.return_, 1) := dk_177 (dk_at dksX1_init_3 20 rfl rfl)
abbrev cX1_festival : ByteArray := prog_1_method_22_code
def yX1_festival : MethodName := ⟨RX1, "festival", "()Z"⟩
def dkwX1_festival_0 : List UInt8 := [42, 42, 180, 0, 105, 154, 0, 7, 4, 167, 0, 4, 3, 181, 0, 105, 42, 180, 0, 105, 172]
abbrev dktX1_festival_0 : List UInt8 := dkwX1_festival_0 ++ []
theorem dksX1_festival_0 : cX1_festival.data.toList.drop 0 = dktX1_festival_0 := by decide +kernel
theorem dX1_festival_0 : decode cX1_festival 0 = .ok (.aload_n 0, 1) := dk_42 (dk_at dksX1_festival_0 0 rfl rfl)
theorem dX1_festival_1 : decode cX1_festival 1 = .ok (.aload_n 0, 1) := dk_42 (dk_at dksX1_festival_0 1 rfl rfl)
theorem dX1_festival_2 : decode cX1_festival 2 = .ok (.getfield 105, 3) := dk_180 0 105 (dk_at dksX1_festival_0 2 rfl rfl)
theorem dX1_festival_5 : decode cX1_festival 5 = .ok (.ifCond .ne 7, 3) := dk_154 0 7 (dk_at dksX1_festival_0 5 rfl rfl)
theorem dX1_festival_8 : decode cX1_festival 8 = .ok (.iconst 1, 1) := dk_4 (dk_at dksX1_festival_0 8 rfl rfl)
theorem dX1_festival_9 : decode cX1_festival 9 = .ok (.goto 4, 3) := dk_167 0 4 (dk_at dksX1_festival_0 9 rfl rfl)
theorem dX1_festival_12 : decode cX1_festival 12 = .ok (.iconst 0, 1) := dk_3 (dk_at dksX1_festival_0 12 rfl rfl)
theorem dX1_festival_13 : decode cX1_festival 13 = .ok (.putfield 105, 3) := dk_181 0 105 (dk_at dksX1_festival_0 13 rfl rfl)
theorem dX1_festival_16 : decode cX1_festival 16 = .ok (.aload_n 0, 1) := dk_42 (dk_at dksX1_festival_0 16 rfl rfl)
theorem dX1_festival_17 : decode cX1_festival 17 = .ok (.getfield 105, 3) := dk_180 0 105 (dk_at dksX1_festival_0 17 rfl rfl)
theorem dX1_festival_20 : decode cX1_festival 20 = .ok (.ireturn, 1) := dk_172 (dk_at dksX1_festival_0 20 rfl rfl)
abbrev cX1_ring : ByteArray := prog_1_method_43_code
def yX1_ring : MethodName := ⟨RX1, "ring", "()J"⟩
def dkwX1_ring_4 : List UInt8 := [167, 255, 180, 31, 173]
abbrev dktX1_ring_4 : List UInt8 := dkwX1_ring_4 ++ []
def dkwX1_ring_3 : List UInt8 := [184, 1, 80, 153, 0, 6, 167, 255, 197, 31, 42, 25, 4, 25, 6, 182, 1, 84, 97, 64, 167, 255, 212]
abbrev dktX1_ring_3 : List UInt8 := dkwX1_ring_3 ++ dktX1_ring_4
def dkwX1_ring_2 : List UInt8 := [185, 0, 130, 1, 0, 153, 0, 40, 25, 5, 185, 0, 136, 1, 0, 192, 0, 83, 58, 6, 25, 4]
abbrev dktX1_ring_2 : List UInt8 := dkwX1_ring_2 ++ dktX1_ring_3
def dkwX1_ring_1 : List UInt8 := [185, 0, 136, 1, 0, 192, 0, 83, 58, 4, 42, 180, 0, 53, 182, 0, 126, 58, 5, 25, 5]
abbrev dktX1_ring_1 : List UInt8 := dkwX1_ring_1 ++ dktX1_ring_2
def dkwX1_ring_0 : List UInt8 := [9, 64, 42, 180, 0, 53, 182, 0, 126, 78, 45, 185, 0, 130, 1, 0, 153, 0, 73, 45]
abbrev dktX1_ring_0 : List UInt8 := dkwX1_ring_0 ++ dktX1_ring_1
theorem dksX1_ring_0 : cX1_ring.data.toList.drop 0 = dktX1_ring_0 := by decide +kernel
theorem dksX1_ring_1 : cX1_ring.data.toList.drop 20 = dktX1_ring_1 := dk_seg dksX1_ring_0 20 rfl rfl
theorem dksX1_ring_2 : cX1_ring.data.toList.drop 41 = dktX1_ring_2 := dk_seg dksX1_ring_1 21 rfl rfl
theorem dksX1_ring_3 : cX1_ring.data.toList.drop 63 = dktX1_ring_3 := dk_seg dksX1_ring_2 22 rfl rfl
theorem dksX1_ring_4 : cX1_ring.data.toList.drop 86 = dktX1_ring_4 := dk_seg dksX1_ring_3 23 rfl rfl
theorem dX1_ring_0 : decode cX1_ring 0 = .ok (.lconst 0, 1) := dk_9 (dk_at dksX1_ring_0 0 rfl rfl)
theorem dX1_ring_1 : decode cX1_ring 1 = .ok (.lstore_n 1, 1) := dk_64 (dk_at dksX1_ring_0 1 rfl rfl)
theorem dX1_ring_2 : decode cX1_ring 2 = .ok (.aload_n 0, 1) := dk_42 (dk_at dksX1_ring_0 2 rfl rfl)
theorem dX1_ring_3 : decode cX1_ring 3 = .ok (.getfield 53, 3) := dk_180 0 53 (dk_at dksX1_ring_0 3 rfl rfl)
theorem dX1_ring_6 : decode cX1_ring 6 = .ok (.invokevirtual 126, 3) := dk_182 0 126 (dk_at dksX1_ring_0 6 rfl rfl)
theorem dX1_ring_9 : decode cX1_ring 9 = .ok (.astore_n 3, 1) := dk_78 (dk_at dksX1_ring_0 9 rfl rfl)
theorem dX1_ring_10 : decode cX1_ring 10 = .ok (.aload_n 3, 1) := dk_45 (dk_at dksX1_ring_0 10 rfl rfl)
theorem dX1_ring_11 : decode cX1_ring 11 = .ok (.invokeinterface 130 1, 5) := by decide +kernel
theorem dX1_ring_16 : decode cX1_ring 16 = .ok (.ifCond .eq 73, 3) := dk_153 0 73 (dk_at dksX1_ring_0 16 rfl rfl)
theorem dX1_ring_19 : decode cX1_ring 19 = .ok (.aload_n 3, 1) := dk_45 (dk_at dksX1_ring_0 19 rfl rfl)
theorem dX1_ring_20 : decode cX1_ring 20 = .ok (.invokeinterface 136 1, 5) := by decide +kernel
theorem dX1_ring_25 : decode cX1_ring 25 = .ok (.checkcast 83, 3) := dk_192 0 83 (dk_at dksX1_ring_1 5 rfl rfl)
theorem dX1_ring_28 : decode cX1_ring 28 = .ok (.astore 4, 2) := dk_58 4 (dk_at dksX1_ring_1 8 rfl rfl)
theorem dX1_ring_30 : decode cX1_ring 30 = .ok (.aload_n 0, 1) := dk_42 (dk_at dksX1_ring_1 10 rfl rfl)
theorem dX1_ring_31 : decode cX1_ring 31 = .ok (.getfield 53, 3) := dk_180 0 53 (dk_at dksX1_ring_1 11 rfl rfl)
theorem dX1_ring_34 : decode cX1_ring 34 = .ok (.invokevirtual 126, 3) := dk_182 0 126 (dk_at dksX1_ring_1 14 rfl rfl)
theorem dX1_ring_37 : decode cX1_ring 37 = .ok (.astore 5, 2) := dk_58 5 (dk_at dksX1_ring_1 17 rfl rfl)
theorem dX1_ring_39 : decode cX1_ring 39 = .ok (.aload 5, 2) := dk_25 5 (dk_at dksX1_ring_1 19 rfl rfl)
theorem dX1_ring_41 : decode cX1_ring 41 = .ok (.invokeinterface 130 1, 5) := by decide +kernel
theorem dX1_ring_46 : decode cX1_ring 46 = .ok (.ifCond .eq 40, 3) := dk_153 0 40 (dk_at dksX1_ring_2 5 rfl rfl)
theorem dX1_ring_49 : decode cX1_ring 49 = .ok (.aload 5, 2) := dk_25 5 (dk_at dksX1_ring_2 8 rfl rfl)
theorem dX1_ring_51 : decode cX1_ring 51 = .ok (.invokeinterface 136 1, 5) := by decide +kernel
theorem dX1_ring_56 : decode cX1_ring 56 = .ok (.checkcast 83, 3) := dk_192 0 83 (dk_at dksX1_ring_2 15 rfl rfl)
theorem dX1_ring_59 : decode cX1_ring 59 = .ok (.astore 6, 2) := dk_58 6 (dk_at dksX1_ring_2 18 rfl rfl)
theorem dX1_ring_61 : decode cX1_ring 61 = .ok (.aload 4, 2) := dk_25 4 (dk_at dksX1_ring_2 20 rfl rfl)
theorem dX1_ring_63 : decode cX1_ring 63 = .ok (.invokestatic 336, 3) := dk_184 1 80 (dk_at dksX1_ring_3 0 rfl rfl)
theorem dX1_ring_66 : decode cX1_ring 66 = .ok (.ifCond .eq 6, 3) := dk_153 0 6 (dk_at dksX1_ring_3 3 rfl rfl)
theorem dX1_ring_69 : decode cX1_ring 69 = .ok (.goto (-59), 3) := dk_167 255 197 (dk_at dksX1_ring_3 6 rfl rfl)
theorem dX1_ring_72 : decode cX1_ring 72 = .ok (.lload_n 1, 1) := dk_31 (dk_at dksX1_ring_3 9 rfl rfl)
theorem dX1_ring_73 : decode cX1_ring 73 = .ok (.aload_n 0, 1) := dk_42 (dk_at dksX1_ring_3 10 rfl rfl)
theorem dX1_ring_74 : decode cX1_ring 74 = .ok (.aload 4, 2) := dk_25 4 (dk_at dksX1_ring_3 11 rfl rfl)
theorem dX1_ring_76 : decode cX1_ring 76 = .ok (.aload 6, 2) := dk_25 6 (dk_at dksX1_ring_3 13 rfl rfl)
theorem dX1_ring_78 : decode cX1_ring 78 = .ok (.invokevirtual 340, 3) := dk_182 1 84 (dk_at dksX1_ring_3 15 rfl rfl)
theorem dX1_ring_81 : decode cX1_ring 81 = .ok (.ladd, 1) := dk_97 (dk_at dksX1_ring_3 18 rfl rfl)
theorem dX1_ring_82 : decode cX1_ring 82 = .ok (.lstore_n 1, 1) := dk_64 (dk_at dksX1_ring_3 19 rfl rfl)
theorem dX1_ring_83 : decode cX1_ring 83 = .ok (.goto (-44), 3) := dk_167 255 212 (dk_at dksX1_ring_3 20 rfl rfl)
theorem dX1_ring_86 : decode cX1_ring 86 = .ok (.goto (-76), 3) := dk_167 255 180 (dk_at dksX1_ring_4 0 rfl rfl)
theorem dX1_ring_89 : decode cX1_ring 89 = .ok (.lload_n 1, 1) := dk_31 (dk_at dksX1_ring_4 3 rfl rfl)
theorem dX1_ring_90 : decode cX1_ring 90 = .ok (.lreturn, 1) := dk_173 (dk_at dksX1_ring_4 4 rfl rfl)
abbrev cX1_isClear : ByteArray := prog_1_method_44_code
def yX1_isClear : MethodName := ⟨RX1, "isClear", "(LHundiHall$Broker;)Z"⟩
def dkwX1_isClear_2 : List UInt8 := [172]
abbrev dktX1_isClear_2 : List UInt8 := dkwX1_isClear_2 ++ []
def dkwX1_isClear_1 : List UInt8 := [55, 5, 27, 22, 5, 9, 148, 154, 0, 7, 4, 167, 0, 4, 3, 126, 60, 132, 4, 1, 167, 255, 226, 27]
abbrev dktX1_isClear_1 : List UInt8 := dkwX1_isClear_1 ++ dktX1_isClear_2
def dkwX1_isClear_0 : List UInt8 := [4, 60, 42, 180, 0, 88, 77, 44, 190, 62, 3, 54, 4, 21, 4, 29, 162, 0, 30, 44, 21, 4, 47]
abbrev dktX1_isClear_0 : List UInt8 := dkwX1_isClear_0 ++ dktX1_isClear_1
theorem dksX1_isClear_0 : cX1_isClear.data.toList.drop 0 = dktX1_isClear_0 := by decide +kernel
theorem dksX1_isClear_1 : cX1_isClear.data.toList.drop 23 = dktX1_isClear_1 := dk_seg dksX1_isClear_0 23 rfl rfl
theorem dksX1_isClear_2 : cX1_isClear.data.toList.drop 47 = dktX1_isClear_2 := dk_seg dksX1_isClear_1 24 rfl rfl
theorem dX1_isClear_0 : decode cX1_isClear 0 = .ok (.iconst 1, 1) := dk_4 (dk_at dksX1_isClear_0 0 rfl rfl)
theorem dX1_isClear_1 : decode cX1_isClear 1 = .ok (.istore_n 1, 1) := dk_60 (dk_at dksX1_isClear_0 1 rfl rfl)
theorem dX1_isClear_2 : decode cX1_isClear 2 = .ok (.aload_n 0, 1) := dk_42 (dk_at dksX1_isClear_0 2 rfl rfl)
theorem dX1_isClear_3 : decode cX1_isClear 3 = .ok (.getfield 88, 3) := dk_180 0 88 (dk_at dksX1_isClear_0 3 rfl rfl)
theorem dX1_isClear_6 : decode cX1_isClear 6 = .ok (.astore_n 2, 1) := dk_77 (dk_at dksX1_isClear_0 6 rfl rfl)
theorem dX1_isClear_7 : decode cX1_isClear 7 = .ok (.aload_n 2, 1) := dk_44 (dk_at dksX1_isClear_0 7 rfl rfl)
theorem dX1_isClear_8 : decode cX1_isClear 8 = .ok (.arraylength, 1) := dk_190 (dk_at dksX1_isClear_0 8 rfl rfl)
theorem dX1_isClear_9 : decode cX1_isClear 9 = .ok (.istore_n 3, 1) := dk_62 (dk_at dksX1_isClear_0 9 rfl rfl)
theorem dX1_isClear_10 : decode cX1_isClear 10 = .ok (.iconst 0, 1) := dk_3 (dk_at dksX1_isClear_0 10 rfl rfl)
theorem dX1_isClear_11 : decode cX1_isClear 11 = .ok (.istore 4, 2) := dk_54 4 (dk_at dksX1_isClear_0 11 rfl rfl)
theorem dX1_isClear_13 : decode cX1_isClear 13 = .ok (.iload 4, 2) := dk_21 4 (dk_at dksX1_isClear_0 13 rfl rfl)
theorem dX1_isClear_15 : decode cX1_isClear 15 = .ok (.iload_n 3, 1) := dk_29 (dk_at dksX1_isClear_0 15 rfl rfl)
theorem dX1_isClear_16 : decode cX1_isClear 16 = .ok (.if_icmp .ge 30, 3) := dk_162 0 30 (dk_at dksX1_isClear_0 16 rfl rfl)
theorem dX1_isClear_19 : decode cX1_isClear 19 = .ok (.aload_n 2, 1) := dk_44 (dk_at dksX1_isClear_0 19 rfl rfl)
theorem dX1_isClear_20 : decode cX1_isClear 20 = .ok (.iload 4, 2) := dk_21 4 (dk_at dksX1_isClear_0 20 rfl rfl)
theorem dX1_isClear_22 : decode cX1_isClear 22 = .ok (.laload, 1) := dk_47 (dk_at dksX1_isClear_0 22 rfl rfl)
theorem dX1_isClear_23 : decode cX1_isClear 23 = .ok (.lstore 5, 2) := dk_55 5 (dk_at dksX1_isClear_1 0 rfl rfl)
theorem dX1_isClear_25 : decode cX1_isClear 25 = .ok (.iload_n 1, 1) := dk_27 (dk_at dksX1_isClear_1 2 rfl rfl)
theorem dX1_isClear_26 : decode cX1_isClear 26 = .ok (.lload 5, 2) := dk_22 5 (dk_at dksX1_isClear_1 3 rfl rfl)
theorem dX1_isClear_28 : decode cX1_isClear 28 = .ok (.lconst 0, 1) := dk_9 (dk_at dksX1_isClear_1 5 rfl rfl)
theorem dX1_isClear_29 : decode cX1_isClear 29 = .ok (.lcmp, 1) := dk_148 (dk_at dksX1_isClear_1 6 rfl rfl)
theorem dX1_isClear_30 : decode cX1_isClear 30 = .ok (.ifCond .ne 7, 3) := dk_154 0 7 (dk_at dksX1_isClear_1 7 rfl rfl)
theorem dX1_isClear_33 : decode cX1_isClear 33 = .ok (.iconst 1, 1) := dk_4 (dk_at dksX1_isClear_1 10 rfl rfl)
theorem dX1_isClear_34 : decode cX1_isClear 34 = .ok (.goto 4, 3) := dk_167 0 4 (dk_at dksX1_isClear_1 11 rfl rfl)
theorem dX1_isClear_37 : decode cX1_isClear 37 = .ok (.iconst 0, 1) := dk_3 (dk_at dksX1_isClear_1 14 rfl rfl)
theorem dX1_isClear_38 : decode cX1_isClear 38 = .ok (.iand, 1) := dk_126 (dk_at dksX1_isClear_1 15 rfl rfl)
theorem dX1_isClear_39 : decode cX1_isClear 39 = .ok (.istore_n 1, 1) := dk_60 (dk_at dksX1_isClear_1 16 rfl rfl)
theorem dX1_isClear_40 : decode cX1_isClear 40 = .ok (.iinc 4 1, 3) := dk_132 4 1 (dk_at dksX1_isClear_1 17 rfl rfl)
theorem dX1_isClear_43 : decode cX1_isClear 43 = .ok (.goto (-30), 3) := dk_167 255 226 (dk_at dksX1_isClear_1 20 rfl rfl)
theorem dX1_isClear_46 : decode cX1_isClear 46 = .ok (.iload_n 1, 1) := dk_27 (dk_at dksX1_isClear_1 23 rfl rfl)
theorem dX1_isClear_47 : decode cX1_isClear 47 = .ok (.ireturn, 1) := dk_172 (dk_at dksX1_isClear_2 0 rfl rfl)
abbrev cX1_clear : ByteArray := prog_1_method_45_code
def yX1_clear : MethodName := ⟨RX1, "clear", "(LHundiHall$Broker;LHundiHall$Broker;)J"⟩
def dkwX1_clear_4 : List UInt8 := [25, 6, 43, 22, 7, 117, 184, 1, 6, 33, 22, 7, 97, 66, 167, 255, 159, 33, 173]
abbrev dktX1_clear_4 : List UInt8 := dkwX1_clear_4 ++ []
def dkwX1_clear_3 : List UInt8 := [22, 7, 9, 148, 158, 0, 34, 43, 44, 22, 7, 117, 184, 1, 6, 44, 25, 6, 22, 7, 117, 184, 1, 6]
abbrev dktX1_clear_3 : List UInt8 := dkwX1_clear_3 ++ dktX1_clear_4
def dkwX1_clear_2 : List UInt8 := [25, 6, 180, 0, 91, 47, 25, 6, 180, 0, 88, 43, 180, 0, 91, 47, 184, 1, 87, 184, 1, 87, 55, 7]
abbrev dktX1_clear_2 : List UInt8 := dkwX1_clear_2 ++ dktX1_clear_3
def dkwX1_clear_1 : List UInt8 := [185, 0, 136, 1, 0, 192, 0, 83, 58, 6, 43, 180, 0, 88, 44, 180, 0, 91, 47, 44, 180, 0, 88]
abbrev dktX1_clear_1 : List UInt8 := dkwX1_clear_1 ++ dktX1_clear_2
def dkwX1_clear_0 : List UInt8 := [9, 66, 42, 180, 0, 53, 182, 0, 126, 58, 5, 25, 5, 185, 0, 130, 1, 0, 153, 0, 93, 25, 5]
abbrev dktX1_clear_0 : List UInt8 := dkwX1_clear_0 ++ dktX1_clear_1
theorem dksX1_clear_0 : cX1_clear.data.toList.drop 0 = dktX1_clear_0 := by decide +kernel
theorem dksX1_clear_1 : cX1_clear.data.toList.drop 23 = dktX1_clear_1 := dk_seg dksX1_clear_0 23 rfl rfl
theorem dksX1_clear_2 : cX1_clear.data.toList.drop 46 = dktX1_clear_2 := dk_seg dksX1_clear_1 23 rfl rfl
theorem dksX1_clear_3 : cX1_clear.data.toList.drop 70 = dktX1_clear_3 := dk_seg dksX1_clear_2 24 rfl rfl
theorem dksX1_clear_4 : cX1_clear.data.toList.drop 94 = dktX1_clear_4 := dk_seg dksX1_clear_3 24 rfl rfl
theorem dX1_clear_0 : decode cX1_clear 0 = .ok (.lconst 0, 1) := dk_9 (dk_at dksX1_clear_0 0 rfl rfl)
theorem dX1_clear_1 : decode cX1_clear 1 = .ok (.lstore_n 3, 1) := dk_66 (dk_at dksX1_clear_0 1 rfl rfl)
theorem dX1_clear_2 : decode cX1_clear 2 = .ok (.aload_n 0, 1) := dk_42 (dk_at dksX1_clear_0 2 rfl rfl)
theorem dX1_clear_3 : decode cX1_clear 3 = .ok (.getfield 53, 3) := dk_180 0 53 (dk_at dksX1_clear_0 3 rfl rfl)
theorem dX1_clear_6 : decode cX1_clear 6 = .ok (.invokevirtual 126, 3) := dk_182 0 126 (dk_at dksX1_clear_0 6 rfl rfl)
theorem dX1_clear_9 : decode cX1_clear 9 = .ok (.astore 5, 2) := dk_58 5 (dk_at dksX1_clear_0 9 rfl rfl)
theorem dX1_clear_11 : decode cX1_clear 11 = .ok (.aload 5, 2) := dk_25 5 (dk_at dksX1_clear_0 11 rfl rfl)
theorem dX1_clear_13 : decode cX1_clear 13 = .ok (.invokeinterface 130 1, 5) := by decide +kernel
theorem dX1_clear_18 : decode cX1_clear 18 = .ok (.ifCond .eq 93, 3) := dk_153 0 93 (dk_at dksX1_clear_0 18 rfl rfl)
theorem dX1_clear_21 : decode cX1_clear 21 = .ok (.aload 5, 2) := dk_25 5 (dk_at dksX1_clear_0 21 rfl rfl)
theorem dX1_clear_23 : decode cX1_clear 23 = .ok (.invokeinterface 136 1, 5) := by decide +kernel
theorem dX1_clear_28 : decode cX1_clear 28 = .ok (.checkcast 83, 3) := dk_192 0 83 (dk_at dksX1_clear_1 5 rfl rfl)
theorem dX1_clear_31 : decode cX1_clear 31 = .ok (.astore 6, 2) := dk_58 6 (dk_at dksX1_clear_1 8 rfl rfl)
theorem dX1_clear_33 : decode cX1_clear 33 = .ok (.aload_n 1, 1) := dk_43 (dk_at dksX1_clear_1 10 rfl rfl)
theorem dX1_clear_34 : decode cX1_clear 34 = .ok (.getfield 88, 3) := dk_180 0 88 (dk_at dksX1_clear_1 11 rfl rfl)
theorem dX1_clear_37 : decode cX1_clear 37 = .ok (.aload_n 2, 1) := dk_44 (dk_at dksX1_clear_1 14 rfl rfl)
theorem dX1_clear_38 : decode cX1_clear 38 = .ok (.getfield 91, 3) := dk_180 0 91 (dk_at dksX1_clear_1 15 rfl rfl)
theorem dX1_clear_41 : decode cX1_clear 41 = .ok (.laload, 1) := dk_47 (dk_at dksX1_clear_1 18 rfl rfl)
theorem dX1_clear_42 : decode cX1_clear 42 = .ok (.aload_n 2, 1) := dk_44 (dk_at dksX1_clear_1 19 rfl rfl)
theorem dX1_clear_43 : decode cX1_clear 43 = .ok (.getfield 88, 3) := dk_180 0 88 (dk_at dksX1_clear_1 20 rfl rfl)
theorem dX1_clear_46 : decode cX1_clear 46 = .ok (.aload 6, 2) := dk_25 6 (dk_at dksX1_clear_2 0 rfl rfl)
theorem dX1_clear_48 : decode cX1_clear 48 = .ok (.getfield 91, 3) := dk_180 0 91 (dk_at dksX1_clear_2 2 rfl rfl)
theorem dX1_clear_51 : decode cX1_clear 51 = .ok (.laload, 1) := dk_47 (dk_at dksX1_clear_2 5 rfl rfl)
theorem dX1_clear_52 : decode cX1_clear 52 = .ok (.aload 6, 2) := dk_25 6 (dk_at dksX1_clear_2 6 rfl rfl)
theorem dX1_clear_54 : decode cX1_clear 54 = .ok (.getfield 88, 3) := dk_180 0 88 (dk_at dksX1_clear_2 8 rfl rfl)
theorem dX1_clear_57 : decode cX1_clear 57 = .ok (.aload_n 1, 1) := dk_43 (dk_at dksX1_clear_2 11 rfl rfl)
theorem dX1_clear_58 : decode cX1_clear 58 = .ok (.getfield 91, 3) := dk_180 0 91 (dk_at dksX1_clear_2 12 rfl rfl)
theorem dX1_clear_61 : decode cX1_clear 61 = .ok (.laload, 1) := dk_47 (dk_at dksX1_clear_2 15 rfl rfl)
theorem dX1_clear_62 : decode cX1_clear 62 = .ok (.invokestatic 343, 3) := dk_184 1 87 (dk_at dksX1_clear_2 16 rfl rfl)
theorem dX1_clear_65 : decode cX1_clear 65 = .ok (.invokestatic 343, 3) := dk_184 1 87 (dk_at dksX1_clear_2 19 rfl rfl)
theorem dX1_clear_68 : decode cX1_clear 68 = .ok (.lstore 7, 2) := dk_55 7 (dk_at dksX1_clear_2 22 rfl rfl)
theorem dX1_clear_70 : decode cX1_clear 70 = .ok (.lload 7, 2) := dk_22 7 (dk_at dksX1_clear_3 0 rfl rfl)
theorem dX1_clear_72 : decode cX1_clear 72 = .ok (.lconst 0, 1) := dk_9 (dk_at dksX1_clear_3 2 rfl rfl)
theorem dX1_clear_73 : decode cX1_clear 73 = .ok (.lcmp, 1) := dk_148 (dk_at dksX1_clear_3 3 rfl rfl)
theorem dX1_clear_74 : decode cX1_clear 74 = .ok (.ifCond .le 34, 3) := dk_158 0 34 (dk_at dksX1_clear_3 4 rfl rfl)
theorem dX1_clear_77 : decode cX1_clear 77 = .ok (.aload_n 1, 1) := dk_43 (dk_at dksX1_clear_3 7 rfl rfl)
theorem dX1_clear_78 : decode cX1_clear 78 = .ok (.aload_n 2, 1) := dk_44 (dk_at dksX1_clear_3 8 rfl rfl)
theorem dX1_clear_79 : decode cX1_clear 79 = .ok (.lload 7, 2) := dk_22 7 (dk_at dksX1_clear_3 9 rfl rfl)
theorem dX1_clear_81 : decode cX1_clear 81 = .ok (.lneg, 1) := dk_117 (dk_at dksX1_clear_3 11 rfl rfl)
theorem dX1_clear_82 : decode cX1_clear 82 = .ok (.invokestatic 262, 3) := dk_184 1 6 (dk_at dksX1_clear_3 12 rfl rfl)
theorem dX1_clear_85 : decode cX1_clear 85 = .ok (.aload_n 2, 1) := dk_44 (dk_at dksX1_clear_3 15 rfl rfl)
theorem dX1_clear_86 : decode cX1_clear 86 = .ok (.aload 6, 2) := dk_25 6 (dk_at dksX1_clear_3 16 rfl rfl)
theorem dX1_clear_88 : decode cX1_clear 88 = .ok (.lload 7, 2) := dk_22 7 (dk_at dksX1_clear_3 18 rfl rfl)
theorem dX1_clear_90 : decode cX1_clear 90 = .ok (.lneg, 1) := dk_117 (dk_at dksX1_clear_3 20 rfl rfl)
theorem dX1_clear_91 : decode cX1_clear 91 = .ok (.invokestatic 262, 3) := dk_184 1 6 (dk_at dksX1_clear_3 21 rfl rfl)
theorem dX1_clear_94 : decode cX1_clear 94 = .ok (.aload 6, 2) := dk_25 6 (dk_at dksX1_clear_4 0 rfl rfl)
theorem dX1_clear_96 : decode cX1_clear 96 = .ok (.aload_n 1, 1) := dk_43 (dk_at dksX1_clear_4 2 rfl rfl)
theorem dX1_clear_97 : decode cX1_clear 97 = .ok (.lload 7, 2) := dk_22 7 (dk_at dksX1_clear_4 3 rfl rfl)
theorem dX1_clear_99 : decode cX1_clear 99 = .ok (.lneg, 1) := dk_117 (dk_at dksX1_clear_4 5 rfl rfl)
theorem dX1_clear_100 : decode cX1_clear 100 = .ok (.invokestatic 262, 3) := dk_184 1 6 (dk_at dksX1_clear_4 6 rfl rfl)
theorem dX1_clear_103 : decode cX1_clear 103 = .ok (.lload_n 3, 1) := dk_33 (dk_at dksX1_clear_4 9 rfl rfl)
theorem dX1_clear_104 : decode cX1_clear 104 = .ok (.lload 7, 2) := dk_22 7 (dk_at dksX1_clear_4 10 rfl rfl)
theorem dX1_clear_106 : decode cX1_clear 106 = .ok (.ladd, 1) := dk_97 (dk_at dksX1_clear_4 12 rfl rfl)
theorem dX1_clear_107 : decode cX1_clear 107 = .ok (.lstore_n 3, 1) := dk_66 (dk_at dksX1_clear_4 13 rfl rfl)
theorem dX1_clear_108 : decode cX1_clear 108 = .ok (.goto (-97), 3) := dk_167 255 159 (dk_at dksX1_clear_4 14 rfl rfl)
theorem dX1_clear_111 : decode cX1_clear 111 = .ok (.lload_n 3, 1) := dk_33 (dk_at dksX1_clear_4 17 rfl rfl)
theorem dX1_clear_112 : decode cX1_clear 112 = .ok (.lreturn, 1) := dk_173 (dk_at dksX1_clear_4 18 rfl rfl)
abbrev cX1_settle : ByteArray := prog_1_method_14_code
def yX1_settle : MethodName := ⟨RX1, "settle", "(LHundiHall$Broker;LHundiHall$Broker;J)V"⟩
def dkwX1_settle_0 : List UInt8 := [42, 43, 32, 184, 0, 98, 42, 43, 32, 184, 0, 102, 43, 42, 32, 117, 184, 0, 102, 177]
abbrev dktX1_settle_0 : List UInt8 := dkwX1_settle_0 ++ []
theorem dksX1_settle_0 : cX1_settle.data.toList.drop 0 = dktX1_settle_0 := by decide +kernel
theorem dX1_settle_0 : decode cX1_settle 0 = .ok (.aload_n 0, 1) := dk_42 (dk_at dksX1_settle_0 0 rfl rfl)
theorem dX1_settle_1 : decode cX1_settle 1 = .ok (.aload_n 1, 1) := dk_43 (dk_at dksX1_settle_0 1 rfl rfl)
theorem dX1_settle_2 : decode cX1_settle 2 = .ok (.lload_n 2, 1) := dk_32 (dk_at dksX1_settle_0 2 rfl rfl)
theorem dX1_settle_3 : decode cX1_settle 3 = .ok (.invokestatic 98, 3) := dk_184 0 98 (dk_at dksX1_settle_0 3 rfl rfl)
theorem dX1_settle_6 : decode cX1_settle 6 = .ok (.aload_n 0, 1) := dk_42 (dk_at dksX1_settle_0 6 rfl rfl)
theorem dX1_settle_7 : decode cX1_settle 7 = .ok (.aload_n 1, 1) := dk_43 (dk_at dksX1_settle_0 7 rfl rfl)
theorem dX1_settle_8 : decode cX1_settle 8 = .ok (.lload_n 2, 1) := dk_32 (dk_at dksX1_settle_0 8 rfl rfl)
theorem dX1_settle_9 : decode cX1_settle 9 = .ok (.invokestatic 102, 3) := dk_184 0 102 (dk_at dksX1_settle_0 9 rfl rfl)
theorem dX1_settle_12 : decode cX1_settle 12 = .ok (.aload_n 1, 1) := dk_43 (dk_at dksX1_settle_0 12 rfl rfl)
theorem dX1_settle_13 : decode cX1_settle 13 = .ok (.aload_n 0, 1) := dk_42 (dk_at dksX1_settle_0 13 rfl rfl)
theorem dX1_settle_14 : decode cX1_settle 14 = .ok (.lload_n 2, 1) := dk_32 (dk_at dksX1_settle_0 14 rfl rfl)
theorem dX1_settle_15 : decode cX1_settle 15 = .ok (.lneg, 1) := dk_117 (dk_at dksX1_settle_0 15 rfl rfl)
theorem dX1_settle_16 : decode cX1_settle 16 = .ok (.invokestatic 102, 3) := dk_184 0 102 (dk_at dksX1_settle_0 16 rfl rfl)
theorem dX1_settle_19 : decode cX1_settle 19 = .ok (.return_, 1) := dk_177 (dk_at dksX1_settle_0 19 rfl rfl)
abbrev cX1_owe : ByteArray := prog_1_method_12_code
def yX1_owe : MethodName := ⟨RX1, "owe", "(LHundiHall$Broker;LHundiHall$Broker;J)V"⟩
def dkwX1_owe_1 : List UInt8 := [101, 80, 177]
abbrev dktX1_owe_1 : List UInt8 := dkwX1_owe_1 ++ []
def dkwX1_owe_0 : List UInt8 := [42, 180, 0, 88, 43, 180, 0, 91, 92, 47, 32, 97, 80, 43, 180, 0, 88, 42, 180, 0, 91, 92, 47, 32]
abbrev dktX1_owe_0 : List UInt8 := dkwX1_owe_0 ++ dktX1_owe_1
theorem dksX1_owe_0 : cX1_owe.data.toList.drop 0 = dktX1_owe_0 := by decide +kernel
theorem dksX1_owe_1 : cX1_owe.data.toList.drop 24 = dktX1_owe_1 := dk_seg dksX1_owe_0 24 rfl rfl
theorem dX1_owe_0 : decode cX1_owe 0 = .ok (.aload_n 0, 1) := dk_42 (dk_at dksX1_owe_0 0 rfl rfl)
theorem dX1_owe_1 : decode cX1_owe 1 = .ok (.getfield 88, 3) := dk_180 0 88 (dk_at dksX1_owe_0 1 rfl rfl)
theorem dX1_owe_4 : decode cX1_owe 4 = .ok (.aload_n 1, 1) := dk_43 (dk_at dksX1_owe_0 4 rfl rfl)
theorem dX1_owe_5 : decode cX1_owe 5 = .ok (.getfield 91, 3) := dk_180 0 91 (dk_at dksX1_owe_0 5 rfl rfl)
theorem dX1_owe_8 : decode cX1_owe 8 = .ok (.dup2, 1) := dk_92 (dk_at dksX1_owe_0 8 rfl rfl)
theorem dX1_owe_9 : decode cX1_owe 9 = .ok (.laload, 1) := dk_47 (dk_at dksX1_owe_0 9 rfl rfl)
theorem dX1_owe_10 : decode cX1_owe 10 = .ok (.lload_n 2, 1) := dk_32 (dk_at dksX1_owe_0 10 rfl rfl)
theorem dX1_owe_11 : decode cX1_owe 11 = .ok (.ladd, 1) := dk_97 (dk_at dksX1_owe_0 11 rfl rfl)
theorem dX1_owe_12 : decode cX1_owe 12 = .ok (.lastore, 1) := dk_80 (dk_at dksX1_owe_0 12 rfl rfl)
theorem dX1_owe_13 : decode cX1_owe 13 = .ok (.aload_n 1, 1) := dk_43 (dk_at dksX1_owe_0 13 rfl rfl)
theorem dX1_owe_14 : decode cX1_owe 14 = .ok (.getfield 88, 3) := dk_180 0 88 (dk_at dksX1_owe_0 14 rfl rfl)
theorem dX1_owe_17 : decode cX1_owe 17 = .ok (.aload_n 0, 1) := dk_42 (dk_at dksX1_owe_0 17 rfl rfl)
theorem dX1_owe_18 : decode cX1_owe 18 = .ok (.getfield 91, 3) := dk_180 0 91 (dk_at dksX1_owe_0 18 rfl rfl)
theorem dX1_owe_21 : decode cX1_owe 21 = .ok (.dup2, 1) := dk_92 (dk_at dksX1_owe_0 21 rfl rfl)
theorem dX1_owe_22 : decode cX1_owe 22 = .ok (.laload, 1) := dk_47 (dk_at dksX1_owe_0 22 rfl rfl)
theorem dX1_owe_23 : decode cX1_owe 23 = .ok (.lload_n 2, 1) := dk_32 (dk_at dksX1_owe_0 23 rfl rfl)
theorem dX1_owe_24 : decode cX1_owe 24 = .ok (.lsub, 1) := dk_101 (dk_at dksX1_owe_1 0 rfl rfl)
theorem dX1_owe_25 : decode cX1_owe 25 = .ok (.lastore, 1) := dk_80 (dk_at dksX1_owe_1 1 rfl rfl)
theorem dX1_owe_26 : decode cX1_owe 26 = .ok (.return_, 1) := dk_177 (dk_at dksX1_owe_1 2 rfl rfl)
abbrev cX1_write : ByteArray := prog_1_method_13_code
def yX1_write : MethodName := ⟨RX1, "write", "(LHundiHall$Broker;LHundiHall$Broker;J)V"⟩
def dkwX1_write_0 : List UInt8 := [42, 180, 0, 95, 43, 180, 0, 91, 92, 47, 32, 97, 80, 177]
abbrev dktX1_write_0 : List UInt8 := dkwX1_write_0 ++ []
theorem dksX1_write_0 : cX1_write.data.toList.drop 0 = dktX1_write_0 := by decide +kernel
theorem dX1_write_0 : decode cX1_write 0 = .ok (.aload_n 0, 1) := dk_42 (dk_at dksX1_write_0 0 rfl rfl)
theorem dX1_write_1 : decode cX1_write 1 = .ok (.getfield 95, 3) := dk_180 0 95 (dk_at dksX1_write_0 1 rfl rfl)
theorem dX1_write_4 : decode cX1_write 4 = .ok (.aload_n 1, 1) := dk_43 (dk_at dksX1_write_0 4 rfl rfl)
theorem dX1_write_5 : decode cX1_write 5 = .ok (.getfield 91, 3) := dk_180 0 91 (dk_at dksX1_write_0 5 rfl rfl)
theorem dX1_write_8 : decode cX1_write 8 = .ok (.dup2, 1) := dk_92 (dk_at dksX1_write_0 8 rfl rfl)
theorem dX1_write_9 : decode cX1_write 9 = .ok (.laload, 1) := dk_47 (dk_at dksX1_write_0 9 rfl rfl)
theorem dX1_write_10 : decode cX1_write 10 = .ok (.lload_n 2, 1) := dk_32 (dk_at dksX1_write_0 10 rfl rfl)
theorem dX1_write_11 : decode cX1_write 11 = .ok (.ladd, 1) := dk_97 (dk_at dksX1_write_0 11 rfl rfl)
theorem dX1_write_12 : decode cX1_write 12 = .ok (.lastore, 1) := dk_80 (dk_at dksX1_write_0 12 rfl rfl)
theorem dX1_write_13 : decode cX1_write 13 = .ok (.return_, 1) := dk_177 (dk_at dksX1_write_0 13 rfl rfl)
abbrev cX1_inquiry : ByteArray := prog_1_method_54_code
def yX1_inquiry : MethodName := ⟨RX1, "inquiry", "()I"⟩
def dkwX1_inquiry_6 : List UInt8 := [167, 0, 4, 3, 128, 60, 132, 5, 1, 167, 255, 204, 167, 255, 178, 167, 255, 160, 27, 172]
abbrev dktX1_inquiry_6 : List UInt8 := dkwX1_inquiry_6 ++ []
def dkwX1_inquiry_5 : List UInt8 := [4, 160, 0, 33, 27, 25, 4, 180, 0, 95, 21, 5, 47, 9, 148, 153, 0, 10, 4, 21, 5, 120]
abbrev dktX1_inquiry_5 : List UInt8 := dkwX1_inquiry_5 ++ dktX1_inquiry_6
def dkwX1_inquiry_4 : List UInt8 := [3, 54, 5, 21, 5, 42, 180, 0, 53, 182, 0, 155, 162, 0, 46, 27, 25, 4, 180, 0, 91, 122, 4, 126]
abbrev dktX1_inquiry_4 : List UInt8 := dkwX1_inquiry_4 ++ dktX1_inquiry_5
def dkwX1_inquiry_3 : List UInt8 := [182, 0, 126, 78, 45, 185, 0, 130, 1, 0, 153, 0, 75, 45, 185, 0, 136, 1, 0, 192, 0, 83, 58, 4]
abbrev dktX1_inquiry_3 : List UInt8 := dkwX1_inquiry_3 ++ dktX1_inquiry_4
def dkwX1_inquiry_2 : List UInt8 := [167, 0, 4, 3, 128, 60, 167, 255, 217, 2, 61, 28, 27, 159, 0, 97, 27, 61, 42, 180, 0, 53]
abbrev dktX1_inquiry_2 : List UInt8 := dkwX1_inquiry_2 ++ dktX1_inquiry_3
def dkwX1_inquiry_1 : List UInt8 := [185, 0, 136, 1, 0, 192, 0, 83, 78, 27, 45, 180, 1, 56, 153, 0, 12, 4, 45, 180, 0, 91, 120]
abbrev dktX1_inquiry_1 : List UInt8 := dkwX1_inquiry_1 ++ dktX1_inquiry_2
def dkwX1_inquiry_0 : List UInt8 := [3, 60, 42, 180, 0, 53, 182, 0, 126, 77, 44, 185, 0, 130, 1, 0, 153, 0, 36, 44]
abbrev dktX1_inquiry_0 : List UInt8 := dkwX1_inquiry_0 ++ dktX1_inquiry_1
theorem dksX1_inquiry_0 : cX1_inquiry.data.toList.drop 0 = dktX1_inquiry_0 := by decide +kernel
theorem dksX1_inquiry_1 : cX1_inquiry.data.toList.drop 20 = dktX1_inquiry_1 := dk_seg dksX1_inquiry_0 20 rfl rfl
theorem dksX1_inquiry_2 : cX1_inquiry.data.toList.drop 43 = dktX1_inquiry_2 := dk_seg dksX1_inquiry_1 23 rfl rfl
theorem dksX1_inquiry_3 : cX1_inquiry.data.toList.drop 65 = dktX1_inquiry_3 := dk_seg dksX1_inquiry_2 22 rfl rfl
theorem dksX1_inquiry_4 : cX1_inquiry.data.toList.drop 89 = dktX1_inquiry_4 := dk_seg dksX1_inquiry_3 24 rfl rfl
theorem dksX1_inquiry_5 : cX1_inquiry.data.toList.drop 113 = dktX1_inquiry_5 := dk_seg dksX1_inquiry_4 24 rfl rfl
theorem dksX1_inquiry_6 : cX1_inquiry.data.toList.drop 135 = dktX1_inquiry_6 := dk_seg dksX1_inquiry_5 22 rfl rfl
theorem dX1_inquiry_0 : decode cX1_inquiry 0 = .ok (.iconst 0, 1) := dk_3 (dk_at dksX1_inquiry_0 0 rfl rfl)
theorem dX1_inquiry_1 : decode cX1_inquiry 1 = .ok (.istore_n 1, 1) := dk_60 (dk_at dksX1_inquiry_0 1 rfl rfl)
theorem dX1_inquiry_2 : decode cX1_inquiry 2 = .ok (.aload_n 0, 1) := dk_42 (dk_at dksX1_inquiry_0 2 rfl rfl)
theorem dX1_inquiry_3 : decode cX1_inquiry 3 = .ok (.getfield 53, 3) := dk_180 0 53 (dk_at dksX1_inquiry_0 3 rfl rfl)
theorem dX1_inquiry_6 : decode cX1_inquiry 6 = .ok (.invokevirtual 126, 3) := dk_182 0 126 (dk_at dksX1_inquiry_0 6 rfl rfl)
theorem dX1_inquiry_9 : decode cX1_inquiry 9 = .ok (.astore_n 2, 1) := dk_77 (dk_at dksX1_inquiry_0 9 rfl rfl)
theorem dX1_inquiry_10 : decode cX1_inquiry 10 = .ok (.aload_n 2, 1) := dk_44 (dk_at dksX1_inquiry_0 10 rfl rfl)
theorem dX1_inquiry_11 : decode cX1_inquiry 11 = .ok (.invokeinterface 130 1, 5) := by decide +kernel
theorem dX1_inquiry_16 : decode cX1_inquiry 16 = .ok (.ifCond .eq 36, 3) := dk_153 0 36 (dk_at dksX1_inquiry_0 16 rfl rfl)
theorem dX1_inquiry_19 : decode cX1_inquiry 19 = .ok (.aload_n 2, 1) := dk_44 (dk_at dksX1_inquiry_0 19 rfl rfl)
theorem dX1_inquiry_20 : decode cX1_inquiry 20 = .ok (.invokeinterface 136 1, 5) := by decide +kernel
theorem dX1_inquiry_25 : decode cX1_inquiry 25 = .ok (.checkcast 83, 3) := dk_192 0 83 (dk_at dksX1_inquiry_1 5 rfl rfl)
theorem dX1_inquiry_28 : decode cX1_inquiry 28 = .ok (.astore_n 3, 1) := dk_78 (dk_at dksX1_inquiry_1 8 rfl rfl)
theorem dX1_inquiry_29 : decode cX1_inquiry 29 = .ok (.iload_n 1, 1) := dk_27 (dk_at dksX1_inquiry_1 9 rfl rfl)
theorem dX1_inquiry_30 : decode cX1_inquiry 30 = .ok (.aload_n 3, 1) := dk_45 (dk_at dksX1_inquiry_1 10 rfl rfl)
theorem dX1_inquiry_31 : decode cX1_inquiry 31 = .ok (.getfield 312, 3) := dk_180 1 56 (dk_at dksX1_inquiry_1 11 rfl rfl)
theorem dX1_inquiry_34 : decode cX1_inquiry 34 = .ok (.ifCond .eq 12, 3) := dk_153 0 12 (dk_at dksX1_inquiry_1 14 rfl rfl)
theorem dX1_inquiry_37 : decode cX1_inquiry 37 = .ok (.iconst 1, 1) := dk_4 (dk_at dksX1_inquiry_1 17 rfl rfl)
theorem dX1_inquiry_38 : decode cX1_inquiry 38 = .ok (.aload_n 3, 1) := dk_45 (dk_at dksX1_inquiry_1 18 rfl rfl)
theorem dX1_inquiry_39 : decode cX1_inquiry 39 = .ok (.getfield 91, 3) := dk_180 0 91 (dk_at dksX1_inquiry_1 19 rfl rfl)
theorem dX1_inquiry_42 : decode cX1_inquiry 42 = .ok (.ishl, 1) := dk_120 (dk_at dksX1_inquiry_1 22 rfl rfl)
theorem dX1_inquiry_43 : decode cX1_inquiry 43 = .ok (.goto 4, 3) := dk_167 0 4 (dk_at dksX1_inquiry_2 0 rfl rfl)
theorem dX1_inquiry_46 : decode cX1_inquiry 46 = .ok (.iconst 0, 1) := dk_3 (dk_at dksX1_inquiry_2 3 rfl rfl)
theorem dX1_inquiry_47 : decode cX1_inquiry 47 = .ok (.ior, 1) := dk_128 (dk_at dksX1_inquiry_2 4 rfl rfl)
theorem dX1_inquiry_48 : decode cX1_inquiry 48 = .ok (.istore_n 1, 1) := dk_60 (dk_at dksX1_inquiry_2 5 rfl rfl)
theorem dX1_inquiry_49 : decode cX1_inquiry 49 = .ok (.goto (-39), 3) := dk_167 255 217 (dk_at dksX1_inquiry_2 6 rfl rfl)
theorem dX1_inquiry_52 : decode cX1_inquiry 52 = .ok (.iconst (-1), 1) := dk_2 (dk_at dksX1_inquiry_2 9 rfl rfl)
theorem dX1_inquiry_53 : decode cX1_inquiry 53 = .ok (.istore_n 2, 1) := dk_61 (dk_at dksX1_inquiry_2 10 rfl rfl)
theorem dX1_inquiry_54 : decode cX1_inquiry 54 = .ok (.iload_n 2, 1) := dk_28 (dk_at dksX1_inquiry_2 11 rfl rfl)
theorem dX1_inquiry_55 : decode cX1_inquiry 55 = .ok (.iload_n 1, 1) := dk_27 (dk_at dksX1_inquiry_2 12 rfl rfl)
theorem dX1_inquiry_56 : decode cX1_inquiry 56 = .ok (.if_icmp .eq 97, 3) := dk_159 0 97 (dk_at dksX1_inquiry_2 13 rfl rfl)
theorem dX1_inquiry_59 : decode cX1_inquiry 59 = .ok (.iload_n 1, 1) := dk_27 (dk_at dksX1_inquiry_2 16 rfl rfl)
theorem dX1_inquiry_60 : decode cX1_inquiry 60 = .ok (.istore_n 2, 1) := dk_61 (dk_at dksX1_inquiry_2 17 rfl rfl)
theorem dX1_inquiry_61 : decode cX1_inquiry 61 = .ok (.aload_n 0, 1) := dk_42 (dk_at dksX1_inquiry_2 18 rfl rfl)
theorem dX1_inquiry_62 : decode cX1_inquiry 62 = .ok (.getfield 53, 3) := dk_180 0 53 (dk_at dksX1_inquiry_2 19 rfl rfl)
theorem dX1_inquiry_65 : decode cX1_inquiry 65 = .ok (.invokevirtual 126, 3) := dk_182 0 126 (dk_at dksX1_inquiry_3 0 rfl rfl)
theorem dX1_inquiry_68 : decode cX1_inquiry 68 = .ok (.astore_n 3, 1) := dk_78 (dk_at dksX1_inquiry_3 3 rfl rfl)
theorem dX1_inquiry_69 : decode cX1_inquiry 69 = .ok (.aload_n 3, 1) := dk_45 (dk_at dksX1_inquiry_3 4 rfl rfl)
theorem dX1_inquiry_70 : decode cX1_inquiry 70 = .ok (.invokeinterface 130 1, 5) := by decide +kernel
theorem dX1_inquiry_75 : decode cX1_inquiry 75 = .ok (.ifCond .eq 75, 3) := dk_153 0 75 (dk_at dksX1_inquiry_3 10 rfl rfl)
theorem dX1_inquiry_78 : decode cX1_inquiry 78 = .ok (.aload_n 3, 1) := dk_45 (dk_at dksX1_inquiry_3 13 rfl rfl)
theorem dX1_inquiry_79 : decode cX1_inquiry 79 = .ok (.invokeinterface 136 1, 5) := by decide +kernel
theorem dX1_inquiry_84 : decode cX1_inquiry 84 = .ok (.checkcast 83, 3) := dk_192 0 83 (dk_at dksX1_inquiry_3 19 rfl rfl)
theorem dX1_inquiry_87 : decode cX1_inquiry 87 = .ok (.astore 4, 2) := dk_58 4 (dk_at dksX1_inquiry_3 22 rfl rfl)
theorem dX1_inquiry_89 : decode cX1_inquiry 89 = .ok (.iconst 0, 1) := dk_3 (dk_at dksX1_inquiry_4 0 rfl rfl)
theorem dX1_inquiry_90 : decode cX1_inquiry 90 = .ok (.istore 5, 2) := dk_54 5 (dk_at dksX1_inquiry_4 1 rfl rfl)
theorem dX1_inquiry_92 : decode cX1_inquiry 92 = .ok (.iload 5, 2) := dk_21 5 (dk_at dksX1_inquiry_4 3 rfl rfl)
theorem dX1_inquiry_94 : decode cX1_inquiry 94 = .ok (.aload_n 0, 1) := dk_42 (dk_at dksX1_inquiry_4 5 rfl rfl)
theorem dX1_inquiry_95 : decode cX1_inquiry 95 = .ok (.getfield 53, 3) := dk_180 0 53 (dk_at dksX1_inquiry_4 6 rfl rfl)
theorem dX1_inquiry_98 : decode cX1_inquiry 98 = .ok (.invokevirtual 155, 3) := dk_182 0 155 (dk_at dksX1_inquiry_4 9 rfl rfl)
theorem dX1_inquiry_101 : decode cX1_inquiry 101 = .ok (.if_icmp .ge 46, 3) := dk_162 0 46 (dk_at dksX1_inquiry_4 12 rfl rfl)
theorem dX1_inquiry_104 : decode cX1_inquiry 104 = .ok (.iload_n 1, 1) := dk_27 (dk_at dksX1_inquiry_4 15 rfl rfl)
theorem dX1_inquiry_105 : decode cX1_inquiry 105 = .ok (.aload 4, 2) := dk_25 4 (dk_at dksX1_inquiry_4 16 rfl rfl)
theorem dX1_inquiry_107 : decode cX1_inquiry 107 = .ok (.getfield 91, 3) := dk_180 0 91 (dk_at dksX1_inquiry_4 18 rfl rfl)
theorem dX1_inquiry_110 : decode cX1_inquiry 110 = .ok (.ishr, 1) := dk_122 (dk_at dksX1_inquiry_4 21 rfl rfl)
theorem dX1_inquiry_111 : decode cX1_inquiry 111 = .ok (.iconst 1, 1) := dk_4 (dk_at dksX1_inquiry_4 22 rfl rfl)
theorem dX1_inquiry_112 : decode cX1_inquiry 112 = .ok (.iand, 1) := dk_126 (dk_at dksX1_inquiry_4 23 rfl rfl)
theorem dX1_inquiry_113 : decode cX1_inquiry 113 = .ok (.iconst 1, 1) := dk_4 (dk_at dksX1_inquiry_5 0 rfl rfl)
theorem dX1_inquiry_114 : decode cX1_inquiry 114 = .ok (.if_icmp .ne 33, 3) := dk_160 0 33 (dk_at dksX1_inquiry_5 1 rfl rfl)
theorem dX1_inquiry_117 : decode cX1_inquiry 117 = .ok (.iload_n 1, 1) := dk_27 (dk_at dksX1_inquiry_5 4 rfl rfl)
theorem dX1_inquiry_118 : decode cX1_inquiry 118 = .ok (.aload 4, 2) := dk_25 4 (dk_at dksX1_inquiry_5 5 rfl rfl)
theorem dX1_inquiry_120 : decode cX1_inquiry 120 = .ok (.getfield 95, 3) := dk_180 0 95 (dk_at dksX1_inquiry_5 7 rfl rfl)
theorem dX1_inquiry_123 : decode cX1_inquiry 123 = .ok (.iload 5, 2) := dk_21 5 (dk_at dksX1_inquiry_5 10 rfl rfl)
theorem dX1_inquiry_125 : decode cX1_inquiry 125 = .ok (.laload, 1) := dk_47 (dk_at dksX1_inquiry_5 12 rfl rfl)
theorem dX1_inquiry_126 : decode cX1_inquiry 126 = .ok (.lconst 0, 1) := dk_9 (dk_at dksX1_inquiry_5 13 rfl rfl)
theorem dX1_inquiry_127 : decode cX1_inquiry 127 = .ok (.lcmp, 1) := dk_148 (dk_at dksX1_inquiry_5 14 rfl rfl)
theorem dX1_inquiry_128 : decode cX1_inquiry 128 = .ok (.ifCond .eq 10, 3) := dk_153 0 10 (dk_at dksX1_inquiry_5 15 rfl rfl)
theorem dX1_inquiry_131 : decode cX1_inquiry 131 = .ok (.iconst 1, 1) := dk_4 (dk_at dksX1_inquiry_5 18 rfl rfl)
theorem dX1_inquiry_132 : decode cX1_inquiry 132 = .ok (.iload 5, 2) := dk_21 5 (dk_at dksX1_inquiry_5 19 rfl rfl)
theorem dX1_inquiry_134 : decode cX1_inquiry 134 = .ok (.ishl, 1) := dk_120 (dk_at dksX1_inquiry_5 21 rfl rfl)
theorem dX1_inquiry_135 : decode cX1_inquiry 135 = .ok (.goto 4, 3) := dk_167 0 4 (dk_at dksX1_inquiry_6 0 rfl rfl)
theorem dX1_inquiry_138 : decode cX1_inquiry 138 = .ok (.iconst 0, 1) := dk_3 (dk_at dksX1_inquiry_6 3 rfl rfl)
theorem dX1_inquiry_139 : decode cX1_inquiry 139 = .ok (.ior, 1) := dk_128 (dk_at dksX1_inquiry_6 4 rfl rfl)
theorem dX1_inquiry_140 : decode cX1_inquiry 140 = .ok (.istore_n 1, 1) := dk_60 (dk_at dksX1_inquiry_6 5 rfl rfl)
theorem dX1_inquiry_141 : decode cX1_inquiry 141 = .ok (.iinc 5 1, 3) := dk_132 5 1 (dk_at dksX1_inquiry_6 6 rfl rfl)
theorem dX1_inquiry_144 : decode cX1_inquiry 144 = .ok (.goto (-52), 3) := dk_167 255 204 (dk_at dksX1_inquiry_6 9 rfl rfl)
theorem dX1_inquiry_147 : decode cX1_inquiry 147 = .ok (.goto (-78), 3) := dk_167 255 178 (dk_at dksX1_inquiry_6 12 rfl rfl)
theorem dX1_inquiry_150 : decode cX1_inquiry 150 = .ok (.goto (-96), 3) := dk_167 255 160 (dk_at dksX1_inquiry_6 15 rfl rfl)
theorem dX1_inquiry_153 : decode cX1_inquiry 153 = .ok (.iload_n 1, 1) := dk_27 (dk_at dksX1_inquiry_6 18 rfl rfl)
theorem dX1_inquiry_154 : decode cX1_inquiry 154 = .ok (.ireturn, 1) := dk_172 (dk_at dksX1_inquiry_6 19 rfl rfl)
abbrev cX1_broker : ByteArray := prog_1_method_19_code
def yX1_broker : MethodName := ⟨RX1, "broker", "(III)I"⟩
def dkwX1_broker_3 : List UInt8 := [4, 100, 172]
abbrev dktX1_broker_3 : List UInt8 := dkwX1_broker_3 ++ []
def dkwX1_broker_2 : List UInt8 := [42, 180, 0, 53, 182, 0, 155, 27, 28, 29, 183, 0, 159, 182, 0, 162, 87, 42, 180, 0, 53, 182, 0, 155]
abbrev dktX1_broker_2 : List UInt8 := dkwX1_broker_2 ++ dktX1_broker_3
def dkwX1_broker_1 : List UInt8 := [182, 0, 155, 16, 12, 162, 0, 7, 4, 167, 0, 4, 3, 184, 0, 156, 42, 180, 0, 53, 187, 0, 83, 89]
abbrev dktX1_broker_1 : List UInt8 := dkwX1_broker_1 ++ dktX1_broker_2
def dkwX1_broker_0 : List UInt8 := [27, 184, 0, 148, 3, 18, 78, 28, 184, 0, 21, 184, 0, 85, 29, 184, 0, 152, 42, 180, 0, 53]
abbrev dktX1_broker_0 : List UInt8 := dkwX1_broker_0 ++ dktX1_broker_1
theorem dksX1_broker_0 : cX1_broker.data.toList.drop 0 = dktX1_broker_0 := by decide +kernel
theorem dksX1_broker_1 : cX1_broker.data.toList.drop 22 = dktX1_broker_1 := dk_seg dksX1_broker_0 22 rfl rfl
theorem dksX1_broker_2 : cX1_broker.data.toList.drop 46 = dktX1_broker_2 := dk_seg dksX1_broker_1 24 rfl rfl
theorem dksX1_broker_3 : cX1_broker.data.toList.drop 70 = dktX1_broker_3 := dk_seg dksX1_broker_2 24 rfl rfl
theorem dX1_broker_0 : decode cX1_broker 0 = .ok (.iload_n 1, 1) := dk_27 (dk_at dksX1_broker_0 0 rfl rfl)
theorem dX1_broker_1 : decode cX1_broker 1 = .ok (.invokestatic 148, 3) := dk_184 0 148 (dk_at dksX1_broker_0 1 rfl rfl)
theorem dX1_broker_4 : decode cX1_broker 4 = .ok (.iconst 0, 1) := dk_3 (dk_at dksX1_broker_0 4 rfl rfl)
theorem dX1_broker_5 : decode cX1_broker 5 = .ok (.ldc 78, 2) := dk_18 78 (dk_at dksX1_broker_0 5 rfl rfl)
theorem dX1_broker_7 : decode cX1_broker 7 = .ok (.iload_n 2, 1) := dk_28 (dk_at dksX1_broker_0 7 rfl rfl)
theorem dX1_broker_8 : decode cX1_broker 8 = .ok (.invokestatic 21, 3) := dk_184 0 21 (dk_at dksX1_broker_0 8 rfl rfl)
theorem dX1_broker_11 : decode cX1_broker 11 = .ok (.invokestatic 85, 3) := dk_184 0 85 (dk_at dksX1_broker_0 11 rfl rfl)
theorem dX1_broker_14 : decode cX1_broker 14 = .ok (.iload_n 3, 1) := dk_29 (dk_at dksX1_broker_0 14 rfl rfl)
theorem dX1_broker_15 : decode cX1_broker 15 = .ok (.invokestatic 152, 3) := dk_184 0 152 (dk_at dksX1_broker_0 15 rfl rfl)
theorem dX1_broker_18 : decode cX1_broker 18 = .ok (.aload_n 0, 1) := dk_42 (dk_at dksX1_broker_0 18 rfl rfl)
theorem dX1_broker_19 : decode cX1_broker 19 = .ok (.getfield 53, 3) := dk_180 0 53 (dk_at dksX1_broker_0 19 rfl rfl)
theorem dX1_broker_22 : decode cX1_broker 22 = .ok (.invokevirtual 155, 3) := dk_182 0 155 (dk_at dksX1_broker_1 0 rfl rfl)
theorem dX1_broker_25 : decode cX1_broker 25 = .ok (.bipush 12, 2) := dk_16 12 (dk_at dksX1_broker_1 3 rfl rfl)
theorem dX1_broker_27 : decode cX1_broker 27 = .ok (.if_icmp .ge 7, 3) := dk_162 0 7 (dk_at dksX1_broker_1 5 rfl rfl)
theorem dX1_broker_30 : decode cX1_broker 30 = .ok (.iconst 1, 1) := dk_4 (dk_at dksX1_broker_1 8 rfl rfl)
theorem dX1_broker_31 : decode cX1_broker 31 = .ok (.goto 4, 3) := dk_167 0 4 (dk_at dksX1_broker_1 9 rfl rfl)
theorem dX1_broker_34 : decode cX1_broker 34 = .ok (.iconst 0, 1) := dk_3 (dk_at dksX1_broker_1 12 rfl rfl)
theorem dX1_broker_35 : decode cX1_broker 35 = .ok (.invokestatic 156, 3) := dk_184 0 156 (dk_at dksX1_broker_1 13 rfl rfl)
theorem dX1_broker_38 : decode cX1_broker 38 = .ok (.aload_n 0, 1) := dk_42 (dk_at dksX1_broker_1 16 rfl rfl)
theorem dX1_broker_39 : decode cX1_broker 39 = .ok (.getfield 53, 3) := dk_180 0 53 (dk_at dksX1_broker_1 17 rfl rfl)
theorem dX1_broker_42 : decode cX1_broker 42 = .ok (.new 83, 3) := dk_187 0 83 (dk_at dksX1_broker_1 20 rfl rfl)
theorem dX1_broker_45 : decode cX1_broker 45 = .ok (.dup, 1) := dk_89 (dk_at dksX1_broker_1 23 rfl rfl)
theorem dX1_broker_46 : decode cX1_broker 46 = .ok (.aload_n 0, 1) := dk_42 (dk_at dksX1_broker_2 0 rfl rfl)
theorem dX1_broker_47 : decode cX1_broker 47 = .ok (.getfield 53, 3) := dk_180 0 53 (dk_at dksX1_broker_2 1 rfl rfl)
theorem dX1_broker_50 : decode cX1_broker 50 = .ok (.invokevirtual 155, 3) := dk_182 0 155 (dk_at dksX1_broker_2 4 rfl rfl)
theorem dX1_broker_53 : decode cX1_broker 53 = .ok (.iload_n 1, 1) := dk_27 (dk_at dksX1_broker_2 7 rfl rfl)
theorem dX1_broker_54 : decode cX1_broker 54 = .ok (.iload_n 2, 1) := dk_28 (dk_at dksX1_broker_2 8 rfl rfl)
theorem dX1_broker_55 : decode cX1_broker 55 = .ok (.iload_n 3, 1) := dk_29 (dk_at dksX1_broker_2 9 rfl rfl)
theorem dX1_broker_56 : decode cX1_broker 56 = .ok (.invokespecial 159, 3) := dk_183 0 159 (dk_at dksX1_broker_2 10 rfl rfl)
theorem dX1_broker_59 : decode cX1_broker 59 = .ok (.invokevirtual 162, 3) := dk_182 0 162 (dk_at dksX1_broker_2 13 rfl rfl)
theorem dX1_broker_62 : decode cX1_broker 62 = .ok (.pop, 1) := dk_87 (dk_at dksX1_broker_2 16 rfl rfl)
theorem dX1_broker_63 : decode cX1_broker 63 = .ok (.aload_n 0, 1) := dk_42 (dk_at dksX1_broker_2 17 rfl rfl)
theorem dX1_broker_64 : decode cX1_broker 64 = .ok (.getfield 53, 3) := dk_180 0 53 (dk_at dksX1_broker_2 18 rfl rfl)
theorem dX1_broker_67 : decode cX1_broker 67 = .ok (.invokevirtual 155, 3) := dk_182 0 155 (dk_at dksX1_broker_2 21 rfl rfl)
theorem dX1_broker_70 : decode cX1_broker 70 = .ok (.iconst 1, 1) := dk_4 (dk_at dksX1_broker_3 0 rfl rfl)
theorem dX1_broker_71 : decode cX1_broker 71 = .ok (.isub, 1) := dk_100 (dk_at dksX1_broker_3 1 rfl rfl)
theorem dX1_broker_72 : decode cX1_broker 72 = .ok (.ireturn, 1) := dk_172 (dk_at dksX1_broker_3 2 rfl rfl)
abbrev cX1_needTown : ByteArray := prog_1_method_9_code
def yX1_needTown : MethodName := ⟨RX1, "needTown", "(I)V"⟩
def dkwX1_needTown_0 : List UInt8 := [16, 8, 26, 184, 0, 37, 177]
abbrev dktX1_needTown_0 : List UInt8 := dkwX1_needTown_0 ++ []
theorem dksX1_needTown_0 : cX1_needTown.data.toList.drop 0 = dktX1_needTown_0 := by decide +kernel
theorem dX1_needTown_0 : decode cX1_needTown 0 = .ok (.bipush 8, 2) := dk_16 8 (dk_at dksX1_needTown_0 0 rfl rfl)
theorem dX1_needTown_2 : decode cX1_needTown 2 = .ok (.iload_n 0, 1) := dk_26 (dk_at dksX1_needTown_0 2 rfl rfl)
theorem dX1_needTown_3 : decode cX1_needTown 3 = .ok (.invokestatic 37, 3) := dk_184 0 37 (dk_at dksX1_needTown_0 3 rfl rfl)
theorem dX1_needTown_6 : decode cX1_needTown 6 = .ok (.return_, 1) := dk_177 (dk_at dksX1_needTown_0 6 rfl rfl)
abbrev cX1_needBelow : ByteArray := prog_1_method_5_code
def yX1_needBelow : MethodName := ⟨RX1, "needBelow", "(II)V"⟩
def dkwX1_needBelow_0 : List UInt8 := [3, 26, 4, 100, 27, 184, 0, 21, 184, 0, 27, 177]
abbrev dktX1_needBelow_0 : List UInt8 := dkwX1_needBelow_0 ++ []
theorem dksX1_needBelow_0 : cX1_needBelow.data.toList.drop 0 = dktX1_needBelow_0 := by decide +kernel
theorem dX1_needBelow_0 : decode cX1_needBelow 0 = .ok (.iconst 0, 1) := dk_3 (dk_at dksX1_needBelow_0 0 rfl rfl)
theorem dX1_needBelow_1 : decode cX1_needBelow 1 = .ok (.iload_n 0, 1) := dk_26 (dk_at dksX1_needBelow_0 1 rfl rfl)
theorem dX1_needBelow_2 : decode cX1_needBelow 2 = .ok (.iconst 1, 1) := dk_4 (dk_at dksX1_needBelow_0 2 rfl rfl)
theorem dX1_needBelow_3 : decode cX1_needBelow 3 = .ok (.isub, 1) := dk_100 (dk_at dksX1_needBelow_0 3 rfl rfl)
theorem dX1_needBelow_4 : decode cX1_needBelow 4 = .ok (.iload_n 1, 1) := dk_27 (dk_at dksX1_needBelow_0 4 rfl rfl)
theorem dX1_needBelow_5 : decode cX1_needBelow 5 = .ok (.invokestatic 21, 3) := dk_184 0 21 (dk_at dksX1_needBelow_0 5 rfl rfl)
theorem dX1_needBelow_8 : decode cX1_needBelow 8 = .ok (.invokestatic 27, 3) := dk_184 0 27 (dk_at dksX1_needBelow_0 8 rfl rfl)
theorem dX1_needBelow_11 : decode cX1_needBelow 11 = .ok (.return_, 1) := dk_177 (dk_at dksX1_needBelow_0 11 rfl rfl)
abbrev cX1_isBetween : ByteArray := prog_1_method_4_code
def yX1_isBetween : MethodName := ⟨RX1, "isBetween", "(III)Z"⟩
def dkwX1_isBetween_0 : List UInt8 := [28, 26, 161, 0, 12, 28, 27, 163, 0, 7, 4, 167, 0, 4, 3, 172]
abbrev dktX1_isBetween_0 : List UInt8 := dkwX1_isBetween_0 ++ []
theorem dksX1_isBetween_0 : cX1_isBetween.data.toList.drop 0 = dktX1_isBetween_0 := by decide +kernel
theorem dX1_isBetween_0 : decode cX1_isBetween 0 = .ok (.iload_n 2, 1) := dk_28 (dk_at dksX1_isBetween_0 0 rfl rfl)
theorem dX1_isBetween_1 : decode cX1_isBetween 1 = .ok (.iload_n 0, 1) := dk_26 (dk_at dksX1_isBetween_0 1 rfl rfl)
theorem dX1_isBetween_2 : decode cX1_isBetween 2 = .ok (.if_icmp .lt 12, 3) := dk_161 0 12 (dk_at dksX1_isBetween_0 2 rfl rfl)
theorem dX1_isBetween_5 : decode cX1_isBetween 5 = .ok (.iload_n 2, 1) := dk_28 (dk_at dksX1_isBetween_0 5 rfl rfl)
theorem dX1_isBetween_6 : decode cX1_isBetween 6 = .ok (.iload_n 1, 1) := dk_27 (dk_at dksX1_isBetween_0 6 rfl rfl)
theorem dX1_isBetween_7 : decode cX1_isBetween 7 = .ok (.if_icmp .gt 7, 3) := dk_163 0 7 (dk_at dksX1_isBetween_0 7 rfl rfl)
theorem dX1_isBetween_10 : decode cX1_isBetween 10 = .ok (.iconst 1, 1) := dk_4 (dk_at dksX1_isBetween_0 10 rfl rfl)
theorem dX1_isBetween_11 : decode cX1_isBetween 11 = .ok (.goto 4, 3) := dk_167 0 4 (dk_at dksX1_isBetween_0 11 rfl rfl)
theorem dX1_isBetween_14 : decode cX1_isBetween 14 = .ok (.iconst 0, 1) := dk_3 (dk_at dksX1_isBetween_0 14 rfl rfl)
theorem dX1_isBetween_15 : decode cX1_isBetween 15 = .ok (.ireturn, 1) := dk_172 (dk_at dksX1_isBetween_0 15 rfl rfl)
abbrev cX1_needIndex : ByteArray := prog_1_method_1_code
def yX1_needIndex : MethodName := ⟨RX1, "needIndex", "(Z)V"⟩
def dkwX1_needIndex_0 : List UInt8 := [26, 154, 0, 13, 187, 0, 3, 89, 18, 5, 183, 0, 7, 191, 177]
abbrev dktX1_needIndex_0 : List UInt8 := dkwX1_needIndex_0 ++ []
theorem dksX1_needIndex_0 : cX1_needIndex.data.toList.drop 0 = dktX1_needIndex_0 := by decide +kernel
theorem dX1_needIndex_0 : decode cX1_needIndex 0 = .ok (.iload_n 0, 1) := dk_26 (dk_at dksX1_needIndex_0 0 rfl rfl)
theorem dX1_needIndex_1 : decode cX1_needIndex 1 = .ok (.ifCond .ne 13, 3) := dk_154 0 13 (dk_at dksX1_needIndex_0 1 rfl rfl)
theorem dX1_needIndex_4 : decode cX1_needIndex 4 = .ok (.new 3, 3) := dk_187 0 3 (dk_at dksX1_needIndex_0 4 rfl rfl)
theorem dX1_needIndex_7 : decode cX1_needIndex 7 = .ok (.dup, 1) := dk_89 (dk_at dksX1_needIndex_0 7 rfl rfl)
theorem dX1_needIndex_8 : decode cX1_needIndex 8 = .ok (.ldc 5, 2) := dk_18 5 (dk_at dksX1_needIndex_0 8 rfl rfl)
theorem dX1_needIndex_10 : decode cX1_needIndex 10 = .ok (.invokespecial 7, 3) := dk_183 0 7 (dk_at dksX1_needIndex_0 10 rfl rfl)
theorem dX1_needIndex_13 : decode cX1_needIndex 13 = .ok (.athrow, 1) := dk_191 (dk_at dksX1_needIndex_0 13 rfl rfl)
theorem dX1_needIndex_14 : decode cX1_needIndex 14 = .ok (.return_, 1) := dk_177 (dk_at dksX1_needIndex_0 14 rfl rfl)
abbrev cX1_needArgument : ByteArray := prog_1_method_2_code
def yX1_needArgument : MethodName := ⟨RX1, "needArgument", "(Z)V"⟩
def dkwX1_needArgument_0 : List UInt8 := [26, 154, 0, 13, 187, 0, 11, 89, 18, 13, 183, 0, 15, 191, 177]
abbrev dktX1_needArgument_0 : List UInt8 := dkwX1_needArgument_0 ++ []
theorem dksX1_needArgument_0 : cX1_needArgument.data.toList.drop 0 = dktX1_needArgument_0 := by decide +kernel
theorem dX1_needArgument_0 : decode cX1_needArgument 0 = .ok (.iload_n 0, 1) := dk_26 (dk_at dksX1_needArgument_0 0 rfl rfl)
theorem dX1_needArgument_1 : decode cX1_needArgument 1 = .ok (.ifCond .ne 13, 3) := dk_154 0 13 (dk_at dksX1_needArgument_0 1 rfl rfl)
theorem dX1_needArgument_4 : decode cX1_needArgument 4 = .ok (.new 11, 3) := dk_187 0 11 (dk_at dksX1_needArgument_0 4 rfl rfl)
theorem dX1_needArgument_7 : decode cX1_needArgument 7 = .ok (.dup, 1) := dk_89 (dk_at dksX1_needArgument_0 7 rfl rfl)
theorem dX1_needArgument_8 : decode cX1_needArgument 8 = .ok (.ldc 13, 2) := dk_18 13 (dk_at dksX1_needArgument_0 8 rfl rfl)
theorem dX1_needArgument_10 : decode cX1_needArgument 10 = .ok (.invokespecial 15, 3) := dk_183 0 15 (dk_at dksX1_needArgument_0 10 rfl rfl)
theorem dX1_needArgument_13 : decode cX1_needArgument 13 = .ok (.athrow, 1) := dk_191 (dk_at dksX1_needArgument_0 13 rfl rfl)
theorem dX1_needArgument_14 : decode cX1_needArgument 14 = .ok (.return_, 1) := dk_177 (dk_at dksX1_needArgument_0 14 rfl rfl)
abbrev cX1_needRate : ByteArray := prog_1_method_18_code
def yX1_needRate : MethodName := ⟨RX1, "needRate", "(I)V"⟩
def dkwX1_needRate_0 : List UInt8 := [3, 16, 100, 26, 184, 0, 21, 184, 0, 85, 177]
abbrev dktX1_needRate_0 : List UInt8 := dkwX1_needRate_0 ++ []
theorem dksX1_needRate_0 : cX1_needRate.data.toList.drop 0 = dktX1_needRate_0 := by decide +kernel
theorem dX1_needRate_0 : decode cX1_needRate 0 = .ok (.iconst 0, 1) := dk_3 (dk_at dksX1_needRate_0 0 rfl rfl)
theorem dX1_needRate_1 : decode cX1_needRate 1 = .ok (.bipush 100, 2) := dk_16 100 (dk_at dksX1_needRate_0 1 rfl rfl)
theorem dX1_needRate_3 : decode cX1_needRate 3 = .ok (.iload_n 0, 1) := dk_26 (dk_at dksX1_needRate_0 3 rfl rfl)
theorem dX1_needRate_4 : decode cX1_needRate 4 = .ok (.invokestatic 21, 3) := dk_184 0 21 (dk_at dksX1_needRate_0 4 rfl rfl)
theorem dX1_needRate_7 : decode cX1_needRate 7 = .ok (.invokestatic 85, 3) := dk_184 0 85 (dk_at dksX1_needRate_0 7 rfl rfl)
theorem dX1_needRate_10 : decode cX1_needRate 10 = .ok (.return_, 1) := dk_177 (dk_at dksX1_needRate_0 10 rfl rfl)
abbrev cX1_needState : ByteArray := prog_1_method_3_code
def yX1_needState : MethodName := ⟨RX1, "needState", "(Z)V"⟩
def dkwX1_needState_0 : List UInt8 := [26, 154, 0, 13, 187, 0, 16, 89, 18, 18, 183, 0, 20, 191, 177]
abbrev dktX1_needState_0 : List UInt8 := dkwX1_needState_0 ++ []
theorem dksX1_needState_0 : cX1_needState.data.toList.drop 0 = dktX1_needState_0 := by decide +kernel
theorem dX1_needState_0 : decode cX1_needState 0 = .ok (.iload_n 0, 1) := dk_26 (dk_at dksX1_needState_0 0 rfl rfl)
theorem dX1_needState_1 : decode cX1_needState 1 = .ok (.ifCond .ne 13, 3) := dk_154 0 13 (dk_at dksX1_needState_0 1 rfl rfl)
theorem dX1_needState_4 : decode cX1_needState 4 = .ok (.new 16, 3) := dk_187 0 16 (dk_at dksX1_needState_0 4 rfl rfl)
theorem dX1_needState_7 : decode cX1_needState 7 = .ok (.dup, 1) := dk_89 (dk_at dksX1_needState_0 7 rfl rfl)
theorem dX1_needState_8 : decode cX1_needState 8 = .ok (.ldc 18, 2) := dk_18 18 (dk_at dksX1_needState_0 8 rfl rfl)
theorem dX1_needState_10 : decode cX1_needState 10 = .ok (.invokespecial 20, 3) := dk_183 0 20 (dk_at dksX1_needState_0 10 rfl rfl)
theorem dX1_needState_13 : decode cX1_needState 13 = .ok (.athrow, 1) := dk_191 (dk_at dksX1_needState_0 13 rfl rfl)
theorem dX1_needState_14 : decode cX1_needState 14 = .ok (.return_, 1) := dk_177 (dk_at dksX1_needState_0 14 rfl rfl)
abbrev cX1_rate : ByteArray := prog_1_method_20_code
def yX1_rate : MethodName := ⟨RX1, "rate", "(II)I"⟩
def dkwX1_rate_0 : List UInt8 := [42, 27, 182, 0, 166, 78, 28, 184, 0, 152, 45, 180, 0, 170, 54, 4, 45, 28, 181, 0, 170, 21, 4, 172]
abbrev dktX1_rate_0 : List UInt8 := dkwX1_rate_0 ++ []
theorem dksX1_rate_0 : cX1_rate.data.toList.drop 0 = dktX1_rate_0 := by decide +kernel
theorem dX1_rate_0 : decode cX1_rate 0 = .ok (.aload_n 0, 1) := dk_42 (dk_at dksX1_rate_0 0 rfl rfl)
theorem dX1_rate_1 : decode cX1_rate 1 = .ok (.iload_n 1, 1) := dk_27 (dk_at dksX1_rate_0 1 rfl rfl)
theorem dX1_rate_2 : decode cX1_rate 2 = .ok (.invokevirtual 166, 3) := dk_182 0 166 (dk_at dksX1_rate_0 2 rfl rfl)
theorem dX1_rate_5 : decode cX1_rate 5 = .ok (.astore_n 3, 1) := dk_78 (dk_at dksX1_rate_0 5 rfl rfl)
theorem dX1_rate_6 : decode cX1_rate 6 = .ok (.iload_n 2, 1) := dk_28 (dk_at dksX1_rate_0 6 rfl rfl)
theorem dX1_rate_7 : decode cX1_rate 7 = .ok (.invokestatic 152, 3) := dk_184 0 152 (dk_at dksX1_rate_0 7 rfl rfl)
theorem dX1_rate_10 : decode cX1_rate 10 = .ok (.aload_n 3, 1) := dk_45 (dk_at dksX1_rate_0 10 rfl rfl)
theorem dX1_rate_11 : decode cX1_rate 11 = .ok (.getfield 170, 3) := dk_180 0 170 (dk_at dksX1_rate_0 11 rfl rfl)
theorem dX1_rate_14 : decode cX1_rate 14 = .ok (.istore 4, 2) := dk_54 4 (dk_at dksX1_rate_0 14 rfl rfl)
theorem dX1_rate_16 : decode cX1_rate 16 = .ok (.aload_n 3, 1) := dk_45 (dk_at dksX1_rate_0 16 rfl rfl)
theorem dX1_rate_17 : decode cX1_rate 17 = .ok (.iload_n 2, 1) := dk_28 (dk_at dksX1_rate_0 17 rfl rfl)
theorem dX1_rate_18 : decode cX1_rate 18 = .ok (.putfield 170, 3) := dk_181 0 170 (dk_at dksX1_rate_0 18 rfl rfl)
theorem dX1_rate_21 : decode cX1_rate 21 = .ok (.iload 4, 2) := dk_21 4 (dk_at dksX1_rate_0 21 rfl rfl)
theorem dX1_rate_23 : decode cX1_rate 23 = .ok (.ireturn, 1) := dk_172 (dk_at dksX1_rate_0 23 rfl rfl)
abbrev cX1_brokerAt : ByteArray := prog_1_method_8_code
def yX1_brokerAt : MethodName := ⟨RX1, "brokerAt", "(I)LHundiHall$Broker;"⟩
def dkwX1_brokerAt_0 : List UInt8 := [42, 180, 0, 53, 27, 184, 0, 79, 192, 0, 83, 176]
abbrev dktX1_brokerAt_0 : List UInt8 := dkwX1_brokerAt_0 ++ []
theorem dksX1_brokerAt_0 : cX1_brokerAt.data.toList.drop 0 = dktX1_brokerAt_0 := by decide +kernel
theorem dX1_brokerAt_0 : decode cX1_brokerAt 0 = .ok (.aload_n 0, 1) := dk_42 (dk_at dksX1_brokerAt_0 0 rfl rfl)
theorem dX1_brokerAt_1 : decode cX1_brokerAt 1 = .ok (.getfield 53, 3) := dk_180 0 53 (dk_at dksX1_brokerAt_0 1 rfl rfl)
theorem dX1_brokerAt_4 : decode cX1_brokerAt 4 = .ok (.iload_n 1, 1) := dk_27 (dk_at dksX1_brokerAt_0 4 rfl rfl)
theorem dX1_brokerAt_5 : decode cX1_brokerAt 5 = .ok (.invokestatic 79, 3) := dk_184 0 79 (dk_at dksX1_brokerAt_0 5 rfl rfl)
theorem dX1_brokerAt_8 : decode cX1_brokerAt 8 = .ok (.checkcast 83, 3) := dk_192 0 83 (dk_at dksX1_brokerAt_0 8 rfl rfl)
theorem dX1_brokerAt_11 : decode cX1_brokerAt 11 = .ok (.areturn, 1) := dk_176 (dk_at dksX1_brokerAt_0 11 rfl rfl)
abbrev cX1_known : ByteArray := prog_1_method_6_code
def yX1_known : MethodName := ⟨RX1, "known", "(Ljava/util/List;I)Ljava/lang/Object;"⟩
def dkwX1_known_0 : List UInt8 := [42, 185, 0, 31, 1, 0, 27, 184, 0, 37, 42, 27, 185, 0, 41, 2, 0, 176]
abbrev dktX1_known_0 : List UInt8 := dkwX1_known_0 ++ []
theorem dksX1_known_0 : cX1_known.data.toList.drop 0 = dktX1_known_0 := by decide +kernel
theorem dX1_known_0 : decode cX1_known 0 = .ok (.aload_n 0, 1) := dk_42 (dk_at dksX1_known_0 0 rfl rfl)
theorem dX1_known_1 : decode cX1_known 1 = .ok (.invokeinterface 31 1, 5) := by decide +kernel
theorem dX1_known_6 : decode cX1_known 6 = .ok (.iload_n 1, 1) := dk_27 (dk_at dksX1_known_0 6 rfl rfl)
theorem dX1_known_7 : decode cX1_known 7 = .ok (.invokestatic 37, 3) := dk_184 0 37 (dk_at dksX1_known_0 7 rfl rfl)
theorem dX1_known_10 : decode cX1_known 10 = .ok (.aload_n 0, 1) := dk_42 (dk_at dksX1_known_0 10 rfl rfl)
theorem dX1_known_11 : decode cX1_known 11 = .ok (.iload_n 1, 1) := dk_27 (dk_at dksX1_known_0 11 rfl rfl)
theorem dX1_known_12 : decode cX1_known 12 = .ok (.invokeinterface 41 2, 5) := by decide +kernel
theorem dX1_known_17 : decode cX1_known 17 = .ok (.areturn, 1) := dk_176 (dk_at dksX1_known_0 17 rfl rfl)
abbrev cX1_trust : ByteArray := prog_1_method_21_code
def yX1_trust : MethodName := ⟨RX1, "trust", "(IIIZ)V"⟩
def dkwX1_trust_2 : List UInt8 := [25, 5, 180, 0, 109, 28, 21, 4, 84, 177]
abbrev dktX1_trust_2 : List UInt8 := dkwX1_trust_2 ++ []
def dkwX1_trust_1 : List UInt8 := [29, 184, 0, 21, 153, 0, 7, 4, 167, 0, 4, 3, 184, 0, 85, 25, 5, 180, 0, 114, 28, 29, 79]
abbrev dktX1_trust_1 : List UInt8 := dkwX1_trust_1 ++ dktX1_trust_2
def dkwX1_trust_0 : List UInt8 := [42, 27, 182, 0, 166, 58, 5, 42, 28, 182, 0, 166, 58, 6, 25, 5, 25, 6, 165, 0, 17, 3, 18, 78]
abbrev dktX1_trust_0 : List UInt8 := dkwX1_trust_0 ++ dktX1_trust_1
theorem dksX1_trust_0 : cX1_trust.data.toList.drop 0 = dktX1_trust_0 := by decide +kernel
theorem dksX1_trust_1 : cX1_trust.data.toList.drop 24 = dktX1_trust_1 := dk_seg dksX1_trust_0 24 rfl rfl
theorem dksX1_trust_2 : cX1_trust.data.toList.drop 47 = dktX1_trust_2 := dk_seg dksX1_trust_1 23 rfl rfl
theorem dX1_trust_0 : decode cX1_trust 0 = .ok (.aload_n 0, 1) := dk_42 (dk_at dksX1_trust_0 0 rfl rfl)
theorem dX1_trust_1 : decode cX1_trust 1 = .ok (.iload_n 1, 1) := dk_27 (dk_at dksX1_trust_0 1 rfl rfl)
theorem dX1_trust_2 : decode cX1_trust 2 = .ok (.invokevirtual 166, 3) := dk_182 0 166 (dk_at dksX1_trust_0 2 rfl rfl)
theorem dX1_trust_5 : decode cX1_trust 5 = .ok (.astore 5, 2) := dk_58 5 (dk_at dksX1_trust_0 5 rfl rfl)
theorem dX1_trust_7 : decode cX1_trust 7 = .ok (.aload_n 0, 1) := dk_42 (dk_at dksX1_trust_0 7 rfl rfl)
theorem dX1_trust_8 : decode cX1_trust 8 = .ok (.iload_n 2, 1) := dk_28 (dk_at dksX1_trust_0 8 rfl rfl)
theorem dX1_trust_9 : decode cX1_trust 9 = .ok (.invokevirtual 166, 3) := dk_182 0 166 (dk_at dksX1_trust_0 9 rfl rfl)
theorem dX1_trust_12 : decode cX1_trust 12 = .ok (.astore 6, 2) := dk_58 6 (dk_at dksX1_trust_0 12 rfl rfl)
theorem dX1_trust_14 : decode cX1_trust 14 = .ok (.aload 5, 2) := dk_25 5 (dk_at dksX1_trust_0 14 rfl rfl)
theorem dX1_trust_16 : decode cX1_trust 16 = .ok (.aload 6, 2) := dk_25 6 (dk_at dksX1_trust_0 16 rfl rfl)
theorem dX1_trust_18 : decode cX1_trust 18 = .ok (.if_acmp .eq 17, 3) := dk_165 0 17 (dk_at dksX1_trust_0 18 rfl rfl)
theorem dX1_trust_21 : decode cX1_trust 21 = .ok (.iconst 0, 1) := dk_3 (dk_at dksX1_trust_0 21 rfl rfl)
theorem dX1_trust_22 : decode cX1_trust 22 = .ok (.ldc 78, 2) := dk_18 78 (dk_at dksX1_trust_0 22 rfl rfl)
theorem dX1_trust_24 : decode cX1_trust 24 = .ok (.iload_n 3, 1) := dk_29 (dk_at dksX1_trust_1 0 rfl rfl)
theorem dX1_trust_25 : decode cX1_trust 25 = .ok (.invokestatic 21, 3) := dk_184 0 21 (dk_at dksX1_trust_1 1 rfl rfl)
theorem dX1_trust_28 : decode cX1_trust 28 = .ok (.ifCond .eq 7, 3) := dk_153 0 7 (dk_at dksX1_trust_1 4 rfl rfl)
theorem dX1_trust_31 : decode cX1_trust 31 = .ok (.iconst 1, 1) := dk_4 (dk_at dksX1_trust_1 7 rfl rfl)
theorem dX1_trust_32 : decode cX1_trust 32 = .ok (.goto 4, 3) := dk_167 0 4 (dk_at dksX1_trust_1 8 rfl rfl)
theorem dX1_trust_35 : decode cX1_trust 35 = .ok (.iconst 0, 1) := dk_3 (dk_at dksX1_trust_1 11 rfl rfl)
theorem dX1_trust_36 : decode cX1_trust 36 = .ok (.invokestatic 85, 3) := dk_184 0 85 (dk_at dksX1_trust_1 12 rfl rfl)
theorem dX1_trust_39 : decode cX1_trust 39 = .ok (.aload 5, 2) := dk_25 5 (dk_at dksX1_trust_1 15 rfl rfl)
theorem dX1_trust_41 : decode cX1_trust 41 = .ok (.getfield 114, 3) := dk_180 0 114 (dk_at dksX1_trust_1 17 rfl rfl)
theorem dX1_trust_44 : decode cX1_trust 44 = .ok (.iload_n 2, 1) := dk_28 (dk_at dksX1_trust_1 20 rfl rfl)
theorem dX1_trust_45 : decode cX1_trust 45 = .ok (.iload_n 3, 1) := dk_29 (dk_at dksX1_trust_1 21 rfl rfl)
theorem dX1_trust_46 : decode cX1_trust 46 = .ok (.iastore, 1) := dk_79 (dk_at dksX1_trust_1 22 rfl rfl)
theorem dX1_trust_47 : decode cX1_trust 47 = .ok (.aload 5, 2) := dk_25 5 (dk_at dksX1_trust_2 0 rfl rfl)
theorem dX1_trust_49 : decode cX1_trust 49 = .ok (.getfield 109, 3) := dk_180 0 109 (dk_at dksX1_trust_2 2 rfl rfl)
theorem dX1_trust_52 : decode cX1_trust 52 = .ok (.iload_n 2, 1) := dk_28 (dk_at dksX1_trust_2 5 rfl rfl)
theorem dX1_trust_53 : decode cX1_trust 53 = .ok (.iload 4, 2) := dk_21 4 (dk_at dksX1_trust_2 6 rfl rfl)
theorem dX1_trust_55 : decode cX1_trust 55 = .ok (.bastore, 1) := dk_84 (dk_at dksX1_trust_2 8 rfl rfl)
theorem dX1_trust_56 : decode cX1_trust 56 = .ok (.return_, 1) := dk_177 (dk_at dksX1_trust_2 9 rfl rfl)
abbrev cX1_breakWord : ByteArray := prog_1_method_36_code
def yX1_breakWord : MethodName := ⟨RX1, "breakWord", "(I)I"⟩
def dkwX1_breakWord_1 : List UInt8 := [187, 1, 44, 89, 44, 183, 1, 59, 78, 42, 45, 182, 1, 62, 42, 45, 182, 1, 66, 172]
abbrev dktX1_breakWord_1 : List UInt8 := dkwX1_breakWord_1 ++ []
def dkwX1_breakWord_0 : List UInt8 := [42, 27, 182, 0, 166, 77, 44, 180, 0, 117, 5, 159, 0, 7, 4, 167, 0, 4, 3, 184, 0, 156]
abbrev dktX1_breakWord_0 : List UInt8 := dkwX1_breakWord_0 ++ dktX1_breakWord_1
theorem dksX1_breakWord_0 : cX1_breakWord.data.toList.drop 0 = dktX1_breakWord_0 := by decide +kernel
theorem dksX1_breakWord_1 : cX1_breakWord.data.toList.drop 22 = dktX1_breakWord_1 := dk_seg dksX1_breakWord_0 22 rfl rfl
theorem dX1_breakWord_0 : decode cX1_breakWord 0 = .ok (.aload_n 0, 1) := dk_42 (dk_at dksX1_breakWord_0 0 rfl rfl)
theorem dX1_breakWord_1 : decode cX1_breakWord 1 = .ok (.iload_n 1, 1) := dk_27 (dk_at dksX1_breakWord_0 1 rfl rfl)
theorem dX1_breakWord_2 : decode cX1_breakWord 2 = .ok (.invokevirtual 166, 3) := dk_182 0 166 (dk_at dksX1_breakWord_0 2 rfl rfl)
theorem dX1_breakWord_5 : decode cX1_breakWord 5 = .ok (.astore_n 2, 1) := dk_77 (dk_at dksX1_breakWord_0 5 rfl rfl)
theorem dX1_breakWord_6 : decode cX1_breakWord 6 = .ok (.aload_n 2, 1) := dk_44 (dk_at dksX1_breakWord_0 6 rfl rfl)
theorem dX1_breakWord_7 : decode cX1_breakWord 7 = .ok (.getfield 117, 3) := dk_180 0 117 (dk_at dksX1_breakWord_0 7 rfl rfl)
theorem dX1_breakWord_10 : decode cX1_breakWord 10 = .ok (.iconst 2, 1) := dk_5 (dk_at dksX1_breakWord_0 10 rfl rfl)
theorem dX1_breakWord_11 : decode cX1_breakWord 11 = .ok (.if_icmp .eq 7, 3) := dk_159 0 7 (dk_at dksX1_breakWord_0 11 rfl rfl)
theorem dX1_breakWord_14 : decode cX1_breakWord 14 = .ok (.iconst 1, 1) := dk_4 (dk_at dksX1_breakWord_0 14 rfl rfl)
theorem dX1_breakWord_15 : decode cX1_breakWord 15 = .ok (.goto 4, 3) := dk_167 0 4 (dk_at dksX1_breakWord_0 15 rfl rfl)
theorem dX1_breakWord_18 : decode cX1_breakWord 18 = .ok (.iconst 0, 1) := dk_3 (dk_at dksX1_breakWord_0 18 rfl rfl)
theorem dX1_breakWord_19 : decode cX1_breakWord 19 = .ok (.invokestatic 156, 3) := dk_184 0 156 (dk_at dksX1_breakWord_0 19 rfl rfl)
theorem dX1_breakWord_22 : decode cX1_breakWord 22 = .ok (.new 300, 3) := dk_187 1 44 (dk_at dksX1_breakWord_1 0 rfl rfl)
theorem dX1_breakWord_25 : decode cX1_breakWord 25 = .ok (.dup, 1) := dk_89 (dk_at dksX1_breakWord_1 3 rfl rfl)
theorem dX1_breakWord_26 : decode cX1_breakWord 26 = .ok (.aload_n 2, 1) := dk_44 (dk_at dksX1_breakWord_1 4 rfl rfl)
theorem dX1_breakWord_27 : decode cX1_breakWord 27 = .ok (.invokespecial 315, 3) := dk_183 1 59 (dk_at dksX1_breakWord_1 5 rfl rfl)
theorem dX1_breakWord_30 : decode cX1_breakWord 30 = .ok (.astore_n 3, 1) := dk_78 (dk_at dksX1_breakWord_1 8 rfl rfl)
theorem dX1_breakWord_31 : decode cX1_breakWord 31 = .ok (.aload_n 0, 1) := dk_42 (dk_at dksX1_breakWord_1 9 rfl rfl)
theorem dX1_breakWord_32 : decode cX1_breakWord 32 = .ok (.aload_n 3, 1) := dk_45 (dk_at dksX1_breakWord_1 10 rfl rfl)
theorem dX1_breakWord_33 : decode cX1_breakWord 33 = .ok (.invokevirtual 318, 3) := dk_182 1 62 (dk_at dksX1_breakWord_1 11 rfl rfl)
theorem dX1_breakWord_36 : decode cX1_breakWord 36 = .ok (.aload_n 0, 1) := dk_42 (dk_at dksX1_breakWord_1 14 rfl rfl)
theorem dX1_breakWord_37 : decode cX1_breakWord 37 = .ok (.aload_n 3, 1) := dk_45 (dk_at dksX1_breakWord_1 15 rfl rfl)
theorem dX1_breakWord_38 : decode cX1_breakWord 38 = .ok (.invokevirtual 322, 3) := dk_182 1 66 (dk_at dksX1_breakWord_1 16 rfl rfl)
theorem dX1_breakWord_41 : decode cX1_breakWord 41 = .ok (.ireturn, 1) := dk_172 (dk_at dksX1_breakWord_1 19 rfl rfl)
abbrev cX1_bear : ByteArray := prog_1_method_35_code
def yX1_bear : MethodName := ⟨RX1, "bear", "(LHundiHall$Blow;)V"⟩
def dkwX1_bear_3 : List UInt8 := [153, 0, 16, 43, 192, 1, 44, 77, 44, 180, 1, 46, 5, 181, 0, 117, 177]
abbrev dktX1_bear_3 : List UInt8 := dkwX1_bear_3 ++ []
def dkwX1_bear_2 : List UInt8 := [180, 1, 41, 44, 180, 1, 53, 181, 1, 9, 44, 180, 1, 41, 4, 181, 1, 56, 43, 193, 1, 44]
abbrev dktX1_bear_2 : List UInt8 := dkwX1_bear_2 ++ dktX1_bear_3
def dkwX1_bear_1 : List UInt8 := [180, 0, 191, 97, 80, 44, 180, 1, 41, 9, 181, 0, 191, 44, 180, 1, 41, 4, 181, 0, 117, 44]
abbrev dktX1_bear_1 : List UInt8 := dkwX1_bear_1 ++ dktX1_bear_2
def dkwX1_bear_0 : List UInt8 := [43, 193, 1, 39, 153, 0, 59, 43, 192, 1, 39, 77, 42, 180, 0, 74, 7, 92, 47, 44, 180, 1, 41]
abbrev dktX1_bear_0 : List UInt8 := dkwX1_bear_0 ++ dktX1_bear_1
theorem dksX1_bear_0 : cX1_bear.data.toList.drop 0 = dktX1_bear_0 := by decide +kernel
theorem dksX1_bear_1 : cX1_bear.data.toList.drop 23 = dktX1_bear_1 := dk_seg dksX1_bear_0 23 rfl rfl
theorem dksX1_bear_2 : cX1_bear.data.toList.drop 45 = dktX1_bear_2 := dk_seg dksX1_bear_1 22 rfl rfl
theorem dksX1_bear_3 : cX1_bear.data.toList.drop 67 = dktX1_bear_3 := dk_seg dksX1_bear_2 22 rfl rfl
theorem dX1_bear_0 : decode cX1_bear 0 = .ok (.aload_n 1, 1) := dk_43 (dk_at dksX1_bear_0 0 rfl rfl)
theorem dX1_bear_1 : decode cX1_bear 1 = .ok (.instanceof 295, 3) := dk_193 1 39 (dk_at dksX1_bear_0 1 rfl rfl)
theorem dX1_bear_4 : decode cX1_bear 4 = .ok (.ifCond .eq 59, 3) := dk_153 0 59 (dk_at dksX1_bear_0 4 rfl rfl)
theorem dX1_bear_7 : decode cX1_bear 7 = .ok (.aload_n 1, 1) := dk_43 (dk_at dksX1_bear_0 7 rfl rfl)
theorem dX1_bear_8 : decode cX1_bear 8 = .ok (.checkcast 295, 3) := dk_192 1 39 (dk_at dksX1_bear_0 8 rfl rfl)
theorem dX1_bear_11 : decode cX1_bear 11 = .ok (.astore_n 2, 1) := dk_77 (dk_at dksX1_bear_0 11 rfl rfl)
theorem dX1_bear_12 : decode cX1_bear 12 = .ok (.aload_n 0, 1) := dk_42 (dk_at dksX1_bear_0 12 rfl rfl)
theorem dX1_bear_13 : decode cX1_bear 13 = .ok (.getfield 74, 3) := dk_180 0 74 (dk_at dksX1_bear_0 13 rfl rfl)
theorem dX1_bear_16 : decode cX1_bear 16 = .ok (.iconst 4, 1) := dk_7 (dk_at dksX1_bear_0 16 rfl rfl)
theorem dX1_bear_17 : decode cX1_bear 17 = .ok (.dup2, 1) := dk_92 (dk_at dksX1_bear_0 17 rfl rfl)
theorem dX1_bear_18 : decode cX1_bear 18 = .ok (.laload, 1) := dk_47 (dk_at dksX1_bear_0 18 rfl rfl)
theorem dX1_bear_19 : decode cX1_bear 19 = .ok (.aload_n 2, 1) := dk_44 (dk_at dksX1_bear_0 19 rfl rfl)
theorem dX1_bear_20 : decode cX1_bear 20 = .ok (.getfield 297, 3) := dk_180 1 41 (dk_at dksX1_bear_0 20 rfl rfl)
theorem dX1_bear_23 : decode cX1_bear 23 = .ok (.getfield 191, 3) := dk_180 0 191 (dk_at dksX1_bear_1 0 rfl rfl)
theorem dX1_bear_26 : decode cX1_bear 26 = .ok (.ladd, 1) := dk_97 (dk_at dksX1_bear_1 3 rfl rfl)
theorem dX1_bear_27 : decode cX1_bear 27 = .ok (.lastore, 1) := dk_80 (dk_at dksX1_bear_1 4 rfl rfl)
theorem dX1_bear_28 : decode cX1_bear 28 = .ok (.aload_n 2, 1) := dk_44 (dk_at dksX1_bear_1 5 rfl rfl)
theorem dX1_bear_29 : decode cX1_bear 29 = .ok (.getfield 297, 3) := dk_180 1 41 (dk_at dksX1_bear_1 6 rfl rfl)
theorem dX1_bear_32 : decode cX1_bear 32 = .ok (.lconst 0, 1) := dk_9 (dk_at dksX1_bear_1 9 rfl rfl)
theorem dX1_bear_33 : decode cX1_bear 33 = .ok (.putfield 191, 3) := dk_181 0 191 (dk_at dksX1_bear_1 10 rfl rfl)
theorem dX1_bear_36 : decode cX1_bear 36 = .ok (.aload_n 2, 1) := dk_44 (dk_at dksX1_bear_1 13 rfl rfl)
theorem dX1_bear_37 : decode cX1_bear 37 = .ok (.getfield 297, 3) := dk_180 1 41 (dk_at dksX1_bear_1 14 rfl rfl)
theorem dX1_bear_40 : decode cX1_bear 40 = .ok (.iconst 1, 1) := dk_4 (dk_at dksX1_bear_1 17 rfl rfl)
theorem dX1_bear_41 : decode cX1_bear 41 = .ok (.putfield 117, 3) := dk_181 0 117 (dk_at dksX1_bear_1 18 rfl rfl)
theorem dX1_bear_44 : decode cX1_bear 44 = .ok (.aload_n 2, 1) := dk_44 (dk_at dksX1_bear_1 21 rfl rfl)
theorem dX1_bear_45 : decode cX1_bear 45 = .ok (.getfield 297, 3) := dk_180 1 41 (dk_at dksX1_bear_2 0 rfl rfl)
theorem dX1_bear_48 : decode cX1_bear 48 = .ok (.aload_n 2, 1) := dk_44 (dk_at dksX1_bear_2 3 rfl rfl)
theorem dX1_bear_49 : decode cX1_bear 49 = .ok (.getfield 309, 3) := dk_180 1 53 (dk_at dksX1_bear_2 4 rfl rfl)
theorem dX1_bear_52 : decode cX1_bear 52 = .ok (.putfield 265, 3) := dk_181 1 9 (dk_at dksX1_bear_2 7 rfl rfl)
theorem dX1_bear_55 : decode cX1_bear 55 = .ok (.aload_n 2, 1) := dk_44 (dk_at dksX1_bear_2 10 rfl rfl)
theorem dX1_bear_56 : decode cX1_bear 56 = .ok (.getfield 297, 3) := dk_180 1 41 (dk_at dksX1_bear_2 11 rfl rfl)
theorem dX1_bear_59 : decode cX1_bear 59 = .ok (.iconst 1, 1) := dk_4 (dk_at dksX1_bear_2 14 rfl rfl)
theorem dX1_bear_60 : decode cX1_bear 60 = .ok (.putfield 312, 3) := dk_181 1 56 (dk_at dksX1_bear_2 15 rfl rfl)
theorem dX1_bear_63 : decode cX1_bear 63 = .ok (.aload_n 1, 1) := dk_43 (dk_at dksX1_bear_2 18 rfl rfl)
theorem dX1_bear_64 : decode cX1_bear 64 = .ok (.instanceof 300, 3) := dk_193 1 44 (dk_at dksX1_bear_2 19 rfl rfl)
theorem dX1_bear_67 : decode cX1_bear 67 = .ok (.ifCond .eq 16, 3) := dk_153 0 16 (dk_at dksX1_bear_3 0 rfl rfl)
theorem dX1_bear_70 : decode cX1_bear 70 = .ok (.aload_n 1, 1) := dk_43 (dk_at dksX1_bear_3 3 rfl rfl)
theorem dX1_bear_71 : decode cX1_bear 71 = .ok (.checkcast 300, 3) := dk_192 1 44 (dk_at dksX1_bear_3 4 rfl rfl)
theorem dX1_bear_74 : decode cX1_bear 74 = .ok (.astore_n 2, 1) := dk_77 (dk_at dksX1_bear_3 7 rfl rfl)
theorem dX1_bear_75 : decode cX1_bear 75 = .ok (.aload_n 2, 1) := dk_44 (dk_at dksX1_bear_3 8 rfl rfl)
theorem dX1_bear_76 : decode cX1_bear 76 = .ok (.getfield 302, 3) := dk_180 1 46 (dk_at dksX1_bear_3 9 rfl rfl)
theorem dX1_bear_79 : decode cX1_bear 79 = .ok (.iconst 2, 1) := dk_5 (dk_at dksX1_bear_3 12 rfl rfl)
theorem dX1_bear_80 : decode cX1_bear 80 = .ok (.putfield 117, 3) := dk_181 0 117 (dk_at dksX1_bear_3 13 rfl rfl)
theorem dX1_bear_83 : decode cX1_bear 83 = .ok (.return_, 1) := dk_177 (dk_at dksX1_bear_3 16 rfl rfl)
abbrev cX1_strike : ByteArray := prog_1_method_34_code
def yX1_strike : MethodName := ⟨RX1, "strike", "(LHundiHall$Blow;)I"⟩
def dkwX1_strike_8 : List UInt8 := [25, 5, 180, 0, 212, 164, 0, 9, 42, 25, 5, 182, 1, 51, 167, 255, 206, 29, 172]
abbrev dktX1_strike_8 : List UInt8 := dkwX1_strike_8 ++ []
def dkwX1_strike_7 : List UInt8 := [185, 0, 136, 1, 0, 192, 0, 183, 58, 5, 25, 5, 180, 0, 231, 154, 0, 23, 25, 5, 44, 182, 1, 47]
abbrev dktX1_strike_7 : List UInt8 := dkwX1_strike_7 ++ dktX1_strike_8
def dkwX1_strike_6 : List UInt8 := [42, 180, 0, 57, 182, 0, 126, 58, 4, 25, 4, 185, 0, 130, 1, 0, 153, 0, 46, 25, 4]
abbrev dktX1_strike_6 : List UInt8 := dkwX1_strike_6 ++ dktX1_strike_7
def dkwX1_strike_5 : List UInt8 := [167, 0, 9, 25, 5, 180, 0, 247, 190, 184, 0, 223, 25, 5, 8, 181, 0, 231, 132, 3, 1, 167, 255, 157]
abbrev dktX1_strike_5 : List UInt8 := dkwX1_strike_5 ++ dktX1_strike_6
def dkwX1_strike_4 : List UInt8 := [153, 0, 12, 25, 5, 180, 0, 231, 6, 160, 0, 35, 25, 5, 25, 5, 180, 0, 231, 154, 0, 7, 3]
abbrev dktX1_strike_4 : List UInt8 := dkwX1_strike_4 ++ dktX1_strike_5
def dkwX1_strike_3 : List UInt8 := [182, 0, 227, 44, 166, 0, 7, 4, 167, 0, 4, 3, 54, 6, 21, 6, 153, 0, 52, 25, 5, 180, 0, 231]
abbrev dktX1_strike_3 : List UInt8 := dkwX1_strike_3 ++ dktX1_strike_4
def dkwX1_strike_2 : List UInt8 := [153, 0, 95, 25, 4, 185, 0, 136, 1, 0, 192, 0, 183, 58, 5, 43, 193, 1, 44, 153, 0, 16, 25, 5]
abbrev dktX1_strike_2 : List UInt8 := dkwX1_strike_2 ++ dktX1_strike_3
def dkwX1_strike_1 : List UInt8 := [180, 1, 46, 77, 3, 62, 42, 180, 0, 57, 182, 0, 126, 58, 4, 25, 4, 185, 0, 130, 1, 0]
abbrev dktX1_strike_1 : List UInt8 := dkwX1_strike_1 ++ dktX1_strike_2
def dkwX1_strike_0 : List UInt8 := [43, 193, 1, 39, 153, 0, 15, 43, 192, 1, 39, 78, 45, 180, 1, 41, 167, 0, 10, 43, 192, 1, 44]
abbrev dktX1_strike_0 : List UInt8 := dkwX1_strike_0 ++ dktX1_strike_1
theorem dksX1_strike_0 : cX1_strike.data.toList.drop 0 = dktX1_strike_0 := by decide +kernel
theorem dksX1_strike_1 : cX1_strike.data.toList.drop 23 = dktX1_strike_1 := dk_seg dksX1_strike_0 23 rfl rfl
theorem dksX1_strike_2 : cX1_strike.data.toList.drop 45 = dktX1_strike_2 := dk_seg dksX1_strike_1 22 rfl rfl
theorem dksX1_strike_3 : cX1_strike.data.toList.drop 69 = dktX1_strike_3 := dk_seg dksX1_strike_2 24 rfl rfl
theorem dksX1_strike_4 : cX1_strike.data.toList.drop 93 = dktX1_strike_4 := dk_seg dksX1_strike_3 24 rfl rfl
theorem dksX1_strike_5 : cX1_strike.data.toList.drop 116 = dktX1_strike_5 := dk_seg dksX1_strike_4 23 rfl rfl
theorem dksX1_strike_6 : cX1_strike.data.toList.drop 140 = dktX1_strike_6 := dk_seg dksX1_strike_5 24 rfl rfl
theorem dksX1_strike_7 : cX1_strike.data.toList.drop 161 = dktX1_strike_7 := dk_seg dksX1_strike_6 21 rfl rfl
theorem dksX1_strike_8 : cX1_strike.data.toList.drop 185 = dktX1_strike_8 := dk_seg dksX1_strike_7 24 rfl rfl
theorem dX1_strike_0 : decode cX1_strike 0 = .ok (.aload_n 1, 1) := dk_43 (dk_at dksX1_strike_0 0 rfl rfl)
theorem dX1_strike_1 : decode cX1_strike 1 = .ok (.instanceof 295, 3) := dk_193 1 39 (dk_at dksX1_strike_0 1 rfl rfl)
theorem dX1_strike_4 : decode cX1_strike 4 = .ok (.ifCond .eq 15, 3) := dk_153 0 15 (dk_at dksX1_strike_0 4 rfl rfl)
theorem dX1_strike_7 : decode cX1_strike 7 = .ok (.aload_n 1, 1) := dk_43 (dk_at dksX1_strike_0 7 rfl rfl)
theorem dX1_strike_8 : decode cX1_strike 8 = .ok (.checkcast 295, 3) := dk_192 1 39 (dk_at dksX1_strike_0 8 rfl rfl)
theorem dX1_strike_11 : decode cX1_strike 11 = .ok (.astore_n 3, 1) := dk_78 (dk_at dksX1_strike_0 11 rfl rfl)
theorem dX1_strike_12 : decode cX1_strike 12 = .ok (.aload_n 3, 1) := dk_45 (dk_at dksX1_strike_0 12 rfl rfl)
theorem dX1_strike_13 : decode cX1_strike 13 = .ok (.getfield 297, 3) := dk_180 1 41 (dk_at dksX1_strike_0 13 rfl rfl)
theorem dX1_strike_16 : decode cX1_strike 16 = .ok (.goto 10, 3) := dk_167 0 10 (dk_at dksX1_strike_0 16 rfl rfl)
theorem dX1_strike_19 : decode cX1_strike 19 = .ok (.aload_n 1, 1) := dk_43 (dk_at dksX1_strike_0 19 rfl rfl)
theorem dX1_strike_20 : decode cX1_strike 20 = .ok (.checkcast 300, 3) := dk_192 1 44 (dk_at dksX1_strike_0 20 rfl rfl)
theorem dX1_strike_23 : decode cX1_strike 23 = .ok (.getfield 302, 3) := dk_180 1 46 (dk_at dksX1_strike_1 0 rfl rfl)
theorem dX1_strike_26 : decode cX1_strike 26 = .ok (.astore_n 2, 1) := dk_77 (dk_at dksX1_strike_1 3 rfl rfl)
theorem dX1_strike_27 : decode cX1_strike 27 = .ok (.iconst 0, 1) := dk_3 (dk_at dksX1_strike_1 4 rfl rfl)
theorem dX1_strike_28 : decode cX1_strike 28 = .ok (.istore_n 3, 1) := dk_62 (dk_at dksX1_strike_1 5 rfl rfl)
theorem dX1_strike_29 : decode cX1_strike 29 = .ok (.aload_n 0, 1) := dk_42 (dk_at dksX1_strike_1 6 rfl rfl)
theorem dX1_strike_30 : decode cX1_strike 30 = .ok (.getfield 57, 3) := dk_180 0 57 (dk_at dksX1_strike_1 7 rfl rfl)
theorem dX1_strike_33 : decode cX1_strike 33 = .ok (.invokevirtual 126, 3) := dk_182 0 126 (dk_at dksX1_strike_1 10 rfl rfl)
theorem dX1_strike_36 : decode cX1_strike 36 = .ok (.astore 4, 2) := dk_58 4 (dk_at dksX1_strike_1 13 rfl rfl)
theorem dX1_strike_38 : decode cX1_strike 38 = .ok (.aload 4, 2) := dk_25 4 (dk_at dksX1_strike_1 15 rfl rfl)
theorem dX1_strike_40 : decode cX1_strike 40 = .ok (.invokeinterface 130 1, 5) := by decide +kernel
theorem dX1_strike_45 : decode cX1_strike 45 = .ok (.ifCond .eq 95, 3) := dk_153 0 95 (dk_at dksX1_strike_2 0 rfl rfl)
theorem dX1_strike_48 : decode cX1_strike 48 = .ok (.aload 4, 2) := dk_25 4 (dk_at dksX1_strike_2 3 rfl rfl)
theorem dX1_strike_50 : decode cX1_strike 50 = .ok (.invokeinterface 136 1, 5) := by decide +kernel
theorem dX1_strike_55 : decode cX1_strike 55 = .ok (.checkcast 183, 3) := dk_192 0 183 (dk_at dksX1_strike_2 10 rfl rfl)
theorem dX1_strike_58 : decode cX1_strike 58 = .ok (.astore 5, 2) := dk_58 5 (dk_at dksX1_strike_2 13 rfl rfl)
theorem dX1_strike_60 : decode cX1_strike 60 = .ok (.aload_n 1, 1) := dk_43 (dk_at dksX1_strike_2 15 rfl rfl)
theorem dX1_strike_61 : decode cX1_strike 61 = .ok (.instanceof 300, 3) := dk_193 1 44 (dk_at dksX1_strike_2 16 rfl rfl)
theorem dX1_strike_64 : decode cX1_strike 64 = .ok (.ifCond .eq 16, 3) := dk_153 0 16 (dk_at dksX1_strike_2 19 rfl rfl)
theorem dX1_strike_67 : decode cX1_strike 67 = .ok (.aload 5, 2) := dk_25 5 (dk_at dksX1_strike_2 22 rfl rfl)
theorem dX1_strike_69 : decode cX1_strike 69 = .ok (.invokevirtual 227, 3) := dk_182 0 227 (dk_at dksX1_strike_3 0 rfl rfl)
theorem dX1_strike_72 : decode cX1_strike 72 = .ok (.aload_n 2, 1) := dk_44 (dk_at dksX1_strike_3 3 rfl rfl)
theorem dX1_strike_73 : decode cX1_strike 73 = .ok (.if_acmp .ne 7, 3) := dk_166 0 7 (dk_at dksX1_strike_3 4 rfl rfl)
theorem dX1_strike_76 : decode cX1_strike 76 = .ok (.iconst 1, 1) := dk_4 (dk_at dksX1_strike_3 7 rfl rfl)
theorem dX1_strike_77 : decode cX1_strike 77 = .ok (.goto 4, 3) := dk_167 0 4 (dk_at dksX1_strike_3 8 rfl rfl)
theorem dX1_strike_80 : decode cX1_strike 80 = .ok (.iconst 0, 1) := dk_3 (dk_at dksX1_strike_3 11 rfl rfl)
theorem dX1_strike_81 : decode cX1_strike 81 = .ok (.istore 6, 2) := dk_54 6 (dk_at dksX1_strike_3 12 rfl rfl)
theorem dX1_strike_83 : decode cX1_strike 83 = .ok (.iload 6, 2) := dk_21 6 (dk_at dksX1_strike_3 14 rfl rfl)
theorem dX1_strike_85 : decode cX1_strike 85 = .ok (.ifCond .eq 52, 3) := dk_153 0 52 (dk_at dksX1_strike_3 16 rfl rfl)
theorem dX1_strike_88 : decode cX1_strike 88 = .ok (.aload 5, 2) := dk_25 5 (dk_at dksX1_strike_3 19 rfl rfl)
theorem dX1_strike_90 : decode cX1_strike 90 = .ok (.getfield 231, 3) := dk_180 0 231 (dk_at dksX1_strike_3 21 rfl rfl)
theorem dX1_strike_93 : decode cX1_strike 93 = .ok (.ifCond .eq 12, 3) := dk_153 0 12 (dk_at dksX1_strike_4 0 rfl rfl)
theorem dX1_strike_96 : decode cX1_strike 96 = .ok (.aload 5, 2) := dk_25 5 (dk_at dksX1_strike_4 3 rfl rfl)
theorem dX1_strike_98 : decode cX1_strike 98 = .ok (.getfield 231, 3) := dk_180 0 231 (dk_at dksX1_strike_4 5 rfl rfl)
theorem dX1_strike_101 : decode cX1_strike 101 = .ok (.iconst 3, 1) := dk_6 (dk_at dksX1_strike_4 8 rfl rfl)
theorem dX1_strike_102 : decode cX1_strike 102 = .ok (.if_icmp .ne 35, 3) := dk_160 0 35 (dk_at dksX1_strike_4 9 rfl rfl)
theorem dX1_strike_105 : decode cX1_strike 105 = .ok (.aload 5, 2) := dk_25 5 (dk_at dksX1_strike_4 12 rfl rfl)
theorem dX1_strike_107 : decode cX1_strike 107 = .ok (.aload 5, 2) := dk_25 5 (dk_at dksX1_strike_4 14 rfl rfl)
theorem dX1_strike_109 : decode cX1_strike 109 = .ok (.getfield 231, 3) := dk_180 0 231 (dk_at dksX1_strike_4 16 rfl rfl)
theorem dX1_strike_112 : decode cX1_strike 112 = .ok (.ifCond .ne 7, 3) := dk_154 0 7 (dk_at dksX1_strike_4 19 rfl rfl)
theorem dX1_strike_115 : decode cX1_strike 115 = .ok (.iconst 0, 1) := dk_3 (dk_at dksX1_strike_4 22 rfl rfl)
theorem dX1_strike_116 : decode cX1_strike 116 = .ok (.goto 9, 3) := dk_167 0 9 (dk_at dksX1_strike_5 0 rfl rfl)
theorem dX1_strike_119 : decode cX1_strike 119 = .ok (.aload 5, 2) := dk_25 5 (dk_at dksX1_strike_5 3 rfl rfl)
theorem dX1_strike_121 : decode cX1_strike 121 = .ok (.getfield 247, 3) := dk_180 0 247 (dk_at dksX1_strike_5 5 rfl rfl)
theorem dX1_strike_124 : decode cX1_strike 124 = .ok (.arraylength, 1) := dk_190 (dk_at dksX1_strike_5 8 rfl rfl)
theorem dX1_strike_125 : decode cX1_strike 125 = .ok (.invokestatic 223, 3) := dk_184 0 223 (dk_at dksX1_strike_5 9 rfl rfl)
theorem dX1_strike_128 : decode cX1_strike 128 = .ok (.aload 5, 2) := dk_25 5 (dk_at dksX1_strike_5 12 rfl rfl)
theorem dX1_strike_130 : decode cX1_strike 130 = .ok (.iconst 5, 1) := dk_8 (dk_at dksX1_strike_5 14 rfl rfl)
theorem dX1_strike_131 : decode cX1_strike 131 = .ok (.putfield 231, 3) := dk_181 0 231 (dk_at dksX1_strike_5 15 rfl rfl)
theorem dX1_strike_134 : decode cX1_strike 134 = .ok (.iinc 3 1, 3) := dk_132 3 1 (dk_at dksX1_strike_5 18 rfl rfl)
theorem dX1_strike_137 : decode cX1_strike 137 = .ok (.goto (-99), 3) := dk_167 255 157 (dk_at dksX1_strike_5 21 rfl rfl)
theorem dX1_strike_140 : decode cX1_strike 140 = .ok (.aload_n 0, 1) := dk_42 (dk_at dksX1_strike_6 0 rfl rfl)
theorem dX1_strike_141 : decode cX1_strike 141 = .ok (.getfield 57, 3) := dk_180 0 57 (dk_at dksX1_strike_6 1 rfl rfl)
theorem dX1_strike_144 : decode cX1_strike 144 = .ok (.invokevirtual 126, 3) := dk_182 0 126 (dk_at dksX1_strike_6 4 rfl rfl)
theorem dX1_strike_147 : decode cX1_strike 147 = .ok (.astore 4, 2) := dk_58 4 (dk_at dksX1_strike_6 7 rfl rfl)
theorem dX1_strike_149 : decode cX1_strike 149 = .ok (.aload 4, 2) := dk_25 4 (dk_at dksX1_strike_6 9 rfl rfl)
theorem dX1_strike_151 : decode cX1_strike 151 = .ok (.invokeinterface 130 1, 5) := by decide +kernel
theorem dX1_strike_156 : decode cX1_strike 156 = .ok (.ifCond .eq 46, 3) := dk_153 0 46 (dk_at dksX1_strike_6 16 rfl rfl)
theorem dX1_strike_159 : decode cX1_strike 159 = .ok (.aload 4, 2) := dk_25 4 (dk_at dksX1_strike_6 19 rfl rfl)
theorem dX1_strike_161 : decode cX1_strike 161 = .ok (.invokeinterface 136 1, 5) := by decide +kernel
theorem dX1_strike_166 : decode cX1_strike 166 = .ok (.checkcast 183, 3) := dk_192 0 183 (dk_at dksX1_strike_7 5 rfl rfl)
theorem dX1_strike_169 : decode cX1_strike 169 = .ok (.astore 5, 2) := dk_58 5 (dk_at dksX1_strike_7 8 rfl rfl)
theorem dX1_strike_171 : decode cX1_strike 171 = .ok (.aload 5, 2) := dk_25 5 (dk_at dksX1_strike_7 10 rfl rfl)
theorem dX1_strike_173 : decode cX1_strike 173 = .ok (.getfield 231, 3) := dk_180 0 231 (dk_at dksX1_strike_7 12 rfl rfl)
theorem dX1_strike_176 : decode cX1_strike 176 = .ok (.ifCond .ne 23, 3) := dk_154 0 23 (dk_at dksX1_strike_7 15 rfl rfl)
theorem dX1_strike_179 : decode cX1_strike 179 = .ok (.aload 5, 2) := dk_25 5 (dk_at dksX1_strike_7 18 rfl rfl)
theorem dX1_strike_181 : decode cX1_strike 181 = .ok (.aload_n 2, 1) := dk_44 (dk_at dksX1_strike_7 20 rfl rfl)
theorem dX1_strike_182 : decode cX1_strike 182 = .ok (.invokevirtual 303, 3) := dk_182 1 47 (dk_at dksX1_strike_7 21 rfl rfl)
theorem dX1_strike_185 : decode cX1_strike 185 = .ok (.aload 5, 2) := dk_25 5 (dk_at dksX1_strike_8 0 rfl rfl)
theorem dX1_strike_187 : decode cX1_strike 187 = .ok (.getfield 212, 3) := dk_180 0 212 (dk_at dksX1_strike_8 2 rfl rfl)
theorem dX1_strike_190 : decode cX1_strike 190 = .ok (.if_icmp .le 9, 3) := dk_164 0 9 (dk_at dksX1_strike_8 5 rfl rfl)
theorem dX1_strike_193 : decode cX1_strike 193 = .ok (.aload_n 0, 1) := dk_42 (dk_at dksX1_strike_8 8 rfl rfl)
theorem dX1_strike_194 : decode cX1_strike 194 = .ok (.aload 5, 2) := dk_25 5 (dk_at dksX1_strike_8 9 rfl rfl)
theorem dX1_strike_196 : decode cX1_strike 196 = .ok (.invokevirtual 307, 3) := dk_182 1 51 (dk_at dksX1_strike_8 11 rfl rfl)
theorem dX1_strike_199 : decode cX1_strike 199 = .ok (.goto (-50), 3) := dk_167 255 206 (dk_at dksX1_strike_8 14 rfl rfl)
theorem dX1_strike_202 : decode cX1_strike 202 = .ok (.iload_n 3, 1) := dk_29 (dk_at dksX1_strike_8 17 rfl rfl)
theorem dX1_strike_203 : decode cX1_strike 203 = .ok (.ireturn, 1) := dk_172 (dk_at dksX1_strike_8 18 rfl rfl)
abbrev cX1_takeBack : ByteArray := prog_1_method_25_code
def yX1_takeBack : MethodName := ⟨RX1, "takeBack", "(LHundiHall$Order;I)V"⟩
def dkwX1_takeBack_4 : List UInt8 := [167, 255, 167, 177]
abbrev dktX1_takeBack_4 : List UInt8 := dkwX1_takeBack_4 ++ []
def dkwX1_takeBack_3 : List UInt8 := [45, 180, 0, 209, 42, 180, 0, 212, 162, 0, 10, 45, 180, 0, 220, 167, 0, 4, 9, 184, 0, 102]
abbrev dktX1_takeBack_3 : List UInt8 := dkwX1_takeBack_3 ++ dktX1_takeBack_4
def dkwX1_takeBack_2 : List UInt8 := [45, 180, 0, 213, 45, 180, 0, 217, 45, 180, 0, 220, 117, 184, 0, 102, 45, 180, 0, 217, 45, 180, 0, 213]
abbrev dktX1_takeBack_2 : List UInt8 := dkwX1_takeBack_2 ++ dktX1_takeBack_3
def dkwX1_takeBack_1 : List UInt8 := [45, 180, 0, 209, 27, 161, 0, 65, 45, 180, 0, 213, 45, 180, 0, 217, 45, 180, 0, 220, 117, 184, 0, 98]
abbrev dktX1_takeBack_1 : List UInt8 := dkwX1_takeBack_1 ++ dktX1_takeBack_2
def dkwX1_takeBack_0 : List UInt8 := [42, 182, 0, 206, 77, 44, 185, 0, 130, 1, 0, 153, 0, 86, 44, 185, 0, 136, 1, 0, 192, 0, 207, 78]
abbrev dktX1_takeBack_0 : List UInt8 := dkwX1_takeBack_0 ++ dktX1_takeBack_1
theorem dksX1_takeBack_0 : cX1_takeBack.data.toList.drop 0 = dktX1_takeBack_0 := by decide +kernel
theorem dksX1_takeBack_1 : cX1_takeBack.data.toList.drop 24 = dktX1_takeBack_1 := dk_seg dksX1_takeBack_0 24 rfl rfl
theorem dksX1_takeBack_2 : cX1_takeBack.data.toList.drop 48 = dktX1_takeBack_2 := dk_seg dksX1_takeBack_1 24 rfl rfl
theorem dksX1_takeBack_3 : cX1_takeBack.data.toList.drop 72 = dktX1_takeBack_3 := dk_seg dksX1_takeBack_2 24 rfl rfl
theorem dksX1_takeBack_4 : cX1_takeBack.data.toList.drop 94 = dktX1_takeBack_4 := dk_seg dksX1_takeBack_3 22 rfl rfl
theorem dX1_takeBack_0 : decode cX1_takeBack 0 = .ok (.aload_n 0, 1) := dk_42 (dk_at dksX1_takeBack_0 0 rfl rfl)
theorem dX1_takeBack_1 : decode cX1_takeBack 1 = .ok (.invokevirtual 206, 3) := dk_182 0 206 (dk_at dksX1_takeBack_0 1 rfl rfl)
theorem dX1_takeBack_4 : decode cX1_takeBack 4 = .ok (.astore_n 2, 1) := dk_77 (dk_at dksX1_takeBack_0 4 rfl rfl)
theorem dX1_takeBack_5 : decode cX1_takeBack 5 = .ok (.aload_n 2, 1) := dk_44 (dk_at dksX1_takeBack_0 5 rfl rfl)
theorem dX1_takeBack_6 : decode cX1_takeBack 6 = .ok (.invokeinterface 130 1, 5) := by decide +kernel
theorem dX1_takeBack_11 : decode cX1_takeBack 11 = .ok (.ifCond .eq 86, 3) := dk_153 0 86 (dk_at dksX1_takeBack_0 11 rfl rfl)
theorem dX1_takeBack_14 : decode cX1_takeBack 14 = .ok (.aload_n 2, 1) := dk_44 (dk_at dksX1_takeBack_0 14 rfl rfl)
theorem dX1_takeBack_15 : decode cX1_takeBack 15 = .ok (.invokeinterface 136 1, 5) := by decide +kernel
theorem dX1_takeBack_20 : decode cX1_takeBack 20 = .ok (.checkcast 207, 3) := dk_192 0 207 (dk_at dksX1_takeBack_0 20 rfl rfl)
theorem dX1_takeBack_23 : decode cX1_takeBack 23 = .ok (.astore_n 3, 1) := dk_78 (dk_at dksX1_takeBack_0 23 rfl rfl)
theorem dX1_takeBack_24 : decode cX1_takeBack 24 = .ok (.aload_n 3, 1) := dk_45 (dk_at dksX1_takeBack_1 0 rfl rfl)
theorem dX1_takeBack_25 : decode cX1_takeBack 25 = .ok (.getfield 209, 3) := dk_180 0 209 (dk_at dksX1_takeBack_1 1 rfl rfl)
theorem dX1_takeBack_28 : decode cX1_takeBack 28 = .ok (.iload_n 1, 1) := dk_27 (dk_at dksX1_takeBack_1 4 rfl rfl)
theorem dX1_takeBack_29 : decode cX1_takeBack 29 = .ok (.if_icmp .lt 65, 3) := dk_161 0 65 (dk_at dksX1_takeBack_1 5 rfl rfl)
theorem dX1_takeBack_32 : decode cX1_takeBack 32 = .ok (.aload_n 3, 1) := dk_45 (dk_at dksX1_takeBack_1 8 rfl rfl)
theorem dX1_takeBack_33 : decode cX1_takeBack 33 = .ok (.getfield 213, 3) := dk_180 0 213 (dk_at dksX1_takeBack_1 9 rfl rfl)
theorem dX1_takeBack_36 : decode cX1_takeBack 36 = .ok (.aload_n 3, 1) := dk_45 (dk_at dksX1_takeBack_1 12 rfl rfl)
theorem dX1_takeBack_37 : decode cX1_takeBack 37 = .ok (.getfield 217, 3) := dk_180 0 217 (dk_at dksX1_takeBack_1 13 rfl rfl)
theorem dX1_takeBack_40 : decode cX1_takeBack 40 = .ok (.aload_n 3, 1) := dk_45 (dk_at dksX1_takeBack_1 16 rfl rfl)
theorem dX1_takeBack_41 : decode cX1_takeBack 41 = .ok (.getfield 220, 3) := dk_180 0 220 (dk_at dksX1_takeBack_1 17 rfl rfl)
theorem dX1_takeBack_44 : decode cX1_takeBack 44 = .ok (.lneg, 1) := dk_117 (dk_at dksX1_takeBack_1 20 rfl rfl)
theorem dX1_takeBack_45 : decode cX1_takeBack 45 = .ok (.invokestatic 98, 3) := dk_184 0 98 (dk_at dksX1_takeBack_1 21 rfl rfl)
theorem dX1_takeBack_48 : decode cX1_takeBack 48 = .ok (.aload_n 3, 1) := dk_45 (dk_at dksX1_takeBack_2 0 rfl rfl)
theorem dX1_takeBack_49 : decode cX1_takeBack 49 = .ok (.getfield 213, 3) := dk_180 0 213 (dk_at dksX1_takeBack_2 1 rfl rfl)
theorem dX1_takeBack_52 : decode cX1_takeBack 52 = .ok (.aload_n 3, 1) := dk_45 (dk_at dksX1_takeBack_2 4 rfl rfl)
theorem dX1_takeBack_53 : decode cX1_takeBack 53 = .ok (.getfield 217, 3) := dk_180 0 217 (dk_at dksX1_takeBack_2 5 rfl rfl)
theorem dX1_takeBack_56 : decode cX1_takeBack 56 = .ok (.aload_n 3, 1) := dk_45 (dk_at dksX1_takeBack_2 8 rfl rfl)
theorem dX1_takeBack_57 : decode cX1_takeBack 57 = .ok (.getfield 220, 3) := dk_180 0 220 (dk_at dksX1_takeBack_2 9 rfl rfl)
theorem dX1_takeBack_60 : decode cX1_takeBack 60 = .ok (.lneg, 1) := dk_117 (dk_at dksX1_takeBack_2 12 rfl rfl)
theorem dX1_takeBack_61 : decode cX1_takeBack 61 = .ok (.invokestatic 102, 3) := dk_184 0 102 (dk_at dksX1_takeBack_2 13 rfl rfl)
theorem dX1_takeBack_64 : decode cX1_takeBack 64 = .ok (.aload_n 3, 1) := dk_45 (dk_at dksX1_takeBack_2 16 rfl rfl)
theorem dX1_takeBack_65 : decode cX1_takeBack 65 = .ok (.getfield 217, 3) := dk_180 0 217 (dk_at dksX1_takeBack_2 17 rfl rfl)
theorem dX1_takeBack_68 : decode cX1_takeBack 68 = .ok (.aload_n 3, 1) := dk_45 (dk_at dksX1_takeBack_2 20 rfl rfl)
theorem dX1_takeBack_69 : decode cX1_takeBack 69 = .ok (.getfield 213, 3) := dk_180 0 213 (dk_at dksX1_takeBack_2 21 rfl rfl)
theorem dX1_takeBack_72 : decode cX1_takeBack 72 = .ok (.aload_n 3, 1) := dk_45 (dk_at dksX1_takeBack_3 0 rfl rfl)
theorem dX1_takeBack_73 : decode cX1_takeBack 73 = .ok (.getfield 209, 3) := dk_180 0 209 (dk_at dksX1_takeBack_3 1 rfl rfl)
theorem dX1_takeBack_76 : decode cX1_takeBack 76 = .ok (.aload_n 0, 1) := dk_42 (dk_at dksX1_takeBack_3 4 rfl rfl)
theorem dX1_takeBack_77 : decode cX1_takeBack 77 = .ok (.getfield 212, 3) := dk_180 0 212 (dk_at dksX1_takeBack_3 5 rfl rfl)
theorem dX1_takeBack_80 : decode cX1_takeBack 80 = .ok (.if_icmp .ge 10, 3) := dk_162 0 10 (dk_at dksX1_takeBack_3 8 rfl rfl)
theorem dX1_takeBack_83 : decode cX1_takeBack 83 = .ok (.aload_n 3, 1) := dk_45 (dk_at dksX1_takeBack_3 11 rfl rfl)
theorem dX1_takeBack_84 : decode cX1_takeBack 84 = .ok (.getfield 220, 3) := dk_180 0 220 (dk_at dksX1_takeBack_3 12 rfl rfl)
theorem dX1_takeBack_87 : decode cX1_takeBack 87 = .ok (.goto 4, 3) := dk_167 0 4 (dk_at dksX1_takeBack_3 15 rfl rfl)
theorem dX1_takeBack_90 : decode cX1_takeBack 90 = .ok (.lconst 0, 1) := dk_9 (dk_at dksX1_takeBack_3 18 rfl rfl)
theorem dX1_takeBack_91 : decode cX1_takeBack 91 = .ok (.invokestatic 102, 3) := dk_184 0 102 (dk_at dksX1_takeBack_3 19 rfl rfl)
theorem dX1_takeBack_94 : decode cX1_takeBack 94 = .ok (.goto (-89), 3) := dk_167 255 167 (dk_at dksX1_takeBack_4 0 rfl rfl)
theorem dX1_takeBack_97 : decode cX1_takeBack 97 = .ok (.return_, 1) := dk_177 (dk_at dksX1_takeBack_4 3 rfl rfl)
abbrev cX1_turn : ByteArray := prog_1_method_33_code
def yX1_turn : MethodName := ⟨RX1, "turn", "(LHundiHall$Order;)V"⟩
def dkwX1_turn_5 : List UInt8 := [157, 0, 15, 43, 45, 182, 1, 35, 43, 184, 0, 198, 167, 0, 11, 43, 184, 0, 198, 43, 184, 0, 244, 177]
abbrev dktX1_turn_5 : List UInt8 := dkwX1_turn_5 ++ []
def dkwX1_turn_4 : List UInt8 := [97, 55, 4, 132, 6, 1, 167, 255, 225, 45, 198, 0, 29, 22, 4, 43, 43, 180, 0, 212, 182, 1, 31, 148]
abbrev dktX1_turn_4 : List UInt8 := dkwX1_turn_4 ++ dktX1_turn_5
def dkwX1_turn_3 : List UInt8 := [198, 0, 33, 21, 6, 45, 190, 162, 0, 26, 22, 4, 45, 21, 6, 50, 43, 180, 0, 235, 182, 0, 122, 133]
abbrev dktX1_turn_3 : List UInt8 := dkwX1_turn_3 ++ dktX1_turn_4
def dkwX1_turn_2 : List UInt8 := [180, 0, 212, 50, 43, 182, 0, 232, 43, 180, 0, 235, 28, 182, 0, 179, 78, 9, 55, 4, 4, 54, 6, 45]
abbrev dktX1_turn_2 : List UInt8 := dkwX1_turn_2 ++ dktX1_turn_3
def dkwX1_turn_1 : List UInt8 := [128, 61, 132, 3, 1, 167, 255, 231, 43, 43, 180, 0, 212, 184, 0, 223, 42, 43, 180, 0, 247, 43]
abbrev dktX1_turn_1 : List UInt8 := dkwX1_turn_1 ++ dktX1_turn_2
def dkwX1_turn_0 : List UInt8 := [3, 61, 3, 62, 29, 43, 180, 0, 212, 162, 0, 23, 28, 4, 43, 180, 0, 247, 29, 50, 180, 0, 91, 120]
abbrev dktX1_turn_0 : List UInt8 := dkwX1_turn_0 ++ dktX1_turn_1
theorem dksX1_turn_0 : cX1_turn.data.toList.drop 0 = dktX1_turn_0 := by decide +kernel
theorem dksX1_turn_1 : cX1_turn.data.toList.drop 24 = dktX1_turn_1 := dk_seg dksX1_turn_0 24 rfl rfl
theorem dksX1_turn_2 : cX1_turn.data.toList.drop 46 = dktX1_turn_2 := dk_seg dksX1_turn_1 22 rfl rfl
theorem dksX1_turn_3 : cX1_turn.data.toList.drop 70 = dktX1_turn_3 := dk_seg dksX1_turn_2 24 rfl rfl
theorem dksX1_turn_4 : cX1_turn.data.toList.drop 94 = dktX1_turn_4 := dk_seg dksX1_turn_3 24 rfl rfl
theorem dksX1_turn_5 : cX1_turn.data.toList.drop 118 = dktX1_turn_5 := dk_seg dksX1_turn_4 24 rfl rfl
theorem dX1_turn_0 : decode cX1_turn 0 = .ok (.iconst 0, 1) := dk_3 (dk_at dksX1_turn_0 0 rfl rfl)
theorem dX1_turn_1 : decode cX1_turn 1 = .ok (.istore_n 2, 1) := dk_61 (dk_at dksX1_turn_0 1 rfl rfl)
theorem dX1_turn_2 : decode cX1_turn 2 = .ok (.iconst 0, 1) := dk_3 (dk_at dksX1_turn_0 2 rfl rfl)
theorem dX1_turn_3 : decode cX1_turn 3 = .ok (.istore_n 3, 1) := dk_62 (dk_at dksX1_turn_0 3 rfl rfl)
theorem dX1_turn_4 : decode cX1_turn 4 = .ok (.iload_n 3, 1) := dk_29 (dk_at dksX1_turn_0 4 rfl rfl)
theorem dX1_turn_5 : decode cX1_turn 5 = .ok (.aload_n 1, 1) := dk_43 (dk_at dksX1_turn_0 5 rfl rfl)
theorem dX1_turn_6 : decode cX1_turn 6 = .ok (.getfield 212, 3) := dk_180 0 212 (dk_at dksX1_turn_0 6 rfl rfl)
theorem dX1_turn_9 : decode cX1_turn 9 = .ok (.if_icmp .ge 23, 3) := dk_162 0 23 (dk_at dksX1_turn_0 9 rfl rfl)
theorem dX1_turn_12 : decode cX1_turn 12 = .ok (.iload_n 2, 1) := dk_28 (dk_at dksX1_turn_0 12 rfl rfl)
theorem dX1_turn_13 : decode cX1_turn 13 = .ok (.iconst 1, 1) := dk_4 (dk_at dksX1_turn_0 13 rfl rfl)
theorem dX1_turn_14 : decode cX1_turn 14 = .ok (.aload_n 1, 1) := dk_43 (dk_at dksX1_turn_0 14 rfl rfl)
theorem dX1_turn_15 : decode cX1_turn 15 = .ok (.getfield 247, 3) := dk_180 0 247 (dk_at dksX1_turn_0 15 rfl rfl)
theorem dX1_turn_18 : decode cX1_turn 18 = .ok (.iload_n 3, 1) := dk_29 (dk_at dksX1_turn_0 18 rfl rfl)
theorem dX1_turn_19 : decode cX1_turn 19 = .ok (.aaload, 1) := dk_50 (dk_at dksX1_turn_0 19 rfl rfl)
theorem dX1_turn_20 : decode cX1_turn 20 = .ok (.getfield 91, 3) := dk_180 0 91 (dk_at dksX1_turn_0 20 rfl rfl)
theorem dX1_turn_23 : decode cX1_turn 23 = .ok (.ishl, 1) := dk_120 (dk_at dksX1_turn_0 23 rfl rfl)
theorem dX1_turn_24 : decode cX1_turn 24 = .ok (.ior, 1) := dk_128 (dk_at dksX1_turn_1 0 rfl rfl)
theorem dX1_turn_25 : decode cX1_turn 25 = .ok (.istore_n 2, 1) := dk_61 (dk_at dksX1_turn_1 1 rfl rfl)
theorem dX1_turn_26 : decode cX1_turn 26 = .ok (.iinc 3 1, 3) := dk_132 3 1 (dk_at dksX1_turn_1 2 rfl rfl)
theorem dX1_turn_29 : decode cX1_turn 29 = .ok (.goto (-25), 3) := dk_167 255 231 (dk_at dksX1_turn_1 5 rfl rfl)
theorem dX1_turn_32 : decode cX1_turn 32 = .ok (.aload_n 1, 1) := dk_43 (dk_at dksX1_turn_1 8 rfl rfl)
theorem dX1_turn_33 : decode cX1_turn 33 = .ok (.aload_n 1, 1) := dk_43 (dk_at dksX1_turn_1 9 rfl rfl)
theorem dX1_turn_34 : decode cX1_turn 34 = .ok (.getfield 212, 3) := dk_180 0 212 (dk_at dksX1_turn_1 10 rfl rfl)
theorem dX1_turn_37 : decode cX1_turn 37 = .ok (.invokestatic 223, 3) := dk_184 0 223 (dk_at dksX1_turn_1 13 rfl rfl)
theorem dX1_turn_40 : decode cX1_turn 40 = .ok (.aload_n 0, 1) := dk_42 (dk_at dksX1_turn_1 16 rfl rfl)
theorem dX1_turn_41 : decode cX1_turn 41 = .ok (.aload_n 1, 1) := dk_43 (dk_at dksX1_turn_1 17 rfl rfl)
theorem dX1_turn_42 : decode cX1_turn 42 = .ok (.getfield 247, 3) := dk_180 0 247 (dk_at dksX1_turn_1 18 rfl rfl)
theorem dX1_turn_45 : decode cX1_turn 45 = .ok (.aload_n 1, 1) := dk_43 (dk_at dksX1_turn_1 21 rfl rfl)
theorem dX1_turn_46 : decode cX1_turn 46 = .ok (.getfield 212, 3) := dk_180 0 212 (dk_at dksX1_turn_2 0 rfl rfl)
theorem dX1_turn_49 : decode cX1_turn 49 = .ok (.aaload, 1) := dk_50 (dk_at dksX1_turn_2 3 rfl rfl)
theorem dX1_turn_50 : decode cX1_turn 50 = .ok (.aload_n 1, 1) := dk_43 (dk_at dksX1_turn_2 4 rfl rfl)
theorem dX1_turn_51 : decode cX1_turn 51 = .ok (.invokevirtual 232, 3) := dk_182 0 232 (dk_at dksX1_turn_2 5 rfl rfl)
theorem dX1_turn_54 : decode cX1_turn 54 = .ok (.aload_n 1, 1) := dk_43 (dk_at dksX1_turn_2 8 rfl rfl)
theorem dX1_turn_55 : decode cX1_turn 55 = .ok (.getfield 235, 3) := dk_180 0 235 (dk_at dksX1_turn_2 9 rfl rfl)
theorem dX1_turn_58 : decode cX1_turn 58 = .ok (.iload_n 2, 1) := dk_28 (dk_at dksX1_turn_2 12 rfl rfl)
theorem dX1_turn_59 : decode cX1_turn 59 = .ok (.invokevirtual 179, 3) := dk_182 0 179 (dk_at dksX1_turn_2 13 rfl rfl)
theorem dX1_turn_62 : decode cX1_turn 62 = .ok (.astore_n 3, 1) := dk_78 (dk_at dksX1_turn_2 16 rfl rfl)
theorem dX1_turn_63 : decode cX1_turn 63 = .ok (.lconst 0, 1) := dk_9 (dk_at dksX1_turn_2 17 rfl rfl)
theorem dX1_turn_64 : decode cX1_turn 64 = .ok (.lstore 4, 2) := dk_55 4 (dk_at dksX1_turn_2 18 rfl rfl)
theorem dX1_turn_66 : decode cX1_turn 66 = .ok (.iconst 1, 1) := dk_4 (dk_at dksX1_turn_2 20 rfl rfl)
theorem dX1_turn_67 : decode cX1_turn 67 = .ok (.istore 6, 2) := dk_54 6 (dk_at dksX1_turn_2 21 rfl rfl)
theorem dX1_turn_69 : decode cX1_turn 69 = .ok (.aload_n 3, 1) := dk_45 (dk_at dksX1_turn_2 23 rfl rfl)
theorem dX1_turn_70 : decode cX1_turn 70 = .ok (.ifnull 33, 3) := dk_198 0 33 (dk_at dksX1_turn_3 0 rfl rfl)
theorem dX1_turn_73 : decode cX1_turn 73 = .ok (.iload 6, 2) := dk_21 6 (dk_at dksX1_turn_3 3 rfl rfl)
theorem dX1_turn_75 : decode cX1_turn 75 = .ok (.aload_n 3, 1) := dk_45 (dk_at dksX1_turn_3 5 rfl rfl)
theorem dX1_turn_76 : decode cX1_turn 76 = .ok (.arraylength, 1) := dk_190 (dk_at dksX1_turn_3 6 rfl rfl)
theorem dX1_turn_77 : decode cX1_turn 77 = .ok (.if_icmp .ge 26, 3) := dk_162 0 26 (dk_at dksX1_turn_3 7 rfl rfl)
theorem dX1_turn_80 : decode cX1_turn 80 = .ok (.lload 4, 2) := dk_22 4 (dk_at dksX1_turn_3 10 rfl rfl)
theorem dX1_turn_82 : decode cX1_turn 82 = .ok (.aload_n 3, 1) := dk_45 (dk_at dksX1_turn_3 12 rfl rfl)
theorem dX1_turn_83 : decode cX1_turn 83 = .ok (.iload 6, 2) := dk_21 6 (dk_at dksX1_turn_3 13 rfl rfl)
theorem dX1_turn_85 : decode cX1_turn 85 = .ok (.aaload, 1) := dk_50 (dk_at dksX1_turn_3 15 rfl rfl)
theorem dX1_turn_86 : decode cX1_turn 86 = .ok (.aload_n 1, 1) := dk_43 (dk_at dksX1_turn_3 16 rfl rfl)
theorem dX1_turn_87 : decode cX1_turn 87 = .ok (.getfield 235, 3) := dk_180 0 235 (dk_at dksX1_turn_3 17 rfl rfl)
theorem dX1_turn_90 : decode cX1_turn 90 = .ok (.invokevirtual 122, 3) := dk_182 0 122 (dk_at dksX1_turn_3 20 rfl rfl)
theorem dX1_turn_93 : decode cX1_turn 93 = .ok (.i2l, 1) := dk_133 (dk_at dksX1_turn_3 23 rfl rfl)
theorem dX1_turn_94 : decode cX1_turn 94 = .ok (.ladd, 1) := dk_97 (dk_at dksX1_turn_4 0 rfl rfl)
theorem dX1_turn_95 : decode cX1_turn 95 = .ok (.lstore 4, 2) := dk_55 4 (dk_at dksX1_turn_4 1 rfl rfl)
theorem dX1_turn_97 : decode cX1_turn 97 = .ok (.iinc 6 1, 3) := dk_132 6 1 (dk_at dksX1_turn_4 3 rfl rfl)
theorem dX1_turn_100 : decode cX1_turn 100 = .ok (.goto (-31), 3) := dk_167 255 225 (dk_at dksX1_turn_4 6 rfl rfl)
theorem dX1_turn_103 : decode cX1_turn 103 = .ok (.aload_n 3, 1) := dk_45 (dk_at dksX1_turn_4 9 rfl rfl)
theorem dX1_turn_104 : decode cX1_turn 104 = .ok (.ifnull 29, 3) := dk_198 0 29 (dk_at dksX1_turn_4 10 rfl rfl)
theorem dX1_turn_107 : decode cX1_turn 107 = .ok (.lload 4, 2) := dk_22 4 (dk_at dksX1_turn_4 13 rfl rfl)
theorem dX1_turn_109 : decode cX1_turn 109 = .ok (.aload_n 1, 1) := dk_43 (dk_at dksX1_turn_4 15 rfl rfl)
theorem dX1_turn_110 : decode cX1_turn 110 = .ok (.aload_n 1, 1) := dk_43 (dk_at dksX1_turn_4 16 rfl rfl)
theorem dX1_turn_111 : decode cX1_turn 111 = .ok (.getfield 212, 3) := dk_180 0 212 (dk_at dksX1_turn_4 17 rfl rfl)
theorem dX1_turn_114 : decode cX1_turn 114 = .ok (.invokevirtual 287, 3) := dk_182 1 31 (dk_at dksX1_turn_4 20 rfl rfl)
theorem dX1_turn_117 : decode cX1_turn 117 = .ok (.lcmp, 1) := dk_148 (dk_at dksX1_turn_4 23 rfl rfl)
theorem dX1_turn_118 : decode cX1_turn 118 = .ok (.ifCond .gt 15, 3) := dk_157 0 15 (dk_at dksX1_turn_5 0 rfl rfl)
theorem dX1_turn_121 : decode cX1_turn 121 = .ok (.aload_n 1, 1) := dk_43 (dk_at dksX1_turn_5 3 rfl rfl)
theorem dX1_turn_122 : decode cX1_turn 122 = .ok (.aload_n 3, 1) := dk_45 (dk_at dksX1_turn_5 4 rfl rfl)
theorem dX1_turn_123 : decode cX1_turn 123 = .ok (.invokevirtual 291, 3) := dk_182 1 35 (dk_at dksX1_turn_5 5 rfl rfl)
theorem dX1_turn_126 : decode cX1_turn 126 = .ok (.aload_n 1, 1) := dk_43 (dk_at dksX1_turn_5 8 rfl rfl)
theorem dX1_turn_127 : decode cX1_turn 127 = .ok (.invokestatic 198, 3) := dk_184 0 198 (dk_at dksX1_turn_5 9 rfl rfl)
theorem dX1_turn_130 : decode cX1_turn 130 = .ok (.goto 11, 3) := dk_167 0 11 (dk_at dksX1_turn_5 12 rfl rfl)
theorem dX1_turn_133 : decode cX1_turn 133 = .ok (.aload_n 1, 1) := dk_43 (dk_at dksX1_turn_5 15 rfl rfl)
theorem dX1_turn_134 : decode cX1_turn 134 = .ok (.invokestatic 198, 3) := dk_184 0 198 (dk_at dksX1_turn_5 16 rfl rfl)
theorem dX1_turn_137 : decode cX1_turn 137 = .ok (.aload_n 1, 1) := dk_43 (dk_at dksX1_turn_5 19 rfl rfl)
theorem dX1_turn_138 : decode cX1_turn 138 = .ok (.invokestatic 244, 3) := dk_184 0 244 (dk_at dksX1_turn_5 20 rfl rfl)
theorem dX1_turn_141 : decode cX1_turn 141 = .ok (.return_, 1) := dk_177 (dk_at dksX1_turn_5 23 rfl rfl)
abbrev cX1_wayBetween : ByteArray := prog_1_method_16_code
def yX1_wayBetween : MethodName := ⟨RX1, "wayBetween", "(LHundiHall$Broker;LHundiHall$Broker;II)[LHundiHall$Broker;"⟩
def dkwX1_wayBetween_13 : List UInt8 := [25, 9, 44, 29, 21, 4, 25, 5, 25, 6, 182, 0, 140, 58, 9, 132, 10, 1, 167, 255, 222, 25, 8, 176]
abbrev dktX1_wayBetween_13 : List UInt8 := dkwX1_wayBetween_13 ++ []
def dkwX1_wayBetween_12 : List UInt8 := [58, 8, 43, 58, 9, 3, 54, 10, 21, 10, 25, 8, 190, 162, 0, 32, 25, 8, 21, 10, 25, 9, 83, 42]
abbrev dktX1_wayBetween_12 : List UInt8 := dkwX1_wayBetween_12 ++ dktX1_wayBetween_13
def dkwX1_wayBetween_11 : List UInt8 := [180, 0, 91, 47, 20, 0, 120, 148, 154, 0, 5, 1, 176, 25, 6, 43, 180, 0, 91, 46, 189, 0, 83]
abbrev dktX1_wayBetween_11 : List UInt8 := dkwX1_wayBetween_11 ++ dktX1_wayBetween_12
def dkwX1_wayBetween_10 : List UInt8 := [25, 6, 25, 9, 180, 0, 91, 21, 13, 79, 4, 54, 7, 167, 255, 99, 167, 255, 79, 25, 5, 43]
abbrev dktX1_wayBetween_10 : List UInt8 := dkwX1_wayBetween_10 ++ dktX1_wayBetween_11
def dkwX1_wayBetween_9 : List UInt8 := [21, 13, 25, 6, 25, 9, 180, 0, 91, 46, 162, 0, 26, 25, 5, 25, 9, 180, 0, 91, 22, 11, 80]
abbrev dktX1_wayBetween_9 : List UInt8 := dkwX1_wayBetween_9 ++ dktX1_wayBetween_10
def dkwX1_wayBetween_8 : List UInt8 := [25, 9, 180, 0, 91, 47, 148, 155, 0, 30, 22, 11, 25, 5, 25, 9, 180, 0, 91, 47, 148, 154, 0, 39]
abbrev dktX1_wayBetween_8 : List UInt8 := dkwX1_wayBetween_8 ++ dktX1_wayBetween_9
def dkwX1_wayBetween_7 : List UInt8 := [167, 0, 13, 25, 6, 25, 10, 180, 0, 91, 46, 4, 96, 54, 13, 25, 10, 198, 0, 67, 22, 11, 25, 5]
abbrev dktX1_wayBetween_7 : List UInt8 := dkwX1_wayBetween_7 ++ dktX1_wayBetween_8
def dkwX1_wayBetween_6 : List UInt8 := [25, 5, 25, 10, 180, 0, 91, 47, 25, 9, 29, 182, 0, 122, 133, 97, 55, 11, 25, 10, 199, 0, 7, 3]
abbrev dktX1_wayBetween_6 : List UInt8 := dkwX1_wayBetween_6 ++ dktX1_wayBetween_7
def dkwX1_wayBetween_5 : List UInt8 := [29, 21, 4, 25, 5, 25, 6, 182, 0, 140, 58, 10, 25, 10, 199, 0, 9, 20, 0, 120, 167, 0, 19]
abbrev dktX1_wayBetween_5 : List UInt8 := dkwX1_wayBetween_5 ++ dktX1_wayBetween_6
def dkwX1_wayBetween_4 : List UInt8 := [185, 0, 130, 1, 0, 153, 0, 153, 25, 8, 185, 0, 136, 1, 0, 192, 0, 83, 58, 9, 42, 25, 9, 44]
abbrev dktX1_wayBetween_4 : List UInt8 := dkwX1_wayBetween_4 ++ dktX1_wayBetween_5
def dkwX1_wayBetween_3 : List UInt8 := [4, 54, 7, 21, 7, 153, 0, 178, 3, 54, 7, 42, 180, 0, 53, 182, 0, 126, 58, 8, 25, 8]
abbrev dktX1_wayBetween_3 : List UInt8 := dkwX1_wayBetween_3 ++ dktX1_wayBetween_4
def dkwX1_wayBetween_2 : List UInt8 := [154, 0, 24, 25, 5, 44, 180, 0, 91, 44, 29, 182, 0, 122, 133, 80, 25, 6, 44, 180, 0, 91, 4, 79]
abbrev dktX1_wayBetween_2 : List UInt8 := dkwX1_wayBetween_2 ++ dktX1_wayBetween_3
def dkwX1_wayBetween_1 : List UInt8 := [21, 7, 20, 0, 120, 80, 132, 7, 1, 167, 255, 238, 44, 180, 0, 117, 154, 0, 31, 43, 180, 0, 117]
abbrev dktX1_wayBetween_1 : List UInt8 := dkwX1_wayBetween_1 ++ dktX1_wayBetween_2
def dkwX1_wayBetween_0 : List UInt8 := [16, 12, 188, 11, 58, 5, 16, 12, 188, 10, 58, 6, 3, 54, 7, 21, 7, 16, 12, 162, 0, 17, 25, 5]
abbrev dktX1_wayBetween_0 : List UInt8 := dkwX1_wayBetween_0 ++ dktX1_wayBetween_1
theorem dksX1_wayBetween_0 : cX1_wayBetween.data.toList.drop 0 = dktX1_wayBetween_0 := by decide +kernel
theorem dksX1_wayBetween_1 : cX1_wayBetween.data.toList.drop 24 = dktX1_wayBetween_1 := dk_seg dksX1_wayBetween_0 24 rfl rfl
theorem dksX1_wayBetween_2 : cX1_wayBetween.data.toList.drop 47 = dktX1_wayBetween_2 := dk_seg dksX1_wayBetween_1 23 rfl rfl
theorem dksX1_wayBetween_3 : cX1_wayBetween.data.toList.drop 71 = dktX1_wayBetween_3 := dk_seg dksX1_wayBetween_2 24 rfl rfl
theorem dksX1_wayBetween_4 : cX1_wayBetween.data.toList.drop 93 = dktX1_wayBetween_4 := dk_seg dksX1_wayBetween_3 22 rfl rfl
theorem dksX1_wayBetween_5 : cX1_wayBetween.data.toList.drop 117 = dktX1_wayBetween_5 := dk_seg dksX1_wayBetween_4 24 rfl rfl
theorem dksX1_wayBetween_6 : cX1_wayBetween.data.toList.drop 140 = dktX1_wayBetween_6 := dk_seg dksX1_wayBetween_5 23 rfl rfl
theorem dksX1_wayBetween_7 : cX1_wayBetween.data.toList.drop 164 = dktX1_wayBetween_7 := dk_seg dksX1_wayBetween_6 24 rfl rfl
theorem dksX1_wayBetween_8 : cX1_wayBetween.data.toList.drop 188 = dktX1_wayBetween_8 := dk_seg dksX1_wayBetween_7 24 rfl rfl
theorem dksX1_wayBetween_9 : cX1_wayBetween.data.toList.drop 212 = dktX1_wayBetween_9 := dk_seg dksX1_wayBetween_8 24 rfl rfl
theorem dksX1_wayBetween_10 : cX1_wayBetween.data.toList.drop 235 = dktX1_wayBetween_10 := dk_seg dksX1_wayBetween_9 23 rfl rfl
theorem dksX1_wayBetween_11 : cX1_wayBetween.data.toList.drop 257 = dktX1_wayBetween_11 := dk_seg dksX1_wayBetween_10 22 rfl rfl
theorem dksX1_wayBetween_12 : cX1_wayBetween.data.toList.drop 280 = dktX1_wayBetween_12 := dk_seg dksX1_wayBetween_11 23 rfl rfl
theorem dksX1_wayBetween_13 : cX1_wayBetween.data.toList.drop 304 = dktX1_wayBetween_13 := dk_seg dksX1_wayBetween_12 24 rfl rfl
theorem dX1_wayBetween_0 : decode cX1_wayBetween 0 = .ok (.bipush 12, 2) := dk_16 12 (dk_at dksX1_wayBetween_0 0 rfl rfl)
theorem dX1_wayBetween_2 : decode cX1_wayBetween 2 = .ok (.newarray .long, 2) := dk_188_11 (dk_at dksX1_wayBetween_0 2 rfl rfl)
theorem dX1_wayBetween_4 : decode cX1_wayBetween 4 = .ok (.astore 5, 2) := dk_58 5 (dk_at dksX1_wayBetween_0 4 rfl rfl)
theorem dX1_wayBetween_6 : decode cX1_wayBetween 6 = .ok (.bipush 12, 2) := dk_16 12 (dk_at dksX1_wayBetween_0 6 rfl rfl)
theorem dX1_wayBetween_8 : decode cX1_wayBetween 8 = .ok (.newarray .int, 2) := dk_188_10 (dk_at dksX1_wayBetween_0 8 rfl rfl)
theorem dX1_wayBetween_10 : decode cX1_wayBetween 10 = .ok (.astore 6, 2) := dk_58 6 (dk_at dksX1_wayBetween_0 10 rfl rfl)
theorem dX1_wayBetween_12 : decode cX1_wayBetween 12 = .ok (.iconst 0, 1) := dk_3 (dk_at dksX1_wayBetween_0 12 rfl rfl)
theorem dX1_wayBetween_13 : decode cX1_wayBetween 13 = .ok (.istore 7, 2) := dk_54 7 (dk_at dksX1_wayBetween_0 13 rfl rfl)
theorem dX1_wayBetween_15 : decode cX1_wayBetween 15 = .ok (.iload 7, 2) := dk_21 7 (dk_at dksX1_wayBetween_0 15 rfl rfl)
theorem dX1_wayBetween_17 : decode cX1_wayBetween 17 = .ok (.bipush 12, 2) := dk_16 12 (dk_at dksX1_wayBetween_0 17 rfl rfl)
theorem dX1_wayBetween_19 : decode cX1_wayBetween 19 = .ok (.if_icmp .ge 17, 3) := dk_162 0 17 (dk_at dksX1_wayBetween_0 19 rfl rfl)
theorem dX1_wayBetween_22 : decode cX1_wayBetween 22 = .ok (.aload 5, 2) := dk_25 5 (dk_at dksX1_wayBetween_0 22 rfl rfl)
theorem dX1_wayBetween_24 : decode cX1_wayBetween 24 = .ok (.iload 7, 2) := dk_21 7 (dk_at dksX1_wayBetween_1 0 rfl rfl)
theorem dX1_wayBetween_26 : decode cX1_wayBetween 26 = .ok (.ldc2_w 120, 3) := dk_20 0 120 (dk_at dksX1_wayBetween_1 2 rfl rfl)
theorem dX1_wayBetween_29 : decode cX1_wayBetween 29 = .ok (.lastore, 1) := dk_80 (dk_at dksX1_wayBetween_1 5 rfl rfl)
theorem dX1_wayBetween_30 : decode cX1_wayBetween 30 = .ok (.iinc 7 1, 3) := dk_132 7 1 (dk_at dksX1_wayBetween_1 6 rfl rfl)
theorem dX1_wayBetween_33 : decode cX1_wayBetween 33 = .ok (.goto (-18), 3) := dk_167 255 238 (dk_at dksX1_wayBetween_1 9 rfl rfl)
theorem dX1_wayBetween_36 : decode cX1_wayBetween 36 = .ok (.aload_n 2, 1) := dk_44 (dk_at dksX1_wayBetween_1 12 rfl rfl)
theorem dX1_wayBetween_37 : decode cX1_wayBetween 37 = .ok (.getfield 117, 3) := dk_180 0 117 (dk_at dksX1_wayBetween_1 13 rfl rfl)
theorem dX1_wayBetween_40 : decode cX1_wayBetween 40 = .ok (.ifCond .ne 31, 3) := dk_154 0 31 (dk_at dksX1_wayBetween_1 16 rfl rfl)
theorem dX1_wayBetween_43 : decode cX1_wayBetween 43 = .ok (.aload_n 1, 1) := dk_43 (dk_at dksX1_wayBetween_1 19 rfl rfl)
theorem dX1_wayBetween_44 : decode cX1_wayBetween 44 = .ok (.getfield 117, 3) := dk_180 0 117 (dk_at dksX1_wayBetween_1 20 rfl rfl)
theorem dX1_wayBetween_47 : decode cX1_wayBetween 47 = .ok (.ifCond .ne 24, 3) := dk_154 0 24 (dk_at dksX1_wayBetween_2 0 rfl rfl)
theorem dX1_wayBetween_50 : decode cX1_wayBetween 50 = .ok (.aload 5, 2) := dk_25 5 (dk_at dksX1_wayBetween_2 3 rfl rfl)
theorem dX1_wayBetween_52 : decode cX1_wayBetween 52 = .ok (.aload_n 2, 1) := dk_44 (dk_at dksX1_wayBetween_2 5 rfl rfl)
theorem dX1_wayBetween_53 : decode cX1_wayBetween 53 = .ok (.getfield 91, 3) := dk_180 0 91 (dk_at dksX1_wayBetween_2 6 rfl rfl)
theorem dX1_wayBetween_56 : decode cX1_wayBetween 56 = .ok (.aload_n 2, 1) := dk_44 (dk_at dksX1_wayBetween_2 9 rfl rfl)
theorem dX1_wayBetween_57 : decode cX1_wayBetween 57 = .ok (.iload_n 3, 1) := dk_29 (dk_at dksX1_wayBetween_2 10 rfl rfl)
theorem dX1_wayBetween_58 : decode cX1_wayBetween 58 = .ok (.invokevirtual 122, 3) := dk_182 0 122 (dk_at dksX1_wayBetween_2 11 rfl rfl)
theorem dX1_wayBetween_61 : decode cX1_wayBetween 61 = .ok (.i2l, 1) := dk_133 (dk_at dksX1_wayBetween_2 14 rfl rfl)
theorem dX1_wayBetween_62 : decode cX1_wayBetween 62 = .ok (.lastore, 1) := dk_80 (dk_at dksX1_wayBetween_2 15 rfl rfl)
theorem dX1_wayBetween_63 : decode cX1_wayBetween 63 = .ok (.aload 6, 2) := dk_25 6 (dk_at dksX1_wayBetween_2 16 rfl rfl)
theorem dX1_wayBetween_65 : decode cX1_wayBetween 65 = .ok (.aload_n 2, 1) := dk_44 (dk_at dksX1_wayBetween_2 18 rfl rfl)
theorem dX1_wayBetween_66 : decode cX1_wayBetween 66 = .ok (.getfield 91, 3) := dk_180 0 91 (dk_at dksX1_wayBetween_2 19 rfl rfl)
theorem dX1_wayBetween_69 : decode cX1_wayBetween 69 = .ok (.iconst 1, 1) := dk_4 (dk_at dksX1_wayBetween_2 22 rfl rfl)
theorem dX1_wayBetween_70 : decode cX1_wayBetween 70 = .ok (.iastore, 1) := dk_79 (dk_at dksX1_wayBetween_2 23 rfl rfl)
theorem dX1_wayBetween_71 : decode cX1_wayBetween 71 = .ok (.iconst 1, 1) := dk_4 (dk_at dksX1_wayBetween_3 0 rfl rfl)
theorem dX1_wayBetween_72 : decode cX1_wayBetween 72 = .ok (.istore 7, 2) := dk_54 7 (dk_at dksX1_wayBetween_3 1 rfl rfl)
theorem dX1_wayBetween_74 : decode cX1_wayBetween 74 = .ok (.iload 7, 2) := dk_21 7 (dk_at dksX1_wayBetween_3 3 rfl rfl)
theorem dX1_wayBetween_76 : decode cX1_wayBetween 76 = .ok (.ifCond .eq 178, 3) := dk_153 0 178 (dk_at dksX1_wayBetween_3 5 rfl rfl)
theorem dX1_wayBetween_79 : decode cX1_wayBetween 79 = .ok (.iconst 0, 1) := dk_3 (dk_at dksX1_wayBetween_3 8 rfl rfl)
theorem dX1_wayBetween_80 : decode cX1_wayBetween 80 = .ok (.istore 7, 2) := dk_54 7 (dk_at dksX1_wayBetween_3 9 rfl rfl)
theorem dX1_wayBetween_82 : decode cX1_wayBetween 82 = .ok (.aload_n 0, 1) := dk_42 (dk_at dksX1_wayBetween_3 11 rfl rfl)
theorem dX1_wayBetween_83 : decode cX1_wayBetween 83 = .ok (.getfield 53, 3) := dk_180 0 53 (dk_at dksX1_wayBetween_3 12 rfl rfl)
theorem dX1_wayBetween_86 : decode cX1_wayBetween 86 = .ok (.invokevirtual 126, 3) := dk_182 0 126 (dk_at dksX1_wayBetween_3 15 rfl rfl)
theorem dX1_wayBetween_89 : decode cX1_wayBetween 89 = .ok (.astore 8, 2) := dk_58 8 (dk_at dksX1_wayBetween_3 18 rfl rfl)
theorem dX1_wayBetween_91 : decode cX1_wayBetween 91 = .ok (.aload 8, 2) := dk_25 8 (dk_at dksX1_wayBetween_3 20 rfl rfl)
theorem dX1_wayBetween_93 : decode cX1_wayBetween 93 = .ok (.invokeinterface 130 1, 5) := by decide +kernel
theorem dX1_wayBetween_98 : decode cX1_wayBetween 98 = .ok (.ifCond .eq 153, 3) := dk_153 0 153 (dk_at dksX1_wayBetween_4 5 rfl rfl)
theorem dX1_wayBetween_101 : decode cX1_wayBetween 101 = .ok (.aload 8, 2) := dk_25 8 (dk_at dksX1_wayBetween_4 8 rfl rfl)
theorem dX1_wayBetween_103 : decode cX1_wayBetween 103 = .ok (.invokeinterface 136 1, 5) := by decide +kernel
theorem dX1_wayBetween_108 : decode cX1_wayBetween 108 = .ok (.checkcast 83, 3) := dk_192 0 83 (dk_at dksX1_wayBetween_4 15 rfl rfl)
theorem dX1_wayBetween_111 : decode cX1_wayBetween 111 = .ok (.astore 9, 2) := dk_58 9 (dk_at dksX1_wayBetween_4 18 rfl rfl)
theorem dX1_wayBetween_113 : decode cX1_wayBetween 113 = .ok (.aload_n 0, 1) := dk_42 (dk_at dksX1_wayBetween_4 20 rfl rfl)
theorem dX1_wayBetween_114 : decode cX1_wayBetween 114 = .ok (.aload 9, 2) := dk_25 9 (dk_at dksX1_wayBetween_4 21 rfl rfl)
theorem dX1_wayBetween_116 : decode cX1_wayBetween 116 = .ok (.aload_n 2, 1) := dk_44 (dk_at dksX1_wayBetween_4 23 rfl rfl)
theorem dX1_wayBetween_117 : decode cX1_wayBetween 117 = .ok (.iload_n 3, 1) := dk_29 (dk_at dksX1_wayBetween_5 0 rfl rfl)
theorem dX1_wayBetween_118 : decode cX1_wayBetween 118 = .ok (.iload 4, 2) := dk_21 4 (dk_at dksX1_wayBetween_5 1 rfl rfl)
theorem dX1_wayBetween_120 : decode cX1_wayBetween 120 = .ok (.aload 5, 2) := dk_25 5 (dk_at dksX1_wayBetween_5 3 rfl rfl)
theorem dX1_wayBetween_122 : decode cX1_wayBetween 122 = .ok (.aload 6, 2) := dk_25 6 (dk_at dksX1_wayBetween_5 5 rfl rfl)
theorem dX1_wayBetween_124 : decode cX1_wayBetween 124 = .ok (.invokevirtual 140, 3) := dk_182 0 140 (dk_at dksX1_wayBetween_5 7 rfl rfl)
theorem dX1_wayBetween_127 : decode cX1_wayBetween 127 = .ok (.astore 10, 2) := dk_58 10 (dk_at dksX1_wayBetween_5 10 rfl rfl)
theorem dX1_wayBetween_129 : decode cX1_wayBetween 129 = .ok (.aload 10, 2) := dk_25 10 (dk_at dksX1_wayBetween_5 12 rfl rfl)
theorem dX1_wayBetween_131 : decode cX1_wayBetween 131 = .ok (.ifnonnull 9, 3) := dk_199 0 9 (dk_at dksX1_wayBetween_5 14 rfl rfl)
theorem dX1_wayBetween_134 : decode cX1_wayBetween 134 = .ok (.ldc2_w 120, 3) := dk_20 0 120 (dk_at dksX1_wayBetween_5 17 rfl rfl)
theorem dX1_wayBetween_137 : decode cX1_wayBetween 137 = .ok (.goto 19, 3) := dk_167 0 19 (dk_at dksX1_wayBetween_5 20 rfl rfl)
theorem dX1_wayBetween_140 : decode cX1_wayBetween 140 = .ok (.aload 5, 2) := dk_25 5 (dk_at dksX1_wayBetween_6 0 rfl rfl)
theorem dX1_wayBetween_142 : decode cX1_wayBetween 142 = .ok (.aload 10, 2) := dk_25 10 (dk_at dksX1_wayBetween_6 2 rfl rfl)
theorem dX1_wayBetween_144 : decode cX1_wayBetween 144 = .ok (.getfield 91, 3) := dk_180 0 91 (dk_at dksX1_wayBetween_6 4 rfl rfl)
theorem dX1_wayBetween_147 : decode cX1_wayBetween 147 = .ok (.laload, 1) := dk_47 (dk_at dksX1_wayBetween_6 7 rfl rfl)
theorem dX1_wayBetween_148 : decode cX1_wayBetween 148 = .ok (.aload 9, 2) := dk_25 9 (dk_at dksX1_wayBetween_6 8 rfl rfl)
theorem dX1_wayBetween_150 : decode cX1_wayBetween 150 = .ok (.iload_n 3, 1) := dk_29 (dk_at dksX1_wayBetween_6 10 rfl rfl)
theorem dX1_wayBetween_151 : decode cX1_wayBetween 151 = .ok (.invokevirtual 122, 3) := dk_182 0 122 (dk_at dksX1_wayBetween_6 11 rfl rfl)
theorem dX1_wayBetween_154 : decode cX1_wayBetween 154 = .ok (.i2l, 1) := dk_133 (dk_at dksX1_wayBetween_6 14 rfl rfl)
theorem dX1_wayBetween_155 : decode cX1_wayBetween 155 = .ok (.ladd, 1) := dk_97 (dk_at dksX1_wayBetween_6 15 rfl rfl)
theorem dX1_wayBetween_156 : decode cX1_wayBetween 156 = .ok (.lstore 11, 2) := dk_55 11 (dk_at dksX1_wayBetween_6 16 rfl rfl)
theorem dX1_wayBetween_158 : decode cX1_wayBetween 158 = .ok (.aload 10, 2) := dk_25 10 (dk_at dksX1_wayBetween_6 18 rfl rfl)
theorem dX1_wayBetween_160 : decode cX1_wayBetween 160 = .ok (.ifnonnull 7, 3) := dk_199 0 7 (dk_at dksX1_wayBetween_6 20 rfl rfl)
theorem dX1_wayBetween_163 : decode cX1_wayBetween 163 = .ok (.iconst 0, 1) := dk_3 (dk_at dksX1_wayBetween_6 23 rfl rfl)
theorem dX1_wayBetween_164 : decode cX1_wayBetween 164 = .ok (.goto 13, 3) := dk_167 0 13 (dk_at dksX1_wayBetween_7 0 rfl rfl)
theorem dX1_wayBetween_167 : decode cX1_wayBetween 167 = .ok (.aload 6, 2) := dk_25 6 (dk_at dksX1_wayBetween_7 3 rfl rfl)
theorem dX1_wayBetween_169 : decode cX1_wayBetween 169 = .ok (.aload 10, 2) := dk_25 10 (dk_at dksX1_wayBetween_7 5 rfl rfl)
theorem dX1_wayBetween_171 : decode cX1_wayBetween 171 = .ok (.getfield 91, 3) := dk_180 0 91 (dk_at dksX1_wayBetween_7 7 rfl rfl)
theorem dX1_wayBetween_174 : decode cX1_wayBetween 174 = .ok (.iaload, 1) := dk_46 (dk_at dksX1_wayBetween_7 10 rfl rfl)
theorem dX1_wayBetween_175 : decode cX1_wayBetween 175 = .ok (.iconst 1, 1) := dk_4 (dk_at dksX1_wayBetween_7 11 rfl rfl)
theorem dX1_wayBetween_176 : decode cX1_wayBetween 176 = .ok (.iadd, 1) := dk_96 (dk_at dksX1_wayBetween_7 12 rfl rfl)
theorem dX1_wayBetween_177 : decode cX1_wayBetween 177 = .ok (.istore 13, 2) := dk_54 13 (dk_at dksX1_wayBetween_7 13 rfl rfl)
theorem dX1_wayBetween_179 : decode cX1_wayBetween 179 = .ok (.aload 10, 2) := dk_25 10 (dk_at dksX1_wayBetween_7 15 rfl rfl)
theorem dX1_wayBetween_181 : decode cX1_wayBetween 181 = .ok (.ifnull 67, 3) := dk_198 0 67 (dk_at dksX1_wayBetween_7 17 rfl rfl)
theorem dX1_wayBetween_184 : decode cX1_wayBetween 184 = .ok (.lload 11, 2) := dk_22 11 (dk_at dksX1_wayBetween_7 20 rfl rfl)
theorem dX1_wayBetween_186 : decode cX1_wayBetween 186 = .ok (.aload 5, 2) := dk_25 5 (dk_at dksX1_wayBetween_7 22 rfl rfl)
theorem dX1_wayBetween_188 : decode cX1_wayBetween 188 = .ok (.aload 9, 2) := dk_25 9 (dk_at dksX1_wayBetween_8 0 rfl rfl)
theorem dX1_wayBetween_190 : decode cX1_wayBetween 190 = .ok (.getfield 91, 3) := dk_180 0 91 (dk_at dksX1_wayBetween_8 2 rfl rfl)
theorem dX1_wayBetween_193 : decode cX1_wayBetween 193 = .ok (.laload, 1) := dk_47 (dk_at dksX1_wayBetween_8 5 rfl rfl)
theorem dX1_wayBetween_194 : decode cX1_wayBetween 194 = .ok (.lcmp, 1) := dk_148 (dk_at dksX1_wayBetween_8 6 rfl rfl)
theorem dX1_wayBetween_195 : decode cX1_wayBetween 195 = .ok (.ifCond .lt 30, 3) := dk_155 0 30 (dk_at dksX1_wayBetween_8 7 rfl rfl)
theorem dX1_wayBetween_198 : decode cX1_wayBetween 198 = .ok (.lload 11, 2) := dk_22 11 (dk_at dksX1_wayBetween_8 10 rfl rfl)
theorem dX1_wayBetween_200 : decode cX1_wayBetween 200 = .ok (.aload 5, 2) := dk_25 5 (dk_at dksX1_wayBetween_8 12 rfl rfl)
theorem dX1_wayBetween_202 : decode cX1_wayBetween 202 = .ok (.aload 9, 2) := dk_25 9 (dk_at dksX1_wayBetween_8 14 rfl rfl)
theorem dX1_wayBetween_204 : decode cX1_wayBetween 204 = .ok (.getfield 91, 3) := dk_180 0 91 (dk_at dksX1_wayBetween_8 16 rfl rfl)
theorem dX1_wayBetween_207 : decode cX1_wayBetween 207 = .ok (.laload, 1) := dk_47 (dk_at dksX1_wayBetween_8 19 rfl rfl)
theorem dX1_wayBetween_208 : decode cX1_wayBetween 208 = .ok (.lcmp, 1) := dk_148 (dk_at dksX1_wayBetween_8 20 rfl rfl)
theorem dX1_wayBetween_209 : decode cX1_wayBetween 209 = .ok (.ifCond .ne 39, 3) := dk_154 0 39 (dk_at dksX1_wayBetween_8 21 rfl rfl)
theorem dX1_wayBetween_212 : decode cX1_wayBetween 212 = .ok (.iload 13, 2) := dk_21 13 (dk_at dksX1_wayBetween_9 0 rfl rfl)
theorem dX1_wayBetween_214 : decode cX1_wayBetween 214 = .ok (.aload 6, 2) := dk_25 6 (dk_at dksX1_wayBetween_9 2 rfl rfl)
theorem dX1_wayBetween_216 : decode cX1_wayBetween 216 = .ok (.aload 9, 2) := dk_25 9 (dk_at dksX1_wayBetween_9 4 rfl rfl)
theorem dX1_wayBetween_218 : decode cX1_wayBetween 218 = .ok (.getfield 91, 3) := dk_180 0 91 (dk_at dksX1_wayBetween_9 6 rfl rfl)
theorem dX1_wayBetween_221 : decode cX1_wayBetween 221 = .ok (.iaload, 1) := dk_46 (dk_at dksX1_wayBetween_9 9 rfl rfl)
theorem dX1_wayBetween_222 : decode cX1_wayBetween 222 = .ok (.if_icmp .ge 26, 3) := dk_162 0 26 (dk_at dksX1_wayBetween_9 10 rfl rfl)
theorem dX1_wayBetween_225 : decode cX1_wayBetween 225 = .ok (.aload 5, 2) := dk_25 5 (dk_at dksX1_wayBetween_9 13 rfl rfl)
theorem dX1_wayBetween_227 : decode cX1_wayBetween 227 = .ok (.aload 9, 2) := dk_25 9 (dk_at dksX1_wayBetween_9 15 rfl rfl)
theorem dX1_wayBetween_229 : decode cX1_wayBetween 229 = .ok (.getfield 91, 3) := dk_180 0 91 (dk_at dksX1_wayBetween_9 17 rfl rfl)
theorem dX1_wayBetween_232 : decode cX1_wayBetween 232 = .ok (.lload 11, 2) := dk_22 11 (dk_at dksX1_wayBetween_9 20 rfl rfl)
theorem dX1_wayBetween_234 : decode cX1_wayBetween 234 = .ok (.lastore, 1) := dk_80 (dk_at dksX1_wayBetween_9 22 rfl rfl)
theorem dX1_wayBetween_235 : decode cX1_wayBetween 235 = .ok (.aload 6, 2) := dk_25 6 (dk_at dksX1_wayBetween_10 0 rfl rfl)
theorem dX1_wayBetween_237 : decode cX1_wayBetween 237 = .ok (.aload 9, 2) := dk_25 9 (dk_at dksX1_wayBetween_10 2 rfl rfl)
theorem dX1_wayBetween_239 : decode cX1_wayBetween 239 = .ok (.getfield 91, 3) := dk_180 0 91 (dk_at dksX1_wayBetween_10 4 rfl rfl)
theorem dX1_wayBetween_242 : decode cX1_wayBetween 242 = .ok (.iload 13, 2) := dk_21 13 (dk_at dksX1_wayBetween_10 7 rfl rfl)
theorem dX1_wayBetween_244 : decode cX1_wayBetween 244 = .ok (.iastore, 1) := dk_79 (dk_at dksX1_wayBetween_10 9 rfl rfl)
theorem dX1_wayBetween_245 : decode cX1_wayBetween 245 = .ok (.iconst 1, 1) := dk_4 (dk_at dksX1_wayBetween_10 10 rfl rfl)
theorem dX1_wayBetween_246 : decode cX1_wayBetween 246 = .ok (.istore 7, 2) := dk_54 7 (dk_at dksX1_wayBetween_10 11 rfl rfl)
theorem dX1_wayBetween_248 : decode cX1_wayBetween 248 = .ok (.goto (-157), 3) := dk_167 255 99 (dk_at dksX1_wayBetween_10 13 rfl rfl)
theorem dX1_wayBetween_251 : decode cX1_wayBetween 251 = .ok (.goto (-177), 3) := dk_167 255 79 (dk_at dksX1_wayBetween_10 16 rfl rfl)
theorem dX1_wayBetween_254 : decode cX1_wayBetween 254 = .ok (.aload 5, 2) := dk_25 5 (dk_at dksX1_wayBetween_10 19 rfl rfl)
theorem dX1_wayBetween_256 : decode cX1_wayBetween 256 = .ok (.aload_n 1, 1) := dk_43 (dk_at dksX1_wayBetween_10 21 rfl rfl)
theorem dX1_wayBetween_257 : decode cX1_wayBetween 257 = .ok (.getfield 91, 3) := dk_180 0 91 (dk_at dksX1_wayBetween_11 0 rfl rfl)
theorem dX1_wayBetween_260 : decode cX1_wayBetween 260 = .ok (.laload, 1) := dk_47 (dk_at dksX1_wayBetween_11 3 rfl rfl)
theorem dX1_wayBetween_261 : decode cX1_wayBetween 261 = .ok (.ldc2_w 120, 3) := dk_20 0 120 (dk_at dksX1_wayBetween_11 4 rfl rfl)
theorem dX1_wayBetween_264 : decode cX1_wayBetween 264 = .ok (.lcmp, 1) := dk_148 (dk_at dksX1_wayBetween_11 7 rfl rfl)
theorem dX1_wayBetween_265 : decode cX1_wayBetween 265 = .ok (.ifCond .ne 5, 3) := dk_154 0 5 (dk_at dksX1_wayBetween_11 8 rfl rfl)
theorem dX1_wayBetween_268 : decode cX1_wayBetween 268 = .ok (.aconst_null, 1) := dk_1 (dk_at dksX1_wayBetween_11 11 rfl rfl)
theorem dX1_wayBetween_269 : decode cX1_wayBetween 269 = .ok (.areturn, 1) := dk_176 (dk_at dksX1_wayBetween_11 12 rfl rfl)
theorem dX1_wayBetween_270 : decode cX1_wayBetween 270 = .ok (.aload 6, 2) := dk_25 6 (dk_at dksX1_wayBetween_11 13 rfl rfl)
theorem dX1_wayBetween_272 : decode cX1_wayBetween 272 = .ok (.aload_n 1, 1) := dk_43 (dk_at dksX1_wayBetween_11 15 rfl rfl)
theorem dX1_wayBetween_273 : decode cX1_wayBetween 273 = .ok (.getfield 91, 3) := dk_180 0 91 (dk_at dksX1_wayBetween_11 16 rfl rfl)
theorem dX1_wayBetween_276 : decode cX1_wayBetween 276 = .ok (.iaload, 1) := dk_46 (dk_at dksX1_wayBetween_11 19 rfl rfl)
theorem dX1_wayBetween_277 : decode cX1_wayBetween 277 = .ok (.anewarray 83, 3) := dk_189 0 83 (dk_at dksX1_wayBetween_11 20 rfl rfl)
theorem dX1_wayBetween_280 : decode cX1_wayBetween 280 = .ok (.astore 8, 2) := dk_58 8 (dk_at dksX1_wayBetween_12 0 rfl rfl)
theorem dX1_wayBetween_282 : decode cX1_wayBetween 282 = .ok (.aload_n 1, 1) := dk_43 (dk_at dksX1_wayBetween_12 2 rfl rfl)
theorem dX1_wayBetween_283 : decode cX1_wayBetween 283 = .ok (.astore 9, 2) := dk_58 9 (dk_at dksX1_wayBetween_12 3 rfl rfl)
theorem dX1_wayBetween_285 : decode cX1_wayBetween 285 = .ok (.iconst 0, 1) := dk_3 (dk_at dksX1_wayBetween_12 5 rfl rfl)
theorem dX1_wayBetween_286 : decode cX1_wayBetween 286 = .ok (.istore 10, 2) := dk_54 10 (dk_at dksX1_wayBetween_12 6 rfl rfl)
theorem dX1_wayBetween_288 : decode cX1_wayBetween 288 = .ok (.iload 10, 2) := dk_21 10 (dk_at dksX1_wayBetween_12 8 rfl rfl)
theorem dX1_wayBetween_290 : decode cX1_wayBetween 290 = .ok (.aload 8, 2) := dk_25 8 (dk_at dksX1_wayBetween_12 10 rfl rfl)
theorem dX1_wayBetween_292 : decode cX1_wayBetween 292 = .ok (.arraylength, 1) := dk_190 (dk_at dksX1_wayBetween_12 12 rfl rfl)
theorem dX1_wayBetween_293 : decode cX1_wayBetween 293 = .ok (.if_icmp .ge 32, 3) := dk_162 0 32 (dk_at dksX1_wayBetween_12 13 rfl rfl)
theorem dX1_wayBetween_296 : decode cX1_wayBetween 296 = .ok (.aload 8, 2) := dk_25 8 (dk_at dksX1_wayBetween_12 16 rfl rfl)
theorem dX1_wayBetween_298 : decode cX1_wayBetween 298 = .ok (.iload 10, 2) := dk_21 10 (dk_at dksX1_wayBetween_12 18 rfl rfl)
theorem dX1_wayBetween_300 : decode cX1_wayBetween 300 = .ok (.aload 9, 2) := dk_25 9 (dk_at dksX1_wayBetween_12 20 rfl rfl)
theorem dX1_wayBetween_302 : decode cX1_wayBetween 302 = .ok (.aastore, 1) := dk_83 (dk_at dksX1_wayBetween_12 22 rfl rfl)
theorem dX1_wayBetween_303 : decode cX1_wayBetween 303 = .ok (.aload_n 0, 1) := dk_42 (dk_at dksX1_wayBetween_12 23 rfl rfl)
theorem dX1_wayBetween_304 : decode cX1_wayBetween 304 = .ok (.aload 9, 2) := dk_25 9 (dk_at dksX1_wayBetween_13 0 rfl rfl)
theorem dX1_wayBetween_306 : decode cX1_wayBetween 306 = .ok (.aload_n 2, 1) := dk_44 (dk_at dksX1_wayBetween_13 2 rfl rfl)
theorem dX1_wayBetween_307 : decode cX1_wayBetween 307 = .ok (.iload_n 3, 1) := dk_29 (dk_at dksX1_wayBetween_13 3 rfl rfl)
theorem dX1_wayBetween_308 : decode cX1_wayBetween 308 = .ok (.iload 4, 2) := dk_21 4 (dk_at dksX1_wayBetween_13 4 rfl rfl)
theorem dX1_wayBetween_310 : decode cX1_wayBetween 310 = .ok (.aload 5, 2) := dk_25 5 (dk_at dksX1_wayBetween_13 6 rfl rfl)
theorem dX1_wayBetween_312 : decode cX1_wayBetween 312 = .ok (.aload 6, 2) := dk_25 6 (dk_at dksX1_wayBetween_13 8 rfl rfl)
theorem dX1_wayBetween_314 : decode cX1_wayBetween 314 = .ok (.invokevirtual 140, 3) := dk_182 0 140 (dk_at dksX1_wayBetween_13 10 rfl rfl)
theorem dX1_wayBetween_317 : decode cX1_wayBetween 317 = .ok (.astore 9, 2) := dk_58 9 (dk_at dksX1_wayBetween_13 13 rfl rfl)
theorem dX1_wayBetween_319 : decode cX1_wayBetween 319 = .ok (.iinc 10 1, 3) := dk_132 10 1 (dk_at dksX1_wayBetween_13 15 rfl rfl)
theorem dX1_wayBetween_322 : decode cX1_wayBetween 322 = .ok (.goto (-34), 3) := dk_167 255 222 (dk_at dksX1_wayBetween_13 18 rfl rfl)
theorem dX1_wayBetween_325 : decode cX1_wayBetween 325 = .ok (.aload 8, 2) := dk_25 8 (dk_at dksX1_wayBetween_13 21 rfl rfl)
theorem dX1_wayBetween_327 : decode cX1_wayBetween 327 = .ok (.areturn, 1) := dk_176 (dk_at dksX1_wayBetween_13 23 rfl rfl)
abbrev cX1_nextOf : ByteArray := prog_1_method_17_code
def yX1_nextOf : MethodName := ⟨RX1, "nextOf", "(LHundiHall$Broker;LHundiHall$Broker;II[J[I)LHundiHall$Broker;"⟩
def dkwX1_nextOf_9 : List UInt8 := [167, 255, 88, 25, 7, 176]
abbrev dktX1_nextOf_9 : List UInt8 := dkwX1_nextOf_9 ++ []
def dkwX1_nextOf_8 : List UInt8 := [25, 6, 25, 9, 180, 0, 91, 46, 25, 6, 25, 7, 180, 0, 91, 46, 162, 0, 7, 25, 9, 58, 7]
abbrev dktX1_nextOf_8 : List UInt8 := dkwX1_nextOf_8 ++ dktX1_nextOf_9
def dkwX1_nextOf_7 : List UInt8 := [155, 0, 42, 25, 5, 25, 9, 180, 0, 91, 47, 25, 5, 25, 7, 180, 0, 91, 47, 148, 154, 0, 26]
abbrev dktX1_nextOf_7 : List UInt8 := dkwX1_nextOf_7 ++ dktX1_nextOf_8
def dkwX1_nextOf_6 : List UInt8 := [25, 7, 198, 0, 62, 25, 5, 25, 9, 180, 0, 91, 47, 25, 5, 25, 7, 180, 0, 91, 47, 148]
abbrev dktX1_nextOf_6 : List UInt8 := dkwX1_nextOf_6 ++ dktX1_nextOf_7
def dkwX1_nextOf_5 : List UInt8 := [97, 42, 25, 9, 43, 182, 0, 144, 148, 157, 0, 7, 4, 167, 0, 4, 3, 54, 11, 21, 11, 153, 0, 71]
abbrev dktX1_nextOf_5 : List UInt8 := dkwX1_nextOf_5 ++ dktX1_nextOf_6
def dkwX1_nextOf_4 : List UInt8 := [153, 0, 40, 43, 180, 0, 88, 25, 9, 180, 0, 91, 47, 29, 133, 97, 25, 5, 25, 9, 180, 0, 91, 47]
abbrev dktX1_nextOf_4 : List UInt8 := dkwX1_nextOf_4 ++ dktX1_nextOf_5
def dkwX1_nextOf_3 : List UInt8 := [25, 9, 180, 0, 91, 47, 20, 0, 120, 148, 153, 0, 7, 4, 167, 0, 4, 3, 54, 10, 21, 10]
abbrev dktX1_nextOf_3 : List UInt8 := dkwX1_nextOf_3 ++ dktX1_nextOf_4
def dkwX1_nextOf_2 : List UInt8 := [153, 0, 164, 25, 8, 185, 0, 136, 1, 0, 192, 0, 83, 58, 9, 25, 9, 43, 165, 0, 22, 25, 5]
abbrev dktX1_nextOf_2 : List UInt8 := dkwX1_nextOf_2 ++ dktX1_nextOf_3
def dkwX1_nextOf_1 : List UInt8 := [4, 160, 0, 5, 1, 176, 42, 180, 0, 53, 182, 0, 126, 58, 8, 25, 8, 185, 0, 130, 1, 0]
abbrev dktX1_nextOf_1 : List UInt8 := dkwX1_nextOf_1 ++ dktX1_nextOf_2
def dkwX1_nextOf_0 : List UInt8 := [1, 58, 7, 43, 44, 165, 0, 23, 43, 180, 0, 117, 154, 0, 16, 21, 4, 43, 180, 0, 91, 122, 4, 126]
abbrev dktX1_nextOf_0 : List UInt8 := dkwX1_nextOf_0 ++ dktX1_nextOf_1
theorem dksX1_nextOf_0 : cX1_nextOf.data.toList.drop 0 = dktX1_nextOf_0 := by decide +kernel
theorem dksX1_nextOf_1 : cX1_nextOf.data.toList.drop 24 = dktX1_nextOf_1 := dk_seg dksX1_nextOf_0 24 rfl rfl
theorem dksX1_nextOf_2 : cX1_nextOf.data.toList.drop 46 = dktX1_nextOf_2 := dk_seg dksX1_nextOf_1 22 rfl rfl
theorem dksX1_nextOf_3 : cX1_nextOf.data.toList.drop 69 = dktX1_nextOf_3 := dk_seg dksX1_nextOf_2 23 rfl rfl
theorem dksX1_nextOf_4 : cX1_nextOf.data.toList.drop 91 = dktX1_nextOf_4 := dk_seg dksX1_nextOf_3 22 rfl rfl
theorem dksX1_nextOf_5 : cX1_nextOf.data.toList.drop 115 = dktX1_nextOf_5 := dk_seg dksX1_nextOf_4 24 rfl rfl
theorem dksX1_nextOf_6 : cX1_nextOf.data.toList.drop 139 = dktX1_nextOf_6 := dk_seg dksX1_nextOf_5 24 rfl rfl
theorem dksX1_nextOf_7 : cX1_nextOf.data.toList.drop 161 = dktX1_nextOf_7 := dk_seg dksX1_nextOf_6 22 rfl rfl
theorem dksX1_nextOf_8 : cX1_nextOf.data.toList.drop 184 = dktX1_nextOf_8 := dk_seg dksX1_nextOf_7 23 rfl rfl
theorem dksX1_nextOf_9 : cX1_nextOf.data.toList.drop 207 = dktX1_nextOf_9 := dk_seg dksX1_nextOf_8 23 rfl rfl
theorem dX1_nextOf_0 : decode cX1_nextOf 0 = .ok (.aconst_null, 1) := dk_1 (dk_at dksX1_nextOf_0 0 rfl rfl)
theorem dX1_nextOf_1 : decode cX1_nextOf 1 = .ok (.astore 7, 2) := dk_58 7 (dk_at dksX1_nextOf_0 1 rfl rfl)
theorem dX1_nextOf_3 : decode cX1_nextOf 3 = .ok (.aload_n 1, 1) := dk_43 (dk_at dksX1_nextOf_0 3 rfl rfl)
theorem dX1_nextOf_4 : decode cX1_nextOf 4 = .ok (.aload_n 2, 1) := dk_44 (dk_at dksX1_nextOf_0 4 rfl rfl)
theorem dX1_nextOf_5 : decode cX1_nextOf 5 = .ok (.if_acmp .eq 23, 3) := dk_165 0 23 (dk_at dksX1_nextOf_0 5 rfl rfl)
theorem dX1_nextOf_8 : decode cX1_nextOf 8 = .ok (.aload_n 1, 1) := dk_43 (dk_at dksX1_nextOf_0 8 rfl rfl)
theorem dX1_nextOf_9 : decode cX1_nextOf 9 = .ok (.getfield 117, 3) := dk_180 0 117 (dk_at dksX1_nextOf_0 9 rfl rfl)
theorem dX1_nextOf_12 : decode cX1_nextOf 12 = .ok (.ifCond .ne 16, 3) := dk_154 0 16 (dk_at dksX1_nextOf_0 12 rfl rfl)
theorem dX1_nextOf_15 : decode cX1_nextOf 15 = .ok (.iload 4, 2) := dk_21 4 (dk_at dksX1_nextOf_0 15 rfl rfl)
theorem dX1_nextOf_17 : decode cX1_nextOf 17 = .ok (.aload_n 1, 1) := dk_43 (dk_at dksX1_nextOf_0 17 rfl rfl)
theorem dX1_nextOf_18 : decode cX1_nextOf 18 = .ok (.getfield 91, 3) := dk_180 0 91 (dk_at dksX1_nextOf_0 18 rfl rfl)
theorem dX1_nextOf_21 : decode cX1_nextOf 21 = .ok (.ishr, 1) := dk_122 (dk_at dksX1_nextOf_0 21 rfl rfl)
theorem dX1_nextOf_22 : decode cX1_nextOf 22 = .ok (.iconst 1, 1) := dk_4 (dk_at dksX1_nextOf_0 22 rfl rfl)
theorem dX1_nextOf_23 : decode cX1_nextOf 23 = .ok (.iand, 1) := dk_126 (dk_at dksX1_nextOf_0 23 rfl rfl)
theorem dX1_nextOf_24 : decode cX1_nextOf 24 = .ok (.iconst 1, 1) := dk_4 (dk_at dksX1_nextOf_1 0 rfl rfl)
theorem dX1_nextOf_25 : decode cX1_nextOf 25 = .ok (.if_icmp .ne 5, 3) := dk_160 0 5 (dk_at dksX1_nextOf_1 1 rfl rfl)
theorem dX1_nextOf_28 : decode cX1_nextOf 28 = .ok (.aconst_null, 1) := dk_1 (dk_at dksX1_nextOf_1 4 rfl rfl)
theorem dX1_nextOf_29 : decode cX1_nextOf 29 = .ok (.areturn, 1) := dk_176 (dk_at dksX1_nextOf_1 5 rfl rfl)
theorem dX1_nextOf_30 : decode cX1_nextOf 30 = .ok (.aload_n 0, 1) := dk_42 (dk_at dksX1_nextOf_1 6 rfl rfl)
theorem dX1_nextOf_31 : decode cX1_nextOf 31 = .ok (.getfield 53, 3) := dk_180 0 53 (dk_at dksX1_nextOf_1 7 rfl rfl)
theorem dX1_nextOf_34 : decode cX1_nextOf 34 = .ok (.invokevirtual 126, 3) := dk_182 0 126 (dk_at dksX1_nextOf_1 10 rfl rfl)
theorem dX1_nextOf_37 : decode cX1_nextOf 37 = .ok (.astore 8, 2) := dk_58 8 (dk_at dksX1_nextOf_1 13 rfl rfl)
theorem dX1_nextOf_39 : decode cX1_nextOf 39 = .ok (.aload 8, 2) := dk_25 8 (dk_at dksX1_nextOf_1 15 rfl rfl)
theorem dX1_nextOf_41 : decode cX1_nextOf 41 = .ok (.invokeinterface 130 1, 5) := by decide +kernel
theorem dX1_nextOf_46 : decode cX1_nextOf 46 = .ok (.ifCond .eq 164, 3) := dk_153 0 164 (dk_at dksX1_nextOf_2 0 rfl rfl)
theorem dX1_nextOf_49 : decode cX1_nextOf 49 = .ok (.aload 8, 2) := dk_25 8 (dk_at dksX1_nextOf_2 3 rfl rfl)
theorem dX1_nextOf_51 : decode cX1_nextOf 51 = .ok (.invokeinterface 136 1, 5) := by decide +kernel
theorem dX1_nextOf_56 : decode cX1_nextOf 56 = .ok (.checkcast 83, 3) := dk_192 0 83 (dk_at dksX1_nextOf_2 10 rfl rfl)
theorem dX1_nextOf_59 : decode cX1_nextOf 59 = .ok (.astore 9, 2) := dk_58 9 (dk_at dksX1_nextOf_2 13 rfl rfl)
theorem dX1_nextOf_61 : decode cX1_nextOf 61 = .ok (.aload 9, 2) := dk_25 9 (dk_at dksX1_nextOf_2 15 rfl rfl)
theorem dX1_nextOf_63 : decode cX1_nextOf 63 = .ok (.aload_n 1, 1) := dk_43 (dk_at dksX1_nextOf_2 17 rfl rfl)
theorem dX1_nextOf_64 : decode cX1_nextOf 64 = .ok (.if_acmp .eq 22, 3) := dk_165 0 22 (dk_at dksX1_nextOf_2 18 rfl rfl)
theorem dX1_nextOf_67 : decode cX1_nextOf 67 = .ok (.aload 5, 2) := dk_25 5 (dk_at dksX1_nextOf_2 21 rfl rfl)
theorem dX1_nextOf_69 : decode cX1_nextOf 69 = .ok (.aload 9, 2) := dk_25 9 (dk_at dksX1_nextOf_3 0 rfl rfl)
theorem dX1_nextOf_71 : decode cX1_nextOf 71 = .ok (.getfield 91, 3) := dk_180 0 91 (dk_at dksX1_nextOf_3 2 rfl rfl)
theorem dX1_nextOf_74 : decode cX1_nextOf 74 = .ok (.laload, 1) := dk_47 (dk_at dksX1_nextOf_3 5 rfl rfl)
theorem dX1_nextOf_75 : decode cX1_nextOf 75 = .ok (.ldc2_w 120, 3) := dk_20 0 120 (dk_at dksX1_nextOf_3 6 rfl rfl)
theorem dX1_nextOf_78 : decode cX1_nextOf 78 = .ok (.lcmp, 1) := dk_148 (dk_at dksX1_nextOf_3 9 rfl rfl)
theorem dX1_nextOf_79 : decode cX1_nextOf 79 = .ok (.ifCond .eq 7, 3) := dk_153 0 7 (dk_at dksX1_nextOf_3 10 rfl rfl)
theorem dX1_nextOf_82 : decode cX1_nextOf 82 = .ok (.iconst 1, 1) := dk_4 (dk_at dksX1_nextOf_3 13 rfl rfl)
theorem dX1_nextOf_83 : decode cX1_nextOf 83 = .ok (.goto 4, 3) := dk_167 0 4 (dk_at dksX1_nextOf_3 14 rfl rfl)
theorem dX1_nextOf_86 : decode cX1_nextOf 86 = .ok (.iconst 0, 1) := dk_3 (dk_at dksX1_nextOf_3 17 rfl rfl)
theorem dX1_nextOf_87 : decode cX1_nextOf 87 = .ok (.istore 10, 2) := dk_54 10 (dk_at dksX1_nextOf_3 18 rfl rfl)
theorem dX1_nextOf_89 : decode cX1_nextOf 89 = .ok (.iload 10, 2) := dk_21 10 (dk_at dksX1_nextOf_3 20 rfl rfl)
theorem dX1_nextOf_91 : decode cX1_nextOf 91 = .ok (.ifCond .eq 40, 3) := dk_153 0 40 (dk_at dksX1_nextOf_4 0 rfl rfl)
theorem dX1_nextOf_94 : decode cX1_nextOf 94 = .ok (.aload_n 1, 1) := dk_43 (dk_at dksX1_nextOf_4 3 rfl rfl)
theorem dX1_nextOf_95 : decode cX1_nextOf 95 = .ok (.getfield 88, 3) := dk_180 0 88 (dk_at dksX1_nextOf_4 4 rfl rfl)
theorem dX1_nextOf_98 : decode cX1_nextOf 98 = .ok (.aload 9, 2) := dk_25 9 (dk_at dksX1_nextOf_4 7 rfl rfl)
theorem dX1_nextOf_100 : decode cX1_nextOf 100 = .ok (.getfield 91, 3) := dk_180 0 91 (dk_at dksX1_nextOf_4 9 rfl rfl)
theorem dX1_nextOf_103 : decode cX1_nextOf 103 = .ok (.laload, 1) := dk_47 (dk_at dksX1_nextOf_4 12 rfl rfl)
theorem dX1_nextOf_104 : decode cX1_nextOf 104 = .ok (.iload_n 3, 1) := dk_29 (dk_at dksX1_nextOf_4 13 rfl rfl)
theorem dX1_nextOf_105 : decode cX1_nextOf 105 = .ok (.i2l, 1) := dk_133 (dk_at dksX1_nextOf_4 14 rfl rfl)
theorem dX1_nextOf_106 : decode cX1_nextOf 106 = .ok (.ladd, 1) := dk_97 (dk_at dksX1_nextOf_4 15 rfl rfl)
theorem dX1_nextOf_107 : decode cX1_nextOf 107 = .ok (.aload 5, 2) := dk_25 5 (dk_at dksX1_nextOf_4 16 rfl rfl)
theorem dX1_nextOf_109 : decode cX1_nextOf 109 = .ok (.aload 9, 2) := dk_25 9 (dk_at dksX1_nextOf_4 18 rfl rfl)
theorem dX1_nextOf_111 : decode cX1_nextOf 111 = .ok (.getfield 91, 3) := dk_180 0 91 (dk_at dksX1_nextOf_4 20 rfl rfl)
theorem dX1_nextOf_114 : decode cX1_nextOf 114 = .ok (.laload, 1) := dk_47 (dk_at dksX1_nextOf_4 23 rfl rfl)
theorem dX1_nextOf_115 : decode cX1_nextOf 115 = .ok (.ladd, 1) := dk_97 (dk_at dksX1_nextOf_5 0 rfl rfl)
theorem dX1_nextOf_116 : decode cX1_nextOf 116 = .ok (.aload_n 0, 1) := dk_42 (dk_at dksX1_nextOf_5 1 rfl rfl)
theorem dX1_nextOf_117 : decode cX1_nextOf 117 = .ok (.aload 9, 2) := dk_25 9 (dk_at dksX1_nextOf_5 2 rfl rfl)
theorem dX1_nextOf_119 : decode cX1_nextOf 119 = .ok (.aload_n 1, 1) := dk_43 (dk_at dksX1_nextOf_5 4 rfl rfl)
theorem dX1_nextOf_120 : decode cX1_nextOf 120 = .ok (.invokevirtual 144, 3) := dk_182 0 144 (dk_at dksX1_nextOf_5 5 rfl rfl)
theorem dX1_nextOf_123 : decode cX1_nextOf 123 = .ok (.lcmp, 1) := dk_148 (dk_at dksX1_nextOf_5 8 rfl rfl)
theorem dX1_nextOf_124 : decode cX1_nextOf 124 = .ok (.ifCond .gt 7, 3) := dk_157 0 7 (dk_at dksX1_nextOf_5 9 rfl rfl)
theorem dX1_nextOf_127 : decode cX1_nextOf 127 = .ok (.iconst 1, 1) := dk_4 (dk_at dksX1_nextOf_5 12 rfl rfl)
theorem dX1_nextOf_128 : decode cX1_nextOf 128 = .ok (.goto 4, 3) := dk_167 0 4 (dk_at dksX1_nextOf_5 13 rfl rfl)
theorem dX1_nextOf_131 : decode cX1_nextOf 131 = .ok (.iconst 0, 1) := dk_3 (dk_at dksX1_nextOf_5 16 rfl rfl)
theorem dX1_nextOf_132 : decode cX1_nextOf 132 = .ok (.istore 11, 2) := dk_54 11 (dk_at dksX1_nextOf_5 17 rfl rfl)
theorem dX1_nextOf_134 : decode cX1_nextOf 134 = .ok (.iload 11, 2) := dk_21 11 (dk_at dksX1_nextOf_5 19 rfl rfl)
theorem dX1_nextOf_136 : decode cX1_nextOf 136 = .ok (.ifCond .eq 71, 3) := dk_153 0 71 (dk_at dksX1_nextOf_5 21 rfl rfl)
theorem dX1_nextOf_139 : decode cX1_nextOf 139 = .ok (.aload 7, 2) := dk_25 7 (dk_at dksX1_nextOf_6 0 rfl rfl)
theorem dX1_nextOf_141 : decode cX1_nextOf 141 = .ok (.ifnull 62, 3) := dk_198 0 62 (dk_at dksX1_nextOf_6 2 rfl rfl)
theorem dX1_nextOf_144 : decode cX1_nextOf 144 = .ok (.aload 5, 2) := dk_25 5 (dk_at dksX1_nextOf_6 5 rfl rfl)
theorem dX1_nextOf_146 : decode cX1_nextOf 146 = .ok (.aload 9, 2) := dk_25 9 (dk_at dksX1_nextOf_6 7 rfl rfl)
theorem dX1_nextOf_148 : decode cX1_nextOf 148 = .ok (.getfield 91, 3) := dk_180 0 91 (dk_at dksX1_nextOf_6 9 rfl rfl)
theorem dX1_nextOf_151 : decode cX1_nextOf 151 = .ok (.laload, 1) := dk_47 (dk_at dksX1_nextOf_6 12 rfl rfl)
theorem dX1_nextOf_152 : decode cX1_nextOf 152 = .ok (.aload 5, 2) := dk_25 5 (dk_at dksX1_nextOf_6 13 rfl rfl)
theorem dX1_nextOf_154 : decode cX1_nextOf 154 = .ok (.aload 7, 2) := dk_25 7 (dk_at dksX1_nextOf_6 15 rfl rfl)
theorem dX1_nextOf_156 : decode cX1_nextOf 156 = .ok (.getfield 91, 3) := dk_180 0 91 (dk_at dksX1_nextOf_6 17 rfl rfl)
theorem dX1_nextOf_159 : decode cX1_nextOf 159 = .ok (.laload, 1) := dk_47 (dk_at dksX1_nextOf_6 20 rfl rfl)
theorem dX1_nextOf_160 : decode cX1_nextOf 160 = .ok (.lcmp, 1) := dk_148 (dk_at dksX1_nextOf_6 21 rfl rfl)
theorem dX1_nextOf_161 : decode cX1_nextOf 161 = .ok (.ifCond .lt 42, 3) := dk_155 0 42 (dk_at dksX1_nextOf_7 0 rfl rfl)
theorem dX1_nextOf_164 : decode cX1_nextOf 164 = .ok (.aload 5, 2) := dk_25 5 (dk_at dksX1_nextOf_7 3 rfl rfl)
theorem dX1_nextOf_166 : decode cX1_nextOf 166 = .ok (.aload 9, 2) := dk_25 9 (dk_at dksX1_nextOf_7 5 rfl rfl)
theorem dX1_nextOf_168 : decode cX1_nextOf 168 = .ok (.getfield 91, 3) := dk_180 0 91 (dk_at dksX1_nextOf_7 7 rfl rfl)
theorem dX1_nextOf_171 : decode cX1_nextOf 171 = .ok (.laload, 1) := dk_47 (dk_at dksX1_nextOf_7 10 rfl rfl)
theorem dX1_nextOf_172 : decode cX1_nextOf 172 = .ok (.aload 5, 2) := dk_25 5 (dk_at dksX1_nextOf_7 11 rfl rfl)
theorem dX1_nextOf_174 : decode cX1_nextOf 174 = .ok (.aload 7, 2) := dk_25 7 (dk_at dksX1_nextOf_7 13 rfl rfl)
theorem dX1_nextOf_176 : decode cX1_nextOf 176 = .ok (.getfield 91, 3) := dk_180 0 91 (dk_at dksX1_nextOf_7 15 rfl rfl)
theorem dX1_nextOf_179 : decode cX1_nextOf 179 = .ok (.laload, 1) := dk_47 (dk_at dksX1_nextOf_7 18 rfl rfl)
theorem dX1_nextOf_180 : decode cX1_nextOf 180 = .ok (.lcmp, 1) := dk_148 (dk_at dksX1_nextOf_7 19 rfl rfl)
theorem dX1_nextOf_181 : decode cX1_nextOf 181 = .ok (.ifCond .ne 26, 3) := dk_154 0 26 (dk_at dksX1_nextOf_7 20 rfl rfl)
theorem dX1_nextOf_184 : decode cX1_nextOf 184 = .ok (.aload 6, 2) := dk_25 6 (dk_at dksX1_nextOf_8 0 rfl rfl)
theorem dX1_nextOf_186 : decode cX1_nextOf 186 = .ok (.aload 9, 2) := dk_25 9 (dk_at dksX1_nextOf_8 2 rfl rfl)
theorem dX1_nextOf_188 : decode cX1_nextOf 188 = .ok (.getfield 91, 3) := dk_180 0 91 (dk_at dksX1_nextOf_8 4 rfl rfl)
theorem dX1_nextOf_191 : decode cX1_nextOf 191 = .ok (.iaload, 1) := dk_46 (dk_at dksX1_nextOf_8 7 rfl rfl)
theorem dX1_nextOf_192 : decode cX1_nextOf 192 = .ok (.aload 6, 2) := dk_25 6 (dk_at dksX1_nextOf_8 8 rfl rfl)
theorem dX1_nextOf_194 : decode cX1_nextOf 194 = .ok (.aload 7, 2) := dk_25 7 (dk_at dksX1_nextOf_8 10 rfl rfl)
theorem dX1_nextOf_196 : decode cX1_nextOf 196 = .ok (.getfield 91, 3) := dk_180 0 91 (dk_at dksX1_nextOf_8 12 rfl rfl)
theorem dX1_nextOf_199 : decode cX1_nextOf 199 = .ok (.iaload, 1) := dk_46 (dk_at dksX1_nextOf_8 15 rfl rfl)
theorem dX1_nextOf_200 : decode cX1_nextOf 200 = .ok (.if_icmp .ge 7, 3) := dk_162 0 7 (dk_at dksX1_nextOf_8 16 rfl rfl)
theorem dX1_nextOf_203 : decode cX1_nextOf 203 = .ok (.aload 9, 2) := dk_25 9 (dk_at dksX1_nextOf_8 19 rfl rfl)
theorem dX1_nextOf_205 : decode cX1_nextOf 205 = .ok (.astore 7, 2) := dk_58 7 (dk_at dksX1_nextOf_8 21 rfl rfl)
theorem dX1_nextOf_207 : decode cX1_nextOf 207 = .ok (.goto (-168), 3) := dk_167 255 88 (dk_at dksX1_nextOf_9 0 rfl rfl)
theorem dX1_nextOf_210 : decode cX1_nextOf 210 = .ok (.aload 7, 2) := dk_25 7 (dk_at dksX1_nextOf_9 3 rfl rfl)
theorem dX1_nextOf_212 : decode cX1_nextOf 212 = .ok (.areturn, 1) := dk_176 (dk_at dksX1_nextOf_9 5 rfl rfl)
abbrev cX1_limitOf : ByteArray := prog_1_method_15_code
def yX1_limitOf : MethodName := ⟨RX1, "limitOf", "(LHundiHall$Broker;LHundiHall$Broker;)J"⟩
def dkwX1_limitOf_2 : List UInt8 := [44, 180, 0, 117, 5, 160, 0, 7, 9, 167, 0, 4, 33, 173]
abbrev dktX1_limitOf_2 : List UInt8 := dkwX1_limitOf_2 ++ []
def dkwX1_limitOf_1 : List UInt8 := [180, 0, 114, 44, 180, 0, 91, 46, 133, 105, 167, 0, 13, 43, 180, 0, 114, 44, 180, 0, 91, 46, 133, 66]
abbrev dktX1_limitOf_1 : List UInt8 := dkwX1_limitOf_1 ++ dktX1_limitOf_2
def dkwX1_limitOf_0 : List UInt8 := [42, 180, 0, 105, 153, 0, 32, 43, 180, 0, 109, 44, 180, 0, 91, 51, 153, 0, 20, 20, 0, 112, 43]
abbrev dktX1_limitOf_0 : List UInt8 := dkwX1_limitOf_0 ++ dktX1_limitOf_1
theorem dksX1_limitOf_0 : cX1_limitOf.data.toList.drop 0 = dktX1_limitOf_0 := by decide +kernel
theorem dksX1_limitOf_1 : cX1_limitOf.data.toList.drop 23 = dktX1_limitOf_1 := dk_seg dksX1_limitOf_0 23 rfl rfl
theorem dksX1_limitOf_2 : cX1_limitOf.data.toList.drop 47 = dktX1_limitOf_2 := dk_seg dksX1_limitOf_1 24 rfl rfl
theorem dX1_limitOf_0 : decode cX1_limitOf 0 = .ok (.aload_n 0, 1) := dk_42 (dk_at dksX1_limitOf_0 0 rfl rfl)
theorem dX1_limitOf_1 : decode cX1_limitOf 1 = .ok (.getfield 105, 3) := dk_180 0 105 (dk_at dksX1_limitOf_0 1 rfl rfl)
theorem dX1_limitOf_4 : decode cX1_limitOf 4 = .ok (.ifCond .eq 32, 3) := dk_153 0 32 (dk_at dksX1_limitOf_0 4 rfl rfl)
theorem dX1_limitOf_7 : decode cX1_limitOf 7 = .ok (.aload_n 1, 1) := dk_43 (dk_at dksX1_limitOf_0 7 rfl rfl)
theorem dX1_limitOf_8 : decode cX1_limitOf 8 = .ok (.getfield 109, 3) := dk_180 0 109 (dk_at dksX1_limitOf_0 8 rfl rfl)
theorem dX1_limitOf_11 : decode cX1_limitOf 11 = .ok (.aload_n 2, 1) := dk_44 (dk_at dksX1_limitOf_0 11 rfl rfl)
theorem dX1_limitOf_12 : decode cX1_limitOf 12 = .ok (.getfield 91, 3) := dk_180 0 91 (dk_at dksX1_limitOf_0 12 rfl rfl)
theorem dX1_limitOf_15 : decode cX1_limitOf 15 = .ok (.baload, 1) := dk_51 (dk_at dksX1_limitOf_0 15 rfl rfl)
theorem dX1_limitOf_16 : decode cX1_limitOf 16 = .ok (.ifCond .eq 20, 3) := dk_153 0 20 (dk_at dksX1_limitOf_0 16 rfl rfl)
theorem dX1_limitOf_19 : decode cX1_limitOf 19 = .ok (.ldc2_w 112, 3) := dk_20 0 112 (dk_at dksX1_limitOf_0 19 rfl rfl)
theorem dX1_limitOf_22 : decode cX1_limitOf 22 = .ok (.aload_n 1, 1) := dk_43 (dk_at dksX1_limitOf_0 22 rfl rfl)
theorem dX1_limitOf_23 : decode cX1_limitOf 23 = .ok (.getfield 114, 3) := dk_180 0 114 (dk_at dksX1_limitOf_1 0 rfl rfl)
theorem dX1_limitOf_26 : decode cX1_limitOf 26 = .ok (.aload_n 2, 1) := dk_44 (dk_at dksX1_limitOf_1 3 rfl rfl)
theorem dX1_limitOf_27 : decode cX1_limitOf 27 = .ok (.getfield 91, 3) := dk_180 0 91 (dk_at dksX1_limitOf_1 4 rfl rfl)
theorem dX1_limitOf_30 : decode cX1_limitOf 30 = .ok (.iaload, 1) := dk_46 (dk_at dksX1_limitOf_1 7 rfl rfl)
theorem dX1_limitOf_31 : decode cX1_limitOf 31 = .ok (.i2l, 1) := dk_133 (dk_at dksX1_limitOf_1 8 rfl rfl)
theorem dX1_limitOf_32 : decode cX1_limitOf 32 = .ok (.lmul, 1) := dk_105 (dk_at dksX1_limitOf_1 9 rfl rfl)
theorem dX1_limitOf_33 : decode cX1_limitOf 33 = .ok (.goto 13, 3) := dk_167 0 13 (dk_at dksX1_limitOf_1 10 rfl rfl)
theorem dX1_limitOf_36 : decode cX1_limitOf 36 = .ok (.aload_n 1, 1) := dk_43 (dk_at dksX1_limitOf_1 13 rfl rfl)
theorem dX1_limitOf_37 : decode cX1_limitOf 37 = .ok (.getfield 114, 3) := dk_180 0 114 (dk_at dksX1_limitOf_1 14 rfl rfl)
theorem dX1_limitOf_40 : decode cX1_limitOf 40 = .ok (.aload_n 2, 1) := dk_44 (dk_at dksX1_limitOf_1 17 rfl rfl)
theorem dX1_limitOf_41 : decode cX1_limitOf 41 = .ok (.getfield 91, 3) := dk_180 0 91 (dk_at dksX1_limitOf_1 18 rfl rfl)
theorem dX1_limitOf_44 : decode cX1_limitOf 44 = .ok (.iaload, 1) := dk_46 (dk_at dksX1_limitOf_1 21 rfl rfl)
theorem dX1_limitOf_45 : decode cX1_limitOf 45 = .ok (.i2l, 1) := dk_133 (dk_at dksX1_limitOf_1 22 rfl rfl)
theorem dX1_limitOf_46 : decode cX1_limitOf 46 = .ok (.lstore_n 3, 1) := dk_66 (dk_at dksX1_limitOf_1 23 rfl rfl)
theorem dX1_limitOf_47 : decode cX1_limitOf 47 = .ok (.aload_n 2, 1) := dk_44 (dk_at dksX1_limitOf_2 0 rfl rfl)
theorem dX1_limitOf_48 : decode cX1_limitOf 48 = .ok (.getfield 117, 3) := dk_180 0 117 (dk_at dksX1_limitOf_2 1 rfl rfl)
theorem dX1_limitOf_51 : decode cX1_limitOf 51 = .ok (.iconst 2, 1) := dk_5 (dk_at dksX1_limitOf_2 4 rfl rfl)
theorem dX1_limitOf_52 : decode cX1_limitOf 52 = .ok (.if_icmp .ne 7, 3) := dk_160 0 7 (dk_at dksX1_limitOf_2 5 rfl rfl)
theorem dX1_limitOf_55 : decode cX1_limitOf 55 = .ok (.lconst 0, 1) := dk_9 (dk_at dksX1_limitOf_2 8 rfl rfl)
theorem dX1_limitOf_56 : decode cX1_limitOf 56 = .ok (.goto 4, 3) := dk_167 0 4 (dk_at dksX1_limitOf_2 9 rfl rfl)
theorem dX1_limitOf_59 : decode cX1_limitOf 59 = .ok (.lload_n 3, 1) := dk_33 (dk_at dksX1_limitOf_2 12 rfl rfl)
theorem dX1_limitOf_60 : decode cX1_limitOf 60 = .ok (.lreturn, 1) := dk_173 (dk_at dksX1_limitOf_2 13 rfl rfl)
abbrev cX1_lend : ByteArray := prog_1_method_24_code
def yX1_lend : MethodName := ⟨RX1, "lend", "(LHundiHall$Order;)V"⟩
def dkwX1_lend_2 : List UInt8 := [184, 0, 98, 44, 180, 0, 213, 44, 180, 0, 217, 44, 180, 0, 220, 184, 0, 102, 167, 255, 196, 177]
abbrev dktX1_lend_2 : List UInt8 := dkwX1_lend_2 ++ []
def dkwX1_lend_1 : List UInt8 := [44, 180, 0, 209, 42, 180, 0, 212, 161, 0, 33, 44, 180, 0, 213, 44, 180, 0, 217, 44, 180, 0, 220]
abbrev dktX1_lend_1 : List UInt8 := dkwX1_lend_1 ++ dktX1_lend_2
def dkwX1_lend_0 : List UInt8 := [42, 182, 0, 206, 76, 43, 185, 0, 130, 1, 0, 153, 0, 57, 43, 185, 0, 136, 1, 0, 192, 0, 207, 77]
abbrev dktX1_lend_0 : List UInt8 := dkwX1_lend_0 ++ dktX1_lend_1
theorem dksX1_lend_0 : cX1_lend.data.toList.drop 0 = dktX1_lend_0 := by decide +kernel
theorem dksX1_lend_1 : cX1_lend.data.toList.drop 24 = dktX1_lend_1 := dk_seg dksX1_lend_0 24 rfl rfl
theorem dksX1_lend_2 : cX1_lend.data.toList.drop 47 = dktX1_lend_2 := dk_seg dksX1_lend_1 23 rfl rfl
theorem dX1_lend_0 : decode cX1_lend 0 = .ok (.aload_n 0, 1) := dk_42 (dk_at dksX1_lend_0 0 rfl rfl)
theorem dX1_lend_1 : decode cX1_lend 1 = .ok (.invokevirtual 206, 3) := dk_182 0 206 (dk_at dksX1_lend_0 1 rfl rfl)
theorem dX1_lend_4 : decode cX1_lend 4 = .ok (.astore_n 1, 1) := dk_76 (dk_at dksX1_lend_0 4 rfl rfl)
theorem dX1_lend_5 : decode cX1_lend 5 = .ok (.aload_n 1, 1) := dk_43 (dk_at dksX1_lend_0 5 rfl rfl)
theorem dX1_lend_6 : decode cX1_lend 6 = .ok (.invokeinterface 130 1, 5) := by decide +kernel
theorem dX1_lend_11 : decode cX1_lend 11 = .ok (.ifCond .eq 57, 3) := dk_153 0 57 (dk_at dksX1_lend_0 11 rfl rfl)
theorem dX1_lend_14 : decode cX1_lend 14 = .ok (.aload_n 1, 1) := dk_43 (dk_at dksX1_lend_0 14 rfl rfl)
theorem dX1_lend_15 : decode cX1_lend 15 = .ok (.invokeinterface 136 1, 5) := by decide +kernel
theorem dX1_lend_20 : decode cX1_lend 20 = .ok (.checkcast 207, 3) := dk_192 0 207 (dk_at dksX1_lend_0 20 rfl rfl)
theorem dX1_lend_23 : decode cX1_lend 23 = .ok (.astore_n 2, 1) := dk_77 (dk_at dksX1_lend_0 23 rfl rfl)
theorem dX1_lend_24 : decode cX1_lend 24 = .ok (.aload_n 2, 1) := dk_44 (dk_at dksX1_lend_1 0 rfl rfl)
theorem dX1_lend_25 : decode cX1_lend 25 = .ok (.getfield 209, 3) := dk_180 0 209 (dk_at dksX1_lend_1 1 rfl rfl)
theorem dX1_lend_28 : decode cX1_lend 28 = .ok (.aload_n 0, 1) := dk_42 (dk_at dksX1_lend_1 4 rfl rfl)
theorem dX1_lend_29 : decode cX1_lend 29 = .ok (.getfield 212, 3) := dk_180 0 212 (dk_at dksX1_lend_1 5 rfl rfl)
theorem dX1_lend_32 : decode cX1_lend 32 = .ok (.if_icmp .lt 33, 3) := dk_161 0 33 (dk_at dksX1_lend_1 8 rfl rfl)
theorem dX1_lend_35 : decode cX1_lend 35 = .ok (.aload_n 2, 1) := dk_44 (dk_at dksX1_lend_1 11 rfl rfl)
theorem dX1_lend_36 : decode cX1_lend 36 = .ok (.getfield 213, 3) := dk_180 0 213 (dk_at dksX1_lend_1 12 rfl rfl)
theorem dX1_lend_39 : decode cX1_lend 39 = .ok (.aload_n 2, 1) := dk_44 (dk_at dksX1_lend_1 15 rfl rfl)
theorem dX1_lend_40 : decode cX1_lend 40 = .ok (.getfield 217, 3) := dk_180 0 217 (dk_at dksX1_lend_1 16 rfl rfl)
theorem dX1_lend_43 : decode cX1_lend 43 = .ok (.aload_n 2, 1) := dk_44 (dk_at dksX1_lend_1 19 rfl rfl)
theorem dX1_lend_44 : decode cX1_lend 44 = .ok (.getfield 220, 3) := dk_180 0 220 (dk_at dksX1_lend_1 20 rfl rfl)
theorem dX1_lend_47 : decode cX1_lend 47 = .ok (.invokestatic 98, 3) := dk_184 0 98 (dk_at dksX1_lend_2 0 rfl rfl)
theorem dX1_lend_50 : decode cX1_lend 50 = .ok (.aload_n 2, 1) := dk_44 (dk_at dksX1_lend_2 3 rfl rfl)
theorem dX1_lend_51 : decode cX1_lend 51 = .ok (.getfield 213, 3) := dk_180 0 213 (dk_at dksX1_lend_2 4 rfl rfl)
theorem dX1_lend_54 : decode cX1_lend 54 = .ok (.aload_n 2, 1) := dk_44 (dk_at dksX1_lend_2 7 rfl rfl)
theorem dX1_lend_55 : decode cX1_lend 55 = .ok (.getfield 217, 3) := dk_180 0 217 (dk_at dksX1_lend_2 8 rfl rfl)
theorem dX1_lend_58 : decode cX1_lend 58 = .ok (.aload_n 2, 1) := dk_44 (dk_at dksX1_lend_2 11 rfl rfl)
theorem dX1_lend_59 : decode cX1_lend 59 = .ok (.getfield 220, 3) := dk_180 0 220 (dk_at dksX1_lend_2 12 rfl rfl)
theorem dX1_lend_62 : decode cX1_lend 62 = .ok (.invokestatic 102, 3) := dk_184 0 102 (dk_at dksX1_lend_2 15 rfl rfl)
theorem dX1_lend_65 : decode cX1_lend 65 = .ok (.goto (-60), 3) := dk_167 255 196 (dk_at dksX1_lend_2 18 rfl rfl)
theorem dX1_lend_68 : decode cX1_lend 68 = .ok (.return_, 1) := dk_177 (dk_at dksX1_lend_2 21 rfl rfl)
abbrev cX1_goBack : ByteArray := prog_1_method_26_code
def yX1_goBack : MethodName := ⟨RX1, "goBack", "(LHundiHall$Order;)V"⟩
def dkwX1_goBack_1 : List UInt8 := [181, 0, 231, 177]
abbrev dktX1_goBack_1 : List UInt8 := dkwX1_goBack_1 ++ []
def dkwX1_goBack_0 : List UInt8 := [42, 3, 184, 0, 223, 42, 42, 182, 0, 227, 180, 0, 117, 5, 160, 0, 7, 8, 167, 0, 4, 6]
abbrev dktX1_goBack_0 : List UInt8 := dkwX1_goBack_0 ++ dktX1_goBack_1
theorem dksX1_goBack_0 : cX1_goBack.data.toList.drop 0 = dktX1_goBack_0 := by decide +kernel
theorem dksX1_goBack_1 : cX1_goBack.data.toList.drop 22 = dktX1_goBack_1 := dk_seg dksX1_goBack_0 22 rfl rfl
theorem dX1_goBack_0 : decode cX1_goBack 0 = .ok (.aload_n 0, 1) := dk_42 (dk_at dksX1_goBack_0 0 rfl rfl)
theorem dX1_goBack_1 : decode cX1_goBack 1 = .ok (.iconst 0, 1) := dk_3 (dk_at dksX1_goBack_0 1 rfl rfl)
theorem dX1_goBack_2 : decode cX1_goBack 2 = .ok (.invokestatic 223, 3) := dk_184 0 223 (dk_at dksX1_goBack_0 2 rfl rfl)
theorem dX1_goBack_5 : decode cX1_goBack 5 = .ok (.aload_n 0, 1) := dk_42 (dk_at dksX1_goBack_0 5 rfl rfl)
theorem dX1_goBack_6 : decode cX1_goBack 6 = .ok (.aload_n 0, 1) := dk_42 (dk_at dksX1_goBack_0 6 rfl rfl)
theorem dX1_goBack_7 : decode cX1_goBack 7 = .ok (.invokevirtual 227, 3) := dk_182 0 227 (dk_at dksX1_goBack_0 7 rfl rfl)
theorem dX1_goBack_10 : decode cX1_goBack 10 = .ok (.getfield 117, 3) := dk_180 0 117 (dk_at dksX1_goBack_0 10 rfl rfl)
theorem dX1_goBack_13 : decode cX1_goBack 13 = .ok (.iconst 2, 1) := dk_5 (dk_at dksX1_goBack_0 13 rfl rfl)
theorem dX1_goBack_14 : decode cX1_goBack 14 = .ok (.if_icmp .ne 7, 3) := dk_160 0 7 (dk_at dksX1_goBack_0 14 rfl rfl)
theorem dX1_goBack_17 : decode cX1_goBack 17 = .ok (.iconst 5, 1) := dk_8 (dk_at dksX1_goBack_0 17 rfl rfl)
theorem dX1_goBack_18 : decode cX1_goBack 18 = .ok (.goto 4, 3) := dk_167 0 4 (dk_at dksX1_goBack_0 18 rfl rfl)
theorem dX1_goBack_21 : decode cX1_goBack 21 = .ok (.iconst 3, 1) := dk_6 (dk_at dksX1_goBack_0 21 rfl rfl)
theorem dX1_goBack_22 : decode cX1_goBack 22 = .ok (.putfield 231, 3) := dk_181 0 231 (dk_at dksX1_goBack_1 0 rfl rfl)
theorem dX1_goBack_25 : decode cX1_goBack 25 = .ok (.return_, 1) := dk_177 (dk_at dksX1_goBack_1 3 rfl rfl)
abbrev cX1_raid : ByteArray := prog_1_method_37_code
def yX1_raid : MethodName := ⟨RX1, "raid", "(I)I"⟩
def dkwX1_raid_2 : List UInt8 := [25, 4, 182, 1, 62, 42, 25, 4, 182, 1, 66, 54, 5, 29, 172]
abbrev dktX1_raid_2 : List UInt8 := dkwX1_raid_2 ++ []
def dkwX1_raid_1 : List UInt8 := [180, 0, 191, 136, 62, 187, 1, 39, 89, 44, 42, 180, 0, 185, 17, 2, 208, 96, 183, 1, 70, 58, 4, 42]
abbrev dktX1_raid_1 : List UInt8 := dkwX1_raid_1 ++ dktX1_raid_2
def dkwX1_raid_0 : List UInt8 := [42, 27, 182, 0, 166, 77, 44, 180, 0, 117, 154, 0, 7, 4, 167, 0, 4, 3, 184, 0, 156, 44]
abbrev dktX1_raid_0 : List UInt8 := dkwX1_raid_0 ++ dktX1_raid_1
theorem dksX1_raid_0 : cX1_raid.data.toList.drop 0 = dktX1_raid_0 := by decide +kernel
theorem dksX1_raid_1 : cX1_raid.data.toList.drop 22 = dktX1_raid_1 := dk_seg dksX1_raid_0 22 rfl rfl
theorem dksX1_raid_2 : cX1_raid.data.toList.drop 46 = dktX1_raid_2 := dk_seg dksX1_raid_1 24 rfl rfl
theorem dX1_raid_0 : decode cX1_raid 0 = .ok (.aload_n 0, 1) := dk_42 (dk_at dksX1_raid_0 0 rfl rfl)
theorem dX1_raid_1 : decode cX1_raid 1 = .ok (.iload_n 1, 1) := dk_27 (dk_at dksX1_raid_0 1 rfl rfl)
theorem dX1_raid_2 : decode cX1_raid 2 = .ok (.invokevirtual 166, 3) := dk_182 0 166 (dk_at dksX1_raid_0 2 rfl rfl)
theorem dX1_raid_5 : decode cX1_raid 5 = .ok (.astore_n 2, 1) := dk_77 (dk_at dksX1_raid_0 5 rfl rfl)
theorem dX1_raid_6 : decode cX1_raid 6 = .ok (.aload_n 2, 1) := dk_44 (dk_at dksX1_raid_0 6 rfl rfl)
theorem dX1_raid_7 : decode cX1_raid 7 = .ok (.getfield 117, 3) := dk_180 0 117 (dk_at dksX1_raid_0 7 rfl rfl)
theorem dX1_raid_10 : decode cX1_raid 10 = .ok (.ifCond .ne 7, 3) := dk_154 0 7 (dk_at dksX1_raid_0 10 rfl rfl)
theorem dX1_raid_13 : decode cX1_raid 13 = .ok (.iconst 1, 1) := dk_4 (dk_at dksX1_raid_0 13 rfl rfl)
theorem dX1_raid_14 : decode cX1_raid 14 = .ok (.goto 4, 3) := dk_167 0 4 (dk_at dksX1_raid_0 14 rfl rfl)
theorem dX1_raid_17 : decode cX1_raid 17 = .ok (.iconst 0, 1) := dk_3 (dk_at dksX1_raid_0 17 rfl rfl)
theorem dX1_raid_18 : decode cX1_raid 18 = .ok (.invokestatic 156, 3) := dk_184 0 156 (dk_at dksX1_raid_0 18 rfl rfl)
theorem dX1_raid_21 : decode cX1_raid 21 = .ok (.aload_n 2, 1) := dk_44 (dk_at dksX1_raid_0 21 rfl rfl)
theorem dX1_raid_22 : decode cX1_raid 22 = .ok (.getfield 191, 3) := dk_180 0 191 (dk_at dksX1_raid_1 0 rfl rfl)
theorem dX1_raid_25 : decode cX1_raid 25 = .ok (.l2i, 1) := dk_136 (dk_at dksX1_raid_1 3 rfl rfl)
theorem dX1_raid_26 : decode cX1_raid 26 = .ok (.istore_n 3, 1) := dk_62 (dk_at dksX1_raid_1 4 rfl rfl)
theorem dX1_raid_27 : decode cX1_raid 27 = .ok (.new 295, 3) := dk_187 1 39 (dk_at dksX1_raid_1 5 rfl rfl)
theorem dX1_raid_30 : decode cX1_raid 30 = .ok (.dup, 1) := dk_89 (dk_at dksX1_raid_1 8 rfl rfl)
theorem dX1_raid_31 : decode cX1_raid 31 = .ok (.aload_n 2, 1) := dk_44 (dk_at dksX1_raid_1 9 rfl rfl)
theorem dX1_raid_32 : decode cX1_raid 32 = .ok (.aload_n 0, 1) := dk_42 (dk_at dksX1_raid_1 10 rfl rfl)
theorem dX1_raid_33 : decode cX1_raid 33 = .ok (.getfield 185, 3) := dk_180 0 185 (dk_at dksX1_raid_1 11 rfl rfl)
theorem dX1_raid_36 : decode cX1_raid 36 = .ok (.sipush 720, 3) := dk_17 2 208 (dk_at dksX1_raid_1 14 rfl rfl)
theorem dX1_raid_39 : decode cX1_raid 39 = .ok (.iadd, 1) := dk_96 (dk_at dksX1_raid_1 17 rfl rfl)
theorem dX1_raid_40 : decode cX1_raid 40 = .ok (.invokespecial 326, 3) := dk_183 1 70 (dk_at dksX1_raid_1 18 rfl rfl)
theorem dX1_raid_43 : decode cX1_raid 43 = .ok (.astore 4, 2) := dk_58 4 (dk_at dksX1_raid_1 21 rfl rfl)
theorem dX1_raid_45 : decode cX1_raid 45 = .ok (.aload_n 0, 1) := dk_42 (dk_at dksX1_raid_1 23 rfl rfl)
theorem dX1_raid_46 : decode cX1_raid 46 = .ok (.aload 4, 2) := dk_25 4 (dk_at dksX1_raid_2 0 rfl rfl)
theorem dX1_raid_48 : decode cX1_raid 48 = .ok (.invokevirtual 318, 3) := dk_182 1 62 (dk_at dksX1_raid_2 2 rfl rfl)
theorem dX1_raid_51 : decode cX1_raid 51 = .ok (.aload_n 0, 1) := dk_42 (dk_at dksX1_raid_2 5 rfl rfl)
theorem dX1_raid_52 : decode cX1_raid 52 = .ok (.aload 4, 2) := dk_25 4 (dk_at dksX1_raid_2 6 rfl rfl)
theorem dX1_raid_54 : decode cX1_raid 54 = .ok (.invokevirtual 322, 3) := dk_182 1 66 (dk_at dksX1_raid_2 8 rfl rfl)
theorem dX1_raid_57 : decode cX1_raid 57 = .ok (.istore 5, 2) := dk_54 5 (dk_at dksX1_raid_2 11 rfl rfl)
theorem dX1_raid_59 : decode cX1_raid 59 = .ok (.iload_n 3, 1) := dk_29 (dk_at dksX1_raid_2 13 rfl rfl)
theorem dX1_raid_60 : decode cX1_raid 60 = .ok (.ireturn, 1) := dk_172 (dk_at dksX1_raid_2 14 rfl rfl)
abbrev cX1_order : ByteArray := prog_1_method_23_code
def yX1_order : MethodName := ⟨RX1, "order", "(IIIII)I"⟩
def dkwX1_order_9 : List UInt8 := [180, 0, 205, 172]
abbrev dktX1_order_9 : List UInt8 := dkwX1_order_9 ++ []
def dkwX1_order_8 : List UInt8 := [29, 42, 180, 0, 63, 25, 6, 180, 0, 202, 46, 164, 0, 7, 4, 167, 0, 4, 3, 96, 79, 25, 9]
abbrev dktX1_order_8 : List UInt8 := dkwX1_order_8 ++ dktX1_order_9
def dkwX1_order_7 : List UInt8 := [25, 9, 180, 0, 195, 133, 97, 80, 25, 9, 184, 0, 198, 42, 180, 0, 67, 25, 6, 180, 0, 202, 92, 46]
abbrev dktX1_order_7 : List UInt8 := dkwX1_order_7 ++ dktX1_order_8
def dkwX1_order_6 : List UInt8 := [25, 6, 89, 180, 0, 191, 25, 9, 180, 0, 195, 133, 97, 181, 0, 191, 42, 180, 0, 74, 3, 92, 47]
abbrev dktX1_order_6 : List UInt8 := dkwX1_order_6 ++ dktX1_order_7
def dkwX1_order_5 : List UInt8 := [29, 21, 5, 42, 180, 0, 185, 25, 8, 183, 0, 188, 58, 9, 42, 180, 0, 57, 25, 9, 182, 0, 162, 87]
abbrev dktX1_order_5 : List UInt8 := dkwX1_order_5 ++ dktX1_order_6
def dkwX1_order_4 : List UInt8 := [25, 8, 198, 0, 7, 4, 167, 0, 4, 3, 184, 0, 156, 187, 0, 183, 89, 42, 180, 0, 57, 182, 0, 155]
abbrev dktX1_order_4 : List UInt8 := dkwX1_order_4 ++ dktX1_order_5
def dkwX1_order_3 : List UInt8 := [154, 0, 7, 4, 167, 0, 4, 3, 184, 0, 156, 42, 25, 6, 25, 7, 29, 3, 182, 0, 179, 58, 8]
abbrev dktX1_order_3 : List UInt8 := dkwX1_order_3 ++ dktX1_order_4
def dkwX1_order_2 : List UInt8 := [184, 0, 176, 42, 180, 0, 57, 182, 0, 155, 16, 40, 162, 0, 17, 42, 180, 0, 70, 21, 4, 51]
abbrev dktX1_order_2 : List UInt8 := dkwX1_order_2 ++ dktX1_order_3
def dkwX1_order_1 : List UInt8 := [165, 0, 19, 3, 17, 39, 15, 21, 5, 184, 0, 21, 153, 0, 7, 4, 167, 0, 4, 3, 184, 0, 85, 29]
abbrev dktX1_order_1 : List UInt8 := dkwX1_order_1 ++ dktX1_order_2
def dkwX1_order_0 : List UInt8 := [42, 27, 182, 0, 166, 58, 6, 42, 28, 182, 0, 166, 58, 7, 21, 4, 184, 0, 173, 25, 6, 25, 7]
abbrev dktX1_order_0 : List UInt8 := dkwX1_order_0 ++ dktX1_order_1
theorem dksX1_order_0 : cX1_order.data.toList.drop 0 = dktX1_order_0 := by decide +kernel
theorem dksX1_order_1 : cX1_order.data.toList.drop 23 = dktX1_order_1 := dk_seg dksX1_order_0 23 rfl rfl
theorem dksX1_order_2 : cX1_order.data.toList.drop 47 = dktX1_order_2 := dk_seg dksX1_order_1 24 rfl rfl
theorem dksX1_order_3 : cX1_order.data.toList.drop 69 = dktX1_order_3 := dk_seg dksX1_order_2 22 rfl rfl
theorem dksX1_order_4 : cX1_order.data.toList.drop 92 = dktX1_order_4 := dk_seg dksX1_order_3 23 rfl rfl
theorem dksX1_order_5 : cX1_order.data.toList.drop 116 = dktX1_order_5 := dk_seg dksX1_order_4 24 rfl rfl
theorem dksX1_order_6 : cX1_order.data.toList.drop 140 = dktX1_order_6 := dk_seg dksX1_order_5 24 rfl rfl
theorem dksX1_order_7 : cX1_order.data.toList.drop 163 = dktX1_order_7 := dk_seg dksX1_order_6 23 rfl rfl
theorem dksX1_order_8 : cX1_order.data.toList.drop 187 = dktX1_order_8 := dk_seg dksX1_order_7 24 rfl rfl
theorem dksX1_order_9 : cX1_order.data.toList.drop 210 = dktX1_order_9 := dk_seg dksX1_order_8 23 rfl rfl
theorem dX1_order_0 : decode cX1_order 0 = .ok (.aload_n 0, 1) := dk_42 (dk_at dksX1_order_0 0 rfl rfl)
theorem dX1_order_1 : decode cX1_order 1 = .ok (.iload_n 1, 1) := dk_27 (dk_at dksX1_order_0 1 rfl rfl)
theorem dX1_order_2 : decode cX1_order 2 = .ok (.invokevirtual 166, 3) := dk_182 0 166 (dk_at dksX1_order_0 2 rfl rfl)
theorem dX1_order_5 : decode cX1_order 5 = .ok (.astore 6, 2) := dk_58 6 (dk_at dksX1_order_0 5 rfl rfl)
theorem dX1_order_7 : decode cX1_order 7 = .ok (.aload_n 0, 1) := dk_42 (dk_at dksX1_order_0 7 rfl rfl)
theorem dX1_order_8 : decode cX1_order 8 = .ok (.iload_n 2, 1) := dk_28 (dk_at dksX1_order_0 8 rfl rfl)
theorem dX1_order_9 : decode cX1_order 9 = .ok (.invokevirtual 166, 3) := dk_182 0 166 (dk_at dksX1_order_0 9 rfl rfl)
theorem dX1_order_12 : decode cX1_order 12 = .ok (.astore 7, 2) := dk_58 7 (dk_at dksX1_order_0 12 rfl rfl)
theorem dX1_order_14 : decode cX1_order 14 = .ok (.iload 4, 2) := dk_21 4 (dk_at dksX1_order_0 14 rfl rfl)
theorem dX1_order_16 : decode cX1_order 16 = .ok (.invokestatic 173, 3) := dk_184 0 173 (dk_at dksX1_order_0 16 rfl rfl)
theorem dX1_order_19 : decode cX1_order 19 = .ok (.aload 6, 2) := dk_25 6 (dk_at dksX1_order_0 19 rfl rfl)
theorem dX1_order_21 : decode cX1_order 21 = .ok (.aload 7, 2) := dk_25 7 (dk_at dksX1_order_0 21 rfl rfl)
theorem dX1_order_23 : decode cX1_order 23 = .ok (.if_acmp .eq 19, 3) := dk_165 0 19 (dk_at dksX1_order_1 0 rfl rfl)
theorem dX1_order_26 : decode cX1_order 26 = .ok (.iconst 0, 1) := dk_3 (dk_at dksX1_order_1 3 rfl rfl)
theorem dX1_order_27 : decode cX1_order 27 = .ok (.sipush 9999, 3) := dk_17 39 15 (dk_at dksX1_order_1 4 rfl rfl)
theorem dX1_order_30 : decode cX1_order 30 = .ok (.iload 5, 2) := dk_21 5 (dk_at dksX1_order_1 7 rfl rfl)
theorem dX1_order_32 : decode cX1_order 32 = .ok (.invokestatic 21, 3) := dk_184 0 21 (dk_at dksX1_order_1 9 rfl rfl)
theorem dX1_order_35 : decode cX1_order 35 = .ok (.ifCond .eq 7, 3) := dk_153 0 7 (dk_at dksX1_order_1 12 rfl rfl)
theorem dX1_order_38 : decode cX1_order 38 = .ok (.iconst 1, 1) := dk_4 (dk_at dksX1_order_1 15 rfl rfl)
theorem dX1_order_39 : decode cX1_order 39 = .ok (.goto 4, 3) := dk_167 0 4 (dk_at dksX1_order_1 16 rfl rfl)
theorem dX1_order_42 : decode cX1_order 42 = .ok (.iconst 0, 1) := dk_3 (dk_at dksX1_order_1 19 rfl rfl)
theorem dX1_order_43 : decode cX1_order 43 = .ok (.invokestatic 85, 3) := dk_184 0 85 (dk_at dksX1_order_1 20 rfl rfl)
theorem dX1_order_46 : decode cX1_order 46 = .ok (.iload_n 3, 1) := dk_29 (dk_at dksX1_order_1 23 rfl rfl)
theorem dX1_order_47 : decode cX1_order 47 = .ok (.invokestatic 176, 3) := dk_184 0 176 (dk_at dksX1_order_2 0 rfl rfl)
theorem dX1_order_50 : decode cX1_order 50 = .ok (.aload_n 0, 1) := dk_42 (dk_at dksX1_order_2 3 rfl rfl)
theorem dX1_order_51 : decode cX1_order 51 = .ok (.getfield 57, 3) := dk_180 0 57 (dk_at dksX1_order_2 4 rfl rfl)
theorem dX1_order_54 : decode cX1_order 54 = .ok (.invokevirtual 155, 3) := dk_182 0 155 (dk_at dksX1_order_2 7 rfl rfl)
theorem dX1_order_57 : decode cX1_order 57 = .ok (.bipush 40, 2) := dk_16 40 (dk_at dksX1_order_2 10 rfl rfl)
theorem dX1_order_59 : decode cX1_order 59 = .ok (.if_icmp .ge 17, 3) := dk_162 0 17 (dk_at dksX1_order_2 12 rfl rfl)
theorem dX1_order_62 : decode cX1_order 62 = .ok (.aload_n 0, 1) := dk_42 (dk_at dksX1_order_2 15 rfl rfl)
theorem dX1_order_63 : decode cX1_order 63 = .ok (.getfield 70, 3) := dk_180 0 70 (dk_at dksX1_order_2 16 rfl rfl)
theorem dX1_order_66 : decode cX1_order 66 = .ok (.iload 4, 2) := dk_21 4 (dk_at dksX1_order_2 19 rfl rfl)
theorem dX1_order_68 : decode cX1_order 68 = .ok (.baload, 1) := dk_51 (dk_at dksX1_order_2 21 rfl rfl)
theorem dX1_order_69 : decode cX1_order 69 = .ok (.ifCond .ne 7, 3) := dk_154 0 7 (dk_at dksX1_order_3 0 rfl rfl)
theorem dX1_order_72 : decode cX1_order 72 = .ok (.iconst 1, 1) := dk_4 (dk_at dksX1_order_3 3 rfl rfl)
theorem dX1_order_73 : decode cX1_order 73 = .ok (.goto 4, 3) := dk_167 0 4 (dk_at dksX1_order_3 4 rfl rfl)
theorem dX1_order_76 : decode cX1_order 76 = .ok (.iconst 0, 1) := dk_3 (dk_at dksX1_order_3 7 rfl rfl)
theorem dX1_order_77 : decode cX1_order 77 = .ok (.invokestatic 156, 3) := dk_184 0 156 (dk_at dksX1_order_3 8 rfl rfl)
theorem dX1_order_80 : decode cX1_order 80 = .ok (.aload_n 0, 1) := dk_42 (dk_at dksX1_order_3 11 rfl rfl)
theorem dX1_order_81 : decode cX1_order 81 = .ok (.aload 6, 2) := dk_25 6 (dk_at dksX1_order_3 12 rfl rfl)
theorem dX1_order_83 : decode cX1_order 83 = .ok (.aload 7, 2) := dk_25 7 (dk_at dksX1_order_3 14 rfl rfl)
theorem dX1_order_85 : decode cX1_order 85 = .ok (.iload_n 3, 1) := dk_29 (dk_at dksX1_order_3 16 rfl rfl)
theorem dX1_order_86 : decode cX1_order 86 = .ok (.iconst 0, 1) := dk_3 (dk_at dksX1_order_3 17 rfl rfl)
theorem dX1_order_87 : decode cX1_order 87 = .ok (.invokevirtual 179, 3) := dk_182 0 179 (dk_at dksX1_order_3 18 rfl rfl)
theorem dX1_order_90 : decode cX1_order 90 = .ok (.astore 8, 2) := dk_58 8 (dk_at dksX1_order_3 21 rfl rfl)
theorem dX1_order_92 : decode cX1_order 92 = .ok (.aload 8, 2) := dk_25 8 (dk_at dksX1_order_4 0 rfl rfl)
theorem dX1_order_94 : decode cX1_order 94 = .ok (.ifnull 7, 3) := dk_198 0 7 (dk_at dksX1_order_4 2 rfl rfl)
theorem dX1_order_97 : decode cX1_order 97 = .ok (.iconst 1, 1) := dk_4 (dk_at dksX1_order_4 5 rfl rfl)
theorem dX1_order_98 : decode cX1_order 98 = .ok (.goto 4, 3) := dk_167 0 4 (dk_at dksX1_order_4 6 rfl rfl)
theorem dX1_order_101 : decode cX1_order 101 = .ok (.iconst 0, 1) := dk_3 (dk_at dksX1_order_4 9 rfl rfl)
theorem dX1_order_102 : decode cX1_order 102 = .ok (.invokestatic 156, 3) := dk_184 0 156 (dk_at dksX1_order_4 10 rfl rfl)
theorem dX1_order_105 : decode cX1_order 105 = .ok (.new 183, 3) := dk_187 0 183 (dk_at dksX1_order_4 13 rfl rfl)
theorem dX1_order_108 : decode cX1_order 108 = .ok (.dup, 1) := dk_89 (dk_at dksX1_order_4 16 rfl rfl)
theorem dX1_order_109 : decode cX1_order 109 = .ok (.aload_n 0, 1) := dk_42 (dk_at dksX1_order_4 17 rfl rfl)
theorem dX1_order_110 : decode cX1_order 110 = .ok (.getfield 57, 3) := dk_180 0 57 (dk_at dksX1_order_4 18 rfl rfl)
theorem dX1_order_113 : decode cX1_order 113 = .ok (.invokevirtual 155, 3) := dk_182 0 155 (dk_at dksX1_order_4 21 rfl rfl)
theorem dX1_order_116 : decode cX1_order 116 = .ok (.iload_n 3, 1) := dk_29 (dk_at dksX1_order_5 0 rfl rfl)
theorem dX1_order_117 : decode cX1_order 117 = .ok (.iload 5, 2) := dk_21 5 (dk_at dksX1_order_5 1 rfl rfl)
theorem dX1_order_119 : decode cX1_order 119 = .ok (.aload_n 0, 1) := dk_42 (dk_at dksX1_order_5 3 rfl rfl)
theorem dX1_order_120 : decode cX1_order 120 = .ok (.getfield 185, 3) := dk_180 0 185 (dk_at dksX1_order_5 4 rfl rfl)
theorem dX1_order_123 : decode cX1_order 123 = .ok (.aload 8, 2) := dk_25 8 (dk_at dksX1_order_5 7 rfl rfl)
theorem dX1_order_125 : decode cX1_order 125 = .ok (.invokespecial 188, 3) := dk_183 0 188 (dk_at dksX1_order_5 9 rfl rfl)
theorem dX1_order_128 : decode cX1_order 128 = .ok (.astore 9, 2) := dk_58 9 (dk_at dksX1_order_5 12 rfl rfl)
theorem dX1_order_130 : decode cX1_order 130 = .ok (.aload_n 0, 1) := dk_42 (dk_at dksX1_order_5 14 rfl rfl)
theorem dX1_order_131 : decode cX1_order 131 = .ok (.getfield 57, 3) := dk_180 0 57 (dk_at dksX1_order_5 15 rfl rfl)
theorem dX1_order_134 : decode cX1_order 134 = .ok (.aload 9, 2) := dk_25 9 (dk_at dksX1_order_5 18 rfl rfl)
theorem dX1_order_136 : decode cX1_order 136 = .ok (.invokevirtual 162, 3) := dk_182 0 162 (dk_at dksX1_order_5 20 rfl rfl)
theorem dX1_order_139 : decode cX1_order 139 = .ok (.pop, 1) := dk_87 (dk_at dksX1_order_5 23 rfl rfl)
theorem dX1_order_140 : decode cX1_order 140 = .ok (.aload 6, 2) := dk_25 6 (dk_at dksX1_order_6 0 rfl rfl)
theorem dX1_order_142 : decode cX1_order 142 = .ok (.dup, 1) := dk_89 (dk_at dksX1_order_6 2 rfl rfl)
theorem dX1_order_143 : decode cX1_order 143 = .ok (.getfield 191, 3) := dk_180 0 191 (dk_at dksX1_order_6 3 rfl rfl)
theorem dX1_order_146 : decode cX1_order 146 = .ok (.aload 9, 2) := dk_25 9 (dk_at dksX1_order_6 6 rfl rfl)
theorem dX1_order_148 : decode cX1_order 148 = .ok (.getfield 195, 3) := dk_180 0 195 (dk_at dksX1_order_6 8 rfl rfl)
theorem dX1_order_151 : decode cX1_order 151 = .ok (.i2l, 1) := dk_133 (dk_at dksX1_order_6 11 rfl rfl)
theorem dX1_order_152 : decode cX1_order 152 = .ok (.ladd, 1) := dk_97 (dk_at dksX1_order_6 12 rfl rfl)
theorem dX1_order_153 : decode cX1_order 153 = .ok (.putfield 191, 3) := dk_181 0 191 (dk_at dksX1_order_6 13 rfl rfl)
theorem dX1_order_156 : decode cX1_order 156 = .ok (.aload_n 0, 1) := dk_42 (dk_at dksX1_order_6 16 rfl rfl)
theorem dX1_order_157 : decode cX1_order 157 = .ok (.getfield 74, 3) := dk_180 0 74 (dk_at dksX1_order_6 17 rfl rfl)
theorem dX1_order_160 : decode cX1_order 160 = .ok (.iconst 0, 1) := dk_3 (dk_at dksX1_order_6 20 rfl rfl)
theorem dX1_order_161 : decode cX1_order 161 = .ok (.dup2, 1) := dk_92 (dk_at dksX1_order_6 21 rfl rfl)
theorem dX1_order_162 : decode cX1_order 162 = .ok (.laload, 1) := dk_47 (dk_at dksX1_order_6 22 rfl rfl)
theorem dX1_order_163 : decode cX1_order 163 = .ok (.aload 9, 2) := dk_25 9 (dk_at dksX1_order_7 0 rfl rfl)
theorem dX1_order_165 : decode cX1_order 165 = .ok (.getfield 195, 3) := dk_180 0 195 (dk_at dksX1_order_7 2 rfl rfl)
theorem dX1_order_168 : decode cX1_order 168 = .ok (.i2l, 1) := dk_133 (dk_at dksX1_order_7 5 rfl rfl)
theorem dX1_order_169 : decode cX1_order 169 = .ok (.ladd, 1) := dk_97 (dk_at dksX1_order_7 6 rfl rfl)
theorem dX1_order_170 : decode cX1_order 170 = .ok (.lastore, 1) := dk_80 (dk_at dksX1_order_7 7 rfl rfl)
theorem dX1_order_171 : decode cX1_order 171 = .ok (.aload 9, 2) := dk_25 9 (dk_at dksX1_order_7 8 rfl rfl)
theorem dX1_order_173 : decode cX1_order 173 = .ok (.invokestatic 198, 3) := dk_184 0 198 (dk_at dksX1_order_7 10 rfl rfl)
theorem dX1_order_176 : decode cX1_order 176 = .ok (.aload_n 0, 1) := dk_42 (dk_at dksX1_order_7 13 rfl rfl)
theorem dX1_order_177 : decode cX1_order 177 = .ok (.getfield 67, 3) := dk_180 0 67 (dk_at dksX1_order_7 14 rfl rfl)
theorem dX1_order_180 : decode cX1_order 180 = .ok (.aload 6, 2) := dk_25 6 (dk_at dksX1_order_7 17 rfl rfl)
theorem dX1_order_182 : decode cX1_order 182 = .ok (.getfield 202, 3) := dk_180 0 202 (dk_at dksX1_order_7 19 rfl rfl)
theorem dX1_order_185 : decode cX1_order 185 = .ok (.dup2, 1) := dk_92 (dk_at dksX1_order_7 22 rfl rfl)
theorem dX1_order_186 : decode cX1_order 186 = .ok (.iaload, 1) := dk_46 (dk_at dksX1_order_7 23 rfl rfl)
theorem dX1_order_187 : decode cX1_order 187 = .ok (.iload_n 3, 1) := dk_29 (dk_at dksX1_order_8 0 rfl rfl)
theorem dX1_order_188 : decode cX1_order 188 = .ok (.aload_n 0, 1) := dk_42 (dk_at dksX1_order_8 1 rfl rfl)
theorem dX1_order_189 : decode cX1_order 189 = .ok (.getfield 63, 3) := dk_180 0 63 (dk_at dksX1_order_8 2 rfl rfl)
theorem dX1_order_192 : decode cX1_order 192 = .ok (.aload 6, 2) := dk_25 6 (dk_at dksX1_order_8 5 rfl rfl)
theorem dX1_order_194 : decode cX1_order 194 = .ok (.getfield 202, 3) := dk_180 0 202 (dk_at dksX1_order_8 7 rfl rfl)
theorem dX1_order_197 : decode cX1_order 197 = .ok (.iaload, 1) := dk_46 (dk_at dksX1_order_8 10 rfl rfl)
theorem dX1_order_198 : decode cX1_order 198 = .ok (.if_icmp .le 7, 3) := dk_164 0 7 (dk_at dksX1_order_8 11 rfl rfl)
theorem dX1_order_201 : decode cX1_order 201 = .ok (.iconst 1, 1) := dk_4 (dk_at dksX1_order_8 14 rfl rfl)
theorem dX1_order_202 : decode cX1_order 202 = .ok (.goto 4, 3) := dk_167 0 4 (dk_at dksX1_order_8 15 rfl rfl)
theorem dX1_order_205 : decode cX1_order 205 = .ok (.iconst 0, 1) := dk_3 (dk_at dksX1_order_8 18 rfl rfl)
theorem dX1_order_206 : decode cX1_order 206 = .ok (.iadd, 1) := dk_96 (dk_at dksX1_order_8 19 rfl rfl)
theorem dX1_order_207 : decode cX1_order 207 = .ok (.iastore, 1) := dk_79 (dk_at dksX1_order_8 20 rfl rfl)
theorem dX1_order_208 : decode cX1_order 208 = .ok (.aload 9, 2) := dk_25 9 (dk_at dksX1_order_8 21 rfl rfl)
theorem dX1_order_210 : decode cX1_order 210 = .ok (.getfield 205, 3) := dk_180 0 205 (dk_at dksX1_order_9 0 rfl rfl)
theorem dX1_order_213 : decode cX1_order 213 = .ok (.ireturn, 1) := dk_172 (dk_at dksX1_order_9 3 rfl rfl)
abbrev cX1_needName : ByteArray := prog_1_method_10_code
def yX1_needName : MethodName := ⟨RX1, "needName", "(I)V"⟩
def dkwX1_needName_0 : List UInt8 := [16, 20, 26, 184, 0, 37, 177]
abbrev dktX1_needName_0 : List UInt8 := dkwX1_needName_0 ++ []
theorem dksX1_needName_0 : cX1_needName.data.toList.drop 0 = dktX1_needName_0 := by decide +kernel
theorem dX1_needName_0 : decode cX1_needName 0 = .ok (.bipush 20, 2) := dk_16 20 (dk_at dksX1_needName_0 0 rfl rfl)
theorem dX1_needName_2 : decode cX1_needName 2 = .ok (.iload_n 0, 1) := dk_26 (dk_at dksX1_needName_0 2 rfl rfl)
theorem dX1_needName_3 : decode cX1_needName 3 = .ok (.invokestatic 37, 3) := dk_184 0 37 (dk_at dksX1_needName_0 3 rfl rfl)
theorem dX1_needName_6 : decode cX1_needName 6 = .ok (.return_, 1) := dk_177 (dk_at dksX1_needName_0 6 rfl rfl)
abbrev cX1_needAmount : ByteArray := prog_1_method_11_code
def yX1_needAmount : MethodName := ⟨RX1, "needAmount", "(I)V"⟩
def dkwX1_needAmount_0 : List UInt8 := [4, 18, 78, 26, 184, 0, 21, 184, 0, 85, 177]
abbrev dktX1_needAmount_0 : List UInt8 := dkwX1_needAmount_0 ++ []
theorem dksX1_needAmount_0 : cX1_needAmount.data.toList.drop 0 = dktX1_needAmount_0 := by decide +kernel
theorem dX1_needAmount_0 : decode cX1_needAmount 0 = .ok (.iconst 1, 1) := dk_4 (dk_at dksX1_needAmount_0 0 rfl rfl)
theorem dX1_needAmount_1 : decode cX1_needAmount 1 = .ok (.ldc 78, 2) := dk_18 78 (dk_at dksX1_needAmount_0 1 rfl rfl)
theorem dX1_needAmount_3 : decode cX1_needAmount 3 = .ok (.iload_n 0, 1) := dk_26 (dk_at dksX1_needAmount_0 3 rfl rfl)
theorem dX1_needAmount_4 : decode cX1_needAmount 4 = .ok (.invokestatic 21, 3) := dk_184 0 21 (dk_at dksX1_needAmount_0 4 rfl rfl)
theorem dX1_needAmount_7 : decode cX1_needAmount 7 = .ok (.invokestatic 85, 3) := dk_184 0 85 (dk_at dksX1_needAmount_0 7 rfl rfl)
theorem dX1_needAmount_10 : decode cX1_needAmount 10 = .ok (.return_, 1) := dk_177 (dk_at dksX1_needAmount_0 10 rfl rfl)
abbrev cX1_fetch : ByteArray := prog_1_method_27_code
def yX1_fetch : MethodName := ⟨RX1, "fetch", "(II)I"⟩
def dkwX1_fetch_6 : List UInt8 := [172]
abbrev dktX1_fetch_6 : List UInt8 := dkwX1_fetch_6 ++ []
def dkwX1_fetch_5 : List UInt8 := [180, 0, 241, 4, 96, 181, 0, 241, 45, 180, 0, 241, 6, 160, 0, 7, 45, 184, 0, 244, 45, 180, 0, 231]
abbrev dktX1_fetch_5 : List UInt8 := dkwX1_fetch_5 ++ dktX1_fetch_6
def dkwX1_fetch_4 : List UInt8 := [180, 0, 74, 4, 92, 47, 45, 180, 0, 235, 133, 97, 80, 45, 5, 181, 0, 231, 5, 172, 45, 89]
abbrev dktX1_fetch_4 : List UInt8 := dkwX1_fetch_4 ++ dktX1_fetch_5
def dkwX1_fetch_3 : List UInt8 := [180, 0, 238, 160, 0, 39, 25, 4, 89, 180, 0, 191, 45, 180, 0, 235, 133, 101, 181, 0, 191, 42]
abbrev dktX1_fetch_3 : List UInt8 := dkwX1_fetch_3 ++ dktX1_fetch_4
def dkwX1_fetch_2 : List UInt8 := [180, 0, 191, 45, 180, 0, 235, 133, 148, 155, 0, 7, 4, 167, 0, 4, 3, 184, 0, 156, 28, 45]
abbrev dktX1_fetch_2 : List UInt8 := dkwX1_fetch_2 ++ dktX1_fetch_3
def dkwX1_fetch_1 : List UInt8 := [182, 0, 232, 58, 4, 45, 180, 0, 231, 4, 160, 0, 29, 25, 4, 180, 0, 117, 154, 0, 21, 25, 4]
abbrev dktX1_fetch_1 : List UInt8 := dkwX1_fetch_1 ++ dktX1_fetch_2
def dkwX1_fetch_0 : List UInt8 := [42, 180, 0, 57, 27, 184, 0, 79, 192, 0, 183, 78, 3, 17, 39, 15, 28, 184, 0, 21, 184, 0, 85, 45]
abbrev dktX1_fetch_0 : List UInt8 := dkwX1_fetch_0 ++ dktX1_fetch_1
theorem dksX1_fetch_0 : cX1_fetch.data.toList.drop 0 = dktX1_fetch_0 := by decide +kernel
theorem dksX1_fetch_1 : cX1_fetch.data.toList.drop 24 = dktX1_fetch_1 := dk_seg dksX1_fetch_0 24 rfl rfl
theorem dksX1_fetch_2 : cX1_fetch.data.toList.drop 47 = dktX1_fetch_2 := dk_seg dksX1_fetch_1 23 rfl rfl
theorem dksX1_fetch_3 : cX1_fetch.data.toList.drop 69 = dktX1_fetch_3 := dk_seg dksX1_fetch_2 22 rfl rfl
theorem dksX1_fetch_4 : cX1_fetch.data.toList.drop 91 = dktX1_fetch_4 := dk_seg dksX1_fetch_3 22 rfl rfl
theorem dksX1_fetch_5 : cX1_fetch.data.toList.drop 113 = dktX1_fetch_5 := dk_seg dksX1_fetch_4 22 rfl rfl
theorem dksX1_fetch_6 : cX1_fetch.data.toList.drop 137 = dktX1_fetch_6 := dk_seg dksX1_fetch_5 24 rfl rfl
theorem dX1_fetch_0 : decode cX1_fetch 0 = .ok (.aload_n 0, 1) := dk_42 (dk_at dksX1_fetch_0 0 rfl rfl)
theorem dX1_fetch_1 : decode cX1_fetch 1 = .ok (.getfield 57, 3) := dk_180 0 57 (dk_at dksX1_fetch_0 1 rfl rfl)
theorem dX1_fetch_4 : decode cX1_fetch 4 = .ok (.iload_n 1, 1) := dk_27 (dk_at dksX1_fetch_0 4 rfl rfl)
theorem dX1_fetch_5 : decode cX1_fetch 5 = .ok (.invokestatic 79, 3) := dk_184 0 79 (dk_at dksX1_fetch_0 5 rfl rfl)
theorem dX1_fetch_8 : decode cX1_fetch 8 = .ok (.checkcast 183, 3) := dk_192 0 183 (dk_at dksX1_fetch_0 8 rfl rfl)
theorem dX1_fetch_11 : decode cX1_fetch 11 = .ok (.astore_n 3, 1) := dk_78 (dk_at dksX1_fetch_0 11 rfl rfl)
theorem dX1_fetch_12 : decode cX1_fetch 12 = .ok (.iconst 0, 1) := dk_3 (dk_at dksX1_fetch_0 12 rfl rfl)
theorem dX1_fetch_13 : decode cX1_fetch 13 = .ok (.sipush 9999, 3) := dk_17 39 15 (dk_at dksX1_fetch_0 13 rfl rfl)
theorem dX1_fetch_16 : decode cX1_fetch 16 = .ok (.iload_n 2, 1) := dk_28 (dk_at dksX1_fetch_0 16 rfl rfl)
theorem dX1_fetch_17 : decode cX1_fetch 17 = .ok (.invokestatic 21, 3) := dk_184 0 21 (dk_at dksX1_fetch_0 17 rfl rfl)
theorem dX1_fetch_20 : decode cX1_fetch 20 = .ok (.invokestatic 85, 3) := dk_184 0 85 (dk_at dksX1_fetch_0 20 rfl rfl)
theorem dX1_fetch_23 : decode cX1_fetch 23 = .ok (.aload_n 3, 1) := dk_45 (dk_at dksX1_fetch_0 23 rfl rfl)
theorem dX1_fetch_24 : decode cX1_fetch 24 = .ok (.invokevirtual 232, 3) := dk_182 0 232 (dk_at dksX1_fetch_1 0 rfl rfl)
theorem dX1_fetch_27 : decode cX1_fetch 27 = .ok (.astore 4, 2) := dk_58 4 (dk_at dksX1_fetch_1 3 rfl rfl)
theorem dX1_fetch_29 : decode cX1_fetch 29 = .ok (.aload_n 3, 1) := dk_45 (dk_at dksX1_fetch_1 5 rfl rfl)
theorem dX1_fetch_30 : decode cX1_fetch 30 = .ok (.getfield 231, 3) := dk_180 0 231 (dk_at dksX1_fetch_1 6 rfl rfl)
theorem dX1_fetch_33 : decode cX1_fetch 33 = .ok (.iconst 1, 1) := dk_4 (dk_at dksX1_fetch_1 9 rfl rfl)
theorem dX1_fetch_34 : decode cX1_fetch 34 = .ok (.if_icmp .ne 29, 3) := dk_160 0 29 (dk_at dksX1_fetch_1 10 rfl rfl)
theorem dX1_fetch_37 : decode cX1_fetch 37 = .ok (.aload 4, 2) := dk_25 4 (dk_at dksX1_fetch_1 13 rfl rfl)
theorem dX1_fetch_39 : decode cX1_fetch 39 = .ok (.getfield 117, 3) := dk_180 0 117 (dk_at dksX1_fetch_1 15 rfl rfl)
theorem dX1_fetch_42 : decode cX1_fetch 42 = .ok (.ifCond .ne 21, 3) := dk_154 0 21 (dk_at dksX1_fetch_1 18 rfl rfl)
theorem dX1_fetch_45 : decode cX1_fetch 45 = .ok (.aload 4, 2) := dk_25 4 (dk_at dksX1_fetch_1 21 rfl rfl)
theorem dX1_fetch_47 : decode cX1_fetch 47 = .ok (.getfield 191, 3) := dk_180 0 191 (dk_at dksX1_fetch_2 0 rfl rfl)
theorem dX1_fetch_50 : decode cX1_fetch 50 = .ok (.aload_n 3, 1) := dk_45 (dk_at dksX1_fetch_2 3 rfl rfl)
theorem dX1_fetch_51 : decode cX1_fetch 51 = .ok (.getfield 235, 3) := dk_180 0 235 (dk_at dksX1_fetch_2 4 rfl rfl)
theorem dX1_fetch_54 : decode cX1_fetch 54 = .ok (.i2l, 1) := dk_133 (dk_at dksX1_fetch_2 7 rfl rfl)
theorem dX1_fetch_55 : decode cX1_fetch 55 = .ok (.lcmp, 1) := dk_148 (dk_at dksX1_fetch_2 8 rfl rfl)
theorem dX1_fetch_56 : decode cX1_fetch 56 = .ok (.ifCond .lt 7, 3) := dk_155 0 7 (dk_at dksX1_fetch_2 9 rfl rfl)
theorem dX1_fetch_59 : decode cX1_fetch 59 = .ok (.iconst 1, 1) := dk_4 (dk_at dksX1_fetch_2 12 rfl rfl)
theorem dX1_fetch_60 : decode cX1_fetch 60 = .ok (.goto 4, 3) := dk_167 0 4 (dk_at dksX1_fetch_2 13 rfl rfl)
theorem dX1_fetch_63 : decode cX1_fetch 63 = .ok (.iconst 0, 1) := dk_3 (dk_at dksX1_fetch_2 16 rfl rfl)
theorem dX1_fetch_64 : decode cX1_fetch 64 = .ok (.invokestatic 156, 3) := dk_184 0 156 (dk_at dksX1_fetch_2 17 rfl rfl)
theorem dX1_fetch_67 : decode cX1_fetch 67 = .ok (.iload_n 2, 1) := dk_28 (dk_at dksX1_fetch_2 20 rfl rfl)
theorem dX1_fetch_68 : decode cX1_fetch 68 = .ok (.aload_n 3, 1) := dk_45 (dk_at dksX1_fetch_2 21 rfl rfl)
theorem dX1_fetch_69 : decode cX1_fetch 69 = .ok (.getfield 238, 3) := dk_180 0 238 (dk_at dksX1_fetch_3 0 rfl rfl)
theorem dX1_fetch_72 : decode cX1_fetch 72 = .ok (.if_icmp .ne 39, 3) := dk_160 0 39 (dk_at dksX1_fetch_3 3 rfl rfl)
theorem dX1_fetch_75 : decode cX1_fetch 75 = .ok (.aload 4, 2) := dk_25 4 (dk_at dksX1_fetch_3 6 rfl rfl)
theorem dX1_fetch_77 : decode cX1_fetch 77 = .ok (.dup, 1) := dk_89 (dk_at dksX1_fetch_3 8 rfl rfl)
theorem dX1_fetch_78 : decode cX1_fetch 78 = .ok (.getfield 191, 3) := dk_180 0 191 (dk_at dksX1_fetch_3 9 rfl rfl)
theorem dX1_fetch_81 : decode cX1_fetch 81 = .ok (.aload_n 3, 1) := dk_45 (dk_at dksX1_fetch_3 12 rfl rfl)
theorem dX1_fetch_82 : decode cX1_fetch 82 = .ok (.getfield 235, 3) := dk_180 0 235 (dk_at dksX1_fetch_3 13 rfl rfl)
theorem dX1_fetch_85 : decode cX1_fetch 85 = .ok (.i2l, 1) := dk_133 (dk_at dksX1_fetch_3 16 rfl rfl)
theorem dX1_fetch_86 : decode cX1_fetch 86 = .ok (.lsub, 1) := dk_101 (dk_at dksX1_fetch_3 17 rfl rfl)
theorem dX1_fetch_87 : decode cX1_fetch 87 = .ok (.putfield 191, 3) := dk_181 0 191 (dk_at dksX1_fetch_3 18 rfl rfl)
theorem dX1_fetch_90 : decode cX1_fetch 90 = .ok (.aload_n 0, 1) := dk_42 (dk_at dksX1_fetch_3 21 rfl rfl)
theorem dX1_fetch_91 : decode cX1_fetch 91 = .ok (.getfield 74, 3) := dk_180 0 74 (dk_at dksX1_fetch_4 0 rfl rfl)
theorem dX1_fetch_94 : decode cX1_fetch 94 = .ok (.iconst 1, 1) := dk_4 (dk_at dksX1_fetch_4 3 rfl rfl)
theorem dX1_fetch_95 : decode cX1_fetch 95 = .ok (.dup2, 1) := dk_92 (dk_at dksX1_fetch_4 4 rfl rfl)
theorem dX1_fetch_96 : decode cX1_fetch 96 = .ok (.laload, 1) := dk_47 (dk_at dksX1_fetch_4 5 rfl rfl)
theorem dX1_fetch_97 : decode cX1_fetch 97 = .ok (.aload_n 3, 1) := dk_45 (dk_at dksX1_fetch_4 6 rfl rfl)
theorem dX1_fetch_98 : decode cX1_fetch 98 = .ok (.getfield 235, 3) := dk_180 0 235 (dk_at dksX1_fetch_4 7 rfl rfl)
theorem dX1_fetch_101 : decode cX1_fetch 101 = .ok (.i2l, 1) := dk_133 (dk_at dksX1_fetch_4 10 rfl rfl)
theorem dX1_fetch_102 : decode cX1_fetch 102 = .ok (.ladd, 1) := dk_97 (dk_at dksX1_fetch_4 11 rfl rfl)
theorem dX1_fetch_103 : decode cX1_fetch 103 = .ok (.lastore, 1) := dk_80 (dk_at dksX1_fetch_4 12 rfl rfl)
theorem dX1_fetch_104 : decode cX1_fetch 104 = .ok (.aload_n 3, 1) := dk_45 (dk_at dksX1_fetch_4 13 rfl rfl)
theorem dX1_fetch_105 : decode cX1_fetch 105 = .ok (.iconst 2, 1) := dk_5 (dk_at dksX1_fetch_4 14 rfl rfl)
theorem dX1_fetch_106 : decode cX1_fetch 106 = .ok (.putfield 231, 3) := dk_181 0 231 (dk_at dksX1_fetch_4 15 rfl rfl)
theorem dX1_fetch_109 : decode cX1_fetch 109 = .ok (.iconst 2, 1) := dk_5 (dk_at dksX1_fetch_4 18 rfl rfl)
theorem dX1_fetch_110 : decode cX1_fetch 110 = .ok (.ireturn, 1) := dk_172 (dk_at dksX1_fetch_4 19 rfl rfl)
theorem dX1_fetch_111 : decode cX1_fetch 111 = .ok (.aload_n 3, 1) := dk_45 (dk_at dksX1_fetch_4 20 rfl rfl)
theorem dX1_fetch_112 : decode cX1_fetch 112 = .ok (.dup, 1) := dk_89 (dk_at dksX1_fetch_4 21 rfl rfl)
theorem dX1_fetch_113 : decode cX1_fetch 113 = .ok (.getfield 241, 3) := dk_180 0 241 (dk_at dksX1_fetch_5 0 rfl rfl)
theorem dX1_fetch_116 : decode cX1_fetch 116 = .ok (.iconst 1, 1) := dk_4 (dk_at dksX1_fetch_5 3 rfl rfl)
theorem dX1_fetch_117 : decode cX1_fetch 117 = .ok (.iadd, 1) := dk_96 (dk_at dksX1_fetch_5 4 rfl rfl)
theorem dX1_fetch_118 : decode cX1_fetch 118 = .ok (.putfield 241, 3) := dk_181 0 241 (dk_at dksX1_fetch_5 5 rfl rfl)
theorem dX1_fetch_121 : decode cX1_fetch 121 = .ok (.aload_n 3, 1) := dk_45 (dk_at dksX1_fetch_5 8 rfl rfl)
theorem dX1_fetch_122 : decode cX1_fetch 122 = .ok (.getfield 241, 3) := dk_180 0 241 (dk_at dksX1_fetch_5 9 rfl rfl)
theorem dX1_fetch_125 : decode cX1_fetch 125 = .ok (.iconst 3, 1) := dk_6 (dk_at dksX1_fetch_5 12 rfl rfl)
theorem dX1_fetch_126 : decode cX1_fetch 126 = .ok (.if_icmp .ne 7, 3) := dk_160 0 7 (dk_at dksX1_fetch_5 13 rfl rfl)
theorem dX1_fetch_129 : decode cX1_fetch 129 = .ok (.aload_n 3, 1) := dk_45 (dk_at dksX1_fetch_5 16 rfl rfl)
theorem dX1_fetch_130 : decode cX1_fetch 130 = .ok (.invokestatic 244, 3) := dk_184 0 244 (dk_at dksX1_fetch_5 17 rfl rfl)
theorem dX1_fetch_133 : decode cX1_fetch 133 = .ok (.aload_n 3, 1) := dk_45 (dk_at dksX1_fetch_5 20 rfl rfl)
theorem dX1_fetch_134 : decode cX1_fetch 134 = .ok (.getfield 231, 3) := dk_180 0 231 (dk_at dksX1_fetch_5 21 rfl rfl)
theorem dX1_fetch_137 : decode cX1_fetch 137 = .ok (.ireturn, 1) := dk_172 (dk_at dksX1_fetch_6 0 rfl rfl)
abbrev cX1_pass : ByteArray := prog_1_method_32_code
def yX1_pass : MethodName := ⟨RX1, "pass", "(I)I"⟩
def dkwX1_pass_1 : List UInt8 := [132, 2, 1, 167, 255, 244, 42, 180, 0, 185, 172]
abbrev dktX1_pass_1 : List UInt8 := dkwX1_pass_1 ++ []
def dkwX1_pass_0 : List UInt8 := [4, 17, 1, 244, 27, 184, 0, 21, 184, 0, 85, 3, 61, 28, 27, 162, 0, 13, 42, 182, 1, 28]
abbrev dktX1_pass_0 : List UInt8 := dkwX1_pass_0 ++ dktX1_pass_1
theorem dksX1_pass_0 : cX1_pass.data.toList.drop 0 = dktX1_pass_0 := by decide +kernel
theorem dksX1_pass_1 : cX1_pass.data.toList.drop 22 = dktX1_pass_1 := dk_seg dksX1_pass_0 22 rfl rfl
theorem dX1_pass_0 : decode cX1_pass 0 = .ok (.iconst 1, 1) := dk_4 (dk_at dksX1_pass_0 0 rfl rfl)
theorem dX1_pass_1 : decode cX1_pass 1 = .ok (.sipush 500, 3) := dk_17 1 244 (dk_at dksX1_pass_0 1 rfl rfl)
theorem dX1_pass_4 : decode cX1_pass 4 = .ok (.iload_n 1, 1) := dk_27 (dk_at dksX1_pass_0 4 rfl rfl)
theorem dX1_pass_5 : decode cX1_pass 5 = .ok (.invokestatic 21, 3) := dk_184 0 21 (dk_at dksX1_pass_0 5 rfl rfl)
theorem dX1_pass_8 : decode cX1_pass 8 = .ok (.invokestatic 85, 3) := dk_184 0 85 (dk_at dksX1_pass_0 8 rfl rfl)
theorem dX1_pass_11 : decode cX1_pass 11 = .ok (.iconst 0, 1) := dk_3 (dk_at dksX1_pass_0 11 rfl rfl)
theorem dX1_pass_12 : decode cX1_pass 12 = .ok (.istore_n 2, 1) := dk_61 (dk_at dksX1_pass_0 12 rfl rfl)
theorem dX1_pass_13 : decode cX1_pass 13 = .ok (.iload_n 2, 1) := dk_28 (dk_at dksX1_pass_0 13 rfl rfl)
theorem dX1_pass_14 : decode cX1_pass 14 = .ok (.iload_n 1, 1) := dk_27 (dk_at dksX1_pass_0 14 rfl rfl)
theorem dX1_pass_15 : decode cX1_pass 15 = .ok (.if_icmp .ge 13, 3) := dk_162 0 13 (dk_at dksX1_pass_0 15 rfl rfl)
theorem dX1_pass_18 : decode cX1_pass 18 = .ok (.aload_n 0, 1) := dk_42 (dk_at dksX1_pass_0 18 rfl rfl)
theorem dX1_pass_19 : decode cX1_pass 19 = .ok (.invokevirtual 284, 3) := dk_182 1 28 (dk_at dksX1_pass_0 19 rfl rfl)
theorem dX1_pass_22 : decode cX1_pass 22 = .ok (.iinc 2 1, 3) := dk_132 2 1 (dk_at dksX1_pass_1 0 rfl rfl)
theorem dX1_pass_25 : decode cX1_pass 25 = .ok (.goto (-12), 3) := dk_167 255 244 (dk_at dksX1_pass_1 3 rfl rfl)
theorem dX1_pass_28 : decode cX1_pass 28 = .ok (.aload_n 0, 1) := dk_42 (dk_at dksX1_pass_1 6 rfl rfl)
theorem dX1_pass_29 : decode cX1_pass 29 = .ok (.getfield 185, 3) := dk_180 0 185 (dk_at dksX1_pass_1 7 rfl rfl)
theorem dX1_pass_32 : decode cX1_pass 32 = .ok (.ireturn, 1) := dk_172 (dk_at dksX1_pass_1 10 rfl rfl)
abbrev cX1_goOn : ByteArray := prog_1_method_31_code
def yX1_goOn : MethodName := ⟨RX1, "goOn", "()V"⟩
def dkwX1_goOn_10 : List UInt8 := [182, 1, 24, 167, 255, 232, 177]
abbrev dktX1_goOn_10 : List UInt8 := dkwX1_goOn_10 ++ []
def dkwX1_goOn_9 : List UInt8 := [76, 43, 185, 0, 130, 1, 0, 153, 0, 21, 43, 185, 0, 136, 1, 0, 192, 0, 252, 77, 42, 44]
abbrev dktX1_goOn_9 : List UInt8 := dkwX1_goOn_9 ++ dktX1_goOn_10
def dkwX1_goOn_8 : List UInt8 := [185, 0, 136, 1, 0, 192, 0, 183, 77, 42, 44, 182, 1, 21, 167, 255, 232, 42, 180, 0, 60, 182, 0, 126]
abbrev dktX1_goOn_8 : List UInt8 := dkwX1_goOn_8 ++ dktX1_goOn_9
def dkwX1_goOn_7 : List UInt8 := [167, 255, 211, 42, 180, 0, 57, 182, 0, 126, 76, 43, 185, 0, 130, 1, 0, 153, 0, 21, 43]
abbrev dktX1_goOn_7 : List UInt8 := dkwX1_goOn_7 ++ dktX1_goOn_8
def dkwX1_goOn_6 : List UInt8 := [153, 0, 22, 42, 180, 0, 185, 44, 180, 1, 18, 17, 0, 240, 96, 161, 0, 7, 44, 184, 0, 244]
abbrev dktX1_goOn_6 : List UInt8 := dkwX1_goOn_6 ++ dktX1_goOn_7
def dkwX1_goOn_5 : List UInt8 := [185, 0, 130, 1, 0, 153, 0, 42, 43, 185, 0, 136, 1, 0, 192, 0, 183, 77, 44, 182, 1, 15]
abbrev dktX1_goOn_5 : List UInt8 := dkwX1_goOn_5 ++ dktX1_goOn_6
def dkwX1_goOn_4 : List UInt8 := [192, 0, 183, 77, 42, 44, 182, 1, 12, 167, 255, 232, 42, 180, 0, 57, 182, 0, 126, 76, 43]
abbrev dktX1_goOn_4 : List UInt8 := dkwX1_goOn_4 ++ dktX1_goOn_5
def dkwX1_goOn_3 : List UInt8 := [42, 180, 0, 57, 182, 0, 126, 76, 43, 185, 0, 130, 1, 0, 153, 0, 21, 43, 185, 0, 136, 1, 0]
abbrev dktX1_goOn_3 : List UInt8 := dkwX1_goOn_3 ++ dktX1_goOn_4
def dkwX1_goOn_2 : List UInt8 := [180, 1, 9, 42, 180, 0, 185, 160, 0, 7, 3, 167, 0, 7, 44, 180, 0, 117, 181, 0, 117, 167, 255, 206]
abbrev dktX1_goOn_2 : List UInt8 := dkwX1_goOn_2 ++ dktX1_goOn_3
def dkwX1_goOn_1 : List UInt8 := [153, 0, 47, 43, 185, 0, 136, 1, 0, 192, 0, 83, 77, 44, 44, 180, 0, 117, 4, 160, 0, 18, 44]
abbrev dktX1_goOn_1 : List UInt8 := dkwX1_goOn_1 ++ dktX1_goOn_2
def dkwX1_goOn_0 : List UInt8 := [42, 89, 180, 0, 185, 4, 96, 181, 0, 185, 42, 180, 0, 53, 182, 0, 126, 76, 43, 185, 0, 130, 1, 0]
abbrev dktX1_goOn_0 : List UInt8 := dkwX1_goOn_0 ++ dktX1_goOn_1
theorem dksX1_goOn_0 : cX1_goOn.data.toList.drop 0 = dktX1_goOn_0 := by decide +kernel
theorem dksX1_goOn_1 : cX1_goOn.data.toList.drop 24 = dktX1_goOn_1 := dk_seg dksX1_goOn_0 24 rfl rfl
theorem dksX1_goOn_2 : cX1_goOn.data.toList.drop 47 = dktX1_goOn_2 := dk_seg dksX1_goOn_1 23 rfl rfl
theorem dksX1_goOn_3 : cX1_goOn.data.toList.drop 71 = dktX1_goOn_3 := dk_seg dksX1_goOn_2 24 rfl rfl
theorem dksX1_goOn_4 : cX1_goOn.data.toList.drop 94 = dktX1_goOn_4 := dk_seg dksX1_goOn_3 23 rfl rfl
theorem dksX1_goOn_5 : cX1_goOn.data.toList.drop 115 = dktX1_goOn_5 := dk_seg dksX1_goOn_4 21 rfl rfl
theorem dksX1_goOn_6 : cX1_goOn.data.toList.drop 137 = dktX1_goOn_6 := dk_seg dksX1_goOn_5 22 rfl rfl
theorem dksX1_goOn_7 : cX1_goOn.data.toList.drop 159 = dktX1_goOn_7 := dk_seg dksX1_goOn_6 22 rfl rfl
theorem dksX1_goOn_8 : cX1_goOn.data.toList.drop 180 = dktX1_goOn_8 := dk_seg dksX1_goOn_7 21 rfl rfl
theorem dksX1_goOn_9 : cX1_goOn.data.toList.drop 204 = dktX1_goOn_9 := dk_seg dksX1_goOn_8 24 rfl rfl
theorem dksX1_goOn_10 : cX1_goOn.data.toList.drop 226 = dktX1_goOn_10 := dk_seg dksX1_goOn_9 22 rfl rfl
theorem dX1_goOn_0 : decode cX1_goOn 0 = .ok (.aload_n 0, 1) := dk_42 (dk_at dksX1_goOn_0 0 rfl rfl)
theorem dX1_goOn_1 : decode cX1_goOn 1 = .ok (.dup, 1) := dk_89 (dk_at dksX1_goOn_0 1 rfl rfl)
theorem dX1_goOn_2 : decode cX1_goOn 2 = .ok (.getfield 185, 3) := dk_180 0 185 (dk_at dksX1_goOn_0 2 rfl rfl)
theorem dX1_goOn_5 : decode cX1_goOn 5 = .ok (.iconst 1, 1) := dk_4 (dk_at dksX1_goOn_0 5 rfl rfl)
theorem dX1_goOn_6 : decode cX1_goOn 6 = .ok (.iadd, 1) := dk_96 (dk_at dksX1_goOn_0 6 rfl rfl)
theorem dX1_goOn_7 : decode cX1_goOn 7 = .ok (.putfield 185, 3) := dk_181 0 185 (dk_at dksX1_goOn_0 7 rfl rfl)
theorem dX1_goOn_10 : decode cX1_goOn 10 = .ok (.aload_n 0, 1) := dk_42 (dk_at dksX1_goOn_0 10 rfl rfl)
theorem dX1_goOn_11 : decode cX1_goOn 11 = .ok (.getfield 53, 3) := dk_180 0 53 (dk_at dksX1_goOn_0 11 rfl rfl)
theorem dX1_goOn_14 : decode cX1_goOn 14 = .ok (.invokevirtual 126, 3) := dk_182 0 126 (dk_at dksX1_goOn_0 14 rfl rfl)
theorem dX1_goOn_17 : decode cX1_goOn 17 = .ok (.astore_n 1, 1) := dk_76 (dk_at dksX1_goOn_0 17 rfl rfl)
theorem dX1_goOn_18 : decode cX1_goOn 18 = .ok (.aload_n 1, 1) := dk_43 (dk_at dksX1_goOn_0 18 rfl rfl)
theorem dX1_goOn_19 : decode cX1_goOn 19 = .ok (.invokeinterface 130 1, 5) := by decide +kernel
theorem dX1_goOn_24 : decode cX1_goOn 24 = .ok (.ifCond .eq 47, 3) := dk_153 0 47 (dk_at dksX1_goOn_1 0 rfl rfl)
theorem dX1_goOn_27 : decode cX1_goOn 27 = .ok (.aload_n 1, 1) := dk_43 (dk_at dksX1_goOn_1 3 rfl rfl)
theorem dX1_goOn_28 : decode cX1_goOn 28 = .ok (.invokeinterface 136 1, 5) := by decide +kernel
theorem dX1_goOn_33 : decode cX1_goOn 33 = .ok (.checkcast 83, 3) := dk_192 0 83 (dk_at dksX1_goOn_1 9 rfl rfl)
theorem dX1_goOn_36 : decode cX1_goOn 36 = .ok (.astore_n 2, 1) := dk_77 (dk_at dksX1_goOn_1 12 rfl rfl)
theorem dX1_goOn_37 : decode cX1_goOn 37 = .ok (.aload_n 2, 1) := dk_44 (dk_at dksX1_goOn_1 13 rfl rfl)
theorem dX1_goOn_38 : decode cX1_goOn 38 = .ok (.aload_n 2, 1) := dk_44 (dk_at dksX1_goOn_1 14 rfl rfl)
theorem dX1_goOn_39 : decode cX1_goOn 39 = .ok (.getfield 117, 3) := dk_180 0 117 (dk_at dksX1_goOn_1 15 rfl rfl)
theorem dX1_goOn_42 : decode cX1_goOn 42 = .ok (.iconst 1, 1) := dk_4 (dk_at dksX1_goOn_1 18 rfl rfl)
theorem dX1_goOn_43 : decode cX1_goOn 43 = .ok (.if_icmp .ne 18, 3) := dk_160 0 18 (dk_at dksX1_goOn_1 19 rfl rfl)
theorem dX1_goOn_46 : decode cX1_goOn 46 = .ok (.aload_n 2, 1) := dk_44 (dk_at dksX1_goOn_1 22 rfl rfl)
theorem dX1_goOn_47 : decode cX1_goOn 47 = .ok (.getfield 265, 3) := dk_180 1 9 (dk_at dksX1_goOn_2 0 rfl rfl)
theorem dX1_goOn_50 : decode cX1_goOn 50 = .ok (.aload_n 0, 1) := dk_42 (dk_at dksX1_goOn_2 3 rfl rfl)
theorem dX1_goOn_51 : decode cX1_goOn 51 = .ok (.getfield 185, 3) := dk_180 0 185 (dk_at dksX1_goOn_2 4 rfl rfl)
theorem dX1_goOn_54 : decode cX1_goOn 54 = .ok (.if_icmp .ne 7, 3) := dk_160 0 7 (dk_at dksX1_goOn_2 7 rfl rfl)
theorem dX1_goOn_57 : decode cX1_goOn 57 = .ok (.iconst 0, 1) := dk_3 (dk_at dksX1_goOn_2 10 rfl rfl)
theorem dX1_goOn_58 : decode cX1_goOn 58 = .ok (.goto 7, 3) := dk_167 0 7 (dk_at dksX1_goOn_2 11 rfl rfl)
theorem dX1_goOn_61 : decode cX1_goOn 61 = .ok (.aload_n 2, 1) := dk_44 (dk_at dksX1_goOn_2 14 rfl rfl)
theorem dX1_goOn_62 : decode cX1_goOn 62 = .ok (.getfield 117, 3) := dk_180 0 117 (dk_at dksX1_goOn_2 15 rfl rfl)
theorem dX1_goOn_65 : decode cX1_goOn 65 = .ok (.putfield 117, 3) := dk_181 0 117 (dk_at dksX1_goOn_2 18 rfl rfl)
theorem dX1_goOn_68 : decode cX1_goOn 68 = .ok (.goto (-50), 3) := dk_167 255 206 (dk_at dksX1_goOn_2 21 rfl rfl)
theorem dX1_goOn_71 : decode cX1_goOn 71 = .ok (.aload_n 0, 1) := dk_42 (dk_at dksX1_goOn_3 0 rfl rfl)
theorem dX1_goOn_72 : decode cX1_goOn 72 = .ok (.getfield 57, 3) := dk_180 0 57 (dk_at dksX1_goOn_3 1 rfl rfl)
theorem dX1_goOn_75 : decode cX1_goOn 75 = .ok (.invokevirtual 126, 3) := dk_182 0 126 (dk_at dksX1_goOn_3 4 rfl rfl)
theorem dX1_goOn_78 : decode cX1_goOn 78 = .ok (.astore_n 1, 1) := dk_76 (dk_at dksX1_goOn_3 7 rfl rfl)
theorem dX1_goOn_79 : decode cX1_goOn 79 = .ok (.aload_n 1, 1) := dk_43 (dk_at dksX1_goOn_3 8 rfl rfl)
theorem dX1_goOn_80 : decode cX1_goOn 80 = .ok (.invokeinterface 130 1, 5) := by decide +kernel
theorem dX1_goOn_85 : decode cX1_goOn 85 = .ok (.ifCond .eq 21, 3) := dk_153 0 21 (dk_at dksX1_goOn_3 14 rfl rfl)
theorem dX1_goOn_88 : decode cX1_goOn 88 = .ok (.aload_n 1, 1) := dk_43 (dk_at dksX1_goOn_3 17 rfl rfl)
theorem dX1_goOn_89 : decode cX1_goOn 89 = .ok (.invokeinterface 136 1, 5) := by decide +kernel
theorem dX1_goOn_94 : decode cX1_goOn 94 = .ok (.checkcast 183, 3) := dk_192 0 183 (dk_at dksX1_goOn_4 0 rfl rfl)
theorem dX1_goOn_97 : decode cX1_goOn 97 = .ok (.astore_n 2, 1) := dk_77 (dk_at dksX1_goOn_4 3 rfl rfl)
theorem dX1_goOn_98 : decode cX1_goOn 98 = .ok (.aload_n 0, 1) := dk_42 (dk_at dksX1_goOn_4 4 rfl rfl)
theorem dX1_goOn_99 : decode cX1_goOn 99 = .ok (.aload_n 2, 1) := dk_44 (dk_at dksX1_goOn_4 5 rfl rfl)
theorem dX1_goOn_100 : decode cX1_goOn 100 = .ok (.invokevirtual 268, 3) := dk_182 1 12 (dk_at dksX1_goOn_4 6 rfl rfl)
theorem dX1_goOn_103 : decode cX1_goOn 103 = .ok (.goto (-24), 3) := dk_167 255 232 (dk_at dksX1_goOn_4 9 rfl rfl)
theorem dX1_goOn_106 : decode cX1_goOn 106 = .ok (.aload_n 0, 1) := dk_42 (dk_at dksX1_goOn_4 12 rfl rfl)
theorem dX1_goOn_107 : decode cX1_goOn 107 = .ok (.getfield 57, 3) := dk_180 0 57 (dk_at dksX1_goOn_4 13 rfl rfl)
theorem dX1_goOn_110 : decode cX1_goOn 110 = .ok (.invokevirtual 126, 3) := dk_182 0 126 (dk_at dksX1_goOn_4 16 rfl rfl)
theorem dX1_goOn_113 : decode cX1_goOn 113 = .ok (.astore_n 1, 1) := dk_76 (dk_at dksX1_goOn_4 19 rfl rfl)
theorem dX1_goOn_114 : decode cX1_goOn 114 = .ok (.aload_n 1, 1) := dk_43 (dk_at dksX1_goOn_4 20 rfl rfl)
theorem dX1_goOn_115 : decode cX1_goOn 115 = .ok (.invokeinterface 130 1, 5) := by decide +kernel
theorem dX1_goOn_120 : decode cX1_goOn 120 = .ok (.ifCond .eq 42, 3) := dk_153 0 42 (dk_at dksX1_goOn_5 5 rfl rfl)
theorem dX1_goOn_123 : decode cX1_goOn 123 = .ok (.aload_n 1, 1) := dk_43 (dk_at dksX1_goOn_5 8 rfl rfl)
theorem dX1_goOn_124 : decode cX1_goOn 124 = .ok (.invokeinterface 136 1, 5) := by decide +kernel
theorem dX1_goOn_129 : decode cX1_goOn 129 = .ok (.checkcast 183, 3) := dk_192 0 183 (dk_at dksX1_goOn_5 14 rfl rfl)
theorem dX1_goOn_132 : decode cX1_goOn 132 = .ok (.astore_n 2, 1) := dk_77 (dk_at dksX1_goOn_5 17 rfl rfl)
theorem dX1_goOn_133 : decode cX1_goOn 133 = .ok (.aload_n 2, 1) := dk_44 (dk_at dksX1_goOn_5 18 rfl rfl)
theorem dX1_goOn_134 : decode cX1_goOn 134 = .ok (.invokevirtual 271, 3) := dk_182 1 15 (dk_at dksX1_goOn_5 19 rfl rfl)
theorem dX1_goOn_137 : decode cX1_goOn 137 = .ok (.ifCond .eq 22, 3) := dk_153 0 22 (dk_at dksX1_goOn_6 0 rfl rfl)
theorem dX1_goOn_140 : decode cX1_goOn 140 = .ok (.aload_n 0, 1) := dk_42 (dk_at dksX1_goOn_6 3 rfl rfl)
theorem dX1_goOn_141 : decode cX1_goOn 141 = .ok (.getfield 185, 3) := dk_180 0 185 (dk_at dksX1_goOn_6 4 rfl rfl)
theorem dX1_goOn_144 : decode cX1_goOn 144 = .ok (.aload_n 2, 1) := dk_44 (dk_at dksX1_goOn_6 7 rfl rfl)
theorem dX1_goOn_145 : decode cX1_goOn 145 = .ok (.getfield 274, 3) := dk_180 1 18 (dk_at dksX1_goOn_6 8 rfl rfl)
theorem dX1_goOn_148 : decode cX1_goOn 148 = .ok (.sipush 240, 3) := dk_17 0 240 (dk_at dksX1_goOn_6 11 rfl rfl)
theorem dX1_goOn_151 : decode cX1_goOn 151 = .ok (.iadd, 1) := dk_96 (dk_at dksX1_goOn_6 14 rfl rfl)
theorem dX1_goOn_152 : decode cX1_goOn 152 = .ok (.if_icmp .lt 7, 3) := dk_161 0 7 (dk_at dksX1_goOn_6 15 rfl rfl)
theorem dX1_goOn_155 : decode cX1_goOn 155 = .ok (.aload_n 2, 1) := dk_44 (dk_at dksX1_goOn_6 18 rfl rfl)
theorem dX1_goOn_156 : decode cX1_goOn 156 = .ok (.invokestatic 244, 3) := dk_184 0 244 (dk_at dksX1_goOn_6 19 rfl rfl)
theorem dX1_goOn_159 : decode cX1_goOn 159 = .ok (.goto (-45), 3) := dk_167 255 211 (dk_at dksX1_goOn_7 0 rfl rfl)
theorem dX1_goOn_162 : decode cX1_goOn 162 = .ok (.aload_n 0, 1) := dk_42 (dk_at dksX1_goOn_7 3 rfl rfl)
theorem dX1_goOn_163 : decode cX1_goOn 163 = .ok (.getfield 57, 3) := dk_180 0 57 (dk_at dksX1_goOn_7 4 rfl rfl)
theorem dX1_goOn_166 : decode cX1_goOn 166 = .ok (.invokevirtual 126, 3) := dk_182 0 126 (dk_at dksX1_goOn_7 7 rfl rfl)
theorem dX1_goOn_169 : decode cX1_goOn 169 = .ok (.astore_n 1, 1) := dk_76 (dk_at dksX1_goOn_7 10 rfl rfl)
theorem dX1_goOn_170 : decode cX1_goOn 170 = .ok (.aload_n 1, 1) := dk_43 (dk_at dksX1_goOn_7 11 rfl rfl)
theorem dX1_goOn_171 : decode cX1_goOn 171 = .ok (.invokeinterface 130 1, 5) := by decide +kernel
theorem dX1_goOn_176 : decode cX1_goOn 176 = .ok (.ifCond .eq 21, 3) := dk_153 0 21 (dk_at dksX1_goOn_7 17 rfl rfl)
theorem dX1_goOn_179 : decode cX1_goOn 179 = .ok (.aload_n 1, 1) := dk_43 (dk_at dksX1_goOn_7 20 rfl rfl)
theorem dX1_goOn_180 : decode cX1_goOn 180 = .ok (.invokeinterface 136 1, 5) := by decide +kernel
theorem dX1_goOn_185 : decode cX1_goOn 185 = .ok (.checkcast 183, 3) := dk_192 0 183 (dk_at dksX1_goOn_8 5 rfl rfl)
theorem dX1_goOn_188 : decode cX1_goOn 188 = .ok (.astore_n 2, 1) := dk_77 (dk_at dksX1_goOn_8 8 rfl rfl)
theorem dX1_goOn_189 : decode cX1_goOn 189 = .ok (.aload_n 0, 1) := dk_42 (dk_at dksX1_goOn_8 9 rfl rfl)
theorem dX1_goOn_190 : decode cX1_goOn 190 = .ok (.aload_n 2, 1) := dk_44 (dk_at dksX1_goOn_8 10 rfl rfl)
theorem dX1_goOn_191 : decode cX1_goOn 191 = .ok (.invokevirtual 277, 3) := dk_182 1 21 (dk_at dksX1_goOn_8 11 rfl rfl)
theorem dX1_goOn_194 : decode cX1_goOn 194 = .ok (.goto (-24), 3) := dk_167 255 232 (dk_at dksX1_goOn_8 14 rfl rfl)
theorem dX1_goOn_197 : decode cX1_goOn 197 = .ok (.aload_n 0, 1) := dk_42 (dk_at dksX1_goOn_8 17 rfl rfl)
theorem dX1_goOn_198 : decode cX1_goOn 198 = .ok (.getfield 60, 3) := dk_180 0 60 (dk_at dksX1_goOn_8 18 rfl rfl)
theorem dX1_goOn_201 : decode cX1_goOn 201 = .ok (.invokevirtual 126, 3) := dk_182 0 126 (dk_at dksX1_goOn_8 21 rfl rfl)
theorem dX1_goOn_204 : decode cX1_goOn 204 = .ok (.astore_n 1, 1) := dk_76 (dk_at dksX1_goOn_9 0 rfl rfl)
theorem dX1_goOn_205 : decode cX1_goOn 205 = .ok (.aload_n 1, 1) := dk_43 (dk_at dksX1_goOn_9 1 rfl rfl)
theorem dX1_goOn_206 : decode cX1_goOn 206 = .ok (.invokeinterface 130 1, 5) := by decide +kernel
theorem dX1_goOn_211 : decode cX1_goOn 211 = .ok (.ifCond .eq 21, 3) := dk_153 0 21 (dk_at dksX1_goOn_9 7 rfl rfl)
theorem dX1_goOn_214 : decode cX1_goOn 214 = .ok (.aload_n 1, 1) := dk_43 (dk_at dksX1_goOn_9 10 rfl rfl)
theorem dX1_goOn_215 : decode cX1_goOn 215 = .ok (.invokeinterface 136 1, 5) := by decide +kernel
theorem dX1_goOn_220 : decode cX1_goOn 220 = .ok (.checkcast 252, 3) := dk_192 0 252 (dk_at dksX1_goOn_9 16 rfl rfl)
theorem dX1_goOn_223 : decode cX1_goOn 223 = .ok (.astore_n 2, 1) := dk_77 (dk_at dksX1_goOn_9 19 rfl rfl)
theorem dX1_goOn_224 : decode cX1_goOn 224 = .ok (.aload_n 0, 1) := dk_42 (dk_at dksX1_goOn_9 20 rfl rfl)
theorem dX1_goOn_225 : decode cX1_goOn 225 = .ok (.aload_n 2, 1) := dk_44 (dk_at dksX1_goOn_9 21 rfl rfl)
theorem dX1_goOn_226 : decode cX1_goOn 226 = .ok (.invokevirtual 280, 3) := dk_182 1 24 (dk_at dksX1_goOn_10 0 rfl rfl)
theorem dX1_goOn_229 : decode cX1_goOn 229 = .ok (.goto (-24), 3) := dk_167 255 232 (dk_at dksX1_goOn_10 3 rfl rfl)
theorem dX1_goOn_232 : decode cX1_goOn 232 = .ok (.return_, 1) := dk_177 (dk_at dksX1_goOn_10 6 rfl rfl)
abbrev cX1_moveMessage : ByteArray := prog_1_method_28_code
def yX1_moveMessage : MethodName := ⟨RX1, "moveMessage", "(LHundiHall$Order;)V"⟩
def dkwX1_moveMessage_4 : List UInt8 := [181, 0, 231, 177]
abbrev dktX1_moveMessage_4 : List UInt8 := dkwX1_moveMessage_4 ++ []
def dkwX1_moveMessage_3 : List UInt8 := [181, 0, 212, 43, 43, 180, 0, 212, 43, 180, 0, 247, 190, 4, 100, 160, 0, 7, 4, 167, 0, 4, 3]
abbrev dktX1_moveMessage_3 : List UInt8 := dkwX1_moveMessage_3 ++ dktX1_moveMessage_4
def dkwX1_moveMessage_2 : List UInt8 := [45, 180, 0, 213, 45, 180, 0, 220, 117, 184, 0, 102, 167, 255, 210, 43, 89, 180, 0, 212, 4, 96]
abbrev dktX1_moveMessage_2 : List UInt8 := dkwX1_moveMessage_2 ++ dktX1_moveMessage_3
def dkwX1_moveMessage_1 : List UInt8 := [185, 0, 136, 1, 0, 192, 0, 207, 78, 45, 180, 0, 209, 43, 180, 0, 212, 160, 0, 19, 45, 180, 0, 217]
abbrev dktX1_moveMessage_1 : List UInt8 := dkwX1_moveMessage_1 ++ dktX1_moveMessage_2
def dkwX1_moveMessage_0 : List UInt8 := [43, 180, 0, 231, 154, 0, 90, 43, 182, 0, 206, 77, 44, 185, 0, 130, 1, 0, 153, 0, 43, 44]
abbrev dktX1_moveMessage_0 : List UInt8 := dkwX1_moveMessage_0 ++ dktX1_moveMessage_1
theorem dksX1_moveMessage_0 : cX1_moveMessage.data.toList.drop 0 = dktX1_moveMessage_0 := by decide +kernel
theorem dksX1_moveMessage_1 : cX1_moveMessage.data.toList.drop 22 = dktX1_moveMessage_1 := dk_seg dksX1_moveMessage_0 22 rfl rfl
theorem dksX1_moveMessage_2 : cX1_moveMessage.data.toList.drop 46 = dktX1_moveMessage_2 := dk_seg dksX1_moveMessage_1 24 rfl rfl
theorem dksX1_moveMessage_3 : cX1_moveMessage.data.toList.drop 68 = dktX1_moveMessage_3 := dk_seg dksX1_moveMessage_2 22 rfl rfl
theorem dksX1_moveMessage_4 : cX1_moveMessage.data.toList.drop 91 = dktX1_moveMessage_4 := dk_seg dksX1_moveMessage_3 23 rfl rfl
theorem dX1_moveMessage_0 : decode cX1_moveMessage 0 = .ok (.aload_n 1, 1) := dk_43 (dk_at dksX1_moveMessage_0 0 rfl rfl)
theorem dX1_moveMessage_1 : decode cX1_moveMessage 1 = .ok (.getfield 231, 3) := dk_180 0 231 (dk_at dksX1_moveMessage_0 1 rfl rfl)
theorem dX1_moveMessage_4 : decode cX1_moveMessage 4 = .ok (.ifCond .ne 90, 3) := dk_154 0 90 (dk_at dksX1_moveMessage_0 4 rfl rfl)
theorem dX1_moveMessage_7 : decode cX1_moveMessage 7 = .ok (.aload_n 1, 1) := dk_43 (dk_at dksX1_moveMessage_0 7 rfl rfl)
theorem dX1_moveMessage_8 : decode cX1_moveMessage 8 = .ok (.invokevirtual 206, 3) := dk_182 0 206 (dk_at dksX1_moveMessage_0 8 rfl rfl)
theorem dX1_moveMessage_11 : decode cX1_moveMessage 11 = .ok (.astore_n 2, 1) := dk_77 (dk_at dksX1_moveMessage_0 11 rfl rfl)
theorem dX1_moveMessage_12 : decode cX1_moveMessage 12 = .ok (.aload_n 2, 1) := dk_44 (dk_at dksX1_moveMessage_0 12 rfl rfl)
theorem dX1_moveMessage_13 : decode cX1_moveMessage 13 = .ok (.invokeinterface 130 1, 5) := by decide +kernel
theorem dX1_moveMessage_18 : decode cX1_moveMessage 18 = .ok (.ifCond .eq 43, 3) := dk_153 0 43 (dk_at dksX1_moveMessage_0 18 rfl rfl)
theorem dX1_moveMessage_21 : decode cX1_moveMessage 21 = .ok (.aload_n 2, 1) := dk_44 (dk_at dksX1_moveMessage_0 21 rfl rfl)
theorem dX1_moveMessage_22 : decode cX1_moveMessage 22 = .ok (.invokeinterface 136 1, 5) := by decide +kernel
theorem dX1_moveMessage_27 : decode cX1_moveMessage 27 = .ok (.checkcast 207, 3) := dk_192 0 207 (dk_at dksX1_moveMessage_1 5 rfl rfl)
theorem dX1_moveMessage_30 : decode cX1_moveMessage 30 = .ok (.astore_n 3, 1) := dk_78 (dk_at dksX1_moveMessage_1 8 rfl rfl)
theorem dX1_moveMessage_31 : decode cX1_moveMessage 31 = .ok (.aload_n 3, 1) := dk_45 (dk_at dksX1_moveMessage_1 9 rfl rfl)
theorem dX1_moveMessage_32 : decode cX1_moveMessage 32 = .ok (.getfield 209, 3) := dk_180 0 209 (dk_at dksX1_moveMessage_1 10 rfl rfl)
theorem dX1_moveMessage_35 : decode cX1_moveMessage 35 = .ok (.aload_n 1, 1) := dk_43 (dk_at dksX1_moveMessage_1 13 rfl rfl)
theorem dX1_moveMessage_36 : decode cX1_moveMessage 36 = .ok (.getfield 212, 3) := dk_180 0 212 (dk_at dksX1_moveMessage_1 14 rfl rfl)
theorem dX1_moveMessage_39 : decode cX1_moveMessage 39 = .ok (.if_icmp .ne 19, 3) := dk_160 0 19 (dk_at dksX1_moveMessage_1 17 rfl rfl)
theorem dX1_moveMessage_42 : decode cX1_moveMessage 42 = .ok (.aload_n 3, 1) := dk_45 (dk_at dksX1_moveMessage_1 20 rfl rfl)
theorem dX1_moveMessage_43 : decode cX1_moveMessage 43 = .ok (.getfield 217, 3) := dk_180 0 217 (dk_at dksX1_moveMessage_1 21 rfl rfl)
theorem dX1_moveMessage_46 : decode cX1_moveMessage 46 = .ok (.aload_n 3, 1) := dk_45 (dk_at dksX1_moveMessage_2 0 rfl rfl)
theorem dX1_moveMessage_47 : decode cX1_moveMessage 47 = .ok (.getfield 213, 3) := dk_180 0 213 (dk_at dksX1_moveMessage_2 1 rfl rfl)
theorem dX1_moveMessage_50 : decode cX1_moveMessage 50 = .ok (.aload_n 3, 1) := dk_45 (dk_at dksX1_moveMessage_2 4 rfl rfl)
theorem dX1_moveMessage_51 : decode cX1_moveMessage 51 = .ok (.getfield 220, 3) := dk_180 0 220 (dk_at dksX1_moveMessage_2 5 rfl rfl)
theorem dX1_moveMessage_54 : decode cX1_moveMessage 54 = .ok (.lneg, 1) := dk_117 (dk_at dksX1_moveMessage_2 8 rfl rfl)
theorem dX1_moveMessage_55 : decode cX1_moveMessage 55 = .ok (.invokestatic 102, 3) := dk_184 0 102 (dk_at dksX1_moveMessage_2 9 rfl rfl)
theorem dX1_moveMessage_58 : decode cX1_moveMessage 58 = .ok (.goto (-46), 3) := dk_167 255 210 (dk_at dksX1_moveMessage_2 12 rfl rfl)
theorem dX1_moveMessage_61 : decode cX1_moveMessage 61 = .ok (.aload_n 1, 1) := dk_43 (dk_at dksX1_moveMessage_2 15 rfl rfl)
theorem dX1_moveMessage_62 : decode cX1_moveMessage 62 = .ok (.dup, 1) := dk_89 (dk_at dksX1_moveMessage_2 16 rfl rfl)
theorem dX1_moveMessage_63 : decode cX1_moveMessage 63 = .ok (.getfield 212, 3) := dk_180 0 212 (dk_at dksX1_moveMessage_2 17 rfl rfl)
theorem dX1_moveMessage_66 : decode cX1_moveMessage 66 = .ok (.iconst 1, 1) := dk_4 (dk_at dksX1_moveMessage_2 20 rfl rfl)
theorem dX1_moveMessage_67 : decode cX1_moveMessage 67 = .ok (.iadd, 1) := dk_96 (dk_at dksX1_moveMessage_2 21 rfl rfl)
theorem dX1_moveMessage_68 : decode cX1_moveMessage 68 = .ok (.putfield 212, 3) := dk_181 0 212 (dk_at dksX1_moveMessage_3 0 rfl rfl)
theorem dX1_moveMessage_71 : decode cX1_moveMessage 71 = .ok (.aload_n 1, 1) := dk_43 (dk_at dksX1_moveMessage_3 3 rfl rfl)
theorem dX1_moveMessage_72 : decode cX1_moveMessage 72 = .ok (.aload_n 1, 1) := dk_43 (dk_at dksX1_moveMessage_3 4 rfl rfl)
theorem dX1_moveMessage_73 : decode cX1_moveMessage 73 = .ok (.getfield 212, 3) := dk_180 0 212 (dk_at dksX1_moveMessage_3 5 rfl rfl)
theorem dX1_moveMessage_76 : decode cX1_moveMessage 76 = .ok (.aload_n 1, 1) := dk_43 (dk_at dksX1_moveMessage_3 8 rfl rfl)
theorem dX1_moveMessage_77 : decode cX1_moveMessage 77 = .ok (.getfield 247, 3) := dk_180 0 247 (dk_at dksX1_moveMessage_3 9 rfl rfl)
theorem dX1_moveMessage_80 : decode cX1_moveMessage 80 = .ok (.arraylength, 1) := dk_190 (dk_at dksX1_moveMessage_3 12 rfl rfl)
theorem dX1_moveMessage_81 : decode cX1_moveMessage 81 = .ok (.iconst 1, 1) := dk_4 (dk_at dksX1_moveMessage_3 13 rfl rfl)
theorem dX1_moveMessage_82 : decode cX1_moveMessage 82 = .ok (.isub, 1) := dk_100 (dk_at dksX1_moveMessage_3 14 rfl rfl)
theorem dX1_moveMessage_83 : decode cX1_moveMessage 83 = .ok (.if_icmp .ne 7, 3) := dk_160 0 7 (dk_at dksX1_moveMessage_3 15 rfl rfl)
theorem dX1_moveMessage_86 : decode cX1_moveMessage 86 = .ok (.iconst 1, 1) := dk_4 (dk_at dksX1_moveMessage_3 18 rfl rfl)
theorem dX1_moveMessage_87 : decode cX1_moveMessage 87 = .ok (.goto 4, 3) := dk_167 0 4 (dk_at dksX1_moveMessage_3 19 rfl rfl)
theorem dX1_moveMessage_90 : decode cX1_moveMessage 90 = .ok (.iconst 0, 1) := dk_3 (dk_at dksX1_moveMessage_3 22 rfl rfl)
theorem dX1_moveMessage_91 : decode cX1_moveMessage 91 = .ok (.putfield 231, 3) := dk_181 0 231 (dk_at dksX1_moveMessage_4 0 rfl rfl)
theorem dX1_moveMessage_94 : decode cX1_moveMessage 94 = .ok (.return_, 1) := dk_177 (dk_at dksX1_moveMessage_4 3 rfl rfl)
abbrev cX1_giveBack : ByteArray := prog_1_method_29_code
def yX1_giveBack : MethodName := ⟨RX1, "giveBack", "(LHundiHall$Order;)V"⟩
def dkwX1_giveBack_2 : List UInt8 := [180, 0, 74, 5, 92, 47, 43, 180, 0, 195, 133, 97, 80, 43, 7, 181, 0, 231, 177]
abbrev dktX1_giveBack_2 : List UInt8 := dkwX1_giveBack_2 ++ []
def dkwX1_giveBack_1 : List UInt8 := [43, 180, 0, 195, 133, 148, 155, 0, 36, 44, 89, 180, 0, 191, 43, 180, 0, 195, 133, 101, 181, 0, 191, 42]
abbrev dktX1_giveBack_1 : List UInt8 := dkwX1_giveBack_1 ++ dktX1_giveBack_2
def dkwX1_giveBack_0 : List UInt8 := [43, 182, 0, 227, 77, 43, 180, 0, 231, 6, 160, 0, 56, 44, 180, 0, 117, 154, 0, 49, 44, 180, 0, 191]
abbrev dktX1_giveBack_0 : List UInt8 := dkwX1_giveBack_0 ++ dktX1_giveBack_1
theorem dksX1_giveBack_0 : cX1_giveBack.data.toList.drop 0 = dktX1_giveBack_0 := by decide +kernel
theorem dksX1_giveBack_1 : cX1_giveBack.data.toList.drop 24 = dktX1_giveBack_1 := dk_seg dksX1_giveBack_0 24 rfl rfl
theorem dksX1_giveBack_2 : cX1_giveBack.data.toList.drop 48 = dktX1_giveBack_2 := dk_seg dksX1_giveBack_1 24 rfl rfl
theorem dX1_giveBack_0 : decode cX1_giveBack 0 = .ok (.aload_n 1, 1) := dk_43 (dk_at dksX1_giveBack_0 0 rfl rfl)
theorem dX1_giveBack_1 : decode cX1_giveBack 1 = .ok (.invokevirtual 227, 3) := dk_182 0 227 (dk_at dksX1_giveBack_0 1 rfl rfl)
theorem dX1_giveBack_4 : decode cX1_giveBack 4 = .ok (.astore_n 2, 1) := dk_77 (dk_at dksX1_giveBack_0 4 rfl rfl)
theorem dX1_giveBack_5 : decode cX1_giveBack 5 = .ok (.aload_n 1, 1) := dk_43 (dk_at dksX1_giveBack_0 5 rfl rfl)
theorem dX1_giveBack_6 : decode cX1_giveBack 6 = .ok (.getfield 231, 3) := dk_180 0 231 (dk_at dksX1_giveBack_0 6 rfl rfl)
theorem dX1_giveBack_9 : decode cX1_giveBack 9 = .ok (.iconst 3, 1) := dk_6 (dk_at dksX1_giveBack_0 9 rfl rfl)
theorem dX1_giveBack_10 : decode cX1_giveBack 10 = .ok (.if_icmp .ne 56, 3) := dk_160 0 56 (dk_at dksX1_giveBack_0 10 rfl rfl)
theorem dX1_giveBack_13 : decode cX1_giveBack 13 = .ok (.aload_n 2, 1) := dk_44 (dk_at dksX1_giveBack_0 13 rfl rfl)
theorem dX1_giveBack_14 : decode cX1_giveBack 14 = .ok (.getfield 117, 3) := dk_180 0 117 (dk_at dksX1_giveBack_0 14 rfl rfl)
theorem dX1_giveBack_17 : decode cX1_giveBack 17 = .ok (.ifCond .ne 49, 3) := dk_154 0 49 (dk_at dksX1_giveBack_0 17 rfl rfl)
theorem dX1_giveBack_20 : decode cX1_giveBack 20 = .ok (.aload_n 2, 1) := dk_44 (dk_at dksX1_giveBack_0 20 rfl rfl)
theorem dX1_giveBack_21 : decode cX1_giveBack 21 = .ok (.getfield 191, 3) := dk_180 0 191 (dk_at dksX1_giveBack_0 21 rfl rfl)
theorem dX1_giveBack_24 : decode cX1_giveBack 24 = .ok (.aload_n 1, 1) := dk_43 (dk_at dksX1_giveBack_1 0 rfl rfl)
theorem dX1_giveBack_25 : decode cX1_giveBack 25 = .ok (.getfield 195, 3) := dk_180 0 195 (dk_at dksX1_giveBack_1 1 rfl rfl)
theorem dX1_giveBack_28 : decode cX1_giveBack 28 = .ok (.i2l, 1) := dk_133 (dk_at dksX1_giveBack_1 4 rfl rfl)
theorem dX1_giveBack_29 : decode cX1_giveBack 29 = .ok (.lcmp, 1) := dk_148 (dk_at dksX1_giveBack_1 5 rfl rfl)
theorem dX1_giveBack_30 : decode cX1_giveBack 30 = .ok (.ifCond .lt 36, 3) := dk_155 0 36 (dk_at dksX1_giveBack_1 6 rfl rfl)
theorem dX1_giveBack_33 : decode cX1_giveBack 33 = .ok (.aload_n 2, 1) := dk_44 (dk_at dksX1_giveBack_1 9 rfl rfl)
theorem dX1_giveBack_34 : decode cX1_giveBack 34 = .ok (.dup, 1) := dk_89 (dk_at dksX1_giveBack_1 10 rfl rfl)
theorem dX1_giveBack_35 : decode cX1_giveBack 35 = .ok (.getfield 191, 3) := dk_180 0 191 (dk_at dksX1_giveBack_1 11 rfl rfl)
theorem dX1_giveBack_38 : decode cX1_giveBack 38 = .ok (.aload_n 1, 1) := dk_43 (dk_at dksX1_giveBack_1 14 rfl rfl)
theorem dX1_giveBack_39 : decode cX1_giveBack 39 = .ok (.getfield 195, 3) := dk_180 0 195 (dk_at dksX1_giveBack_1 15 rfl rfl)
theorem dX1_giveBack_42 : decode cX1_giveBack 42 = .ok (.i2l, 1) := dk_133 (dk_at dksX1_giveBack_1 18 rfl rfl)
theorem dX1_giveBack_43 : decode cX1_giveBack 43 = .ok (.lsub, 1) := dk_101 (dk_at dksX1_giveBack_1 19 rfl rfl)
theorem dX1_giveBack_44 : decode cX1_giveBack 44 = .ok (.putfield 191, 3) := dk_181 0 191 (dk_at dksX1_giveBack_1 20 rfl rfl)
theorem dX1_giveBack_47 : decode cX1_giveBack 47 = .ok (.aload_n 0, 1) := dk_42 (dk_at dksX1_giveBack_1 23 rfl rfl)
theorem dX1_giveBack_48 : decode cX1_giveBack 48 = .ok (.getfield 74, 3) := dk_180 0 74 (dk_at dksX1_giveBack_2 0 rfl rfl)
theorem dX1_giveBack_51 : decode cX1_giveBack 51 = .ok (.iconst 2, 1) := dk_5 (dk_at dksX1_giveBack_2 3 rfl rfl)
theorem dX1_giveBack_52 : decode cX1_giveBack 52 = .ok (.dup2, 1) := dk_92 (dk_at dksX1_giveBack_2 4 rfl rfl)
theorem dX1_giveBack_53 : decode cX1_giveBack 53 = .ok (.laload, 1) := dk_47 (dk_at dksX1_giveBack_2 5 rfl rfl)
theorem dX1_giveBack_54 : decode cX1_giveBack 54 = .ok (.aload_n 1, 1) := dk_43 (dk_at dksX1_giveBack_2 6 rfl rfl)
theorem dX1_giveBack_55 : decode cX1_giveBack 55 = .ok (.getfield 195, 3) := dk_180 0 195 (dk_at dksX1_giveBack_2 7 rfl rfl)
theorem dX1_giveBack_58 : decode cX1_giveBack 58 = .ok (.i2l, 1) := dk_133 (dk_at dksX1_giveBack_2 10 rfl rfl)
theorem dX1_giveBack_59 : decode cX1_giveBack 59 = .ok (.ladd, 1) := dk_97 (dk_at dksX1_giveBack_2 11 rfl rfl)
theorem dX1_giveBack_60 : decode cX1_giveBack 60 = .ok (.lastore, 1) := dk_80 (dk_at dksX1_giveBack_2 12 rfl rfl)
theorem dX1_giveBack_61 : decode cX1_giveBack 61 = .ok (.aload_n 1, 1) := dk_43 (dk_at dksX1_giveBack_2 13 rfl rfl)
theorem dX1_giveBack_62 : decode cX1_giveBack 62 = .ok (.iconst 4, 1) := dk_7 (dk_at dksX1_giveBack_2 14 rfl rfl)
theorem dX1_giveBack_63 : decode cX1_giveBack 63 = .ok (.putfield 231, 3) := dk_181 0 231 (dk_at dksX1_giveBack_2 15 rfl rfl)
theorem dX1_giveBack_66 : decode cX1_giveBack 66 = .ok (.return_, 1) := dk_177 (dk_at dksX1_giveBack_2 18 rfl rfl)
abbrev cX1_come : ByteArray := prog_1_method_30_code
def yX1_come : MethodName := ⟨RX1, "come", "(LHundiHall$Courier;)V"⟩
def dkwX1_come_2 : List UInt8 := [43, 180, 1, 4, 116, 133, 184, 1, 6, 177]
abbrev dktX1_come_2 : List UInt8 := dkwX1_come_2 ++ []
def dkwX1_come_1 : List UInt8 := [180, 1, 3, 89, 180, 0, 191, 43, 180, 1, 4, 133, 97, 181, 0, 191, 43, 180, 1, 5, 43, 180, 1, 3]
abbrev dktX1_come_1 : List UInt8 := dkwX1_come_1 ++ dktX1_come_2
def dkwX1_come_0 : List UInt8 := [43, 180, 0, 251, 154, 0, 53, 43, 180, 1, 0, 42, 180, 0, 185, 160, 0, 42, 43, 4, 181, 0, 251, 43]
abbrev dktX1_come_0 : List UInt8 := dkwX1_come_0 ++ dktX1_come_1
theorem dksX1_come_0 : cX1_come.data.toList.drop 0 = dktX1_come_0 := by decide +kernel
theorem dksX1_come_1 : cX1_come.data.toList.drop 24 = dktX1_come_1 := dk_seg dksX1_come_0 24 rfl rfl
theorem dksX1_come_2 : cX1_come.data.toList.drop 48 = dktX1_come_2 := dk_seg dksX1_come_1 24 rfl rfl
theorem dX1_come_0 : decode cX1_come 0 = .ok (.aload_n 1, 1) := dk_43 (dk_at dksX1_come_0 0 rfl rfl)
theorem dX1_come_1 : decode cX1_come 1 = .ok (.getfield 251, 3) := dk_180 0 251 (dk_at dksX1_come_0 1 rfl rfl)
theorem dX1_come_4 : decode cX1_come 4 = .ok (.ifCond .ne 53, 3) := dk_154 0 53 (dk_at dksX1_come_0 4 rfl rfl)
theorem dX1_come_7 : decode cX1_come 7 = .ok (.aload_n 1, 1) := dk_43 (dk_at dksX1_come_0 7 rfl rfl)
theorem dX1_come_8 : decode cX1_come 8 = .ok (.getfield 256, 3) := dk_180 1 0 (dk_at dksX1_come_0 8 rfl rfl)
theorem dX1_come_11 : decode cX1_come 11 = .ok (.aload_n 0, 1) := dk_42 (dk_at dksX1_come_0 11 rfl rfl)
theorem dX1_come_12 : decode cX1_come 12 = .ok (.getfield 185, 3) := dk_180 0 185 (dk_at dksX1_come_0 12 rfl rfl)
theorem dX1_come_15 : decode cX1_come 15 = .ok (.if_icmp .ne 42, 3) := dk_160 0 42 (dk_at dksX1_come_0 15 rfl rfl)
theorem dX1_come_18 : decode cX1_come 18 = .ok (.aload_n 1, 1) := dk_43 (dk_at dksX1_come_0 18 rfl rfl)
theorem dX1_come_19 : decode cX1_come 19 = .ok (.iconst 1, 1) := dk_4 (dk_at dksX1_come_0 19 rfl rfl)
theorem dX1_come_20 : decode cX1_come 20 = .ok (.putfield 251, 3) := dk_181 0 251 (dk_at dksX1_come_0 20 rfl rfl)
theorem dX1_come_23 : decode cX1_come 23 = .ok (.aload_n 1, 1) := dk_43 (dk_at dksX1_come_0 23 rfl rfl)
theorem dX1_come_24 : decode cX1_come 24 = .ok (.getfield 259, 3) := dk_180 1 3 (dk_at dksX1_come_1 0 rfl rfl)
theorem dX1_come_27 : decode cX1_come 27 = .ok (.dup, 1) := dk_89 (dk_at dksX1_come_1 3 rfl rfl)
theorem dX1_come_28 : decode cX1_come 28 = .ok (.getfield 191, 3) := dk_180 0 191 (dk_at dksX1_come_1 4 rfl rfl)
theorem dX1_come_31 : decode cX1_come 31 = .ok (.aload_n 1, 1) := dk_43 (dk_at dksX1_come_1 7 rfl rfl)
theorem dX1_come_32 : decode cX1_come 32 = .ok (.getfield 260, 3) := dk_180 1 4 (dk_at dksX1_come_1 8 rfl rfl)
theorem dX1_come_35 : decode cX1_come 35 = .ok (.i2l, 1) := dk_133 (dk_at dksX1_come_1 11 rfl rfl)
theorem dX1_come_36 : decode cX1_come 36 = .ok (.ladd, 1) := dk_97 (dk_at dksX1_come_1 12 rfl rfl)
theorem dX1_come_37 : decode cX1_come 37 = .ok (.putfield 191, 3) := dk_181 0 191 (dk_at dksX1_come_1 13 rfl rfl)
theorem dX1_come_40 : decode cX1_come 40 = .ok (.aload_n 1, 1) := dk_43 (dk_at dksX1_come_1 16 rfl rfl)
theorem dX1_come_41 : decode cX1_come 41 = .ok (.getfield 261, 3) := dk_180 1 5 (dk_at dksX1_come_1 17 rfl rfl)
theorem dX1_come_44 : decode cX1_come 44 = .ok (.aload_n 1, 1) := dk_43 (dk_at dksX1_come_1 20 rfl rfl)
theorem dX1_come_45 : decode cX1_come 45 = .ok (.getfield 259, 3) := dk_180 1 3 (dk_at dksX1_come_1 21 rfl rfl)
theorem dX1_come_48 : decode cX1_come 48 = .ok (.aload_n 1, 1) := dk_43 (dk_at dksX1_come_2 0 rfl rfl)
theorem dX1_come_49 : decode cX1_come 49 = .ok (.getfield 260, 3) := dk_180 1 4 (dk_at dksX1_come_2 1 rfl rfl)
theorem dX1_come_52 : decode cX1_come 52 = .ok (.ineg, 1) := dk_116 (dk_at dksX1_come_2 4 rfl rfl)
theorem dX1_come_53 : decode cX1_come 53 = .ok (.i2l, 1) := dk_133 (dk_at dksX1_come_2 5 rfl rfl)
theorem dX1_come_54 : decode cX1_come 54 = .ok (.invokestatic 262, 3) := dk_184 1 6 (dk_at dksX1_come_2 6 rfl rfl)
theorem dX1_come_57 : decode cX1_come 57 = .ok (.return_, 1) := dk_177 (dk_at dksX1_come_2 9 rfl rfl)
abbrev cX1_pay : ByteArray := prog_1_method_39_code
def yX1_pay : MethodName := ⟨RX1, "pay", "(III)I"⟩
def dkwX1_pay_5 : List UInt8 := [184, 1, 6, 25, 4, 180, 0, 88, 28, 47, 136, 172]
abbrev dktX1_pay_5 : List UInt8 := dkwX1_pay_5 ++ []
def dkwX1_pay_4 : List UInt8 := [181, 0, 191, 25, 5, 89, 180, 0, 191, 29, 133, 97, 181, 0, 191, 25, 4, 25, 5, 29, 116, 133]
abbrev dktX1_pay_4 : List UInt8 := dkwX1_pay_4 ++ dktX1_pay_5
def dkwX1_pay_3 : List UInt8 := [29, 133, 148, 155, 0, 7, 4, 167, 0, 4, 3, 184, 0, 156, 25, 4, 89, 180, 0, 191, 29, 133, 101]
abbrev dktX1_pay_3 : List UInt8 := dkwX1_pay_3 ++ dktX1_pay_4
def dkwX1_pay_2 : List UInt8 := [180, 0, 117, 154, 0, 31, 25, 4, 180, 0, 88, 28, 47, 29, 133, 148, 155, 0, 18, 25, 4, 180, 0, 191]
abbrev dktX1_pay_2 : List UInt8 := dkwX1_pay_2 ++ dktX1_pay_3
def dkwX1_pay_1 : List UInt8 := [180, 0, 53, 28, 182, 1, 76, 192, 0, 83, 58, 5, 25, 4, 180, 0, 117, 154, 0, 39, 25, 5]
abbrev dktX1_pay_1 : List UInt8 := dkwX1_pay_1 ++ dktX1_pay_2
def dkwX1_pay_0 : List UInt8 := [42, 27, 28, 182, 1, 73, 29, 184, 0, 176, 42, 180, 0, 53, 27, 182, 1, 76, 192, 0, 83, 58, 4, 42]
abbrev dktX1_pay_0 : List UInt8 := dkwX1_pay_0 ++ dktX1_pay_1
theorem dksX1_pay_0 : cX1_pay.data.toList.drop 0 = dktX1_pay_0 := by decide +kernel
theorem dksX1_pay_1 : cX1_pay.data.toList.drop 24 = dktX1_pay_1 := dk_seg dksX1_pay_0 24 rfl rfl
theorem dksX1_pay_2 : cX1_pay.data.toList.drop 46 = dktX1_pay_2 := dk_seg dksX1_pay_1 22 rfl rfl
theorem dksX1_pay_3 : cX1_pay.data.toList.drop 70 = dktX1_pay_3 := dk_seg dksX1_pay_2 24 rfl rfl
theorem dksX1_pay_4 : cX1_pay.data.toList.drop 93 = dktX1_pay_4 := dk_seg dksX1_pay_3 23 rfl rfl
theorem dksX1_pay_5 : cX1_pay.data.toList.drop 115 = dktX1_pay_5 := dk_seg dksX1_pay_4 22 rfl rfl
theorem dX1_pay_0 : decode cX1_pay 0 = .ok (.aload_n 0, 1) := dk_42 (dk_at dksX1_pay_0 0 rfl rfl)
theorem dX1_pay_1 : decode cX1_pay 1 = .ok (.iload_n 1, 1) := dk_27 (dk_at dksX1_pay_0 1 rfl rfl)
theorem dX1_pay_2 : decode cX1_pay 2 = .ok (.iload_n 2, 1) := dk_28 (dk_at dksX1_pay_0 2 rfl rfl)
theorem dX1_pay_3 : decode cX1_pay 3 = .ok (.invokevirtual 329, 3) := dk_182 1 73 (dk_at dksX1_pay_0 3 rfl rfl)
theorem dX1_pay_6 : decode cX1_pay 6 = .ok (.iload_n 3, 1) := dk_29 (dk_at dksX1_pay_0 6 rfl rfl)
theorem dX1_pay_7 : decode cX1_pay 7 = .ok (.invokestatic 176, 3) := dk_184 0 176 (dk_at dksX1_pay_0 7 rfl rfl)
theorem dX1_pay_10 : decode cX1_pay 10 = .ok (.aload_n 0, 1) := dk_42 (dk_at dksX1_pay_0 10 rfl rfl)
theorem dX1_pay_11 : decode cX1_pay 11 = .ok (.getfield 53, 3) := dk_180 0 53 (dk_at dksX1_pay_0 11 rfl rfl)
theorem dX1_pay_14 : decode cX1_pay 14 = .ok (.iload_n 1, 1) := dk_27 (dk_at dksX1_pay_0 14 rfl rfl)
theorem dX1_pay_15 : decode cX1_pay 15 = .ok (.invokevirtual 332, 3) := dk_182 1 76 (dk_at dksX1_pay_0 15 rfl rfl)
theorem dX1_pay_18 : decode cX1_pay 18 = .ok (.checkcast 83, 3) := dk_192 0 83 (dk_at dksX1_pay_0 18 rfl rfl)
theorem dX1_pay_21 : decode cX1_pay 21 = .ok (.astore 4, 2) := dk_58 4 (dk_at dksX1_pay_0 21 rfl rfl)
theorem dX1_pay_23 : decode cX1_pay 23 = .ok (.aload_n 0, 1) := dk_42 (dk_at dksX1_pay_0 23 rfl rfl)
theorem dX1_pay_24 : decode cX1_pay 24 = .ok (.getfield 53, 3) := dk_180 0 53 (dk_at dksX1_pay_1 0 rfl rfl)
theorem dX1_pay_27 : decode cX1_pay 27 = .ok (.iload_n 2, 1) := dk_28 (dk_at dksX1_pay_1 3 rfl rfl)
theorem dX1_pay_28 : decode cX1_pay 28 = .ok (.invokevirtual 332, 3) := dk_182 1 76 (dk_at dksX1_pay_1 4 rfl rfl)
theorem dX1_pay_31 : decode cX1_pay 31 = .ok (.checkcast 83, 3) := dk_192 0 83 (dk_at dksX1_pay_1 7 rfl rfl)
theorem dX1_pay_34 : decode cX1_pay 34 = .ok (.astore 5, 2) := dk_58 5 (dk_at dksX1_pay_1 10 rfl rfl)
theorem dX1_pay_36 : decode cX1_pay 36 = .ok (.aload 4, 2) := dk_25 4 (dk_at dksX1_pay_1 12 rfl rfl)
theorem dX1_pay_38 : decode cX1_pay 38 = .ok (.getfield 117, 3) := dk_180 0 117 (dk_at dksX1_pay_1 14 rfl rfl)
theorem dX1_pay_41 : decode cX1_pay 41 = .ok (.ifCond .ne 39, 3) := dk_154 0 39 (dk_at dksX1_pay_1 17 rfl rfl)
theorem dX1_pay_44 : decode cX1_pay 44 = .ok (.aload 5, 2) := dk_25 5 (dk_at dksX1_pay_1 20 rfl rfl)
theorem dX1_pay_46 : decode cX1_pay 46 = .ok (.getfield 117, 3) := dk_180 0 117 (dk_at dksX1_pay_2 0 rfl rfl)
theorem dX1_pay_49 : decode cX1_pay 49 = .ok (.ifCond .ne 31, 3) := dk_154 0 31 (dk_at dksX1_pay_2 3 rfl rfl)
theorem dX1_pay_52 : decode cX1_pay 52 = .ok (.aload 4, 2) := dk_25 4 (dk_at dksX1_pay_2 6 rfl rfl)
theorem dX1_pay_54 : decode cX1_pay 54 = .ok (.getfield 88, 3) := dk_180 0 88 (dk_at dksX1_pay_2 8 rfl rfl)
theorem dX1_pay_57 : decode cX1_pay 57 = .ok (.iload_n 2, 1) := dk_28 (dk_at dksX1_pay_2 11 rfl rfl)
theorem dX1_pay_58 : decode cX1_pay 58 = .ok (.laload, 1) := dk_47 (dk_at dksX1_pay_2 12 rfl rfl)
theorem dX1_pay_59 : decode cX1_pay 59 = .ok (.iload_n 3, 1) := dk_29 (dk_at dksX1_pay_2 13 rfl rfl)
theorem dX1_pay_60 : decode cX1_pay 60 = .ok (.i2l, 1) := dk_133 (dk_at dksX1_pay_2 14 rfl rfl)
theorem dX1_pay_61 : decode cX1_pay 61 = .ok (.lcmp, 1) := dk_148 (dk_at dksX1_pay_2 15 rfl rfl)
theorem dX1_pay_62 : decode cX1_pay 62 = .ok (.ifCond .lt 18, 3) := dk_155 0 18 (dk_at dksX1_pay_2 16 rfl rfl)
theorem dX1_pay_65 : decode cX1_pay 65 = .ok (.aload 4, 2) := dk_25 4 (dk_at dksX1_pay_2 19 rfl rfl)
theorem dX1_pay_67 : decode cX1_pay 67 = .ok (.getfield 191, 3) := dk_180 0 191 (dk_at dksX1_pay_2 21 rfl rfl)
theorem dX1_pay_70 : decode cX1_pay 70 = .ok (.iload_n 3, 1) := dk_29 (dk_at dksX1_pay_3 0 rfl rfl)
theorem dX1_pay_71 : decode cX1_pay 71 = .ok (.i2l, 1) := dk_133 (dk_at dksX1_pay_3 1 rfl rfl)
theorem dX1_pay_72 : decode cX1_pay 72 = .ok (.lcmp, 1) := dk_148 (dk_at dksX1_pay_3 2 rfl rfl)
theorem dX1_pay_73 : decode cX1_pay 73 = .ok (.ifCond .lt 7, 3) := dk_155 0 7 (dk_at dksX1_pay_3 3 rfl rfl)
theorem dX1_pay_76 : decode cX1_pay 76 = .ok (.iconst 1, 1) := dk_4 (dk_at dksX1_pay_3 6 rfl rfl)
theorem dX1_pay_77 : decode cX1_pay 77 = .ok (.goto 4, 3) := dk_167 0 4 (dk_at dksX1_pay_3 7 rfl rfl)
theorem dX1_pay_80 : decode cX1_pay 80 = .ok (.iconst 0, 1) := dk_3 (dk_at dksX1_pay_3 10 rfl rfl)
theorem dX1_pay_81 : decode cX1_pay 81 = .ok (.invokestatic 156, 3) := dk_184 0 156 (dk_at dksX1_pay_3 11 rfl rfl)
theorem dX1_pay_84 : decode cX1_pay 84 = .ok (.aload 4, 2) := dk_25 4 (dk_at dksX1_pay_3 14 rfl rfl)
theorem dX1_pay_86 : decode cX1_pay 86 = .ok (.dup, 1) := dk_89 (dk_at dksX1_pay_3 16 rfl rfl)
theorem dX1_pay_87 : decode cX1_pay 87 = .ok (.getfield 191, 3) := dk_180 0 191 (dk_at dksX1_pay_3 17 rfl rfl)
theorem dX1_pay_90 : decode cX1_pay 90 = .ok (.iload_n 3, 1) := dk_29 (dk_at dksX1_pay_3 20 rfl rfl)
theorem dX1_pay_91 : decode cX1_pay 91 = .ok (.i2l, 1) := dk_133 (dk_at dksX1_pay_3 21 rfl rfl)
theorem dX1_pay_92 : decode cX1_pay 92 = .ok (.lsub, 1) := dk_101 (dk_at dksX1_pay_3 22 rfl rfl)
theorem dX1_pay_93 : decode cX1_pay 93 = .ok (.putfield 191, 3) := dk_181 0 191 (dk_at dksX1_pay_4 0 rfl rfl)
theorem dX1_pay_96 : decode cX1_pay 96 = .ok (.aload 5, 2) := dk_25 5 (dk_at dksX1_pay_4 3 rfl rfl)
theorem dX1_pay_98 : decode cX1_pay 98 = .ok (.dup, 1) := dk_89 (dk_at dksX1_pay_4 5 rfl rfl)
theorem dX1_pay_99 : decode cX1_pay 99 = .ok (.getfield 191, 3) := dk_180 0 191 (dk_at dksX1_pay_4 6 rfl rfl)
theorem dX1_pay_102 : decode cX1_pay 102 = .ok (.iload_n 3, 1) := dk_29 (dk_at dksX1_pay_4 9 rfl rfl)
theorem dX1_pay_103 : decode cX1_pay 103 = .ok (.i2l, 1) := dk_133 (dk_at dksX1_pay_4 10 rfl rfl)
theorem dX1_pay_104 : decode cX1_pay 104 = .ok (.ladd, 1) := dk_97 (dk_at dksX1_pay_4 11 rfl rfl)
theorem dX1_pay_105 : decode cX1_pay 105 = .ok (.putfield 191, 3) := dk_181 0 191 (dk_at dksX1_pay_4 12 rfl rfl)
theorem dX1_pay_108 : decode cX1_pay 108 = .ok (.aload 4, 2) := dk_25 4 (dk_at dksX1_pay_4 15 rfl rfl)
theorem dX1_pay_110 : decode cX1_pay 110 = .ok (.aload 5, 2) := dk_25 5 (dk_at dksX1_pay_4 17 rfl rfl)
theorem dX1_pay_112 : decode cX1_pay 112 = .ok (.iload_n 3, 1) := dk_29 (dk_at dksX1_pay_4 19 rfl rfl)
theorem dX1_pay_113 : decode cX1_pay 113 = .ok (.ineg, 1) := dk_116 (dk_at dksX1_pay_4 20 rfl rfl)
theorem dX1_pay_114 : decode cX1_pay 114 = .ok (.i2l, 1) := dk_133 (dk_at dksX1_pay_4 21 rfl rfl)
theorem dX1_pay_115 : decode cX1_pay 115 = .ok (.invokestatic 262, 3) := dk_184 1 6 (dk_at dksX1_pay_5 0 rfl rfl)
theorem dX1_pay_118 : decode cX1_pay 118 = .ok (.aload 4, 2) := dk_25 4 (dk_at dksX1_pay_5 3 rfl rfl)
theorem dX1_pay_120 : decode cX1_pay 120 = .ok (.getfield 88, 3) := dk_180 0 88 (dk_at dksX1_pay_5 5 rfl rfl)
theorem dX1_pay_123 : decode cX1_pay 123 = .ok (.iload_n 2, 1) := dk_28 (dk_at dksX1_pay_5 8 rfl rfl)
theorem dX1_pay_124 : decode cX1_pay 124 = .ok (.laload, 1) := dk_47 (dk_at dksX1_pay_5 9 rfl rfl)
theorem dX1_pay_125 : decode cX1_pay 125 = .ok (.l2i, 1) := dk_136 (dk_at dksX1_pay_5 10 rfl rfl)
theorem dX1_pay_126 : decode cX1_pay 126 = .ok (.ireturn, 1) := dk_172 (dk_at dksX1_pay_5 11 rfl rfl)
abbrev cX1_needTwo : ByteArray := prog_1_method_38_code
def yX1_needTwo : MethodName := ⟨RX1, "needTwo", "(II)V"⟩
def dkwX1_needTwo_1 : List UInt8 := [159, 0, 7, 4, 167, 0, 4, 3, 184, 0, 85, 177]
abbrev dktX1_needTwo_1 : List UInt8 := dkwX1_needTwo_1 ++ []
def dkwX1_needTwo_0 : List UInt8 := [42, 180, 0, 53, 182, 0, 155, 27, 184, 0, 37, 42, 180, 0, 53, 182, 0, 155, 28, 184, 0, 37, 27, 28]
abbrev dktX1_needTwo_0 : List UInt8 := dkwX1_needTwo_0 ++ dktX1_needTwo_1
theorem dksX1_needTwo_0 : cX1_needTwo.data.toList.drop 0 = dktX1_needTwo_0 := by decide +kernel
theorem dksX1_needTwo_1 : cX1_needTwo.data.toList.drop 24 = dktX1_needTwo_1 := dk_seg dksX1_needTwo_0 24 rfl rfl
theorem dX1_needTwo_0 : decode cX1_needTwo 0 = .ok (.aload_n 0, 1) := dk_42 (dk_at dksX1_needTwo_0 0 rfl rfl)
theorem dX1_needTwo_1 : decode cX1_needTwo 1 = .ok (.getfield 53, 3) := dk_180 0 53 (dk_at dksX1_needTwo_0 1 rfl rfl)
theorem dX1_needTwo_4 : decode cX1_needTwo 4 = .ok (.invokevirtual 155, 3) := dk_182 0 155 (dk_at dksX1_needTwo_0 4 rfl rfl)
theorem dX1_needTwo_7 : decode cX1_needTwo 7 = .ok (.iload_n 1, 1) := dk_27 (dk_at dksX1_needTwo_0 7 rfl rfl)
theorem dX1_needTwo_8 : decode cX1_needTwo 8 = .ok (.invokestatic 37, 3) := dk_184 0 37 (dk_at dksX1_needTwo_0 8 rfl rfl)
theorem dX1_needTwo_11 : decode cX1_needTwo 11 = .ok (.aload_n 0, 1) := dk_42 (dk_at dksX1_needTwo_0 11 rfl rfl)
theorem dX1_needTwo_12 : decode cX1_needTwo 12 = .ok (.getfield 53, 3) := dk_180 0 53 (dk_at dksX1_needTwo_0 12 rfl rfl)
theorem dX1_needTwo_15 : decode cX1_needTwo 15 = .ok (.invokevirtual 155, 3) := dk_182 0 155 (dk_at dksX1_needTwo_0 15 rfl rfl)
theorem dX1_needTwo_18 : decode cX1_needTwo 18 = .ok (.iload_n 2, 1) := dk_28 (dk_at dksX1_needTwo_0 18 rfl rfl)
theorem dX1_needTwo_19 : decode cX1_needTwo 19 = .ok (.invokestatic 37, 3) := dk_184 0 37 (dk_at dksX1_needTwo_0 19 rfl rfl)
theorem dX1_needTwo_22 : decode cX1_needTwo 22 = .ok (.iload_n 1, 1) := dk_27 (dk_at dksX1_needTwo_0 22 rfl rfl)
theorem dX1_needTwo_23 : decode cX1_needTwo 23 = .ok (.iload_n 2, 1) := dk_28 (dk_at dksX1_needTwo_0 23 rfl rfl)
theorem dX1_needTwo_24 : decode cX1_needTwo 24 = .ok (.if_icmp .eq 7, 3) := dk_159 0 7 (dk_at dksX1_needTwo_1 0 rfl rfl)
theorem dX1_needTwo_27 : decode cX1_needTwo 27 = .ok (.iconst 1, 1) := dk_4 (dk_at dksX1_needTwo_1 3 rfl rfl)
theorem dX1_needTwo_28 : decode cX1_needTwo 28 = .ok (.goto 4, 3) := dk_167 0 4 (dk_at dksX1_needTwo_1 4 rfl rfl)
theorem dX1_needTwo_31 : decode cX1_needTwo 31 = .ok (.iconst 0, 1) := dk_3 (dk_at dksX1_needTwo_1 7 rfl rfl)
theorem dX1_needTwo_32 : decode cX1_needTwo 32 = .ok (.invokestatic 85, 3) := dk_184 0 85 (dk_at dksX1_needTwo_1 8 rfl rfl)
theorem dX1_needTwo_35 : decode cX1_needTwo 35 = .ok (.return_, 1) := dk_177 (dk_at dksX1_needTwo_1 11 rfl rfl)
abbrev cX1_deliver : ByteArray := prog_1_method_40_code
def yX1_deliver : MethodName := ⟨RX1, "deliver", "(III)I"⟩
def dkwX1_deliver_3 : List UInt8 := [3, 184, 0, 156, 25, 4, 25, 5, 29, 116, 133, 184, 1, 6, 25, 4, 180, 0, 88, 28, 47, 136, 172]
abbrev dktX1_deliver_3 : List UInt8 := dkwX1_deliver_3 ++ []
def dkwX1_deliver_2 : List UInt8 := [180, 0, 117, 5, 159, 0, 20, 25, 4, 180, 0, 88, 28, 47, 29, 133, 148, 155, 0, 7, 4, 167, 0, 4]
abbrev dktX1_deliver_2 : List UInt8 := dkwX1_deliver_2 ++ dktX1_deliver_3
def dkwX1_deliver_1 : List UInt8 := [180, 0, 53, 28, 182, 1, 76, 192, 0, 83, 58, 5, 25, 4, 180, 0, 117, 5, 159, 0, 29, 25, 5]
abbrev dktX1_deliver_1 : List UInt8 := dkwX1_deliver_1 ++ dktX1_deliver_2
def dkwX1_deliver_0 : List UInt8 := [42, 27, 28, 182, 1, 73, 29, 184, 0, 176, 42, 180, 0, 53, 27, 182, 1, 76, 192, 0, 83, 58, 4, 42]
abbrev dktX1_deliver_0 : List UInt8 := dkwX1_deliver_0 ++ dktX1_deliver_1
theorem dksX1_deliver_0 : cX1_deliver.data.toList.drop 0 = dktX1_deliver_0 := by decide +kernel
theorem dksX1_deliver_1 : cX1_deliver.data.toList.drop 24 = dktX1_deliver_1 := dk_seg dksX1_deliver_0 24 rfl rfl
theorem dksX1_deliver_2 : cX1_deliver.data.toList.drop 47 = dktX1_deliver_2 := dk_seg dksX1_deliver_1 23 rfl rfl
theorem dksX1_deliver_3 : cX1_deliver.data.toList.drop 71 = dktX1_deliver_3 := dk_seg dksX1_deliver_2 24 rfl rfl
theorem dX1_deliver_0 : decode cX1_deliver 0 = .ok (.aload_n 0, 1) := dk_42 (dk_at dksX1_deliver_0 0 rfl rfl)
theorem dX1_deliver_1 : decode cX1_deliver 1 = .ok (.iload_n 1, 1) := dk_27 (dk_at dksX1_deliver_0 1 rfl rfl)
theorem dX1_deliver_2 : decode cX1_deliver 2 = .ok (.iload_n 2, 1) := dk_28 (dk_at dksX1_deliver_0 2 rfl rfl)
theorem dX1_deliver_3 : decode cX1_deliver 3 = .ok (.invokevirtual 329, 3) := dk_182 1 73 (dk_at dksX1_deliver_0 3 rfl rfl)
theorem dX1_deliver_6 : decode cX1_deliver 6 = .ok (.iload_n 3, 1) := dk_29 (dk_at dksX1_deliver_0 6 rfl rfl)
theorem dX1_deliver_7 : decode cX1_deliver 7 = .ok (.invokestatic 176, 3) := dk_184 0 176 (dk_at dksX1_deliver_0 7 rfl rfl)
theorem dX1_deliver_10 : decode cX1_deliver 10 = .ok (.aload_n 0, 1) := dk_42 (dk_at dksX1_deliver_0 10 rfl rfl)
theorem dX1_deliver_11 : decode cX1_deliver 11 = .ok (.getfield 53, 3) := dk_180 0 53 (dk_at dksX1_deliver_0 11 rfl rfl)
theorem dX1_deliver_14 : decode cX1_deliver 14 = .ok (.iload_n 1, 1) := dk_27 (dk_at dksX1_deliver_0 14 rfl rfl)
theorem dX1_deliver_15 : decode cX1_deliver 15 = .ok (.invokevirtual 332, 3) := dk_182 1 76 (dk_at dksX1_deliver_0 15 rfl rfl)
theorem dX1_deliver_18 : decode cX1_deliver 18 = .ok (.checkcast 83, 3) := dk_192 0 83 (dk_at dksX1_deliver_0 18 rfl rfl)
theorem dX1_deliver_21 : decode cX1_deliver 21 = .ok (.astore 4, 2) := dk_58 4 (dk_at dksX1_deliver_0 21 rfl rfl)
theorem dX1_deliver_23 : decode cX1_deliver 23 = .ok (.aload_n 0, 1) := dk_42 (dk_at dksX1_deliver_0 23 rfl rfl)
theorem dX1_deliver_24 : decode cX1_deliver 24 = .ok (.getfield 53, 3) := dk_180 0 53 (dk_at dksX1_deliver_1 0 rfl rfl)
theorem dX1_deliver_27 : decode cX1_deliver 27 = .ok (.iload_n 2, 1) := dk_28 (dk_at dksX1_deliver_1 3 rfl rfl)
theorem dX1_deliver_28 : decode cX1_deliver 28 = .ok (.invokevirtual 332, 3) := dk_182 1 76 (dk_at dksX1_deliver_1 4 rfl rfl)
theorem dX1_deliver_31 : decode cX1_deliver 31 = .ok (.checkcast 83, 3) := dk_192 0 83 (dk_at dksX1_deliver_1 7 rfl rfl)
theorem dX1_deliver_34 : decode cX1_deliver 34 = .ok (.astore 5, 2) := dk_58 5 (dk_at dksX1_deliver_1 10 rfl rfl)
theorem dX1_deliver_36 : decode cX1_deliver 36 = .ok (.aload 4, 2) := dk_25 4 (dk_at dksX1_deliver_1 12 rfl rfl)
theorem dX1_deliver_38 : decode cX1_deliver 38 = .ok (.getfield 117, 3) := dk_180 0 117 (dk_at dksX1_deliver_1 14 rfl rfl)
theorem dX1_deliver_41 : decode cX1_deliver 41 = .ok (.iconst 2, 1) := dk_5 (dk_at dksX1_deliver_1 17 rfl rfl)
theorem dX1_deliver_42 : decode cX1_deliver 42 = .ok (.if_icmp .eq 29, 3) := dk_159 0 29 (dk_at dksX1_deliver_1 18 rfl rfl)
theorem dX1_deliver_45 : decode cX1_deliver 45 = .ok (.aload 5, 2) := dk_25 5 (dk_at dksX1_deliver_1 21 rfl rfl)
theorem dX1_deliver_47 : decode cX1_deliver 47 = .ok (.getfield 117, 3) := dk_180 0 117 (dk_at dksX1_deliver_2 0 rfl rfl)
theorem dX1_deliver_50 : decode cX1_deliver 50 = .ok (.iconst 2, 1) := dk_5 (dk_at dksX1_deliver_2 3 rfl rfl)
theorem dX1_deliver_51 : decode cX1_deliver 51 = .ok (.if_icmp .eq 20, 3) := dk_159 0 20 (dk_at dksX1_deliver_2 4 rfl rfl)
theorem dX1_deliver_54 : decode cX1_deliver 54 = .ok (.aload 4, 2) := dk_25 4 (dk_at dksX1_deliver_2 7 rfl rfl)
theorem dX1_deliver_56 : decode cX1_deliver 56 = .ok (.getfield 88, 3) := dk_180 0 88 (dk_at dksX1_deliver_2 9 rfl rfl)
theorem dX1_deliver_59 : decode cX1_deliver 59 = .ok (.iload_n 2, 1) := dk_28 (dk_at dksX1_deliver_2 12 rfl rfl)
theorem dX1_deliver_60 : decode cX1_deliver 60 = .ok (.laload, 1) := dk_47 (dk_at dksX1_deliver_2 13 rfl rfl)
theorem dX1_deliver_61 : decode cX1_deliver 61 = .ok (.iload_n 3, 1) := dk_29 (dk_at dksX1_deliver_2 14 rfl rfl)
theorem dX1_deliver_62 : decode cX1_deliver 62 = .ok (.i2l, 1) := dk_133 (dk_at dksX1_deliver_2 15 rfl rfl)
theorem dX1_deliver_63 : decode cX1_deliver 63 = .ok (.lcmp, 1) := dk_148 (dk_at dksX1_deliver_2 16 rfl rfl)
theorem dX1_deliver_64 : decode cX1_deliver 64 = .ok (.ifCond .lt 7, 3) := dk_155 0 7 (dk_at dksX1_deliver_2 17 rfl rfl)
theorem dX1_deliver_67 : decode cX1_deliver 67 = .ok (.iconst 1, 1) := dk_4 (dk_at dksX1_deliver_2 20 rfl rfl)
theorem dX1_deliver_68 : decode cX1_deliver 68 = .ok (.goto 4, 3) := dk_167 0 4 (dk_at dksX1_deliver_2 21 rfl rfl)
theorem dX1_deliver_71 : decode cX1_deliver 71 = .ok (.iconst 0, 1) := dk_3 (dk_at dksX1_deliver_3 0 rfl rfl)
theorem dX1_deliver_72 : decode cX1_deliver 72 = .ok (.invokestatic 156, 3) := dk_184 0 156 (dk_at dksX1_deliver_3 1 rfl rfl)
theorem dX1_deliver_75 : decode cX1_deliver 75 = .ok (.aload 4, 2) := dk_25 4 (dk_at dksX1_deliver_3 4 rfl rfl)
theorem dX1_deliver_77 : decode cX1_deliver 77 = .ok (.aload 5, 2) := dk_25 5 (dk_at dksX1_deliver_3 6 rfl rfl)
theorem dX1_deliver_79 : decode cX1_deliver 79 = .ok (.iload_n 3, 1) := dk_29 (dk_at dksX1_deliver_3 8 rfl rfl)
theorem dX1_deliver_80 : decode cX1_deliver 80 = .ok (.ineg, 1) := dk_116 (dk_at dksX1_deliver_3 9 rfl rfl)
theorem dX1_deliver_81 : decode cX1_deliver 81 = .ok (.i2l, 1) := dk_133 (dk_at dksX1_deliver_3 10 rfl rfl)
theorem dX1_deliver_82 : decode cX1_deliver 82 = .ok (.invokestatic 262, 3) := dk_184 1 6 (dk_at dksX1_deliver_3 11 rfl rfl)
theorem dX1_deliver_85 : decode cX1_deliver 85 = .ok (.aload 4, 2) := dk_25 4 (dk_at dksX1_deliver_3 14 rfl rfl)
theorem dX1_deliver_87 : decode cX1_deliver 87 = .ok (.getfield 88, 3) := dk_180 0 88 (dk_at dksX1_deliver_3 16 rfl rfl)
theorem dX1_deliver_90 : decode cX1_deliver 90 = .ok (.iload_n 2, 1) := dk_28 (dk_at dksX1_deliver_3 19 rfl rfl)
theorem dX1_deliver_91 : decode cX1_deliver 91 = .ok (.laload, 1) := dk_47 (dk_at dksX1_deliver_3 20 rfl rfl)
theorem dX1_deliver_92 : decode cX1_deliver 92 = .ok (.l2i, 1) := dk_136 (dk_at dksX1_deliver_3 21 rfl rfl)
theorem dX1_deliver_93 : decode cX1_deliver 93 = .ok (.ireturn, 1) := dk_172 (dk_at dksX1_deliver_3 22 rfl rfl)
abbrev cX1_courier : ByteArray := prog_1_method_41_code
def yX1_courier : MethodName := ⟨RX1, "courier", "(IIII)I"⟩
def dkwX1_courier_5 : List UInt8 := [182, 0, 162, 87, 42, 180, 0, 60, 182, 0, 155, 4, 100, 172]
abbrev dktX1_courier_5 : List UInt8 := dkwX1_courier_5 ++ []
def dkwX1_courier_4 : List UInt8 := [25, 5, 42, 180, 0, 53, 28, 182, 1, 76, 192, 0, 83, 29, 42, 180, 0, 185, 21, 4, 96, 183, 1, 77]
abbrev dktX1_courier_4 : List UInt8 := dkwX1_courier_4 ++ dktX1_courier_5
def dkwX1_courier_3 : List UInt8 := [184, 0, 156, 25, 5, 89, 180, 0, 191, 29, 133, 101, 181, 0, 191, 42, 180, 0, 60, 187, 0, 252, 89]
abbrev dktX1_courier_3 : List UInt8 := dkwX1_courier_3 ++ dktX1_courier_4
def dkwX1_courier_2 : List UInt8 := [25, 5, 180, 0, 117, 154, 0, 18, 25, 5, 180, 0, 191, 29, 133, 148, 155, 0, 7, 4, 167, 0, 4, 3]
abbrev dktX1_courier_2 : List UInt8 := dkwX1_courier_2 ++ dktX1_courier_3
def dkwX1_courier_1 : List UInt8 := [180, 0, 53, 27, 182, 1, 76, 192, 0, 83, 58, 5, 42, 180, 0, 60, 182, 0, 155, 16, 40, 162, 0, 26]
abbrev dktX1_courier_1 : List UInt8 := dkwX1_courier_1 ++ dktX1_courier_2
def dkwX1_courier_0 : List UInt8 := [42, 27, 28, 182, 1, 73, 29, 184, 0, 176, 4, 17, 1, 244, 21, 4, 184, 0, 21, 184, 0, 85, 42]
abbrev dktX1_courier_0 : List UInt8 := dkwX1_courier_0 ++ dktX1_courier_1
theorem dksX1_courier_0 : cX1_courier.data.toList.drop 0 = dktX1_courier_0 := by decide +kernel
theorem dksX1_courier_1 : cX1_courier.data.toList.drop 23 = dktX1_courier_1 := dk_seg dksX1_courier_0 23 rfl rfl
theorem dksX1_courier_2 : cX1_courier.data.toList.drop 47 = dktX1_courier_2 := dk_seg dksX1_courier_1 24 rfl rfl
theorem dksX1_courier_3 : cX1_courier.data.toList.drop 71 = dktX1_courier_3 := dk_seg dksX1_courier_2 24 rfl rfl
theorem dksX1_courier_4 : cX1_courier.data.toList.drop 94 = dktX1_courier_4 := dk_seg dksX1_courier_3 23 rfl rfl
theorem dksX1_courier_5 : cX1_courier.data.toList.drop 118 = dktX1_courier_5 := dk_seg dksX1_courier_4 24 rfl rfl
theorem dX1_courier_0 : decode cX1_courier 0 = .ok (.aload_n 0, 1) := dk_42 (dk_at dksX1_courier_0 0 rfl rfl)
theorem dX1_courier_1 : decode cX1_courier 1 = .ok (.iload_n 1, 1) := dk_27 (dk_at dksX1_courier_0 1 rfl rfl)
theorem dX1_courier_2 : decode cX1_courier 2 = .ok (.iload_n 2, 1) := dk_28 (dk_at dksX1_courier_0 2 rfl rfl)
theorem dX1_courier_3 : decode cX1_courier 3 = .ok (.invokevirtual 329, 3) := dk_182 1 73 (dk_at dksX1_courier_0 3 rfl rfl)
theorem dX1_courier_6 : decode cX1_courier 6 = .ok (.iload_n 3, 1) := dk_29 (dk_at dksX1_courier_0 6 rfl rfl)
theorem dX1_courier_7 : decode cX1_courier 7 = .ok (.invokestatic 176, 3) := dk_184 0 176 (dk_at dksX1_courier_0 7 rfl rfl)
theorem dX1_courier_10 : decode cX1_courier 10 = .ok (.iconst 1, 1) := dk_4 (dk_at dksX1_courier_0 10 rfl rfl)
theorem dX1_courier_11 : decode cX1_courier 11 = .ok (.sipush 500, 3) := dk_17 1 244 (dk_at dksX1_courier_0 11 rfl rfl)
theorem dX1_courier_14 : decode cX1_courier 14 = .ok (.iload 4, 2) := dk_21 4 (dk_at dksX1_courier_0 14 rfl rfl)
theorem dX1_courier_16 : decode cX1_courier 16 = .ok (.invokestatic 21, 3) := dk_184 0 21 (dk_at dksX1_courier_0 16 rfl rfl)
theorem dX1_courier_19 : decode cX1_courier 19 = .ok (.invokestatic 85, 3) := dk_184 0 85 (dk_at dksX1_courier_0 19 rfl rfl)
theorem dX1_courier_22 : decode cX1_courier 22 = .ok (.aload_n 0, 1) := dk_42 (dk_at dksX1_courier_0 22 rfl rfl)
theorem dX1_courier_23 : decode cX1_courier 23 = .ok (.getfield 53, 3) := dk_180 0 53 (dk_at dksX1_courier_1 0 rfl rfl)
theorem dX1_courier_26 : decode cX1_courier 26 = .ok (.iload_n 1, 1) := dk_27 (dk_at dksX1_courier_1 3 rfl rfl)
theorem dX1_courier_27 : decode cX1_courier 27 = .ok (.invokevirtual 332, 3) := dk_182 1 76 (dk_at dksX1_courier_1 4 rfl rfl)
theorem dX1_courier_30 : decode cX1_courier 30 = .ok (.checkcast 83, 3) := dk_192 0 83 (dk_at dksX1_courier_1 7 rfl rfl)
theorem dX1_courier_33 : decode cX1_courier 33 = .ok (.astore 5, 2) := dk_58 5 (dk_at dksX1_courier_1 10 rfl rfl)
theorem dX1_courier_35 : decode cX1_courier 35 = .ok (.aload_n 0, 1) := dk_42 (dk_at dksX1_courier_1 12 rfl rfl)
theorem dX1_courier_36 : decode cX1_courier 36 = .ok (.getfield 60, 3) := dk_180 0 60 (dk_at dksX1_courier_1 13 rfl rfl)
theorem dX1_courier_39 : decode cX1_courier 39 = .ok (.invokevirtual 155, 3) := dk_182 0 155 (dk_at dksX1_courier_1 16 rfl rfl)
theorem dX1_courier_42 : decode cX1_courier 42 = .ok (.bipush 40, 2) := dk_16 40 (dk_at dksX1_courier_1 19 rfl rfl)
theorem dX1_courier_44 : decode cX1_courier 44 = .ok (.if_icmp .ge 26, 3) := dk_162 0 26 (dk_at dksX1_courier_1 21 rfl rfl)
theorem dX1_courier_47 : decode cX1_courier 47 = .ok (.aload 5, 2) := dk_25 5 (dk_at dksX1_courier_2 0 rfl rfl)
theorem dX1_courier_49 : decode cX1_courier 49 = .ok (.getfield 117, 3) := dk_180 0 117 (dk_at dksX1_courier_2 2 rfl rfl)
theorem dX1_courier_52 : decode cX1_courier 52 = .ok (.ifCond .ne 18, 3) := dk_154 0 18 (dk_at dksX1_courier_2 5 rfl rfl)
theorem dX1_courier_55 : decode cX1_courier 55 = .ok (.aload 5, 2) := dk_25 5 (dk_at dksX1_courier_2 8 rfl rfl)
theorem dX1_courier_57 : decode cX1_courier 57 = .ok (.getfield 191, 3) := dk_180 0 191 (dk_at dksX1_courier_2 10 rfl rfl)
theorem dX1_courier_60 : decode cX1_courier 60 = .ok (.iload_n 3, 1) := dk_29 (dk_at dksX1_courier_2 13 rfl rfl)
theorem dX1_courier_61 : decode cX1_courier 61 = .ok (.i2l, 1) := dk_133 (dk_at dksX1_courier_2 14 rfl rfl)
theorem dX1_courier_62 : decode cX1_courier 62 = .ok (.lcmp, 1) := dk_148 (dk_at dksX1_courier_2 15 rfl rfl)
theorem dX1_courier_63 : decode cX1_courier 63 = .ok (.ifCond .lt 7, 3) := dk_155 0 7 (dk_at dksX1_courier_2 16 rfl rfl)
theorem dX1_courier_66 : decode cX1_courier 66 = .ok (.iconst 1, 1) := dk_4 (dk_at dksX1_courier_2 19 rfl rfl)
theorem dX1_courier_67 : decode cX1_courier 67 = .ok (.goto 4, 3) := dk_167 0 4 (dk_at dksX1_courier_2 20 rfl rfl)
theorem dX1_courier_70 : decode cX1_courier 70 = .ok (.iconst 0, 1) := dk_3 (dk_at dksX1_courier_2 23 rfl rfl)
theorem dX1_courier_71 : decode cX1_courier 71 = .ok (.invokestatic 156, 3) := dk_184 0 156 (dk_at dksX1_courier_3 0 rfl rfl)
theorem dX1_courier_74 : decode cX1_courier 74 = .ok (.aload 5, 2) := dk_25 5 (dk_at dksX1_courier_3 3 rfl rfl)
theorem dX1_courier_76 : decode cX1_courier 76 = .ok (.dup, 1) := dk_89 (dk_at dksX1_courier_3 5 rfl rfl)
theorem dX1_courier_77 : decode cX1_courier 77 = .ok (.getfield 191, 3) := dk_180 0 191 (dk_at dksX1_courier_3 6 rfl rfl)
theorem dX1_courier_80 : decode cX1_courier 80 = .ok (.iload_n 3, 1) := dk_29 (dk_at dksX1_courier_3 9 rfl rfl)
theorem dX1_courier_81 : decode cX1_courier 81 = .ok (.i2l, 1) := dk_133 (dk_at dksX1_courier_3 10 rfl rfl)
theorem dX1_courier_82 : decode cX1_courier 82 = .ok (.lsub, 1) := dk_101 (dk_at dksX1_courier_3 11 rfl rfl)
theorem dX1_courier_83 : decode cX1_courier 83 = .ok (.putfield 191, 3) := dk_181 0 191 (dk_at dksX1_courier_3 12 rfl rfl)
theorem dX1_courier_86 : decode cX1_courier 86 = .ok (.aload_n 0, 1) := dk_42 (dk_at dksX1_courier_3 15 rfl rfl)
theorem dX1_courier_87 : decode cX1_courier 87 = .ok (.getfield 60, 3) := dk_180 0 60 (dk_at dksX1_courier_3 16 rfl rfl)
theorem dX1_courier_90 : decode cX1_courier 90 = .ok (.new 252, 3) := dk_187 0 252 (dk_at dksX1_courier_3 19 rfl rfl)
theorem dX1_courier_93 : decode cX1_courier 93 = .ok (.dup, 1) := dk_89 (dk_at dksX1_courier_3 22 rfl rfl)
theorem dX1_courier_94 : decode cX1_courier 94 = .ok (.aload 5, 2) := dk_25 5 (dk_at dksX1_courier_4 0 rfl rfl)
theorem dX1_courier_96 : decode cX1_courier 96 = .ok (.aload_n 0, 1) := dk_42 (dk_at dksX1_courier_4 2 rfl rfl)
theorem dX1_courier_97 : decode cX1_courier 97 = .ok (.getfield 53, 3) := dk_180 0 53 (dk_at dksX1_courier_4 3 rfl rfl)
theorem dX1_courier_100 : decode cX1_courier 100 = .ok (.iload_n 2, 1) := dk_28 (dk_at dksX1_courier_4 6 rfl rfl)
theorem dX1_courier_101 : decode cX1_courier 101 = .ok (.invokevirtual 332, 3) := dk_182 1 76 (dk_at dksX1_courier_4 7 rfl rfl)
theorem dX1_courier_104 : decode cX1_courier 104 = .ok (.checkcast 83, 3) := dk_192 0 83 (dk_at dksX1_courier_4 10 rfl rfl)
theorem dX1_courier_107 : decode cX1_courier 107 = .ok (.iload_n 3, 1) := dk_29 (dk_at dksX1_courier_4 13 rfl rfl)
theorem dX1_courier_108 : decode cX1_courier 108 = .ok (.aload_n 0, 1) := dk_42 (dk_at dksX1_courier_4 14 rfl rfl)
theorem dX1_courier_109 : decode cX1_courier 109 = .ok (.getfield 185, 3) := dk_180 0 185 (dk_at dksX1_courier_4 15 rfl rfl)
theorem dX1_courier_112 : decode cX1_courier 112 = .ok (.iload 4, 2) := dk_21 4 (dk_at dksX1_courier_4 18 rfl rfl)
theorem dX1_courier_114 : decode cX1_courier 114 = .ok (.iadd, 1) := dk_96 (dk_at dksX1_courier_4 20 rfl rfl)
theorem dX1_courier_115 : decode cX1_courier 115 = .ok (.invokespecial 333, 3) := dk_183 1 77 (dk_at dksX1_courier_4 21 rfl rfl)
theorem dX1_courier_118 : decode cX1_courier 118 = .ok (.invokevirtual 162, 3) := dk_182 0 162 (dk_at dksX1_courier_5 0 rfl rfl)
theorem dX1_courier_121 : decode cX1_courier 121 = .ok (.pop, 1) := dk_87 (dk_at dksX1_courier_5 3 rfl rfl)
theorem dX1_courier_122 : decode cX1_courier 122 = .ok (.aload_n 0, 1) := dk_42 (dk_at dksX1_courier_5 4 rfl rfl)
theorem dX1_courier_123 : decode cX1_courier 123 = .ok (.getfield 60, 3) := dk_180 0 60 (dk_at dksX1_courier_5 5 rfl rfl)
theorem dX1_courier_126 : decode cX1_courier 126 = .ok (.invokevirtual 155, 3) := dk_182 0 155 (dk_at dksX1_courier_5 8 rfl rfl)
theorem dX1_courier_129 : decode cX1_courier 129 = .ok (.iconst 1, 1) := dk_4 (dk_at dksX1_courier_5 11 rfl rfl)
theorem dX1_courier_130 : decode cX1_courier 130 = .ok (.isub, 1) := dk_100 (dk_at dksX1_courier_5 12 rfl rfl)
theorem dX1_courier_131 : decode cX1_courier 131 = .ok (.ireturn, 1) := dk_172 (dk_at dksX1_courier_5 13 rfl rfl)
abbrev cX1_rob : ByteArray := prog_1_method_42_code
def yX1_rob : MethodName := ⟨RX1, "rob", "(I)I"⟩
def dkwX1_rob_2 : List UInt8 := [180, 1, 4, 172]
abbrev dktX1_rob_2 : List UInt8 := dkwX1_rob_2 ++ []
def dkwX1_rob_1 : List UInt8 := [184, 0, 156, 44, 4, 181, 0, 251, 42, 180, 0, 74, 6, 92, 47, 44, 180, 1, 4, 133, 97, 80, 44]
abbrev dktX1_rob_1 : List UInt8 := dkwX1_rob_1 ++ dktX1_rob_2
def dkwX1_rob_0 : List UInt8 := [42, 180, 0, 60, 27, 184, 0, 79, 192, 0, 252, 77, 44, 180, 0, 251, 154, 0, 7, 4, 167, 0, 4, 3]
abbrev dktX1_rob_0 : List UInt8 := dkwX1_rob_0 ++ dktX1_rob_1
theorem dksX1_rob_0 : cX1_rob.data.toList.drop 0 = dktX1_rob_0 := by decide +kernel
theorem dksX1_rob_1 : cX1_rob.data.toList.drop 24 = dktX1_rob_1 := dk_seg dksX1_rob_0 24 rfl rfl
theorem dksX1_rob_2 : cX1_rob.data.toList.drop 47 = dktX1_rob_2 := dk_seg dksX1_rob_1 23 rfl rfl
theorem dX1_rob_0 : decode cX1_rob 0 = .ok (.aload_n 0, 1) := dk_42 (dk_at dksX1_rob_0 0 rfl rfl)
theorem dX1_rob_1 : decode cX1_rob 1 = .ok (.getfield 60, 3) := dk_180 0 60 (dk_at dksX1_rob_0 1 rfl rfl)
theorem dX1_rob_4 : decode cX1_rob 4 = .ok (.iload_n 1, 1) := dk_27 (dk_at dksX1_rob_0 4 rfl rfl)
theorem dX1_rob_5 : decode cX1_rob 5 = .ok (.invokestatic 79, 3) := dk_184 0 79 (dk_at dksX1_rob_0 5 rfl rfl)
theorem dX1_rob_8 : decode cX1_rob 8 = .ok (.checkcast 252, 3) := dk_192 0 252 (dk_at dksX1_rob_0 8 rfl rfl)
theorem dX1_rob_11 : decode cX1_rob 11 = .ok (.astore_n 2, 1) := dk_77 (dk_at dksX1_rob_0 11 rfl rfl)
theorem dX1_rob_12 : decode cX1_rob 12 = .ok (.aload_n 2, 1) := dk_44 (dk_at dksX1_rob_0 12 rfl rfl)
theorem dX1_rob_13 : decode cX1_rob 13 = .ok (.getfield 251, 3) := dk_180 0 251 (dk_at dksX1_rob_0 13 rfl rfl)
theorem dX1_rob_16 : decode cX1_rob 16 = .ok (.ifCond .ne 7, 3) := dk_154 0 7 (dk_at dksX1_rob_0 16 rfl rfl)
theorem dX1_rob_19 : decode cX1_rob 19 = .ok (.iconst 1, 1) := dk_4 (dk_at dksX1_rob_0 19 rfl rfl)
theorem dX1_rob_20 : decode cX1_rob 20 = .ok (.goto 4, 3) := dk_167 0 4 (dk_at dksX1_rob_0 20 rfl rfl)
theorem dX1_rob_23 : decode cX1_rob 23 = .ok (.iconst 0, 1) := dk_3 (dk_at dksX1_rob_0 23 rfl rfl)
theorem dX1_rob_24 : decode cX1_rob 24 = .ok (.invokestatic 156, 3) := dk_184 0 156 (dk_at dksX1_rob_1 0 rfl rfl)
theorem dX1_rob_27 : decode cX1_rob 27 = .ok (.aload_n 2, 1) := dk_44 (dk_at dksX1_rob_1 3 rfl rfl)
theorem dX1_rob_28 : decode cX1_rob 28 = .ok (.iconst 1, 1) := dk_4 (dk_at dksX1_rob_1 4 rfl rfl)
theorem dX1_rob_29 : decode cX1_rob 29 = .ok (.putfield 251, 3) := dk_181 0 251 (dk_at dksX1_rob_1 5 rfl rfl)
theorem dX1_rob_32 : decode cX1_rob 32 = .ok (.aload_n 0, 1) := dk_42 (dk_at dksX1_rob_1 8 rfl rfl)
theorem dX1_rob_33 : decode cX1_rob 33 = .ok (.getfield 74, 3) := dk_180 0 74 (dk_at dksX1_rob_1 9 rfl rfl)
theorem dX1_rob_36 : decode cX1_rob 36 = .ok (.iconst 3, 1) := dk_6 (dk_at dksX1_rob_1 12 rfl rfl)
theorem dX1_rob_37 : decode cX1_rob 37 = .ok (.dup2, 1) := dk_92 (dk_at dksX1_rob_1 13 rfl rfl)
theorem dX1_rob_38 : decode cX1_rob 38 = .ok (.laload, 1) := dk_47 (dk_at dksX1_rob_1 14 rfl rfl)
theorem dX1_rob_39 : decode cX1_rob 39 = .ok (.aload_n 2, 1) := dk_44 (dk_at dksX1_rob_1 15 rfl rfl)
theorem dX1_rob_40 : decode cX1_rob 40 = .ok (.getfield 260, 3) := dk_180 1 4 (dk_at dksX1_rob_1 16 rfl rfl)
theorem dX1_rob_43 : decode cX1_rob 43 = .ok (.i2l, 1) := dk_133 (dk_at dksX1_rob_1 19 rfl rfl)
theorem dX1_rob_44 : decode cX1_rob 44 = .ok (.ladd, 1) := dk_97 (dk_at dksX1_rob_1 20 rfl rfl)
theorem dX1_rob_45 : decode cX1_rob 45 = .ok (.lastore, 1) := dk_80 (dk_at dksX1_rob_1 21 rfl rfl)
theorem dX1_rob_46 : decode cX1_rob 46 = .ok (.aload_n 2, 1) := dk_44 (dk_at dksX1_rob_1 22 rfl rfl)
theorem dX1_rob_47 : decode cX1_rob 47 = .ok (.getfield 260, 3) := dk_180 1 4 (dk_at dksX1_rob_2 0 rfl rfl)
theorem dX1_rob_50 : decode cX1_rob 50 = .ok (.ireturn, 1) := dk_172 (dk_at dksX1_rob_2 3 rfl rfl)
abbrev cX1_law : ByteArray := prog_1_method_46_code
def yX1_law : MethodName := ⟨RX1, "law", "(II)I"⟩
def dkwX1_law_1 : List UInt8 := [180, 0, 67, 27, 46, 172]
abbrev dktX1_law_1 : List UInt8 := dkwX1_law_1 ++ []
def dkwX1_law_0 : List UInt8 := [27, 184, 0, 148, 3, 18, 78, 28, 184, 0, 21, 184, 0, 85, 42, 180, 0, 63, 27, 28, 79, 42]
abbrev dktX1_law_0 : List UInt8 := dkwX1_law_0 ++ dktX1_law_1
theorem dksX1_law_0 : cX1_law.data.toList.drop 0 = dktX1_law_0 := by decide +kernel
theorem dksX1_law_1 : cX1_law.data.toList.drop 22 = dktX1_law_1 := dk_seg dksX1_law_0 22 rfl rfl
theorem dX1_law_0 : decode cX1_law 0 = .ok (.iload_n 1, 1) := dk_27 (dk_at dksX1_law_0 0 rfl rfl)
theorem dX1_law_1 : decode cX1_law 1 = .ok (.invokestatic 148, 3) := dk_184 0 148 (dk_at dksX1_law_0 1 rfl rfl)
theorem dX1_law_4 : decode cX1_law 4 = .ok (.iconst 0, 1) := dk_3 (dk_at dksX1_law_0 4 rfl rfl)
theorem dX1_law_5 : decode cX1_law 5 = .ok (.ldc 78, 2) := dk_18 78 (dk_at dksX1_law_0 5 rfl rfl)
theorem dX1_law_7 : decode cX1_law 7 = .ok (.iload_n 2, 1) := dk_28 (dk_at dksX1_law_0 7 rfl rfl)
theorem dX1_law_8 : decode cX1_law 8 = .ok (.invokestatic 21, 3) := dk_184 0 21 (dk_at dksX1_law_0 8 rfl rfl)
theorem dX1_law_11 : decode cX1_law 11 = .ok (.invokestatic 85, 3) := dk_184 0 85 (dk_at dksX1_law_0 11 rfl rfl)
theorem dX1_law_14 : decode cX1_law 14 = .ok (.aload_n 0, 1) := dk_42 (dk_at dksX1_law_0 14 rfl rfl)
theorem dX1_law_15 : decode cX1_law 15 = .ok (.getfield 63, 3) := dk_180 0 63 (dk_at dksX1_law_0 15 rfl rfl)
theorem dX1_law_18 : decode cX1_law 18 = .ok (.iload_n 1, 1) := dk_27 (dk_at dksX1_law_0 18 rfl rfl)
theorem dX1_law_19 : decode cX1_law 19 = .ok (.iload_n 2, 1) := dk_28 (dk_at dksX1_law_0 19 rfl rfl)
theorem dX1_law_20 : decode cX1_law 20 = .ok (.iastore, 1) := dk_79 (dk_at dksX1_law_0 20 rfl rfl)
theorem dX1_law_21 : decode cX1_law 21 = .ok (.aload_n 0, 1) := dk_42 (dk_at dksX1_law_0 21 rfl rfl)
theorem dX1_law_22 : decode cX1_law 22 = .ok (.getfield 67, 3) := dk_180 0 67 (dk_at dksX1_law_1 0 rfl rfl)
theorem dX1_law_25 : decode cX1_law 25 = .ok (.iload_n 1, 1) := dk_27 (dk_at dksX1_law_1 3 rfl rfl)
theorem dX1_law_26 : decode cX1_law 26 = .ok (.iaload, 1) := dk_46 (dk_at dksX1_law_1 4 rfl rfl)
theorem dX1_law_27 : decode cX1_law 27 = .ok (.ireturn, 1) := dk_172 (dk_at dksX1_law_1 5 rfl rfl)
abbrev cX1_list : ByteArray := prog_1_method_47_code
def yX1_list : MethodName := ⟨RX1, "list", "(I)Z"⟩
def dkwX1_list_1 : List UInt8 := [42, 180, 0, 70, 27, 51, 172]
abbrev dktX1_list_1 : List UInt8 := dkwX1_list_1 ++ []
def dkwX1_list_0 : List UInt8 := [27, 184, 0, 173, 42, 180, 0, 70, 27, 42, 180, 0, 70, 27, 51, 154, 0, 7, 4, 167, 0, 4, 3, 84]
abbrev dktX1_list_0 : List UInt8 := dkwX1_list_0 ++ dktX1_list_1
theorem dksX1_list_0 : cX1_list.data.toList.drop 0 = dktX1_list_0 := by decide +kernel
theorem dksX1_list_1 : cX1_list.data.toList.drop 24 = dktX1_list_1 := dk_seg dksX1_list_0 24 rfl rfl
theorem dX1_list_0 : decode cX1_list 0 = .ok (.iload_n 1, 1) := dk_27 (dk_at dksX1_list_0 0 rfl rfl)
theorem dX1_list_1 : decode cX1_list 1 = .ok (.invokestatic 173, 3) := dk_184 0 173 (dk_at dksX1_list_0 1 rfl rfl)
theorem dX1_list_4 : decode cX1_list 4 = .ok (.aload_n 0, 1) := dk_42 (dk_at dksX1_list_0 4 rfl rfl)
theorem dX1_list_5 : decode cX1_list 5 = .ok (.getfield 70, 3) := dk_180 0 70 (dk_at dksX1_list_0 5 rfl rfl)
theorem dX1_list_8 : decode cX1_list 8 = .ok (.iload_n 1, 1) := dk_27 (dk_at dksX1_list_0 8 rfl rfl)
theorem dX1_list_9 : decode cX1_list 9 = .ok (.aload_n 0, 1) := dk_42 (dk_at dksX1_list_0 9 rfl rfl)
theorem dX1_list_10 : decode cX1_list 10 = .ok (.getfield 70, 3) := dk_180 0 70 (dk_at dksX1_list_0 10 rfl rfl)
theorem dX1_list_13 : decode cX1_list 13 = .ok (.iload_n 1, 1) := dk_27 (dk_at dksX1_list_0 13 rfl rfl)
theorem dX1_list_14 : decode cX1_list 14 = .ok (.baload, 1) := dk_51 (dk_at dksX1_list_0 14 rfl rfl)
theorem dX1_list_15 : decode cX1_list 15 = .ok (.ifCond .ne 7, 3) := dk_154 0 7 (dk_at dksX1_list_0 15 rfl rfl)
theorem dX1_list_18 : decode cX1_list 18 = .ok (.iconst 1, 1) := dk_4 (dk_at dksX1_list_0 18 rfl rfl)
theorem dX1_list_19 : decode cX1_list 19 = .ok (.goto 4, 3) := dk_167 0 4 (dk_at dksX1_list_0 19 rfl rfl)
theorem dX1_list_22 : decode cX1_list 22 = .ok (.iconst 0, 1) := dk_3 (dk_at dksX1_list_0 22 rfl rfl)
theorem dX1_list_23 : decode cX1_list 23 = .ok (.bastore, 1) := dk_84 (dk_at dksX1_list_0 23 rfl rfl)
theorem dX1_list_24 : decode cX1_list 24 = .ok (.aload_n 0, 1) := dk_42 (dk_at dksX1_list_1 0 rfl rfl)
theorem dX1_list_25 : decode cX1_list 25 = .ok (.getfield 70, 3) := dk_180 0 70 (dk_at dksX1_list_1 1 rfl rfl)
theorem dX1_list_28 : decode cX1_list 28 = .ok (.iload_n 1, 1) := dk_27 (dk_at dksX1_list_1 4 rfl rfl)
theorem dX1_list_29 : decode cX1_list 29 = .ok (.baload, 1) := dk_51 (dk_at dksX1_list_1 5 rfl rfl)
theorem dX1_list_30 : decode cX1_list 30 = .ok (.ireturn, 1) := dk_172 (dk_at dksX1_list_1 6 rfl rfl)
abbrev cX1_brokerOf : ByteArray := prog_1_method_48_code
def yX1_brokerOf : MethodName := ⟨RX1, "brokerOf", "(II)J"⟩
def dkwX1_brokerOf_2 : List UInt8 := [133, 167, 0, 7, 45, 182, 1, 93, 173]
abbrev dktX1_brokerOf_2 : List UInt8 := dkwX1_brokerOf_2 ++ []
def dkwX1_brokerOf_1 : List UInt8 := [167, 0, 32, 28, 4, 160, 0, 10, 45, 180, 0, 191, 167, 0, 20, 28, 5, 160, 0, 11, 45, 180, 0, 202]
abbrev dktX1_brokerOf_1 : List UInt8 := dkwX1_brokerOf_1 ++ dktX1_brokerOf_2
def dkwX1_brokerOf_0 : List UInt8 := [42, 27, 182, 0, 166, 78, 3, 6, 28, 184, 0, 21, 184, 0, 85, 28, 154, 0, 11, 45, 180, 0, 117, 133]
abbrev dktX1_brokerOf_0 : List UInt8 := dkwX1_brokerOf_0 ++ dktX1_brokerOf_1
theorem dksX1_brokerOf_0 : cX1_brokerOf.data.toList.drop 0 = dktX1_brokerOf_0 := by decide +kernel
theorem dksX1_brokerOf_1 : cX1_brokerOf.data.toList.drop 24 = dktX1_brokerOf_1 := dk_seg dksX1_brokerOf_0 24 rfl rfl
theorem dksX1_brokerOf_2 : cX1_brokerOf.data.toList.drop 48 = dktX1_brokerOf_2 := dk_seg dksX1_brokerOf_1 24 rfl rfl
theorem dX1_brokerOf_0 : decode cX1_brokerOf 0 = .ok (.aload_n 0, 1) := dk_42 (dk_at dksX1_brokerOf_0 0 rfl rfl)
theorem dX1_brokerOf_1 : decode cX1_brokerOf 1 = .ok (.iload_n 1, 1) := dk_27 (dk_at dksX1_brokerOf_0 1 rfl rfl)
theorem dX1_brokerOf_2 : decode cX1_brokerOf 2 = .ok (.invokevirtual 166, 3) := dk_182 0 166 (dk_at dksX1_brokerOf_0 2 rfl rfl)
theorem dX1_brokerOf_5 : decode cX1_brokerOf 5 = .ok (.astore_n 3, 1) := dk_78 (dk_at dksX1_brokerOf_0 5 rfl rfl)
theorem dX1_brokerOf_6 : decode cX1_brokerOf 6 = .ok (.iconst 0, 1) := dk_3 (dk_at dksX1_brokerOf_0 6 rfl rfl)
theorem dX1_brokerOf_7 : decode cX1_brokerOf 7 = .ok (.iconst 3, 1) := dk_6 (dk_at dksX1_brokerOf_0 7 rfl rfl)
theorem dX1_brokerOf_8 : decode cX1_brokerOf 8 = .ok (.iload_n 2, 1) := dk_28 (dk_at dksX1_brokerOf_0 8 rfl rfl)
theorem dX1_brokerOf_9 : decode cX1_brokerOf 9 = .ok (.invokestatic 21, 3) := dk_184 0 21 (dk_at dksX1_brokerOf_0 9 rfl rfl)
theorem dX1_brokerOf_12 : decode cX1_brokerOf 12 = .ok (.invokestatic 85, 3) := dk_184 0 85 (dk_at dksX1_brokerOf_0 12 rfl rfl)
theorem dX1_brokerOf_15 : decode cX1_brokerOf 15 = .ok (.iload_n 2, 1) := dk_28 (dk_at dksX1_brokerOf_0 15 rfl rfl)
theorem dX1_brokerOf_16 : decode cX1_brokerOf 16 = .ok (.ifCond .ne 11, 3) := dk_154 0 11 (dk_at dksX1_brokerOf_0 16 rfl rfl)
theorem dX1_brokerOf_19 : decode cX1_brokerOf 19 = .ok (.aload_n 3, 1) := dk_45 (dk_at dksX1_brokerOf_0 19 rfl rfl)
theorem dX1_brokerOf_20 : decode cX1_brokerOf 20 = .ok (.getfield 117, 3) := dk_180 0 117 (dk_at dksX1_brokerOf_0 20 rfl rfl)
theorem dX1_brokerOf_23 : decode cX1_brokerOf 23 = .ok (.i2l, 1) := dk_133 (dk_at dksX1_brokerOf_0 23 rfl rfl)
theorem dX1_brokerOf_24 : decode cX1_brokerOf 24 = .ok (.goto 32, 3) := dk_167 0 32 (dk_at dksX1_brokerOf_1 0 rfl rfl)
theorem dX1_brokerOf_27 : decode cX1_brokerOf 27 = .ok (.iload_n 2, 1) := dk_28 (dk_at dksX1_brokerOf_1 3 rfl rfl)
theorem dX1_brokerOf_28 : decode cX1_brokerOf 28 = .ok (.iconst 1, 1) := dk_4 (dk_at dksX1_brokerOf_1 4 rfl rfl)
theorem dX1_brokerOf_29 : decode cX1_brokerOf 29 = .ok (.if_icmp .ne 10, 3) := dk_160 0 10 (dk_at dksX1_brokerOf_1 5 rfl rfl)
theorem dX1_brokerOf_32 : decode cX1_brokerOf 32 = .ok (.aload_n 3, 1) := dk_45 (dk_at dksX1_brokerOf_1 8 rfl rfl)
theorem dX1_brokerOf_33 : decode cX1_brokerOf 33 = .ok (.getfield 191, 3) := dk_180 0 191 (dk_at dksX1_brokerOf_1 9 rfl rfl)
theorem dX1_brokerOf_36 : decode cX1_brokerOf 36 = .ok (.goto 20, 3) := dk_167 0 20 (dk_at dksX1_brokerOf_1 12 rfl rfl)
theorem dX1_brokerOf_39 : decode cX1_brokerOf 39 = .ok (.iload_n 2, 1) := dk_28 (dk_at dksX1_brokerOf_1 15 rfl rfl)
theorem dX1_brokerOf_40 : decode cX1_brokerOf 40 = .ok (.iconst 2, 1) := dk_5 (dk_at dksX1_brokerOf_1 16 rfl rfl)
theorem dX1_brokerOf_41 : decode cX1_brokerOf 41 = .ok (.if_icmp .ne 11, 3) := dk_160 0 11 (dk_at dksX1_brokerOf_1 17 rfl rfl)
theorem dX1_brokerOf_44 : decode cX1_brokerOf 44 = .ok (.aload_n 3, 1) := dk_45 (dk_at dksX1_brokerOf_1 20 rfl rfl)
theorem dX1_brokerOf_45 : decode cX1_brokerOf 45 = .ok (.getfield 202, 3) := dk_180 0 202 (dk_at dksX1_brokerOf_1 21 rfl rfl)
theorem dX1_brokerOf_48 : decode cX1_brokerOf 48 = .ok (.i2l, 1) := dk_133 (dk_at dksX1_brokerOf_2 0 rfl rfl)
theorem dX1_brokerOf_49 : decode cX1_brokerOf 49 = .ok (.goto 7, 3) := dk_167 0 7 (dk_at dksX1_brokerOf_2 1 rfl rfl)
theorem dX1_brokerOf_52 : decode cX1_brokerOf 52 = .ok (.aload_n 3, 1) := dk_45 (dk_at dksX1_brokerOf_2 4 rfl rfl)
theorem dX1_brokerOf_53 : decode cX1_brokerOf 53 = .ok (.invokevirtual 349, 3) := dk_182 1 93 (dk_at dksX1_brokerOf_2 5 rfl rfl)
theorem dX1_brokerOf_56 : decode cX1_brokerOf 56 = .ok (.lreturn, 1) := dk_173 (dk_at dksX1_brokerOf_2 8 rfl rfl)
abbrev cX1_debt : ByteArray := prog_1_method_49_code
def yX1_debt : MethodName := ⟨RX1, "debt", "(IIZ)J"⟩
def dkwX1_debt_1 : List UInt8 := [25, 5, 180, 0, 91, 47, 167, 0, 14, 25, 4, 180, 0, 88, 25, 5, 180, 0, 91, 47, 173]
abbrev dktX1_debt_1 : List UInt8 := dkwX1_debt_1 ++ []
def dkwX1_debt_0 : List UInt8 := [42, 27, 182, 0, 166, 58, 4, 42, 28, 182, 0, 166, 58, 5, 29, 153, 0, 17, 25, 4, 180, 0, 95]
abbrev dktX1_debt_0 : List UInt8 := dkwX1_debt_0 ++ dktX1_debt_1
theorem dksX1_debt_0 : cX1_debt.data.toList.drop 0 = dktX1_debt_0 := by decide +kernel
theorem dksX1_debt_1 : cX1_debt.data.toList.drop 23 = dktX1_debt_1 := dk_seg dksX1_debt_0 23 rfl rfl
theorem dX1_debt_0 : decode cX1_debt 0 = .ok (.aload_n 0, 1) := dk_42 (dk_at dksX1_debt_0 0 rfl rfl)
theorem dX1_debt_1 : decode cX1_debt 1 = .ok (.iload_n 1, 1) := dk_27 (dk_at dksX1_debt_0 1 rfl rfl)
theorem dX1_debt_2 : decode cX1_debt 2 = .ok (.invokevirtual 166, 3) := dk_182 0 166 (dk_at dksX1_debt_0 2 rfl rfl)
theorem dX1_debt_5 : decode cX1_debt 5 = .ok (.astore 4, 2) := dk_58 4 (dk_at dksX1_debt_0 5 rfl rfl)
theorem dX1_debt_7 : decode cX1_debt 7 = .ok (.aload_n 0, 1) := dk_42 (dk_at dksX1_debt_0 7 rfl rfl)
theorem dX1_debt_8 : decode cX1_debt 8 = .ok (.iload_n 2, 1) := dk_28 (dk_at dksX1_debt_0 8 rfl rfl)
theorem dX1_debt_9 : decode cX1_debt 9 = .ok (.invokevirtual 166, 3) := dk_182 0 166 (dk_at dksX1_debt_0 9 rfl rfl)
theorem dX1_debt_12 : decode cX1_debt 12 = .ok (.astore 5, 2) := dk_58 5 (dk_at dksX1_debt_0 12 rfl rfl)
theorem dX1_debt_14 : decode cX1_debt 14 = .ok (.iload_n 3, 1) := dk_29 (dk_at dksX1_debt_0 14 rfl rfl)
theorem dX1_debt_15 : decode cX1_debt 15 = .ok (.ifCond .eq 17, 3) := dk_153 0 17 (dk_at dksX1_debt_0 15 rfl rfl)
theorem dX1_debt_18 : decode cX1_debt 18 = .ok (.aload 4, 2) := dk_25 4 (dk_at dksX1_debt_0 18 rfl rfl)
theorem dX1_debt_20 : decode cX1_debt 20 = .ok (.getfield 95, 3) := dk_180 0 95 (dk_at dksX1_debt_0 20 rfl rfl)
theorem dX1_debt_23 : decode cX1_debt 23 = .ok (.aload 5, 2) := dk_25 5 (dk_at dksX1_debt_1 0 rfl rfl)
theorem dX1_debt_25 : decode cX1_debt 25 = .ok (.getfield 91, 3) := dk_180 0 91 (dk_at dksX1_debt_1 2 rfl rfl)
theorem dX1_debt_28 : decode cX1_debt 28 = .ok (.laload, 1) := dk_47 (dk_at dksX1_debt_1 5 rfl rfl)
theorem dX1_debt_29 : decode cX1_debt 29 = .ok (.goto 14, 3) := dk_167 0 14 (dk_at dksX1_debt_1 6 rfl rfl)
theorem dX1_debt_32 : decode cX1_debt 32 = .ok (.aload 4, 2) := dk_25 4 (dk_at dksX1_debt_1 9 rfl rfl)
theorem dX1_debt_34 : decode cX1_debt 34 = .ok (.getfield 88, 3) := dk_180 0 88 (dk_at dksX1_debt_1 11 rfl rfl)
theorem dX1_debt_37 : decode cX1_debt 37 = .ok (.aload 5, 2) := dk_25 5 (dk_at dksX1_debt_1 14 rfl rfl)
theorem dX1_debt_39 : decode cX1_debt 39 = .ok (.getfield 91, 3) := dk_180 0 91 (dk_at dksX1_debt_1 16 rfl rfl)
theorem dX1_debt_42 : decode cX1_debt 42 = .ok (.laload, 1) := dk_47 (dk_at dksX1_debt_1 19 rfl rfl)
theorem dX1_debt_43 : decode cX1_debt 43 = .ok (.lreturn, 1) := dk_173 (dk_at dksX1_debt_1 20 rfl rfl)
abbrev cX1_agree : ByteArray := prog_1_method_50_code
def yX1_agree : MethodName := ⟨RX1, "agree", "(II)Z"⟩
def dkwX1_agree_1 : List UInt8 := [27, 47, 117, 148, 154, 0, 7, 4, 167, 0, 4, 3, 172]
abbrev dktX1_agree_1 : List UInt8 := dkwX1_agree_1 ++ []
def dkwX1_agree_0 : List UInt8 := [42, 27, 182, 0, 166, 78, 42, 28, 182, 0, 166, 58, 4, 45, 180, 0, 95, 28, 47, 25, 4, 180, 0, 95]
abbrev dktX1_agree_0 : List UInt8 := dkwX1_agree_0 ++ dktX1_agree_1
theorem dksX1_agree_0 : cX1_agree.data.toList.drop 0 = dktX1_agree_0 := by decide +kernel
theorem dksX1_agree_1 : cX1_agree.data.toList.drop 24 = dktX1_agree_1 := dk_seg dksX1_agree_0 24 rfl rfl
theorem dX1_agree_0 : decode cX1_agree 0 = .ok (.aload_n 0, 1) := dk_42 (dk_at dksX1_agree_0 0 rfl rfl)
theorem dX1_agree_1 : decode cX1_agree 1 = .ok (.iload_n 1, 1) := dk_27 (dk_at dksX1_agree_0 1 rfl rfl)
theorem dX1_agree_2 : decode cX1_agree 2 = .ok (.invokevirtual 166, 3) := dk_182 0 166 (dk_at dksX1_agree_0 2 rfl rfl)
theorem dX1_agree_5 : decode cX1_agree 5 = .ok (.astore_n 3, 1) := dk_78 (dk_at dksX1_agree_0 5 rfl rfl)
theorem dX1_agree_6 : decode cX1_agree 6 = .ok (.aload_n 0, 1) := dk_42 (dk_at dksX1_agree_0 6 rfl rfl)
theorem dX1_agree_7 : decode cX1_agree 7 = .ok (.iload_n 2, 1) := dk_28 (dk_at dksX1_agree_0 7 rfl rfl)
theorem dX1_agree_8 : decode cX1_agree 8 = .ok (.invokevirtual 166, 3) := dk_182 0 166 (dk_at dksX1_agree_0 8 rfl rfl)
theorem dX1_agree_11 : decode cX1_agree 11 = .ok (.astore 4, 2) := dk_58 4 (dk_at dksX1_agree_0 11 rfl rfl)
theorem dX1_agree_13 : decode cX1_agree 13 = .ok (.aload_n 3, 1) := dk_45 (dk_at dksX1_agree_0 13 rfl rfl)
theorem dX1_agree_14 : decode cX1_agree 14 = .ok (.getfield 95, 3) := dk_180 0 95 (dk_at dksX1_agree_0 14 rfl rfl)
theorem dX1_agree_17 : decode cX1_agree 17 = .ok (.iload_n 2, 1) := dk_28 (dk_at dksX1_agree_0 17 rfl rfl)
theorem dX1_agree_18 : decode cX1_agree 18 = .ok (.laload, 1) := dk_47 (dk_at dksX1_agree_0 18 rfl rfl)
theorem dX1_agree_19 : decode cX1_agree 19 = .ok (.aload 4, 2) := dk_25 4 (dk_at dksX1_agree_0 19 rfl rfl)
theorem dX1_agree_21 : decode cX1_agree 21 = .ok (.getfield 95, 3) := dk_180 0 95 (dk_at dksX1_agree_0 21 rfl rfl)
theorem dX1_agree_24 : decode cX1_agree 24 = .ok (.iload_n 1, 1) := dk_27 (dk_at dksX1_agree_1 0 rfl rfl)
theorem dX1_agree_25 : decode cX1_agree 25 = .ok (.laload, 1) := dk_47 (dk_at dksX1_agree_1 1 rfl rfl)
theorem dX1_agree_26 : decode cX1_agree 26 = .ok (.lneg, 1) := dk_117 (dk_at dksX1_agree_1 2 rfl rfl)
theorem dX1_agree_27 : decode cX1_agree 27 = .ok (.lcmp, 1) := dk_148 (dk_at dksX1_agree_1 3 rfl rfl)
theorem dX1_agree_28 : decode cX1_agree 28 = .ok (.ifCond .ne 7, 3) := dk_154 0 7 (dk_at dksX1_agree_1 4 rfl rfl)
theorem dX1_agree_31 : decode cX1_agree 31 = .ok (.iconst 1, 1) := dk_4 (dk_at dksX1_agree_1 7 rfl rfl)
theorem dX1_agree_32 : decode cX1_agree 32 = .ok (.goto 4, 3) := dk_167 0 4 (dk_at dksX1_agree_1 8 rfl rfl)
theorem dX1_agree_35 : decode cX1_agree 35 = .ok (.iconst 0, 1) := dk_3 (dk_at dksX1_agree_1 11 rfl rfl)
theorem dX1_agree_36 : decode cX1_agree 36 = .ok (.ireturn, 1) := dk_172 (dk_at dksX1_agree_1 12 rfl rfl)
abbrev cX1_way : ByteArray := prog_1_method_51_code
def yX1_way : MethodName := ⟨RX1, "way", "(IIII)I"⟩
def dkwX1_way_3 : List UInt8 := [2, 167, 0, 11, 25, 7, 21, 4, 50, 180, 0, 91, 172]
abbrev dktX1_way_3 : List UInt8 := dkwX1_way_3 ++ []
def dkwX1_way_2 : List UInt8 := [25, 5, 25, 6, 29, 3, 182, 0, 179, 58, 7, 25, 7, 198, 0, 11, 21, 4, 25, 7, 190, 161, 0, 7]
abbrev dktX1_way_2 : List UInt8 := dkwX1_way_2 ++ dktX1_way_3
def dkwX1_way_1 : List UInt8 := [184, 0, 27, 25, 5, 25, 6, 165, 0, 7, 4, 167, 0, 4, 3, 184, 0, 85, 29, 184, 0, 176, 42]
abbrev dktX1_way_1 : List UInt8 := dkwX1_way_1 ++ dktX1_way_2
def dkwX1_way_0 : List UInt8 := [42, 27, 182, 0, 166, 58, 5, 42, 28, 182, 0, 166, 58, 6, 21, 4, 155, 0, 7, 4, 167, 0, 4, 3]
abbrev dktX1_way_0 : List UInt8 := dkwX1_way_0 ++ dktX1_way_1
theorem dksX1_way_0 : cX1_way.data.toList.drop 0 = dktX1_way_0 := by decide +kernel
theorem dksX1_way_1 : cX1_way.data.toList.drop 24 = dktX1_way_1 := dk_seg dksX1_way_0 24 rfl rfl
theorem dksX1_way_2 : cX1_way.data.toList.drop 47 = dktX1_way_2 := dk_seg dksX1_way_1 23 rfl rfl
theorem dksX1_way_3 : cX1_way.data.toList.drop 71 = dktX1_way_3 := dk_seg dksX1_way_2 24 rfl rfl
theorem dX1_way_0 : decode cX1_way 0 = .ok (.aload_n 0, 1) := dk_42 (dk_at dksX1_way_0 0 rfl rfl)
theorem dX1_way_1 : decode cX1_way 1 = .ok (.iload_n 1, 1) := dk_27 (dk_at dksX1_way_0 1 rfl rfl)
theorem dX1_way_2 : decode cX1_way 2 = .ok (.invokevirtual 166, 3) := dk_182 0 166 (dk_at dksX1_way_0 2 rfl rfl)
theorem dX1_way_5 : decode cX1_way 5 = .ok (.astore 5, 2) := dk_58 5 (dk_at dksX1_way_0 5 rfl rfl)
theorem dX1_way_7 : decode cX1_way 7 = .ok (.aload_n 0, 1) := dk_42 (dk_at dksX1_way_0 7 rfl rfl)
theorem dX1_way_8 : decode cX1_way 8 = .ok (.iload_n 2, 1) := dk_28 (dk_at dksX1_way_0 8 rfl rfl)
theorem dX1_way_9 : decode cX1_way 9 = .ok (.invokevirtual 166, 3) := dk_182 0 166 (dk_at dksX1_way_0 9 rfl rfl)
theorem dX1_way_12 : decode cX1_way 12 = .ok (.astore 6, 2) := dk_58 6 (dk_at dksX1_way_0 12 rfl rfl)
theorem dX1_way_14 : decode cX1_way 14 = .ok (.iload 4, 2) := dk_21 4 (dk_at dksX1_way_0 14 rfl rfl)
theorem dX1_way_16 : decode cX1_way 16 = .ok (.ifCond .lt 7, 3) := dk_155 0 7 (dk_at dksX1_way_0 16 rfl rfl)
theorem dX1_way_19 : decode cX1_way 19 = .ok (.iconst 1, 1) := dk_4 (dk_at dksX1_way_0 19 rfl rfl)
theorem dX1_way_20 : decode cX1_way 20 = .ok (.goto 4, 3) := dk_167 0 4 (dk_at dksX1_way_0 20 rfl rfl)
theorem dX1_way_23 : decode cX1_way 23 = .ok (.iconst 0, 1) := dk_3 (dk_at dksX1_way_0 23 rfl rfl)
theorem dX1_way_24 : decode cX1_way 24 = .ok (.invokestatic 27, 3) := dk_184 0 27 (dk_at dksX1_way_1 0 rfl rfl)
theorem dX1_way_27 : decode cX1_way 27 = .ok (.aload 5, 2) := dk_25 5 (dk_at dksX1_way_1 3 rfl rfl)
theorem dX1_way_29 : decode cX1_way 29 = .ok (.aload 6, 2) := dk_25 6 (dk_at dksX1_way_1 5 rfl rfl)
theorem dX1_way_31 : decode cX1_way 31 = .ok (.if_acmp .eq 7, 3) := dk_165 0 7 (dk_at dksX1_way_1 7 rfl rfl)
theorem dX1_way_34 : decode cX1_way 34 = .ok (.iconst 1, 1) := dk_4 (dk_at dksX1_way_1 10 rfl rfl)
theorem dX1_way_35 : decode cX1_way 35 = .ok (.goto 4, 3) := dk_167 0 4 (dk_at dksX1_way_1 11 rfl rfl)
theorem dX1_way_38 : decode cX1_way 38 = .ok (.iconst 0, 1) := dk_3 (dk_at dksX1_way_1 14 rfl rfl)
theorem dX1_way_39 : decode cX1_way 39 = .ok (.invokestatic 85, 3) := dk_184 0 85 (dk_at dksX1_way_1 15 rfl rfl)
theorem dX1_way_42 : decode cX1_way 42 = .ok (.iload_n 3, 1) := dk_29 (dk_at dksX1_way_1 18 rfl rfl)
theorem dX1_way_43 : decode cX1_way 43 = .ok (.invokestatic 176, 3) := dk_184 0 176 (dk_at dksX1_way_1 19 rfl rfl)
theorem dX1_way_46 : decode cX1_way 46 = .ok (.aload_n 0, 1) := dk_42 (dk_at dksX1_way_1 22 rfl rfl)
theorem dX1_way_47 : decode cX1_way 47 = .ok (.aload 5, 2) := dk_25 5 (dk_at dksX1_way_2 0 rfl rfl)
theorem dX1_way_49 : decode cX1_way 49 = .ok (.aload 6, 2) := dk_25 6 (dk_at dksX1_way_2 2 rfl rfl)
theorem dX1_way_51 : decode cX1_way 51 = .ok (.iload_n 3, 1) := dk_29 (dk_at dksX1_way_2 4 rfl rfl)
theorem dX1_way_52 : decode cX1_way 52 = .ok (.iconst 0, 1) := dk_3 (dk_at dksX1_way_2 5 rfl rfl)
theorem dX1_way_53 : decode cX1_way 53 = .ok (.invokevirtual 179, 3) := dk_182 0 179 (dk_at dksX1_way_2 6 rfl rfl)
theorem dX1_way_56 : decode cX1_way 56 = .ok (.astore 7, 2) := dk_58 7 (dk_at dksX1_way_2 9 rfl rfl)
theorem dX1_way_58 : decode cX1_way 58 = .ok (.aload 7, 2) := dk_25 7 (dk_at dksX1_way_2 11 rfl rfl)
theorem dX1_way_60 : decode cX1_way 60 = .ok (.ifnull 11, 3) := dk_198 0 11 (dk_at dksX1_way_2 13 rfl rfl)
theorem dX1_way_63 : decode cX1_way 63 = .ok (.iload 4, 2) := dk_21 4 (dk_at dksX1_way_2 16 rfl rfl)
theorem dX1_way_65 : decode cX1_way 65 = .ok (.aload 7, 2) := dk_25 7 (dk_at dksX1_way_2 18 rfl rfl)
theorem dX1_way_67 : decode cX1_way 67 = .ok (.arraylength, 1) := dk_190 (dk_at dksX1_way_2 20 rfl rfl)
theorem dX1_way_68 : decode cX1_way 68 = .ok (.if_icmp .lt 7, 3) := dk_161 0 7 (dk_at dksX1_way_2 21 rfl rfl)
theorem dX1_way_71 : decode cX1_way 71 = .ok (.iconst (-1), 1) := dk_2 (dk_at dksX1_way_3 0 rfl rfl)
theorem dX1_way_72 : decode cX1_way 72 = .ok (.goto 11, 3) := dk_167 0 11 (dk_at dksX1_way_3 1 rfl rfl)
theorem dX1_way_75 : decode cX1_way 75 = .ok (.aload 7, 2) := dk_25 7 (dk_at dksX1_way_3 4 rfl rfl)
theorem dX1_way_77 : decode cX1_way 77 = .ok (.iload 4, 2) := dk_21 4 (dk_at dksX1_way_3 6 rfl rfl)
theorem dX1_way_79 : decode cX1_way 79 = .ok (.aaload, 1) := dk_50 (dk_at dksX1_way_3 8 rfl rfl)
theorem dX1_way_80 : decode cX1_way 80 = .ok (.getfield 91, 3) := dk_180 0 91 (dk_at dksX1_way_3 9 rfl rfl)
theorem dX1_way_83 : decode cX1_way 83 = .ok (.ireturn, 1) := dk_172 (dk_at dksX1_way_3 12 rfl rfl)
abbrev cX1_wayOf : ByteArray := prog_1_method_52_code
def yX1_wayOf : MethodName := ⟨RX1, "wayOf", "(II)I"⟩
def dkwX1_wayOf_1 : List UInt8 := [28, 45, 180, 0, 247, 190, 162, 0, 15, 45, 180, 0, 247, 28, 50, 180, 0, 91, 167, 0, 4, 2, 172]
abbrev dktX1_wayOf_1 : List UInt8 := dkwX1_wayOf_1 ++ []
def dkwX1_wayOf_0 : List UInt8 := [42, 180, 0, 57, 27, 184, 0, 79, 192, 0, 183, 78, 28, 155, 0, 7, 4, 167, 0, 4, 3, 184, 0, 27]
abbrev dktX1_wayOf_0 : List UInt8 := dkwX1_wayOf_0 ++ dktX1_wayOf_1
theorem dksX1_wayOf_0 : cX1_wayOf.data.toList.drop 0 = dktX1_wayOf_0 := by decide +kernel
theorem dksX1_wayOf_1 : cX1_wayOf.data.toList.drop 24 = dktX1_wayOf_1 := dk_seg dksX1_wayOf_0 24 rfl rfl
theorem dX1_wayOf_0 : decode cX1_wayOf 0 = .ok (.aload_n 0, 1) := dk_42 (dk_at dksX1_wayOf_0 0 rfl rfl)
theorem dX1_wayOf_1 : decode cX1_wayOf 1 = .ok (.getfield 57, 3) := dk_180 0 57 (dk_at dksX1_wayOf_0 1 rfl rfl)
theorem dX1_wayOf_4 : decode cX1_wayOf 4 = .ok (.iload_n 1, 1) := dk_27 (dk_at dksX1_wayOf_0 4 rfl rfl)
theorem dX1_wayOf_5 : decode cX1_wayOf 5 = .ok (.invokestatic 79, 3) := dk_184 0 79 (dk_at dksX1_wayOf_0 5 rfl rfl)
theorem dX1_wayOf_8 : decode cX1_wayOf 8 = .ok (.checkcast 183, 3) := dk_192 0 183 (dk_at dksX1_wayOf_0 8 rfl rfl)
theorem dX1_wayOf_11 : decode cX1_wayOf 11 = .ok (.astore_n 3, 1) := dk_78 (dk_at dksX1_wayOf_0 11 rfl rfl)
theorem dX1_wayOf_12 : decode cX1_wayOf 12 = .ok (.iload_n 2, 1) := dk_28 (dk_at dksX1_wayOf_0 12 rfl rfl)
theorem dX1_wayOf_13 : decode cX1_wayOf 13 = .ok (.ifCond .lt 7, 3) := dk_155 0 7 (dk_at dksX1_wayOf_0 13 rfl rfl)
theorem dX1_wayOf_16 : decode cX1_wayOf 16 = .ok (.iconst 1, 1) := dk_4 (dk_at dksX1_wayOf_0 16 rfl rfl)
theorem dX1_wayOf_17 : decode cX1_wayOf 17 = .ok (.goto 4, 3) := dk_167 0 4 (dk_at dksX1_wayOf_0 17 rfl rfl)
theorem dX1_wayOf_20 : decode cX1_wayOf 20 = .ok (.iconst 0, 1) := dk_3 (dk_at dksX1_wayOf_0 20 rfl rfl)
theorem dX1_wayOf_21 : decode cX1_wayOf 21 = .ok (.invokestatic 27, 3) := dk_184 0 27 (dk_at dksX1_wayOf_0 21 rfl rfl)
theorem dX1_wayOf_24 : decode cX1_wayOf 24 = .ok (.iload_n 2, 1) := dk_28 (dk_at dksX1_wayOf_1 0 rfl rfl)
theorem dX1_wayOf_25 : decode cX1_wayOf 25 = .ok (.aload_n 3, 1) := dk_45 (dk_at dksX1_wayOf_1 1 rfl rfl)
theorem dX1_wayOf_26 : decode cX1_wayOf 26 = .ok (.getfield 247, 3) := dk_180 0 247 (dk_at dksX1_wayOf_1 2 rfl rfl)
theorem dX1_wayOf_29 : decode cX1_wayOf 29 = .ok (.arraylength, 1) := dk_190 (dk_at dksX1_wayOf_1 5 rfl rfl)
theorem dX1_wayOf_30 : decode cX1_wayOf 30 = .ok (.if_icmp .ge 15, 3) := dk_162 0 15 (dk_at dksX1_wayOf_1 6 rfl rfl)
theorem dX1_wayOf_33 : decode cX1_wayOf 33 = .ok (.aload_n 3, 1) := dk_45 (dk_at dksX1_wayOf_1 9 rfl rfl)
theorem dX1_wayOf_34 : decode cX1_wayOf 34 = .ok (.getfield 247, 3) := dk_180 0 247 (dk_at dksX1_wayOf_1 10 rfl rfl)
theorem dX1_wayOf_37 : decode cX1_wayOf 37 = .ok (.iload_n 2, 1) := dk_28 (dk_at dksX1_wayOf_1 13 rfl rfl)
theorem dX1_wayOf_38 : decode cX1_wayOf 38 = .ok (.aaload, 1) := dk_50 (dk_at dksX1_wayOf_1 14 rfl rfl)
theorem dX1_wayOf_39 : decode cX1_wayOf 39 = .ok (.getfield 91, 3) := dk_180 0 91 (dk_at dksX1_wayOf_1 15 rfl rfl)
theorem dX1_wayOf_42 : decode cX1_wayOf 42 = .ok (.goto 4, 3) := dk_167 0 4 (dk_at dksX1_wayOf_1 18 rfl rfl)
theorem dX1_wayOf_45 : decode cX1_wayOf 45 = .ok (.iconst (-1), 1) := dk_2 (dk_at dksX1_wayOf_1 21 rfl rfl)
theorem dX1_wayOf_46 : decode cX1_wayOf 46 = .ok (.ireturn, 1) := dk_172 (dk_at dksX1_wayOf_1 22 rfl rfl)
abbrev cX1_orderOf : ByteArray := prog_1_method_53_code
def yX1_orderOf : MethodName := ⟨RX1, "orderOf", "(II)I"⟩
def dkwX1_orderOf_3 : List UInt8 := [172, 45, 180, 1, 18, 172]
abbrev dktX1_orderOf_3 : List UInt8 := dkwX1_orderOf_3 ++ []
def dkwX1_orderOf_2 : List UInt8 := [45, 180, 0, 231, 172, 45, 180, 0, 235, 172, 45, 180, 0, 195, 172, 45, 180, 0, 212, 172, 45, 180, 0, 241]
abbrev dktX1_orderOf_2 : List UInt8 := dkwX1_orderOf_2 ++ dktX1_orderOf_3
def dkwX1_orderOf_1 : List UInt8 := [170, 0, 0, 0, 0, 59, 0, 0, 0, 0, 0, 0, 0, 4, 0, 0, 0, 34, 0, 0, 0, 39, 0, 0, 0, 44, 0, 0, 0, 49, 0, 0, 0, 54]
abbrev dktX1_orderOf_1 : List UInt8 := dkwX1_orderOf_1 ++ dktX1_orderOf_2
def dkwX1_orderOf_0 : List UInt8 := [42, 180, 0, 57, 27, 184, 0, 79, 192, 0, 183, 78, 3, 8, 28, 184, 0, 21, 184, 0, 85, 28]
abbrev dktX1_orderOf_0 : List UInt8 := dkwX1_orderOf_0 ++ dktX1_orderOf_1
theorem dksX1_orderOf_0 : cX1_orderOf.data.toList.drop 0 = dktX1_orderOf_0 := by decide +kernel
theorem dksX1_orderOf_1 : cX1_orderOf.data.toList.drop 22 = dktX1_orderOf_1 := dk_seg dksX1_orderOf_0 22 rfl rfl
theorem dksX1_orderOf_2 : cX1_orderOf.data.toList.drop 56 = dktX1_orderOf_2 := dk_seg dksX1_orderOf_1 34 rfl rfl
theorem dksX1_orderOf_3 : cX1_orderOf.data.toList.drop 80 = dktX1_orderOf_3 := dk_seg dksX1_orderOf_2 24 rfl rfl
theorem dX1_orderOf_0 : decode cX1_orderOf 0 = .ok (.aload_n 0, 1) := dk_42 (dk_at dksX1_orderOf_0 0 rfl rfl)
theorem dX1_orderOf_1 : decode cX1_orderOf 1 = .ok (.getfield 57, 3) := dk_180 0 57 (dk_at dksX1_orderOf_0 1 rfl rfl)
theorem dX1_orderOf_4 : decode cX1_orderOf 4 = .ok (.iload_n 1, 1) := dk_27 (dk_at dksX1_orderOf_0 4 rfl rfl)
theorem dX1_orderOf_5 : decode cX1_orderOf 5 = .ok (.invokestatic 79, 3) := dk_184 0 79 (dk_at dksX1_orderOf_0 5 rfl rfl)
theorem dX1_orderOf_8 : decode cX1_orderOf 8 = .ok (.checkcast 183, 3) := dk_192 0 183 (dk_at dksX1_orderOf_0 8 rfl rfl)
theorem dX1_orderOf_11 : decode cX1_orderOf 11 = .ok (.astore_n 3, 1) := dk_78 (dk_at dksX1_orderOf_0 11 rfl rfl)
theorem dX1_orderOf_12 : decode cX1_orderOf 12 = .ok (.iconst 0, 1) := dk_3 (dk_at dksX1_orderOf_0 12 rfl rfl)
theorem dX1_orderOf_13 : decode cX1_orderOf 13 = .ok (.iconst 5, 1) := dk_8 (dk_at dksX1_orderOf_0 13 rfl rfl)
theorem dX1_orderOf_14 : decode cX1_orderOf 14 = .ok (.iload_n 2, 1) := dk_28 (dk_at dksX1_orderOf_0 14 rfl rfl)
theorem dX1_orderOf_15 : decode cX1_orderOf 15 = .ok (.invokestatic 21, 3) := dk_184 0 21 (dk_at dksX1_orderOf_0 15 rfl rfl)
theorem dX1_orderOf_18 : decode cX1_orderOf 18 = .ok (.invokestatic 85, 3) := dk_184 0 85 (dk_at dksX1_orderOf_0 18 rfl rfl)
theorem dX1_orderOf_21 : decode cX1_orderOf 21 = .ok (.iload_n 2, 1) := dk_28 (dk_at dksX1_orderOf_0 21 rfl rfl)
theorem dX1_orderOf_22 : decode cX1_orderOf 22 = .ok (.tableswitch 59 0 4 #[34, 39, 44, 49, 54], 34) := by decide +kernel
theorem dX1_orderOf_56 : decode cX1_orderOf 56 = .ok (.aload_n 3, 1) := dk_45 (dk_at dksX1_orderOf_2 0 rfl rfl)
theorem dX1_orderOf_57 : decode cX1_orderOf 57 = .ok (.getfield 231, 3) := dk_180 0 231 (dk_at dksX1_orderOf_2 1 rfl rfl)
theorem dX1_orderOf_60 : decode cX1_orderOf 60 = .ok (.ireturn, 1) := dk_172 (dk_at dksX1_orderOf_2 4 rfl rfl)
theorem dX1_orderOf_61 : decode cX1_orderOf 61 = .ok (.aload_n 3, 1) := dk_45 (dk_at dksX1_orderOf_2 5 rfl rfl)
theorem dX1_orderOf_62 : decode cX1_orderOf 62 = .ok (.getfield 235, 3) := dk_180 0 235 (dk_at dksX1_orderOf_2 6 rfl rfl)
theorem dX1_orderOf_65 : decode cX1_orderOf 65 = .ok (.ireturn, 1) := dk_172 (dk_at dksX1_orderOf_2 9 rfl rfl)
theorem dX1_orderOf_66 : decode cX1_orderOf 66 = .ok (.aload_n 3, 1) := dk_45 (dk_at dksX1_orderOf_2 10 rfl rfl)
theorem dX1_orderOf_67 : decode cX1_orderOf 67 = .ok (.getfield 195, 3) := dk_180 0 195 (dk_at dksX1_orderOf_2 11 rfl rfl)
theorem dX1_orderOf_70 : decode cX1_orderOf 70 = .ok (.ireturn, 1) := dk_172 (dk_at dksX1_orderOf_2 14 rfl rfl)
theorem dX1_orderOf_71 : decode cX1_orderOf 71 = .ok (.aload_n 3, 1) := dk_45 (dk_at dksX1_orderOf_2 15 rfl rfl)
theorem dX1_orderOf_72 : decode cX1_orderOf 72 = .ok (.getfield 212, 3) := dk_180 0 212 (dk_at dksX1_orderOf_2 16 rfl rfl)
theorem dX1_orderOf_75 : decode cX1_orderOf 75 = .ok (.ireturn, 1) := dk_172 (dk_at dksX1_orderOf_2 19 rfl rfl)
theorem dX1_orderOf_76 : decode cX1_orderOf 76 = .ok (.aload_n 3, 1) := dk_45 (dk_at dksX1_orderOf_2 20 rfl rfl)
theorem dX1_orderOf_77 : decode cX1_orderOf 77 = .ok (.getfield 241, 3) := dk_180 0 241 (dk_at dksX1_orderOf_2 21 rfl rfl)
theorem dX1_orderOf_80 : decode cX1_orderOf 80 = .ok (.ireturn, 1) := dk_172 (dk_at dksX1_orderOf_3 0 rfl rfl)
theorem dX1_orderOf_81 : decode cX1_orderOf 81 = .ok (.aload_n 3, 1) := dk_45 (dk_at dksX1_orderOf_3 1 rfl rfl)
theorem dX1_orderOf_82 : decode cX1_orderOf 82 = .ok (.getfield 274, 3) := dk_180 1 18 (dk_at dksX1_orderOf_3 2 rfl rfl)
theorem dX1_orderOf_85 : decode cX1_orderOf 85 = .ok (.ireturn, 1) := dk_172 (dk_at dksX1_orderOf_3 5 rfl rfl)
abbrev cX1_sum : ByteArray := prog_1_method_55_code
def yX1_sum : MethodName := ⟨RX1, "sum", "(I)J"⟩
def dkwX1_sum_8 : List UInt8 := [160, 0, 12, 25, 5, 180, 0, 195, 133, 167, 0, 4, 9, 97, 65, 167, 255, 206, 32, 173]
abbrev dktX1_sum_8 : List UInt8 := dkwX1_sum_8 ++ []
def dkwX1_sum_7 : List UInt8 := [185, 0, 136, 1, 0, 192, 0, 183, 58, 5, 32, 27, 16, 7, 160, 0, 21, 25, 5, 180, 0, 231, 8]
abbrev dktX1_sum_7 : List UInt8 := dkwX1_sum_7 ++ dktX1_sum_8
def dkwX1_sum_6 : List UInt8 := [167, 255, 216, 42, 180, 0, 57, 182, 0, 126, 58, 4, 25, 4, 185, 0, 130, 1, 0, 153, 0, 46, 25, 4]
abbrev dktX1_sum_6 : List UInt8 := dkwX1_sum_6 ++ dktX1_sum_7
def dkwX1_sum_5 : List UInt8 := [192, 0, 83, 58, 5, 32, 27, 16, 6, 160, 0, 11, 25, 5, 180, 0, 191, 167, 0, 4, 9, 97, 65]
abbrev dktX1_sum_5 : List UInt8 := dkwX1_sum_5 ++ dktX1_sum_6
def dkwX1_sum_4 : List UInt8 := [182, 0, 126, 58, 4, 25, 4, 185, 0, 130, 1, 0, 153, 0, 36, 25, 4, 185, 0, 136, 1, 0]
abbrev dktX1_sum_4 : List UInt8 := dkwX1_sum_4 ++ dktX1_sum_5
def dkwX1_sum_3 : List UInt8 := [154, 0, 12, 25, 5, 180, 1, 4, 133, 167, 0, 4, 9, 97, 65, 167, 255, 208, 42, 180, 0, 53]
abbrev dktX1_sum_3 : List UInt8 := dkwX1_sum_3 ++ dktX1_sum_4
def dkwX1_sum_2 : List UInt8 := [25, 4, 185, 0, 136, 1, 0, 192, 0, 252, 58, 5, 32, 27, 8, 160, 0, 20, 25, 5, 180, 0, 251]
abbrev dktX1_sum_2 : List UInt8 := dkwX1_sum_2 ++ dktX1_sum_3
def dkwX1_sum_1 : List UInt8 := [47, 173, 9, 65, 42, 180, 0, 60, 182, 0, 126, 58, 4, 25, 4, 185, 0, 130, 1, 0, 153, 0, 44]
abbrev dktX1_sum_1 : List UInt8 := dkwX1_sum_1 ++ dktX1_sum_2
def dkwX1_sum_0 : List UInt8 := [3, 16, 7, 27, 184, 0, 21, 184, 0, 85, 27, 42, 180, 0, 74, 190, 162, 0, 10, 42, 180, 0, 74, 27]
abbrev dktX1_sum_0 : List UInt8 := dkwX1_sum_0 ++ dktX1_sum_1
theorem dksX1_sum_0 : cX1_sum.data.toList.drop 0 = dktX1_sum_0 := by decide +kernel
theorem dksX1_sum_1 : cX1_sum.data.toList.drop 24 = dktX1_sum_1 := dk_seg dksX1_sum_0 24 rfl rfl
theorem dksX1_sum_2 : cX1_sum.data.toList.drop 47 = dktX1_sum_2 := dk_seg dksX1_sum_1 23 rfl rfl
theorem dksX1_sum_3 : cX1_sum.data.toList.drop 70 = dktX1_sum_3 := dk_seg dksX1_sum_2 23 rfl rfl
theorem dksX1_sum_4 : cX1_sum.data.toList.drop 92 = dktX1_sum_4 := dk_seg dksX1_sum_3 22 rfl rfl
theorem dksX1_sum_5 : cX1_sum.data.toList.drop 114 = dktX1_sum_5 := dk_seg dksX1_sum_4 22 rfl rfl
theorem dksX1_sum_6 : cX1_sum.data.toList.drop 137 = dktX1_sum_6 := dk_seg dksX1_sum_5 23 rfl rfl
theorem dksX1_sum_7 : cX1_sum.data.toList.drop 161 = dktX1_sum_7 := dk_seg dksX1_sum_6 24 rfl rfl
theorem dksX1_sum_8 : cX1_sum.data.toList.drop 184 = dktX1_sum_8 := dk_seg dksX1_sum_7 23 rfl rfl
theorem dX1_sum_0 : decode cX1_sum 0 = .ok (.iconst 0, 1) := dk_3 (dk_at dksX1_sum_0 0 rfl rfl)
theorem dX1_sum_1 : decode cX1_sum 1 = .ok (.bipush 7, 2) := dk_16 7 (dk_at dksX1_sum_0 1 rfl rfl)
theorem dX1_sum_3 : decode cX1_sum 3 = .ok (.iload_n 1, 1) := dk_27 (dk_at dksX1_sum_0 3 rfl rfl)
theorem dX1_sum_4 : decode cX1_sum 4 = .ok (.invokestatic 21, 3) := dk_184 0 21 (dk_at dksX1_sum_0 4 rfl rfl)
theorem dX1_sum_7 : decode cX1_sum 7 = .ok (.invokestatic 85, 3) := dk_184 0 85 (dk_at dksX1_sum_0 7 rfl rfl)
theorem dX1_sum_10 : decode cX1_sum 10 = .ok (.iload_n 1, 1) := dk_27 (dk_at dksX1_sum_0 10 rfl rfl)
theorem dX1_sum_11 : decode cX1_sum 11 = .ok (.aload_n 0, 1) := dk_42 (dk_at dksX1_sum_0 11 rfl rfl)
theorem dX1_sum_12 : decode cX1_sum 12 = .ok (.getfield 74, 3) := dk_180 0 74 (dk_at dksX1_sum_0 12 rfl rfl)
theorem dX1_sum_15 : decode cX1_sum 15 = .ok (.arraylength, 1) := dk_190 (dk_at dksX1_sum_0 15 rfl rfl)
theorem dX1_sum_16 : decode cX1_sum 16 = .ok (.if_icmp .ge 10, 3) := dk_162 0 10 (dk_at dksX1_sum_0 16 rfl rfl)
theorem dX1_sum_19 : decode cX1_sum 19 = .ok (.aload_n 0, 1) := dk_42 (dk_at dksX1_sum_0 19 rfl rfl)
theorem dX1_sum_20 : decode cX1_sum 20 = .ok (.getfield 74, 3) := dk_180 0 74 (dk_at dksX1_sum_0 20 rfl rfl)
theorem dX1_sum_23 : decode cX1_sum 23 = .ok (.iload_n 1, 1) := dk_27 (dk_at dksX1_sum_0 23 rfl rfl)
theorem dX1_sum_24 : decode cX1_sum 24 = .ok (.laload, 1) := dk_47 (dk_at dksX1_sum_1 0 rfl rfl)
theorem dX1_sum_25 : decode cX1_sum 25 = .ok (.lreturn, 1) := dk_173 (dk_at dksX1_sum_1 1 rfl rfl)
theorem dX1_sum_26 : decode cX1_sum 26 = .ok (.lconst 0, 1) := dk_9 (dk_at dksX1_sum_1 2 rfl rfl)
theorem dX1_sum_27 : decode cX1_sum 27 = .ok (.lstore_n 2, 1) := dk_65 (dk_at dksX1_sum_1 3 rfl rfl)
theorem dX1_sum_28 : decode cX1_sum 28 = .ok (.aload_n 0, 1) := dk_42 (dk_at dksX1_sum_1 4 rfl rfl)
theorem dX1_sum_29 : decode cX1_sum 29 = .ok (.getfield 60, 3) := dk_180 0 60 (dk_at dksX1_sum_1 5 rfl rfl)
theorem dX1_sum_32 : decode cX1_sum 32 = .ok (.invokevirtual 126, 3) := dk_182 0 126 (dk_at dksX1_sum_1 8 rfl rfl)
theorem dX1_sum_35 : decode cX1_sum 35 = .ok (.astore 4, 2) := dk_58 4 (dk_at dksX1_sum_1 11 rfl rfl)
theorem dX1_sum_37 : decode cX1_sum 37 = .ok (.aload 4, 2) := dk_25 4 (dk_at dksX1_sum_1 13 rfl rfl)
theorem dX1_sum_39 : decode cX1_sum 39 = .ok (.invokeinterface 130 1, 5) := by decide +kernel
theorem dX1_sum_44 : decode cX1_sum 44 = .ok (.ifCond .eq 44, 3) := dk_153 0 44 (dk_at dksX1_sum_1 20 rfl rfl)
theorem dX1_sum_47 : decode cX1_sum 47 = .ok (.aload 4, 2) := dk_25 4 (dk_at dksX1_sum_2 0 rfl rfl)
theorem dX1_sum_49 : decode cX1_sum 49 = .ok (.invokeinterface 136 1, 5) := by decide +kernel
theorem dX1_sum_54 : decode cX1_sum 54 = .ok (.checkcast 252, 3) := dk_192 0 252 (dk_at dksX1_sum_2 7 rfl rfl)
theorem dX1_sum_57 : decode cX1_sum 57 = .ok (.astore 5, 2) := dk_58 5 (dk_at dksX1_sum_2 10 rfl rfl)
theorem dX1_sum_59 : decode cX1_sum 59 = .ok (.lload_n 2, 1) := dk_32 (dk_at dksX1_sum_2 12 rfl rfl)
theorem dX1_sum_60 : decode cX1_sum 60 = .ok (.iload_n 1, 1) := dk_27 (dk_at dksX1_sum_2 13 rfl rfl)
theorem dX1_sum_61 : decode cX1_sum 61 = .ok (.iconst 5, 1) := dk_8 (dk_at dksX1_sum_2 14 rfl rfl)
theorem dX1_sum_62 : decode cX1_sum 62 = .ok (.if_icmp .ne 20, 3) := dk_160 0 20 (dk_at dksX1_sum_2 15 rfl rfl)
theorem dX1_sum_65 : decode cX1_sum 65 = .ok (.aload 5, 2) := dk_25 5 (dk_at dksX1_sum_2 18 rfl rfl)
theorem dX1_sum_67 : decode cX1_sum 67 = .ok (.getfield 251, 3) := dk_180 0 251 (dk_at dksX1_sum_2 20 rfl rfl)
theorem dX1_sum_70 : decode cX1_sum 70 = .ok (.ifCond .ne 12, 3) := dk_154 0 12 (dk_at dksX1_sum_3 0 rfl rfl)
theorem dX1_sum_73 : decode cX1_sum 73 = .ok (.aload 5, 2) := dk_25 5 (dk_at dksX1_sum_3 3 rfl rfl)
theorem dX1_sum_75 : decode cX1_sum 75 = .ok (.getfield 260, 3) := dk_180 1 4 (dk_at dksX1_sum_3 5 rfl rfl)
theorem dX1_sum_78 : decode cX1_sum 78 = .ok (.i2l, 1) := dk_133 (dk_at dksX1_sum_3 8 rfl rfl)
theorem dX1_sum_79 : decode cX1_sum 79 = .ok (.goto 4, 3) := dk_167 0 4 (dk_at dksX1_sum_3 9 rfl rfl)
theorem dX1_sum_82 : decode cX1_sum 82 = .ok (.lconst 0, 1) := dk_9 (dk_at dksX1_sum_3 12 rfl rfl)
theorem dX1_sum_83 : decode cX1_sum 83 = .ok (.ladd, 1) := dk_97 (dk_at dksX1_sum_3 13 rfl rfl)
theorem dX1_sum_84 : decode cX1_sum 84 = .ok (.lstore_n 2, 1) := dk_65 (dk_at dksX1_sum_3 14 rfl rfl)
theorem dX1_sum_85 : decode cX1_sum 85 = .ok (.goto (-48), 3) := dk_167 255 208 (dk_at dksX1_sum_3 15 rfl rfl)
theorem dX1_sum_88 : decode cX1_sum 88 = .ok (.aload_n 0, 1) := dk_42 (dk_at dksX1_sum_3 18 rfl rfl)
theorem dX1_sum_89 : decode cX1_sum 89 = .ok (.getfield 53, 3) := dk_180 0 53 (dk_at dksX1_sum_3 19 rfl rfl)
theorem dX1_sum_92 : decode cX1_sum 92 = .ok (.invokevirtual 126, 3) := dk_182 0 126 (dk_at dksX1_sum_4 0 rfl rfl)
theorem dX1_sum_95 : decode cX1_sum 95 = .ok (.astore 4, 2) := dk_58 4 (dk_at dksX1_sum_4 3 rfl rfl)
theorem dX1_sum_97 : decode cX1_sum 97 = .ok (.aload 4, 2) := dk_25 4 (dk_at dksX1_sum_4 5 rfl rfl)
theorem dX1_sum_99 : decode cX1_sum 99 = .ok (.invokeinterface 130 1, 5) := by decide +kernel
theorem dX1_sum_104 : decode cX1_sum 104 = .ok (.ifCond .eq 36, 3) := dk_153 0 36 (dk_at dksX1_sum_4 12 rfl rfl)
theorem dX1_sum_107 : decode cX1_sum 107 = .ok (.aload 4, 2) := dk_25 4 (dk_at dksX1_sum_4 15 rfl rfl)
theorem dX1_sum_109 : decode cX1_sum 109 = .ok (.invokeinterface 136 1, 5) := by decide +kernel
theorem dX1_sum_114 : decode cX1_sum 114 = .ok (.checkcast 83, 3) := dk_192 0 83 (dk_at dksX1_sum_5 0 rfl rfl)
theorem dX1_sum_117 : decode cX1_sum 117 = .ok (.astore 5, 2) := dk_58 5 (dk_at dksX1_sum_5 3 rfl rfl)
theorem dX1_sum_119 : decode cX1_sum 119 = .ok (.lload_n 2, 1) := dk_32 (dk_at dksX1_sum_5 5 rfl rfl)
theorem dX1_sum_120 : decode cX1_sum 120 = .ok (.iload_n 1, 1) := dk_27 (dk_at dksX1_sum_5 6 rfl rfl)
theorem dX1_sum_121 : decode cX1_sum 121 = .ok (.bipush 6, 2) := dk_16 6 (dk_at dksX1_sum_5 7 rfl rfl)
theorem dX1_sum_123 : decode cX1_sum 123 = .ok (.if_icmp .ne 11, 3) := dk_160 0 11 (dk_at dksX1_sum_5 9 rfl rfl)
theorem dX1_sum_126 : decode cX1_sum 126 = .ok (.aload 5, 2) := dk_25 5 (dk_at dksX1_sum_5 12 rfl rfl)
theorem dX1_sum_128 : decode cX1_sum 128 = .ok (.getfield 191, 3) := dk_180 0 191 (dk_at dksX1_sum_5 14 rfl rfl)
theorem dX1_sum_131 : decode cX1_sum 131 = .ok (.goto 4, 3) := dk_167 0 4 (dk_at dksX1_sum_5 17 rfl rfl)
theorem dX1_sum_134 : decode cX1_sum 134 = .ok (.lconst 0, 1) := dk_9 (dk_at dksX1_sum_5 20 rfl rfl)
theorem dX1_sum_135 : decode cX1_sum 135 = .ok (.ladd, 1) := dk_97 (dk_at dksX1_sum_5 21 rfl rfl)
theorem dX1_sum_136 : decode cX1_sum 136 = .ok (.lstore_n 2, 1) := dk_65 (dk_at dksX1_sum_5 22 rfl rfl)
theorem dX1_sum_137 : decode cX1_sum 137 = .ok (.goto (-40), 3) := dk_167 255 216 (dk_at dksX1_sum_6 0 rfl rfl)
theorem dX1_sum_140 : decode cX1_sum 140 = .ok (.aload_n 0, 1) := dk_42 (dk_at dksX1_sum_6 3 rfl rfl)
theorem dX1_sum_141 : decode cX1_sum 141 = .ok (.getfield 57, 3) := dk_180 0 57 (dk_at dksX1_sum_6 4 rfl rfl)
theorem dX1_sum_144 : decode cX1_sum 144 = .ok (.invokevirtual 126, 3) := dk_182 0 126 (dk_at dksX1_sum_6 7 rfl rfl)
theorem dX1_sum_147 : decode cX1_sum 147 = .ok (.astore 4, 2) := dk_58 4 (dk_at dksX1_sum_6 10 rfl rfl)
theorem dX1_sum_149 : decode cX1_sum 149 = .ok (.aload 4, 2) := dk_25 4 (dk_at dksX1_sum_6 12 rfl rfl)
theorem dX1_sum_151 : decode cX1_sum 151 = .ok (.invokeinterface 130 1, 5) := by decide +kernel
theorem dX1_sum_156 : decode cX1_sum 156 = .ok (.ifCond .eq 46, 3) := dk_153 0 46 (dk_at dksX1_sum_6 19 rfl rfl)
theorem dX1_sum_159 : decode cX1_sum 159 = .ok (.aload 4, 2) := dk_25 4 (dk_at dksX1_sum_6 22 rfl rfl)
theorem dX1_sum_161 : decode cX1_sum 161 = .ok (.invokeinterface 136 1, 5) := by decide +kernel
theorem dX1_sum_166 : decode cX1_sum 166 = .ok (.checkcast 183, 3) := dk_192 0 183 (dk_at dksX1_sum_7 5 rfl rfl)
theorem dX1_sum_169 : decode cX1_sum 169 = .ok (.astore 5, 2) := dk_58 5 (dk_at dksX1_sum_7 8 rfl rfl)
theorem dX1_sum_171 : decode cX1_sum 171 = .ok (.lload_n 2, 1) := dk_32 (dk_at dksX1_sum_7 10 rfl rfl)
theorem dX1_sum_172 : decode cX1_sum 172 = .ok (.iload_n 1, 1) := dk_27 (dk_at dksX1_sum_7 11 rfl rfl)
theorem dX1_sum_173 : decode cX1_sum 173 = .ok (.bipush 7, 2) := dk_16 7 (dk_at dksX1_sum_7 12 rfl rfl)
theorem dX1_sum_175 : decode cX1_sum 175 = .ok (.if_icmp .ne 21, 3) := dk_160 0 21 (dk_at dksX1_sum_7 14 rfl rfl)
theorem dX1_sum_178 : decode cX1_sum 178 = .ok (.aload 5, 2) := dk_25 5 (dk_at dksX1_sum_7 17 rfl rfl)
theorem dX1_sum_180 : decode cX1_sum 180 = .ok (.getfield 231, 3) := dk_180 0 231 (dk_at dksX1_sum_7 19 rfl rfl)
theorem dX1_sum_183 : decode cX1_sum 183 = .ok (.iconst 5, 1) := dk_8 (dk_at dksX1_sum_7 22 rfl rfl)
theorem dX1_sum_184 : decode cX1_sum 184 = .ok (.if_icmp .ne 12, 3) := dk_160 0 12 (dk_at dksX1_sum_8 0 rfl rfl)
theorem dX1_sum_187 : decode cX1_sum 187 = .ok (.aload 5, 2) := dk_25 5 (dk_at dksX1_sum_8 3 rfl rfl)
theorem dX1_sum_189 : decode cX1_sum 189 = .ok (.getfield 195, 3) := dk_180 0 195 (dk_at dksX1_sum_8 5 rfl rfl)
theorem dX1_sum_192 : decode cX1_sum 192 = .ok (.i2l, 1) := dk_133 (dk_at dksX1_sum_8 8 rfl rfl)
theorem dX1_sum_193 : decode cX1_sum 193 = .ok (.goto 4, 3) := dk_167 0 4 (dk_at dksX1_sum_8 9 rfl rfl)
theorem dX1_sum_196 : decode cX1_sum 196 = .ok (.lconst 0, 1) := dk_9 (dk_at dksX1_sum_8 12 rfl rfl)
theorem dX1_sum_197 : decode cX1_sum 197 = .ok (.ladd, 1) := dk_97 (dk_at dksX1_sum_8 13 rfl rfl)
theorem dX1_sum_198 : decode cX1_sum 198 = .ok (.lstore_n 2, 1) := dk_65 (dk_at dksX1_sum_8 14 rfl rfl)
theorem dX1_sum_199 : decode cX1_sum 199 = .ok (.goto (-50), 3) := dk_167 255 206 (dk_at dksX1_sum_8 15 rfl rfl)
theorem dX1_sum_202 : decode cX1_sum 202 = .ok (.lload_n 2, 1) := dk_32 (dk_at dksX1_sum_8 18 rfl rfl)
theorem dX1_sum_203 : decode cX1_sum 203 = .ok (.lreturn, 1) := dk_173 (dk_at dksX1_sum_8 19 rfl rfl)
theorem q41 : (Jvm.Cond.initialized "HundiHall") ∈ lw_all := lw_g (lw_at lw_m1 1 rfl) rfl
theorem q70 : (Jvm.Cond.instantiable "HundiHall" (9 : Nat)) ∈ lw_all := lw_g (lw_at lw_m1 30 rfl) rfl
theorem q72 : (Jvm.Cond.instanceMethod ({ cls := "HundiHall", name := "<init>", desc := "()V" } : Jvm.MethodName)) ∈ lw_all := lw_g (lw_at lw_m1 32 rfl) rfl
theorem q73 : (Jvm.Cond.code ({ cls := "HundiHall", name := "<init>", desc := "()V" } : Jvm.MethodName) prog_1_method_7_code (2 : Nat) (Option.none : Option Jvm.ClassFile.FieldType)) ∈ lw_all := lw_g (lw_at lw_m1 33 rfl) rfl
theorem q74 : (Jvm.Cond.methodLink "HundiHall" (45 : Nat) ({ cls := "java/lang/Object", name := "<init>", desc := "()V" } : Jvm.MethodName)) ∈ lw_all := lw_g (lw_at lw_m1 34 rfl) rfl
theorem q77 : (Jvm.Cond.classLink "HundiHall" (50 : Nat) "java/util/ArrayList") ∈ lw_all := lw_g (lw_at lw_m1 37 rfl) rfl
theorem q79 : (Jvm.Cond.methodLink "HundiHall" (52 : Nat) ({ cls := "java/util/ArrayList", name := "<init>", desc := "()V" } : Jvm.MethodName)) ∈ lw_all := lw_g (lw_at lw_m1 39 rfl) rfl
theorem q106 : (Jvm.Cond.constant "HundiHall" (78 : Nat) (1000000 : Int32)) ∈ lw_all := lw_g (lw_at lw_m1 66 rfl) rfl
theorem q107 : (Jvm.Cond.fieldLink "HundiHall" (53 : Nat) "HundiHall" "brokers" "Ljava/util/ArrayList;") ∈ lw_all := lw_g (lw_at lw_m1 67 rfl) rfl
theorem q108 : (Jvm.Cond.fieldLink "HundiHall" (57 : Nat) "HundiHall" "orders" "Ljava/util/ArrayList;") ∈ lw_all := lw_g (lw_at lw_m1 68 rfl) rfl
theorem q109 : (Jvm.Cond.fieldLink "HundiHall" (60 : Nat) "HundiHall" "couriers" "Ljava/util/ArrayList;") ∈ lw_all := lw_g (lw_at lw_m1 69 rfl) rfl
theorem q110 : (Jvm.Cond.fieldLink "HundiHall" (63 : Nat) "HundiHall" "bounds" "[I") ∈ lw_all := lw_g (lw_at lw_m1 70 rfl) rfl
theorem q111 : (Jvm.Cond.fieldLink "HundiHall" (67 : Nat) "HundiHall" "told" "[I") ∈ lw_all := lw_g (lw_at lw_m1 71 rfl) rfl
theorem q112 : (Jvm.Cond.fieldLink "HundiHall" (70 : Nat) "HundiHall" "areListed" "[Z") ∈ lw_all := lw_g (lw_at lw_m1 72 rfl) rfl
theorem q113 : (Jvm.Cond.fieldLink "HundiHall" (74 : Nat) "HundiHall" "sums" "[J") ∈ lw_all := lw_g (lw_at lw_m1 73 rfl) rfl
theorem q114 : (Jvm.Cond.fieldLink "HundiHall" (105 : Nat) "HundiHall" "isFestival" "Z") ∈ lw_all := lw_g (lw_at lw_m1 74 rfl) rfl
theorem q115 : (Jvm.Cond.fieldLink "HundiHall" (185 : Nat) "HundiHall" "hour" "I") ∈ lw_all := lw_g (lw_at lw_m1 75 rfl) rfl
theorem q116 : (Jvm.Cond.laysFinal "HundiHall" "HundiHall" "brokers" "Ljava/util/ArrayList;") ∈ lw_all := lw_g (lw_at lw_m1 76 rfl) rfl
theorem q117 : (Jvm.Cond.soleField "HundiHall" "brokers") ∈ lw_all := lw_g (lw_at lw_m1 77 rfl) rfl
theorem q118 : (Jvm.Cond.laysFinal "HundiHall" "HundiHall" "orders" "Ljava/util/ArrayList;") ∈ lw_all := lw_g (lw_at lw_m1 78 rfl) rfl
theorem q119 : (Jvm.Cond.soleField "HundiHall" "orders") ∈ lw_all := lw_g (lw_at lw_m1 79 rfl) rfl
theorem q120 : (Jvm.Cond.laysFinal "HundiHall" "HundiHall" "couriers" "Ljava/util/ArrayList;") ∈ lw_all := lw_g (lw_at lw_m1 80 rfl) rfl
theorem q121 : (Jvm.Cond.soleField "HundiHall" "couriers") ∈ lw_all := lw_g (lw_at lw_m1 81 rfl) rfl
theorem q122 : (Jvm.Cond.laysFinal "HundiHall" "HundiHall" "bounds" "[I") ∈ lw_all := lw_g (lw_at lw_m1 82 rfl) rfl
theorem q123 : (Jvm.Cond.soleField "HundiHall" "bounds") ∈ lw_all := lw_g (lw_at lw_m1 83 rfl) rfl
theorem q124 : (Jvm.Cond.laysFinal "HundiHall" "HundiHall" "told" "[I") ∈ lw_all := lw_g (lw_at lw_m1 84 rfl) rfl
theorem q125 : (Jvm.Cond.soleField "HundiHall" "told") ∈ lw_all := lw_g (lw_at lw_m1 85 rfl) rfl
theorem q126 : (Jvm.Cond.laysFinal "HundiHall" "HundiHall" "areListed" "[Z") ∈ lw_all := lw_g (lw_at lw_m1 86 rfl) rfl
theorem q127 : (Jvm.Cond.soleField "HundiHall" "areListed") ∈ lw_all := lw_g (lw_at lw_m1 87 rfl) rfl
theorem q128 : (Jvm.Cond.laysFinal "HundiHall" "HundiHall" "sums" "[J") ∈ lw_all := lw_g (lw_at lw_m1 88 rfl) rfl
theorem q129 : (Jvm.Cond.soleField "HundiHall" "sums") ∈ lw_all := lw_g (lw_at lw_m1 89 rfl) rfl
theorem q130 : (Jvm.Cond.lays "HundiHall" "HundiHall" "isFestival" "Z") ∈ lw_all := lw_g (lw_at lw_m1 90 rfl) rfl
theorem q131 : (Jvm.Cond.soleField "HundiHall" "isFestival") ∈ lw_all := lw_g (lw_at lw_m1 91 rfl) rfl
theorem q132 : (Jvm.Cond.lays "HundiHall" "HundiHall" "hour" "I") ∈ lw_all := lw_g (lw_at lw_m1 92 rfl) rfl
theorem q133 : (Jvm.Cond.soleField "HundiHall" "hour") ∈ lw_all := lw_g (lw_at lw_m1 93 rfl) rfl
theorem q134 : (Jvm.Cond.superclass "HundiHall" "java/lang/Object") ∈ lw_all := lw_g (lw_at lw_m1 94 rfl) rfl
theorem q139 : (Jvm.Cond.instanceMethod ({ cls := "HundiHall", name := "festival", desc := "()Z" } : Jvm.MethodName)) ∈ lw_all := lw_g (lw_at lw_m1 99 rfl) rfl
theorem q140 : (Jvm.Cond.selects "HundiHall" ({ cls := "HundiHall", name := "festival", desc := "()Z" } : Jvm.MethodName) ({ cls := "HundiHall", name := "festival", desc := "()Z" } : Jvm.MethodName)) ∈ lw_all := lw_g (lw_at lw_m1 100 rfl) rfl
theorem q141 : (Jvm.Cond.code ({ cls := "HundiHall", name := "festival", desc := "()Z" } : Jvm.MethodName) prog_1_method_22_code (1 : Nat) (Option.some Jvm.ClassFile.FieldType.boolean)) ∈ lw_all := lw_g (lw_at lw_m1 101 rfl) rfl
theorem q143 : (Jvm.Cond.instanceMethod ({ cls := "HundiHall", name := "ring", desc := "()J" } : Jvm.MethodName)) ∈ lw_all := lw_g (lw_at lw_m1 103 rfl) rfl
theorem q144 : (Jvm.Cond.selects "HundiHall" ({ cls := "HundiHall", name := "ring", desc := "()J" } : Jvm.MethodName) ({ cls := "HundiHall", name := "ring", desc := "()J" } : Jvm.MethodName)) ∈ lw_all := lw_g (lw_at lw_m1 104 rfl) rfl
theorem q145 : (Jvm.Cond.code ({ cls := "HundiHall", name := "ring", desc := "()J" } : Jvm.MethodName) prog_1_method_43_code (7 : Nat) (Option.some Jvm.ClassFile.FieldType.long)) ∈ lw_all := lw_g (lw_at lw_m1 105 rfl) rfl
theorem q146 : (Jvm.Cond.methodLink "HundiHall" (126 : Nat) ({ cls := "java/util/ArrayList", name := "iterator", desc := "()Ljava/util/Iterator;" } : Jvm.MethodName)) ∈ lw_all := lw_g (lw_at lw_m1 106 rfl) rfl
theorem q169 : (Jvm.Cond.interfaceEntry "HundiHall" (130 : Nat)) ∈ lw_tbl := lw_at lw_m1 129 rfl
theorem q170 : (Jvm.Cond.methodLink "HundiHall" (130 : Nat) ({ cls := "java/util/Iterator", name := "hasNext", desc := "()Z" } : Jvm.MethodName)) ∈ lw_all := lw_g (lw_at lw_m1 130 rfl) rfl
theorem q185 : (Jvm.Cond.interfaceEntry "HundiHall" (136 : Nat)) ∈ lw_tbl := lw_at lw_m1 145 rfl
theorem q186 : (Jvm.Cond.methodLink "HundiHall" (136 : Nat) ({ cls := "java/util/Iterator", name := "next", desc := "()Ljava/lang/Object;" } : Jvm.MethodName)) ∈ lw_all := lw_g (lw_at lw_m1 146 rfl) rfl
theorem q208 : (Jvm.Cond.fieldLinkNest "HundiHall" (213 : Nat) "HundiHall$Hop" "from" "LHundiHall$Broker;" "HundiHall") ∈ lw_tbl := lw_at lw_m1 168 rfl
theorem q210 : (Jvm.Cond.fieldLinkNest "HundiHall" (217 : Nat) "HundiHall$Hop" "to" "LHundiHall$Broker;" "HundiHall") ∈ lw_tbl := lw_at lw_m1 170 rfl
theorem q212 : (Jvm.Cond.fieldLinkNest "HundiHall" (220 : Nat) "HundiHall$Hop" "debt" "J" "HundiHall") ∈ lw_tbl := lw_at lw_m1 172 rfl
theorem q214 : (Jvm.Cond.fieldLinkNest "HundiHall" (209 : Nat) "HundiHall$Hop" "place" "I" "HundiHall") ∈ lw_tbl := lw_at lw_m1 174 rfl
theorem q233 : (Jvm.Cond.classLink "HundiHall" (83 : Nat) "HundiHall$Broker") ∈ lw_all := lw_g (lw_at lw_m1 193 rfl) rfl
theorem q234 : (Jvm.Cond.methodLink "HundiHall" (336 : Nat) ({ cls := "HundiHall", name := "isClear", desc := "(LHundiHall$Broker;)Z" } : Jvm.MethodName)) ∈ lw_all := lw_g (lw_at lw_m1 194 rfl) rfl
theorem q235 : (Jvm.Cond.static ({ cls := "HundiHall", name := "isClear", desc := "(LHundiHall$Broker;)Z" } : Jvm.MethodName)) ∈ lw_all := lw_g (lw_at lw_m1 195 rfl) rfl
theorem q236 : (Jvm.Cond.code ({ cls := "HundiHall", name := "isClear", desc := "(LHundiHall$Broker;)Z" } : Jvm.MethodName) prog_1_method_44_code (7 : Nat) (Option.some Jvm.ClassFile.FieldType.boolean)) ∈ lw_all := lw_g (lw_at lw_m1 196 rfl) rfl
theorem q237 : (Jvm.Cond.methodLink "HundiHall" (340 : Nat) ({ cls := "HundiHall", name := "clear", desc := "(LHundiHall$Broker;LHundiHall$Broker;)J" } : Jvm.MethodName)) ∈ lw_all := lw_g (lw_at lw_m1 197 rfl) rfl
theorem q238 : (Jvm.Cond.privateMethod ({ cls := "HundiHall", name := "clear", desc := "(LHundiHall$Broker;LHundiHall$Broker;)J" } : Jvm.MethodName)) ∈ lw_tbl := lw_at lw_m1 198 rfl
theorem q239 : (Jvm.Cond.instanceMethod ({ cls := "HundiHall", name := "clear", desc := "(LHundiHall$Broker;LHundiHall$Broker;)J" } : Jvm.MethodName)) ∈ lw_all := lw_g (lw_at lw_m1 199 rfl) rfl
theorem q240 : (Jvm.Cond.code ({ cls := "HundiHall", name := "clear", desc := "(LHundiHall$Broker;LHundiHall$Broker;)J" } : Jvm.MethodName) prog_1_method_45_code (9 : Nat) (Option.some Jvm.ClassFile.FieldType.long)) ∈ lw_all := lw_g (lw_at lw_m1 200 rfl) rfl
theorem q241 : (Jvm.Cond.methodLink "HundiHall" (343 : Nat) ({ cls := "java/lang/Math", name := "min", desc := "(JJ)J" } : Jvm.MethodName)) ∈ lw_all := lw_g (lw_at lw_m1 201 rfl) rfl
theorem q244 : (Jvm.Cond.methodLink "HundiHall" (262 : Nat) ({ cls := "HundiHall", name := "settle", desc := "(LHundiHall$Broker;LHundiHall$Broker;J)V" } : Jvm.MethodName)) ∈ lw_all := lw_g (lw_at lw_m1 204 rfl) rfl
theorem q245 : (Jvm.Cond.static ({ cls := "HundiHall", name := "settle", desc := "(LHundiHall$Broker;LHundiHall$Broker;J)V" } : Jvm.MethodName)) ∈ lw_all := lw_g (lw_at lw_m1 205 rfl) rfl
theorem q246 : (Jvm.Cond.code ({ cls := "HundiHall", name := "settle", desc := "(LHundiHall$Broker;LHundiHall$Broker;J)V" } : Jvm.MethodName) prog_1_method_14_code (4 : Nat) (Option.none : Option Jvm.ClassFile.FieldType)) ∈ lw_all := lw_g (lw_at lw_m1 206 rfl) rfl
theorem q247 : (Jvm.Cond.methodLink "HundiHall" (98 : Nat) ({ cls := "HundiHall", name := "owe", desc := "(LHundiHall$Broker;LHundiHall$Broker;J)V" } : Jvm.MethodName)) ∈ lw_all := lw_g (lw_at lw_m1 207 rfl) rfl
theorem q248 : (Jvm.Cond.static ({ cls := "HundiHall", name := "owe", desc := "(LHundiHall$Broker;LHundiHall$Broker;J)V" } : Jvm.MethodName)) ∈ lw_all := lw_g (lw_at lw_m1 208 rfl) rfl
theorem q249 : (Jvm.Cond.code ({ cls := "HundiHall", name := "owe", desc := "(LHundiHall$Broker;LHundiHall$Broker;J)V" } : Jvm.MethodName) prog_1_method_12_code (4 : Nat) (Option.none : Option Jvm.ClassFile.FieldType)) ∈ lw_all := lw_g (lw_at lw_m1 209 rfl) rfl
theorem q250 : (Jvm.Cond.methodLink "HundiHall" (102 : Nat) ({ cls := "HundiHall", name := "write", desc := "(LHundiHall$Broker;LHundiHall$Broker;J)V" } : Jvm.MethodName)) ∈ lw_all := lw_g (lw_at lw_m1 210 rfl) rfl
theorem q251 : (Jvm.Cond.static ({ cls := "HundiHall", name := "write", desc := "(LHundiHall$Broker;LHundiHall$Broker;J)V" } : Jvm.MethodName)) ∈ lw_all := lw_g (lw_at lw_m1 211 rfl) rfl
theorem q252 : (Jvm.Cond.code ({ cls := "HundiHall", name := "write", desc := "(LHundiHall$Broker;LHundiHall$Broker;J)V" } : Jvm.MethodName) prog_1_method_13_code (4 : Nat) (Option.none : Option Jvm.ClassFile.FieldType)) ∈ lw_all := lw_g (lw_at lw_m1 212 rfl) rfl
theorem q254 : (Jvm.Cond.instanceMethod ({ cls := "HundiHall", name := "inquiry", desc := "()I" } : Jvm.MethodName)) ∈ lw_all := lw_g (lw_at lw_m1 214 rfl) rfl
theorem q255 : (Jvm.Cond.selects "HundiHall" ({ cls := "HundiHall", name := "inquiry", desc := "()I" } : Jvm.MethodName) ({ cls := "HundiHall", name := "inquiry", desc := "()I" } : Jvm.MethodName)) ∈ lw_all := lw_g (lw_at lw_m1 215 rfl) rfl
theorem q256 : (Jvm.Cond.code ({ cls := "HundiHall", name := "inquiry", desc := "()I" } : Jvm.MethodName) prog_1_method_54_code (6 : Nat) (Option.some Jvm.ClassFile.FieldType.int)) ∈ lw_all := lw_g (lw_at lw_m1 216 rfl) rfl
theorem q257 : (Jvm.Cond.methodLink "HundiHall" (155 : Nat) ({ cls := "java/util/ArrayList", name := "size", desc := "()I" } : Jvm.MethodName)) ∈ lw_all := lw_g (lw_at lw_m1 217 rfl) rfl
theorem q344 : (Jvm.Cond.instanceMethod ({ cls := "HundiHall", name := "broker", desc := "(III)I" } : Jvm.MethodName)) ∈ lw_all := lw_g (lw_at lw_m2 64 rfl) rfl
theorem q345 : (Jvm.Cond.selects "HundiHall" ({ cls := "HundiHall", name := "broker", desc := "(III)I" } : Jvm.MethodName) ({ cls := "HundiHall", name := "broker", desc := "(III)I" } : Jvm.MethodName)) ∈ lw_all := lw_g (lw_at lw_m2 65 rfl) rfl
theorem q346 : (Jvm.Cond.code ({ cls := "HundiHall", name := "broker", desc := "(III)I" } : Jvm.MethodName) prog_1_method_19_code (4 : Nat) (Option.some Jvm.ClassFile.FieldType.int)) ∈ lw_all := lw_g (lw_at lw_m2 66 rfl) rfl
theorem q347 : (Jvm.Cond.methodLink "HundiHall" (148 : Nat) ({ cls := "HundiHall", name := "needTown", desc := "(I)V" } : Jvm.MethodName)) ∈ lw_all := lw_g (lw_at lw_m2 67 rfl) rfl
theorem q348 : (Jvm.Cond.static ({ cls := "HundiHall", name := "needTown", desc := "(I)V" } : Jvm.MethodName)) ∈ lw_all := lw_g (lw_at lw_m2 68 rfl) rfl
theorem q349 : (Jvm.Cond.code ({ cls := "HundiHall", name := "needTown", desc := "(I)V" } : Jvm.MethodName) prog_1_method_9_code (1 : Nat) (Option.none : Option Jvm.ClassFile.FieldType)) ∈ lw_all := lw_g (lw_at lw_m2 69 rfl) rfl
theorem q350 : (Jvm.Cond.methodLink "HundiHall" (37 : Nat) ({ cls := "HundiHall", name := "needBelow", desc := "(II)V" } : Jvm.MethodName)) ∈ lw_all := lw_g (lw_at lw_m2 70 rfl) rfl
theorem q351 : (Jvm.Cond.static ({ cls := "HundiHall", name := "needBelow", desc := "(II)V" } : Jvm.MethodName)) ∈ lw_all := lw_g (lw_at lw_m2 71 rfl) rfl
theorem q352 : (Jvm.Cond.code ({ cls := "HundiHall", name := "needBelow", desc := "(II)V" } : Jvm.MethodName) prog_1_method_5_code (2 : Nat) (Option.none : Option Jvm.ClassFile.FieldType)) ∈ lw_all := lw_g (lw_at lw_m2 72 rfl) rfl
theorem q353 : (Jvm.Cond.methodLink "HundiHall" (21 : Nat) ({ cls := "HundiHall", name := "isBetween", desc := "(III)Z" } : Jvm.MethodName)) ∈ lw_all := lw_g (lw_at lw_m2 73 rfl) rfl
theorem q354 : (Jvm.Cond.static ({ cls := "HundiHall", name := "isBetween", desc := "(III)Z" } : Jvm.MethodName)) ∈ lw_all := lw_g (lw_at lw_m2 74 rfl) rfl
theorem q355 : (Jvm.Cond.code ({ cls := "HundiHall", name := "isBetween", desc := "(III)Z" } : Jvm.MethodName) prog_1_method_4_code (3 : Nat) (Option.some Jvm.ClassFile.FieldType.boolean)) ∈ lw_all := lw_g (lw_at lw_m2 75 rfl) rfl
theorem q356 : (Jvm.Cond.methodLink "HundiHall" (27 : Nat) ({ cls := "HundiHall", name := "needIndex", desc := "(Z)V" } : Jvm.MethodName)) ∈ lw_all := lw_g (lw_at lw_m2 76 rfl) rfl
theorem q357 : (Jvm.Cond.static ({ cls := "HundiHall", name := "needIndex", desc := "(Z)V" } : Jvm.MethodName)) ∈ lw_all := lw_g (lw_at lw_m2 77 rfl) rfl
theorem q358 : (Jvm.Cond.code ({ cls := "HundiHall", name := "needIndex", desc := "(Z)V" } : Jvm.MethodName) prog_1_method_1_code (1 : Nat) (Option.none : Option Jvm.ClassFile.FieldType)) ∈ lw_all := lw_g (lw_at lw_m2 78 rfl) rfl
theorem q359 : (Jvm.Cond.classLink "HundiHall" (3 : Nat) "java/lang/IndexOutOfBoundsException") ∈ lw_all := lw_g (lw_at lw_m2 79 rfl) rfl
theorem q368 : (Jvm.Cond.stringRef "HundiHall" (5 : Nat) "there is none") ∈ lw_tbl := lw_at lw_m2 88 rfl
theorem q369 : (Jvm.Cond.methodLink "HundiHall" (7 : Nat) ({ cls := "java/lang/IndexOutOfBoundsException", name := "<init>", desc := "(Ljava/lang/String;)V" } : Jvm.MethodName)) ∈ lw_all := lw_g (lw_at lw_m2 89 rfl) rfl
theorem q372 : (Jvm.Cond.methodLink "HundiHall" (85 : Nat) ({ cls := "HundiHall", name := "needArgument", desc := "(Z)V" } : Jvm.MethodName)) ∈ lw_all := lw_g (lw_at lw_m2 92 rfl) rfl
theorem q373 : (Jvm.Cond.static ({ cls := "HundiHall", name := "needArgument", desc := "(Z)V" } : Jvm.MethodName)) ∈ lw_all := lw_g (lw_at lw_m2 93 rfl) rfl
theorem q374 : (Jvm.Cond.code ({ cls := "HundiHall", name := "needArgument", desc := "(Z)V" } : Jvm.MethodName) prog_1_method_2_code (1 : Nat) (Option.none : Option Jvm.ClassFile.FieldType)) ∈ lw_all := lw_g (lw_at lw_m2 94 rfl) rfl
theorem q375 : (Jvm.Cond.classLink "HundiHall" (11 : Nat) "java/lang/IllegalArgumentException") ∈ lw_all := lw_g (lw_at lw_m2 95 rfl) rfl
theorem q384 : (Jvm.Cond.stringRef "HundiHall" (13 : Nat) "out of range") ∈ lw_tbl := lw_at lw_m2 104 rfl
theorem q385 : (Jvm.Cond.methodLink "HundiHall" (15 : Nat) ({ cls := "java/lang/IllegalArgumentException", name := "<init>", desc := "(Ljava/lang/String;)V" } : Jvm.MethodName)) ∈ lw_all := lw_g (lw_at lw_m2 105 rfl) rfl
theorem q391 : (Jvm.Cond.methodLink "HundiHall" (152 : Nat) ({ cls := "HundiHall", name := "needRate", desc := "(I)V" } : Jvm.MethodName)) ∈ lw_all := lw_g (lw_at lw_m2 111 rfl) rfl
theorem q392 : (Jvm.Cond.static ({ cls := "HundiHall", name := "needRate", desc := "(I)V" } : Jvm.MethodName)) ∈ lw_all := lw_g (lw_at lw_m2 112 rfl) rfl
theorem q393 : (Jvm.Cond.code ({ cls := "HundiHall", name := "needRate", desc := "(I)V" } : Jvm.MethodName) prog_1_method_18_code (1 : Nat) (Option.none : Option Jvm.ClassFile.FieldType)) ∈ lw_all := lw_g (lw_at lw_m2 113 rfl) rfl
theorem q394 : (Jvm.Cond.methodLink "HundiHall" (156 : Nat) ({ cls := "HundiHall", name := "needState", desc := "(Z)V" } : Jvm.MethodName)) ∈ lw_all := lw_g (lw_at lw_m2 114 rfl) rfl
theorem q395 : (Jvm.Cond.static ({ cls := "HundiHall", name := "needState", desc := "(Z)V" } : Jvm.MethodName)) ∈ lw_all := lw_g (lw_at lw_m2 115 rfl) rfl
theorem q396 : (Jvm.Cond.code ({ cls := "HundiHall", name := "needState", desc := "(Z)V" } : Jvm.MethodName) prog_1_method_3_code (1 : Nat) (Option.none : Option Jvm.ClassFile.FieldType)) ∈ lw_all := lw_g (lw_at lw_m2 116 rfl) rfl
theorem q397 : (Jvm.Cond.classLink "HundiHall" (16 : Nat) "java/lang/IllegalStateException") ∈ lw_all := lw_g (lw_at lw_m2 117 rfl) rfl
theorem q406 : (Jvm.Cond.stringRef "HundiHall" (18 : Nat) "not possible now") ∈ lw_tbl := lw_at lw_m2 126 rfl
theorem q407 : (Jvm.Cond.methodLink "HundiHall" (20 : Nat) ({ cls := "java/lang/IllegalStateException", name := "<init>", desc := "(Ljava/lang/String;)V" } : Jvm.MethodName)) ∈ lw_all := lw_g (lw_at lw_m2 127 rfl) rfl
theorem q414 : (Jvm.Cond.methodLink "HundiHall" (159 : Nat) ({ cls := "HundiHall$Broker", name := "<init>", desc := "(IIII)V" } : Jvm.MethodName)) ∈ lw_all := lw_g (lw_at lw_m2 134 rfl) rfl
theorem q419 : (Jvm.Cond.fieldLinkNest "HundiHall" (91 : Nat) "HundiHall$Broker" "number" "I" "HundiHall") ∈ lw_tbl := lw_at lw_m2 139 rfl
theorem q421 : (Jvm.Cond.fieldLinkNest "HundiHall" (202 : Nat) "HundiHall$Broker" "town" "I" "HundiHall") ∈ lw_tbl := lw_at lw_m2 141 rfl
theorem q423 : (Jvm.Cond.fieldLinkNest "HundiHall" (191 : Nat) "HundiHall$Broker" "cash" "J" "HundiHall") ∈ lw_tbl := lw_at lw_m2 143 rfl
theorem q425 : (Jvm.Cond.fieldLinkNest "HundiHall" (170 : Nat) "HundiHall$Broker" "rate" "I" "HundiHall") ∈ lw_tbl := lw_at lw_m2 145 rfl
theorem q427 : (Jvm.Cond.fieldLinkNest "HundiHall" (117 : Nat) "HundiHall$Broker" "state" "I" "HundiHall") ∈ lw_tbl := lw_at lw_m2 147 rfl
theorem q428 : (Jvm.Cond.fieldLinkNest "HundiHall" (265 : Nat) "HundiHall$Broker" "raidedUntil" "I" "HundiHall") ∈ lw_tbl := lw_at lw_m2 148 rfl
theorem q429 : (Jvm.Cond.fieldLinkNest "HundiHall" (312 : Nat) "HundiHall$Broker" "wasRaided" "Z" "HundiHall") ∈ lw_tbl := lw_at lw_m2 149 rfl
theorem q431 : (Jvm.Cond.fieldLinkNest "HundiHall" (88 : Nat) "HundiHall$Broker" "owes" "[J" "HundiHall") ∈ lw_tbl := lw_at lw_m2 151 rfl
theorem q433 : (Jvm.Cond.fieldLinkNest "HundiHall" (95 : Nat) "HundiHall$Broker" "book" "[J" "HundiHall") ∈ lw_tbl := lw_at lw_m2 153 rfl
theorem q435 : (Jvm.Cond.fieldLinkNest "HundiHall" (114 : Nat) "HundiHall$Broker" "limits" "[I" "HundiHall") ∈ lw_tbl := lw_at lw_m2 155 rfl
theorem q437 : (Jvm.Cond.fieldLinkNest "HundiHall" (109 : Nat) "HundiHall$Broker" "areKin" "[Z" "HundiHall") ∈ lw_tbl := lw_at lw_m2 157 rfl
theorem q461 : (Jvm.Cond.methodLink "HundiHall" (162 : Nat) ({ cls := "java/util/ArrayList", name := "add", desc := "(Ljava/lang/Object;)Z" } : Jvm.MethodName)) ∈ lw_all := lw_g (lw_at lw_m2 181 rfl) rfl
theorem q493 : (Jvm.Cond.selects "HundiHall" ({ cls := "java/lang/Object", name := "getClass", desc := "()Ljava/lang/Class;" } : Jvm.MethodName) ({ cls := "java/lang/Object", name := "getClass", desc := "()Ljava/lang/Class;" } : Jvm.MethodName)) ∈ lw_all := lw_g (lw_at lw_m2 213 rfl) rfl
theorem q527 : (Jvm.Cond.instanceMethod ({ cls := "HundiHall", name := "rate", desc := "(II)I" } : Jvm.MethodName)) ∈ lw_all := lw_g (lw_at lw_m3 7 rfl) rfl
theorem q528 : (Jvm.Cond.selects "HundiHall" ({ cls := "HundiHall", name := "rate", desc := "(II)I" } : Jvm.MethodName) ({ cls := "HundiHall", name := "rate", desc := "(II)I" } : Jvm.MethodName)) ∈ lw_all := lw_g (lw_at lw_m3 8 rfl) rfl
theorem q529 : (Jvm.Cond.code ({ cls := "HundiHall", name := "rate", desc := "(II)I" } : Jvm.MethodName) prog_1_method_20_code (5 : Nat) (Option.some Jvm.ClassFile.FieldType.int)) ∈ lw_all := lw_g (lw_at lw_m3 9 rfl) rfl
theorem q530 : (Jvm.Cond.methodLink "HundiHall" (166 : Nat) ({ cls := "HundiHall", name := "brokerAt", desc := "(I)LHundiHall$Broker;" } : Jvm.MethodName)) ∈ lw_all := lw_g (lw_at lw_m3 10 rfl) rfl
theorem q531 : (Jvm.Cond.privateMethod ({ cls := "HundiHall", name := "brokerAt", desc := "(I)LHundiHall$Broker;" } : Jvm.MethodName)) ∈ lw_tbl := lw_at lw_m3 11 rfl
theorem q532 : (Jvm.Cond.instanceMethod ({ cls := "HundiHall", name := "brokerAt", desc := "(I)LHundiHall$Broker;" } : Jvm.MethodName)) ∈ lw_all := lw_g (lw_at lw_m3 12 rfl) rfl
theorem q533 : (Jvm.Cond.code ({ cls := "HundiHall", name := "brokerAt", desc := "(I)LHundiHall$Broker;" } : Jvm.MethodName) prog_1_method_8_code (2 : Nat) (Option.some (Jvm.ClassFile.FieldType.object "HundiHall$Broker"))) ∈ lw_all := lw_g (lw_at lw_m3 13 rfl) rfl
theorem q534 : (Jvm.Cond.methodLink "HundiHall" (79 : Nat) ({ cls := "HundiHall", name := "known", desc := "(Ljava/util/List;I)Ljava/lang/Object;" } : Jvm.MethodName)) ∈ lw_all := lw_g (lw_at lw_m3 14 rfl) rfl
theorem q535 : (Jvm.Cond.static ({ cls := "HundiHall", name := "known", desc := "(Ljava/util/List;I)Ljava/lang/Object;" } : Jvm.MethodName)) ∈ lw_all := lw_g (lw_at lw_m3 15 rfl) rfl
theorem q536 : (Jvm.Cond.code ({ cls := "HundiHall", name := "known", desc := "(Ljava/util/List;I)Ljava/lang/Object;" } : Jvm.MethodName) prog_1_method_6_code (2 : Nat) (Option.some (Jvm.ClassFile.FieldType.object "java/lang/Object"))) ∈ lw_all := lw_g (lw_at lw_m3 16 rfl) rfl
theorem q537 : (Jvm.Cond.interfaceEntry "HundiHall" (31 : Nat)) ∈ lw_tbl := lw_at lw_m3 17 rfl
theorem q538 : (Jvm.Cond.methodLink "HundiHall" (31 : Nat) ({ cls := "java/util/List", name := "size", desc := "()I" } : Jvm.MethodName)) ∈ lw_all := lw_g (lw_at lw_m3 18 rfl) rfl
theorem q545 : (Jvm.Cond.interfaceEntry "HundiHall" (41 : Nat)) ∈ lw_tbl := lw_at lw_m3 25 rfl
theorem q546 : (Jvm.Cond.methodLink "HundiHall" (41 : Nat) ({ cls := "java/util/List", name := "get", desc := "(I)Ljava/lang/Object;" } : Jvm.MethodName)) ∈ lw_all := lw_g (lw_at lw_m3 26 rfl) rfl
theorem q568 : (Jvm.Cond.instanceMethod ({ cls := "HundiHall", name := "trust", desc := "(IIIZ)V" } : Jvm.MethodName)) ∈ lw_all := lw_g (lw_at lw_m3 48 rfl) rfl
theorem q569 : (Jvm.Cond.selects "HundiHall" ({ cls := "HundiHall", name := "trust", desc := "(IIIZ)V" } : Jvm.MethodName) ({ cls := "HundiHall", name := "trust", desc := "(IIIZ)V" } : Jvm.MethodName)) ∈ lw_all := lw_g (lw_at lw_m3 49 rfl) rfl
theorem q570 : (Jvm.Cond.code ({ cls := "HundiHall", name := "trust", desc := "(IIIZ)V" } : Jvm.MethodName) prog_1_method_21_code (7 : Nat) (Option.none : Option Jvm.ClassFile.FieldType)) ∈ lw_all := lw_g (lw_at lw_m3 50 rfl) rfl
theorem q575 : (Jvm.Cond.instanceMethod ({ cls := "HundiHall", name := "breakWord", desc := "(I)I" } : Jvm.MethodName)) ∈ lw_all := lw_g (lw_at lw_m3 55 rfl) rfl
theorem q576 : (Jvm.Cond.selects "HundiHall" ({ cls := "HundiHall", name := "breakWord", desc := "(I)I" } : Jvm.MethodName) ({ cls := "HundiHall", name := "breakWord", desc := "(I)I" } : Jvm.MethodName)) ∈ lw_all := lw_g (lw_at lw_m3 56 rfl) rfl
theorem q577 : (Jvm.Cond.code ({ cls := "HundiHall", name := "breakWord", desc := "(I)I" } : Jvm.MethodName) prog_1_method_36_code (4 : Nat) (Option.some Jvm.ClassFile.FieldType.int)) ∈ lw_all := lw_g (lw_at lw_m3 57 rfl) rfl
theorem q578 : (Jvm.Cond.classLink "HundiHall" (300 : Nat) "HundiHall$Word") ∈ lw_all := lw_g (lw_at lw_m3 58 rfl) rfl
theorem q580 : (Jvm.Cond.methodLinkNest "HundiHall" (315 : Nat) ({ cls := "HundiHall$Word", name := "<init>", desc := "(LHundiHall$Broker;)V" } : Jvm.MethodName) "HundiHall") ∈ lw_tbl := lw_at lw_m3 60 rfl
theorem q585 : (Jvm.Cond.fieldLinkNest "HundiHall" (302 : Nat) "HundiHall$Word" "broker" "LHundiHall$Broker;" "HundiHall") ∈ lw_tbl := lw_at lw_m3 65 rfl
theorem q589 : (Jvm.Cond.methodLink "HundiHall" (318 : Nat) ({ cls := "HundiHall", name := "bear", desc := "(LHundiHall$Blow;)V" } : Jvm.MethodName)) ∈ lw_all := lw_g (lw_at lw_m3 69 rfl) rfl
theorem q590 : (Jvm.Cond.privateMethod ({ cls := "HundiHall", name := "bear", desc := "(LHundiHall$Blow;)V" } : Jvm.MethodName)) ∈ lw_tbl := lw_at lw_m3 70 rfl
theorem q591 : (Jvm.Cond.instanceMethod ({ cls := "HundiHall", name := "bear", desc := "(LHundiHall$Blow;)V" } : Jvm.MethodName)) ∈ lw_all := lw_g (lw_at lw_m3 71 rfl) rfl
theorem q592 : (Jvm.Cond.code ({ cls := "HundiHall", name := "bear", desc := "(LHundiHall$Blow;)V" } : Jvm.MethodName) prog_1_method_35_code (3 : Nat) (Option.none : Option Jvm.ClassFile.FieldType)) ∈ lw_all := lw_g (lw_at lw_m3 72 rfl) rfl
theorem q593 : (Jvm.Cond.classLink "HundiHall" (295 : Nat) "HundiHall$Raid") ∈ lw_all := lw_g (lw_at lw_m3 73 rfl) rfl
theorem q594 : (Jvm.Cond.methodLink "HundiHall" (322 : Nat) ({ cls := "HundiHall", name := "strike", desc := "(LHundiHall$Blow;)I" } : Jvm.MethodName)) ∈ lw_all := lw_g (lw_at lw_m3 74 rfl) rfl
theorem q595 : (Jvm.Cond.privateMethod ({ cls := "HundiHall", name := "strike", desc := "(LHundiHall$Blow;)I" } : Jvm.MethodName)) ∈ lw_tbl := lw_at lw_m3 75 rfl
theorem q596 : (Jvm.Cond.instanceMethod ({ cls := "HundiHall", name := "strike", desc := "(LHundiHall$Blow;)I" } : Jvm.MethodName)) ∈ lw_all := lw_g (lw_at lw_m3 76 rfl) rfl
theorem q597 : (Jvm.Cond.code ({ cls := "HundiHall", name := "strike", desc := "(LHundiHall$Blow;)I" } : Jvm.MethodName) prog_1_method_34_code (7 : Nat) (Option.some Jvm.ClassFile.FieldType.int)) ∈ lw_all := lw_g (lw_at lw_m3 77 rfl) rfl
theorem q598 : (Jvm.Cond.classLink "HundiHall" (183 : Nat) "HundiHall$Order") ∈ lw_all := lw_g (lw_at lw_m3 78 rfl) rfl
theorem q599 : (Jvm.Cond.methodLink "HundiHall" (227 : Nat) ({ cls := "HundiHall$Order", name := "first", desc := "()LHundiHall$Broker;" } : Jvm.MethodName)) ∈ lw_all := lw_g (lw_at lw_m3 79 rfl) rfl
theorem q603 : (Jvm.Cond.methodLink "HundiHall" (223 : Nat) ({ cls := "HundiHall", name := "takeBack", desc := "(LHundiHall$Order;I)V" } : Jvm.MethodName)) ∈ lw_all := lw_g (lw_at lw_m3 83 rfl) rfl
theorem q604 : (Jvm.Cond.static ({ cls := "HundiHall", name := "takeBack", desc := "(LHundiHall$Order;I)V" } : Jvm.MethodName)) ∈ lw_all := lw_g (lw_at lw_m3 84 rfl) rfl
theorem q605 : (Jvm.Cond.code ({ cls := "HundiHall", name := "takeBack", desc := "(LHundiHall$Order;I)V" } : Jvm.MethodName) prog_1_method_25_code (4 : Nat) (Option.none : Option Jvm.ClassFile.FieldType)) ∈ lw_all := lw_g (lw_at lw_m3 85 rfl) rfl
theorem q606 : (Jvm.Cond.methodLink "HundiHall" (206 : Nat) ({ cls := "HundiHall$Order", name := "iterator", desc := "()Ljava/util/Iterator;" } : Jvm.MethodName)) ∈ lw_all := lw_g (lw_at lw_m3 86 rfl) rfl
theorem q623 : (Jvm.Cond.classLink "HundiHall" (207 : Nat) "HundiHall$Hop") ∈ lw_all := lw_g (lw_at lw_m3 103 rfl) rfl
theorem q624 : (Jvm.Cond.methodLink "HundiHall" (303 : Nat) ({ cls := "HundiHall$Order", name := "placeOf", desc := "(LHundiHall$Broker;)I" } : Jvm.MethodName)) ∈ lw_all := lw_g (lw_at lw_m3 104 rfl) rfl
theorem q628 : (Jvm.Cond.methodLink "HundiHall" (307 : Nat) ({ cls := "HundiHall", name := "turn", desc := "(LHundiHall$Order;)V" } : Jvm.MethodName)) ∈ lw_all := lw_g (lw_at lw_m3 108 rfl) rfl
theorem q629 : (Jvm.Cond.privateMethod ({ cls := "HundiHall", name := "turn", desc := "(LHundiHall$Order;)V" } : Jvm.MethodName)) ∈ lw_tbl := lw_at lw_m3 109 rfl
theorem q630 : (Jvm.Cond.instanceMethod ({ cls := "HundiHall", name := "turn", desc := "(LHundiHall$Order;)V" } : Jvm.MethodName)) ∈ lw_all := lw_g (lw_at lw_m3 110 rfl) rfl
theorem q631 : (Jvm.Cond.code ({ cls := "HundiHall", name := "turn", desc := "(LHundiHall$Order;)V" } : Jvm.MethodName) prog_1_method_33_code (7 : Nat) (Option.none : Option Jvm.ClassFile.FieldType)) ∈ lw_all := lw_g (lw_at lw_m3 111 rfl) rfl
theorem q632 : (Jvm.Cond.methodLink "HundiHall" (232 : Nat) ({ cls := "HundiHall$Order", name := "last", desc := "()LHundiHall$Broker;" } : Jvm.MethodName)) ∈ lw_all := lw_g (lw_at lw_m3 112 rfl) rfl
theorem q636 : (Jvm.Cond.methodLink "HundiHall" (179 : Nat) ({ cls := "HundiHall", name := "wayBetween", desc := "(LHundiHall$Broker;LHundiHall$Broker;II)[LHundiHall$Broker;" } : Jvm.MethodName)) ∈ lw_all := lw_g (lw_at lw_m3 116 rfl) rfl
theorem q637 : (Jvm.Cond.privateMethod ({ cls := "HundiHall", name := "wayBetween", desc := "(LHundiHall$Broker;LHundiHall$Broker;II)[LHundiHall$Broker;" } : Jvm.MethodName)) ∈ lw_tbl := lw_at lw_m3 117 rfl
theorem q638 : (Jvm.Cond.instanceMethod ({ cls := "HundiHall", name := "wayBetween", desc := "(LHundiHall$Broker;LHundiHall$Broker;II)[LHundiHall$Broker;" } : Jvm.MethodName)) ∈ lw_all := lw_g (lw_at lw_m3 118 rfl) rfl
theorem q639 : (Jvm.Cond.code ({ cls := "HundiHall", name := "wayBetween", desc := "(LHundiHall$Broker;LHundiHall$Broker;II)[LHundiHall$Broker;" } : Jvm.MethodName) prog_1_method_16_code (14 : Nat) (Option.some (Jvm.ClassFile.FieldType.array (Jvm.ClassFile.FieldType.object "HundiHall$Broker")))) ∈ lw_all := lw_g (lw_at lw_m3 119 rfl) rfl
theorem q640 : (Jvm.Cond.constantLong "HundiHall" (120 : Nat) (9223372036854775807 : Int64)) ∈ lw_all := lw_g (lw_at lw_m3 120 rfl) rfl
theorem q641 : (Jvm.Cond.methodLink "HundiHall" (122 : Nat) ({ cls := "HundiHall$Broker", name := "feeOf", desc := "(I)I" } : Jvm.MethodName)) ∈ lw_all := lw_g (lw_at lw_m3 121 rfl) rfl
theorem q646 : (Jvm.Cond.methodLink "HundiHall" (140 : Nat) ({ cls := "HundiHall", name := "nextOf", desc := "(LHundiHall$Broker;LHundiHall$Broker;II[J[I)LHundiHall$Broker;" } : Jvm.MethodName)) ∈ lw_all := lw_g (lw_at lw_m3 126 rfl) rfl
theorem q647 : (Jvm.Cond.privateMethod ({ cls := "HundiHall", name := "nextOf", desc := "(LHundiHall$Broker;LHundiHall$Broker;II[J[I)LHundiHall$Broker;" } : Jvm.MethodName)) ∈ lw_tbl := lw_at lw_m3 127 rfl
theorem q648 : (Jvm.Cond.instanceMethod ({ cls := "HundiHall", name := "nextOf", desc := "(LHundiHall$Broker;LHundiHall$Broker;II[J[I)LHundiHall$Broker;" } : Jvm.MethodName)) ∈ lw_all := lw_g (lw_at lw_m3 128 rfl) rfl
theorem q649 : (Jvm.Cond.code ({ cls := "HundiHall", name := "nextOf", desc := "(LHundiHall$Broker;LHundiHall$Broker;II[J[I)LHundiHall$Broker;" } : Jvm.MethodName) prog_1_method_17_code (12 : Nat) (Option.some (Jvm.ClassFile.FieldType.object "HundiHall$Broker"))) ∈ lw_all := lw_g (lw_at lw_m3 129 rfl) rfl
theorem q650 : (Jvm.Cond.methodLink "HundiHall" (144 : Nat) ({ cls := "HundiHall", name := "limitOf", desc := "(LHundiHall$Broker;LHundiHall$Broker;)J" } : Jvm.MethodName)) ∈ lw_all := lw_g (lw_at lw_m3 130 rfl) rfl
theorem q651 : (Jvm.Cond.privateMethod ({ cls := "HundiHall", name := "limitOf", desc := "(LHundiHall$Broker;LHundiHall$Broker;)J" } : Jvm.MethodName)) ∈ lw_tbl := lw_at lw_m3 131 rfl
theorem q652 : (Jvm.Cond.instanceMethod ({ cls := "HundiHall", name := "limitOf", desc := "(LHundiHall$Broker;LHundiHall$Broker;)J" } : Jvm.MethodName)) ∈ lw_all := lw_g (lw_at lw_m3 132 rfl) rfl
theorem q653 : (Jvm.Cond.code ({ cls := "HundiHall", name := "limitOf", desc := "(LHundiHall$Broker;LHundiHall$Broker;)J" } : Jvm.MethodName) prog_1_method_15_code (5 : Nat) (Option.some Jvm.ClassFile.FieldType.long)) ∈ lw_all := lw_g (lw_at lw_m3 133 rfl) rfl
theorem q654 : (Jvm.Cond.constantLong "HundiHall" (112 : Nat) (2 : Int64)) ∈ lw_all := lw_g (lw_at lw_m3 134 rfl) rfl
theorem q656 : (Jvm.Cond.methodLink "HundiHall" (287 : Nat) ({ cls := "HundiHall$Order", name := "feesBehind", desc := "(I)J" } : Jvm.MethodName)) ∈ lw_all := lw_g (lw_at lw_m3 136 rfl) rfl
theorem q660 : (Jvm.Cond.methodLink "HundiHall" (291 : Nat) ({ cls := "HundiHall$Order", name := "turn", desc := "([LHundiHall$Broker;)V" } : Jvm.MethodName)) ∈ lw_all := lw_g (lw_at lw_m3 140 rfl) rfl
theorem q667 : (Jvm.Cond.methodLink "HundiHall" (198 : Nat) ({ cls := "HundiHall", name := "lend", desc := "(LHundiHall$Order;)V" } : Jvm.MethodName)) ∈ lw_all := lw_g (lw_at lw_m3 147 rfl) rfl
theorem q668 : (Jvm.Cond.static ({ cls := "HundiHall", name := "lend", desc := "(LHundiHall$Order;)V" } : Jvm.MethodName)) ∈ lw_all := lw_g (lw_at lw_m3 148 rfl) rfl
theorem q669 : (Jvm.Cond.code ({ cls := "HundiHall", name := "lend", desc := "(LHundiHall$Order;)V" } : Jvm.MethodName) prog_1_method_24_code (3 : Nat) (Option.none : Option Jvm.ClassFile.FieldType)) ∈ lw_all := lw_g (lw_at lw_m3 149 rfl) rfl
theorem q670 : (Jvm.Cond.methodLink "HundiHall" (244 : Nat) ({ cls := "HundiHall", name := "goBack", desc := "(LHundiHall$Order;)V" } : Jvm.MethodName)) ∈ lw_all := lw_g (lw_at lw_m3 150 rfl) rfl
theorem q671 : (Jvm.Cond.static ({ cls := "HundiHall", name := "goBack", desc := "(LHundiHall$Order;)V" } : Jvm.MethodName)) ∈ lw_all := lw_g (lw_at lw_m3 151 rfl) rfl
theorem q672 : (Jvm.Cond.code ({ cls := "HundiHall", name := "goBack", desc := "(LHundiHall$Order;)V" } : Jvm.MethodName) prog_1_method_26_code (1 : Nat) (Option.none : Option Jvm.ClassFile.FieldType)) ∈ lw_all := lw_g (lw_at lw_m3 152 rfl) rfl
theorem q677 : (Jvm.Cond.instanceMethod ({ cls := "HundiHall", name := "raid", desc := "(I)I" } : Jvm.MethodName)) ∈ lw_all := lw_g (lw_at lw_m3 157 rfl) rfl
theorem q678 : (Jvm.Cond.selects "HundiHall" ({ cls := "HundiHall", name := "raid", desc := "(I)I" } : Jvm.MethodName) ({ cls := "HundiHall", name := "raid", desc := "(I)I" } : Jvm.MethodName)) ∈ lw_all := lw_g (lw_at lw_m3 158 rfl) rfl
theorem q679 : (Jvm.Cond.code ({ cls := "HundiHall", name := "raid", desc := "(I)I" } : Jvm.MethodName) prog_1_method_37_code (6 : Nat) (Option.some Jvm.ClassFile.FieldType.int)) ∈ lw_all := lw_g (lw_at lw_m3 159 rfl) rfl
theorem q681 : (Jvm.Cond.methodLinkNest "HundiHall" (326 : Nat) ({ cls := "HundiHall$Raid", name := "<init>", desc := "(LHundiHall$Broker;I)V" } : Jvm.MethodName) "HundiHall") ∈ lw_tbl := lw_at lw_m3 161 rfl
theorem q686 : (Jvm.Cond.fieldLinkNest "HundiHall" (297 : Nat) "HundiHall$Raid" "broker" "LHundiHall$Broker;" "HundiHall") ∈ lw_tbl := lw_at lw_m3 166 rfl
theorem q688 : (Jvm.Cond.fieldLinkNest "HundiHall" (309 : Nat) "HundiHall$Raid" "until" "I" "HundiHall") ∈ lw_tbl := lw_at lw_m3 168 rfl
theorem q698 : (Jvm.Cond.instanceMethod ({ cls := "HundiHall", name := "order", desc := "(IIIII)I" } : Jvm.MethodName)) ∈ lw_all := lw_g (lw_at lw_m3 178 rfl) rfl
theorem q699 : (Jvm.Cond.selects "HundiHall" ({ cls := "HundiHall", name := "order", desc := "(IIIII)I" } : Jvm.MethodName) ({ cls := "HundiHall", name := "order", desc := "(IIIII)I" } : Jvm.MethodName)) ∈ lw_all := lw_g (lw_at lw_m3 179 rfl) rfl
theorem q700 : (Jvm.Cond.code ({ cls := "HundiHall", name := "order", desc := "(IIIII)I" } : Jvm.MethodName) prog_1_method_23_code (10 : Nat) (Option.some Jvm.ClassFile.FieldType.int)) ∈ lw_all := lw_g (lw_at lw_m3 180 rfl) rfl
theorem q701 : (Jvm.Cond.methodLink "HundiHall" (173 : Nat) ({ cls := "HundiHall", name := "needName", desc := "(I)V" } : Jvm.MethodName)) ∈ lw_all := lw_g (lw_at lw_m3 181 rfl) rfl
theorem q702 : (Jvm.Cond.static ({ cls := "HundiHall", name := "needName", desc := "(I)V" } : Jvm.MethodName)) ∈ lw_all := lw_g (lw_at lw_m3 182 rfl) rfl
theorem q703 : (Jvm.Cond.code ({ cls := "HundiHall", name := "needName", desc := "(I)V" } : Jvm.MethodName) prog_1_method_10_code (1 : Nat) (Option.none : Option Jvm.ClassFile.FieldType)) ∈ lw_all := lw_g (lw_at lw_m3 183 rfl) rfl
theorem q704 : (Jvm.Cond.methodLink "HundiHall" (176 : Nat) ({ cls := "HundiHall", name := "needAmount", desc := "(I)V" } : Jvm.MethodName)) ∈ lw_all := lw_g (lw_at lw_m3 184 rfl) rfl
theorem q705 : (Jvm.Cond.static ({ cls := "HundiHall", name := "needAmount", desc := "(I)V" } : Jvm.MethodName)) ∈ lw_all := lw_g (lw_at lw_m3 185 rfl) rfl
theorem q706 : (Jvm.Cond.code ({ cls := "HundiHall", name := "needAmount", desc := "(I)V" } : Jvm.MethodName) prog_1_method_11_code (1 : Nat) (Option.none : Option Jvm.ClassFile.FieldType)) ∈ lw_all := lw_g (lw_at lw_m3 186 rfl) rfl
theorem q708 : (Jvm.Cond.methodLink "HundiHall" (188 : Nat) ({ cls := "HundiHall$Order", name := "<init>", desc := "(IIII[LHundiHall$Broker;)V" } : Jvm.MethodName)) ∈ lw_all := lw_g (lw_at lw_m3 188 rfl) rfl
theorem q713 : (Jvm.Cond.fieldLinkNest "HundiHall" (205 : Nat) "HundiHall$Order" "number" "I" "HundiHall") ∈ lw_tbl := lw_at lw_m3 193 rfl
theorem q715 : (Jvm.Cond.fieldLinkNest "HundiHall" (235 : Nat) "HundiHall$Order" "amount" "I" "HundiHall") ∈ lw_tbl := lw_at lw_m3 195 rfl
theorem q717 : (Jvm.Cond.fieldLinkNest "HundiHall" (238 : Nat) "HundiHall$Order" "code" "I" "HundiHall") ∈ lw_tbl := lw_at lw_m3 197 rfl
theorem q719 : (Jvm.Cond.fieldLinkNest "HundiHall" (274 : Nat) "HundiHall$Order" "given" "I" "HundiHall") ∈ lw_tbl := lw_at lw_m3 199 rfl
theorem q721 : (Jvm.Cond.fieldLinkNest "HundiHall" (195 : Nat) "HundiHall$Order" "sum" "I" "HundiHall") ∈ lw_tbl := lw_at lw_m3 201 rfl
theorem q724 : (Jvm.Cond.fieldLinkNest "HundiHall" (247 : Nat) "HundiHall$Order" "way" "[LHundiHall$Broker;" "HundiHall") ∈ lw_tbl := lw_at lw_m3 204 rfl
theorem q729 : (Jvm.Cond.fieldLinkNest "HundiHall" (212 : Nat) "HundiHall$Order" "place" "I" "HundiHall") ∈ lw_tbl := lw_at lw_m3 209 rfl
theorem q730 : (Jvm.Cond.fieldLinkNest "HundiHall" (241 : Nat) "HundiHall$Order" "tries" "I" "HundiHall") ∈ lw_tbl := lw_at lw_m3 210 rfl
theorem q732 : (Jvm.Cond.fieldLinkNest "HundiHall" (231 : Nat) "HundiHall$Order" "state" "I" "HundiHall") ∈ lw_tbl := lw_at lw_m3 212 rfl
theorem q760 : (Jvm.Cond.instanceMethod ({ cls := "HundiHall", name := "fetch", desc := "(II)I" } : Jvm.MethodName)) ∈ lw_all := lw_g (lw_at lw_m4 0 rfl) rfl
theorem q761 : (Jvm.Cond.selects "HundiHall" ({ cls := "HundiHall", name := "fetch", desc := "(II)I" } : Jvm.MethodName) ({ cls := "HundiHall", name := "fetch", desc := "(II)I" } : Jvm.MethodName)) ∈ lw_all := lw_g (lw_at lw_m4 1 rfl) rfl
theorem q762 : (Jvm.Cond.code ({ cls := "HundiHall", name := "fetch", desc := "(II)I" } : Jvm.MethodName) prog_1_method_27_code (5 : Nat) (Option.some Jvm.ClassFile.FieldType.int)) ∈ lw_all := lw_g (lw_at lw_m4 2 rfl) rfl
theorem q767 : (Jvm.Cond.instanceMethod ({ cls := "HundiHall", name := "pass", desc := "(I)I" } : Jvm.MethodName)) ∈ lw_all := lw_g (lw_at lw_m4 7 rfl) rfl
theorem q768 : (Jvm.Cond.selects "HundiHall" ({ cls := "HundiHall", name := "pass", desc := "(I)I" } : Jvm.MethodName) ({ cls := "HundiHall", name := "pass", desc := "(I)I" } : Jvm.MethodName)) ∈ lw_all := lw_g (lw_at lw_m4 8 rfl) rfl
theorem q769 : (Jvm.Cond.code ({ cls := "HundiHall", name := "pass", desc := "(I)I" } : Jvm.MethodName) prog_1_method_32_code (3 : Nat) (Option.some Jvm.ClassFile.FieldType.int)) ∈ lw_all := lw_g (lw_at lw_m4 9 rfl) rfl
theorem q770 : (Jvm.Cond.methodLink "HundiHall" (284 : Nat) ({ cls := "HundiHall", name := "goOn", desc := "()V" } : Jvm.MethodName)) ∈ lw_all := lw_g (lw_at lw_m4 10 rfl) rfl
theorem q771 : (Jvm.Cond.privateMethod ({ cls := "HundiHall", name := "goOn", desc := "()V" } : Jvm.MethodName)) ∈ lw_tbl := lw_at lw_m4 11 rfl
theorem q772 : (Jvm.Cond.instanceMethod ({ cls := "HundiHall", name := "goOn", desc := "()V" } : Jvm.MethodName)) ∈ lw_all := lw_g (lw_at lw_m4 12 rfl) rfl
theorem q773 : (Jvm.Cond.code ({ cls := "HundiHall", name := "goOn", desc := "()V" } : Jvm.MethodName) prog_1_method_31_code (3 : Nat) (Option.none : Option Jvm.ClassFile.FieldType)) ∈ lw_all := lw_g (lw_at lw_m4 13 rfl) rfl
theorem q774 : (Jvm.Cond.methodLink "HundiHall" (268 : Nat) ({ cls := "HundiHall", name := "moveMessage", desc := "(LHundiHall$Order;)V" } : Jvm.MethodName)) ∈ lw_all := lw_g (lw_at lw_m4 14 rfl) rfl
theorem q775 : (Jvm.Cond.privateMethod ({ cls := "HundiHall", name := "moveMessage", desc := "(LHundiHall$Order;)V" } : Jvm.MethodName)) ∈ lw_tbl := lw_at lw_m4 15 rfl
theorem q776 : (Jvm.Cond.instanceMethod ({ cls := "HundiHall", name := "moveMessage", desc := "(LHundiHall$Order;)V" } : Jvm.MethodName)) ∈ lw_all := lw_g (lw_at lw_m4 16 rfl) rfl
theorem q777 : (Jvm.Cond.code ({ cls := "HundiHall", name := "moveMessage", desc := "(LHundiHall$Order;)V" } : Jvm.MethodName) prog_1_method_28_code (4 : Nat) (Option.none : Option Jvm.ClassFile.FieldType)) ∈ lw_all := lw_g (lw_at lw_m4 17 rfl) rfl
theorem q778 : (Jvm.Cond.methodLink "HundiHall" (271 : Nat) ({ cls := "HundiHall$Order", name := "isOpen", desc := "()Z" } : Jvm.MethodName)) ∈ lw_all := lw_g (lw_at lw_m4 18 rfl) rfl
theorem q782 : (Jvm.Cond.methodLink "HundiHall" (277 : Nat) ({ cls := "HundiHall", name := "giveBack", desc := "(LHundiHall$Order;)V" } : Jvm.MethodName)) ∈ lw_all := lw_g (lw_at lw_m4 22 rfl) rfl
theorem q783 : (Jvm.Cond.privateMethod ({ cls := "HundiHall", name := "giveBack", desc := "(LHundiHall$Order;)V" } : Jvm.MethodName)) ∈ lw_tbl := lw_at lw_m4 23 rfl
theorem q784 : (Jvm.Cond.instanceMethod ({ cls := "HundiHall", name := "giveBack", desc := "(LHundiHall$Order;)V" } : Jvm.MethodName)) ∈ lw_all := lw_g (lw_at lw_m4 24 rfl) rfl
theorem q785 : (Jvm.Cond.code ({ cls := "HundiHall", name := "giveBack", desc := "(LHundiHall$Order;)V" } : Jvm.MethodName) prog_1_method_29_code (3 : Nat) (Option.none : Option Jvm.ClassFile.FieldType)) ∈ lw_all := lw_g (lw_at lw_m4 25 rfl) rfl
theorem q786 : (Jvm.Cond.classLink "HundiHall" (252 : Nat) "HundiHall$Courier") ∈ lw_all := lw_g (lw_at lw_m4 26 rfl) rfl
theorem q787 : (Jvm.Cond.methodLink "HundiHall" (280 : Nat) ({ cls := "HundiHall", name := "come", desc := "(LHundiHall$Courier;)V" } : Jvm.MethodName)) ∈ lw_all := lw_g (lw_at lw_m4 27 rfl) rfl
theorem q788 : (Jvm.Cond.privateMethod ({ cls := "HundiHall", name := "come", desc := "(LHundiHall$Courier;)V" } : Jvm.MethodName)) ∈ lw_tbl := lw_at lw_m4 28 rfl
theorem q789 : (Jvm.Cond.instanceMethod ({ cls := "HundiHall", name := "come", desc := "(LHundiHall$Courier;)V" } : Jvm.MethodName)) ∈ lw_all := lw_g (lw_at lw_m4 29 rfl) rfl
theorem q790 : (Jvm.Cond.code ({ cls := "HundiHall", name := "come", desc := "(LHundiHall$Courier;)V" } : Jvm.MethodName) prog_1_method_30_code (2 : Nat) (Option.none : Option Jvm.ClassFile.FieldType)) ∈ lw_all := lw_g (lw_at lw_m4 30 rfl) rfl
theorem q795 : (Jvm.Cond.instanceMethod ({ cls := "HundiHall", name := "pay", desc := "(III)I" } : Jvm.MethodName)) ∈ lw_all := lw_g (lw_at lw_m4 35 rfl) rfl
theorem q796 : (Jvm.Cond.selects "HundiHall" ({ cls := "HundiHall", name := "pay", desc := "(III)I" } : Jvm.MethodName) ({ cls := "HundiHall", name := "pay", desc := "(III)I" } : Jvm.MethodName)) ∈ lw_all := lw_g (lw_at lw_m4 36 rfl) rfl
theorem q797 : (Jvm.Cond.code ({ cls := "HundiHall", name := "pay", desc := "(III)I" } : Jvm.MethodName) prog_1_method_39_code (6 : Nat) (Option.some Jvm.ClassFile.FieldType.int)) ∈ lw_all := lw_g (lw_at lw_m4 37 rfl) rfl
theorem q798 : (Jvm.Cond.methodLink "HundiHall" (329 : Nat) ({ cls := "HundiHall", name := "needTwo", desc := "(II)V" } : Jvm.MethodName)) ∈ lw_all := lw_g (lw_at lw_m4 38 rfl) rfl
theorem q799 : (Jvm.Cond.privateMethod ({ cls := "HundiHall", name := "needTwo", desc := "(II)V" } : Jvm.MethodName)) ∈ lw_tbl := lw_at lw_m4 39 rfl
theorem q800 : (Jvm.Cond.instanceMethod ({ cls := "HundiHall", name := "needTwo", desc := "(II)V" } : Jvm.MethodName)) ∈ lw_all := lw_g (lw_at lw_m4 40 rfl) rfl
theorem q801 : (Jvm.Cond.code ({ cls := "HundiHall", name := "needTwo", desc := "(II)V" } : Jvm.MethodName) prog_1_method_38_code (3 : Nat) (Option.none : Option Jvm.ClassFile.FieldType)) ∈ lw_all := lw_g (lw_at lw_m4 41 rfl) rfl
theorem q802 : (Jvm.Cond.methodLink "HundiHall" (332 : Nat) ({ cls := "java/util/ArrayList", name := "get", desc := "(I)Ljava/lang/Object;" } : Jvm.MethodName)) ∈ lw_all := lw_g (lw_at lw_m4 42 rfl) rfl
theorem q807 : (Jvm.Cond.instanceMethod ({ cls := "HundiHall", name := "deliver", desc := "(III)I" } : Jvm.MethodName)) ∈ lw_all := lw_g (lw_at lw_m4 47 rfl) rfl
theorem q808 : (Jvm.Cond.selects "HundiHall" ({ cls := "HundiHall", name := "deliver", desc := "(III)I" } : Jvm.MethodName) ({ cls := "HundiHall", name := "deliver", desc := "(III)I" } : Jvm.MethodName)) ∈ lw_all := lw_g (lw_at lw_m4 48 rfl) rfl
theorem q809 : (Jvm.Cond.code ({ cls := "HundiHall", name := "deliver", desc := "(III)I" } : Jvm.MethodName) prog_1_method_40_code (6 : Nat) (Option.some Jvm.ClassFile.FieldType.int)) ∈ lw_all := lw_g (lw_at lw_m4 49 rfl) rfl
theorem q814 : (Jvm.Cond.instanceMethod ({ cls := "HundiHall", name := "courier", desc := "(IIII)I" } : Jvm.MethodName)) ∈ lw_all := lw_g (lw_at lw_m4 54 rfl) rfl
theorem q815 : (Jvm.Cond.selects "HundiHall" ({ cls := "HundiHall", name := "courier", desc := "(IIII)I" } : Jvm.MethodName) ({ cls := "HundiHall", name := "courier", desc := "(IIII)I" } : Jvm.MethodName)) ∈ lw_all := lw_g (lw_at lw_m4 55 rfl) rfl
theorem q816 : (Jvm.Cond.code ({ cls := "HundiHall", name := "courier", desc := "(IIII)I" } : Jvm.MethodName) prog_1_method_41_code (6 : Nat) (Option.some Jvm.ClassFile.FieldType.int)) ∈ lw_all := lw_g (lw_at lw_m4 56 rfl) rfl
theorem q818 : (Jvm.Cond.methodLink "HundiHall" (333 : Nat) ({ cls := "HundiHall$Courier", name := "<init>", desc := "(LHundiHall$Broker;LHundiHall$Broker;II)V" } : Jvm.MethodName)) ∈ lw_all := lw_g (lw_at lw_m4 58 rfl) rfl
theorem q823 : (Jvm.Cond.fieldLinkNest "HundiHall" (261 : Nat) "HundiHall$Courier" "from" "LHundiHall$Broker;" "HundiHall") ∈ lw_tbl := lw_at lw_m4 63 rfl
theorem q825 : (Jvm.Cond.fieldLinkNest "HundiHall" (259 : Nat) "HundiHall$Courier" "to" "LHundiHall$Broker;" "HundiHall") ∈ lw_tbl := lw_at lw_m4 65 rfl
theorem q827 : (Jvm.Cond.fieldLinkNest "HundiHall" (260 : Nat) "HundiHall$Courier" "amount" "I" "HundiHall") ∈ lw_tbl := lw_at lw_m4 67 rfl
theorem q829 : (Jvm.Cond.fieldLinkNest "HundiHall" (256 : Nat) "HundiHall$Courier" "comes" "I" "HundiHall") ∈ lw_tbl := lw_at lw_m4 69 rfl
theorem q830 : (Jvm.Cond.fieldLinkNest "HundiHall" (251 : Nat) "HundiHall$Courier" "isGone" "Z" "HundiHall") ∈ lw_tbl := lw_at lw_m4 70 rfl
theorem q846 : (Jvm.Cond.instanceMethod ({ cls := "HundiHall", name := "rob", desc := "(I)I" } : Jvm.MethodName)) ∈ lw_all := lw_g (lw_at lw_m4 86 rfl) rfl
theorem q847 : (Jvm.Cond.selects "HundiHall" ({ cls := "HundiHall", name := "rob", desc := "(I)I" } : Jvm.MethodName) ({ cls := "HundiHall", name := "rob", desc := "(I)I" } : Jvm.MethodName)) ∈ lw_all := lw_g (lw_at lw_m4 87 rfl) rfl
theorem q848 : (Jvm.Cond.code ({ cls := "HundiHall", name := "rob", desc := "(I)I" } : Jvm.MethodName) prog_1_method_42_code (3 : Nat) (Option.some Jvm.ClassFile.FieldType.int)) ∈ lw_all := lw_g (lw_at lw_m4 88 rfl) rfl
theorem q853 : (Jvm.Cond.instanceMethod ({ cls := "HundiHall", name := "law", desc := "(II)I" } : Jvm.MethodName)) ∈ lw_all := lw_g (lw_at lw_m4 93 rfl) rfl
theorem q854 : (Jvm.Cond.selects "HundiHall" ({ cls := "HundiHall", name := "law", desc := "(II)I" } : Jvm.MethodName) ({ cls := "HundiHall", name := "law", desc := "(II)I" } : Jvm.MethodName)) ∈ lw_all := lw_g (lw_at lw_m4 94 rfl) rfl
theorem q855 : (Jvm.Cond.code ({ cls := "HundiHall", name := "law", desc := "(II)I" } : Jvm.MethodName) prog_1_method_46_code (3 : Nat) (Option.some Jvm.ClassFile.FieldType.int)) ∈ lw_all := lw_g (lw_at lw_m4 95 rfl) rfl
theorem q860 : (Jvm.Cond.instanceMethod ({ cls := "HundiHall", name := "list", desc := "(I)Z" } : Jvm.MethodName)) ∈ lw_all := lw_g (lw_at lw_m4 100 rfl) rfl
theorem q861 : (Jvm.Cond.selects "HundiHall" ({ cls := "HundiHall", name := "list", desc := "(I)Z" } : Jvm.MethodName) ({ cls := "HundiHall", name := "list", desc := "(I)Z" } : Jvm.MethodName)) ∈ lw_all := lw_g (lw_at lw_m4 101 rfl) rfl
theorem q862 : (Jvm.Cond.code ({ cls := "HundiHall", name := "list", desc := "(I)Z" } : Jvm.MethodName) prog_1_method_47_code (2 : Nat) (Option.some Jvm.ClassFile.FieldType.boolean)) ∈ lw_all := lw_g (lw_at lw_m4 102 rfl) rfl
theorem q867 : (Jvm.Cond.instanceMethod ({ cls := "HundiHall", name := "brokerOf", desc := "(II)J" } : Jvm.MethodName)) ∈ lw_all := lw_g (lw_at lw_m4 107 rfl) rfl
theorem q868 : (Jvm.Cond.selects "HundiHall" ({ cls := "HundiHall", name := "brokerOf", desc := "(II)J" } : Jvm.MethodName) ({ cls := "HundiHall", name := "brokerOf", desc := "(II)J" } : Jvm.MethodName)) ∈ lw_all := lw_g (lw_at lw_m4 108 rfl) rfl
theorem q869 : (Jvm.Cond.code ({ cls := "HundiHall", name := "brokerOf", desc := "(II)J" } : Jvm.MethodName) prog_1_method_48_code (4 : Nat) (Option.some Jvm.ClassFile.FieldType.long)) ∈ lw_all := lw_g (lw_at lw_m4 109 rfl) rfl
theorem q870 : (Jvm.Cond.methodLink "HundiHall" (349 : Nat) ({ cls := "HundiHall$Broker", name := "net", desc := "()J" } : Jvm.MethodName)) ∈ lw_all := lw_g (lw_at lw_m4 110 rfl) rfl
theorem q878 : (Jvm.Cond.instanceMethod ({ cls := "HundiHall", name := "debt", desc := "(IIZ)J" } : Jvm.MethodName)) ∈ lw_all := lw_g (lw_at lw_m4 118 rfl) rfl
theorem q879 : (Jvm.Cond.selects "HundiHall" ({ cls := "HundiHall", name := "debt", desc := "(IIZ)J" } : Jvm.MethodName) ({ cls := "HundiHall", name := "debt", desc := "(IIZ)J" } : Jvm.MethodName)) ∈ lw_all := lw_g (lw_at lw_m4 119 rfl) rfl
theorem q880 : (Jvm.Cond.code ({ cls := "HundiHall", name := "debt", desc := "(IIZ)J" } : Jvm.MethodName) prog_1_method_49_code (6 : Nat) (Option.some Jvm.ClassFile.FieldType.long)) ∈ lw_all := lw_g (lw_at lw_m4 120 rfl) rfl
theorem q885 : (Jvm.Cond.instanceMethod ({ cls := "HundiHall", name := "agree", desc := "(II)Z" } : Jvm.MethodName)) ∈ lw_all := lw_g (lw_at lw_m4 125 rfl) rfl
theorem q886 : (Jvm.Cond.selects "HundiHall" ({ cls := "HundiHall", name := "agree", desc := "(II)Z" } : Jvm.MethodName) ({ cls := "HundiHall", name := "agree", desc := "(II)Z" } : Jvm.MethodName)) ∈ lw_all := lw_g (lw_at lw_m4 126 rfl) rfl
theorem q887 : (Jvm.Cond.code ({ cls := "HundiHall", name := "agree", desc := "(II)Z" } : Jvm.MethodName) prog_1_method_50_code (5 : Nat) (Option.some Jvm.ClassFile.FieldType.boolean)) ∈ lw_all := lw_g (lw_at lw_m4 127 rfl) rfl
theorem q892 : (Jvm.Cond.instanceMethod ({ cls := "HundiHall", name := "way", desc := "(IIII)I" } : Jvm.MethodName)) ∈ lw_all := lw_g (lw_at lw_m4 132 rfl) rfl
theorem q893 : (Jvm.Cond.selects "HundiHall" ({ cls := "HundiHall", name := "way", desc := "(IIII)I" } : Jvm.MethodName) ({ cls := "HundiHall", name := "way", desc := "(IIII)I" } : Jvm.MethodName)) ∈ lw_all := lw_g (lw_at lw_m4 133 rfl) rfl
theorem q894 : (Jvm.Cond.code ({ cls := "HundiHall", name := "way", desc := "(IIII)I" } : Jvm.MethodName) prog_1_method_51_code (8 : Nat) (Option.some Jvm.ClassFile.FieldType.int)) ∈ lw_all := lw_g (lw_at lw_m4 134 rfl) rfl
theorem q899 : (Jvm.Cond.instanceMethod ({ cls := "HundiHall", name := "wayOf", desc := "(II)I" } : Jvm.MethodName)) ∈ lw_all := lw_g (lw_at lw_m4 139 rfl) rfl
theorem q900 : (Jvm.Cond.selects "HundiHall" ({ cls := "HundiHall", name := "wayOf", desc := "(II)I" } : Jvm.MethodName) ({ cls := "HundiHall", name := "wayOf", desc := "(II)I" } : Jvm.MethodName)) ∈ lw_all := lw_g (lw_at lw_m4 140 rfl) rfl
theorem q901 : (Jvm.Cond.code ({ cls := "HundiHall", name := "wayOf", desc := "(II)I" } : Jvm.MethodName) prog_1_method_52_code (4 : Nat) (Option.some Jvm.ClassFile.FieldType.int)) ∈ lw_all := lw_g (lw_at lw_m4 141 rfl) rfl
theorem q906 : (Jvm.Cond.instanceMethod ({ cls := "HundiHall", name := "orderOf", desc := "(II)I" } : Jvm.MethodName)) ∈ lw_all := lw_g (lw_at lw_m4 146 rfl) rfl
theorem q907 : (Jvm.Cond.selects "HundiHall" ({ cls := "HundiHall", name := "orderOf", desc := "(II)I" } : Jvm.MethodName) ({ cls := "HundiHall", name := "orderOf", desc := "(II)I" } : Jvm.MethodName)) ∈ lw_all := lw_g (lw_at lw_m4 147 rfl) rfl
theorem q908 : (Jvm.Cond.code ({ cls := "HundiHall", name := "orderOf", desc := "(II)I" } : Jvm.MethodName) prog_1_method_53_code (4 : Nat) (Option.some Jvm.ClassFile.FieldType.int)) ∈ lw_all := lw_g (lw_at lw_m4 148 rfl) rfl
theorem q913 : (Jvm.Cond.instanceMethod ({ cls := "HundiHall", name := "sum", desc := "(I)J" } : Jvm.MethodName)) ∈ lw_all := lw_g (lw_at lw_m4 153 rfl) rfl
theorem q914 : (Jvm.Cond.selects "HundiHall" ({ cls := "HundiHall", name := "sum", desc := "(I)J" } : Jvm.MethodName) ({ cls := "HundiHall", name := "sum", desc := "(I)J" } : Jvm.MethodName)) ∈ lw_all := lw_g (lw_at lw_m4 154 rfl) rfl
theorem q915 : (Jvm.Cond.code ({ cls := "HundiHall", name := "sum", desc := "(I)J" } : Jvm.MethodName) prog_1_method_55_code (6 : Nat) (Option.some Jvm.ClassFile.FieldType.long)) ∈ lw_all := lw_g (lw_at lw_m4 155 rfl) rfl
theorem q1241 : (Jvm.Cond.castable "HundiHall" "java/lang/Object") ∈ lw_tbl := lw_at lw_m6 1 rfl
theorem in_X1 : ∀ w ∈ wsX10, w ∈ lw_all := lw_in wsX10 [116, 118, 120, 122, 124, 126, 128, 130, 132] (by decide +kernel) (by decide +kernel)
