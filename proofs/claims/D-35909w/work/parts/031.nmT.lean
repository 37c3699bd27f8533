/-! HundiHallModel -/
set_option maxRecDepth 100000
def RX2 : String := "HundiHallModel"
def TX2 : u_T := fun k => match k with
  | 0 => ("HundiHallModel", "thrown", "I", false)
  | 1 => ("HundiHallModel", "hour", "I", false)
  | 2 => ("HundiHallModel", "isFestival", "Z", false)
  | 3 => ("HundiHallModel", "brokers", "I", false)
  | 4 => ("HundiHallModel", "town", "[I", true)
  | 5 => ("HundiHallModel", "cash", "[J", true)
  | 6 => ("HundiHallModel", "rate", "[I", true)
  | 7 => ("HundiHallModel", "state", "[I", true)
  | 8 => ("HundiHallModel", "until", "[I", true)
  | 9 => ("HundiHallModel", "wasRaided", "[Z", true)
  | 10 => ("HundiHallModel", "limit", "[I", true)
  | 11 => ("HundiHallModel", "isKin", "[Z", true)
  | 12 => ("HundiHallModel", "owes", "[J", true)
  | 13 => ("HundiHallModel", "book", "[J", true)
  | 14 => ("HundiHallModel", "orders", "I", false)
  | 15 => ("HundiHallModel", "how", "[I", true)
  | 16 => ("HundiHallModel", "amountOf", "[I", true)
  | 17 => ("HundiHallModel", "gave", "[I", true)
  | 18 => ("HundiHallModel", "codeOf", "[I", true)
  | 19 => ("HundiHallModel", "falseCodes", "[I", true)
  | 20 => ("HundiHallModel", "since", "[I", true)
  | 21 => ("HundiHallModel", "at", "[I", true)
  | 22 => ("HundiHallModel", "many", "[I", true)
  | 23 => ("HundiHallModel", "wayOf", "[I", true)
  | 24 => ("HundiHallModel", "arose", "[I", true)
  | 25 => ("HundiHallModel", "couriers", "I", false)
  | 26 => ("HundiHallModel", "carries", "[I", true)
  | 27 => ("HundiHallModel", "carrier", "[I", true)
  | 28 => ("HundiHallModel", "goesTo", "[I", true)
  | 29 => ("HundiHallModel", "comesAt", "[I", true)
  | 30 => ("HundiHallModel", "isOver", "[Z", true)
  | 31 => ("HundiHallModel", "bound", "[I", true)
  | 32 => ("HundiHallModel", "toldTo", "[I", true)
  | 33 => ("HundiHallModel", "isListed", "[Z", true)
  | 34 => ("HundiHallModel", "sums", "[J", true)
  | 35 => ("HundiHallModel", "fees", "[J", true)
  | 36 => ("HundiHallModel", "length", "[I", true)
  | _ => ("HundiHallModel", "found", "[I", true)
def tyX2 : Nat → FieldType := fun k => match k with
  | 0 => .int
  | 1 => .int
  | 2 => .boolean
  | 3 => .int
  | 4 => .array .int
  | 5 => .array .long
  | 6 => .array .int
  | 7 => .array .int
  | 8 => .array .int
  | 9 => .array .boolean
  | 10 => .array .int
  | 11 => .array .boolean
  | 12 => .array .long
  | 13 => .array .long
  | 14 => .int
  | 15 => .array .int
  | 16 => .array .int
  | 17 => .array .int
  | 18 => .array .int
  | 19 => .array .int
  | 20 => .array .int
  | 21 => .array .int
  | 22 => .array .int
  | 23 => .array .int
  | 24 => .array .int
  | 25 => .int
  | 26 => .array .int
  | 27 => .array .int
  | 28 => .array .int
  | 29 => .array .int
  | 30 => .array .boolean
  | 31 => .array .int
  | 32 => .array .int
  | 33 => .array .boolean
  | 34 => .array .long
  | 35 => .array .long
  | 36 => .array .int
  | _ => .array .int
abbrev wsX20 : List Cond := u_ws RX2 TX2 38
set_option maxRecDepth 100000 in
theorem nmX2 : ∀ a, a < 38 → ∀ b, b < 38 → a ≠ b → (TX2 a).2.1 ≠ (TX2 b).2.1 := by decide +kernel
set_option maxRecDepth 100000 in
theorem tyX2_ok : ∀ k, k < 38 → parseFieldDescriptor (TX2 k).2.2.1 = some (tyX2 k) := by decide +kernel
abbrev cX2_init : ByteArray := prog_11_method_1_code
def yX2_init : MethodName := ⟨RX2, "<init>", "()V"⟩
def dkwX2_init_12 : List UInt8 := [16, 12, 188, 11, 181, 0, 100, 42, 16, 12, 188, 10, 181, 0, 103, 42, 16, 12, 188, 10, 181, 0, 106, 177]
abbrev dktX2_init_12 : List UInt8 := dkwX2_init_12 ++ []
def dkwX2_init_11 : List UInt8 := [16, 8, 188, 10, 181, 0, 91, 42, 16, 20, 188, 4, 181, 0, 94, 42, 8, 188, 11, 181, 0, 97, 42]
abbrev dktX2_init_11 : List UInt8 := dkwX2_init_11 ++ dktX2_init_12
def dkwX2_init_10 : List UInt8 := [18, 87, 79, 89, 8, 18, 87, 79, 89, 16, 6, 18, 87, 79, 89, 16, 7, 18, 87, 79, 181, 0, 88, 42]
abbrev dktX2_init_10 : List UInt8 := dkwX2_init_10 ++ dktX2_init_11
def dkwX2_init_9 : List UInt8 := [188, 10, 89, 3, 18, 87, 79, 89, 4, 18, 87, 79, 89, 5, 18, 87, 79, 89, 6, 18, 87, 79, 89, 7]
abbrev dktX2_init_9 : List UInt8 := dkwX2_init_9 ++ dktX2_init_10
def dkwX2_init_8 : List UInt8 := [188, 10, 181, 0, 78, 42, 16, 41, 188, 10, 181, 0, 81, 42, 16, 41, 188, 4, 181, 0, 84, 42, 16, 8]
abbrev dktX2_init_8 : List UInt8 := dkwX2_init_8 ++ dktX2_init_9
def dkwX2_init_7 : List UInt8 := [188, 10, 181, 0, 69, 42, 16, 41, 188, 10, 181, 0, 72, 42, 16, 41, 188, 10, 181, 0, 75, 42, 16, 41]
abbrev dktX2_init_7 : List UInt8 := dkwX2_init_7 ++ dktX2_init_8
def dkwX2_init_6 : List UInt8 := [181, 0, 60, 42, 16, 40, 188, 10, 181, 0, 63, 42, 17, 1, 224, 188, 10, 181, 0, 66, 42, 17, 1, 224]
abbrev dktX2_init_6 : List UInt8 := dkwX2_init_6 ++ dktX2_init_7
def dkwX2_init_5 : List UInt8 := [181, 0, 51, 42, 16, 40, 188, 10, 181, 0, 54, 42, 16, 40, 188, 10, 181, 0, 57, 42, 16, 40, 188, 10]
abbrev dktX2_init_5 : List UInt8 := dkwX2_init_5 ++ dktX2_init_6
def dkwX2_init_4 : List UInt8 := [181, 0, 42, 42, 16, 40, 188, 10, 181, 0, 45, 42, 16, 40, 188, 10, 181, 0, 48, 42, 16, 40, 188, 10]
abbrev dktX2_init_4 : List UInt8 := dkwX2_init_4 ++ dktX2_init_5
def dkwX2_init_3 : List UInt8 := [17, 0, 144, 188, 11, 181, 0, 36, 42, 17, 0, 144, 188, 11, 181, 0, 39, 42, 16, 40, 188, 10]
abbrev dktX2_init_3 : List UInt8 := dkwX2_init_3 ++ dktX2_init_4
def dkwX2_init_2 : List UInt8 := [188, 4, 181, 0, 26, 42, 17, 0, 144, 188, 10, 181, 0, 30, 42, 17, 0, 144, 188, 4, 181, 0, 33, 42]
abbrev dktX2_init_2 : List UInt8 := dkwX2_init_2 ++ dktX2_init_3
def dkwX2_init_1 : List UInt8 := [188, 10, 181, 0, 17, 42, 16, 12, 188, 10, 181, 0, 20, 42, 16, 12, 188, 10, 181, 0, 23, 42, 16, 12]
abbrev dktX2_init_1 : List UInt8 := dkwX2_init_1 ++ dktX2_init_2
def dkwX2_init_0 : List UInt8 := [42, 183, 0, 1, 42, 16, 12, 188, 10, 181, 0, 7, 42, 16, 12, 188, 11, 181, 0, 13, 42, 16, 12]
abbrev dktX2_init_0 : List UInt8 := dkwX2_init_0 ++ dktX2_init_1
theorem dksX2_init_0 : cX2_init.data.toList.drop 0 = dktX2_init_0 := by decide +kernel
theorem dksX2_init_1 : cX2_init.data.toList.drop 23 = dktX2_init_1 := dk_seg dksX2_init_0 23 rfl rfl
theorem dksX2_init_2 : cX2_init.data.toList.drop 47 = dktX2_init_2 := dk_seg dksX2_init_1 24 rfl rfl
theorem dksX2_init_3 : cX2_init.data.toList.drop 71 = dktX2_init_3 := dk_seg dksX2_init_2 24 rfl rfl
theorem dksX2_init_4 : cX2_init.data.toList.drop 93 = dktX2_init_4 := dk_seg dksX2_init_3 22 rfl rfl
theorem dksX2_init_5 : cX2_init.data.toList.drop 117 = dktX2_init_5 := dk_seg dksX2_init_4 24 rfl rfl
theorem dksX2_init_6 : cX2_init.data.toList.drop 141 = dktX2_init_6 := dk_seg dksX2_init_5 24 rfl rfl
theorem dksX2_init_7 : cX2_init.data.toList.drop 165 = dktX2_init_7 := dk_seg dksX2_init_6 24 rfl rfl
theorem dksX2_init_8 : cX2_init.data.toList.drop 189 = dktX2_init_8 := dk_seg dksX2_init_7 24 rfl rfl
theorem dksX2_init_9 : cX2_init.data.toList.drop 213 = dktX2_init_9 := dk_seg dksX2_init_8 24 rfl rfl
theorem dksX2_init_10 : cX2_init.data.toList.drop 237 = dktX2_init_10 := dk_seg dksX2_init_9 24 rfl rfl
theorem dksX2_init_11 : cX2_init.data.toList.drop 261 = dktX2_init_11 := dk_seg dksX2_init_10 24 rfl rfl
theorem dksX2_init_12 : cX2_init.data.toList.drop 284 = dktX2_init_12 := dk_seg dksX2_init_11 23 rfl rfl
theorem dX2_init_0 : decode cX2_init 0 = .ok (.aload_n 0, 1) := dk_42 (dk_at dksX2_init_0 0 rfl rfl)
theorem dX2_init_1 : decode cX2_init 1 = .ok (.invokespecial 1, 3) := dk_183 0 1 (dk_at dksX2_init_0 1 rfl rfl)
theorem dX2_init_4 : decode cX2_init 4 = .ok (.aload_n 0, 1) := dk_42 (dk_at dksX2_init_0 4 rfl rfl)
theorem dX2_init_5 : decode cX2_init 5 = .ok (.bipush 12, 2) := dk_16 12 (dk_at dksX2_init_0 5 rfl rfl)
theorem dX2_init_7 : decode cX2_init 7 = .ok (.newarray .int, 2) := dk_188_10 (dk_at dksX2_init_0 7 rfl rfl)
theorem dX2_init_9 : decode cX2_init 9 = .ok (.putfield 7, 3) := dk_181 0 7 (dk_at dksX2_init_0 9 rfl rfl)
theorem dX2_init_12 : decode cX2_init 12 = .ok (.aload_n 0, 1) := dk_42 (dk_at dksX2_init_0 12 rfl rfl)
theorem dX2_init_13 : decode cX2_init 13 = .ok (.bipush 12, 2) := dk_16 12 (dk_at dksX2_init_0 13 rfl rfl)
theorem dX2_init_15 : decode cX2_init 15 = .ok (.newarray .long, 2) := dk_188_11 (dk_at dksX2_init_0 15 rfl rfl)
theorem dX2_init_17 : decode cX2_init 17 = .ok (.putfield 13, 3) := dk_181 0 13 (dk_at dksX2_init_0 17 rfl rfl)
theorem dX2_init_20 : decode cX2_init 20 = .ok (.aload_n 0, 1) := dk_42 (dk_at dksX2_init_0 20 rfl rfl)
theorem dX2_init_21 : decode cX2_init 21 = .ok (.bipush 12, 2) := dk_16 12 (dk_at dksX2_init_0 21 rfl rfl)
theorem dX2_init_23 : decode cX2_init 23 = .ok (.newarray .int, 2) := dk_188_10 (dk_at dksX2_init_1 0 rfl rfl)
theorem dX2_init_25 : decode cX2_init 25 = .ok (.putfield 17, 3) := dk_181 0 17 (dk_at dksX2_init_1 2 rfl rfl)
theorem dX2_init_28 : decode cX2_init 28 = .ok (.aload_n 0, 1) := dk_42 (dk_at dksX2_init_1 5 rfl rfl)
theorem dX2_init_29 : decode cX2_init 29 = .ok (.bipush 12, 2) := dk_16 12 (dk_at dksX2_init_1 6 rfl rfl)
theorem dX2_init_31 : decode cX2_init 31 = .ok (.newarray .int, 2) := dk_188_10 (dk_at dksX2_init_1 8 rfl rfl)
theorem dX2_init_33 : decode cX2_init 33 = .ok (.putfield 20, 3) := dk_181 0 20 (dk_at dksX2_init_1 10 rfl rfl)
theorem dX2_init_36 : decode cX2_init 36 = .ok (.aload_n 0, 1) := dk_42 (dk_at dksX2_init_1 13 rfl rfl)
theorem dX2_init_37 : decode cX2_init 37 = .ok (.bipush 12, 2) := dk_16 12 (dk_at dksX2_init_1 14 rfl rfl)
theorem dX2_init_39 : decode cX2_init 39 = .ok (.newarray .int, 2) := dk_188_10 (dk_at dksX2_init_1 16 rfl rfl)
theorem dX2_init_41 : decode cX2_init 41 = .ok (.putfield 23, 3) := dk_181 0 23 (dk_at dksX2_init_1 18 rfl rfl)
theorem dX2_init_44 : decode cX2_init 44 = .ok (.aload_n 0, 1) := dk_42 (dk_at dksX2_init_1 21 rfl rfl)
theorem dX2_init_45 : decode cX2_init 45 = .ok (.bipush 12, 2) := dk_16 12 (dk_at dksX2_init_1 22 rfl rfl)
theorem dX2_init_47 : decode cX2_init 47 = .ok (.newarray .boolean, 2) := dk_188_4 (dk_at dksX2_init_2 0 rfl rfl)
theorem dX2_init_49 : decode cX2_init 49 = .ok (.putfield 26, 3) := dk_181 0 26 (dk_at dksX2_init_2 2 rfl rfl)
theorem dX2_init_52 : decode cX2_init 52 = .ok (.aload_n 0, 1) := dk_42 (dk_at dksX2_init_2 5 rfl rfl)
theorem dX2_init_53 : decode cX2_init 53 = .ok (.sipush 144, 3) := dk_17 0 144 (dk_at dksX2_init_2 6 rfl rfl)
theorem dX2_init_56 : decode cX2_init 56 = .ok (.newarray .int, 2) := dk_188_10 (dk_at dksX2_init_2 9 rfl rfl)
theorem dX2_init_58 : decode cX2_init 58 = .ok (.putfield 30, 3) := dk_181 0 30 (dk_at dksX2_init_2 11 rfl rfl)
theorem dX2_init_61 : decode cX2_init 61 = .ok (.aload_n 0, 1) := dk_42 (dk_at dksX2_init_2 14 rfl rfl)
theorem dX2_init_62 : decode cX2_init 62 = .ok (.sipush 144, 3) := dk_17 0 144 (dk_at dksX2_init_2 15 rfl rfl)
theorem dX2_init_65 : decode cX2_init 65 = .ok (.newarray .boolean, 2) := dk_188_4 (dk_at dksX2_init_2 18 rfl rfl)
theorem dX2_init_67 : decode cX2_init 67 = .ok (.putfield 33, 3) := dk_181 0 33 (dk_at dksX2_init_2 20 rfl rfl)
theorem dX2_init_70 : decode cX2_init 70 = .ok (.aload_n 0, 1) := dk_42 (dk_at dksX2_init_2 23 rfl rfl)
theorem dX2_init_71 : decode cX2_init 71 = .ok (.sipush 144, 3) := dk_17 0 144 (dk_at dksX2_init_3 0 rfl rfl)
theorem dX2_init_74 : decode cX2_init 74 = .ok (.newarray .long, 2) := dk_188_11 (dk_at dksX2_init_3 3 rfl rfl)
theorem dX2_init_76 : decode cX2_init 76 = .ok (.putfield 36, 3) := dk_181 0 36 (dk_at dksX2_init_3 5 rfl rfl)
theorem dX2_init_79 : decode cX2_init 79 = .ok (.aload_n 0, 1) := dk_42 (dk_at dksX2_init_3 8 rfl rfl)
theorem dX2_init_80 : decode cX2_init 80 = .ok (.sipush 144, 3) := dk_17 0 144 (dk_at dksX2_init_3 9 rfl rfl)
theorem dX2_init_83 : decode cX2_init 83 = .ok (.newarray .long, 2) := dk_188_11 (dk_at dksX2_init_3 12 rfl rfl)
theorem dX2_init_85 : decode cX2_init 85 = .ok (.putfield 39, 3) := dk_181 0 39 (dk_at dksX2_init_3 14 rfl rfl)
theorem dX2_init_88 : decode cX2_init 88 = .ok (.aload_n 0, 1) := dk_42 (dk_at dksX2_init_3 17 rfl rfl)
theorem dX2_init_89 : decode cX2_init 89 = .ok (.bipush 40, 2) := dk_16 40 (dk_at dksX2_init_3 18 rfl rfl)
theorem dX2_init_91 : decode cX2_init 91 = .ok (.newarray .int, 2) := dk_188_10 (dk_at dksX2_init_3 20 rfl rfl)
theorem dX2_init_93 : decode cX2_init 93 = .ok (.putfield 42, 3) := dk_181 0 42 (dk_at dksX2_init_4 0 rfl rfl)
theorem dX2_init_96 : decode cX2_init 96 = .ok (.aload_n 0, 1) := dk_42 (dk_at dksX2_init_4 3 rfl rfl)
theorem dX2_init_97 : decode cX2_init 97 = .ok (.bipush 40, 2) := dk_16 40 (dk_at dksX2_init_4 4 rfl rfl)
theorem dX2_init_99 : decode cX2_init 99 = .ok (.newarray .int, 2) := dk_188_10 (dk_at dksX2_init_4 6 rfl rfl)
theorem dX2_init_101 : decode cX2_init 101 = .ok (.putfield 45, 3) := dk_181 0 45 (dk_at dksX2_init_4 8 rfl rfl)
theorem dX2_init_104 : decode cX2_init 104 = .ok (.aload_n 0, 1) := dk_42 (dk_at dksX2_init_4 11 rfl rfl)
theorem dX2_init_105 : decode cX2_init 105 = .ok (.bipush 40, 2) := dk_16 40 (dk_at dksX2_init_4 12 rfl rfl)
theorem dX2_init_107 : decode cX2_init 107 = .ok (.newarray .int, 2) := dk_188_10 (dk_at dksX2_init_4 14 rfl rfl)
theorem dX2_init_109 : decode cX2_init 109 = .ok (.putfield 48, 3) := dk_181 0 48 (dk_at dksX2_init_4 16 rfl rfl)
theorem dX2_init_112 : decode cX2_init 112 = .ok (.aload_n 0, 1) := dk_42 (dk_at dksX2_init_4 19 rfl rfl)
theorem dX2_init_113 : decode cX2_init 113 = .ok (.bipush 40, 2) := dk_16 40 (dk_at dksX2_init_4 20 rfl rfl)
theorem dX2_init_115 : decode cX2_init 115 = .ok (.newarray .int, 2) := dk_188_10 (dk_at dksX2_init_4 22 rfl rfl)
theorem dX2_init_117 : decode cX2_init 117 = .ok (.putfield 51, 3) := dk_181 0 51 (dk_at dksX2_init_5 0 rfl rfl)
theorem dX2_init_120 : decode cX2_init 120 = .ok (.aload_n 0, 1) := dk_42 (dk_at dksX2_init_5 3 rfl rfl)
theorem dX2_init_121 : decode cX2_init 121 = .ok (.bipush 40, 2) := dk_16 40 (dk_at dksX2_init_5 4 rfl rfl)
theorem dX2_init_123 : decode cX2_init 123 = .ok (.newarray .int, 2) := dk_188_10 (dk_at dksX2_init_5 6 rfl rfl)
theorem dX2_init_125 : decode cX2_init 125 = .ok (.putfield 54, 3) := dk_181 0 54 (dk_at dksX2_init_5 8 rfl rfl)
theorem dX2_init_128 : decode cX2_init 128 = .ok (.aload_n 0, 1) := dk_42 (dk_at dksX2_init_5 11 rfl rfl)
theorem dX2_init_129 : decode cX2_init 129 = .ok (.bipush 40, 2) := dk_16 40 (dk_at dksX2_init_5 12 rfl rfl)
theorem dX2_init_131 : decode cX2_init 131 = .ok (.newarray .int, 2) := dk_188_10 (dk_at dksX2_init_5 14 rfl rfl)
theorem dX2_init_133 : decode cX2_init 133 = .ok (.putfield 57, 3) := dk_181 0 57 (dk_at dksX2_init_5 16 rfl rfl)
theorem dX2_init_136 : decode cX2_init 136 = .ok (.aload_n 0, 1) := dk_42 (dk_at dksX2_init_5 19 rfl rfl)
theorem dX2_init_137 : decode cX2_init 137 = .ok (.bipush 40, 2) := dk_16 40 (dk_at dksX2_init_5 20 rfl rfl)
theorem dX2_init_139 : decode cX2_init 139 = .ok (.newarray .int, 2) := dk_188_10 (dk_at dksX2_init_5 22 rfl rfl)
theorem dX2_init_141 : decode cX2_init 141 = .ok (.putfield 60, 3) := dk_181 0 60 (dk_at dksX2_init_6 0 rfl rfl)
theorem dX2_init_144 : decode cX2_init 144 = .ok (.aload_n 0, 1) := dk_42 (dk_at dksX2_init_6 3 rfl rfl)
theorem dX2_init_145 : decode cX2_init 145 = .ok (.bipush 40, 2) := dk_16 40 (dk_at dksX2_init_6 4 rfl rfl)
theorem dX2_init_147 : decode cX2_init 147 = .ok (.newarray .int, 2) := dk_188_10 (dk_at dksX2_init_6 6 rfl rfl)
theorem dX2_init_149 : decode cX2_init 149 = .ok (.putfield 63, 3) := dk_181 0 63 (dk_at dksX2_init_6 8 rfl rfl)
theorem dX2_init_152 : decode cX2_init 152 = .ok (.aload_n 0, 1) := dk_42 (dk_at dksX2_init_6 11 rfl rfl)
theorem dX2_init_153 : decode cX2_init 153 = .ok (.sipush 480, 3) := dk_17 1 224 (dk_at dksX2_init_6 12 rfl rfl)
theorem dX2_init_156 : decode cX2_init 156 = .ok (.newarray .int, 2) := dk_188_10 (dk_at dksX2_init_6 15 rfl rfl)
theorem dX2_init_158 : decode cX2_init 158 = .ok (.putfield 66, 3) := dk_181 0 66 (dk_at dksX2_init_6 17 rfl rfl)
theorem dX2_init_161 : decode cX2_init 161 = .ok (.aload_n 0, 1) := dk_42 (dk_at dksX2_init_6 20 rfl rfl)
theorem dX2_init_162 : decode cX2_init 162 = .ok (.sipush 480, 3) := dk_17 1 224 (dk_at dksX2_init_6 21 rfl rfl)
theorem dX2_init_165 : decode cX2_init 165 = .ok (.newarray .int, 2) := dk_188_10 (dk_at dksX2_init_7 0 rfl rfl)
theorem dX2_init_167 : decode cX2_init 167 = .ok (.putfield 69, 3) := dk_181 0 69 (dk_at dksX2_init_7 2 rfl rfl)
theorem dX2_init_170 : decode cX2_init 170 = .ok (.aload_n 0, 1) := dk_42 (dk_at dksX2_init_7 5 rfl rfl)
theorem dX2_init_171 : decode cX2_init 171 = .ok (.bipush 41, 2) := dk_16 41 (dk_at dksX2_init_7 6 rfl rfl)
theorem dX2_init_173 : decode cX2_init 173 = .ok (.newarray .int, 2) := dk_188_10 (dk_at dksX2_init_7 8 rfl rfl)
theorem dX2_init_175 : decode cX2_init 175 = .ok (.putfield 72, 3) := dk_181 0 72 (dk_at dksX2_init_7 10 rfl rfl)
theorem dX2_init_178 : decode cX2_init 178 = .ok (.aload_n 0, 1) := dk_42 (dk_at dksX2_init_7 13 rfl rfl)
theorem dX2_init_179 : decode cX2_init 179 = .ok (.bipush 41, 2) := dk_16 41 (dk_at dksX2_init_7 14 rfl rfl)
theorem dX2_init_181 : decode cX2_init 181 = .ok (.newarray .int, 2) := dk_188_10 (dk_at dksX2_init_7 16 rfl rfl)
theorem dX2_init_183 : decode cX2_init 183 = .ok (.putfield 75, 3) := dk_181 0 75 (dk_at dksX2_init_7 18 rfl rfl)
theorem dX2_init_186 : decode cX2_init 186 = .ok (.aload_n 0, 1) := dk_42 (dk_at dksX2_init_7 21 rfl rfl)
theorem dX2_init_187 : decode cX2_init 187 = .ok (.bipush 41, 2) := dk_16 41 (dk_at dksX2_init_7 22 rfl rfl)
theorem dX2_init_189 : decode cX2_init 189 = .ok (.newarray .int, 2) := dk_188_10 (dk_at dksX2_init_8 0 rfl rfl)
theorem dX2_init_191 : decode cX2_init 191 = .ok (.putfield 78, 3) := dk_181 0 78 (dk_at dksX2_init_8 2 rfl rfl)
theorem dX2_init_194 : decode cX2_init 194 = .ok (.aload_n 0, 1) := dk_42 (dk_at dksX2_init_8 5 rfl rfl)
theorem dX2_init_195 : decode cX2_init 195 = .ok (.bipush 41, 2) := dk_16 41 (dk_at dksX2_init_8 6 rfl rfl)
theorem dX2_init_197 : decode cX2_init 197 = .ok (.newarray .int, 2) := dk_188_10 (dk_at dksX2_init_8 8 rfl rfl)
theorem dX2_init_199 : decode cX2_init 199 = .ok (.putfield 81, 3) := dk_181 0 81 (dk_at dksX2_init_8 10 rfl rfl)
theorem dX2_init_202 : decode cX2_init 202 = .ok (.aload_n 0, 1) := dk_42 (dk_at dksX2_init_8 13 rfl rfl)
theorem dX2_init_203 : decode cX2_init 203 = .ok (.bipush 41, 2) := dk_16 41 (dk_at dksX2_init_8 14 rfl rfl)
theorem dX2_init_205 : decode cX2_init 205 = .ok (.newarray .boolean, 2) := dk_188_4 (dk_at dksX2_init_8 16 rfl rfl)
theorem dX2_init_207 : decode cX2_init 207 = .ok (.putfield 84, 3) := dk_181 0 84 (dk_at dksX2_init_8 18 rfl rfl)
theorem dX2_init_210 : decode cX2_init 210 = .ok (.aload_n 0, 1) := dk_42 (dk_at dksX2_init_8 21 rfl rfl)
theorem dX2_init_211 : decode cX2_init 211 = .ok (.bipush 8, 2) := dk_16 8 (dk_at dksX2_init_8 22 rfl rfl)
theorem dX2_init_213 : decode cX2_init 213 = .ok (.newarray .int, 2) := dk_188_10 (dk_at dksX2_init_9 0 rfl rfl)
theorem dX2_init_215 : decode cX2_init 215 = .ok (.dup, 1) := dk_89 (dk_at dksX2_init_9 2 rfl rfl)
theorem dX2_init_216 : decode cX2_init 216 = .ok (.iconst 0, 1) := dk_3 (dk_at dksX2_init_9 3 rfl rfl)
theorem dX2_init_217 : decode cX2_init 217 = .ok (.ldc 87, 2) := dk_18 87 (dk_at dksX2_init_9 4 rfl rfl)
theorem dX2_init_219 : decode cX2_init 219 = .ok (.iastore, 1) := dk_79 (dk_at dksX2_init_9 6 rfl rfl)
theorem dX2_init_220 : decode cX2_init 220 = .ok (.dup, 1) := dk_89 (dk_at dksX2_init_9 7 rfl rfl)
theorem dX2_init_221 : decode cX2_init 221 = .ok (.iconst 1, 1) := dk_4 (dk_at dksX2_init_9 8 rfl rfl)
theorem dX2_init_222 : decode cX2_init 222 = .ok (.ldc 87, 2) := dk_18 87 (dk_at dksX2_init_9 9 rfl rfl)
theorem dX2_init_224 : decode cX2_init 224 = .ok (.iastore, 1) := dk_79 (dk_at dksX2_init_9 11 rfl rfl)
theorem dX2_init_225 : decode cX2_init 225 = .ok (.dup, 1) := dk_89 (dk_at dksX2_init_9 12 rfl rfl)
theorem dX2_init_226 : decode cX2_init 226 = .ok (.iconst 2, 1) := dk_5 (dk_at dksX2_init_9 13 rfl rfl)
theorem dX2_init_227 : decode cX2_init 227 = .ok (.ldc 87, 2) := dk_18 87 (dk_at dksX2_init_9 14 rfl rfl)
theorem dX2_init_229 : decode cX2_init 229 = .ok (.iastore, 1) := dk_79 (dk_at dksX2_init_9 16 rfl rfl)
theorem dX2_init_230 : decode cX2_init 230 = .ok (.dup, 1) := dk_89 (dk_at dksX2_init_9 17 rfl rfl)
theorem dX2_init_231 : decode cX2_init 231 = .ok (.iconst 3, 1) := dk_6 (dk_at dksX2_init_9 18 rfl rfl)
theorem dX2_init_232 : decode cX2_init 232 = .ok (.ldc 87, 2) := dk_18 87 (dk_at dksX2_init_9 19 rfl rfl)
theorem dX2_init_234 : decode cX2_init 234 = .ok (.iastore, 1) := dk_79 (dk_at dksX2_init_9 21 rfl rfl)
theorem dX2_init_235 : decode cX2_init 235 = .ok (.dup, 1) := dk_89 (dk_at dksX2_init_9 22 rfl rfl)
theorem dX2_init_236 : decode cX2_init 236 = .ok (.iconst 4, 1) := dk_7 (dk_at dksX2_init_9 23 rfl rfl)
theorem dX2_init_237 : decode cX2_init 237 = .ok (.ldc 87, 2) := dk_18 87 (dk_at dksX2_init_10 0 rfl rfl)
theorem dX2_init_239 : decode cX2_init 239 = .ok (.iastore, 1) := dk_79 (dk_at dksX2_init_10 2 rfl rfl)
theorem dX2_init_240 : decode cX2_init 240 = .ok (.dup, 1) := dk_89 (dk_at dksX2_init_10 3 rfl rfl)
theorem dX2_init_241 : decode cX2_init 241 = .ok (.iconst 5, 1) := dk_8 (dk_at dksX2_init_10 4 rfl rfl)
theorem dX2_init_242 : decode cX2_init 242 = .ok (.ldc 87, 2) := dk_18 87 (dk_at dksX2_init_10 5 rfl rfl)
theorem dX2_init_244 : decode cX2_init 244 = .ok (.iastore, 1) := dk_79 (dk_at dksX2_init_10 7 rfl rfl)
theorem dX2_init_245 : decode cX2_init 245 = .ok (.dup, 1) := dk_89 (dk_at dksX2_init_10 8 rfl rfl)
theorem dX2_init_246 : decode cX2_init 246 = .ok (.bipush 6, 2) := dk_16 6 (dk_at dksX2_init_10 9 rfl rfl)
theorem dX2_init_248 : decode cX2_init 248 = .ok (.ldc 87, 2) := dk_18 87 (dk_at dksX2_init_10 11 rfl rfl)
theorem dX2_init_250 : decode cX2_init 250 = .ok (.iastore, 1) := dk_79 (dk_at dksX2_init_10 13 rfl rfl)
theorem dX2_init_251 : decode cX2_init 251 = .ok (.dup, 1) := dk_89 (dk_at dksX2_init_10 14 rfl rfl)
theorem dX2_init_252 : decode cX2_init 252 = .ok (.bipush 7, 2) := dk_16 7 (dk_at dksX2_init_10 15 rfl rfl)
theorem dX2_init_254 : decode cX2_init 254 = .ok (.ldc 87, 2) := dk_18 87 (dk_at dksX2_init_10 17 rfl rfl)
theorem dX2_init_256 : decode cX2_init 256 = .ok (.iastore, 1) := dk_79 (dk_at dksX2_init_10 19 rfl rfl)
theorem dX2_init_257 : decode cX2_init 257 = .ok (.putfield 88, 3) := dk_181 0 88 (dk_at dksX2_init_10 20 rfl rfl)
theorem dX2_init_260 : decode cX2_init 260 = .ok (.aload_n 0, 1) := dk_42 (dk_at dksX2_init_10 23 rfl rfl)
theorem dX2_init_261 : decode cX2_init 261 = .ok (.bipush 8, 2) := dk_16 8 (dk_at dksX2_init_11 0 rfl rfl)
theorem dX2_init_263 : decode cX2_init 263 = .ok (.newarray .int, 2) := dk_188_10 (dk_at dksX2_init_11 2 rfl rfl)
theorem dX2_init_265 : decode cX2_init 265 = .ok (.putfield 91, 3) := dk_181 0 91 (dk_at dksX2_init_11 4 rfl rfl)
theorem dX2_init_268 : decode cX2_init 268 = .ok (.aload_n 0, 1) := dk_42 (dk_at dksX2_init_11 7 rfl rfl)
theorem dX2_init_269 : decode cX2_init 269 = .ok (.bipush 20, 2) := dk_16 20 (dk_at dksX2_init_11 8 rfl rfl)
theorem dX2_init_271 : decode cX2_init 271 = .ok (.newarray .boolean, 2) := dk_188_4 (dk_at dksX2_init_11 10 rfl rfl)
theorem dX2_init_273 : decode cX2_init 273 = .ok (.putfield 94, 3) := dk_181 0 94 (dk_at dksX2_init_11 12 rfl rfl)
theorem dX2_init_276 : decode cX2_init 276 = .ok (.aload_n 0, 1) := dk_42 (dk_at dksX2_init_11 15 rfl rfl)
theorem dX2_init_277 : decode cX2_init 277 = .ok (.iconst 5, 1) := dk_8 (dk_at dksX2_init_11 16 rfl rfl)
theorem dX2_init_278 : decode cX2_init 278 = .ok (.newarray .long, 2) := dk_188_11 (dk_at dksX2_init_11 17 rfl rfl)
theorem dX2_init_280 : decode cX2_init 280 = .ok (.putfield 97, 3) := dk_181 0 97 (dk_at dksX2_init_11 19 rfl rfl)
theorem dX2_init_283 : decode cX2_init 283 = .ok (.aload_n 0, 1) := dk_42 (dk_at dksX2_init_11 22 rfl rfl)
theorem dX2_init_284 : decode cX2_init 284 = .ok (.bipush 12, 2) := dk_16 12 (dk_at dksX2_init_12 0 rfl rfl)
theorem dX2_init_286 : decode cX2_init 286 = .ok (.newarray .long, 2) := dk_188_11 (dk_at dksX2_init_12 2 rfl rfl)
theorem dX2_init_288 : decode cX2_init 288 = .ok (.putfield 100, 3) := dk_181 0 100 (dk_at dksX2_init_12 4 rfl rfl)
theorem dX2_init_291 : decode cX2_init 291 = .ok (.aload_n 0, 1) := dk_42 (dk_at dksX2_init_12 7 rfl rfl)
theorem dX2_init_292 : decode cX2_init 292 = .ok (.bipush 12, 2) := dk_16 12 (dk_at dksX2_init_12 8 rfl rfl)
theorem dX2_init_294 : decode cX2_init 294 = .ok (.newarray .int, 2) := dk_188_10 (dk_at dksX2_init_12 10 rfl rfl)
theorem dX2_init_296 : decode cX2_init 296 = .ok (.putfield 103, 3) := dk_181 0 103 (dk_at dksX2_init_12 12 rfl rfl)
theorem dX2_init_299 : decode cX2_init 299 = .ok (.aload_n 0, 1) := dk_42 (dk_at dksX2_init_12 15 rfl rfl)
theorem dX2_init_300 : decode cX2_init 300 = .ok (.bipush 12, 2) := dk_16 12 (dk_at dksX2_init_12 16 rfl rfl)
theorem dX2_init_302 : decode cX2_init 302 = .ok (.newarray .int, 2) := dk_188_10 (dk_at dksX2_init_12 18 rfl rfl)
theorem dX2_init_304 : decode cX2_init 304 = .ok (.putfield 106, 3) := dk_181 0 106 (dk_at dksX2_init_12 20 rfl rfl)
theorem dX2_init_307 : decode cX2_init 307 = .ok (.return_, 1) := dk_177 (dk_at dksX2_init_12 23 rfl rfl)
abbrev cX2_thrown : ByteArray := prog_11_method_2_code
def yX2_thrown : MethodName := ⟨RX2, "thrown", "()I"⟩
theorem dX2_thrown_0 : decode cX2_thrown 0 = .ok (.aload_n 0, 1) := by decide +kernel
theorem dX2_thrown_1 : decode cX2_thrown 1 = .ok (.getfield 109, 3) := by decide +kernel
theorem dX2_thrown_4 : decode cX2_thrown 4 = .ok (.ireturn, 1) := by decide +kernel
abbrev cX2_broker : ByteArray := prog_11_method_7_code
def yX2_broker : MethodName := ⟨RX2, "broker", "(III)I"⟩
def dkwX2_broker_4 : List UInt8 := [29, 79, 42, 89, 180, 0, 113, 4, 96, 181, 0, 113, 42, 180, 0, 113, 4, 100, 172]
abbrev dktX2_broker_4 : List UInt8 := dkwX2_broker_4 ++ []
def dkwX2_broker_3 : List UInt8 := [180, 0, 113, 27, 79, 42, 180, 0, 13, 42, 180, 0, 113, 28, 133, 80, 42, 180, 0, 17, 42, 180, 0, 113]
abbrev dktX2_broker_3 : List UInt8 := dkwX2_broker_3 ++ dktX2_broker_4
def dkwX2_broker_2 : List UInt8 := [16, 12, 160, 0, 7, 6, 167, 0, 4, 3, 182, 0, 124, 154, 0, 5, 3, 172, 42, 180, 0, 7, 42]
abbrev dktX2_broker_2 : List UInt8 := dkwX2_broker_2 ++ dktX2_broker_3
def dkwX2_broker_1 : List UInt8 := [184, 0, 116, 153, 0, 13, 29, 3, 16, 100, 184, 0, 116, 154, 0, 7, 5, 167, 0, 17, 42, 180, 0, 113]
abbrev dktX2_broker_1 : List UInt8 := dkwX2_broker_1 ++ dktX2_broker_2
def dkwX2_broker_0 : List UInt8 := [27, 3, 16, 7, 184, 0, 116, 54, 4, 42, 21, 4, 154, 0, 7, 4, 167, 0, 41, 28, 3, 18, 87]
abbrev dktX2_broker_0 : List UInt8 := dkwX2_broker_0 ++ dktX2_broker_1
theorem dksX2_broker_0 : cX2_broker.data.toList.drop 0 = dktX2_broker_0 := by decide +kernel
theorem dksX2_broker_1 : cX2_broker.data.toList.drop 23 = dktX2_broker_1 := dk_seg dksX2_broker_0 23 rfl rfl
theorem dksX2_broker_2 : cX2_broker.data.toList.drop 47 = dktX2_broker_2 := dk_seg dksX2_broker_1 24 rfl rfl
theorem dksX2_broker_3 : cX2_broker.data.toList.drop 70 = dktX2_broker_3 := dk_seg dksX2_broker_2 23 rfl rfl
theorem dksX2_broker_4 : cX2_broker.data.toList.drop 94 = dktX2_broker_4 := dk_seg dksX2_broker_3 24 rfl rfl
theorem dX2_broker_0 : decode cX2_broker 0 = .ok (.iload_n 1, 1) := dk_27 (dk_at dksX2_broker_0 0 rfl rfl)
theorem dX2_broker_1 : decode cX2_broker 1 = .ok (.iconst 0, 1) := dk_3 (dk_at dksX2_broker_0 1 rfl rfl)
theorem dX2_broker_2 : decode cX2_broker 2 = .ok (.bipush 7, 2) := dk_16 7 (dk_at dksX2_broker_0 2 rfl rfl)
theorem dX2_broker_4 : decode cX2_broker 4 = .ok (.invokestatic 116, 3) := dk_184 0 116 (dk_at dksX2_broker_0 4 rfl rfl)
theorem dX2_broker_7 : decode cX2_broker 7 = .ok (.istore 4, 2) := dk_54 4 (dk_at dksX2_broker_0 7 rfl rfl)
theorem dX2_broker_9 : decode cX2_broker 9 = .ok (.aload_n 0, 1) := dk_42 (dk_at dksX2_broker_0 9 rfl rfl)
theorem dX2_broker_10 : decode cX2_broker 10 = .ok (.iload 4, 2) := dk_21 4 (dk_at dksX2_broker_0 10 rfl rfl)
theorem dX2_broker_12 : decode cX2_broker 12 = .ok (.ifCond .ne 7, 3) := dk_154 0 7 (dk_at dksX2_broker_0 12 rfl rfl)
theorem dX2_broker_15 : decode cX2_broker 15 = .ok (.iconst 1, 1) := dk_4 (dk_at dksX2_broker_0 15 rfl rfl)
theorem dX2_broker_16 : decode cX2_broker 16 = .ok (.goto 41, 3) := dk_167 0 41 (dk_at dksX2_broker_0 16 rfl rfl)
theorem dX2_broker_19 : decode cX2_broker 19 = .ok (.iload_n 2, 1) := dk_28 (dk_at dksX2_broker_0 19 rfl rfl)
theorem dX2_broker_20 : decode cX2_broker 20 = .ok (.iconst 0, 1) := dk_3 (dk_at dksX2_broker_0 20 rfl rfl)
theorem dX2_broker_21 : decode cX2_broker 21 = .ok (.ldc 87, 2) := dk_18 87 (dk_at dksX2_broker_0 21 rfl rfl)
theorem dX2_broker_23 : decode cX2_broker 23 = .ok (.invokestatic 116, 3) := dk_184 0 116 (dk_at dksX2_broker_1 0 rfl rfl)
theorem dX2_broker_26 : decode cX2_broker 26 = .ok (.ifCond .eq 13, 3) := dk_153 0 13 (dk_at dksX2_broker_1 3 rfl rfl)
theorem dX2_broker_29 : decode cX2_broker 29 = .ok (.iload_n 3, 1) := dk_29 (dk_at dksX2_broker_1 6 rfl rfl)
theorem dX2_broker_30 : decode cX2_broker 30 = .ok (.iconst 0, 1) := dk_3 (dk_at dksX2_broker_1 7 rfl rfl)
theorem dX2_broker_31 : decode cX2_broker 31 = .ok (.bipush 100, 2) := dk_16 100 (dk_at dksX2_broker_1 8 rfl rfl)
theorem dX2_broker_33 : decode cX2_broker 33 = .ok (.invokestatic 116, 3) := dk_184 0 116 (dk_at dksX2_broker_1 10 rfl rfl)
theorem dX2_broker_36 : decode cX2_broker 36 = .ok (.ifCond .ne 7, 3) := dk_154 0 7 (dk_at dksX2_broker_1 13 rfl rfl)
theorem dX2_broker_39 : decode cX2_broker 39 = .ok (.iconst 2, 1) := dk_5 (dk_at dksX2_broker_1 16 rfl rfl)
theorem dX2_broker_40 : decode cX2_broker 40 = .ok (.goto 17, 3) := dk_167 0 17 (dk_at dksX2_broker_1 17 rfl rfl)
theorem dX2_broker_43 : decode cX2_broker 43 = .ok (.aload_n 0, 1) := dk_42 (dk_at dksX2_broker_1 20 rfl rfl)
theorem dX2_broker_44 : decode cX2_broker 44 = .ok (.getfield 113, 3) := dk_180 0 113 (dk_at dksX2_broker_1 21 rfl rfl)
theorem dX2_broker_47 : decode cX2_broker 47 = .ok (.bipush 12, 2) := dk_16 12 (dk_at dksX2_broker_2 0 rfl rfl)
theorem dX2_broker_49 : decode cX2_broker 49 = .ok (.if_icmp .ne 7, 3) := dk_160 0 7 (dk_at dksX2_broker_2 2 rfl rfl)
theorem dX2_broker_52 : decode cX2_broker 52 = .ok (.iconst 3, 1) := dk_6 (dk_at dksX2_broker_2 5 rfl rfl)
theorem dX2_broker_53 : decode cX2_broker 53 = .ok (.goto 4, 3) := dk_167 0 4 (dk_at dksX2_broker_2 6 rfl rfl)
theorem dX2_broker_56 : decode cX2_broker 56 = .ok (.iconst 0, 1) := dk_3 (dk_at dksX2_broker_2 9 rfl rfl)
theorem dX2_broker_57 : decode cX2_broker 57 = .ok (.invokevirtual 124, 3) := dk_182 0 124 (dk_at dksX2_broker_2 10 rfl rfl)
theorem dX2_broker_60 : decode cX2_broker 60 = .ok (.ifCond .ne 5, 3) := dk_154 0 5 (dk_at dksX2_broker_2 13 rfl rfl)
theorem dX2_broker_63 : decode cX2_broker 63 = .ok (.iconst 0, 1) := dk_3 (dk_at dksX2_broker_2 16 rfl rfl)
theorem dX2_broker_64 : decode cX2_broker 64 = .ok (.ireturn, 1) := dk_172 (dk_at dksX2_broker_2 17 rfl rfl)
theorem dX2_broker_65 : decode cX2_broker 65 = .ok (.aload_n 0, 1) := dk_42 (dk_at dksX2_broker_2 18 rfl rfl)
theorem dX2_broker_66 : decode cX2_broker 66 = .ok (.getfield 7, 3) := dk_180 0 7 (dk_at dksX2_broker_2 19 rfl rfl)
theorem dX2_broker_69 : decode cX2_broker 69 = .ok (.aload_n 0, 1) := dk_42 (dk_at dksX2_broker_2 22 rfl rfl)
theorem dX2_broker_70 : decode cX2_broker 70 = .ok (.getfield 113, 3) := dk_180 0 113 (dk_at dksX2_broker_3 0 rfl rfl)
theorem dX2_broker_73 : decode cX2_broker 73 = .ok (.iload_n 1, 1) := dk_27 (dk_at dksX2_broker_3 3 rfl rfl)
theorem dX2_broker_74 : decode cX2_broker 74 = .ok (.iastore, 1) := dk_79 (dk_at dksX2_broker_3 4 rfl rfl)
theorem dX2_broker_75 : decode cX2_broker 75 = .ok (.aload_n 0, 1) := dk_42 (dk_at dksX2_broker_3 5 rfl rfl)
theorem dX2_broker_76 : decode cX2_broker 76 = .ok (.getfield 13, 3) := dk_180 0 13 (dk_at dksX2_broker_3 6 rfl rfl)
theorem dX2_broker_79 : decode cX2_broker 79 = .ok (.aload_n 0, 1) := dk_42 (dk_at dksX2_broker_3 9 rfl rfl)
theorem dX2_broker_80 : decode cX2_broker 80 = .ok (.getfield 113, 3) := dk_180 0 113 (dk_at dksX2_broker_3 10 rfl rfl)
theorem dX2_broker_83 : decode cX2_broker 83 = .ok (.iload_n 2, 1) := dk_28 (dk_at dksX2_broker_3 13 rfl rfl)
theorem dX2_broker_84 : decode cX2_broker 84 = .ok (.i2l, 1) := dk_133 (dk_at dksX2_broker_3 14 rfl rfl)
theorem dX2_broker_85 : decode cX2_broker 85 = .ok (.lastore, 1) := dk_80 (dk_at dksX2_broker_3 15 rfl rfl)
theorem dX2_broker_86 : decode cX2_broker 86 = .ok (.aload_n 0, 1) := dk_42 (dk_at dksX2_broker_3 16 rfl rfl)
theorem dX2_broker_87 : decode cX2_broker 87 = .ok (.getfield 17, 3) := dk_180 0 17 (dk_at dksX2_broker_3 17 rfl rfl)
theorem dX2_broker_90 : decode cX2_broker 90 = .ok (.aload_n 0, 1) := dk_42 (dk_at dksX2_broker_3 20 rfl rfl)
theorem dX2_broker_91 : decode cX2_broker 91 = .ok (.getfield 113, 3) := dk_180 0 113 (dk_at dksX2_broker_3 21 rfl rfl)
theorem dX2_broker_94 : decode cX2_broker 94 = .ok (.iload_n 3, 1) := dk_29 (dk_at dksX2_broker_4 0 rfl rfl)
theorem dX2_broker_95 : decode cX2_broker 95 = .ok (.iastore, 1) := dk_79 (dk_at dksX2_broker_4 1 rfl rfl)
theorem dX2_broker_96 : decode cX2_broker 96 = .ok (.aload_n 0, 1) := dk_42 (dk_at dksX2_broker_4 2 rfl rfl)
theorem dX2_broker_97 : decode cX2_broker 97 = .ok (.dup, 1) := dk_89 (dk_at dksX2_broker_4 3 rfl rfl)
theorem dX2_broker_98 : decode cX2_broker 98 = .ok (.getfield 113, 3) := dk_180 0 113 (dk_at dksX2_broker_4 4 rfl rfl)
theorem dX2_broker_101 : decode cX2_broker 101 = .ok (.iconst 1, 1) := dk_4 (dk_at dksX2_broker_4 7 rfl rfl)
theorem dX2_broker_102 : decode cX2_broker 102 = .ok (.iadd, 1) := dk_96 (dk_at dksX2_broker_4 8 rfl rfl)
theorem dX2_broker_103 : decode cX2_broker 103 = .ok (.putfield 113, 3) := dk_181 0 113 (dk_at dksX2_broker_4 9 rfl rfl)
theorem dX2_broker_106 : decode cX2_broker 106 = .ok (.aload_n 0, 1) := dk_42 (dk_at dksX2_broker_4 12 rfl rfl)
theorem dX2_broker_107 : decode cX2_broker 107 = .ok (.getfield 113, 3) := dk_180 0 113 (dk_at dksX2_broker_4 13 rfl rfl)
theorem dX2_broker_110 : decode cX2_broker 110 = .ok (.iconst 1, 1) := dk_4 (dk_at dksX2_broker_4 16 rfl rfl)
theorem dX2_broker_111 : decode cX2_broker 111 = .ok (.isub, 1) := dk_100 (dk_at dksX2_broker_4 17 rfl rfl)
theorem dX2_broker_112 : decode cX2_broker 112 = .ok (.ireturn, 1) := dk_172 (dk_at dksX2_broker_4 18 rfl rfl)
abbrev cX2_in : ByteArray := prog_11_method_4_code
def yX2_in : MethodName := ⟨RX2, "in", "(III)Z"⟩
def dkwX2_in_0 : List UInt8 := [26, 27, 161, 0, 12, 26, 28, 163, 0, 7, 4, 167, 0, 4, 3, 172]
abbrev dktX2_in_0 : List UInt8 := dkwX2_in_0 ++ []
theorem dksX2_in_0 : cX2_in.data.toList.drop 0 = dktX2_in_0 := by decide +kernel
theorem dX2_in_0 : decode cX2_in 0 = .ok (.iload_n 0, 1) := dk_26 (dk_at dksX2_in_0 0 rfl rfl)
theorem dX2_in_1 : decode cX2_in 1 = .ok (.iload_n 1, 1) := dk_27 (dk_at dksX2_in_0 1 rfl rfl)
theorem dX2_in_2 : decode cX2_in 2 = .ok (.if_icmp .lt 12, 3) := dk_161 0 12 (dk_at dksX2_in_0 2 rfl rfl)
theorem dX2_in_5 : decode cX2_in 5 = .ok (.iload_n 0, 1) := dk_26 (dk_at dksX2_in_0 5 rfl rfl)
theorem dX2_in_6 : decode cX2_in 6 = .ok (.iload_n 2, 1) := dk_28 (dk_at dksX2_in_0 6 rfl rfl)
theorem dX2_in_7 : decode cX2_in 7 = .ok (.if_icmp .gt 7, 3) := dk_163 0 7 (dk_at dksX2_in_0 7 rfl rfl)
theorem dX2_in_10 : decode cX2_in 10 = .ok (.iconst 1, 1) := dk_4 (dk_at dksX2_in_0 10 rfl rfl)
theorem dX2_in_11 : decode cX2_in 11 = .ok (.goto 4, 3) := dk_167 0 4 (dk_at dksX2_in_0 11 rfl rfl)
theorem dX2_in_14 : decode cX2_in 14 = .ok (.iconst 0, 1) := dk_3 (dk_at dksX2_in_0 14 rfl rfl)
theorem dX2_in_15 : decode cX2_in 15 = .ok (.ireturn, 1) := dk_172 (dk_at dksX2_in_0 15 rfl rfl)
abbrev cX2_goesWell : ByteArray := prog_11_method_3_code
def yX2_goesWell : MethodName := ⟨RX2, "goesWell", "(I)Z"⟩
def dkwX2_goesWell_0 : List UInt8 := [42, 27, 181, 0, 109, 27, 154, 0, 7, 4, 167, 0, 4, 3, 172]
abbrev dktX2_goesWell_0 : List UInt8 := dkwX2_goesWell_0 ++ []
theorem dksX2_goesWell_0 : cX2_goesWell.data.toList.drop 0 = dktX2_goesWell_0 := by decide +kernel
theorem dX2_goesWell_0 : decode cX2_goesWell 0 = .ok (.aload_n 0, 1) := dk_42 (dk_at dksX2_goesWell_0 0 rfl rfl)
theorem dX2_goesWell_1 : decode cX2_goesWell 1 = .ok (.iload_n 1, 1) := dk_27 (dk_at dksX2_goesWell_0 1 rfl rfl)
theorem dX2_goesWell_2 : decode cX2_goesWell 2 = .ok (.putfield 109, 3) := dk_181 0 109 (dk_at dksX2_goesWell_0 2 rfl rfl)
theorem dX2_goesWell_5 : decode cX2_goesWell 5 = .ok (.iload_n 1, 1) := dk_27 (dk_at dksX2_goesWell_0 5 rfl rfl)
theorem dX2_goesWell_6 : decode cX2_goesWell 6 = .ok (.ifCond .ne 7, 3) := dk_154 0 7 (dk_at dksX2_goesWell_0 6 rfl rfl)
theorem dX2_goesWell_9 : decode cX2_goesWell 9 = .ok (.iconst 1, 1) := dk_4 (dk_at dksX2_goesWell_0 9 rfl rfl)
theorem dX2_goesWell_10 : decode cX2_goesWell 10 = .ok (.goto 4, 3) := dk_167 0 4 (dk_at dksX2_goesWell_0 10 rfl rfl)
theorem dX2_goesWell_13 : decode cX2_goesWell 13 = .ok (.iconst 0, 1) := dk_3 (dk_at dksX2_goesWell_0 13 rfl rfl)
theorem dX2_goesWell_14 : decode cX2_goesWell 14 = .ok (.ireturn, 1) := dk_172 (dk_at dksX2_goesWell_0 14 rfl rfl)
abbrev cX2_rate : ByteArray := prog_11_method_8_code
def yX2_rate : MethodName := ⟨RX2, "rate", "(II)I"⟩
def dkwX2_rate_2 : List UInt8 := [42, 180, 0, 17, 27, 28, 79, 21, 4, 172]
abbrev dktX2_rate_2 : List UInt8 := dkwX2_rate_2 ++ []
def dkwX2_rate_1 : List UInt8 := [153, 0, 7, 3, 167, 0, 4, 5, 182, 0, 124, 154, 0, 5, 3, 172, 42, 180, 0, 17, 27, 46, 54, 4]
abbrev dktX2_rate_1 : List UInt8 := dkwX2_rate_1 ++ dktX2_rate_2
def dkwX2_rate_0 : List UInt8 := [42, 27, 182, 0, 120, 62, 42, 29, 154, 0, 7, 4, 167, 0, 18, 28, 3, 16, 100, 184, 0, 116]
abbrev dktX2_rate_0 : List UInt8 := dkwX2_rate_0 ++ dktX2_rate_1
theorem dksX2_rate_0 : cX2_rate.data.toList.drop 0 = dktX2_rate_0 := by decide +kernel
theorem dksX2_rate_1 : cX2_rate.data.toList.drop 22 = dktX2_rate_1 := dk_seg dksX2_rate_0 22 rfl rfl
theorem dksX2_rate_2 : cX2_rate.data.toList.drop 46 = dktX2_rate_2 := dk_seg dksX2_rate_1 24 rfl rfl
theorem dX2_rate_0 : decode cX2_rate 0 = .ok (.aload_n 0, 1) := dk_42 (dk_at dksX2_rate_0 0 rfl rfl)
theorem dX2_rate_1 : decode cX2_rate 1 = .ok (.iload_n 1, 1) := dk_27 (dk_at dksX2_rate_0 1 rfl rfl)
theorem dX2_rate_2 : decode cX2_rate 2 = .ok (.invokevirtual 120, 3) := dk_182 0 120 (dk_at dksX2_rate_0 2 rfl rfl)
theorem dX2_rate_5 : decode cX2_rate 5 = .ok (.istore_n 3, 1) := dk_62 (dk_at dksX2_rate_0 5 rfl rfl)
theorem dX2_rate_6 : decode cX2_rate 6 = .ok (.aload_n 0, 1) := dk_42 (dk_at dksX2_rate_0 6 rfl rfl)
theorem dX2_rate_7 : decode cX2_rate 7 = .ok (.iload_n 3, 1) := dk_29 (dk_at dksX2_rate_0 7 rfl rfl)
theorem dX2_rate_8 : decode cX2_rate 8 = .ok (.ifCond .ne 7, 3) := dk_154 0 7 (dk_at dksX2_rate_0 8 rfl rfl)
theorem dX2_rate_11 : decode cX2_rate 11 = .ok (.iconst 1, 1) := dk_4 (dk_at dksX2_rate_0 11 rfl rfl)
theorem dX2_rate_12 : decode cX2_rate 12 = .ok (.goto 18, 3) := dk_167 0 18 (dk_at dksX2_rate_0 12 rfl rfl)
theorem dX2_rate_15 : decode cX2_rate 15 = .ok (.iload_n 2, 1) := dk_28 (dk_at dksX2_rate_0 15 rfl rfl)
theorem dX2_rate_16 : decode cX2_rate 16 = .ok (.iconst 0, 1) := dk_3 (dk_at dksX2_rate_0 16 rfl rfl)
theorem dX2_rate_17 : decode cX2_rate 17 = .ok (.bipush 100, 2) := dk_16 100 (dk_at dksX2_rate_0 17 rfl rfl)
theorem dX2_rate_19 : decode cX2_rate 19 = .ok (.invokestatic 116, 3) := dk_184 0 116 (dk_at dksX2_rate_0 19 rfl rfl)
theorem dX2_rate_22 : decode cX2_rate 22 = .ok (.ifCond .eq 7, 3) := dk_153 0 7 (dk_at dksX2_rate_1 0 rfl rfl)
theorem dX2_rate_25 : decode cX2_rate 25 = .ok (.iconst 0, 1) := dk_3 (dk_at dksX2_rate_1 3 rfl rfl)
theorem dX2_rate_26 : decode cX2_rate 26 = .ok (.goto 4, 3) := dk_167 0 4 (dk_at dksX2_rate_1 4 rfl rfl)
theorem dX2_rate_29 : decode cX2_rate 29 = .ok (.iconst 2, 1) := dk_5 (dk_at dksX2_rate_1 7 rfl rfl)
theorem dX2_rate_30 : decode cX2_rate 30 = .ok (.invokevirtual 124, 3) := dk_182 0 124 (dk_at dksX2_rate_1 8 rfl rfl)
theorem dX2_rate_33 : decode cX2_rate 33 = .ok (.ifCond .ne 5, 3) := dk_154 0 5 (dk_at dksX2_rate_1 11 rfl rfl)
theorem dX2_rate_36 : decode cX2_rate 36 = .ok (.iconst 0, 1) := dk_3 (dk_at dksX2_rate_1 14 rfl rfl)
theorem dX2_rate_37 : decode cX2_rate 37 = .ok (.ireturn, 1) := dk_172 (dk_at dksX2_rate_1 15 rfl rfl)
theorem dX2_rate_38 : decode cX2_rate 38 = .ok (.aload_n 0, 1) := dk_42 (dk_at dksX2_rate_1 16 rfl rfl)
theorem dX2_rate_39 : decode cX2_rate 39 = .ok (.getfield 17, 3) := dk_180 0 17 (dk_at dksX2_rate_1 17 rfl rfl)
theorem dX2_rate_42 : decode cX2_rate 42 = .ok (.iload_n 1, 1) := dk_27 (dk_at dksX2_rate_1 20 rfl rfl)
theorem dX2_rate_43 : decode cX2_rate 43 = .ok (.iaload, 1) := dk_46 (dk_at dksX2_rate_1 21 rfl rfl)
theorem dX2_rate_44 : decode cX2_rate 44 = .ok (.istore 4, 2) := dk_54 4 (dk_at dksX2_rate_1 22 rfl rfl)
theorem dX2_rate_46 : decode cX2_rate 46 = .ok (.aload_n 0, 1) := dk_42 (dk_at dksX2_rate_2 0 rfl rfl)
theorem dX2_rate_47 : decode cX2_rate 47 = .ok (.getfield 17, 3) := dk_180 0 17 (dk_at dksX2_rate_2 1 rfl rfl)
theorem dX2_rate_50 : decode cX2_rate 50 = .ok (.iload_n 1, 1) := dk_27 (dk_at dksX2_rate_2 4 rfl rfl)
theorem dX2_rate_51 : decode cX2_rate 51 = .ok (.iload_n 2, 1) := dk_28 (dk_at dksX2_rate_2 5 rfl rfl)
theorem dX2_rate_52 : decode cX2_rate 52 = .ok (.iastore, 1) := dk_79 (dk_at dksX2_rate_2 6 rfl rfl)
theorem dX2_rate_53 : decode cX2_rate 53 = .ok (.iload 4, 2) := dk_21 4 (dk_at dksX2_rate_2 7 rfl rfl)
theorem dX2_rate_55 : decode cX2_rate 55 = .ok (.ireturn, 1) := dk_172 (dk_at dksX2_rate_2 9 rfl rfl)
abbrev cX2_isBroker : ByteArray := prog_11_method_5_code
def yX2_isBroker : MethodName := ⟨RX2, "isBroker", "(I)Z"⟩
def dkwX2_isBroker_0 : List UInt8 := [27, 3, 42, 180, 0, 113, 4, 100, 184, 0, 116, 172]
abbrev dktX2_isBroker_0 : List UInt8 := dkwX2_isBroker_0 ++ []
theorem dksX2_isBroker_0 : cX2_isBroker.data.toList.drop 0 = dktX2_isBroker_0 := by decide +kernel
theorem dX2_isBroker_0 : decode cX2_isBroker 0 = .ok (.iload_n 1, 1) := dk_27 (dk_at dksX2_isBroker_0 0 rfl rfl)
theorem dX2_isBroker_1 : decode cX2_isBroker 1 = .ok (.iconst 0, 1) := dk_3 (dk_at dksX2_isBroker_0 1 rfl rfl)
theorem dX2_isBroker_2 : decode cX2_isBroker 2 = .ok (.aload_n 0, 1) := dk_42 (dk_at dksX2_isBroker_0 2 rfl rfl)
theorem dX2_isBroker_3 : decode cX2_isBroker 3 = .ok (.getfield 113, 3) := dk_180 0 113 (dk_at dksX2_isBroker_0 3 rfl rfl)
theorem dX2_isBroker_6 : decode cX2_isBroker 6 = .ok (.iconst 1, 1) := dk_4 (dk_at dksX2_isBroker_0 6 rfl rfl)
theorem dX2_isBroker_7 : decode cX2_isBroker 7 = .ok (.isub, 1) := dk_100 (dk_at dksX2_isBroker_0 7 rfl rfl)
theorem dX2_isBroker_8 : decode cX2_isBroker 8 = .ok (.invokestatic 116, 3) := dk_184 0 116 (dk_at dksX2_isBroker_0 8 rfl rfl)
theorem dX2_isBroker_11 : decode cX2_isBroker 11 = .ok (.ireturn, 1) := dk_172 (dk_at dksX2_isBroker_0 11 rfl rfl)
abbrev cX2_trust : ByteArray := prog_11_method_9_code
def yX2_trust : MethodName := ⟨RX2, "trust", "(IIIZ)V"⟩
def dkwX2_trust_2 : List UInt8 := [16, 12, 27, 104, 28, 96, 29, 79, 42, 180, 0, 33, 16, 12, 27, 104, 28, 96, 21, 4, 84, 177]
abbrev dktX2_trust_2 : List UInt8 := dkwX2_trust_2 ++ []
def dkwX2_trust_1 : List UInt8 := [3, 18, 87, 184, 0, 116, 153, 0, 7, 3, 167, 0, 4, 5, 182, 0, 124, 153, 0, 28, 42, 180, 0, 30]
abbrev dktX2_trust_1 : List UInt8 := dkwX2_trust_1 ++ dktX2_trust_2
def dkwX2_trust_0 : List UInt8 := [42, 27, 28, 182, 0, 127, 54, 5, 42, 21, 5, 154, 0, 7, 4, 167, 0, 23, 27, 28, 159, 0, 17, 29]
abbrev dktX2_trust_0 : List UInt8 := dkwX2_trust_0 ++ dktX2_trust_1
theorem dksX2_trust_0 : cX2_trust.data.toList.drop 0 = dktX2_trust_0 := by decide +kernel
theorem dksX2_trust_1 : cX2_trust.data.toList.drop 24 = dktX2_trust_1 := dk_seg dksX2_trust_0 24 rfl rfl
theorem dksX2_trust_2 : cX2_trust.data.toList.drop 48 = dktX2_trust_2 := dk_seg dksX2_trust_1 24 rfl rfl
theorem dX2_trust_0 : decode cX2_trust 0 = .ok (.aload_n 0, 1) := dk_42 (dk_at dksX2_trust_0 0 rfl rfl)
theorem dX2_trust_1 : decode cX2_trust 1 = .ok (.iload_n 1, 1) := dk_27 (dk_at dksX2_trust_0 1 rfl rfl)
theorem dX2_trust_2 : decode cX2_trust 2 = .ok (.iload_n 2, 1) := dk_28 (dk_at dksX2_trust_0 2 rfl rfl)
theorem dX2_trust_3 : decode cX2_trust 3 = .ok (.invokevirtual 127, 3) := dk_182 0 127 (dk_at dksX2_trust_0 3 rfl rfl)
theorem dX2_trust_6 : decode cX2_trust 6 = .ok (.istore 5, 2) := dk_54 5 (dk_at dksX2_trust_0 6 rfl rfl)
theorem dX2_trust_8 : decode cX2_trust 8 = .ok (.aload_n 0, 1) := dk_42 (dk_at dksX2_trust_0 8 rfl rfl)
theorem dX2_trust_9 : decode cX2_trust 9 = .ok (.iload 5, 2) := dk_21 5 (dk_at dksX2_trust_0 9 rfl rfl)
theorem dX2_trust_11 : decode cX2_trust 11 = .ok (.ifCond .ne 7, 3) := dk_154 0 7 (dk_at dksX2_trust_0 11 rfl rfl)
theorem dX2_trust_14 : decode cX2_trust 14 = .ok (.iconst 1, 1) := dk_4 (dk_at dksX2_trust_0 14 rfl rfl)
theorem dX2_trust_15 : decode cX2_trust 15 = .ok (.goto 23, 3) := dk_167 0 23 (dk_at dksX2_trust_0 15 rfl rfl)
theorem dX2_trust_18 : decode cX2_trust 18 = .ok (.iload_n 1, 1) := dk_27 (dk_at dksX2_trust_0 18 rfl rfl)
theorem dX2_trust_19 : decode cX2_trust 19 = .ok (.iload_n 2, 1) := dk_28 (dk_at dksX2_trust_0 19 rfl rfl)
theorem dX2_trust_20 : decode cX2_trust 20 = .ok (.if_icmp .eq 17, 3) := dk_159 0 17 (dk_at dksX2_trust_0 20 rfl rfl)
theorem dX2_trust_23 : decode cX2_trust 23 = .ok (.iload_n 3, 1) := dk_29 (dk_at dksX2_trust_0 23 rfl rfl)
theorem dX2_trust_24 : decode cX2_trust 24 = .ok (.iconst 0, 1) := dk_3 (dk_at dksX2_trust_1 0 rfl rfl)
theorem dX2_trust_25 : decode cX2_trust 25 = .ok (.ldc 87, 2) := dk_18 87 (dk_at dksX2_trust_1 1 rfl rfl)
theorem dX2_trust_27 : decode cX2_trust 27 = .ok (.invokestatic 116, 3) := dk_184 0 116 (dk_at dksX2_trust_1 3 rfl rfl)
theorem dX2_trust_30 : decode cX2_trust 30 = .ok (.ifCond .eq 7, 3) := dk_153 0 7 (dk_at dksX2_trust_1 6 rfl rfl)
theorem dX2_trust_33 : decode cX2_trust 33 = .ok (.iconst 0, 1) := dk_3 (dk_at dksX2_trust_1 9 rfl rfl)
theorem dX2_trust_34 : decode cX2_trust 34 = .ok (.goto 4, 3) := dk_167 0 4 (dk_at dksX2_trust_1 10 rfl rfl)
theorem dX2_trust_37 : decode cX2_trust 37 = .ok (.iconst 2, 1) := dk_5 (dk_at dksX2_trust_1 13 rfl rfl)
theorem dX2_trust_38 : decode cX2_trust 38 = .ok (.invokevirtual 124, 3) := dk_182 0 124 (dk_at dksX2_trust_1 14 rfl rfl)
theorem dX2_trust_41 : decode cX2_trust 41 = .ok (.ifCond .eq 28, 3) := dk_153 0 28 (dk_at dksX2_trust_1 17 rfl rfl)
theorem dX2_trust_44 : decode cX2_trust 44 = .ok (.aload_n 0, 1) := dk_42 (dk_at dksX2_trust_1 20 rfl rfl)
theorem dX2_trust_45 : decode cX2_trust 45 = .ok (.getfield 30, 3) := dk_180 0 30 (dk_at dksX2_trust_1 21 rfl rfl)
theorem dX2_trust_48 : decode cX2_trust 48 = .ok (.bipush 12, 2) := dk_16 12 (dk_at dksX2_trust_2 0 rfl rfl)
theorem dX2_trust_50 : decode cX2_trust 50 = .ok (.iload_n 1, 1) := dk_27 (dk_at dksX2_trust_2 2 rfl rfl)
theorem dX2_trust_51 : decode cX2_trust 51 = .ok (.imul, 1) := dk_104 (dk_at dksX2_trust_2 3 rfl rfl)
theorem dX2_trust_52 : decode cX2_trust 52 = .ok (.iload_n 2, 1) := dk_28 (dk_at dksX2_trust_2 4 rfl rfl)
theorem dX2_trust_53 : decode cX2_trust 53 = .ok (.iadd, 1) := dk_96 (dk_at dksX2_trust_2 5 rfl rfl)
theorem dX2_trust_54 : decode cX2_trust 54 = .ok (.iload_n 3, 1) := dk_29 (dk_at dksX2_trust_2 6 rfl rfl)
theorem dX2_trust_55 : decode cX2_trust 55 = .ok (.iastore, 1) := dk_79 (dk_at dksX2_trust_2 7 rfl rfl)
theorem dX2_trust_56 : decode cX2_trust 56 = .ok (.aload_n 0, 1) := dk_42 (dk_at dksX2_trust_2 8 rfl rfl)
theorem dX2_trust_57 : decode cX2_trust 57 = .ok (.getfield 33, 3) := dk_180 0 33 (dk_at dksX2_trust_2 9 rfl rfl)
theorem dX2_trust_60 : decode cX2_trust 60 = .ok (.bipush 12, 2) := dk_16 12 (dk_at dksX2_trust_2 12 rfl rfl)
theorem dX2_trust_62 : decode cX2_trust 62 = .ok (.iload_n 1, 1) := dk_27 (dk_at dksX2_trust_2 14 rfl rfl)
theorem dX2_trust_63 : decode cX2_trust 63 = .ok (.imul, 1) := dk_104 (dk_at dksX2_trust_2 15 rfl rfl)
theorem dX2_trust_64 : decode cX2_trust 64 = .ok (.iload_n 2, 1) := dk_28 (dk_at dksX2_trust_2 16 rfl rfl)
theorem dX2_trust_65 : decode cX2_trust 65 = .ok (.iadd, 1) := dk_96 (dk_at dksX2_trust_2 17 rfl rfl)
theorem dX2_trust_66 : decode cX2_trust 66 = .ok (.iload 4, 2) := dk_21 4 (dk_at dksX2_trust_2 18 rfl rfl)
theorem dX2_trust_68 : decode cX2_trust 68 = .ok (.bastore, 1) := dk_84 (dk_at dksX2_trust_2 20 rfl rfl)
theorem dX2_trust_69 : decode cX2_trust 69 = .ok (.return_, 1) := dk_177 (dk_at dksX2_trust_2 21 rfl rfl)
abbrev cX2_areBrokers : ByteArray := prog_11_method_6_code
def yX2_areBrokers : MethodName := ⟨RX2, "areBrokers", "(II)Z"⟩
def dkwX2_areBrokers_0 : List UInt8 := [42, 27, 182, 0, 120, 153, 0, 15, 42, 28, 182, 0, 120, 153, 0, 7, 4, 167, 0, 4, 3, 172]
abbrev dktX2_areBrokers_0 : List UInt8 := dkwX2_areBrokers_0 ++ []
theorem dksX2_areBrokers_0 : cX2_areBrokers.data.toList.drop 0 = dktX2_areBrokers_0 := by decide +kernel
theorem dX2_areBrokers_0 : decode cX2_areBrokers 0 = .ok (.aload_n 0, 1) := dk_42 (dk_at dksX2_areBrokers_0 0 rfl rfl)
theorem dX2_areBrokers_1 : decode cX2_areBrokers 1 = .ok (.iload_n 1, 1) := dk_27 (dk_at dksX2_areBrokers_0 1 rfl rfl)
theorem dX2_areBrokers_2 : decode cX2_areBrokers 2 = .ok (.invokevirtual 120, 3) := dk_182 0 120 (dk_at dksX2_areBrokers_0 2 rfl rfl)
theorem dX2_areBrokers_5 : decode cX2_areBrokers 5 = .ok (.ifCond .eq 15, 3) := dk_153 0 15 (dk_at dksX2_areBrokers_0 5 rfl rfl)
theorem dX2_areBrokers_8 : decode cX2_areBrokers 8 = .ok (.aload_n 0, 1) := dk_42 (dk_at dksX2_areBrokers_0 8 rfl rfl)
theorem dX2_areBrokers_9 : decode cX2_areBrokers 9 = .ok (.iload_n 2, 1) := dk_28 (dk_at dksX2_areBrokers_0 9 rfl rfl)
theorem dX2_areBrokers_10 : decode cX2_areBrokers 10 = .ok (.invokevirtual 120, 3) := dk_182 0 120 (dk_at dksX2_areBrokers_0 10 rfl rfl)
theorem dX2_areBrokers_13 : decode cX2_areBrokers 13 = .ok (.ifCond .eq 7, 3) := dk_153 0 7 (dk_at dksX2_areBrokers_0 13 rfl rfl)
theorem dX2_areBrokers_16 : decode cX2_areBrokers 16 = .ok (.iconst 1, 1) := dk_4 (dk_at dksX2_areBrokers_0 16 rfl rfl)
theorem dX2_areBrokers_17 : decode cX2_areBrokers 17 = .ok (.goto 4, 3) := dk_167 0 4 (dk_at dksX2_areBrokers_0 17 rfl rfl)
theorem dX2_areBrokers_20 : decode cX2_areBrokers 20 = .ok (.iconst 0, 1) := dk_3 (dk_at dksX2_areBrokers_0 20 rfl rfl)
theorem dX2_areBrokers_21 : decode cX2_areBrokers 21 = .ok (.ireturn, 1) := dk_172 (dk_at dksX2_areBrokers_0 21 rfl rfl)
abbrev cX2_festival : ByteArray := prog_11_method_10_code
def yX2_festival : MethodName := ⟨RX2, "festival", "()Z"⟩
def dkwX2_festival_1 : List UInt8 := [180, 0, 131, 172]
abbrev dktX2_festival_1 : List UInt8 := dkwX2_festival_1 ++ []
def dkwX2_festival_0 : List UInt8 := [42, 3, 181, 0, 109, 42, 42, 180, 0, 131, 154, 0, 7, 4, 167, 0, 4, 3, 181, 0, 131, 42]
abbrev dktX2_festival_0 : List UInt8 := dkwX2_festival_0 ++ dktX2_festival_1
theorem dksX2_festival_0 : cX2_festival.data.toList.drop 0 = dktX2_festival_0 := by decide +kernel
theorem dksX2_festival_1 : cX2_festival.data.toList.drop 22 = dktX2_festival_1 := dk_seg dksX2_festival_0 22 rfl rfl
theorem dX2_festival_0 : decode cX2_festival 0 = .ok (.aload_n 0, 1) := dk_42 (dk_at dksX2_festival_0 0 rfl rfl)
theorem dX2_festival_1 : decode cX2_festival 1 = .ok (.iconst 0, 1) := dk_3 (dk_at dksX2_festival_0 1 rfl rfl)
theorem dX2_festival_2 : decode cX2_festival 2 = .ok (.putfield 109, 3) := dk_181 0 109 (dk_at dksX2_festival_0 2 rfl rfl)
theorem dX2_festival_5 : decode cX2_festival 5 = .ok (.aload_n 0, 1) := dk_42 (dk_at dksX2_festival_0 5 rfl rfl)
theorem dX2_festival_6 : decode cX2_festival 6 = .ok (.aload_n 0, 1) := dk_42 (dk_at dksX2_festival_0 6 rfl rfl)
theorem dX2_festival_7 : decode cX2_festival 7 = .ok (.getfield 131, 3) := dk_180 0 131 (dk_at dksX2_festival_0 7 rfl rfl)
theorem dX2_festival_10 : decode cX2_festival 10 = .ok (.ifCond .ne 7, 3) := dk_154 0 7 (dk_at dksX2_festival_0 10 rfl rfl)
theorem dX2_festival_13 : decode cX2_festival 13 = .ok (.iconst 1, 1) := dk_4 (dk_at dksX2_festival_0 13 rfl rfl)
theorem dX2_festival_14 : decode cX2_festival 14 = .ok (.goto 4, 3) := dk_167 0 4 (dk_at dksX2_festival_0 14 rfl rfl)
theorem dX2_festival_17 : decode cX2_festival 17 = .ok (.iconst 0, 1) := dk_3 (dk_at dksX2_festival_0 17 rfl rfl)
theorem dX2_festival_18 : decode cX2_festival 18 = .ok (.putfield 131, 3) := dk_181 0 131 (dk_at dksX2_festival_0 18 rfl rfl)
theorem dX2_festival_21 : decode cX2_festival 21 = .ok (.aload_n 0, 1) := dk_42 (dk_at dksX2_festival_0 21 rfl rfl)
theorem dX2_festival_22 : decode cX2_festival 22 = .ok (.getfield 131, 3) := dk_180 0 131 (dk_at dksX2_festival_1 0 rfl rfl)
theorem dX2_festival_25 : decode cX2_festival 25 = .ok (.ireturn, 1) := dk_172 (dk_at dksX2_festival_1 3 rfl rfl)
abbrev cX2_breakWord : ByteArray := prog_11_method_26_code
def yX2_breakWord : MethodName := ⟨RX2, "breakWord", "(I)I"⟩
def dkwX2_breakWord_5 : List UInt8 := [132, 4, 1, 167, 255, 185, 42, 27, 182, 0, 191, 29, 172]
abbrev dktX2_breakWord_5 : List UInt8 := dkwX2_breakWord_5 ++ []
def dkwX2_breakWord_4 : List UInt8 := [21, 4, 46, 154, 0, 10, 42, 21, 4, 3, 182, 0, 162, 42, 180, 0, 42, 21, 4, 8, 79, 132, 3, 1]
abbrev dktX2_breakWord_4 : List UInt8 := dkwX2_breakWord_4 ++ dktX2_breakWord_5
def dkwX2_breakWord_3 : List UInt8 := [180, 0, 42, 21, 4, 46, 153, 0, 14, 42, 180, 0, 42, 21, 4, 46, 6, 160, 0, 31, 42, 180, 0, 42]
abbrev dktX2_breakWord_3 : List UInt8 := dkwX2_breakWord_3 ++ dktX2_breakWord_4
def dkwX2_breakWord_2 : List UInt8 := [62, 3, 54, 4, 21, 4, 42, 180, 0, 181, 162, 0, 68, 42, 21, 4, 182, 0, 166, 27, 160, 0, 52, 42]
abbrev dktX2_breakWord_2 : List UInt8 := dkwX2_breakWord_2 ++ dktX2_breakWord_3
def dkwX2_breakWord_1 : List UInt8 := [160, 0, 7, 5, 167, 0, 4, 3, 182, 0, 124, 154, 0, 5, 3, 172, 42, 180, 0, 20, 27, 5, 79, 3]
abbrev dktX2_breakWord_1 : List UInt8 := dkwX2_breakWord_1 ++ dktX2_breakWord_2
def dkwX2_breakWord_0 : List UInt8 := [42, 27, 182, 0, 120, 61, 42, 28, 154, 0, 7, 4, 167, 0, 18, 42, 180, 0, 20, 27, 46, 5]
abbrev dktX2_breakWord_0 : List UInt8 := dkwX2_breakWord_0 ++ dktX2_breakWord_1
theorem dksX2_breakWord_0 : cX2_breakWord.data.toList.drop 0 = dktX2_breakWord_0 := by decide +kernel
theorem dksX2_breakWord_1 : cX2_breakWord.data.toList.drop 22 = dktX2_breakWord_1 := dk_seg dksX2_breakWord_0 22 rfl rfl
theorem dksX2_breakWord_2 : cX2_breakWord.data.toList.drop 46 = dktX2_breakWord_2 := dk_seg dksX2_breakWord_1 24 rfl rfl
theorem dksX2_breakWord_3 : cX2_breakWord.data.toList.drop 70 = dktX2_breakWord_3 := dk_seg dksX2_breakWord_2 24 rfl rfl
theorem dksX2_breakWord_4 : cX2_breakWord.data.toList.drop 94 = dktX2_breakWord_4 := dk_seg dksX2_breakWord_3 24 rfl rfl
theorem dksX2_breakWord_5 : cX2_breakWord.data.toList.drop 118 = dktX2_breakWord_5 := dk_seg dksX2_breakWord_4 24 rfl rfl
theorem dX2_breakWord_0 : decode cX2_breakWord 0 = .ok (.aload_n 0, 1) := dk_42 (dk_at dksX2_breakWord_0 0 rfl rfl)
theorem dX2_breakWord_1 : decode cX2_breakWord 1 = .ok (.iload_n 1, 1) := dk_27 (dk_at dksX2_breakWord_0 1 rfl rfl)
theorem dX2_breakWord_2 : decode cX2_breakWord 2 = .ok (.invokevirtual 120, 3) := dk_182 0 120 (dk_at dksX2_breakWord_0 2 rfl rfl)
theorem dX2_breakWord_5 : decode cX2_breakWord 5 = .ok (.istore_n 2, 1) := dk_61 (dk_at dksX2_breakWord_0 5 rfl rfl)
theorem dX2_breakWord_6 : decode cX2_breakWord 6 = .ok (.aload_n 0, 1) := dk_42 (dk_at dksX2_breakWord_0 6 rfl rfl)
theorem dX2_breakWord_7 : decode cX2_breakWord 7 = .ok (.iload_n 2, 1) := dk_28 (dk_at dksX2_breakWord_0 7 rfl rfl)
theorem dX2_breakWord_8 : decode cX2_breakWord 8 = .ok (.ifCond .ne 7, 3) := dk_154 0 7 (dk_at dksX2_breakWord_0 8 rfl rfl)
theorem dX2_breakWord_11 : decode cX2_breakWord 11 = .ok (.iconst 1, 1) := dk_4 (dk_at dksX2_breakWord_0 11 rfl rfl)
theorem dX2_breakWord_12 : decode cX2_breakWord 12 = .ok (.goto 18, 3) := dk_167 0 18 (dk_at dksX2_breakWord_0 12 rfl rfl)
theorem dX2_breakWord_15 : decode cX2_breakWord 15 = .ok (.aload_n 0, 1) := dk_42 (dk_at dksX2_breakWord_0 15 rfl rfl)
theorem dX2_breakWord_16 : decode cX2_breakWord 16 = .ok (.getfield 20, 3) := dk_180 0 20 (dk_at dksX2_breakWord_0 16 rfl rfl)
theorem dX2_breakWord_19 : decode cX2_breakWord 19 = .ok (.iload_n 1, 1) := dk_27 (dk_at dksX2_breakWord_0 19 rfl rfl)
theorem dX2_breakWord_20 : decode cX2_breakWord 20 = .ok (.iaload, 1) := dk_46 (dk_at dksX2_breakWord_0 20 rfl rfl)
theorem dX2_breakWord_21 : decode cX2_breakWord 21 = .ok (.iconst 2, 1) := dk_5 (dk_at dksX2_breakWord_0 21 rfl rfl)
theorem dX2_breakWord_22 : decode cX2_breakWord 22 = .ok (.if_icmp .ne 7, 3) := dk_160 0 7 (dk_at dksX2_breakWord_1 0 rfl rfl)
theorem dX2_breakWord_25 : decode cX2_breakWord 25 = .ok (.iconst 2, 1) := dk_5 (dk_at dksX2_breakWord_1 3 rfl rfl)
theorem dX2_breakWord_26 : decode cX2_breakWord 26 = .ok (.goto 4, 3) := dk_167 0 4 (dk_at dksX2_breakWord_1 4 rfl rfl)
theorem dX2_breakWord_29 : decode cX2_breakWord 29 = .ok (.iconst 0, 1) := dk_3 (dk_at dksX2_breakWord_1 7 rfl rfl)
theorem dX2_breakWord_30 : decode cX2_breakWord 30 = .ok (.invokevirtual 124, 3) := dk_182 0 124 (dk_at dksX2_breakWord_1 8 rfl rfl)
theorem dX2_breakWord_33 : decode cX2_breakWord 33 = .ok (.ifCond .ne 5, 3) := dk_154 0 5 (dk_at dksX2_breakWord_1 11 rfl rfl)
theorem dX2_breakWord_36 : decode cX2_breakWord 36 = .ok (.iconst 0, 1) := dk_3 (dk_at dksX2_breakWord_1 14 rfl rfl)
theorem dX2_breakWord_37 : decode cX2_breakWord 37 = .ok (.ireturn, 1) := dk_172 (dk_at dksX2_breakWord_1 15 rfl rfl)
theorem dX2_breakWord_38 : decode cX2_breakWord 38 = .ok (.aload_n 0, 1) := dk_42 (dk_at dksX2_breakWord_1 16 rfl rfl)
theorem dX2_breakWord_39 : decode cX2_breakWord 39 = .ok (.getfield 20, 3) := dk_180 0 20 (dk_at dksX2_breakWord_1 17 rfl rfl)
theorem dX2_breakWord_42 : decode cX2_breakWord 42 = .ok (.iload_n 1, 1) := dk_27 (dk_at dksX2_breakWord_1 20 rfl rfl)
theorem dX2_breakWord_43 : decode cX2_breakWord 43 = .ok (.iconst 2, 1) := dk_5 (dk_at dksX2_breakWord_1 21 rfl rfl)
theorem dX2_breakWord_44 : decode cX2_breakWord 44 = .ok (.iastore, 1) := dk_79 (dk_at dksX2_breakWord_1 22 rfl rfl)
theorem dX2_breakWord_45 : decode cX2_breakWord 45 = .ok (.iconst 0, 1) := dk_3 (dk_at dksX2_breakWord_1 23 rfl rfl)
theorem dX2_breakWord_46 : decode cX2_breakWord 46 = .ok (.istore_n 3, 1) := dk_62 (dk_at dksX2_breakWord_2 0 rfl rfl)
theorem dX2_breakWord_47 : decode cX2_breakWord 47 = .ok (.iconst 0, 1) := dk_3 (dk_at dksX2_breakWord_2 1 rfl rfl)
theorem dX2_breakWord_48 : decode cX2_breakWord 48 = .ok (.istore 4, 2) := dk_54 4 (dk_at dksX2_breakWord_2 2 rfl rfl)
theorem dX2_breakWord_50 : decode cX2_breakWord 50 = .ok (.iload 4, 2) := dk_21 4 (dk_at dksX2_breakWord_2 4 rfl rfl)
theorem dX2_breakWord_52 : decode cX2_breakWord 52 = .ok (.aload_n 0, 1) := dk_42 (dk_at dksX2_breakWord_2 6 rfl rfl)
theorem dX2_breakWord_53 : decode cX2_breakWord 53 = .ok (.getfield 181, 3) := dk_180 0 181 (dk_at dksX2_breakWord_2 7 rfl rfl)
theorem dX2_breakWord_56 : decode cX2_breakWord 56 = .ok (.if_icmp .ge 68, 3) := dk_162 0 68 (dk_at dksX2_breakWord_2 10 rfl rfl)
theorem dX2_breakWord_59 : decode cX2_breakWord 59 = .ok (.aload_n 0, 1) := dk_42 (dk_at dksX2_breakWord_2 13 rfl rfl)
theorem dX2_breakWord_60 : decode cX2_breakWord 60 = .ok (.iload 4, 2) := dk_21 4 (dk_at dksX2_breakWord_2 14 rfl rfl)
theorem dX2_breakWord_62 : decode cX2_breakWord 62 = .ok (.invokevirtual 166, 3) := dk_182 0 166 (dk_at dksX2_breakWord_2 16 rfl rfl)
theorem dX2_breakWord_65 : decode cX2_breakWord 65 = .ok (.iload_n 1, 1) := dk_27 (dk_at dksX2_breakWord_2 19 rfl rfl)
theorem dX2_breakWord_66 : decode cX2_breakWord 66 = .ok (.if_icmp .ne 52, 3) := dk_160 0 52 (dk_at dksX2_breakWord_2 20 rfl rfl)
theorem dX2_breakWord_69 : decode cX2_breakWord 69 = .ok (.aload_n 0, 1) := dk_42 (dk_at dksX2_breakWord_2 23 rfl rfl)
theorem dX2_breakWord_70 : decode cX2_breakWord 70 = .ok (.getfield 42, 3) := dk_180 0 42 (dk_at dksX2_breakWord_3 0 rfl rfl)
theorem dX2_breakWord_73 : decode cX2_breakWord 73 = .ok (.iload 4, 2) := dk_21 4 (dk_at dksX2_breakWord_3 3 rfl rfl)
theorem dX2_breakWord_75 : decode cX2_breakWord 75 = .ok (.iaload, 1) := dk_46 (dk_at dksX2_breakWord_3 5 rfl rfl)
theorem dX2_breakWord_76 : decode cX2_breakWord 76 = .ok (.ifCond .eq 14, 3) := dk_153 0 14 (dk_at dksX2_breakWord_3 6 rfl rfl)
theorem dX2_breakWord_79 : decode cX2_breakWord 79 = .ok (.aload_n 0, 1) := dk_42 (dk_at dksX2_breakWord_3 9 rfl rfl)
theorem dX2_breakWord_80 : decode cX2_breakWord 80 = .ok (.getfield 42, 3) := dk_180 0 42 (dk_at dksX2_breakWord_3 10 rfl rfl)
theorem dX2_breakWord_83 : decode cX2_breakWord 83 = .ok (.iload 4, 2) := dk_21 4 (dk_at dksX2_breakWord_3 13 rfl rfl)
theorem dX2_breakWord_85 : decode cX2_breakWord 85 = .ok (.iaload, 1) := dk_46 (dk_at dksX2_breakWord_3 15 rfl rfl)
theorem dX2_breakWord_86 : decode cX2_breakWord 86 = .ok (.iconst 3, 1) := dk_6 (dk_at dksX2_breakWord_3 16 rfl rfl)
theorem dX2_breakWord_87 : decode cX2_breakWord 87 = .ok (.if_icmp .ne 31, 3) := dk_160 0 31 (dk_at dksX2_breakWord_3 17 rfl rfl)
theorem dX2_breakWord_90 : decode cX2_breakWord 90 = .ok (.aload_n 0, 1) := dk_42 (dk_at dksX2_breakWord_3 20 rfl rfl)
theorem dX2_breakWord_91 : decode cX2_breakWord 91 = .ok (.getfield 42, 3) := dk_180 0 42 (dk_at dksX2_breakWord_3 21 rfl rfl)
theorem dX2_breakWord_94 : decode cX2_breakWord 94 = .ok (.iload 4, 2) := dk_21 4 (dk_at dksX2_breakWord_4 0 rfl rfl)
theorem dX2_breakWord_96 : decode cX2_breakWord 96 = .ok (.iaload, 1) := dk_46 (dk_at dksX2_breakWord_4 2 rfl rfl)
theorem dX2_breakWord_97 : decode cX2_breakWord 97 = .ok (.ifCond .ne 10, 3) := dk_154 0 10 (dk_at dksX2_breakWord_4 3 rfl rfl)
theorem dX2_breakWord_100 : decode cX2_breakWord 100 = .ok (.aload_n 0, 1) := dk_42 (dk_at dksX2_breakWord_4 6 rfl rfl)
theorem dX2_breakWord_101 : decode cX2_breakWord 101 = .ok (.iload 4, 2) := dk_21 4 (dk_at dksX2_breakWord_4 7 rfl rfl)
theorem dX2_breakWord_103 : decode cX2_breakWord 103 = .ok (.iconst 0, 1) := dk_3 (dk_at dksX2_breakWord_4 9 rfl rfl)
theorem dX2_breakWord_104 : decode cX2_breakWord 104 = .ok (.invokevirtual 162, 3) := dk_182 0 162 (dk_at dksX2_breakWord_4 10 rfl rfl)
theorem dX2_breakWord_107 : decode cX2_breakWord 107 = .ok (.aload_n 0, 1) := dk_42 (dk_at dksX2_breakWord_4 13 rfl rfl)
theorem dX2_breakWord_108 : decode cX2_breakWord 108 = .ok (.getfield 42, 3) := dk_180 0 42 (dk_at dksX2_breakWord_4 14 rfl rfl)
theorem dX2_breakWord_111 : decode cX2_breakWord 111 = .ok (.iload 4, 2) := dk_21 4 (dk_at dksX2_breakWord_4 17 rfl rfl)
theorem dX2_breakWord_113 : decode cX2_breakWord 113 = .ok (.iconst 5, 1) := dk_8 (dk_at dksX2_breakWord_4 19 rfl rfl)
theorem dX2_breakWord_114 : decode cX2_breakWord 114 = .ok (.iastore, 1) := dk_79 (dk_at dksX2_breakWord_4 20 rfl rfl)
theorem dX2_breakWord_115 : decode cX2_breakWord 115 = .ok (.iinc 3 1, 3) := dk_132 3 1 (dk_at dksX2_breakWord_4 21 rfl rfl)
theorem dX2_breakWord_118 : decode cX2_breakWord 118 = .ok (.iinc 4 1, 3) := dk_132 4 1 (dk_at dksX2_breakWord_5 0 rfl rfl)
theorem dX2_breakWord_121 : decode cX2_breakWord 121 = .ok (.goto (-71), 3) := dk_167 255 185 (dk_at dksX2_breakWord_5 3 rfl rfl)
theorem dX2_breakWord_124 : decode cX2_breakWord 124 = .ok (.aload_n 0, 1) := dk_42 (dk_at dksX2_breakWord_5 6 rfl rfl)
theorem dX2_breakWord_125 : decode cX2_breakWord 125 = .ok (.iload_n 1, 1) := dk_27 (dk_at dksX2_breakWord_5 7 rfl rfl)
theorem dX2_breakWord_126 : decode cX2_breakWord 126 = .ok (.invokevirtual 191, 3) := dk_182 0 191 (dk_at dksX2_breakWord_5 8 rfl rfl)
theorem dX2_breakWord_129 : decode cX2_breakWord 129 = .ok (.iload_n 3, 1) := dk_29 (dk_at dksX2_breakWord_5 11 rfl rfl)
theorem dX2_breakWord_130 : decode cX2_breakWord 130 = .ok (.ireturn, 1) := dk_172 (dk_at dksX2_breakWord_5 12 rfl rfl)
abbrev cX2_firstOf : ByteArray := prog_11_method_21_code
def yX2_firstOf : MethodName := ⟨RX2, "firstOf", "(I)I"⟩
def dkwX2_firstOf_0 : List UInt8 := [42, 180, 0, 66, 16, 12, 27, 104, 46, 172]
abbrev dktX2_firstOf_0 : List UInt8 := dkwX2_firstOf_0 ++ []
theorem dksX2_firstOf_0 : cX2_firstOf.data.toList.drop 0 = dktX2_firstOf_0 := by decide +kernel
theorem dX2_firstOf_0 : decode cX2_firstOf 0 = .ok (.aload_n 0, 1) := dk_42 (dk_at dksX2_firstOf_0 0 rfl rfl)
theorem dX2_firstOf_1 : decode cX2_firstOf 1 = .ok (.getfield 66, 3) := dk_180 0 66 (dk_at dksX2_firstOf_0 1 rfl rfl)
theorem dX2_firstOf_4 : decode cX2_firstOf 4 = .ok (.bipush 12, 2) := dk_16 12 (dk_at dksX2_firstOf_0 4 rfl rfl)
theorem dX2_firstOf_6 : decode cX2_firstOf 6 = .ok (.iload_n 1, 1) := dk_27 (dk_at dksX2_firstOf_0 6 rfl rfl)
theorem dX2_firstOf_7 : decode cX2_firstOf 7 = .ok (.imul, 1) := dk_104 (dk_at dksX2_firstOf_0 7 rfl rfl)
theorem dX2_firstOf_8 : decode cX2_firstOf 8 = .ok (.iaload, 1) := dk_46 (dk_at dksX2_firstOf_0 8 rfl rfl)
theorem dX2_firstOf_9 : decode cX2_firstOf 9 = .ok (.ireturn, 1) := dk_172 (dk_at dksX2_firstOf_0 9 rfl rfl)
abbrev cX2_takeBack : ByteArray := prog_11_method_14_code
def yX2_takeBack : MethodName := ⟨RX2, "takeBack", "(II)V"⟩
def dkwX2_takeBack_1 : List UInt8 := [167, 255, 234, 177]
abbrev dktX2_takeBack_1 : List UInt8 := dkwX2_takeBack_1 ++ []
def dkwX2_takeBack_0 : List UInt8 := [28, 62, 29, 42, 180, 0, 63, 27, 46, 4, 100, 162, 0, 16, 42, 27, 29, 2, 182, 0, 139, 132, 3, 1]
abbrev dktX2_takeBack_0 : List UInt8 := dkwX2_takeBack_0 ++ dktX2_takeBack_1
theorem dksX2_takeBack_0 : cX2_takeBack.data.toList.drop 0 = dktX2_takeBack_0 := by decide +kernel
theorem dksX2_takeBack_1 : cX2_takeBack.data.toList.drop 24 = dktX2_takeBack_1 := dk_seg dksX2_takeBack_0 24 rfl rfl
theorem dX2_takeBack_0 : decode cX2_takeBack 0 = .ok (.iload_n 2, 1) := dk_28 (dk_at dksX2_takeBack_0 0 rfl rfl)
theorem dX2_takeBack_1 : decode cX2_takeBack 1 = .ok (.istore_n 3, 1) := dk_62 (dk_at dksX2_takeBack_0 1 rfl rfl)
theorem dX2_takeBack_2 : decode cX2_takeBack 2 = .ok (.iload_n 3, 1) := dk_29 (dk_at dksX2_takeBack_0 2 rfl rfl)
theorem dX2_takeBack_3 : decode cX2_takeBack 3 = .ok (.aload_n 0, 1) := dk_42 (dk_at dksX2_takeBack_0 3 rfl rfl)
theorem dX2_takeBack_4 : decode cX2_takeBack 4 = .ok (.getfield 63, 3) := dk_180 0 63 (dk_at dksX2_takeBack_0 4 rfl rfl)
theorem dX2_takeBack_7 : decode cX2_takeBack 7 = .ok (.iload_n 1, 1) := dk_27 (dk_at dksX2_takeBack_0 7 rfl rfl)
theorem dX2_takeBack_8 : decode cX2_takeBack 8 = .ok (.iaload, 1) := dk_46 (dk_at dksX2_takeBack_0 8 rfl rfl)
theorem dX2_takeBack_9 : decode cX2_takeBack 9 = .ok (.iconst 1, 1) := dk_4 (dk_at dksX2_takeBack_0 9 rfl rfl)
theorem dX2_takeBack_10 : decode cX2_takeBack 10 = .ok (.isub, 1) := dk_100 (dk_at dksX2_takeBack_0 10 rfl rfl)
theorem dX2_takeBack_11 : decode cX2_takeBack 11 = .ok (.if_icmp .ge 16, 3) := dk_162 0 16 (dk_at dksX2_takeBack_0 11 rfl rfl)
theorem dX2_takeBack_14 : decode cX2_takeBack 14 = .ok (.aload_n 0, 1) := dk_42 (dk_at dksX2_takeBack_0 14 rfl rfl)
theorem dX2_takeBack_15 : decode cX2_takeBack 15 = .ok (.iload_n 1, 1) := dk_27 (dk_at dksX2_takeBack_0 15 rfl rfl)
theorem dX2_takeBack_16 : decode cX2_takeBack 16 = .ok (.iload_n 3, 1) := dk_29 (dk_at dksX2_takeBack_0 16 rfl rfl)
theorem dX2_takeBack_17 : decode cX2_takeBack 17 = .ok (.iconst (-1), 1) := dk_2 (dk_at dksX2_takeBack_0 17 rfl rfl)
theorem dX2_takeBack_18 : decode cX2_takeBack 18 = .ok (.invokevirtual 139, 3) := dk_182 0 139 (dk_at dksX2_takeBack_0 18 rfl rfl)
theorem dX2_takeBack_21 : decode cX2_takeBack 21 = .ok (.iinc 3 1, 3) := dk_132 3 1 (dk_at dksX2_takeBack_0 21 rfl rfl)
theorem dX2_takeBack_24 : decode cX2_takeBack 24 = .ok (.goto (-22), 3) := dk_167 255 234 (dk_at dksX2_takeBack_1 0 rfl rfl)
theorem dX2_takeBack_27 : decode cX2_takeBack 27 = .ok (.return_, 1) := dk_177 (dk_at dksX2_takeBack_1 3 rfl rfl)
abbrev cX2_oweOn : ByteArray := prog_11_method_13_code
def yX2_oweOn : MethodName := ⟨RX2, "oweOn", "(III)V"⟩
def dkwX2_oweOn_4 : List UInt8 := [164, 0, 18, 42, 42, 180, 0, 39, 21, 5, 21, 4, 22, 6, 117, 182, 0, 135, 177]
abbrev dktX2_oweOn_4 : List UInt8 := dkwX2_oweOn_4 ++ []
def dkwX2_oweOn_3 : List UInt8 := [182, 0, 135, 42, 42, 180, 0, 39, 21, 4, 21, 5, 22, 6, 182, 0, 135, 42, 180, 0, 60, 27, 46, 28]
abbrev dktX2_oweOn_3 : List UInt8 := dkwX2_oweOn_3 ++ dktX2_oweOn_4
def dkwX2_oweOn_2 : List UInt8 := [180, 0, 36, 21, 4, 21, 5, 22, 6, 182, 0, 135, 42, 42, 180, 0, 36, 21, 5, 21, 4, 22, 6, 117]
abbrev dktX2_oweOn_2 : List UInt8 := dkwX2_oweOn_2 ++ dktX2_oweOn_3
def dkwX2_oweOn_1 : List UInt8 := [96, 46, 54, 5, 29, 133, 42, 180, 0, 69, 16, 12, 27, 104, 28, 96, 46, 133, 105, 55, 6, 42, 42]
abbrev dktX2_oweOn_1 : List UInt8 := dkwX2_oweOn_1 ++ dktX2_oweOn_2
def dkwX2_oweOn_0 : List UInt8 := [42, 180, 0, 66, 16, 12, 27, 104, 28, 96, 46, 54, 4, 42, 180, 0, 66, 16, 12, 27, 104, 28, 96, 4]
abbrev dktX2_oweOn_0 : List UInt8 := dkwX2_oweOn_0 ++ dktX2_oweOn_1
theorem dksX2_oweOn_0 : cX2_oweOn.data.toList.drop 0 = dktX2_oweOn_0 := by decide +kernel
theorem dksX2_oweOn_1 : cX2_oweOn.data.toList.drop 24 = dktX2_oweOn_1 := dk_seg dksX2_oweOn_0 24 rfl rfl
theorem dksX2_oweOn_2 : cX2_oweOn.data.toList.drop 47 = dktX2_oweOn_2 := dk_seg dksX2_oweOn_1 23 rfl rfl
theorem dksX2_oweOn_3 : cX2_oweOn.data.toList.drop 71 = dktX2_oweOn_3 := dk_seg dksX2_oweOn_2 24 rfl rfl
theorem dksX2_oweOn_4 : cX2_oweOn.data.toList.drop 95 = dktX2_oweOn_4 := dk_seg dksX2_oweOn_3 24 rfl rfl
theorem dX2_oweOn_0 : decode cX2_oweOn 0 = .ok (.aload_n 0, 1) := dk_42 (dk_at dksX2_oweOn_0 0 rfl rfl)
theorem dX2_oweOn_1 : decode cX2_oweOn 1 = .ok (.getfield 66, 3) := dk_180 0 66 (dk_at dksX2_oweOn_0 1 rfl rfl)
theorem dX2_oweOn_4 : decode cX2_oweOn 4 = .ok (.bipush 12, 2) := dk_16 12 (dk_at dksX2_oweOn_0 4 rfl rfl)
theorem dX2_oweOn_6 : decode cX2_oweOn 6 = .ok (.iload_n 1, 1) := dk_27 (dk_at dksX2_oweOn_0 6 rfl rfl)
theorem dX2_oweOn_7 : decode cX2_oweOn 7 = .ok (.imul, 1) := dk_104 (dk_at dksX2_oweOn_0 7 rfl rfl)
theorem dX2_oweOn_8 : decode cX2_oweOn 8 = .ok (.iload_n 2, 1) := dk_28 (dk_at dksX2_oweOn_0 8 rfl rfl)
theorem dX2_oweOn_9 : decode cX2_oweOn 9 = .ok (.iadd, 1) := dk_96 (dk_at dksX2_oweOn_0 9 rfl rfl)
theorem dX2_oweOn_10 : decode cX2_oweOn 10 = .ok (.iaload, 1) := dk_46 (dk_at dksX2_oweOn_0 10 rfl rfl)
theorem dX2_oweOn_11 : decode cX2_oweOn 11 = .ok (.istore 4, 2) := dk_54 4 (dk_at dksX2_oweOn_0 11 rfl rfl)
theorem dX2_oweOn_13 : decode cX2_oweOn 13 = .ok (.aload_n 0, 1) := dk_42 (dk_at dksX2_oweOn_0 13 rfl rfl)
theorem dX2_oweOn_14 : decode cX2_oweOn 14 = .ok (.getfield 66, 3) := dk_180 0 66 (dk_at dksX2_oweOn_0 14 rfl rfl)
theorem dX2_oweOn_17 : decode cX2_oweOn 17 = .ok (.bipush 12, 2) := dk_16 12 (dk_at dksX2_oweOn_0 17 rfl rfl)
theorem dX2_oweOn_19 : decode cX2_oweOn 19 = .ok (.iload_n 1, 1) := dk_27 (dk_at dksX2_oweOn_0 19 rfl rfl)
theorem dX2_oweOn_20 : decode cX2_oweOn 20 = .ok (.imul, 1) := dk_104 (dk_at dksX2_oweOn_0 20 rfl rfl)
theorem dX2_oweOn_21 : decode cX2_oweOn 21 = .ok (.iload_n 2, 1) := dk_28 (dk_at dksX2_oweOn_0 21 rfl rfl)
theorem dX2_oweOn_22 : decode cX2_oweOn 22 = .ok (.iadd, 1) := dk_96 (dk_at dksX2_oweOn_0 22 rfl rfl)
theorem dX2_oweOn_23 : decode cX2_oweOn 23 = .ok (.iconst 1, 1) := dk_4 (dk_at dksX2_oweOn_0 23 rfl rfl)
theorem dX2_oweOn_24 : decode cX2_oweOn 24 = .ok (.iadd, 1) := dk_96 (dk_at dksX2_oweOn_1 0 rfl rfl)
theorem dX2_oweOn_25 : decode cX2_oweOn 25 = .ok (.iaload, 1) := dk_46 (dk_at dksX2_oweOn_1 1 rfl rfl)
theorem dX2_oweOn_26 : decode cX2_oweOn 26 = .ok (.istore 5, 2) := dk_54 5 (dk_at dksX2_oweOn_1 2 rfl rfl)
theorem dX2_oweOn_28 : decode cX2_oweOn 28 = .ok (.iload_n 3, 1) := dk_29 (dk_at dksX2_oweOn_1 4 rfl rfl)
theorem dX2_oweOn_29 : decode cX2_oweOn 29 = .ok (.i2l, 1) := dk_133 (dk_at dksX2_oweOn_1 5 rfl rfl)
theorem dX2_oweOn_30 : decode cX2_oweOn 30 = .ok (.aload_n 0, 1) := dk_42 (dk_at dksX2_oweOn_1 6 rfl rfl)
theorem dX2_oweOn_31 : decode cX2_oweOn 31 = .ok (.getfield 69, 3) := dk_180 0 69 (dk_at dksX2_oweOn_1 7 rfl rfl)
theorem dX2_oweOn_34 : decode cX2_oweOn 34 = .ok (.bipush 12, 2) := dk_16 12 (dk_at dksX2_oweOn_1 10 rfl rfl)
theorem dX2_oweOn_36 : decode cX2_oweOn 36 = .ok (.iload_n 1, 1) := dk_27 (dk_at dksX2_oweOn_1 12 rfl rfl)
theorem dX2_oweOn_37 : decode cX2_oweOn 37 = .ok (.imul, 1) := dk_104 (dk_at dksX2_oweOn_1 13 rfl rfl)
theorem dX2_oweOn_38 : decode cX2_oweOn 38 = .ok (.iload_n 2, 1) := dk_28 (dk_at dksX2_oweOn_1 14 rfl rfl)
theorem dX2_oweOn_39 : decode cX2_oweOn 39 = .ok (.iadd, 1) := dk_96 (dk_at dksX2_oweOn_1 15 rfl rfl)
theorem dX2_oweOn_40 : decode cX2_oweOn 40 = .ok (.iaload, 1) := dk_46 (dk_at dksX2_oweOn_1 16 rfl rfl)
theorem dX2_oweOn_41 : decode cX2_oweOn 41 = .ok (.i2l, 1) := dk_133 (dk_at dksX2_oweOn_1 17 rfl rfl)
theorem dX2_oweOn_42 : decode cX2_oweOn 42 = .ok (.lmul, 1) := dk_105 (dk_at dksX2_oweOn_1 18 rfl rfl)
theorem dX2_oweOn_43 : decode cX2_oweOn 43 = .ok (.lstore 6, 2) := dk_55 6 (dk_at dksX2_oweOn_1 19 rfl rfl)
theorem dX2_oweOn_45 : decode cX2_oweOn 45 = .ok (.aload_n 0, 1) := dk_42 (dk_at dksX2_oweOn_1 21 rfl rfl)
theorem dX2_oweOn_46 : decode cX2_oweOn 46 = .ok (.aload_n 0, 1) := dk_42 (dk_at dksX2_oweOn_1 22 rfl rfl)
theorem dX2_oweOn_47 : decode cX2_oweOn 47 = .ok (.getfield 36, 3) := dk_180 0 36 (dk_at dksX2_oweOn_2 0 rfl rfl)
theorem dX2_oweOn_50 : decode cX2_oweOn 50 = .ok (.iload 4, 2) := dk_21 4 (dk_at dksX2_oweOn_2 3 rfl rfl)
theorem dX2_oweOn_52 : decode cX2_oweOn 52 = .ok (.iload 5, 2) := dk_21 5 (dk_at dksX2_oweOn_2 5 rfl rfl)
theorem dX2_oweOn_54 : decode cX2_oweOn 54 = .ok (.lload 6, 2) := dk_22 6 (dk_at dksX2_oweOn_2 7 rfl rfl)
theorem dX2_oweOn_56 : decode cX2_oweOn 56 = .ok (.invokevirtual 135, 3) := dk_182 0 135 (dk_at dksX2_oweOn_2 9 rfl rfl)
theorem dX2_oweOn_59 : decode cX2_oweOn 59 = .ok (.aload_n 0, 1) := dk_42 (dk_at dksX2_oweOn_2 12 rfl rfl)
theorem dX2_oweOn_60 : decode cX2_oweOn 60 = .ok (.aload_n 0, 1) := dk_42 (dk_at dksX2_oweOn_2 13 rfl rfl)
theorem dX2_oweOn_61 : decode cX2_oweOn 61 = .ok (.getfield 36, 3) := dk_180 0 36 (dk_at dksX2_oweOn_2 14 rfl rfl)
theorem dX2_oweOn_64 : decode cX2_oweOn 64 = .ok (.iload 5, 2) := dk_21 5 (dk_at dksX2_oweOn_2 17 rfl rfl)
theorem dX2_oweOn_66 : decode cX2_oweOn 66 = .ok (.iload 4, 2) := dk_21 4 (dk_at dksX2_oweOn_2 19 rfl rfl)
theorem dX2_oweOn_68 : decode cX2_oweOn 68 = .ok (.lload 6, 2) := dk_22 6 (dk_at dksX2_oweOn_2 21 rfl rfl)
theorem dX2_oweOn_70 : decode cX2_oweOn 70 = .ok (.lneg, 1) := dk_117 (dk_at dksX2_oweOn_2 23 rfl rfl)
theorem dX2_oweOn_71 : decode cX2_oweOn 71 = .ok (.invokevirtual 135, 3) := dk_182 0 135 (dk_at dksX2_oweOn_3 0 rfl rfl)
theorem dX2_oweOn_74 : decode cX2_oweOn 74 = .ok (.aload_n 0, 1) := dk_42 (dk_at dksX2_oweOn_3 3 rfl rfl)
theorem dX2_oweOn_75 : decode cX2_oweOn 75 = .ok (.aload_n 0, 1) := dk_42 (dk_at dksX2_oweOn_3 4 rfl rfl)
theorem dX2_oweOn_76 : decode cX2_oweOn 76 = .ok (.getfield 39, 3) := dk_180 0 39 (dk_at dksX2_oweOn_3 5 rfl rfl)
theorem dX2_oweOn_79 : decode cX2_oweOn 79 = .ok (.iload 4, 2) := dk_21 4 (dk_at dksX2_oweOn_3 8 rfl rfl)
theorem dX2_oweOn_81 : decode cX2_oweOn 81 = .ok (.iload 5, 2) := dk_21 5 (dk_at dksX2_oweOn_3 10 rfl rfl)
theorem dX2_oweOn_83 : decode cX2_oweOn 83 = .ok (.lload 6, 2) := dk_22 6 (dk_at dksX2_oweOn_3 12 rfl rfl)
theorem dX2_oweOn_85 : decode cX2_oweOn 85 = .ok (.invokevirtual 135, 3) := dk_182 0 135 (dk_at dksX2_oweOn_3 14 rfl rfl)
theorem dX2_oweOn_88 : decode cX2_oweOn 88 = .ok (.aload_n 0, 1) := dk_42 (dk_at dksX2_oweOn_3 17 rfl rfl)
theorem dX2_oweOn_89 : decode cX2_oweOn 89 = .ok (.getfield 60, 3) := dk_180 0 60 (dk_at dksX2_oweOn_3 18 rfl rfl)
theorem dX2_oweOn_92 : decode cX2_oweOn 92 = .ok (.iload_n 1, 1) := dk_27 (dk_at dksX2_oweOn_3 21 rfl rfl)
theorem dX2_oweOn_93 : decode cX2_oweOn 93 = .ok (.iaload, 1) := dk_46 (dk_at dksX2_oweOn_3 22 rfl rfl)
theorem dX2_oweOn_94 : decode cX2_oweOn 94 = .ok (.iload_n 2, 1) := dk_28 (dk_at dksX2_oweOn_3 23 rfl rfl)
theorem dX2_oweOn_95 : decode cX2_oweOn 95 = .ok (.if_icmp .le 18, 3) := dk_164 0 18 (dk_at dksX2_oweOn_4 0 rfl rfl)
theorem dX2_oweOn_98 : decode cX2_oweOn 98 = .ok (.aload_n 0, 1) := dk_42 (dk_at dksX2_oweOn_4 3 rfl rfl)
theorem dX2_oweOn_99 : decode cX2_oweOn 99 = .ok (.aload_n 0, 1) := dk_42 (dk_at dksX2_oweOn_4 4 rfl rfl)
theorem dX2_oweOn_100 : decode cX2_oweOn 100 = .ok (.getfield 39, 3) := dk_180 0 39 (dk_at dksX2_oweOn_4 5 rfl rfl)
theorem dX2_oweOn_103 : decode cX2_oweOn 103 = .ok (.iload 5, 2) := dk_21 5 (dk_at dksX2_oweOn_4 8 rfl rfl)
theorem dX2_oweOn_105 : decode cX2_oweOn 105 = .ok (.iload 4, 2) := dk_21 4 (dk_at dksX2_oweOn_4 10 rfl rfl)
theorem dX2_oweOn_107 : decode cX2_oweOn 107 = .ok (.lload 6, 2) := dk_22 6 (dk_at dksX2_oweOn_4 12 rfl rfl)
theorem dX2_oweOn_109 : decode cX2_oweOn 109 = .ok (.lneg, 1) := dk_117 (dk_at dksX2_oweOn_4 14 rfl rfl)
theorem dX2_oweOn_110 : decode cX2_oweOn 110 = .ok (.invokevirtual 135, 3) := dk_182 0 135 (dk_at dksX2_oweOn_4 15 rfl rfl)
theorem dX2_oweOn_113 : decode cX2_oweOn 113 = .ok (.return_, 1) := dk_177 (dk_at dksX2_oweOn_4 18 rfl rfl)
abbrev cX2_owe : ByteArray := prog_11_method_11_code
def yX2_owe : MethodName := ⟨RX2, "owe", "([JIIJ)V"⟩
def dkwX2_owe_0 : List UInt8 := [43, 16, 12, 28, 104, 29, 96, 92, 47, 22, 4, 97, 80, 177]
abbrev dktX2_owe_0 : List UInt8 := dkwX2_owe_0 ++ []
theorem dksX2_owe_0 : cX2_owe.data.toList.drop 0 = dktX2_owe_0 := by decide +kernel
theorem dX2_owe_0 : decode cX2_owe 0 = .ok (.aload_n 1, 1) := dk_43 (dk_at dksX2_owe_0 0 rfl rfl)
theorem dX2_owe_1 : decode cX2_owe 1 = .ok (.bipush 12, 2) := dk_16 12 (dk_at dksX2_owe_0 1 rfl rfl)
theorem dX2_owe_3 : decode cX2_owe 3 = .ok (.iload_n 2, 1) := dk_28 (dk_at dksX2_owe_0 3 rfl rfl)
theorem dX2_owe_4 : decode cX2_owe 4 = .ok (.imul, 1) := dk_104 (dk_at dksX2_owe_0 4 rfl rfl)
theorem dX2_owe_5 : decode cX2_owe 5 = .ok (.iload_n 3, 1) := dk_29 (dk_at dksX2_owe_0 5 rfl rfl)
theorem dX2_owe_6 : decode cX2_owe 6 = .ok (.iadd, 1) := dk_96 (dk_at dksX2_owe_0 6 rfl rfl)
theorem dX2_owe_7 : decode cX2_owe 7 = .ok (.dup2, 1) := dk_92 (dk_at dksX2_owe_0 7 rfl rfl)
theorem dX2_owe_8 : decode cX2_owe 8 = .ok (.laload, 1) := dk_47 (dk_at dksX2_owe_0 8 rfl rfl)
theorem dX2_owe_9 : decode cX2_owe 9 = .ok (.lload 4, 2) := dk_22 4 (dk_at dksX2_owe_0 9 rfl rfl)
theorem dX2_owe_11 : decode cX2_owe 11 = .ok (.ladd, 1) := dk_97 (dk_at dksX2_owe_0 11 rfl rfl)
theorem dX2_owe_12 : decode cX2_owe 12 = .ok (.lastore, 1) := dk_80 (dk_at dksX2_owe_0 12 rfl rfl)
theorem dX2_owe_13 : decode cX2_owe 13 = .ok (.return_, 1) := dk_177 (dk_at dksX2_owe_0 13 rfl rfl)
abbrev cX2_failsFor : ByteArray := prog_11_method_25_code
def yX2_failsFor : MethodName := ⟨RX2, "failsFor", "(I)V"⟩
def dkwX2_failsFor_1 : List UInt8 := [182, 0, 184, 42, 180, 0, 60, 28, 46, 164, 0, 8, 42, 28, 182, 0, 188, 132, 2, 1, 167, 255, 216, 177]
abbrev dktX2_failsFor_1 : List UInt8 := dkwX2_failsFor_1 ++ []
def dkwX2_failsFor_0 : List UInt8 := [3, 61, 28, 42, 180, 0, 181, 162, 0, 38, 42, 180, 0, 42, 28, 46, 154, 0, 23, 42, 28, 27]
abbrev dktX2_failsFor_0 : List UInt8 := dkwX2_failsFor_0 ++ dktX2_failsFor_1
theorem dksX2_failsFor_0 : cX2_failsFor.data.toList.drop 0 = dktX2_failsFor_0 := by decide +kernel
theorem dksX2_failsFor_1 : cX2_failsFor.data.toList.drop 22 = dktX2_failsFor_1 := dk_seg dksX2_failsFor_0 22 rfl rfl
theorem dX2_failsFor_0 : decode cX2_failsFor 0 = .ok (.iconst 0, 1) := dk_3 (dk_at dksX2_failsFor_0 0 rfl rfl)
theorem dX2_failsFor_1 : decode cX2_failsFor 1 = .ok (.istore_n 2, 1) := dk_61 (dk_at dksX2_failsFor_0 1 rfl rfl)
theorem dX2_failsFor_2 : decode cX2_failsFor 2 = .ok (.iload_n 2, 1) := dk_28 (dk_at dksX2_failsFor_0 2 rfl rfl)
theorem dX2_failsFor_3 : decode cX2_failsFor 3 = .ok (.aload_n 0, 1) := dk_42 (dk_at dksX2_failsFor_0 3 rfl rfl)
theorem dX2_failsFor_4 : decode cX2_failsFor 4 = .ok (.getfield 181, 3) := dk_180 0 181 (dk_at dksX2_failsFor_0 4 rfl rfl)
theorem dX2_failsFor_7 : decode cX2_failsFor 7 = .ok (.if_icmp .ge 38, 3) := dk_162 0 38 (dk_at dksX2_failsFor_0 7 rfl rfl)
theorem dX2_failsFor_10 : decode cX2_failsFor 10 = .ok (.aload_n 0, 1) := dk_42 (dk_at dksX2_failsFor_0 10 rfl rfl)
theorem dX2_failsFor_11 : decode cX2_failsFor 11 = .ok (.getfield 42, 3) := dk_180 0 42 (dk_at dksX2_failsFor_0 11 rfl rfl)
theorem dX2_failsFor_14 : decode cX2_failsFor 14 = .ok (.iload_n 2, 1) := dk_28 (dk_at dksX2_failsFor_0 14 rfl rfl)
theorem dX2_failsFor_15 : decode cX2_failsFor 15 = .ok (.iaload, 1) := dk_46 (dk_at dksX2_failsFor_0 15 rfl rfl)
theorem dX2_failsFor_16 : decode cX2_failsFor 16 = .ok (.ifCond .ne 23, 3) := dk_154 0 23 (dk_at dksX2_failsFor_0 16 rfl rfl)
theorem dX2_failsFor_19 : decode cX2_failsFor 19 = .ok (.aload_n 0, 1) := dk_42 (dk_at dksX2_failsFor_0 19 rfl rfl)
theorem dX2_failsFor_20 : decode cX2_failsFor 20 = .ok (.iload_n 2, 1) := dk_28 (dk_at dksX2_failsFor_0 20 rfl rfl)
theorem dX2_failsFor_21 : decode cX2_failsFor 21 = .ok (.iload_n 1, 1) := dk_27 (dk_at dksX2_failsFor_0 21 rfl rfl)
theorem dX2_failsFor_22 : decode cX2_failsFor 22 = .ok (.invokevirtual 184, 3) := dk_182 0 184 (dk_at dksX2_failsFor_1 0 rfl rfl)
theorem dX2_failsFor_25 : decode cX2_failsFor 25 = .ok (.aload_n 0, 1) := dk_42 (dk_at dksX2_failsFor_1 3 rfl rfl)
theorem dX2_failsFor_26 : decode cX2_failsFor 26 = .ok (.getfield 60, 3) := dk_180 0 60 (dk_at dksX2_failsFor_1 4 rfl rfl)
theorem dX2_failsFor_29 : decode cX2_failsFor 29 = .ok (.iload_n 2, 1) := dk_28 (dk_at dksX2_failsFor_1 7 rfl rfl)
theorem dX2_failsFor_30 : decode cX2_failsFor 30 = .ok (.iaload, 1) := dk_46 (dk_at dksX2_failsFor_1 8 rfl rfl)
theorem dX2_failsFor_31 : decode cX2_failsFor 31 = .ok (.if_icmp .le 8, 3) := dk_164 0 8 (dk_at dksX2_failsFor_1 9 rfl rfl)
theorem dX2_failsFor_34 : decode cX2_failsFor 34 = .ok (.aload_n 0, 1) := dk_42 (dk_at dksX2_failsFor_1 12 rfl rfl)
theorem dX2_failsFor_35 : decode cX2_failsFor 35 = .ok (.iload_n 2, 1) := dk_28 (dk_at dksX2_failsFor_1 13 rfl rfl)
theorem dX2_failsFor_36 : decode cX2_failsFor 36 = .ok (.invokevirtual 188, 3) := dk_182 0 188 (dk_at dksX2_failsFor_1 14 rfl rfl)
theorem dX2_failsFor_39 : decode cX2_failsFor 39 = .ok (.iinc 2 1, 3) := dk_132 2 1 (dk_at dksX2_failsFor_1 17 rfl rfl)
theorem dX2_failsFor_42 : decode cX2_failsFor 42 = .ok (.goto (-40), 3) := dk_167 255 216 (dk_at dksX2_failsFor_1 20 rfl rfl)
theorem dX2_failsFor_45 : decode cX2_failsFor 45 = .ok (.return_, 1) := dk_177 (dk_at dksX2_failsFor_1 23 rfl rfl)
abbrev cX2_placeOn : ByteArray := prog_11_method_23_code
def yX2_placeOn : MethodName := ⟨RX2, "placeOn", "(II)I"⟩
def dkwX2_placeOn_1 : List UInt8 := [21, 4, 96, 46, 28, 160, 0, 8, 21, 4, 167, 0, 4, 29, 62, 132, 4, 1, 167, 255, 219, 29, 172]
abbrev dktX2_placeOn_1 : List UInt8 := dkwX2_placeOn_1 ++ []
def dkwX2_placeOn_0 : List UInt8 := [2, 62, 3, 54, 4, 21, 4, 42, 180, 0, 63, 27, 46, 162, 0, 32, 42, 180, 0, 66, 16, 12, 27, 104]
abbrev dktX2_placeOn_0 : List UInt8 := dkwX2_placeOn_0 ++ dktX2_placeOn_1
theorem dksX2_placeOn_0 : cX2_placeOn.data.toList.drop 0 = dktX2_placeOn_0 := by decide +kernel
theorem dksX2_placeOn_1 : cX2_placeOn.data.toList.drop 24 = dktX2_placeOn_1 := dk_seg dksX2_placeOn_0 24 rfl rfl
theorem dX2_placeOn_0 : decode cX2_placeOn 0 = .ok (.iconst (-1), 1) := dk_2 (dk_at dksX2_placeOn_0 0 rfl rfl)
theorem dX2_placeOn_1 : decode cX2_placeOn 1 = .ok (.istore_n 3, 1) := dk_62 (dk_at dksX2_placeOn_0 1 rfl rfl)
theorem dX2_placeOn_2 : decode cX2_placeOn 2 = .ok (.iconst 0, 1) := dk_3 (dk_at dksX2_placeOn_0 2 rfl rfl)
theorem dX2_placeOn_3 : decode cX2_placeOn 3 = .ok (.istore 4, 2) := dk_54 4 (dk_at dksX2_placeOn_0 3 rfl rfl)
theorem dX2_placeOn_5 : decode cX2_placeOn 5 = .ok (.iload 4, 2) := dk_21 4 (dk_at dksX2_placeOn_0 5 rfl rfl)
theorem dX2_placeOn_7 : decode cX2_placeOn 7 = .ok (.aload_n 0, 1) := dk_42 (dk_at dksX2_placeOn_0 7 rfl rfl)
theorem dX2_placeOn_8 : decode cX2_placeOn 8 = .ok (.getfield 63, 3) := dk_180 0 63 (dk_at dksX2_placeOn_0 8 rfl rfl)
theorem dX2_placeOn_11 : decode cX2_placeOn 11 = .ok (.iload_n 1, 1) := dk_27 (dk_at dksX2_placeOn_0 11 rfl rfl)
theorem dX2_placeOn_12 : decode cX2_placeOn 12 = .ok (.iaload, 1) := dk_46 (dk_at dksX2_placeOn_0 12 rfl rfl)
theorem dX2_placeOn_13 : decode cX2_placeOn 13 = .ok (.if_icmp .ge 32, 3) := dk_162 0 32 (dk_at dksX2_placeOn_0 13 rfl rfl)
theorem dX2_placeOn_16 : decode cX2_placeOn 16 = .ok (.aload_n 0, 1) := dk_42 (dk_at dksX2_placeOn_0 16 rfl rfl)
theorem dX2_placeOn_17 : decode cX2_placeOn 17 = .ok (.getfield 66, 3) := dk_180 0 66 (dk_at dksX2_placeOn_0 17 rfl rfl)
theorem dX2_placeOn_20 : decode cX2_placeOn 20 = .ok (.bipush 12, 2) := dk_16 12 (dk_at dksX2_placeOn_0 20 rfl rfl)
theorem dX2_placeOn_22 : decode cX2_placeOn 22 = .ok (.iload_n 1, 1) := dk_27 (dk_at dksX2_placeOn_0 22 rfl rfl)
theorem dX2_placeOn_23 : decode cX2_placeOn 23 = .ok (.imul, 1) := dk_104 (dk_at dksX2_placeOn_0 23 rfl rfl)
theorem dX2_placeOn_24 : decode cX2_placeOn 24 = .ok (.iload 4, 2) := dk_21 4 (dk_at dksX2_placeOn_1 0 rfl rfl)
theorem dX2_placeOn_26 : decode cX2_placeOn 26 = .ok (.iadd, 1) := dk_96 (dk_at dksX2_placeOn_1 2 rfl rfl)
theorem dX2_placeOn_27 : decode cX2_placeOn 27 = .ok (.iaload, 1) := dk_46 (dk_at dksX2_placeOn_1 3 rfl rfl)
theorem dX2_placeOn_28 : decode cX2_placeOn 28 = .ok (.iload_n 2, 1) := dk_28 (dk_at dksX2_placeOn_1 4 rfl rfl)
theorem dX2_placeOn_29 : decode cX2_placeOn 29 = .ok (.if_icmp .ne 8, 3) := dk_160 0 8 (dk_at dksX2_placeOn_1 5 rfl rfl)
theorem dX2_placeOn_32 : decode cX2_placeOn 32 = .ok (.iload 4, 2) := dk_21 4 (dk_at dksX2_placeOn_1 8 rfl rfl)
theorem dX2_placeOn_34 : decode cX2_placeOn 34 = .ok (.goto 4, 3) := dk_167 0 4 (dk_at dksX2_placeOn_1 10 rfl rfl)
theorem dX2_placeOn_37 : decode cX2_placeOn 37 = .ok (.iload_n 3, 1) := dk_29 (dk_at dksX2_placeOn_1 13 rfl rfl)
theorem dX2_placeOn_38 : decode cX2_placeOn 38 = .ok (.istore_n 3, 1) := dk_62 (dk_at dksX2_placeOn_1 14 rfl rfl)
theorem dX2_placeOn_39 : decode cX2_placeOn 39 = .ok (.iinc 4 1, 3) := dk_132 4 1 (dk_at dksX2_placeOn_1 15 rfl rfl)
theorem dX2_placeOn_42 : decode cX2_placeOn 42 = .ok (.goto (-37), 3) := dk_167 255 219 (dk_at dksX2_placeOn_1 18 rfl rfl)
theorem dX2_placeOn_45 : decode cX2_placeOn 45 = .ok (.iload_n 3, 1) := dk_29 (dk_at dksX2_placeOn_1 21 rfl rfl)
theorem dX2_placeOn_46 : decode cX2_placeOn 46 = .ok (.ireturn, 1) := dk_172 (dk_at dksX2_placeOn_1 22 rfl rfl)
abbrev cX2_goElsewhere : ByteArray := prog_11_method_24_code
def yX2_goElsewhere : MethodName := ⟨RX2, "goElsewhere", "(I)V"⟩
def dkwX2_goElsewhere_7 : List UInt8 := [28, 4, 96, 79, 42, 27, 182, 0, 177, 42, 180, 0, 63, 27, 21, 9, 79, 177]
abbrev dktX2_goElsewhere_7 : List UInt8 := dkwX2_goElsewhere_7 ++ []
def dkwX2_goElsewhere_6 : List UInt8 := [42, 27, 28, 21, 8, 182, 0, 174, 167, 0, 33, 42, 180, 0, 63, 27, 46, 54, 9, 42, 180, 0, 63, 27]
abbrev dktX2_goElsewhere_6 : List UInt8 := dkwX2_goElsewhere_6 ++ dktX2_goElsewhere_7
def dkwX2_goElsewhere_5 : List UInt8 := [54, 8, 21, 8, 158, 0, 31, 42, 180, 0, 100, 42, 180, 0, 106, 4, 46, 47, 22, 6, 148, 157, 0, 14]
abbrev dktX2_goElsewhere_5 : List UInt8 := dkwX2_goElsewhere_5 ++ dktX2_goElsewhere_6
def dkwX2_goElsewhere_4 : List UInt8 := [133, 55, 6, 42, 27, 28, 182, 0, 162, 42, 29, 21, 4, 42, 180, 0, 45, 27, 46, 21, 5, 182, 0, 170]
abbrev dktX2_goElsewhere_4 : List UInt8 := dkwX2_goElsewhere_4 ++ dktX2_goElsewhere_5
def dkwX2_goElsewhere_3 : List UInt8 := [132, 6, 1, 167, 255, 228, 42, 180, 0, 69, 16, 12, 27, 104, 28, 96, 46, 42, 180, 0, 45, 27, 46, 100]
abbrev dktX2_goElsewhere_3 : List UInt8 := dkwX2_goElsewhere_3 ++ dktX2_goElsewhere_4
def dkwX2_goElsewhere_2 : List UInt8 := [28, 162, 0, 28, 21, 5, 4, 42, 180, 0, 66, 16, 12, 27, 104, 21, 6, 96, 46, 120, 128, 54, 5]
abbrev dktX2_goElsewhere_2 : List UInt8 := dkwX2_goElsewhere_2 ++ dktX2_goElsewhere_3
def dkwX2_goElsewhere_1 : List UInt8 := [16, 12, 27, 104, 42, 180, 0, 63, 27, 46, 96, 4, 100, 46, 54, 4, 3, 54, 5, 3, 54, 6, 21, 6]
abbrev dktX2_goElsewhere_1 : List UInt8 := dkwX2_goElsewhere_1 ++ dktX2_goElsewhere_2
def dkwX2_goElsewhere_0 : List UInt8 := [42, 180, 0, 60, 27, 46, 61, 42, 180, 0, 66, 16, 12, 27, 104, 28, 96, 46, 62, 42, 180, 0, 66]
abbrev dktX2_goElsewhere_0 : List UInt8 := dkwX2_goElsewhere_0 ++ dktX2_goElsewhere_1
theorem dksX2_goElsewhere_0 : cX2_goElsewhere.data.toList.drop 0 = dktX2_goElsewhere_0 := by decide +kernel
theorem dksX2_goElsewhere_1 : cX2_goElsewhere.data.toList.drop 23 = dktX2_goElsewhere_1 := dk_seg dksX2_goElsewhere_0 23 rfl rfl
theorem dksX2_goElsewhere_2 : cX2_goElsewhere.data.toList.drop 47 = dktX2_goElsewhere_2 := dk_seg dksX2_goElsewhere_1 24 rfl rfl
theorem dksX2_goElsewhere_3 : cX2_goElsewhere.data.toList.drop 70 = dktX2_goElsewhere_3 := dk_seg dksX2_goElsewhere_2 23 rfl rfl
theorem dksX2_goElsewhere_4 : cX2_goElsewhere.data.toList.drop 94 = dktX2_goElsewhere_4 := dk_seg dksX2_goElsewhere_3 24 rfl rfl
theorem dksX2_goElsewhere_5 : cX2_goElsewhere.data.toList.drop 118 = dktX2_goElsewhere_5 := dk_seg dksX2_goElsewhere_4 24 rfl rfl
theorem dksX2_goElsewhere_6 : cX2_goElsewhere.data.toList.drop 142 = dktX2_goElsewhere_6 := dk_seg dksX2_goElsewhere_5 24 rfl rfl
theorem dksX2_goElsewhere_7 : cX2_goElsewhere.data.toList.drop 166 = dktX2_goElsewhere_7 := dk_seg dksX2_goElsewhere_6 24 rfl rfl
theorem dX2_goElsewhere_0 : decode cX2_goElsewhere 0 = .ok (.aload_n 0, 1) := dk_42 (dk_at dksX2_goElsewhere_0 0 rfl rfl)
theorem dX2_goElsewhere_1 : decode cX2_goElsewhere 1 = .ok (.getfield 60, 3) := dk_180 0 60 (dk_at dksX2_goElsewhere_0 1 rfl rfl)
theorem dX2_goElsewhere_4 : decode cX2_goElsewhere 4 = .ok (.iload_n 1, 1) := dk_27 (dk_at dksX2_goElsewhere_0 4 rfl rfl)
theorem dX2_goElsewhere_5 : decode cX2_goElsewhere 5 = .ok (.iaload, 1) := dk_46 (dk_at dksX2_goElsewhere_0 5 rfl rfl)
theorem dX2_goElsewhere_6 : decode cX2_goElsewhere 6 = .ok (.istore_n 2, 1) := dk_61 (dk_at dksX2_goElsewhere_0 6 rfl rfl)
theorem dX2_goElsewhere_7 : decode cX2_goElsewhere 7 = .ok (.aload_n 0, 1) := dk_42 (dk_at dksX2_goElsewhere_0 7 rfl rfl)
theorem dX2_goElsewhere_8 : decode cX2_goElsewhere 8 = .ok (.getfield 66, 3) := dk_180 0 66 (dk_at dksX2_goElsewhere_0 8 rfl rfl)
theorem dX2_goElsewhere_11 : decode cX2_goElsewhere 11 = .ok (.bipush 12, 2) := dk_16 12 (dk_at dksX2_goElsewhere_0 11 rfl rfl)
theorem dX2_goElsewhere_13 : decode cX2_goElsewhere 13 = .ok (.iload_n 1, 1) := dk_27 (dk_at dksX2_goElsewhere_0 13 rfl rfl)
theorem dX2_goElsewhere_14 : decode cX2_goElsewhere 14 = .ok (.imul, 1) := dk_104 (dk_at dksX2_goElsewhere_0 14 rfl rfl)
theorem dX2_goElsewhere_15 : decode cX2_goElsewhere 15 = .ok (.iload_n 2, 1) := dk_28 (dk_at dksX2_goElsewhere_0 15 rfl rfl)
theorem dX2_goElsewhere_16 : decode cX2_goElsewhere 16 = .ok (.iadd, 1) := dk_96 (dk_at dksX2_goElsewhere_0 16 rfl rfl)
theorem dX2_goElsewhere_17 : decode cX2_goElsewhere 17 = .ok (.iaload, 1) := dk_46 (dk_at dksX2_goElsewhere_0 17 rfl rfl)
theorem dX2_goElsewhere_18 : decode cX2_goElsewhere 18 = .ok (.istore_n 3, 1) := dk_62 (dk_at dksX2_goElsewhere_0 18 rfl rfl)
theorem dX2_goElsewhere_19 : decode cX2_goElsewhere 19 = .ok (.aload_n 0, 1) := dk_42 (dk_at dksX2_goElsewhere_0 19 rfl rfl)
theorem dX2_goElsewhere_20 : decode cX2_goElsewhere 20 = .ok (.getfield 66, 3) := dk_180 0 66 (dk_at dksX2_goElsewhere_0 20 rfl rfl)
theorem dX2_goElsewhere_23 : decode cX2_goElsewhere 23 = .ok (.bipush 12, 2) := dk_16 12 (dk_at dksX2_goElsewhere_1 0 rfl rfl)
theorem dX2_goElsewhere_25 : decode cX2_goElsewhere 25 = .ok (.iload_n 1, 1) := dk_27 (dk_at dksX2_goElsewhere_1 2 rfl rfl)
theorem dX2_goElsewhere_26 : decode cX2_goElsewhere 26 = .ok (.imul, 1) := dk_104 (dk_at dksX2_goElsewhere_1 3 rfl rfl)
theorem dX2_goElsewhere_27 : decode cX2_goElsewhere 27 = .ok (.aload_n 0, 1) := dk_42 (dk_at dksX2_goElsewhere_1 4 rfl rfl)
theorem dX2_goElsewhere_28 : decode cX2_goElsewhere 28 = .ok (.getfield 63, 3) := dk_180 0 63 (dk_at dksX2_goElsewhere_1 5 rfl rfl)
theorem dX2_goElsewhere_31 : decode cX2_goElsewhere 31 = .ok (.iload_n 1, 1) := dk_27 (dk_at dksX2_goElsewhere_1 8 rfl rfl)
theorem dX2_goElsewhere_32 : decode cX2_goElsewhere 32 = .ok (.iaload, 1) := dk_46 (dk_at dksX2_goElsewhere_1 9 rfl rfl)
theorem dX2_goElsewhere_33 : decode cX2_goElsewhere 33 = .ok (.iadd, 1) := dk_96 (dk_at dksX2_goElsewhere_1 10 rfl rfl)
theorem dX2_goElsewhere_34 : decode cX2_goElsewhere 34 = .ok (.iconst 1, 1) := dk_4 (dk_at dksX2_goElsewhere_1 11 rfl rfl)
theorem dX2_goElsewhere_35 : decode cX2_goElsewhere 35 = .ok (.isub, 1) := dk_100 (dk_at dksX2_goElsewhere_1 12 rfl rfl)
theorem dX2_goElsewhere_36 : decode cX2_goElsewhere 36 = .ok (.iaload, 1) := dk_46 (dk_at dksX2_goElsewhere_1 13 rfl rfl)
theorem dX2_goElsewhere_37 : decode cX2_goElsewhere 37 = .ok (.istore 4, 2) := dk_54 4 (dk_at dksX2_goElsewhere_1 14 rfl rfl)
theorem dX2_goElsewhere_39 : decode cX2_goElsewhere 39 = .ok (.iconst 0, 1) := dk_3 (dk_at dksX2_goElsewhere_1 16 rfl rfl)
theorem dX2_goElsewhere_40 : decode cX2_goElsewhere 40 = .ok (.istore 5, 2) := dk_54 5 (dk_at dksX2_goElsewhere_1 17 rfl rfl)
theorem dX2_goElsewhere_42 : decode cX2_goElsewhere 42 = .ok (.iconst 0, 1) := dk_3 (dk_at dksX2_goElsewhere_1 19 rfl rfl)
theorem dX2_goElsewhere_43 : decode cX2_goElsewhere 43 = .ok (.istore 6, 2) := dk_54 6 (dk_at dksX2_goElsewhere_1 20 rfl rfl)
theorem dX2_goElsewhere_45 : decode cX2_goElsewhere 45 = .ok (.iload 6, 2) := dk_21 6 (dk_at dksX2_goElsewhere_1 22 rfl rfl)
theorem dX2_goElsewhere_47 : decode cX2_goElsewhere 47 = .ok (.iload_n 2, 1) := dk_28 (dk_at dksX2_goElsewhere_2 0 rfl rfl)
theorem dX2_goElsewhere_48 : decode cX2_goElsewhere 48 = .ok (.if_icmp .ge 28, 3) := dk_162 0 28 (dk_at dksX2_goElsewhere_2 1 rfl rfl)
theorem dX2_goElsewhere_51 : decode cX2_goElsewhere 51 = .ok (.iload 5, 2) := dk_21 5 (dk_at dksX2_goElsewhere_2 4 rfl rfl)
theorem dX2_goElsewhere_53 : decode cX2_goElsewhere 53 = .ok (.iconst 1, 1) := dk_4 (dk_at dksX2_goElsewhere_2 6 rfl rfl)
theorem dX2_goElsewhere_54 : decode cX2_goElsewhere 54 = .ok (.aload_n 0, 1) := dk_42 (dk_at dksX2_goElsewhere_2 7 rfl rfl)
theorem dX2_goElsewhere_55 : decode cX2_goElsewhere 55 = .ok (.getfield 66, 3) := dk_180 0 66 (dk_at dksX2_goElsewhere_2 8 rfl rfl)
theorem dX2_goElsewhere_58 : decode cX2_goElsewhere 58 = .ok (.bipush 12, 2) := dk_16 12 (dk_at dksX2_goElsewhere_2 11 rfl rfl)
theorem dX2_goElsewhere_60 : decode cX2_goElsewhere 60 = .ok (.iload_n 1, 1) := dk_27 (dk_at dksX2_goElsewhere_2 13 rfl rfl)
theorem dX2_goElsewhere_61 : decode cX2_goElsewhere 61 = .ok (.imul, 1) := dk_104 (dk_at dksX2_goElsewhere_2 14 rfl rfl)
theorem dX2_goElsewhere_62 : decode cX2_goElsewhere 62 = .ok (.iload 6, 2) := dk_21 6 (dk_at dksX2_goElsewhere_2 15 rfl rfl)
theorem dX2_goElsewhere_64 : decode cX2_goElsewhere 64 = .ok (.iadd, 1) := dk_96 (dk_at dksX2_goElsewhere_2 17 rfl rfl)
theorem dX2_goElsewhere_65 : decode cX2_goElsewhere 65 = .ok (.iaload, 1) := dk_46 (dk_at dksX2_goElsewhere_2 18 rfl rfl)
theorem dX2_goElsewhere_66 : decode cX2_goElsewhere 66 = .ok (.ishl, 1) := dk_120 (dk_at dksX2_goElsewhere_2 19 rfl rfl)
theorem dX2_goElsewhere_67 : decode cX2_goElsewhere 67 = .ok (.ior, 1) := dk_128 (dk_at dksX2_goElsewhere_2 20 rfl rfl)
theorem dX2_goElsewhere_68 : decode cX2_goElsewhere 68 = .ok (.istore 5, 2) := dk_54 5 (dk_at dksX2_goElsewhere_2 21 rfl rfl)
theorem dX2_goElsewhere_70 : decode cX2_goElsewhere 70 = .ok (.iinc 6 1, 3) := dk_132 6 1 (dk_at dksX2_goElsewhere_3 0 rfl rfl)
theorem dX2_goElsewhere_73 : decode cX2_goElsewhere 73 = .ok (.goto (-28), 3) := dk_167 255 228 (dk_at dksX2_goElsewhere_3 3 rfl rfl)
theorem dX2_goElsewhere_76 : decode cX2_goElsewhere 76 = .ok (.aload_n 0, 1) := dk_42 (dk_at dksX2_goElsewhere_3 6 rfl rfl)
theorem dX2_goElsewhere_77 : decode cX2_goElsewhere 77 = .ok (.getfield 69, 3) := dk_180 0 69 (dk_at dksX2_goElsewhere_3 7 rfl rfl)
theorem dX2_goElsewhere_80 : decode cX2_goElsewhere 80 = .ok (.bipush 12, 2) := dk_16 12 (dk_at dksX2_goElsewhere_3 10 rfl rfl)
theorem dX2_goElsewhere_82 : decode cX2_goElsewhere 82 = .ok (.iload_n 1, 1) := dk_27 (dk_at dksX2_goElsewhere_3 12 rfl rfl)
theorem dX2_goElsewhere_83 : decode cX2_goElsewhere 83 = .ok (.imul, 1) := dk_104 (dk_at dksX2_goElsewhere_3 13 rfl rfl)
theorem dX2_goElsewhere_84 : decode cX2_goElsewhere 84 = .ok (.iload_n 2, 1) := dk_28 (dk_at dksX2_goElsewhere_3 14 rfl rfl)
theorem dX2_goElsewhere_85 : decode cX2_goElsewhere 85 = .ok (.iadd, 1) := dk_96 (dk_at dksX2_goElsewhere_3 15 rfl rfl)
theorem dX2_goElsewhere_86 : decode cX2_goElsewhere 86 = .ok (.iaload, 1) := dk_46 (dk_at dksX2_goElsewhere_3 16 rfl rfl)
theorem dX2_goElsewhere_87 : decode cX2_goElsewhere 87 = .ok (.aload_n 0, 1) := dk_42 (dk_at dksX2_goElsewhere_3 17 rfl rfl)
theorem dX2_goElsewhere_88 : decode cX2_goElsewhere 88 = .ok (.getfield 45, 3) := dk_180 0 45 (dk_at dksX2_goElsewhere_3 18 rfl rfl)
theorem dX2_goElsewhere_91 : decode cX2_goElsewhere 91 = .ok (.iload_n 1, 1) := dk_27 (dk_at dksX2_goElsewhere_3 21 rfl rfl)
theorem dX2_goElsewhere_92 : decode cX2_goElsewhere 92 = .ok (.iaload, 1) := dk_46 (dk_at dksX2_goElsewhere_3 22 rfl rfl)
theorem dX2_goElsewhere_93 : decode cX2_goElsewhere 93 = .ok (.isub, 1) := dk_100 (dk_at dksX2_goElsewhere_3 23 rfl rfl)
theorem dX2_goElsewhere_94 : decode cX2_goElsewhere 94 = .ok (.i2l, 1) := dk_133 (dk_at dksX2_goElsewhere_4 0 rfl rfl)
theorem dX2_goElsewhere_95 : decode cX2_goElsewhere 95 = .ok (.lstore 6, 2) := dk_55 6 (dk_at dksX2_goElsewhere_4 1 rfl rfl)
theorem dX2_goElsewhere_97 : decode cX2_goElsewhere 97 = .ok (.aload_n 0, 1) := dk_42 (dk_at dksX2_goElsewhere_4 3 rfl rfl)
theorem dX2_goElsewhere_98 : decode cX2_goElsewhere 98 = .ok (.iload_n 1, 1) := dk_27 (dk_at dksX2_goElsewhere_4 4 rfl rfl)
theorem dX2_goElsewhere_99 : decode cX2_goElsewhere 99 = .ok (.iload_n 2, 1) := dk_28 (dk_at dksX2_goElsewhere_4 5 rfl rfl)
theorem dX2_goElsewhere_100 : decode cX2_goElsewhere 100 = .ok (.invokevirtual 162, 3) := dk_182 0 162 (dk_at dksX2_goElsewhere_4 6 rfl rfl)
theorem dX2_goElsewhere_103 : decode cX2_goElsewhere 103 = .ok (.aload_n 0, 1) := dk_42 (dk_at dksX2_goElsewhere_4 9 rfl rfl)
theorem dX2_goElsewhere_104 : decode cX2_goElsewhere 104 = .ok (.iload_n 3, 1) := dk_29 (dk_at dksX2_goElsewhere_4 10 rfl rfl)
theorem dX2_goElsewhere_105 : decode cX2_goElsewhere 105 = .ok (.iload 4, 2) := dk_21 4 (dk_at dksX2_goElsewhere_4 11 rfl rfl)
theorem dX2_goElsewhere_107 : decode cX2_goElsewhere 107 = .ok (.aload_n 0, 1) := dk_42 (dk_at dksX2_goElsewhere_4 13 rfl rfl)
theorem dX2_goElsewhere_108 : decode cX2_goElsewhere 108 = .ok (.getfield 45, 3) := dk_180 0 45 (dk_at dksX2_goElsewhere_4 14 rfl rfl)
theorem dX2_goElsewhere_111 : decode cX2_goElsewhere 111 = .ok (.iload_n 1, 1) := dk_27 (dk_at dksX2_goElsewhere_4 17 rfl rfl)
theorem dX2_goElsewhere_112 : decode cX2_goElsewhere 112 = .ok (.iaload, 1) := dk_46 (dk_at dksX2_goElsewhere_4 18 rfl rfl)
theorem dX2_goElsewhere_113 : decode cX2_goElsewhere 113 = .ok (.iload 5, 2) := dk_21 5 (dk_at dksX2_goElsewhere_4 19 rfl rfl)
theorem dX2_goElsewhere_115 : decode cX2_goElsewhere 115 = .ok (.invokevirtual 170, 3) := dk_182 0 170 (dk_at dksX2_goElsewhere_4 21 rfl rfl)
theorem dX2_goElsewhere_118 : decode cX2_goElsewhere 118 = .ok (.istore 8, 2) := dk_54 8 (dk_at dksX2_goElsewhere_5 0 rfl rfl)
theorem dX2_goElsewhere_120 : decode cX2_goElsewhere 120 = .ok (.iload 8, 2) := dk_21 8 (dk_at dksX2_goElsewhere_5 2 rfl rfl)
theorem dX2_goElsewhere_122 : decode cX2_goElsewhere 122 = .ok (.ifCond .le 31, 3) := dk_158 0 31 (dk_at dksX2_goElsewhere_5 4 rfl rfl)
theorem dX2_goElsewhere_125 : decode cX2_goElsewhere 125 = .ok (.aload_n 0, 1) := dk_42 (dk_at dksX2_goElsewhere_5 7 rfl rfl)
theorem dX2_goElsewhere_126 : decode cX2_goElsewhere 126 = .ok (.getfield 100, 3) := dk_180 0 100 (dk_at dksX2_goElsewhere_5 8 rfl rfl)
theorem dX2_goElsewhere_129 : decode cX2_goElsewhere 129 = .ok (.aload_n 0, 1) := dk_42 (dk_at dksX2_goElsewhere_5 11 rfl rfl)
theorem dX2_goElsewhere_130 : decode cX2_goElsewhere 130 = .ok (.getfield 106, 3) := dk_180 0 106 (dk_at dksX2_goElsewhere_5 12 rfl rfl)
theorem dX2_goElsewhere_133 : decode cX2_goElsewhere 133 = .ok (.iconst 1, 1) := dk_4 (dk_at dksX2_goElsewhere_5 15 rfl rfl)
theorem dX2_goElsewhere_134 : decode cX2_goElsewhere 134 = .ok (.iaload, 1) := dk_46 (dk_at dksX2_goElsewhere_5 16 rfl rfl)
theorem dX2_goElsewhere_135 : decode cX2_goElsewhere 135 = .ok (.laload, 1) := dk_47 (dk_at dksX2_goElsewhere_5 17 rfl rfl)
theorem dX2_goElsewhere_136 : decode cX2_goElsewhere 136 = .ok (.lload 6, 2) := dk_22 6 (dk_at dksX2_goElsewhere_5 18 rfl rfl)
theorem dX2_goElsewhere_138 : decode cX2_goElsewhere 138 = .ok (.lcmp, 1) := dk_148 (dk_at dksX2_goElsewhere_5 20 rfl rfl)
theorem dX2_goElsewhere_139 : decode cX2_goElsewhere 139 = .ok (.ifCond .gt 14, 3) := dk_157 0 14 (dk_at dksX2_goElsewhere_5 21 rfl rfl)
theorem dX2_goElsewhere_142 : decode cX2_goElsewhere 142 = .ok (.aload_n 0, 1) := dk_42 (dk_at dksX2_goElsewhere_6 0 rfl rfl)
theorem dX2_goElsewhere_143 : decode cX2_goElsewhere 143 = .ok (.iload_n 1, 1) := dk_27 (dk_at dksX2_goElsewhere_6 1 rfl rfl)
theorem dX2_goElsewhere_144 : decode cX2_goElsewhere 144 = .ok (.iload_n 2, 1) := dk_28 (dk_at dksX2_goElsewhere_6 2 rfl rfl)
theorem dX2_goElsewhere_145 : decode cX2_goElsewhere 145 = .ok (.iload 8, 2) := dk_21 8 (dk_at dksX2_goElsewhere_6 3 rfl rfl)
theorem dX2_goElsewhere_147 : decode cX2_goElsewhere 147 = .ok (.invokevirtual 174, 3) := dk_182 0 174 (dk_at dksX2_goElsewhere_6 5 rfl rfl)
theorem dX2_goElsewhere_150 : decode cX2_goElsewhere 150 = .ok (.goto 33, 3) := dk_167 0 33 (dk_at dksX2_goElsewhere_6 8 rfl rfl)
theorem dX2_goElsewhere_153 : decode cX2_goElsewhere 153 = .ok (.aload_n 0, 1) := dk_42 (dk_at dksX2_goElsewhere_6 11 rfl rfl)
theorem dX2_goElsewhere_154 : decode cX2_goElsewhere 154 = .ok (.getfield 63, 3) := dk_180 0 63 (dk_at dksX2_goElsewhere_6 12 rfl rfl)
theorem dX2_goElsewhere_157 : decode cX2_goElsewhere 157 = .ok (.iload_n 1, 1) := dk_27 (dk_at dksX2_goElsewhere_6 15 rfl rfl)
theorem dX2_goElsewhere_158 : decode cX2_goElsewhere 158 = .ok (.iaload, 1) := dk_46 (dk_at dksX2_goElsewhere_6 16 rfl rfl)
theorem dX2_goElsewhere_159 : decode cX2_goElsewhere 159 = .ok (.istore 9, 2) := dk_54 9 (dk_at dksX2_goElsewhere_6 17 rfl rfl)
theorem dX2_goElsewhere_161 : decode cX2_goElsewhere 161 = .ok (.aload_n 0, 1) := dk_42 (dk_at dksX2_goElsewhere_6 19 rfl rfl)
theorem dX2_goElsewhere_162 : decode cX2_goElsewhere 162 = .ok (.getfield 63, 3) := dk_180 0 63 (dk_at dksX2_goElsewhere_6 20 rfl rfl)
theorem dX2_goElsewhere_165 : decode cX2_goElsewhere 165 = .ok (.iload_n 1, 1) := dk_27 (dk_at dksX2_goElsewhere_6 23 rfl rfl)
theorem dX2_goElsewhere_166 : decode cX2_goElsewhere 166 = .ok (.iload_n 2, 1) := dk_28 (dk_at dksX2_goElsewhere_7 0 rfl rfl)
theorem dX2_goElsewhere_167 : decode cX2_goElsewhere 167 = .ok (.iconst 1, 1) := dk_4 (dk_at dksX2_goElsewhere_7 1 rfl rfl)
theorem dX2_goElsewhere_168 : decode cX2_goElsewhere 168 = .ok (.iadd, 1) := dk_96 (dk_at dksX2_goElsewhere_7 2 rfl rfl)
theorem dX2_goElsewhere_169 : decode cX2_goElsewhere 169 = .ok (.iastore, 1) := dk_79 (dk_at dksX2_goElsewhere_7 3 rfl rfl)
theorem dX2_goElsewhere_170 : decode cX2_goElsewhere 170 = .ok (.aload_n 0, 1) := dk_42 (dk_at dksX2_goElsewhere_7 4 rfl rfl)
theorem dX2_goElsewhere_171 : decode cX2_goElsewhere 171 = .ok (.iload_n 1, 1) := dk_27 (dk_at dksX2_goElsewhere_7 5 rfl rfl)
theorem dX2_goElsewhere_172 : decode cX2_goElsewhere 172 = .ok (.invokevirtual 177, 3) := dk_182 0 177 (dk_at dksX2_goElsewhere_7 6 rfl rfl)
theorem dX2_goElsewhere_175 : decode cX2_goElsewhere 175 = .ok (.aload_n 0, 1) := dk_42 (dk_at dksX2_goElsewhere_7 9 rfl rfl)
theorem dX2_goElsewhere_176 : decode cX2_goElsewhere 176 = .ok (.getfield 63, 3) := dk_180 0 63 (dk_at dksX2_goElsewhere_7 10 rfl rfl)
theorem dX2_goElsewhere_179 : decode cX2_goElsewhere 179 = .ok (.iload_n 1, 1) := dk_27 (dk_at dksX2_goElsewhere_7 13 rfl rfl)
theorem dX2_goElsewhere_180 : decode cX2_goElsewhere 180 = .ok (.iload 9, 2) := dk_21 9 (dk_at dksX2_goElsewhere_7 14 rfl rfl)
theorem dX2_goElsewhere_182 : decode cX2_goElsewhere 182 = .ok (.iastore, 1) := dk_79 (dk_at dksX2_goElsewhere_7 16 rfl rfl)
theorem dX2_goElsewhere_183 : decode cX2_goElsewhere 183 = .ok (.return_, 1) := dk_177 (dk_at dksX2_goElsewhere_7 17 rfl rfl)
abbrev cX2_findWay : ByteArray := prog_11_method_19_code
def yX2_findWay : MethodName := ⟨RX2, "findWay", "(IIII)I"⟩
def dkwX2_findWay_6 : List UInt8 := [167, 255, 170, 21, 7, 54, 6, 167, 255, 134, 42, 180, 0, 106, 21, 5, 28, 79, 21, 5, 4, 96, 172]
abbrev dktX2_findWay_6 : List UInt8 := dkwX2_findWay_6 ++ []
def dkwX2_findWay_5 : List UInt8 := [4, 167, 0, 4, 3, 54, 9, 21, 9, 153, 0, 8, 21, 8, 167, 0, 5, 21, 7, 54, 7, 132, 8, 255]
abbrev dktX2_findWay_5 : List UInt8 := dkwX2_findWay_5 ++ dktX2_findWay_6
def dkwX2_findWay_4 : List UInt8 := [47, 148, 154, 0, 26, 42, 180, 0, 103, 21, 8, 46, 4, 96, 42, 180, 0, 103, 21, 6, 46, 160, 0, 7]
abbrev dktX2_findWay_4 : List UInt8 := dkwX2_findWay_4 ++ dktX2_findWay_5
def dkwX2_findWay_3 : List UInt8 := [153, 0, 52, 42, 21, 6, 29, 182, 0, 153, 42, 180, 0, 100, 21, 8, 47, 97, 42, 180, 0, 100, 21, 6]
abbrev dktX2_findWay_3 : List UInt8 := dkwX2_findWay_3 ++ dktX2_findWay_4
def dkwX2_findWay_2 : List UInt8 := [54, 7, 42, 180, 0, 113, 4, 100, 54, 8, 21, 8, 155, 0, 87, 42, 21, 6, 21, 8, 29, 182, 0, 156]
abbrev dktX2_findWay_2 : List UInt8 := dkwX2_findWay_2 ++ dktX2_findWay_3
def dkwX2_findWay_1 : List UInt8 := [54, 5, 27, 54, 6, 21, 6, 28, 159, 0, 122, 42, 180, 0, 106, 21, 5, 21, 6, 79, 132, 5, 1, 2]
abbrev dktX2_findWay_1 : List UInt8 := dkwX2_findWay_1 ++ dktX2_findWay_2
def dkwX2_findWay_0 : List UInt8 := [42, 28, 29, 21, 4, 182, 0, 159, 42, 180, 0, 100, 27, 47, 20, 0, 147, 148, 155, 0, 5, 3, 172, 3]
abbrev dktX2_findWay_0 : List UInt8 := dkwX2_findWay_0 ++ dktX2_findWay_1
theorem dksX2_findWay_0 : cX2_findWay.data.toList.drop 0 = dktX2_findWay_0 := by decide +kernel
theorem dksX2_findWay_1 : cX2_findWay.data.toList.drop 24 = dktX2_findWay_1 := dk_seg dksX2_findWay_0 24 rfl rfl
theorem dksX2_findWay_2 : cX2_findWay.data.toList.drop 48 = dktX2_findWay_2 := dk_seg dksX2_findWay_1 24 rfl rfl
theorem dksX2_findWay_3 : cX2_findWay.data.toList.drop 72 = dktX2_findWay_3 := dk_seg dksX2_findWay_2 24 rfl rfl
theorem dksX2_findWay_4 : cX2_findWay.data.toList.drop 96 = dktX2_findWay_4 := dk_seg dksX2_findWay_3 24 rfl rfl
theorem dksX2_findWay_5 : cX2_findWay.data.toList.drop 120 = dktX2_findWay_5 := dk_seg dksX2_findWay_4 24 rfl rfl
theorem dksX2_findWay_6 : cX2_findWay.data.toList.drop 144 = dktX2_findWay_6 := dk_seg dksX2_findWay_5 24 rfl rfl
theorem dX2_findWay_0 : decode cX2_findWay 0 = .ok (.aload_n 0, 1) := dk_42 (dk_at dksX2_findWay_0 0 rfl rfl)
theorem dX2_findWay_1 : decode cX2_findWay 1 = .ok (.iload_n 2, 1) := dk_28 (dk_at dksX2_findWay_0 1 rfl rfl)
theorem dX2_findWay_2 : decode cX2_findWay 2 = .ok (.iload_n 3, 1) := dk_29 (dk_at dksX2_findWay_0 2 rfl rfl)
theorem dX2_findWay_3 : decode cX2_findWay 3 = .ok (.iload 4, 2) := dk_21 4 (dk_at dksX2_findWay_0 3 rfl rfl)
theorem dX2_findWay_5 : decode cX2_findWay 5 = .ok (.invokevirtual 159, 3) := dk_182 0 159 (dk_at dksX2_findWay_0 5 rfl rfl)
theorem dX2_findWay_8 : decode cX2_findWay 8 = .ok (.aload_n 0, 1) := dk_42 (dk_at dksX2_findWay_0 8 rfl rfl)
theorem dX2_findWay_9 : decode cX2_findWay 9 = .ok (.getfield 100, 3) := dk_180 0 100 (dk_at dksX2_findWay_0 9 rfl rfl)
theorem dX2_findWay_12 : decode cX2_findWay 12 = .ok (.iload_n 1, 1) := dk_27 (dk_at dksX2_findWay_0 12 rfl rfl)
theorem dX2_findWay_13 : decode cX2_findWay 13 = .ok (.laload, 1) := dk_47 (dk_at dksX2_findWay_0 13 rfl rfl)
theorem dX2_findWay_14 : decode cX2_findWay 14 = .ok (.ldc2_w 147, 3) := dk_20 0 147 (dk_at dksX2_findWay_0 14 rfl rfl)
theorem dX2_findWay_17 : decode cX2_findWay 17 = .ok (.lcmp, 1) := dk_148 (dk_at dksX2_findWay_0 17 rfl rfl)
theorem dX2_findWay_18 : decode cX2_findWay 18 = .ok (.ifCond .lt 5, 3) := dk_155 0 5 (dk_at dksX2_findWay_0 18 rfl rfl)
theorem dX2_findWay_21 : decode cX2_findWay 21 = .ok (.iconst 0, 1) := dk_3 (dk_at dksX2_findWay_0 21 rfl rfl)
theorem dX2_findWay_22 : decode cX2_findWay 22 = .ok (.ireturn, 1) := dk_172 (dk_at dksX2_findWay_0 22 rfl rfl)
theorem dX2_findWay_23 : decode cX2_findWay 23 = .ok (.iconst 0, 1) := dk_3 (dk_at dksX2_findWay_0 23 rfl rfl)
theorem dX2_findWay_24 : decode cX2_findWay 24 = .ok (.istore 5, 2) := dk_54 5 (dk_at dksX2_findWay_1 0 rfl rfl)
theorem dX2_findWay_26 : decode cX2_findWay 26 = .ok (.iload_n 1, 1) := dk_27 (dk_at dksX2_findWay_1 2 rfl rfl)
theorem dX2_findWay_27 : decode cX2_findWay 27 = .ok (.istore 6, 2) := dk_54 6 (dk_at dksX2_findWay_1 3 rfl rfl)
theorem dX2_findWay_29 : decode cX2_findWay 29 = .ok (.iload 6, 2) := dk_21 6 (dk_at dksX2_findWay_1 5 rfl rfl)
theorem dX2_findWay_31 : decode cX2_findWay 31 = .ok (.iload_n 2, 1) := dk_28 (dk_at dksX2_findWay_1 7 rfl rfl)
theorem dX2_findWay_32 : decode cX2_findWay 32 = .ok (.if_icmp .eq 122, 3) := dk_159 0 122 (dk_at dksX2_findWay_1 8 rfl rfl)
theorem dX2_findWay_35 : decode cX2_findWay 35 = .ok (.aload_n 0, 1) := dk_42 (dk_at dksX2_findWay_1 11 rfl rfl)
theorem dX2_findWay_36 : decode cX2_findWay 36 = .ok (.getfield 106, 3) := dk_180 0 106 (dk_at dksX2_findWay_1 12 rfl rfl)
theorem dX2_findWay_39 : decode cX2_findWay 39 = .ok (.iload 5, 2) := dk_21 5 (dk_at dksX2_findWay_1 15 rfl rfl)
theorem dX2_findWay_41 : decode cX2_findWay 41 = .ok (.iload 6, 2) := dk_21 6 (dk_at dksX2_findWay_1 17 rfl rfl)
theorem dX2_findWay_43 : decode cX2_findWay 43 = .ok (.iastore, 1) := dk_79 (dk_at dksX2_findWay_1 19 rfl rfl)
theorem dX2_findWay_44 : decode cX2_findWay 44 = .ok (.iinc 5 1, 3) := dk_132 5 1 (dk_at dksX2_findWay_1 20 rfl rfl)
theorem dX2_findWay_47 : decode cX2_findWay 47 = .ok (.iconst (-1), 1) := dk_2 (dk_at dksX2_findWay_1 23 rfl rfl)
theorem dX2_findWay_48 : decode cX2_findWay 48 = .ok (.istore 7, 2) := dk_54 7 (dk_at dksX2_findWay_2 0 rfl rfl)
theorem dX2_findWay_50 : decode cX2_findWay 50 = .ok (.aload_n 0, 1) := dk_42 (dk_at dksX2_findWay_2 2 rfl rfl)
theorem dX2_findWay_51 : decode cX2_findWay 51 = .ok (.getfield 113, 3) := dk_180 0 113 (dk_at dksX2_findWay_2 3 rfl rfl)
theorem dX2_findWay_54 : decode cX2_findWay 54 = .ok (.iconst 1, 1) := dk_4 (dk_at dksX2_findWay_2 6 rfl rfl)
theorem dX2_findWay_55 : decode cX2_findWay 55 = .ok (.isub, 1) := dk_100 (dk_at dksX2_findWay_2 7 rfl rfl)
theorem dX2_findWay_56 : decode cX2_findWay 56 = .ok (.istore 8, 2) := dk_54 8 (dk_at dksX2_findWay_2 8 rfl rfl)
theorem dX2_findWay_58 : decode cX2_findWay 58 = .ok (.iload 8, 2) := dk_21 8 (dk_at dksX2_findWay_2 10 rfl rfl)
theorem dX2_findWay_60 : decode cX2_findWay 60 = .ok (.ifCond .lt 87, 3) := dk_155 0 87 (dk_at dksX2_findWay_2 12 rfl rfl)
theorem dX2_findWay_63 : decode cX2_findWay 63 = .ok (.aload_n 0, 1) := dk_42 (dk_at dksX2_findWay_2 15 rfl rfl)
theorem dX2_findWay_64 : decode cX2_findWay 64 = .ok (.iload 6, 2) := dk_21 6 (dk_at dksX2_findWay_2 16 rfl rfl)
theorem dX2_findWay_66 : decode cX2_findWay 66 = .ok (.iload 8, 2) := dk_21 8 (dk_at dksX2_findWay_2 18 rfl rfl)
theorem dX2_findWay_68 : decode cX2_findWay 68 = .ok (.iload_n 3, 1) := dk_29 (dk_at dksX2_findWay_2 20 rfl rfl)
theorem dX2_findWay_69 : decode cX2_findWay 69 = .ok (.invokevirtual 156, 3) := dk_182 0 156 (dk_at dksX2_findWay_2 21 rfl rfl)
theorem dX2_findWay_72 : decode cX2_findWay 72 = .ok (.ifCond .eq 52, 3) := dk_153 0 52 (dk_at dksX2_findWay_3 0 rfl rfl)
theorem dX2_findWay_75 : decode cX2_findWay 75 = .ok (.aload_n 0, 1) := dk_42 (dk_at dksX2_findWay_3 3 rfl rfl)
theorem dX2_findWay_76 : decode cX2_findWay 76 = .ok (.iload 6, 2) := dk_21 6 (dk_at dksX2_findWay_3 4 rfl rfl)
theorem dX2_findWay_78 : decode cX2_findWay 78 = .ok (.iload_n 3, 1) := dk_29 (dk_at dksX2_findWay_3 6 rfl rfl)
theorem dX2_findWay_79 : decode cX2_findWay 79 = .ok (.invokevirtual 153, 3) := dk_182 0 153 (dk_at dksX2_findWay_3 7 rfl rfl)
theorem dX2_findWay_82 : decode cX2_findWay 82 = .ok (.aload_n 0, 1) := dk_42 (dk_at dksX2_findWay_3 10 rfl rfl)
theorem dX2_findWay_83 : decode cX2_findWay 83 = .ok (.getfield 100, 3) := dk_180 0 100 (dk_at dksX2_findWay_3 11 rfl rfl)
theorem dX2_findWay_86 : decode cX2_findWay 86 = .ok (.iload 8, 2) := dk_21 8 (dk_at dksX2_findWay_3 14 rfl rfl)
theorem dX2_findWay_88 : decode cX2_findWay 88 = .ok (.laload, 1) := dk_47 (dk_at dksX2_findWay_3 16 rfl rfl)
theorem dX2_findWay_89 : decode cX2_findWay 89 = .ok (.ladd, 1) := dk_97 (dk_at dksX2_findWay_3 17 rfl rfl)
theorem dX2_findWay_90 : decode cX2_findWay 90 = .ok (.aload_n 0, 1) := dk_42 (dk_at dksX2_findWay_3 18 rfl rfl)
theorem dX2_findWay_91 : decode cX2_findWay 91 = .ok (.getfield 100, 3) := dk_180 0 100 (dk_at dksX2_findWay_3 19 rfl rfl)
theorem dX2_findWay_94 : decode cX2_findWay 94 = .ok (.iload 6, 2) := dk_21 6 (dk_at dksX2_findWay_3 22 rfl rfl)
theorem dX2_findWay_96 : decode cX2_findWay 96 = .ok (.laload, 1) := dk_47 (dk_at dksX2_findWay_4 0 rfl rfl)
theorem dX2_findWay_97 : decode cX2_findWay 97 = .ok (.lcmp, 1) := dk_148 (dk_at dksX2_findWay_4 1 rfl rfl)
theorem dX2_findWay_98 : decode cX2_findWay 98 = .ok (.ifCond .ne 26, 3) := dk_154 0 26 (dk_at dksX2_findWay_4 2 rfl rfl)
theorem dX2_findWay_101 : decode cX2_findWay 101 = .ok (.aload_n 0, 1) := dk_42 (dk_at dksX2_findWay_4 5 rfl rfl)
theorem dX2_findWay_102 : decode cX2_findWay 102 = .ok (.getfield 103, 3) := dk_180 0 103 (dk_at dksX2_findWay_4 6 rfl rfl)
theorem dX2_findWay_105 : decode cX2_findWay 105 = .ok (.iload 8, 2) := dk_21 8 (dk_at dksX2_findWay_4 9 rfl rfl)
theorem dX2_findWay_107 : decode cX2_findWay 107 = .ok (.iaload, 1) := dk_46 (dk_at dksX2_findWay_4 11 rfl rfl)
theorem dX2_findWay_108 : decode cX2_findWay 108 = .ok (.iconst 1, 1) := dk_4 (dk_at dksX2_findWay_4 12 rfl rfl)
theorem dX2_findWay_109 : decode cX2_findWay 109 = .ok (.iadd, 1) := dk_96 (dk_at dksX2_findWay_4 13 rfl rfl)
theorem dX2_findWay_110 : decode cX2_findWay 110 = .ok (.aload_n 0, 1) := dk_42 (dk_at dksX2_findWay_4 14 rfl rfl)
theorem dX2_findWay_111 : decode cX2_findWay 111 = .ok (.getfield 103, 3) := dk_180 0 103 (dk_at dksX2_findWay_4 15 rfl rfl)
theorem dX2_findWay_114 : decode cX2_findWay 114 = .ok (.iload 6, 2) := dk_21 6 (dk_at dksX2_findWay_4 18 rfl rfl)
theorem dX2_findWay_116 : decode cX2_findWay 116 = .ok (.iaload, 1) := dk_46 (dk_at dksX2_findWay_4 20 rfl rfl)
theorem dX2_findWay_117 : decode cX2_findWay 117 = .ok (.if_icmp .ne 7, 3) := dk_160 0 7 (dk_at dksX2_findWay_4 21 rfl rfl)
theorem dX2_findWay_120 : decode cX2_findWay 120 = .ok (.iconst 1, 1) := dk_4 (dk_at dksX2_findWay_5 0 rfl rfl)
theorem dX2_findWay_121 : decode cX2_findWay 121 = .ok (.goto 4, 3) := dk_167 0 4 (dk_at dksX2_findWay_5 1 rfl rfl)
theorem dX2_findWay_124 : decode cX2_findWay 124 = .ok (.iconst 0, 1) := dk_3 (dk_at dksX2_findWay_5 4 rfl rfl)
theorem dX2_findWay_125 : decode cX2_findWay 125 = .ok (.istore 9, 2) := dk_54 9 (dk_at dksX2_findWay_5 5 rfl rfl)
theorem dX2_findWay_127 : decode cX2_findWay 127 = .ok (.iload 9, 2) := dk_21 9 (dk_at dksX2_findWay_5 7 rfl rfl)
theorem dX2_findWay_129 : decode cX2_findWay 129 = .ok (.ifCond .eq 8, 3) := dk_153 0 8 (dk_at dksX2_findWay_5 9 rfl rfl)
theorem dX2_findWay_132 : decode cX2_findWay 132 = .ok (.iload 8, 2) := dk_21 8 (dk_at dksX2_findWay_5 12 rfl rfl)
theorem dX2_findWay_134 : decode cX2_findWay 134 = .ok (.goto 5, 3) := dk_167 0 5 (dk_at dksX2_findWay_5 14 rfl rfl)
theorem dX2_findWay_137 : decode cX2_findWay 137 = .ok (.iload 7, 2) := dk_21 7 (dk_at dksX2_findWay_5 17 rfl rfl)
theorem dX2_findWay_139 : decode cX2_findWay 139 = .ok (.istore 7, 2) := dk_54 7 (dk_at dksX2_findWay_5 19 rfl rfl)
theorem dX2_findWay_141 : decode cX2_findWay 141 = .ok (.iinc 8 (-1), 3) := dk_132 8 255 (dk_at dksX2_findWay_5 21 rfl rfl)
theorem dX2_findWay_144 : decode cX2_findWay 144 = .ok (.goto (-86), 3) := dk_167 255 170 (dk_at dksX2_findWay_6 0 rfl rfl)
theorem dX2_findWay_147 : decode cX2_findWay 147 = .ok (.iload 7, 2) := dk_21 7 (dk_at dksX2_findWay_6 3 rfl rfl)
theorem dX2_findWay_149 : decode cX2_findWay 149 = .ok (.istore 6, 2) := dk_54 6 (dk_at dksX2_findWay_6 5 rfl rfl)
theorem dX2_findWay_151 : decode cX2_findWay 151 = .ok (.goto (-122), 3) := dk_167 255 134 (dk_at dksX2_findWay_6 7 rfl rfl)
theorem dX2_findWay_154 : decode cX2_findWay 154 = .ok (.aload_n 0, 1) := dk_42 (dk_at dksX2_findWay_6 10 rfl rfl)
theorem dX2_findWay_155 : decode cX2_findWay 155 = .ok (.getfield 106, 3) := dk_180 0 106 (dk_at dksX2_findWay_6 11 rfl rfl)
theorem dX2_findWay_158 : decode cX2_findWay 158 = .ok (.iload 5, 2) := dk_21 5 (dk_at dksX2_findWay_6 14 rfl rfl)
theorem dX2_findWay_160 : decode cX2_findWay 160 = .ok (.iload_n 2, 1) := dk_28 (dk_at dksX2_findWay_6 16 rfl rfl)
theorem dX2_findWay_161 : decode cX2_findWay 161 = .ok (.iastore, 1) := dk_79 (dk_at dksX2_findWay_6 17 rfl rfl)
theorem dX2_findWay_162 : decode cX2_findWay 162 = .ok (.iload 5, 2) := dk_21 5 (dk_at dksX2_findWay_6 18 rfl rfl)
theorem dX2_findWay_164 : decode cX2_findWay 164 = .ok (.iconst 1, 1) := dk_4 (dk_at dksX2_findWay_6 20 rfl rfl)
theorem dX2_findWay_165 : decode cX2_findWay 165 = .ok (.iadd, 1) := dk_96 (dk_at dksX2_findWay_6 21 rfl rfl)
theorem dX2_findWay_166 : decode cX2_findWay 166 = .ok (.ireturn, 1) := dk_172 (dk_at dksX2_findWay_6 22 rfl rfl)
abbrev cX2_findWays : ByteArray := prog_11_method_18_code
def yX2_findWays : MethodName := ⟨RX2, "findWays", "(III)V"⟩
def dkwX2_findWays_11 : List UInt8 := [167, 255, 72, 177]
abbrev dktX2_findWays_11 : List UInt8 := dkwX2_findWays_11 ++ []
def dkwX2_findWays_10 : List UInt8 := [180, 0, 103, 21, 6, 46, 4, 96, 79, 132, 6, 1, 167, 255, 108, 132, 5, 1, 167, 255, 90, 132, 4, 1]
abbrev dktX2_findWays_10 : List UInt8 := dkwX2_findWays_10 ++ dktX2_findWays_11
def dkwX2_findWays_9 : List UInt8 := [21, 5, 46, 162, 0, 28, 42, 180, 0, 100, 21, 5, 22, 8, 80, 42, 180, 0, 103, 21, 5, 42]
abbrev dktX2_findWays_9 : List UInt8 := dkwX2_findWays_9 ++ dktX2_findWays_10
def dkwX2_findWays_8 : List UInt8 := [180, 0, 100, 21, 5, 47, 148, 154, 0, 47, 42, 180, 0, 103, 21, 6, 46, 4, 96, 42, 180, 0, 103]
abbrev dktX2_findWays_8 : List UInt8 := dkwX2_findWays_8 ++ dktX2_findWays_9
def dkwX2_findWays_7 : List UInt8 := [97, 55, 8, 21, 7, 153, 0, 73, 22, 8, 42, 180, 0, 100, 21, 5, 47, 148, 155, 0, 35, 22, 8, 42]
abbrev dktX2_findWays_7 : List UInt8 := dkwX2_findWays_7 ++ dktX2_findWays_8
def dkwX2_findWays_6 : List UInt8 := [153, 0, 7, 4, 167, 0, 4, 3, 54, 7, 42, 21, 5, 28, 182, 0, 153, 42, 180, 0, 100, 21, 6, 47]
abbrev dktX2_findWays_6 : List UInt8 := dkwX2_findWays_6 ++ dktX2_findWays_7
def dkwX2_findWays_5 : List UInt8 := [46, 154, 0, 28, 29, 21, 5, 122, 4, 126, 154, 0, 19, 42, 21, 5, 21, 6, 28, 182, 0, 156]
abbrev dktX2_findWays_5 : List UInt8 := dkwX2_findWays_5 ++ dktX2_findWays_6
def dkwX2_findWays_4 : List UInt8 := [3, 54, 6, 21, 6, 42, 180, 0, 113, 162, 0, 145, 21, 5, 27, 159, 0, 38, 42, 180, 0, 20, 21, 5]
abbrev dktX2_findWays_4 : List UInt8 := dkwX2_findWays_4 ++ dktX2_findWays_5
def dkwX2_findWays_3 : List UInt8 := [3, 54, 4, 21, 4, 42, 180, 0, 113, 162, 0, 181, 3, 54, 5, 21, 5, 42, 180, 0, 113, 162, 0, 163]
abbrev dktX2_findWays_3 : List UInt8 := dkwX2_findWays_3 ++ dktX2_findWays_4
def dkwX2_findWays_2 : List UInt8 := [182, 0, 153, 167, 0, 6, 20, 0, 147, 80, 42, 180, 0, 103, 21, 4, 4, 79, 132, 4, 1, 167, 255, 191]
abbrev dktX2_findWays_2 : List UInt8 := dkwX2_findWays_2 ++ dktX2_findWays_3
def dkwX2_findWays_1 : List UInt8 := [42, 180, 0, 20, 21, 4, 46, 154, 0, 22, 29, 21, 4, 122, 4, 126, 154, 0, 13, 42, 21, 4, 28]
abbrev dktX2_findWays_1 : List UInt8 := dkwX2_findWays_1 ++ dktX2_findWays_2
def dkwX2_findWays_0 : List UInt8 := [3, 54, 4, 21, 4, 42, 180, 0, 113, 162, 0, 62, 42, 180, 0, 100, 21, 4, 21, 4, 27, 160, 0, 32]
abbrev dktX2_findWays_0 : List UInt8 := dkwX2_findWays_0 ++ dktX2_findWays_1
theorem dksX2_findWays_0 : cX2_findWays.data.toList.drop 0 = dktX2_findWays_0 := by decide +kernel
theorem dksX2_findWays_1 : cX2_findWays.data.toList.drop 24 = dktX2_findWays_1 := dk_seg dksX2_findWays_0 24 rfl rfl
theorem dksX2_findWays_2 : cX2_findWays.data.toList.drop 47 = dktX2_findWays_2 := dk_seg dksX2_findWays_1 23 rfl rfl
theorem dksX2_findWays_3 : cX2_findWays.data.toList.drop 71 = dktX2_findWays_3 := dk_seg dksX2_findWays_2 24 rfl rfl
theorem dksX2_findWays_4 : cX2_findWays.data.toList.drop 95 = dktX2_findWays_4 := dk_seg dksX2_findWays_3 24 rfl rfl
theorem dksX2_findWays_5 : cX2_findWays.data.toList.drop 119 = dktX2_findWays_5 := dk_seg dksX2_findWays_4 24 rfl rfl
theorem dksX2_findWays_6 : cX2_findWays.data.toList.drop 141 = dktX2_findWays_6 := dk_seg dksX2_findWays_5 22 rfl rfl
theorem dksX2_findWays_7 : cX2_findWays.data.toList.drop 165 = dktX2_findWays_7 := dk_seg dksX2_findWays_6 24 rfl rfl
theorem dksX2_findWays_8 : cX2_findWays.data.toList.drop 189 = dktX2_findWays_8 := dk_seg dksX2_findWays_7 24 rfl rfl
theorem dksX2_findWays_9 : cX2_findWays.data.toList.drop 212 = dktX2_findWays_9 := dk_seg dksX2_findWays_8 23 rfl rfl
theorem dksX2_findWays_10 : cX2_findWays.data.toList.drop 234 = dktX2_findWays_10 := dk_seg dksX2_findWays_9 22 rfl rfl
theorem dksX2_findWays_11 : cX2_findWays.data.toList.drop 258 = dktX2_findWays_11 := dk_seg dksX2_findWays_10 24 rfl rfl
theorem dX2_findWays_0 : decode cX2_findWays 0 = .ok (.iconst 0, 1) := dk_3 (dk_at dksX2_findWays_0 0 rfl rfl)
theorem dX2_findWays_1 : decode cX2_findWays 1 = .ok (.istore 4, 2) := dk_54 4 (dk_at dksX2_findWays_0 1 rfl rfl)
theorem dX2_findWays_3 : decode cX2_findWays 3 = .ok (.iload 4, 2) := dk_21 4 (dk_at dksX2_findWays_0 3 rfl rfl)
theorem dX2_findWays_5 : decode cX2_findWays 5 = .ok (.aload_n 0, 1) := dk_42 (dk_at dksX2_findWays_0 5 rfl rfl)
theorem dX2_findWays_6 : decode cX2_findWays 6 = .ok (.getfield 113, 3) := dk_180 0 113 (dk_at dksX2_findWays_0 6 rfl rfl)
theorem dX2_findWays_9 : decode cX2_findWays 9 = .ok (.if_icmp .ge 62, 3) := dk_162 0 62 (dk_at dksX2_findWays_0 9 rfl rfl)
theorem dX2_findWays_12 : decode cX2_findWays 12 = .ok (.aload_n 0, 1) := dk_42 (dk_at dksX2_findWays_0 12 rfl rfl)
theorem dX2_findWays_13 : decode cX2_findWays 13 = .ok (.getfield 100, 3) := dk_180 0 100 (dk_at dksX2_findWays_0 13 rfl rfl)
theorem dX2_findWays_16 : decode cX2_findWays 16 = .ok (.iload 4, 2) := dk_21 4 (dk_at dksX2_findWays_0 16 rfl rfl)
theorem dX2_findWays_18 : decode cX2_findWays 18 = .ok (.iload 4, 2) := dk_21 4 (dk_at dksX2_findWays_0 18 rfl rfl)
theorem dX2_findWays_20 : decode cX2_findWays 20 = .ok (.iload_n 1, 1) := dk_27 (dk_at dksX2_findWays_0 20 rfl rfl)
theorem dX2_findWays_21 : decode cX2_findWays 21 = .ok (.if_icmp .ne 32, 3) := dk_160 0 32 (dk_at dksX2_findWays_0 21 rfl rfl)
theorem dX2_findWays_24 : decode cX2_findWays 24 = .ok (.aload_n 0, 1) := dk_42 (dk_at dksX2_findWays_1 0 rfl rfl)
theorem dX2_findWays_25 : decode cX2_findWays 25 = .ok (.getfield 20, 3) := dk_180 0 20 (dk_at dksX2_findWays_1 1 rfl rfl)
theorem dX2_findWays_28 : decode cX2_findWays 28 = .ok (.iload 4, 2) := dk_21 4 (dk_at dksX2_findWays_1 4 rfl rfl)
theorem dX2_findWays_30 : decode cX2_findWays 30 = .ok (.iaload, 1) := dk_46 (dk_at dksX2_findWays_1 6 rfl rfl)
theorem dX2_findWays_31 : decode cX2_findWays 31 = .ok (.ifCond .ne 22, 3) := dk_154 0 22 (dk_at dksX2_findWays_1 7 rfl rfl)
theorem dX2_findWays_34 : decode cX2_findWays 34 = .ok (.iload_n 3, 1) := dk_29 (dk_at dksX2_findWays_1 10 rfl rfl)
theorem dX2_findWays_35 : decode cX2_findWays 35 = .ok (.iload 4, 2) := dk_21 4 (dk_at dksX2_findWays_1 11 rfl rfl)
theorem dX2_findWays_37 : decode cX2_findWays 37 = .ok (.ishr, 1) := dk_122 (dk_at dksX2_findWays_1 13 rfl rfl)
theorem dX2_findWays_38 : decode cX2_findWays 38 = .ok (.iconst 1, 1) := dk_4 (dk_at dksX2_findWays_1 14 rfl rfl)
theorem dX2_findWays_39 : decode cX2_findWays 39 = .ok (.iand, 1) := dk_126 (dk_at dksX2_findWays_1 15 rfl rfl)
theorem dX2_findWays_40 : decode cX2_findWays 40 = .ok (.ifCond .ne 13, 3) := dk_154 0 13 (dk_at dksX2_findWays_1 16 rfl rfl)
theorem dX2_findWays_43 : decode cX2_findWays 43 = .ok (.aload_n 0, 1) := dk_42 (dk_at dksX2_findWays_1 19 rfl rfl)
theorem dX2_findWays_44 : decode cX2_findWays 44 = .ok (.iload 4, 2) := dk_21 4 (dk_at dksX2_findWays_1 20 rfl rfl)
theorem dX2_findWays_46 : decode cX2_findWays 46 = .ok (.iload_n 2, 1) := dk_28 (dk_at dksX2_findWays_1 22 rfl rfl)
theorem dX2_findWays_47 : decode cX2_findWays 47 = .ok (.invokevirtual 153, 3) := dk_182 0 153 (dk_at dksX2_findWays_2 0 rfl rfl)
theorem dX2_findWays_50 : decode cX2_findWays 50 = .ok (.goto 6, 3) := dk_167 0 6 (dk_at dksX2_findWays_2 3 rfl rfl)
theorem dX2_findWays_53 : decode cX2_findWays 53 = .ok (.ldc2_w 147, 3) := dk_20 0 147 (dk_at dksX2_findWays_2 6 rfl rfl)
theorem dX2_findWays_56 : decode cX2_findWays 56 = .ok (.lastore, 1) := dk_80 (dk_at dksX2_findWays_2 9 rfl rfl)
theorem dX2_findWays_57 : decode cX2_findWays 57 = .ok (.aload_n 0, 1) := dk_42 (dk_at dksX2_findWays_2 10 rfl rfl)
theorem dX2_findWays_58 : decode cX2_findWays 58 = .ok (.getfield 103, 3) := dk_180 0 103 (dk_at dksX2_findWays_2 11 rfl rfl)
theorem dX2_findWays_61 : decode cX2_findWays 61 = .ok (.iload 4, 2) := dk_21 4 (dk_at dksX2_findWays_2 14 rfl rfl)
theorem dX2_findWays_63 : decode cX2_findWays 63 = .ok (.iconst 1, 1) := dk_4 (dk_at dksX2_findWays_2 16 rfl rfl)
theorem dX2_findWays_64 : decode cX2_findWays 64 = .ok (.iastore, 1) := dk_79 (dk_at dksX2_findWays_2 17 rfl rfl)
theorem dX2_findWays_65 : decode cX2_findWays 65 = .ok (.iinc 4 1, 3) := dk_132 4 1 (dk_at dksX2_findWays_2 18 rfl rfl)
theorem dX2_findWays_68 : decode cX2_findWays 68 = .ok (.goto (-65), 3) := dk_167 255 191 (dk_at dksX2_findWays_2 21 rfl rfl)
theorem dX2_findWays_71 : decode cX2_findWays 71 = .ok (.iconst 0, 1) := dk_3 (dk_at dksX2_findWays_3 0 rfl rfl)
theorem dX2_findWays_72 : decode cX2_findWays 72 = .ok (.istore 4, 2) := dk_54 4 (dk_at dksX2_findWays_3 1 rfl rfl)
theorem dX2_findWays_74 : decode cX2_findWays 74 = .ok (.iload 4, 2) := dk_21 4 (dk_at dksX2_findWays_3 3 rfl rfl)
theorem dX2_findWays_76 : decode cX2_findWays 76 = .ok (.aload_n 0, 1) := dk_42 (dk_at dksX2_findWays_3 5 rfl rfl)
theorem dX2_findWays_77 : decode cX2_findWays 77 = .ok (.getfield 113, 3) := dk_180 0 113 (dk_at dksX2_findWays_3 6 rfl rfl)
theorem dX2_findWays_80 : decode cX2_findWays 80 = .ok (.if_icmp .ge 181, 3) := dk_162 0 181 (dk_at dksX2_findWays_3 9 rfl rfl)
theorem dX2_findWays_83 : decode cX2_findWays 83 = .ok (.iconst 0, 1) := dk_3 (dk_at dksX2_findWays_3 12 rfl rfl)
theorem dX2_findWays_84 : decode cX2_findWays 84 = .ok (.istore 5, 2) := dk_54 5 (dk_at dksX2_findWays_3 13 rfl rfl)
theorem dX2_findWays_86 : decode cX2_findWays 86 = .ok (.iload 5, 2) := dk_21 5 (dk_at dksX2_findWays_3 15 rfl rfl)
theorem dX2_findWays_88 : decode cX2_findWays 88 = .ok (.aload_n 0, 1) := dk_42 (dk_at dksX2_findWays_3 17 rfl rfl)
theorem dX2_findWays_89 : decode cX2_findWays 89 = .ok (.getfield 113, 3) := dk_180 0 113 (dk_at dksX2_findWays_3 18 rfl rfl)
theorem dX2_findWays_92 : decode cX2_findWays 92 = .ok (.if_icmp .ge 163, 3) := dk_162 0 163 (dk_at dksX2_findWays_3 21 rfl rfl)
theorem dX2_findWays_95 : decode cX2_findWays 95 = .ok (.iconst 0, 1) := dk_3 (dk_at dksX2_findWays_4 0 rfl rfl)
theorem dX2_findWays_96 : decode cX2_findWays 96 = .ok (.istore 6, 2) := dk_54 6 (dk_at dksX2_findWays_4 1 rfl rfl)
theorem dX2_findWays_98 : decode cX2_findWays 98 = .ok (.iload 6, 2) := dk_21 6 (dk_at dksX2_findWays_4 3 rfl rfl)
theorem dX2_findWays_100 : decode cX2_findWays 100 = .ok (.aload_n 0, 1) := dk_42 (dk_at dksX2_findWays_4 5 rfl rfl)
theorem dX2_findWays_101 : decode cX2_findWays 101 = .ok (.getfield 113, 3) := dk_180 0 113 (dk_at dksX2_findWays_4 6 rfl rfl)
theorem dX2_findWays_104 : decode cX2_findWays 104 = .ok (.if_icmp .ge 145, 3) := dk_162 0 145 (dk_at dksX2_findWays_4 9 rfl rfl)
theorem dX2_findWays_107 : decode cX2_findWays 107 = .ok (.iload 5, 2) := dk_21 5 (dk_at dksX2_findWays_4 12 rfl rfl)
theorem dX2_findWays_109 : decode cX2_findWays 109 = .ok (.iload_n 1, 1) := dk_27 (dk_at dksX2_findWays_4 14 rfl rfl)
theorem dX2_findWays_110 : decode cX2_findWays 110 = .ok (.if_icmp .eq 38, 3) := dk_159 0 38 (dk_at dksX2_findWays_4 15 rfl rfl)
theorem dX2_findWays_113 : decode cX2_findWays 113 = .ok (.aload_n 0, 1) := dk_42 (dk_at dksX2_findWays_4 18 rfl rfl)
theorem dX2_findWays_114 : decode cX2_findWays 114 = .ok (.getfield 20, 3) := dk_180 0 20 (dk_at dksX2_findWays_4 19 rfl rfl)
theorem dX2_findWays_117 : decode cX2_findWays 117 = .ok (.iload 5, 2) := dk_21 5 (dk_at dksX2_findWays_4 22 rfl rfl)
theorem dX2_findWays_119 : decode cX2_findWays 119 = .ok (.iaload, 1) := dk_46 (dk_at dksX2_findWays_5 0 rfl rfl)
theorem dX2_findWays_120 : decode cX2_findWays 120 = .ok (.ifCond .ne 28, 3) := dk_154 0 28 (dk_at dksX2_findWays_5 1 rfl rfl)
theorem dX2_findWays_123 : decode cX2_findWays 123 = .ok (.iload_n 3, 1) := dk_29 (dk_at dksX2_findWays_5 4 rfl rfl)
theorem dX2_findWays_124 : decode cX2_findWays 124 = .ok (.iload 5, 2) := dk_21 5 (dk_at dksX2_findWays_5 5 rfl rfl)
theorem dX2_findWays_126 : decode cX2_findWays 126 = .ok (.ishr, 1) := dk_122 (dk_at dksX2_findWays_5 7 rfl rfl)
theorem dX2_findWays_127 : decode cX2_findWays 127 = .ok (.iconst 1, 1) := dk_4 (dk_at dksX2_findWays_5 8 rfl rfl)
theorem dX2_findWays_128 : decode cX2_findWays 128 = .ok (.iand, 1) := dk_126 (dk_at dksX2_findWays_5 9 rfl rfl)
theorem dX2_findWays_129 : decode cX2_findWays 129 = .ok (.ifCond .ne 19, 3) := dk_154 0 19 (dk_at dksX2_findWays_5 10 rfl rfl)
theorem dX2_findWays_132 : decode cX2_findWays 132 = .ok (.aload_n 0, 1) := dk_42 (dk_at dksX2_findWays_5 13 rfl rfl)
theorem dX2_findWays_133 : decode cX2_findWays 133 = .ok (.iload 5, 2) := dk_21 5 (dk_at dksX2_findWays_5 14 rfl rfl)
theorem dX2_findWays_135 : decode cX2_findWays 135 = .ok (.iload 6, 2) := dk_21 6 (dk_at dksX2_findWays_5 16 rfl rfl)
theorem dX2_findWays_137 : decode cX2_findWays 137 = .ok (.iload_n 2, 1) := dk_28 (dk_at dksX2_findWays_5 18 rfl rfl)
theorem dX2_findWays_138 : decode cX2_findWays 138 = .ok (.invokevirtual 156, 3) := dk_182 0 156 (dk_at dksX2_findWays_5 19 rfl rfl)
theorem dX2_findWays_141 : decode cX2_findWays 141 = .ok (.ifCond .eq 7, 3) := dk_153 0 7 (dk_at dksX2_findWays_6 0 rfl rfl)
theorem dX2_findWays_144 : decode cX2_findWays 144 = .ok (.iconst 1, 1) := dk_4 (dk_at dksX2_findWays_6 3 rfl rfl)
theorem dX2_findWays_145 : decode cX2_findWays 145 = .ok (.goto 4, 3) := dk_167 0 4 (dk_at dksX2_findWays_6 4 rfl rfl)
theorem dX2_findWays_148 : decode cX2_findWays 148 = .ok (.iconst 0, 1) := dk_3 (dk_at dksX2_findWays_6 7 rfl rfl)
theorem dX2_findWays_149 : decode cX2_findWays 149 = .ok (.istore 7, 2) := dk_54 7 (dk_at dksX2_findWays_6 8 rfl rfl)
theorem dX2_findWays_151 : decode cX2_findWays 151 = .ok (.aload_n 0, 1) := dk_42 (dk_at dksX2_findWays_6 10 rfl rfl)
theorem dX2_findWays_152 : decode cX2_findWays 152 = .ok (.iload 5, 2) := dk_21 5 (dk_at dksX2_findWays_6 11 rfl rfl)
theorem dX2_findWays_154 : decode cX2_findWays 154 = .ok (.iload_n 2, 1) := dk_28 (dk_at dksX2_findWays_6 13 rfl rfl)
theorem dX2_findWays_155 : decode cX2_findWays 155 = .ok (.invokevirtual 153, 3) := dk_182 0 153 (dk_at dksX2_findWays_6 14 rfl rfl)
theorem dX2_findWays_158 : decode cX2_findWays 158 = .ok (.aload_n 0, 1) := dk_42 (dk_at dksX2_findWays_6 17 rfl rfl)
theorem dX2_findWays_159 : decode cX2_findWays 159 = .ok (.getfield 100, 3) := dk_180 0 100 (dk_at dksX2_findWays_6 18 rfl rfl)
theorem dX2_findWays_162 : decode cX2_findWays 162 = .ok (.iload 6, 2) := dk_21 6 (dk_at dksX2_findWays_6 21 rfl rfl)
theorem dX2_findWays_164 : decode cX2_findWays 164 = .ok (.laload, 1) := dk_47 (dk_at dksX2_findWays_6 23 rfl rfl)
theorem dX2_findWays_165 : decode cX2_findWays 165 = .ok (.ladd, 1) := dk_97 (dk_at dksX2_findWays_7 0 rfl rfl)
theorem dX2_findWays_166 : decode cX2_findWays 166 = .ok (.lstore 8, 2) := dk_55 8 (dk_at dksX2_findWays_7 1 rfl rfl)
theorem dX2_findWays_168 : decode cX2_findWays 168 = .ok (.iload 7, 2) := dk_21 7 (dk_at dksX2_findWays_7 3 rfl rfl)
theorem dX2_findWays_170 : decode cX2_findWays 170 = .ok (.ifCond .eq 73, 3) := dk_153 0 73 (dk_at dksX2_findWays_7 5 rfl rfl)
theorem dX2_findWays_173 : decode cX2_findWays 173 = .ok (.lload 8, 2) := dk_22 8 (dk_at dksX2_findWays_7 8 rfl rfl)
theorem dX2_findWays_175 : decode cX2_findWays 175 = .ok (.aload_n 0, 1) := dk_42 (dk_at dksX2_findWays_7 10 rfl rfl)
theorem dX2_findWays_176 : decode cX2_findWays 176 = .ok (.getfield 100, 3) := dk_180 0 100 (dk_at dksX2_findWays_7 11 rfl rfl)
theorem dX2_findWays_179 : decode cX2_findWays 179 = .ok (.iload 5, 2) := dk_21 5 (dk_at dksX2_findWays_7 14 rfl rfl)
theorem dX2_findWays_181 : decode cX2_findWays 181 = .ok (.laload, 1) := dk_47 (dk_at dksX2_findWays_7 16 rfl rfl)
theorem dX2_findWays_182 : decode cX2_findWays 182 = .ok (.lcmp, 1) := dk_148 (dk_at dksX2_findWays_7 17 rfl rfl)
theorem dX2_findWays_183 : decode cX2_findWays 183 = .ok (.ifCond .lt 35, 3) := dk_155 0 35 (dk_at dksX2_findWays_7 18 rfl rfl)
theorem dX2_findWays_186 : decode cX2_findWays 186 = .ok (.lload 8, 2) := dk_22 8 (dk_at dksX2_findWays_7 21 rfl rfl)
theorem dX2_findWays_188 : decode cX2_findWays 188 = .ok (.aload_n 0, 1) := dk_42 (dk_at dksX2_findWays_7 23 rfl rfl)
theorem dX2_findWays_189 : decode cX2_findWays 189 = .ok (.getfield 100, 3) := dk_180 0 100 (dk_at dksX2_findWays_8 0 rfl rfl)
theorem dX2_findWays_192 : decode cX2_findWays 192 = .ok (.iload 5, 2) := dk_21 5 (dk_at dksX2_findWays_8 3 rfl rfl)
theorem dX2_findWays_194 : decode cX2_findWays 194 = .ok (.laload, 1) := dk_47 (dk_at dksX2_findWays_8 5 rfl rfl)
theorem dX2_findWays_195 : decode cX2_findWays 195 = .ok (.lcmp, 1) := dk_148 (dk_at dksX2_findWays_8 6 rfl rfl)
theorem dX2_findWays_196 : decode cX2_findWays 196 = .ok (.ifCond .ne 47, 3) := dk_154 0 47 (dk_at dksX2_findWays_8 7 rfl rfl)
theorem dX2_findWays_199 : decode cX2_findWays 199 = .ok (.aload_n 0, 1) := dk_42 (dk_at dksX2_findWays_8 10 rfl rfl)
theorem dX2_findWays_200 : decode cX2_findWays 200 = .ok (.getfield 103, 3) := dk_180 0 103 (dk_at dksX2_findWays_8 11 rfl rfl)
theorem dX2_findWays_203 : decode cX2_findWays 203 = .ok (.iload 6, 2) := dk_21 6 (dk_at dksX2_findWays_8 14 rfl rfl)
theorem dX2_findWays_205 : decode cX2_findWays 205 = .ok (.iaload, 1) := dk_46 (dk_at dksX2_findWays_8 16 rfl rfl)
theorem dX2_findWays_206 : decode cX2_findWays 206 = .ok (.iconst 1, 1) := dk_4 (dk_at dksX2_findWays_8 17 rfl rfl)
theorem dX2_findWays_207 : decode cX2_findWays 207 = .ok (.iadd, 1) := dk_96 (dk_at dksX2_findWays_8 18 rfl rfl)
theorem dX2_findWays_208 : decode cX2_findWays 208 = .ok (.aload_n 0, 1) := dk_42 (dk_at dksX2_findWays_8 19 rfl rfl)
theorem dX2_findWays_209 : decode cX2_findWays 209 = .ok (.getfield 103, 3) := dk_180 0 103 (dk_at dksX2_findWays_8 20 rfl rfl)
theorem dX2_findWays_212 : decode cX2_findWays 212 = .ok (.iload 5, 2) := dk_21 5 (dk_at dksX2_findWays_9 0 rfl rfl)
theorem dX2_findWays_214 : decode cX2_findWays 214 = .ok (.iaload, 1) := dk_46 (dk_at dksX2_findWays_9 2 rfl rfl)
theorem dX2_findWays_215 : decode cX2_findWays 215 = .ok (.if_icmp .ge 28, 3) := dk_162 0 28 (dk_at dksX2_findWays_9 3 rfl rfl)
theorem dX2_findWays_218 : decode cX2_findWays 218 = .ok (.aload_n 0, 1) := dk_42 (dk_at dksX2_findWays_9 6 rfl rfl)
theorem dX2_findWays_219 : decode cX2_findWays 219 = .ok (.getfield 100, 3) := dk_180 0 100 (dk_at dksX2_findWays_9 7 rfl rfl)
theorem dX2_findWays_222 : decode cX2_findWays 222 = .ok (.iload 5, 2) := dk_21 5 (dk_at dksX2_findWays_9 10 rfl rfl)
theorem dX2_findWays_224 : decode cX2_findWays 224 = .ok (.lload 8, 2) := dk_22 8 (dk_at dksX2_findWays_9 12 rfl rfl)
theorem dX2_findWays_226 : decode cX2_findWays 226 = .ok (.lastore, 1) := dk_80 (dk_at dksX2_findWays_9 14 rfl rfl)
theorem dX2_findWays_227 : decode cX2_findWays 227 = .ok (.aload_n 0, 1) := dk_42 (dk_at dksX2_findWays_9 15 rfl rfl)
theorem dX2_findWays_228 : decode cX2_findWays 228 = .ok (.getfield 103, 3) := dk_180 0 103 (dk_at dksX2_findWays_9 16 rfl rfl)
theorem dX2_findWays_231 : decode cX2_findWays 231 = .ok (.iload 5, 2) := dk_21 5 (dk_at dksX2_findWays_9 19 rfl rfl)
theorem dX2_findWays_233 : decode cX2_findWays 233 = .ok (.aload_n 0, 1) := dk_42 (dk_at dksX2_findWays_9 21 rfl rfl)
theorem dX2_findWays_234 : decode cX2_findWays 234 = .ok (.getfield 103, 3) := dk_180 0 103 (dk_at dksX2_findWays_10 0 rfl rfl)
theorem dX2_findWays_237 : decode cX2_findWays 237 = .ok (.iload 6, 2) := dk_21 6 (dk_at dksX2_findWays_10 3 rfl rfl)
theorem dX2_findWays_239 : decode cX2_findWays 239 = .ok (.iaload, 1) := dk_46 (dk_at dksX2_findWays_10 5 rfl rfl)
theorem dX2_findWays_240 : decode cX2_findWays 240 = .ok (.iconst 1, 1) := dk_4 (dk_at dksX2_findWays_10 6 rfl rfl)
theorem dX2_findWays_241 : decode cX2_findWays 241 = .ok (.iadd, 1) := dk_96 (dk_at dksX2_findWays_10 7 rfl rfl)
theorem dX2_findWays_242 : decode cX2_findWays 242 = .ok (.iastore, 1) := dk_79 (dk_at dksX2_findWays_10 8 rfl rfl)
theorem dX2_findWays_243 : decode cX2_findWays 243 = .ok (.iinc 6 1, 3) := dk_132 6 1 (dk_at dksX2_findWays_10 9 rfl rfl)
theorem dX2_findWays_246 : decode cX2_findWays 246 = .ok (.goto (-148), 3) := dk_167 255 108 (dk_at dksX2_findWays_10 12 rfl rfl)
theorem dX2_findWays_249 : decode cX2_findWays 249 = .ok (.iinc 5 1, 3) := dk_132 5 1 (dk_at dksX2_findWays_10 15 rfl rfl)
theorem dX2_findWays_252 : decode cX2_findWays 252 = .ok (.goto (-166), 3) := dk_167 255 90 (dk_at dksX2_findWays_10 18 rfl rfl)
theorem dX2_findWays_255 : decode cX2_findWays 255 = .ok (.iinc 4 1, 3) := dk_132 4 1 (dk_at dksX2_findWays_10 21 rfl rfl)
theorem dX2_findWays_258 : decode cX2_findWays 258 = .ok (.goto (-184), 3) := dk_167 255 72 (dk_at dksX2_findWays_11 0 rfl rfl)
theorem dX2_findWays_261 : decode cX2_findWays 261 = .ok (.return_, 1) := dk_177 (dk_at dksX2_findWays_11 3 rfl rfl)
abbrev cX2_feeOf : ByteArray := prog_11_method_15_code
def yX2_feeOf : MethodName := ⟨RX2, "feeOf", "(II)J"⟩
def dkwX2_feeOf_0 : List UInt8 := [28, 133, 42, 180, 0, 17, 27, 46, 133, 105, 20, 0, 143, 109, 173]
abbrev dktX2_feeOf_0 : List UInt8 := dkwX2_feeOf_0 ++ []
theorem dksX2_feeOf_0 : cX2_feeOf.data.toList.drop 0 = dktX2_feeOf_0 := by decide +kernel
theorem dX2_feeOf_0 : decode cX2_feeOf 0 = .ok (.iload_n 2, 1) := dk_28 (dk_at dksX2_feeOf_0 0 rfl rfl)
theorem dX2_feeOf_1 : decode cX2_feeOf 1 = .ok (.i2l, 1) := dk_133 (dk_at dksX2_feeOf_0 1 rfl rfl)
theorem dX2_feeOf_2 : decode cX2_feeOf 2 = .ok (.aload_n 0, 1) := dk_42 (dk_at dksX2_feeOf_0 2 rfl rfl)
theorem dX2_feeOf_3 : decode cX2_feeOf 3 = .ok (.getfield 17, 3) := dk_180 0 17 (dk_at dksX2_feeOf_0 3 rfl rfl)
theorem dX2_feeOf_6 : decode cX2_feeOf 6 = .ok (.iload_n 1, 1) := dk_27 (dk_at dksX2_feeOf_0 6 rfl rfl)
theorem dX2_feeOf_7 : decode cX2_feeOf 7 = .ok (.iaload, 1) := dk_46 (dk_at dksX2_feeOf_0 7 rfl rfl)
theorem dX2_feeOf_8 : decode cX2_feeOf 8 = .ok (.i2l, 1) := dk_133 (dk_at dksX2_feeOf_0 8 rfl rfl)
theorem dX2_feeOf_9 : decode cX2_feeOf 9 = .ok (.lmul, 1) := dk_105 (dk_at dksX2_feeOf_0 9 rfl rfl)
theorem dX2_feeOf_10 : decode cX2_feeOf 10 = .ok (.ldc2_w 143, 3) := dk_20 0 143 (dk_at dksX2_feeOf_0 10 rfl rfl)
theorem dX2_feeOf_13 : decode cX2_feeOf 13 = .ok (.ldiv, 1) := dk_109 (dk_at dksX2_feeOf_0 13 rfl rfl)
theorem dX2_feeOf_14 : decode cX2_feeOf 14 = .ok (.lreturn, 1) := dk_173 (dk_at dksX2_feeOf_0 14 rfl rfl)
abbrev cX2_canOwe : ByteArray := prog_11_method_17_code
def yX2_canOwe : MethodName := ⟨RX2, "canOwe", "(III)Z"⟩
def dkwX2_canOwe_2 : List UInt8 := [157, 0, 7, 4, 167, 0, 4, 3, 172]
abbrev dktX2_canOwe_2 : List UInt8 := dkwX2_canOwe_2 ++ []
def dkwX2_canOwe_1 : List UInt8 := [27, 104, 28, 96, 47, 29, 133, 97, 42, 180, 0, 100, 28, 47, 97, 42, 28, 27, 182, 0, 149, 148]
abbrev dktX2_canOwe_1 : List UInt8 := dkwX2_canOwe_1 ++ dktX2_canOwe_2
def dkwX2_canOwe_0 : List UInt8 := [27, 28, 159, 0, 51, 42, 180, 0, 100, 28, 47, 20, 0, 147, 148, 156, 0, 38, 42, 180, 0, 36, 16, 12]
abbrev dktX2_canOwe_0 : List UInt8 := dkwX2_canOwe_0 ++ dktX2_canOwe_1
theorem dksX2_canOwe_0 : cX2_canOwe.data.toList.drop 0 = dktX2_canOwe_0 := by decide +kernel
theorem dksX2_canOwe_1 : cX2_canOwe.data.toList.drop 24 = dktX2_canOwe_1 := dk_seg dksX2_canOwe_0 24 rfl rfl
theorem dksX2_canOwe_2 : cX2_canOwe.data.toList.drop 46 = dktX2_canOwe_2 := dk_seg dksX2_canOwe_1 22 rfl rfl
theorem dX2_canOwe_0 : decode cX2_canOwe 0 = .ok (.iload_n 1, 1) := dk_27 (dk_at dksX2_canOwe_0 0 rfl rfl)
theorem dX2_canOwe_1 : decode cX2_canOwe 1 = .ok (.iload_n 2, 1) := dk_28 (dk_at dksX2_canOwe_0 1 rfl rfl)
theorem dX2_canOwe_2 : decode cX2_canOwe 2 = .ok (.if_icmp .eq 51, 3) := dk_159 0 51 (dk_at dksX2_canOwe_0 2 rfl rfl)
theorem dX2_canOwe_5 : decode cX2_canOwe 5 = .ok (.aload_n 0, 1) := dk_42 (dk_at dksX2_canOwe_0 5 rfl rfl)
theorem dX2_canOwe_6 : decode cX2_canOwe 6 = .ok (.getfield 100, 3) := dk_180 0 100 (dk_at dksX2_canOwe_0 6 rfl rfl)
theorem dX2_canOwe_9 : decode cX2_canOwe 9 = .ok (.iload_n 2, 1) := dk_28 (dk_at dksX2_canOwe_0 9 rfl rfl)
theorem dX2_canOwe_10 : decode cX2_canOwe 10 = .ok (.laload, 1) := dk_47 (dk_at dksX2_canOwe_0 10 rfl rfl)
theorem dX2_canOwe_11 : decode cX2_canOwe 11 = .ok (.ldc2_w 147, 3) := dk_20 0 147 (dk_at dksX2_canOwe_0 11 rfl rfl)
theorem dX2_canOwe_14 : decode cX2_canOwe 14 = .ok (.lcmp, 1) := dk_148 (dk_at dksX2_canOwe_0 14 rfl rfl)
theorem dX2_canOwe_15 : decode cX2_canOwe 15 = .ok (.ifCond .ge 38, 3) := dk_156 0 38 (dk_at dksX2_canOwe_0 15 rfl rfl)
theorem dX2_canOwe_18 : decode cX2_canOwe 18 = .ok (.aload_n 0, 1) := dk_42 (dk_at dksX2_canOwe_0 18 rfl rfl)
theorem dX2_canOwe_19 : decode cX2_canOwe 19 = .ok (.getfield 36, 3) := dk_180 0 36 (dk_at dksX2_canOwe_0 19 rfl rfl)
theorem dX2_canOwe_22 : decode cX2_canOwe 22 = .ok (.bipush 12, 2) := dk_16 12 (dk_at dksX2_canOwe_0 22 rfl rfl)
theorem dX2_canOwe_24 : decode cX2_canOwe 24 = .ok (.iload_n 1, 1) := dk_27 (dk_at dksX2_canOwe_1 0 rfl rfl)
theorem dX2_canOwe_25 : decode cX2_canOwe 25 = .ok (.imul, 1) := dk_104 (dk_at dksX2_canOwe_1 1 rfl rfl)
theorem dX2_canOwe_26 : decode cX2_canOwe 26 = .ok (.iload_n 2, 1) := dk_28 (dk_at dksX2_canOwe_1 2 rfl rfl)
theorem dX2_canOwe_27 : decode cX2_canOwe 27 = .ok (.iadd, 1) := dk_96 (dk_at dksX2_canOwe_1 3 rfl rfl)
theorem dX2_canOwe_28 : decode cX2_canOwe 28 = .ok (.laload, 1) := dk_47 (dk_at dksX2_canOwe_1 4 rfl rfl)
theorem dX2_canOwe_29 : decode cX2_canOwe 29 = .ok (.iload_n 3, 1) := dk_29 (dk_at dksX2_canOwe_1 5 rfl rfl)
theorem dX2_canOwe_30 : decode cX2_canOwe 30 = .ok (.i2l, 1) := dk_133 (dk_at dksX2_canOwe_1 6 rfl rfl)
theorem dX2_canOwe_31 : decode cX2_canOwe 31 = .ok (.ladd, 1) := dk_97 (dk_at dksX2_canOwe_1 7 rfl rfl)
theorem dX2_canOwe_32 : decode cX2_canOwe 32 = .ok (.aload_n 0, 1) := dk_42 (dk_at dksX2_canOwe_1 8 rfl rfl)
theorem dX2_canOwe_33 : decode cX2_canOwe 33 = .ok (.getfield 100, 3) := dk_180 0 100 (dk_at dksX2_canOwe_1 9 rfl rfl)
theorem dX2_canOwe_36 : decode cX2_canOwe 36 = .ok (.iload_n 2, 1) := dk_28 (dk_at dksX2_canOwe_1 12 rfl rfl)
theorem dX2_canOwe_37 : decode cX2_canOwe 37 = .ok (.laload, 1) := dk_47 (dk_at dksX2_canOwe_1 13 rfl rfl)
theorem dX2_canOwe_38 : decode cX2_canOwe 38 = .ok (.ladd, 1) := dk_97 (dk_at dksX2_canOwe_1 14 rfl rfl)
theorem dX2_canOwe_39 : decode cX2_canOwe 39 = .ok (.aload_n 0, 1) := dk_42 (dk_at dksX2_canOwe_1 15 rfl rfl)
theorem dX2_canOwe_40 : decode cX2_canOwe 40 = .ok (.iload_n 2, 1) := dk_28 (dk_at dksX2_canOwe_1 16 rfl rfl)
theorem dX2_canOwe_41 : decode cX2_canOwe 41 = .ok (.iload_n 1, 1) := dk_27 (dk_at dksX2_canOwe_1 17 rfl rfl)
theorem dX2_canOwe_42 : decode cX2_canOwe 42 = .ok (.invokevirtual 149, 3) := dk_182 0 149 (dk_at dksX2_canOwe_1 18 rfl rfl)
theorem dX2_canOwe_45 : decode cX2_canOwe 45 = .ok (.lcmp, 1) := dk_148 (dk_at dksX2_canOwe_1 21 rfl rfl)
theorem dX2_canOwe_46 : decode cX2_canOwe 46 = .ok (.ifCond .gt 7, 3) := dk_157 0 7 (dk_at dksX2_canOwe_2 0 rfl rfl)
theorem dX2_canOwe_49 : decode cX2_canOwe 49 = .ok (.iconst 1, 1) := dk_4 (dk_at dksX2_canOwe_2 3 rfl rfl)
theorem dX2_canOwe_50 : decode cX2_canOwe 50 = .ok (.goto 4, 3) := dk_167 0 4 (dk_at dksX2_canOwe_2 4 rfl rfl)
theorem dX2_canOwe_53 : decode cX2_canOwe 53 = .ok (.iconst 0, 1) := dk_3 (dk_at dksX2_canOwe_2 7 rfl rfl)
theorem dX2_canOwe_54 : decode cX2_canOwe 54 = .ok (.ireturn, 1) := dk_172 (dk_at dksX2_canOwe_2 8 rfl rfl)
abbrev cX2_limitOf : ByteArray := prog_11_method_16_code
def yX2_limitOf : MethodName := ⟨RX2, "limitOf", "(II)J"⟩
def dkwX2_limitOf_1 : List UInt8 := [20, 0, 145, 42, 180, 0, 30, 29, 46, 133, 105, 167, 0, 10, 42, 180, 0, 30, 29, 46, 133, 173]
abbrev dktX2_limitOf_1 : List UInt8 := dkwX2_limitOf_1 ++ []
def dkwX2_limitOf_0 : List UInt8 := [16, 12, 27, 104, 28, 96, 62, 42, 180, 0, 131, 153, 0, 26, 42, 180, 0, 33, 29, 51, 153, 0, 17]
abbrev dktX2_limitOf_0 : List UInt8 := dkwX2_limitOf_0 ++ dktX2_limitOf_1
theorem dksX2_limitOf_0 : cX2_limitOf.data.toList.drop 0 = dktX2_limitOf_0 := by decide +kernel
theorem dksX2_limitOf_1 : cX2_limitOf.data.toList.drop 23 = dktX2_limitOf_1 := dk_seg dksX2_limitOf_0 23 rfl rfl
theorem dX2_limitOf_0 : decode cX2_limitOf 0 = .ok (.bipush 12, 2) := dk_16 12 (dk_at dksX2_limitOf_0 0 rfl rfl)
theorem dX2_limitOf_2 : decode cX2_limitOf 2 = .ok (.iload_n 1, 1) := dk_27 (dk_at dksX2_limitOf_0 2 rfl rfl)
theorem dX2_limitOf_3 : decode cX2_limitOf 3 = .ok (.imul, 1) := dk_104 (dk_at dksX2_limitOf_0 3 rfl rfl)
theorem dX2_limitOf_4 : decode cX2_limitOf 4 = .ok (.iload_n 2, 1) := dk_28 (dk_at dksX2_limitOf_0 4 rfl rfl)
theorem dX2_limitOf_5 : decode cX2_limitOf 5 = .ok (.iadd, 1) := dk_96 (dk_at dksX2_limitOf_0 5 rfl rfl)
theorem dX2_limitOf_6 : decode cX2_limitOf 6 = .ok (.istore_n 3, 1) := dk_62 (dk_at dksX2_limitOf_0 6 rfl rfl)
theorem dX2_limitOf_7 : decode cX2_limitOf 7 = .ok (.aload_n 0, 1) := dk_42 (dk_at dksX2_limitOf_0 7 rfl rfl)
theorem dX2_limitOf_8 : decode cX2_limitOf 8 = .ok (.getfield 131, 3) := dk_180 0 131 (dk_at dksX2_limitOf_0 8 rfl rfl)
theorem dX2_limitOf_11 : decode cX2_limitOf 11 = .ok (.ifCond .eq 26, 3) := dk_153 0 26 (dk_at dksX2_limitOf_0 11 rfl rfl)
theorem dX2_limitOf_14 : decode cX2_limitOf 14 = .ok (.aload_n 0, 1) := dk_42 (dk_at dksX2_limitOf_0 14 rfl rfl)
theorem dX2_limitOf_15 : decode cX2_limitOf 15 = .ok (.getfield 33, 3) := dk_180 0 33 (dk_at dksX2_limitOf_0 15 rfl rfl)
theorem dX2_limitOf_18 : decode cX2_limitOf 18 = .ok (.iload_n 3, 1) := dk_29 (dk_at dksX2_limitOf_0 18 rfl rfl)
theorem dX2_limitOf_19 : decode cX2_limitOf 19 = .ok (.baload, 1) := dk_51 (dk_at dksX2_limitOf_0 19 rfl rfl)
theorem dX2_limitOf_20 : decode cX2_limitOf 20 = .ok (.ifCond .eq 17, 3) := dk_153 0 17 (dk_at dksX2_limitOf_0 20 rfl rfl)
theorem dX2_limitOf_23 : decode cX2_limitOf 23 = .ok (.ldc2_w 145, 3) := dk_20 0 145 (dk_at dksX2_limitOf_1 0 rfl rfl)
theorem dX2_limitOf_26 : decode cX2_limitOf 26 = .ok (.aload_n 0, 1) := dk_42 (dk_at dksX2_limitOf_1 3 rfl rfl)
theorem dX2_limitOf_27 : decode cX2_limitOf 27 = .ok (.getfield 30, 3) := dk_180 0 30 (dk_at dksX2_limitOf_1 4 rfl rfl)
theorem dX2_limitOf_30 : decode cX2_limitOf 30 = .ok (.iload_n 3, 1) := dk_29 (dk_at dksX2_limitOf_1 7 rfl rfl)
theorem dX2_limitOf_31 : decode cX2_limitOf 31 = .ok (.iaload, 1) := dk_46 (dk_at dksX2_limitOf_1 8 rfl rfl)
theorem dX2_limitOf_32 : decode cX2_limitOf 32 = .ok (.i2l, 1) := dk_133 (dk_at dksX2_limitOf_1 9 rfl rfl)
theorem dX2_limitOf_33 : decode cX2_limitOf 33 = .ok (.lmul, 1) := dk_105 (dk_at dksX2_limitOf_1 10 rfl rfl)
theorem dX2_limitOf_34 : decode cX2_limitOf 34 = .ok (.goto 10, 3) := dk_167 0 10 (dk_at dksX2_limitOf_1 11 rfl rfl)
theorem dX2_limitOf_37 : decode cX2_limitOf 37 = .ok (.aload_n 0, 1) := dk_42 (dk_at dksX2_limitOf_1 14 rfl rfl)
theorem dX2_limitOf_38 : decode cX2_limitOf 38 = .ok (.getfield 30, 3) := dk_180 0 30 (dk_at dksX2_limitOf_1 15 rfl rfl)
theorem dX2_limitOf_41 : decode cX2_limitOf 41 = .ok (.iload_n 3, 1) := dk_29 (dk_at dksX2_limitOf_1 18 rfl rfl)
theorem dX2_limitOf_42 : decode cX2_limitOf 42 = .ok (.iaload, 1) := dk_46 (dk_at dksX2_limitOf_1 19 rfl rfl)
theorem dX2_limitOf_43 : decode cX2_limitOf 43 = .ok (.i2l, 1) := dk_133 (dk_at dksX2_limitOf_1 20 rfl rfl)
theorem dX2_limitOf_44 : decode cX2_limitOf 44 = .ok (.lreturn, 1) := dk_173 (dk_at dksX2_limitOf_1 21 rfl rfl)
abbrev cX2_lay : ByteArray := prog_11_method_20_code
def yX2_lay : MethodName := ⟨RX2, "lay", "(III)V"⟩
def dkwX2_lay_4 : List UInt8 := [27, 28, 21, 4, 96, 4, 182, 0, 139, 132, 4, 1, 167, 255, 198, 177]
abbrev dktX2_lay_4 : List UInt8 := dkwX2_lay_4 ++ []
def dkwX2_lay_3 : List UInt8 := [180, 0, 45, 27, 46, 133, 42, 180, 0, 100, 42, 180, 0, 106, 21, 4, 4, 96, 46, 47, 97, 136, 79, 42]
abbrev dktX2_lay_3 : List UInt8 := dkwX2_lay_3 ++ dktX2_lay_4
def dkwX2_lay_2 : List UInt8 := [21, 4, 29, 4, 100, 162, 0, 56, 42, 180, 0, 69, 16, 12, 27, 104, 28, 96, 21, 4, 96, 42]
abbrev dktX2_lay_2 : List UInt8 := dkwX2_lay_2 ++ dktX2_lay_3
def dkwX2_lay_1 : List UInt8 := [27, 104, 28, 96, 21, 4, 96, 42, 180, 0, 106, 21, 4, 46, 79, 132, 4, 1, 167, 255, 226, 3, 54, 4]
abbrev dktX2_lay_1 : List UInt8 := dkwX2_lay_1 ++ dktX2_lay_2
def dkwX2_lay_0 : List UInt8 := [42, 180, 0, 63, 27, 28, 29, 96, 79, 3, 54, 4, 21, 4, 29, 162, 0, 30, 42, 180, 0, 66, 16, 12]
abbrev dktX2_lay_0 : List UInt8 := dkwX2_lay_0 ++ dktX2_lay_1
theorem dksX2_lay_0 : cX2_lay.data.toList.drop 0 = dktX2_lay_0 := by decide +kernel
theorem dksX2_lay_1 : cX2_lay.data.toList.drop 24 = dktX2_lay_1 := dk_seg dksX2_lay_0 24 rfl rfl
theorem dksX2_lay_2 : cX2_lay.data.toList.drop 48 = dktX2_lay_2 := dk_seg dksX2_lay_1 24 rfl rfl
theorem dksX2_lay_3 : cX2_lay.data.toList.drop 70 = dktX2_lay_3 := dk_seg dksX2_lay_2 22 rfl rfl
theorem dksX2_lay_4 : cX2_lay.data.toList.drop 94 = dktX2_lay_4 := dk_seg dksX2_lay_3 24 rfl rfl
theorem dX2_lay_0 : decode cX2_lay 0 = .ok (.aload_n 0, 1) := dk_42 (dk_at dksX2_lay_0 0 rfl rfl)
theorem dX2_lay_1 : decode cX2_lay 1 = .ok (.getfield 63, 3) := dk_180 0 63 (dk_at dksX2_lay_0 1 rfl rfl)
theorem dX2_lay_4 : decode cX2_lay 4 = .ok (.iload_n 1, 1) := dk_27 (dk_at dksX2_lay_0 4 rfl rfl)
theorem dX2_lay_5 : decode cX2_lay 5 = .ok (.iload_n 2, 1) := dk_28 (dk_at dksX2_lay_0 5 rfl rfl)
theorem dX2_lay_6 : decode cX2_lay 6 = .ok (.iload_n 3, 1) := dk_29 (dk_at dksX2_lay_0 6 rfl rfl)
theorem dX2_lay_7 : decode cX2_lay 7 = .ok (.iadd, 1) := dk_96 (dk_at dksX2_lay_0 7 rfl rfl)
theorem dX2_lay_8 : decode cX2_lay 8 = .ok (.iastore, 1) := dk_79 (dk_at dksX2_lay_0 8 rfl rfl)
theorem dX2_lay_9 : decode cX2_lay 9 = .ok (.iconst 0, 1) := dk_3 (dk_at dksX2_lay_0 9 rfl rfl)
theorem dX2_lay_10 : decode cX2_lay 10 = .ok (.istore 4, 2) := dk_54 4 (dk_at dksX2_lay_0 10 rfl rfl)
theorem dX2_lay_12 : decode cX2_lay 12 = .ok (.iload 4, 2) := dk_21 4 (dk_at dksX2_lay_0 12 rfl rfl)
theorem dX2_lay_14 : decode cX2_lay 14 = .ok (.iload_n 3, 1) := dk_29 (dk_at dksX2_lay_0 14 rfl rfl)
theorem dX2_lay_15 : decode cX2_lay 15 = .ok (.if_icmp .ge 30, 3) := dk_162 0 30 (dk_at dksX2_lay_0 15 rfl rfl)
theorem dX2_lay_18 : decode cX2_lay 18 = .ok (.aload_n 0, 1) := dk_42 (dk_at dksX2_lay_0 18 rfl rfl)
theorem dX2_lay_19 : decode cX2_lay 19 = .ok (.getfield 66, 3) := dk_180 0 66 (dk_at dksX2_lay_0 19 rfl rfl)
theorem dX2_lay_22 : decode cX2_lay 22 = .ok (.bipush 12, 2) := dk_16 12 (dk_at dksX2_lay_0 22 rfl rfl)
theorem dX2_lay_24 : decode cX2_lay 24 = .ok (.iload_n 1, 1) := dk_27 (dk_at dksX2_lay_1 0 rfl rfl)
theorem dX2_lay_25 : decode cX2_lay 25 = .ok (.imul, 1) := dk_104 (dk_at dksX2_lay_1 1 rfl rfl)
theorem dX2_lay_26 : decode cX2_lay 26 = .ok (.iload_n 2, 1) := dk_28 (dk_at dksX2_lay_1 2 rfl rfl)
theorem dX2_lay_27 : decode cX2_lay 27 = .ok (.iadd, 1) := dk_96 (dk_at dksX2_lay_1 3 rfl rfl)
theorem dX2_lay_28 : decode cX2_lay 28 = .ok (.iload 4, 2) := dk_21 4 (dk_at dksX2_lay_1 4 rfl rfl)
theorem dX2_lay_30 : decode cX2_lay 30 = .ok (.iadd, 1) := dk_96 (dk_at dksX2_lay_1 6 rfl rfl)
theorem dX2_lay_31 : decode cX2_lay 31 = .ok (.aload_n 0, 1) := dk_42 (dk_at dksX2_lay_1 7 rfl rfl)
theorem dX2_lay_32 : decode cX2_lay 32 = .ok (.getfield 106, 3) := dk_180 0 106 (dk_at dksX2_lay_1 8 rfl rfl)
theorem dX2_lay_35 : decode cX2_lay 35 = .ok (.iload 4, 2) := dk_21 4 (dk_at dksX2_lay_1 11 rfl rfl)
theorem dX2_lay_37 : decode cX2_lay 37 = .ok (.iaload, 1) := dk_46 (dk_at dksX2_lay_1 13 rfl rfl)
theorem dX2_lay_38 : decode cX2_lay 38 = .ok (.iastore, 1) := dk_79 (dk_at dksX2_lay_1 14 rfl rfl)
theorem dX2_lay_39 : decode cX2_lay 39 = .ok (.iinc 4 1, 3) := dk_132 4 1 (dk_at dksX2_lay_1 15 rfl rfl)
theorem dX2_lay_42 : decode cX2_lay 42 = .ok (.goto (-30), 3) := dk_167 255 226 (dk_at dksX2_lay_1 18 rfl rfl)
theorem dX2_lay_45 : decode cX2_lay 45 = .ok (.iconst 0, 1) := dk_3 (dk_at dksX2_lay_1 21 rfl rfl)
theorem dX2_lay_46 : decode cX2_lay 46 = .ok (.istore 4, 2) := dk_54 4 (dk_at dksX2_lay_1 22 rfl rfl)
theorem dX2_lay_48 : decode cX2_lay 48 = .ok (.iload 4, 2) := dk_21 4 (dk_at dksX2_lay_2 0 rfl rfl)
theorem dX2_lay_50 : decode cX2_lay 50 = .ok (.iload_n 3, 1) := dk_29 (dk_at dksX2_lay_2 2 rfl rfl)
theorem dX2_lay_51 : decode cX2_lay 51 = .ok (.iconst 1, 1) := dk_4 (dk_at dksX2_lay_2 3 rfl rfl)
theorem dX2_lay_52 : decode cX2_lay 52 = .ok (.isub, 1) := dk_100 (dk_at dksX2_lay_2 4 rfl rfl)
theorem dX2_lay_53 : decode cX2_lay 53 = .ok (.if_icmp .ge 56, 3) := dk_162 0 56 (dk_at dksX2_lay_2 5 rfl rfl)
theorem dX2_lay_56 : decode cX2_lay 56 = .ok (.aload_n 0, 1) := dk_42 (dk_at dksX2_lay_2 8 rfl rfl)
theorem dX2_lay_57 : decode cX2_lay 57 = .ok (.getfield 69, 3) := dk_180 0 69 (dk_at dksX2_lay_2 9 rfl rfl)
theorem dX2_lay_60 : decode cX2_lay 60 = .ok (.bipush 12, 2) := dk_16 12 (dk_at dksX2_lay_2 12 rfl rfl)
theorem dX2_lay_62 : decode cX2_lay 62 = .ok (.iload_n 1, 1) := dk_27 (dk_at dksX2_lay_2 14 rfl rfl)
theorem dX2_lay_63 : decode cX2_lay 63 = .ok (.imul, 1) := dk_104 (dk_at dksX2_lay_2 15 rfl rfl)
theorem dX2_lay_64 : decode cX2_lay 64 = .ok (.iload_n 2, 1) := dk_28 (dk_at dksX2_lay_2 16 rfl rfl)
theorem dX2_lay_65 : decode cX2_lay 65 = .ok (.iadd, 1) := dk_96 (dk_at dksX2_lay_2 17 rfl rfl)
theorem dX2_lay_66 : decode cX2_lay 66 = .ok (.iload 4, 2) := dk_21 4 (dk_at dksX2_lay_2 18 rfl rfl)
theorem dX2_lay_68 : decode cX2_lay 68 = .ok (.iadd, 1) := dk_96 (dk_at dksX2_lay_2 20 rfl rfl)
theorem dX2_lay_69 : decode cX2_lay 69 = .ok (.aload_n 0, 1) := dk_42 (dk_at dksX2_lay_2 21 rfl rfl)
theorem dX2_lay_70 : decode cX2_lay 70 = .ok (.getfield 45, 3) := dk_180 0 45 (dk_at dksX2_lay_3 0 rfl rfl)
theorem dX2_lay_73 : decode cX2_lay 73 = .ok (.iload_n 1, 1) := dk_27 (dk_at dksX2_lay_3 3 rfl rfl)
theorem dX2_lay_74 : decode cX2_lay 74 = .ok (.iaload, 1) := dk_46 (dk_at dksX2_lay_3 4 rfl rfl)
theorem dX2_lay_75 : decode cX2_lay 75 = .ok (.i2l, 1) := dk_133 (dk_at dksX2_lay_3 5 rfl rfl)
theorem dX2_lay_76 : decode cX2_lay 76 = .ok (.aload_n 0, 1) := dk_42 (dk_at dksX2_lay_3 6 rfl rfl)
theorem dX2_lay_77 : decode cX2_lay 77 = .ok (.getfield 100, 3) := dk_180 0 100 (dk_at dksX2_lay_3 7 rfl rfl)
theorem dX2_lay_80 : decode cX2_lay 80 = .ok (.aload_n 0, 1) := dk_42 (dk_at dksX2_lay_3 10 rfl rfl)
theorem dX2_lay_81 : decode cX2_lay 81 = .ok (.getfield 106, 3) := dk_180 0 106 (dk_at dksX2_lay_3 11 rfl rfl)
theorem dX2_lay_84 : decode cX2_lay 84 = .ok (.iload 4, 2) := dk_21 4 (dk_at dksX2_lay_3 14 rfl rfl)
theorem dX2_lay_86 : decode cX2_lay 86 = .ok (.iconst 1, 1) := dk_4 (dk_at dksX2_lay_3 16 rfl rfl)
theorem dX2_lay_87 : decode cX2_lay 87 = .ok (.iadd, 1) := dk_96 (dk_at dksX2_lay_3 17 rfl rfl)
theorem dX2_lay_88 : decode cX2_lay 88 = .ok (.iaload, 1) := dk_46 (dk_at dksX2_lay_3 18 rfl rfl)
theorem dX2_lay_89 : decode cX2_lay 89 = .ok (.laload, 1) := dk_47 (dk_at dksX2_lay_3 19 rfl rfl)
theorem dX2_lay_90 : decode cX2_lay 90 = .ok (.ladd, 1) := dk_97 (dk_at dksX2_lay_3 20 rfl rfl)
theorem dX2_lay_91 : decode cX2_lay 91 = .ok (.l2i, 1) := dk_136 (dk_at dksX2_lay_3 21 rfl rfl)
theorem dX2_lay_92 : decode cX2_lay 92 = .ok (.iastore, 1) := dk_79 (dk_at dksX2_lay_3 22 rfl rfl)
theorem dX2_lay_93 : decode cX2_lay 93 = .ok (.aload_n 0, 1) := dk_42 (dk_at dksX2_lay_3 23 rfl rfl)
theorem dX2_lay_94 : decode cX2_lay 94 = .ok (.iload_n 1, 1) := dk_27 (dk_at dksX2_lay_4 0 rfl rfl)
theorem dX2_lay_95 : decode cX2_lay 95 = .ok (.iload_n 2, 1) := dk_28 (dk_at dksX2_lay_4 1 rfl rfl)
theorem dX2_lay_96 : decode cX2_lay 96 = .ok (.iload 4, 2) := dk_21 4 (dk_at dksX2_lay_4 2 rfl rfl)
theorem dX2_lay_98 : decode cX2_lay 98 = .ok (.iadd, 1) := dk_96 (dk_at dksX2_lay_4 4 rfl rfl)
theorem dX2_lay_99 : decode cX2_lay 99 = .ok (.iconst 1, 1) := dk_4 (dk_at dksX2_lay_4 5 rfl rfl)
theorem dX2_lay_100 : decode cX2_lay 100 = .ok (.invokevirtual 139, 3) := dk_182 0 139 (dk_at dksX2_lay_4 6 rfl rfl)
theorem dX2_lay_103 : decode cX2_lay 103 = .ok (.iinc 4 1, 3) := dk_132 4 1 (dk_at dksX2_lay_4 9 rfl rfl)
theorem dX2_lay_106 : decode cX2_lay 106 = .ok (.goto (-58), 3) := dk_167 255 198 (dk_at dksX2_lay_4 12 rfl rfl)
theorem dX2_lay_109 : decode cX2_lay 109 = .ok (.return_, 1) := dk_177 (dk_at dksX2_lay_4 15 rfl rfl)
abbrev cX2_goBack : ByteArray := prog_11_method_22_code
def yX2_goBack : MethodName := ⟨RX2, "goBack", "(I)V"⟩
def dkwX2_goBack_1 : List UInt8 := [160, 0, 7, 8, 167, 0, 4, 6, 79, 177]
abbrev dktX2_goBack_1 : List UInt8 := dkwX2_goBack_1 ++ []
def dkwX2_goBack_0 : List UInt8 := [42, 27, 3, 182, 0, 162, 42, 180, 0, 42, 27, 42, 180, 0, 20, 42, 27, 182, 0, 166, 46, 5]
abbrev dktX2_goBack_0 : List UInt8 := dkwX2_goBack_0 ++ dktX2_goBack_1
theorem dksX2_goBack_0 : cX2_goBack.data.toList.drop 0 = dktX2_goBack_0 := by decide +kernel
theorem dksX2_goBack_1 : cX2_goBack.data.toList.drop 22 = dktX2_goBack_1 := dk_seg dksX2_goBack_0 22 rfl rfl
theorem dX2_goBack_0 : decode cX2_goBack 0 = .ok (.aload_n 0, 1) := dk_42 (dk_at dksX2_goBack_0 0 rfl rfl)
theorem dX2_goBack_1 : decode cX2_goBack 1 = .ok (.iload_n 1, 1) := dk_27 (dk_at dksX2_goBack_0 1 rfl rfl)
theorem dX2_goBack_2 : decode cX2_goBack 2 = .ok (.iconst 0, 1) := dk_3 (dk_at dksX2_goBack_0 2 rfl rfl)
theorem dX2_goBack_3 : decode cX2_goBack 3 = .ok (.invokevirtual 162, 3) := dk_182 0 162 (dk_at dksX2_goBack_0 3 rfl rfl)
theorem dX2_goBack_6 : decode cX2_goBack 6 = .ok (.aload_n 0, 1) := dk_42 (dk_at dksX2_goBack_0 6 rfl rfl)
theorem dX2_goBack_7 : decode cX2_goBack 7 = .ok (.getfield 42, 3) := dk_180 0 42 (dk_at dksX2_goBack_0 7 rfl rfl)
theorem dX2_goBack_10 : decode cX2_goBack 10 = .ok (.iload_n 1, 1) := dk_27 (dk_at dksX2_goBack_0 10 rfl rfl)
theorem dX2_goBack_11 : decode cX2_goBack 11 = .ok (.aload_n 0, 1) := dk_42 (dk_at dksX2_goBack_0 11 rfl rfl)
theorem dX2_goBack_12 : decode cX2_goBack 12 = .ok (.getfield 20, 3) := dk_180 0 20 (dk_at dksX2_goBack_0 12 rfl rfl)
theorem dX2_goBack_15 : decode cX2_goBack 15 = .ok (.aload_n 0, 1) := dk_42 (dk_at dksX2_goBack_0 15 rfl rfl)
theorem dX2_goBack_16 : decode cX2_goBack 16 = .ok (.iload_n 1, 1) := dk_27 (dk_at dksX2_goBack_0 16 rfl rfl)
theorem dX2_goBack_17 : decode cX2_goBack 17 = .ok (.invokevirtual 166, 3) := dk_182 0 166 (dk_at dksX2_goBack_0 17 rfl rfl)
theorem dX2_goBack_20 : decode cX2_goBack 20 = .ok (.iaload, 1) := dk_46 (dk_at dksX2_goBack_0 20 rfl rfl)
theorem dX2_goBack_21 : decode cX2_goBack 21 = .ok (.iconst 2, 1) := dk_5 (dk_at dksX2_goBack_0 21 rfl rfl)
theorem dX2_goBack_22 : decode cX2_goBack 22 = .ok (.if_icmp .ne 7, 3) := dk_160 0 7 (dk_at dksX2_goBack_1 0 rfl rfl)
theorem dX2_goBack_25 : decode cX2_goBack 25 = .ok (.iconst 5, 1) := dk_8 (dk_at dksX2_goBack_1 3 rfl rfl)
theorem dX2_goBack_26 : decode cX2_goBack 26 = .ok (.goto 4, 3) := dk_167 0 4 (dk_at dksX2_goBack_1 4 rfl rfl)
theorem dX2_goBack_29 : decode cX2_goBack 29 = .ok (.iconst 3, 1) := dk_6 (dk_at dksX2_goBack_1 7 rfl rfl)
theorem dX2_goBack_30 : decode cX2_goBack 30 = .ok (.iastore, 1) := dk_79 (dk_at dksX2_goBack_1 8 rfl rfl)
theorem dX2_goBack_31 : decode cX2_goBack 31 = .ok (.return_, 1) := dk_177 (dk_at dksX2_goBack_1 9 rfl rfl)
abbrev cX2_raid : ByteArray := prog_11_method_27_code
def yX2_raid : MethodName := ⟨RX2, "raid", "(I)I"⟩
def dkwX2_raid_4 : List UInt8 := [182, 0, 191, 29, 172]
abbrev dktX2_raid_4 : List UInt8 := dkwX2_raid_4 ++ []
def dkwX2_raid_3 : List UInt8 := [42, 180, 0, 23, 27, 42, 180, 0, 194, 17, 2, 208, 96, 79, 42, 180, 0, 26, 27, 4, 84, 42, 27]
abbrev dktX2_raid_3 : List UInt8 := dkwX2_raid_3 ++ dktX2_raid_4
def dkwX2_raid_2 : List UInt8 := [180, 0, 13, 27, 9, 80, 42, 180, 0, 97, 7, 92, 47, 29, 133, 97, 80, 42, 180, 0, 20, 27, 4, 79]
abbrev dktX2_raid_2 : List UInt8 := dkwX2_raid_2 ++ dktX2_raid_3
def dkwX2_raid_1 : List UInt8 := [5, 167, 0, 4, 3, 182, 0, 124, 154, 0, 5, 3, 172, 42, 180, 0, 13, 27, 47, 136, 62, 42]
abbrev dktX2_raid_1 : List UInt8 := dkwX2_raid_1 ++ dktX2_raid_2
def dkwX2_raid_0 : List UInt8 := [42, 27, 182, 0, 120, 61, 42, 28, 154, 0, 7, 4, 167, 0, 17, 42, 180, 0, 20, 27, 46, 153, 0, 7]
abbrev dktX2_raid_0 : List UInt8 := dkwX2_raid_0 ++ dktX2_raid_1
theorem dksX2_raid_0 : cX2_raid.data.toList.drop 0 = dktX2_raid_0 := by decide +kernel
theorem dksX2_raid_1 : cX2_raid.data.toList.drop 24 = dktX2_raid_1 := dk_seg dksX2_raid_0 24 rfl rfl
theorem dksX2_raid_2 : cX2_raid.data.toList.drop 46 = dktX2_raid_2 := dk_seg dksX2_raid_1 22 rfl rfl
theorem dksX2_raid_3 : cX2_raid.data.toList.drop 70 = dktX2_raid_3 := dk_seg dksX2_raid_2 24 rfl rfl
theorem dksX2_raid_4 : cX2_raid.data.toList.drop 93 = dktX2_raid_4 := dk_seg dksX2_raid_3 23 rfl rfl
theorem dX2_raid_0 : decode cX2_raid 0 = .ok (.aload_n 0, 1) := dk_42 (dk_at dksX2_raid_0 0 rfl rfl)
theorem dX2_raid_1 : decode cX2_raid 1 = .ok (.iload_n 1, 1) := dk_27 (dk_at dksX2_raid_0 1 rfl rfl)
theorem dX2_raid_2 : decode cX2_raid 2 = .ok (.invokevirtual 120, 3) := dk_182 0 120 (dk_at dksX2_raid_0 2 rfl rfl)
theorem dX2_raid_5 : decode cX2_raid 5 = .ok (.istore_n 2, 1) := dk_61 (dk_at dksX2_raid_0 5 rfl rfl)
theorem dX2_raid_6 : decode cX2_raid 6 = .ok (.aload_n 0, 1) := dk_42 (dk_at dksX2_raid_0 6 rfl rfl)
theorem dX2_raid_7 : decode cX2_raid 7 = .ok (.iload_n 2, 1) := dk_28 (dk_at dksX2_raid_0 7 rfl rfl)
theorem dX2_raid_8 : decode cX2_raid 8 = .ok (.ifCond .ne 7, 3) := dk_154 0 7 (dk_at dksX2_raid_0 8 rfl rfl)
theorem dX2_raid_11 : decode cX2_raid 11 = .ok (.iconst 1, 1) := dk_4 (dk_at dksX2_raid_0 11 rfl rfl)
theorem dX2_raid_12 : decode cX2_raid 12 = .ok (.goto 17, 3) := dk_167 0 17 (dk_at dksX2_raid_0 12 rfl rfl)
theorem dX2_raid_15 : decode cX2_raid 15 = .ok (.aload_n 0, 1) := dk_42 (dk_at dksX2_raid_0 15 rfl rfl)
theorem dX2_raid_16 : decode cX2_raid 16 = .ok (.getfield 20, 3) := dk_180 0 20 (dk_at dksX2_raid_0 16 rfl rfl)
theorem dX2_raid_19 : decode cX2_raid 19 = .ok (.iload_n 1, 1) := dk_27 (dk_at dksX2_raid_0 19 rfl rfl)
theorem dX2_raid_20 : decode cX2_raid 20 = .ok (.iaload, 1) := dk_46 (dk_at dksX2_raid_0 20 rfl rfl)
theorem dX2_raid_21 : decode cX2_raid 21 = .ok (.ifCond .eq 7, 3) := dk_153 0 7 (dk_at dksX2_raid_0 21 rfl rfl)
theorem dX2_raid_24 : decode cX2_raid 24 = .ok (.iconst 2, 1) := dk_5 (dk_at dksX2_raid_1 0 rfl rfl)
theorem dX2_raid_25 : decode cX2_raid 25 = .ok (.goto 4, 3) := dk_167 0 4 (dk_at dksX2_raid_1 1 rfl rfl)
theorem dX2_raid_28 : decode cX2_raid 28 = .ok (.iconst 0, 1) := dk_3 (dk_at dksX2_raid_1 4 rfl rfl)
theorem dX2_raid_29 : decode cX2_raid 29 = .ok (.invokevirtual 124, 3) := dk_182 0 124 (dk_at dksX2_raid_1 5 rfl rfl)
theorem dX2_raid_32 : decode cX2_raid 32 = .ok (.ifCond .ne 5, 3) := dk_154 0 5 (dk_at dksX2_raid_1 8 rfl rfl)
theorem dX2_raid_35 : decode cX2_raid 35 = .ok (.iconst 0, 1) := dk_3 (dk_at dksX2_raid_1 11 rfl rfl)
theorem dX2_raid_36 : decode cX2_raid 36 = .ok (.ireturn, 1) := dk_172 (dk_at dksX2_raid_1 12 rfl rfl)
theorem dX2_raid_37 : decode cX2_raid 37 = .ok (.aload_n 0, 1) := dk_42 (dk_at dksX2_raid_1 13 rfl rfl)
theorem dX2_raid_38 : decode cX2_raid 38 = .ok (.getfield 13, 3) := dk_180 0 13 (dk_at dksX2_raid_1 14 rfl rfl)
theorem dX2_raid_41 : decode cX2_raid 41 = .ok (.iload_n 1, 1) := dk_27 (dk_at dksX2_raid_1 17 rfl rfl)
theorem dX2_raid_42 : decode cX2_raid 42 = .ok (.laload, 1) := dk_47 (dk_at dksX2_raid_1 18 rfl rfl)
theorem dX2_raid_43 : decode cX2_raid 43 = .ok (.l2i, 1) := dk_136 (dk_at dksX2_raid_1 19 rfl rfl)
theorem dX2_raid_44 : decode cX2_raid 44 = .ok (.istore_n 3, 1) := dk_62 (dk_at dksX2_raid_1 20 rfl rfl)
theorem dX2_raid_45 : decode cX2_raid 45 = .ok (.aload_n 0, 1) := dk_42 (dk_at dksX2_raid_1 21 rfl rfl)
theorem dX2_raid_46 : decode cX2_raid 46 = .ok (.getfield 13, 3) := dk_180 0 13 (dk_at dksX2_raid_2 0 rfl rfl)
theorem dX2_raid_49 : decode cX2_raid 49 = .ok (.iload_n 1, 1) := dk_27 (dk_at dksX2_raid_2 3 rfl rfl)
theorem dX2_raid_50 : decode cX2_raid 50 = .ok (.lconst 0, 1) := dk_9 (dk_at dksX2_raid_2 4 rfl rfl)
theorem dX2_raid_51 : decode cX2_raid 51 = .ok (.lastore, 1) := dk_80 (dk_at dksX2_raid_2 5 rfl rfl)
theorem dX2_raid_52 : decode cX2_raid 52 = .ok (.aload_n 0, 1) := dk_42 (dk_at dksX2_raid_2 6 rfl rfl)
theorem dX2_raid_53 : decode cX2_raid 53 = .ok (.getfield 97, 3) := dk_180 0 97 (dk_at dksX2_raid_2 7 rfl rfl)
theorem dX2_raid_56 : decode cX2_raid 56 = .ok (.iconst 4, 1) := dk_7 (dk_at dksX2_raid_2 10 rfl rfl)
theorem dX2_raid_57 : decode cX2_raid 57 = .ok (.dup2, 1) := dk_92 (dk_at dksX2_raid_2 11 rfl rfl)
theorem dX2_raid_58 : decode cX2_raid 58 = .ok (.laload, 1) := dk_47 (dk_at dksX2_raid_2 12 rfl rfl)
theorem dX2_raid_59 : decode cX2_raid 59 = .ok (.iload_n 3, 1) := dk_29 (dk_at dksX2_raid_2 13 rfl rfl)
theorem dX2_raid_60 : decode cX2_raid 60 = .ok (.i2l, 1) := dk_133 (dk_at dksX2_raid_2 14 rfl rfl)
theorem dX2_raid_61 : decode cX2_raid 61 = .ok (.ladd, 1) := dk_97 (dk_at dksX2_raid_2 15 rfl rfl)
theorem dX2_raid_62 : decode cX2_raid 62 = .ok (.lastore, 1) := dk_80 (dk_at dksX2_raid_2 16 rfl rfl)
theorem dX2_raid_63 : decode cX2_raid 63 = .ok (.aload_n 0, 1) := dk_42 (dk_at dksX2_raid_2 17 rfl rfl)
theorem dX2_raid_64 : decode cX2_raid 64 = .ok (.getfield 20, 3) := dk_180 0 20 (dk_at dksX2_raid_2 18 rfl rfl)
theorem dX2_raid_67 : decode cX2_raid 67 = .ok (.iload_n 1, 1) := dk_27 (dk_at dksX2_raid_2 21 rfl rfl)
theorem dX2_raid_68 : decode cX2_raid 68 = .ok (.iconst 1, 1) := dk_4 (dk_at dksX2_raid_2 22 rfl rfl)
theorem dX2_raid_69 : decode cX2_raid 69 = .ok (.iastore, 1) := dk_79 (dk_at dksX2_raid_2 23 rfl rfl)
theorem dX2_raid_70 : decode cX2_raid 70 = .ok (.aload_n 0, 1) := dk_42 (dk_at dksX2_raid_3 0 rfl rfl)
theorem dX2_raid_71 : decode cX2_raid 71 = .ok (.getfield 23, 3) := dk_180 0 23 (dk_at dksX2_raid_3 1 rfl rfl)
theorem dX2_raid_74 : decode cX2_raid 74 = .ok (.iload_n 1, 1) := dk_27 (dk_at dksX2_raid_3 4 rfl rfl)
theorem dX2_raid_75 : decode cX2_raid 75 = .ok (.aload_n 0, 1) := dk_42 (dk_at dksX2_raid_3 5 rfl rfl)
theorem dX2_raid_76 : decode cX2_raid 76 = .ok (.getfield 194, 3) := dk_180 0 194 (dk_at dksX2_raid_3 6 rfl rfl)
theorem dX2_raid_79 : decode cX2_raid 79 = .ok (.sipush 720, 3) := dk_17 2 208 (dk_at dksX2_raid_3 9 rfl rfl)
theorem dX2_raid_82 : decode cX2_raid 82 = .ok (.iadd, 1) := dk_96 (dk_at dksX2_raid_3 12 rfl rfl)
theorem dX2_raid_83 : decode cX2_raid 83 = .ok (.iastore, 1) := dk_79 (dk_at dksX2_raid_3 13 rfl rfl)
theorem dX2_raid_84 : decode cX2_raid 84 = .ok (.aload_n 0, 1) := dk_42 (dk_at dksX2_raid_3 14 rfl rfl)
theorem dX2_raid_85 : decode cX2_raid 85 = .ok (.getfield 26, 3) := dk_180 0 26 (dk_at dksX2_raid_3 15 rfl rfl)
theorem dX2_raid_88 : decode cX2_raid 88 = .ok (.iload_n 1, 1) := dk_27 (dk_at dksX2_raid_3 18 rfl rfl)
theorem dX2_raid_89 : decode cX2_raid 89 = .ok (.iconst 1, 1) := dk_4 (dk_at dksX2_raid_3 19 rfl rfl)
theorem dX2_raid_90 : decode cX2_raid 90 = .ok (.bastore, 1) := dk_84 (dk_at dksX2_raid_3 20 rfl rfl)
theorem dX2_raid_91 : decode cX2_raid 91 = .ok (.aload_n 0, 1) := dk_42 (dk_at dksX2_raid_3 21 rfl rfl)
theorem dX2_raid_92 : decode cX2_raid 92 = .ok (.iload_n 1, 1) := dk_27 (dk_at dksX2_raid_3 22 rfl rfl)
theorem dX2_raid_93 : decode cX2_raid 93 = .ok (.invokevirtual 191, 3) := dk_182 0 191 (dk_at dksX2_raid_4 0 rfl rfl)
theorem dX2_raid_96 : decode cX2_raid 96 = .ok (.iload_n 3, 1) := dk_29 (dk_at dksX2_raid_4 3 rfl rfl)
theorem dX2_raid_97 : decode cX2_raid 97 = .ok (.ireturn, 1) := dk_172 (dk_at dksX2_raid_4 4 rfl rfl)
abbrev cX2_order : ByteArray := prog_11_method_28_code
def yX2_order : MethodName := ⟨RX2, "order", "(IIIII)I"⟩
def dkwX2_order_12 : List UInt8 := [79, 21, 9, 172]
abbrev dktX2_order_12 : List UInt8 := dkwX2_order_12 ++ []
def dkwX2_order_11 : List UInt8 := [46, 92, 46, 29, 42, 180, 0, 88, 42, 180, 0, 7, 27, 46, 46, 164, 0, 7, 4, 167, 0, 4, 3, 96]
abbrev dktX2_order_11 : List UInt8 := dkwX2_order_11 ++ dktX2_order_12
def dkwX2_order_10 : List UInt8 := [21, 9, 46, 133, 97, 80, 42, 21, 9, 3, 21, 8, 182, 0, 174, 42, 180, 0, 91, 42, 180, 0, 7, 27]
abbrev dktX2_order_10 : List UInt8 := dkwX2_order_10 ++ dktX2_order_11
def dkwX2_order_9 : List UInt8 := [27, 92, 47, 42, 180, 0, 48, 21, 9, 46, 133, 97, 80, 42, 180, 0, 97, 3, 92, 47, 42, 180, 0, 48]
abbrev dktX2_order_9 : List UInt8 := dkwX2_order_9 ++ dktX2_order_10
def dkwX2_order_8 : List UInt8 := [42, 180, 0, 51, 21, 9, 21, 5, 79, 42, 180, 0, 57, 21, 9, 42, 180, 0, 194, 79, 42, 180, 0, 13]
abbrev dktX2_order_8 : List UInt8 := dkwX2_order_8 ++ dktX2_order_9
def dkwX2_order_7 : List UInt8 := [180, 0, 45, 21, 9, 29, 79, 42, 180, 0, 48, 21, 9, 29, 133, 42, 180, 0, 100, 27, 47, 97, 136, 79]
abbrev dktX2_order_7 : List UInt8 := dkwX2_order_7 ++ dktX2_order_8
def dkwX2_order_6 : List UInt8 := [180, 0, 181, 54, 9, 42, 89, 180, 0, 181, 4, 96, 181, 0, 181, 42, 180, 0, 42, 21, 9, 3, 79, 42]
abbrev dktX2_order_6 : List UInt8 := dkwX2_order_6 ++ dktX2_order_7
def dkwX2_order_5 : List UInt8 := [5, 167, 0, 13, 21, 8, 154, 0, 7, 6, 167, 0, 4, 3, 182, 0, 124, 154, 0, 5, 3, 172, 42]
abbrev dktX2_order_5 : List UInt8 := dkwX2_order_5 ++ dktX2_order_6
def dkwX2_order_4 : List UInt8 := [182, 0, 170, 167, 0, 4, 3, 54, 8, 42, 21, 6, 154, 0, 7, 4, 167, 0, 22, 21, 7, 154, 0, 7]
abbrev dktX2_order_4 : List UInt8 := dkwX2_order_4 ++ dktX2_order_5
def dkwX2_order_3 : List UInt8 := [180, 0, 181, 16, 40, 162, 0, 24, 42, 180, 0, 94, 21, 4, 51, 154, 0, 14, 42, 27, 28, 29, 3]
abbrev dktX2_order_3 : List UInt8 := dkwX2_order_3 ++ dktX2_order_4
def dkwX2_order_2 : List UInt8 := [184, 0, 116, 153, 0, 7, 4, 167, 0, 4, 3, 54, 7, 21, 6, 153, 0, 38, 21, 7, 153, 0, 33, 42]
abbrev dktX2_order_2 : List UInt8 := dkwX2_order_2 ++ dktX2_order_3
def dkwX2_order_1 : List UInt8 := [3, 54, 6, 27, 28, 159, 0, 29, 29, 4, 18, 87, 184, 0, 116, 153, 0, 19, 21, 5, 3, 17, 39, 15]
abbrev dktX2_order_1 : List UInt8 := dkwX2_order_1 ++ dktX2_order_2
def dkwX2_order_0 : List UInt8 := [42, 27, 28, 182, 0, 127, 153, 0, 18, 21, 4, 3, 16, 19, 184, 0, 116, 153, 0, 7, 4, 167, 0, 4]
abbrev dktX2_order_0 : List UInt8 := dkwX2_order_0 ++ dktX2_order_1
theorem dksX2_order_0 : cX2_order.data.toList.drop 0 = dktX2_order_0 := by decide +kernel
theorem dksX2_order_1 : cX2_order.data.toList.drop 24 = dktX2_order_1 := dk_seg dksX2_order_0 24 rfl rfl
theorem dksX2_order_2 : cX2_order.data.toList.drop 48 = dktX2_order_2 := dk_seg dksX2_order_1 24 rfl rfl
theorem dksX2_order_3 : cX2_order.data.toList.drop 72 = dktX2_order_3 := dk_seg dksX2_order_2 24 rfl rfl
theorem dksX2_order_4 : cX2_order.data.toList.drop 95 = dktX2_order_4 := dk_seg dksX2_order_3 23 rfl rfl
theorem dksX2_order_5 : cX2_order.data.toList.drop 119 = dktX2_order_5 := dk_seg dksX2_order_4 24 rfl rfl
theorem dksX2_order_6 : cX2_order.data.toList.drop 142 = dktX2_order_6 := dk_seg dksX2_order_5 23 rfl rfl
theorem dksX2_order_7 : cX2_order.data.toList.drop 166 = dktX2_order_7 := dk_seg dksX2_order_6 24 rfl rfl
theorem dksX2_order_8 : cX2_order.data.toList.drop 190 = dktX2_order_8 := dk_seg dksX2_order_7 24 rfl rfl
theorem dksX2_order_9 : cX2_order.data.toList.drop 214 = dktX2_order_9 := dk_seg dksX2_order_8 24 rfl rfl
theorem dksX2_order_10 : cX2_order.data.toList.drop 238 = dktX2_order_10 := dk_seg dksX2_order_9 24 rfl rfl
theorem dksX2_order_11 : cX2_order.data.toList.drop 262 = dktX2_order_11 := dk_seg dksX2_order_10 24 rfl rfl
theorem dksX2_order_12 : cX2_order.data.toList.drop 286 = dktX2_order_12 := dk_seg dksX2_order_11 24 rfl rfl
theorem dX2_order_0 : decode cX2_order 0 = .ok (.aload_n 0, 1) := dk_42 (dk_at dksX2_order_0 0 rfl rfl)
theorem dX2_order_1 : decode cX2_order 1 = .ok (.iload_n 1, 1) := dk_27 (dk_at dksX2_order_0 1 rfl rfl)
theorem dX2_order_2 : decode cX2_order 2 = .ok (.iload_n 2, 1) := dk_28 (dk_at dksX2_order_0 2 rfl rfl)
theorem dX2_order_3 : decode cX2_order 3 = .ok (.invokevirtual 127, 3) := dk_182 0 127 (dk_at dksX2_order_0 3 rfl rfl)
theorem dX2_order_6 : decode cX2_order 6 = .ok (.ifCond .eq 18, 3) := dk_153 0 18 (dk_at dksX2_order_0 6 rfl rfl)
theorem dX2_order_9 : decode cX2_order 9 = .ok (.iload 4, 2) := dk_21 4 (dk_at dksX2_order_0 9 rfl rfl)
theorem dX2_order_11 : decode cX2_order 11 = .ok (.iconst 0, 1) := dk_3 (dk_at dksX2_order_0 11 rfl rfl)
theorem dX2_order_12 : decode cX2_order 12 = .ok (.bipush 19, 2) := dk_16 19 (dk_at dksX2_order_0 12 rfl rfl)
theorem dX2_order_14 : decode cX2_order 14 = .ok (.invokestatic 116, 3) := dk_184 0 116 (dk_at dksX2_order_0 14 rfl rfl)
theorem dX2_order_17 : decode cX2_order 17 = .ok (.ifCond .eq 7, 3) := dk_153 0 7 (dk_at dksX2_order_0 17 rfl rfl)
theorem dX2_order_20 : decode cX2_order 20 = .ok (.iconst 1, 1) := dk_4 (dk_at dksX2_order_0 20 rfl rfl)
theorem dX2_order_21 : decode cX2_order 21 = .ok (.goto 4, 3) := dk_167 0 4 (dk_at dksX2_order_0 21 rfl rfl)
theorem dX2_order_24 : decode cX2_order 24 = .ok (.iconst 0, 1) := dk_3 (dk_at dksX2_order_1 0 rfl rfl)
theorem dX2_order_25 : decode cX2_order 25 = .ok (.istore 6, 2) := dk_54 6 (dk_at dksX2_order_1 1 rfl rfl)
theorem dX2_order_27 : decode cX2_order 27 = .ok (.iload_n 1, 1) := dk_27 (dk_at dksX2_order_1 3 rfl rfl)
theorem dX2_order_28 : decode cX2_order 28 = .ok (.iload_n 2, 1) := dk_28 (dk_at dksX2_order_1 4 rfl rfl)
theorem dX2_order_29 : decode cX2_order 29 = .ok (.if_icmp .eq 29, 3) := dk_159 0 29 (dk_at dksX2_order_1 5 rfl rfl)
theorem dX2_order_32 : decode cX2_order 32 = .ok (.iload_n 3, 1) := dk_29 (dk_at dksX2_order_1 8 rfl rfl)
theorem dX2_order_33 : decode cX2_order 33 = .ok (.iconst 1, 1) := dk_4 (dk_at dksX2_order_1 9 rfl rfl)
theorem dX2_order_34 : decode cX2_order 34 = .ok (.ldc 87, 2) := dk_18 87 (dk_at dksX2_order_1 10 rfl rfl)
theorem dX2_order_36 : decode cX2_order 36 = .ok (.invokestatic 116, 3) := dk_184 0 116 (dk_at dksX2_order_1 12 rfl rfl)
theorem dX2_order_39 : decode cX2_order 39 = .ok (.ifCond .eq 19, 3) := dk_153 0 19 (dk_at dksX2_order_1 15 rfl rfl)
theorem dX2_order_42 : decode cX2_order 42 = .ok (.iload 5, 2) := dk_21 5 (dk_at dksX2_order_1 18 rfl rfl)
theorem dX2_order_44 : decode cX2_order 44 = .ok (.iconst 0, 1) := dk_3 (dk_at dksX2_order_1 20 rfl rfl)
theorem dX2_order_45 : decode cX2_order 45 = .ok (.sipush 9999, 3) := dk_17 39 15 (dk_at dksX2_order_1 21 rfl rfl)
theorem dX2_order_48 : decode cX2_order 48 = .ok (.invokestatic 116, 3) := dk_184 0 116 (dk_at dksX2_order_2 0 rfl rfl)
theorem dX2_order_51 : decode cX2_order 51 = .ok (.ifCond .eq 7, 3) := dk_153 0 7 (dk_at dksX2_order_2 3 rfl rfl)
theorem dX2_order_54 : decode cX2_order 54 = .ok (.iconst 1, 1) := dk_4 (dk_at dksX2_order_2 6 rfl rfl)
theorem dX2_order_55 : decode cX2_order 55 = .ok (.goto 4, 3) := dk_167 0 4 (dk_at dksX2_order_2 7 rfl rfl)
theorem dX2_order_58 : decode cX2_order 58 = .ok (.iconst 0, 1) := dk_3 (dk_at dksX2_order_2 10 rfl rfl)
theorem dX2_order_59 : decode cX2_order 59 = .ok (.istore 7, 2) := dk_54 7 (dk_at dksX2_order_2 11 rfl rfl)
theorem dX2_order_61 : decode cX2_order 61 = .ok (.iload 6, 2) := dk_21 6 (dk_at dksX2_order_2 13 rfl rfl)
theorem dX2_order_63 : decode cX2_order 63 = .ok (.ifCond .eq 38, 3) := dk_153 0 38 (dk_at dksX2_order_2 15 rfl rfl)
theorem dX2_order_66 : decode cX2_order 66 = .ok (.iload 7, 2) := dk_21 7 (dk_at dksX2_order_2 18 rfl rfl)
theorem dX2_order_68 : decode cX2_order 68 = .ok (.ifCond .eq 33, 3) := dk_153 0 33 (dk_at dksX2_order_2 20 rfl rfl)
theorem dX2_order_71 : decode cX2_order 71 = .ok (.aload_n 0, 1) := dk_42 (dk_at dksX2_order_2 23 rfl rfl)
theorem dX2_order_72 : decode cX2_order 72 = .ok (.getfield 181, 3) := dk_180 0 181 (dk_at dksX2_order_3 0 rfl rfl)
theorem dX2_order_75 : decode cX2_order 75 = .ok (.bipush 40, 2) := dk_16 40 (dk_at dksX2_order_3 3 rfl rfl)
theorem dX2_order_77 : decode cX2_order 77 = .ok (.if_icmp .ge 24, 3) := dk_162 0 24 (dk_at dksX2_order_3 5 rfl rfl)
theorem dX2_order_80 : decode cX2_order 80 = .ok (.aload_n 0, 1) := dk_42 (dk_at dksX2_order_3 8 rfl rfl)
theorem dX2_order_81 : decode cX2_order 81 = .ok (.getfield 94, 3) := dk_180 0 94 (dk_at dksX2_order_3 9 rfl rfl)
theorem dX2_order_84 : decode cX2_order 84 = .ok (.iload 4, 2) := dk_21 4 (dk_at dksX2_order_3 12 rfl rfl)
theorem dX2_order_86 : decode cX2_order 86 = .ok (.baload, 1) := dk_51 (dk_at dksX2_order_3 14 rfl rfl)
theorem dX2_order_87 : decode cX2_order 87 = .ok (.ifCond .ne 14, 3) := dk_154 0 14 (dk_at dksX2_order_3 15 rfl rfl)
theorem dX2_order_90 : decode cX2_order 90 = .ok (.aload_n 0, 1) := dk_42 (dk_at dksX2_order_3 18 rfl rfl)
theorem dX2_order_91 : decode cX2_order 91 = .ok (.iload_n 1, 1) := dk_27 (dk_at dksX2_order_3 19 rfl rfl)
theorem dX2_order_92 : decode cX2_order 92 = .ok (.iload_n 2, 1) := dk_28 (dk_at dksX2_order_3 20 rfl rfl)
theorem dX2_order_93 : decode cX2_order 93 = .ok (.iload_n 3, 1) := dk_29 (dk_at dksX2_order_3 21 rfl rfl)
theorem dX2_order_94 : decode cX2_order 94 = .ok (.iconst 0, 1) := dk_3 (dk_at dksX2_order_3 22 rfl rfl)
theorem dX2_order_95 : decode cX2_order 95 = .ok (.invokevirtual 170, 3) := dk_182 0 170 (dk_at dksX2_order_4 0 rfl rfl)
theorem dX2_order_98 : decode cX2_order 98 = .ok (.goto 4, 3) := dk_167 0 4 (dk_at dksX2_order_4 3 rfl rfl)
theorem dX2_order_101 : decode cX2_order 101 = .ok (.iconst 0, 1) := dk_3 (dk_at dksX2_order_4 6 rfl rfl)
theorem dX2_order_102 : decode cX2_order 102 = .ok (.istore 8, 2) := dk_54 8 (dk_at dksX2_order_4 7 rfl rfl)
theorem dX2_order_104 : decode cX2_order 104 = .ok (.aload_n 0, 1) := dk_42 (dk_at dksX2_order_4 9 rfl rfl)
theorem dX2_order_105 : decode cX2_order 105 = .ok (.iload 6, 2) := dk_21 6 (dk_at dksX2_order_4 10 rfl rfl)
theorem dX2_order_107 : decode cX2_order 107 = .ok (.ifCond .ne 7, 3) := dk_154 0 7 (dk_at dksX2_order_4 12 rfl rfl)
theorem dX2_order_110 : decode cX2_order 110 = .ok (.iconst 1, 1) := dk_4 (dk_at dksX2_order_4 15 rfl rfl)
theorem dX2_order_111 : decode cX2_order 111 = .ok (.goto 22, 3) := dk_167 0 22 (dk_at dksX2_order_4 16 rfl rfl)
theorem dX2_order_114 : decode cX2_order 114 = .ok (.iload 7, 2) := dk_21 7 (dk_at dksX2_order_4 19 rfl rfl)
theorem dX2_order_116 : decode cX2_order 116 = .ok (.ifCond .ne 7, 3) := dk_154 0 7 (dk_at dksX2_order_4 21 rfl rfl)
theorem dX2_order_119 : decode cX2_order 119 = .ok (.iconst 2, 1) := dk_5 (dk_at dksX2_order_5 0 rfl rfl)
theorem dX2_order_120 : decode cX2_order 120 = .ok (.goto 13, 3) := dk_167 0 13 (dk_at dksX2_order_5 1 rfl rfl)
theorem dX2_order_123 : decode cX2_order 123 = .ok (.iload 8, 2) := dk_21 8 (dk_at dksX2_order_5 4 rfl rfl)
theorem dX2_order_125 : decode cX2_order 125 = .ok (.ifCond .ne 7, 3) := dk_154 0 7 (dk_at dksX2_order_5 6 rfl rfl)
theorem dX2_order_128 : decode cX2_order 128 = .ok (.iconst 3, 1) := dk_6 (dk_at dksX2_order_5 9 rfl rfl)
theorem dX2_order_129 : decode cX2_order 129 = .ok (.goto 4, 3) := dk_167 0 4 (dk_at dksX2_order_5 10 rfl rfl)
theorem dX2_order_132 : decode cX2_order 132 = .ok (.iconst 0, 1) := dk_3 (dk_at dksX2_order_5 13 rfl rfl)
theorem dX2_order_133 : decode cX2_order 133 = .ok (.invokevirtual 124, 3) := dk_182 0 124 (dk_at dksX2_order_5 14 rfl rfl)
theorem dX2_order_136 : decode cX2_order 136 = .ok (.ifCond .ne 5, 3) := dk_154 0 5 (dk_at dksX2_order_5 17 rfl rfl)
theorem dX2_order_139 : decode cX2_order 139 = .ok (.iconst 0, 1) := dk_3 (dk_at dksX2_order_5 20 rfl rfl)
theorem dX2_order_140 : decode cX2_order 140 = .ok (.ireturn, 1) := dk_172 (dk_at dksX2_order_5 21 rfl rfl)
theorem dX2_order_141 : decode cX2_order 141 = .ok (.aload_n 0, 1) := dk_42 (dk_at dksX2_order_5 22 rfl rfl)
theorem dX2_order_142 : decode cX2_order 142 = .ok (.getfield 181, 3) := dk_180 0 181 (dk_at dksX2_order_6 0 rfl rfl)
theorem dX2_order_145 : decode cX2_order 145 = .ok (.istore 9, 2) := dk_54 9 (dk_at dksX2_order_6 3 rfl rfl)
theorem dX2_order_147 : decode cX2_order 147 = .ok (.aload_n 0, 1) := dk_42 (dk_at dksX2_order_6 5 rfl rfl)
theorem dX2_order_148 : decode cX2_order 148 = .ok (.dup, 1) := dk_89 (dk_at dksX2_order_6 6 rfl rfl)
theorem dX2_order_149 : decode cX2_order 149 = .ok (.getfield 181, 3) := dk_180 0 181 (dk_at dksX2_order_6 7 rfl rfl)
theorem dX2_order_152 : decode cX2_order 152 = .ok (.iconst 1, 1) := dk_4 (dk_at dksX2_order_6 10 rfl rfl)
theorem dX2_order_153 : decode cX2_order 153 = .ok (.iadd, 1) := dk_96 (dk_at dksX2_order_6 11 rfl rfl)
theorem dX2_order_154 : decode cX2_order 154 = .ok (.putfield 181, 3) := dk_181 0 181 (dk_at dksX2_order_6 12 rfl rfl)
theorem dX2_order_157 : decode cX2_order 157 = .ok (.aload_n 0, 1) := dk_42 (dk_at dksX2_order_6 15 rfl rfl)
theorem dX2_order_158 : decode cX2_order 158 = .ok (.getfield 42, 3) := dk_180 0 42 (dk_at dksX2_order_6 16 rfl rfl)
theorem dX2_order_161 : decode cX2_order 161 = .ok (.iload 9, 2) := dk_21 9 (dk_at dksX2_order_6 19 rfl rfl)
theorem dX2_order_163 : decode cX2_order 163 = .ok (.iconst 0, 1) := dk_3 (dk_at dksX2_order_6 21 rfl rfl)
theorem dX2_order_164 : decode cX2_order 164 = .ok (.iastore, 1) := dk_79 (dk_at dksX2_order_6 22 rfl rfl)
theorem dX2_order_165 : decode cX2_order 165 = .ok (.aload_n 0, 1) := dk_42 (dk_at dksX2_order_6 23 rfl rfl)
theorem dX2_order_166 : decode cX2_order 166 = .ok (.getfield 45, 3) := dk_180 0 45 (dk_at dksX2_order_7 0 rfl rfl)
theorem dX2_order_169 : decode cX2_order 169 = .ok (.iload 9, 2) := dk_21 9 (dk_at dksX2_order_7 3 rfl rfl)
theorem dX2_order_171 : decode cX2_order 171 = .ok (.iload_n 3, 1) := dk_29 (dk_at dksX2_order_7 5 rfl rfl)
theorem dX2_order_172 : decode cX2_order 172 = .ok (.iastore, 1) := dk_79 (dk_at dksX2_order_7 6 rfl rfl)
theorem dX2_order_173 : decode cX2_order 173 = .ok (.aload_n 0, 1) := dk_42 (dk_at dksX2_order_7 7 rfl rfl)
theorem dX2_order_174 : decode cX2_order 174 = .ok (.getfield 48, 3) := dk_180 0 48 (dk_at dksX2_order_7 8 rfl rfl)
theorem dX2_order_177 : decode cX2_order 177 = .ok (.iload 9, 2) := dk_21 9 (dk_at dksX2_order_7 11 rfl rfl)
theorem dX2_order_179 : decode cX2_order 179 = .ok (.iload_n 3, 1) := dk_29 (dk_at dksX2_order_7 13 rfl rfl)
theorem dX2_order_180 : decode cX2_order 180 = .ok (.i2l, 1) := dk_133 (dk_at dksX2_order_7 14 rfl rfl)
theorem dX2_order_181 : decode cX2_order 181 = .ok (.aload_n 0, 1) := dk_42 (dk_at dksX2_order_7 15 rfl rfl)
theorem dX2_order_182 : decode cX2_order 182 = .ok (.getfield 100, 3) := dk_180 0 100 (dk_at dksX2_order_7 16 rfl rfl)
theorem dX2_order_185 : decode cX2_order 185 = .ok (.iload_n 1, 1) := dk_27 (dk_at dksX2_order_7 19 rfl rfl)
theorem dX2_order_186 : decode cX2_order 186 = .ok (.laload, 1) := dk_47 (dk_at dksX2_order_7 20 rfl rfl)
theorem dX2_order_187 : decode cX2_order 187 = .ok (.ladd, 1) := dk_97 (dk_at dksX2_order_7 21 rfl rfl)
theorem dX2_order_188 : decode cX2_order 188 = .ok (.l2i, 1) := dk_136 (dk_at dksX2_order_7 22 rfl rfl)
theorem dX2_order_189 : decode cX2_order 189 = .ok (.iastore, 1) := dk_79 (dk_at dksX2_order_7 23 rfl rfl)
theorem dX2_order_190 : decode cX2_order 190 = .ok (.aload_n 0, 1) := dk_42 (dk_at dksX2_order_8 0 rfl rfl)
theorem dX2_order_191 : decode cX2_order 191 = .ok (.getfield 51, 3) := dk_180 0 51 (dk_at dksX2_order_8 1 rfl rfl)
theorem dX2_order_194 : decode cX2_order 194 = .ok (.iload 9, 2) := dk_21 9 (dk_at dksX2_order_8 4 rfl rfl)
theorem dX2_order_196 : decode cX2_order 196 = .ok (.iload 5, 2) := dk_21 5 (dk_at dksX2_order_8 6 rfl rfl)
theorem dX2_order_198 : decode cX2_order 198 = .ok (.iastore, 1) := dk_79 (dk_at dksX2_order_8 8 rfl rfl)
theorem dX2_order_199 : decode cX2_order 199 = .ok (.aload_n 0, 1) := dk_42 (dk_at dksX2_order_8 9 rfl rfl)
theorem dX2_order_200 : decode cX2_order 200 = .ok (.getfield 57, 3) := dk_180 0 57 (dk_at dksX2_order_8 10 rfl rfl)
theorem dX2_order_203 : decode cX2_order 203 = .ok (.iload 9, 2) := dk_21 9 (dk_at dksX2_order_8 13 rfl rfl)
theorem dX2_order_205 : decode cX2_order 205 = .ok (.aload_n 0, 1) := dk_42 (dk_at dksX2_order_8 15 rfl rfl)
theorem dX2_order_206 : decode cX2_order 206 = .ok (.getfield 194, 3) := dk_180 0 194 (dk_at dksX2_order_8 16 rfl rfl)
theorem dX2_order_209 : decode cX2_order 209 = .ok (.iastore, 1) := dk_79 (dk_at dksX2_order_8 19 rfl rfl)
theorem dX2_order_210 : decode cX2_order 210 = .ok (.aload_n 0, 1) := dk_42 (dk_at dksX2_order_8 20 rfl rfl)
theorem dX2_order_211 : decode cX2_order 211 = .ok (.getfield 13, 3) := dk_180 0 13 (dk_at dksX2_order_8 21 rfl rfl)
theorem dX2_order_214 : decode cX2_order 214 = .ok (.iload_n 1, 1) := dk_27 (dk_at dksX2_order_9 0 rfl rfl)
theorem dX2_order_215 : decode cX2_order 215 = .ok (.dup2, 1) := dk_92 (dk_at dksX2_order_9 1 rfl rfl)
theorem dX2_order_216 : decode cX2_order 216 = .ok (.laload, 1) := dk_47 (dk_at dksX2_order_9 2 rfl rfl)
theorem dX2_order_217 : decode cX2_order 217 = .ok (.aload_n 0, 1) := dk_42 (dk_at dksX2_order_9 3 rfl rfl)
theorem dX2_order_218 : decode cX2_order 218 = .ok (.getfield 48, 3) := dk_180 0 48 (dk_at dksX2_order_9 4 rfl rfl)
theorem dX2_order_221 : decode cX2_order 221 = .ok (.iload 9, 2) := dk_21 9 (dk_at dksX2_order_9 7 rfl rfl)
theorem dX2_order_223 : decode cX2_order 223 = .ok (.iaload, 1) := dk_46 (dk_at dksX2_order_9 9 rfl rfl)
theorem dX2_order_224 : decode cX2_order 224 = .ok (.i2l, 1) := dk_133 (dk_at dksX2_order_9 10 rfl rfl)
theorem dX2_order_225 : decode cX2_order 225 = .ok (.ladd, 1) := dk_97 (dk_at dksX2_order_9 11 rfl rfl)
theorem dX2_order_226 : decode cX2_order 226 = .ok (.lastore, 1) := dk_80 (dk_at dksX2_order_9 12 rfl rfl)
theorem dX2_order_227 : decode cX2_order 227 = .ok (.aload_n 0, 1) := dk_42 (dk_at dksX2_order_9 13 rfl rfl)
theorem dX2_order_228 : decode cX2_order 228 = .ok (.getfield 97, 3) := dk_180 0 97 (dk_at dksX2_order_9 14 rfl rfl)
theorem dX2_order_231 : decode cX2_order 231 = .ok (.iconst 0, 1) := dk_3 (dk_at dksX2_order_9 17 rfl rfl)
theorem dX2_order_232 : decode cX2_order 232 = .ok (.dup2, 1) := dk_92 (dk_at dksX2_order_9 18 rfl rfl)
theorem dX2_order_233 : decode cX2_order 233 = .ok (.laload, 1) := dk_47 (dk_at dksX2_order_9 19 rfl rfl)
theorem dX2_order_234 : decode cX2_order 234 = .ok (.aload_n 0, 1) := dk_42 (dk_at dksX2_order_9 20 rfl rfl)
theorem dX2_order_235 : decode cX2_order 235 = .ok (.getfield 48, 3) := dk_180 0 48 (dk_at dksX2_order_9 21 rfl rfl)
theorem dX2_order_238 : decode cX2_order 238 = .ok (.iload 9, 2) := dk_21 9 (dk_at dksX2_order_10 0 rfl rfl)
theorem dX2_order_240 : decode cX2_order 240 = .ok (.iaload, 1) := dk_46 (dk_at dksX2_order_10 2 rfl rfl)
theorem dX2_order_241 : decode cX2_order 241 = .ok (.i2l, 1) := dk_133 (dk_at dksX2_order_10 3 rfl rfl)
theorem dX2_order_242 : decode cX2_order 242 = .ok (.ladd, 1) := dk_97 (dk_at dksX2_order_10 4 rfl rfl)
theorem dX2_order_243 : decode cX2_order 243 = .ok (.lastore, 1) := dk_80 (dk_at dksX2_order_10 5 rfl rfl)
theorem dX2_order_244 : decode cX2_order 244 = .ok (.aload_n 0, 1) := dk_42 (dk_at dksX2_order_10 6 rfl rfl)
theorem dX2_order_245 : decode cX2_order 245 = .ok (.iload 9, 2) := dk_21 9 (dk_at dksX2_order_10 7 rfl rfl)
theorem dX2_order_247 : decode cX2_order 247 = .ok (.iconst 0, 1) := dk_3 (dk_at dksX2_order_10 9 rfl rfl)
theorem dX2_order_248 : decode cX2_order 248 = .ok (.iload 8, 2) := dk_21 8 (dk_at dksX2_order_10 10 rfl rfl)
theorem dX2_order_250 : decode cX2_order 250 = .ok (.invokevirtual 174, 3) := dk_182 0 174 (dk_at dksX2_order_10 12 rfl rfl)
theorem dX2_order_253 : decode cX2_order 253 = .ok (.aload_n 0, 1) := dk_42 (dk_at dksX2_order_10 15 rfl rfl)
theorem dX2_order_254 : decode cX2_order 254 = .ok (.getfield 91, 3) := dk_180 0 91 (dk_at dksX2_order_10 16 rfl rfl)
theorem dX2_order_257 : decode cX2_order 257 = .ok (.aload_n 0, 1) := dk_42 (dk_at dksX2_order_10 19 rfl rfl)
theorem dX2_order_258 : decode cX2_order 258 = .ok (.getfield 7, 3) := dk_180 0 7 (dk_at dksX2_order_10 20 rfl rfl)
theorem dX2_order_261 : decode cX2_order 261 = .ok (.iload_n 1, 1) := dk_27 (dk_at dksX2_order_10 23 rfl rfl)
theorem dX2_order_262 : decode cX2_order 262 = .ok (.iaload, 1) := dk_46 (dk_at dksX2_order_11 0 rfl rfl)
theorem dX2_order_263 : decode cX2_order 263 = .ok (.dup2, 1) := dk_92 (dk_at dksX2_order_11 1 rfl rfl)
theorem dX2_order_264 : decode cX2_order 264 = .ok (.iaload, 1) := dk_46 (dk_at dksX2_order_11 2 rfl rfl)
theorem dX2_order_265 : decode cX2_order 265 = .ok (.iload_n 3, 1) := dk_29 (dk_at dksX2_order_11 3 rfl rfl)
theorem dX2_order_266 : decode cX2_order 266 = .ok (.aload_n 0, 1) := dk_42 (dk_at dksX2_order_11 4 rfl rfl)
theorem dX2_order_267 : decode cX2_order 267 = .ok (.getfield 88, 3) := dk_180 0 88 (dk_at dksX2_order_11 5 rfl rfl)
theorem dX2_order_270 : decode cX2_order 270 = .ok (.aload_n 0, 1) := dk_42 (dk_at dksX2_order_11 8 rfl rfl)
theorem dX2_order_271 : decode cX2_order 271 = .ok (.getfield 7, 3) := dk_180 0 7 (dk_at dksX2_order_11 9 rfl rfl)
theorem dX2_order_274 : decode cX2_order 274 = .ok (.iload_n 1, 1) := dk_27 (dk_at dksX2_order_11 12 rfl rfl)
theorem dX2_order_275 : decode cX2_order 275 = .ok (.iaload, 1) := dk_46 (dk_at dksX2_order_11 13 rfl rfl)
theorem dX2_order_276 : decode cX2_order 276 = .ok (.iaload, 1) := dk_46 (dk_at dksX2_order_11 14 rfl rfl)
theorem dX2_order_277 : decode cX2_order 277 = .ok (.if_icmp .le 7, 3) := dk_164 0 7 (dk_at dksX2_order_11 15 rfl rfl)
theorem dX2_order_280 : decode cX2_order 280 = .ok (.iconst 1, 1) := dk_4 (dk_at dksX2_order_11 18 rfl rfl)
theorem dX2_order_281 : decode cX2_order 281 = .ok (.goto 4, 3) := dk_167 0 4 (dk_at dksX2_order_11 19 rfl rfl)
theorem dX2_order_284 : decode cX2_order 284 = .ok (.iconst 0, 1) := dk_3 (dk_at dksX2_order_11 22 rfl rfl)
theorem dX2_order_285 : decode cX2_order 285 = .ok (.iadd, 1) := dk_96 (dk_at dksX2_order_11 23 rfl rfl)
theorem dX2_order_286 : decode cX2_order 286 = .ok (.iastore, 1) := dk_79 (dk_at dksX2_order_12 0 rfl rfl)
theorem dX2_order_287 : decode cX2_order 287 = .ok (.iload 9, 2) := dk_21 9 (dk_at dksX2_order_12 1 rfl rfl)
theorem dX2_order_289 : decode cX2_order 289 = .ok (.ireturn, 1) := dk_172 (dk_at dksX2_order_12 3 rfl rfl)
abbrev cX2_fetch : ByteArray := prog_11_method_30_code
def yX2_fetch : MethodName := ⟨RX2, "fetch", "(II)I"⟩
def dkwX2_fetch_8 : List UInt8 := [180, 0, 54, 27, 46, 6, 160, 0, 8, 42, 27, 182, 0, 177, 42, 180, 0, 42, 27, 46, 172]
abbrev dktX2_fetch_8 : List UInt8 := dkwX2_fetch_8 ++ []
def dkwX2_fetch_7 : List UInt8 := [133, 97, 80, 42, 180, 0, 42, 27, 5, 79, 167, 0, 28, 42, 180, 0, 54, 27, 92, 46, 4, 96, 79, 42]
abbrev dktX2_fetch_7 : List UInt8 := dkwX2_fetch_7 ++ dktX2_fetch_8
def dkwX2_fetch_6 : List UInt8 := [92, 47, 42, 180, 0, 45, 27, 46, 133, 101, 80, 42, 180, 0, 97, 4, 92, 47, 42, 180, 0, 45, 27, 46]
abbrev dktX2_fetch_6 : List UInt8 := dkwX2_fetch_6 ++ dktX2_fetch_7
def dkwX2_fetch_5 : List UInt8 := [182, 0, 124, 154, 0, 5, 3, 172, 28, 42, 180, 0, 51, 27, 46, 160, 0, 46, 42, 180, 0, 13, 21, 4]
abbrev dktX2_fetch_5 : List UInt8 := dkwX2_fetch_5 ++ dktX2_fetch_6
def dkwX2_fetch_4 : List UInt8 := [17, 39, 15, 184, 0, 116, 154, 0, 7, 5, 167, 0, 13, 21, 5, 153, 0, 7, 3, 167, 0, 4, 6]
abbrev dktX2_fetch_4 : List UInt8 := dkwX2_fetch_4 ++ dktX2_fetch_5
def dkwX2_fetch_3 : List UInt8 := [148, 155, 0, 7, 4, 167, 0, 4, 3, 54, 5, 42, 29, 154, 0, 7, 4, 167, 0, 28, 28, 3]
abbrev dktX2_fetch_3 : List UInt8 := dkwX2_fetch_3 ++ dktX2_fetch_4
def dkwX2_fetch_2 : List UInt8 := [42, 180, 0, 20, 21, 4, 46, 154, 0, 25, 42, 180, 0, 13, 21, 4, 47, 42, 180, 0, 45, 27, 46, 133]
abbrev dktX2_fetch_2 : List UInt8 := dkwX2_fetch_2 ++ dktX2_fetch_3
def dkwX2_fetch_1 : List UInt8 := [96, 4, 100, 46, 167, 0, 4, 3, 54, 4, 29, 153, 0, 45, 42, 180, 0, 42, 27, 46, 4, 160, 0, 35]
abbrev dktX2_fetch_1 : List UInt8 := dkwX2_fetch_1 ++ dktX2_fetch_2
def dkwX2_fetch_0 : List UInt8 := [42, 27, 182, 0, 197, 62, 29, 153, 0, 24, 42, 180, 0, 66, 16, 12, 27, 104, 42, 180, 0, 63, 27, 46]
abbrev dktX2_fetch_0 : List UInt8 := dkwX2_fetch_0 ++ dktX2_fetch_1
theorem dksX2_fetch_0 : cX2_fetch.data.toList.drop 0 = dktX2_fetch_0 := by decide +kernel
theorem dksX2_fetch_1 : cX2_fetch.data.toList.drop 24 = dktX2_fetch_1 := dk_seg dksX2_fetch_0 24 rfl rfl
theorem dksX2_fetch_2 : cX2_fetch.data.toList.drop 48 = dktX2_fetch_2 := dk_seg dksX2_fetch_1 24 rfl rfl
theorem dksX2_fetch_3 : cX2_fetch.data.toList.drop 72 = dktX2_fetch_3 := dk_seg dksX2_fetch_2 24 rfl rfl
theorem dksX2_fetch_4 : cX2_fetch.data.toList.drop 94 = dktX2_fetch_4 := dk_seg dksX2_fetch_3 22 rfl rfl
theorem dksX2_fetch_5 : cX2_fetch.data.toList.drop 117 = dktX2_fetch_5 := dk_seg dksX2_fetch_4 23 rfl rfl
theorem dksX2_fetch_6 : cX2_fetch.data.toList.drop 141 = dktX2_fetch_6 := dk_seg dksX2_fetch_5 24 rfl rfl
theorem dksX2_fetch_7 : cX2_fetch.data.toList.drop 165 = dktX2_fetch_7 := dk_seg dksX2_fetch_6 24 rfl rfl
theorem dksX2_fetch_8 : cX2_fetch.data.toList.drop 189 = dktX2_fetch_8 := dk_seg dksX2_fetch_7 24 rfl rfl
theorem dX2_fetch_0 : decode cX2_fetch 0 = .ok (.aload_n 0, 1) := dk_42 (dk_at dksX2_fetch_0 0 rfl rfl)
theorem dX2_fetch_1 : decode cX2_fetch 1 = .ok (.iload_n 1, 1) := dk_27 (dk_at dksX2_fetch_0 1 rfl rfl)
theorem dX2_fetch_2 : decode cX2_fetch 2 = .ok (.invokevirtual 197, 3) := dk_182 0 197 (dk_at dksX2_fetch_0 2 rfl rfl)
theorem dX2_fetch_5 : decode cX2_fetch 5 = .ok (.istore_n 3, 1) := dk_62 (dk_at dksX2_fetch_0 5 rfl rfl)
theorem dX2_fetch_6 : decode cX2_fetch 6 = .ok (.iload_n 3, 1) := dk_29 (dk_at dksX2_fetch_0 6 rfl rfl)
theorem dX2_fetch_7 : decode cX2_fetch 7 = .ok (.ifCond .eq 24, 3) := dk_153 0 24 (dk_at dksX2_fetch_0 7 rfl rfl)
theorem dX2_fetch_10 : decode cX2_fetch 10 = .ok (.aload_n 0, 1) := dk_42 (dk_at dksX2_fetch_0 10 rfl rfl)
theorem dX2_fetch_11 : decode cX2_fetch 11 = .ok (.getfield 66, 3) := dk_180 0 66 (dk_at dksX2_fetch_0 11 rfl rfl)
theorem dX2_fetch_14 : decode cX2_fetch 14 = .ok (.bipush 12, 2) := dk_16 12 (dk_at dksX2_fetch_0 14 rfl rfl)
theorem dX2_fetch_16 : decode cX2_fetch 16 = .ok (.iload_n 1, 1) := dk_27 (dk_at dksX2_fetch_0 16 rfl rfl)
theorem dX2_fetch_17 : decode cX2_fetch 17 = .ok (.imul, 1) := dk_104 (dk_at dksX2_fetch_0 17 rfl rfl)
theorem dX2_fetch_18 : decode cX2_fetch 18 = .ok (.aload_n 0, 1) := dk_42 (dk_at dksX2_fetch_0 18 rfl rfl)
theorem dX2_fetch_19 : decode cX2_fetch 19 = .ok (.getfield 63, 3) := dk_180 0 63 (dk_at dksX2_fetch_0 19 rfl rfl)
theorem dX2_fetch_22 : decode cX2_fetch 22 = .ok (.iload_n 1, 1) := dk_27 (dk_at dksX2_fetch_0 22 rfl rfl)
theorem dX2_fetch_23 : decode cX2_fetch 23 = .ok (.iaload, 1) := dk_46 (dk_at dksX2_fetch_0 23 rfl rfl)
theorem dX2_fetch_24 : decode cX2_fetch 24 = .ok (.iadd, 1) := dk_96 (dk_at dksX2_fetch_1 0 rfl rfl)
theorem dX2_fetch_25 : decode cX2_fetch 25 = .ok (.iconst 1, 1) := dk_4 (dk_at dksX2_fetch_1 1 rfl rfl)
theorem dX2_fetch_26 : decode cX2_fetch 26 = .ok (.isub, 1) := dk_100 (dk_at dksX2_fetch_1 2 rfl rfl)
theorem dX2_fetch_27 : decode cX2_fetch 27 = .ok (.iaload, 1) := dk_46 (dk_at dksX2_fetch_1 3 rfl rfl)
theorem dX2_fetch_28 : decode cX2_fetch 28 = .ok (.goto 4, 3) := dk_167 0 4 (dk_at dksX2_fetch_1 4 rfl rfl)
theorem dX2_fetch_31 : decode cX2_fetch 31 = .ok (.iconst 0, 1) := dk_3 (dk_at dksX2_fetch_1 7 rfl rfl)
theorem dX2_fetch_32 : decode cX2_fetch 32 = .ok (.istore 4, 2) := dk_54 4 (dk_at dksX2_fetch_1 8 rfl rfl)
theorem dX2_fetch_34 : decode cX2_fetch 34 = .ok (.iload_n 3, 1) := dk_29 (dk_at dksX2_fetch_1 10 rfl rfl)
theorem dX2_fetch_35 : decode cX2_fetch 35 = .ok (.ifCond .eq 45, 3) := dk_153 0 45 (dk_at dksX2_fetch_1 11 rfl rfl)
theorem dX2_fetch_38 : decode cX2_fetch 38 = .ok (.aload_n 0, 1) := dk_42 (dk_at dksX2_fetch_1 14 rfl rfl)
theorem dX2_fetch_39 : decode cX2_fetch 39 = .ok (.getfield 42, 3) := dk_180 0 42 (dk_at dksX2_fetch_1 15 rfl rfl)
theorem dX2_fetch_42 : decode cX2_fetch 42 = .ok (.iload_n 1, 1) := dk_27 (dk_at dksX2_fetch_1 18 rfl rfl)
theorem dX2_fetch_43 : decode cX2_fetch 43 = .ok (.iaload, 1) := dk_46 (dk_at dksX2_fetch_1 19 rfl rfl)
theorem dX2_fetch_44 : decode cX2_fetch 44 = .ok (.iconst 1, 1) := dk_4 (dk_at dksX2_fetch_1 20 rfl rfl)
theorem dX2_fetch_45 : decode cX2_fetch 45 = .ok (.if_icmp .ne 35, 3) := dk_160 0 35 (dk_at dksX2_fetch_1 21 rfl rfl)
theorem dX2_fetch_48 : decode cX2_fetch 48 = .ok (.aload_n 0, 1) := dk_42 (dk_at dksX2_fetch_2 0 rfl rfl)
theorem dX2_fetch_49 : decode cX2_fetch 49 = .ok (.getfield 20, 3) := dk_180 0 20 (dk_at dksX2_fetch_2 1 rfl rfl)
theorem dX2_fetch_52 : decode cX2_fetch 52 = .ok (.iload 4, 2) := dk_21 4 (dk_at dksX2_fetch_2 4 rfl rfl)
theorem dX2_fetch_54 : decode cX2_fetch 54 = .ok (.iaload, 1) := dk_46 (dk_at dksX2_fetch_2 6 rfl rfl)
theorem dX2_fetch_55 : decode cX2_fetch 55 = .ok (.ifCond .ne 25, 3) := dk_154 0 25 (dk_at dksX2_fetch_2 7 rfl rfl)
theorem dX2_fetch_58 : decode cX2_fetch 58 = .ok (.aload_n 0, 1) := dk_42 (dk_at dksX2_fetch_2 10 rfl rfl)
theorem dX2_fetch_59 : decode cX2_fetch 59 = .ok (.getfield 13, 3) := dk_180 0 13 (dk_at dksX2_fetch_2 11 rfl rfl)
theorem dX2_fetch_62 : decode cX2_fetch 62 = .ok (.iload 4, 2) := dk_21 4 (dk_at dksX2_fetch_2 14 rfl rfl)
theorem dX2_fetch_64 : decode cX2_fetch 64 = .ok (.laload, 1) := dk_47 (dk_at dksX2_fetch_2 16 rfl rfl)
theorem dX2_fetch_65 : decode cX2_fetch 65 = .ok (.aload_n 0, 1) := dk_42 (dk_at dksX2_fetch_2 17 rfl rfl)
theorem dX2_fetch_66 : decode cX2_fetch 66 = .ok (.getfield 45, 3) := dk_180 0 45 (dk_at dksX2_fetch_2 18 rfl rfl)
theorem dX2_fetch_69 : decode cX2_fetch 69 = .ok (.iload_n 1, 1) := dk_27 (dk_at dksX2_fetch_2 21 rfl rfl)
theorem dX2_fetch_70 : decode cX2_fetch 70 = .ok (.iaload, 1) := dk_46 (dk_at dksX2_fetch_2 22 rfl rfl)
theorem dX2_fetch_71 : decode cX2_fetch 71 = .ok (.i2l, 1) := dk_133 (dk_at dksX2_fetch_2 23 rfl rfl)
theorem dX2_fetch_72 : decode cX2_fetch 72 = .ok (.lcmp, 1) := dk_148 (dk_at dksX2_fetch_3 0 rfl rfl)
theorem dX2_fetch_73 : decode cX2_fetch 73 = .ok (.ifCond .lt 7, 3) := dk_155 0 7 (dk_at dksX2_fetch_3 1 rfl rfl)
theorem dX2_fetch_76 : decode cX2_fetch 76 = .ok (.iconst 1, 1) := dk_4 (dk_at dksX2_fetch_3 4 rfl rfl)
theorem dX2_fetch_77 : decode cX2_fetch 77 = .ok (.goto 4, 3) := dk_167 0 4 (dk_at dksX2_fetch_3 5 rfl rfl)
theorem dX2_fetch_80 : decode cX2_fetch 80 = .ok (.iconst 0, 1) := dk_3 (dk_at dksX2_fetch_3 8 rfl rfl)
theorem dX2_fetch_81 : decode cX2_fetch 81 = .ok (.istore 5, 2) := dk_54 5 (dk_at dksX2_fetch_3 9 rfl rfl)
theorem dX2_fetch_83 : decode cX2_fetch 83 = .ok (.aload_n 0, 1) := dk_42 (dk_at dksX2_fetch_3 11 rfl rfl)
theorem dX2_fetch_84 : decode cX2_fetch 84 = .ok (.iload_n 3, 1) := dk_29 (dk_at dksX2_fetch_3 12 rfl rfl)
theorem dX2_fetch_85 : decode cX2_fetch 85 = .ok (.ifCond .ne 7, 3) := dk_154 0 7 (dk_at dksX2_fetch_3 13 rfl rfl)
theorem dX2_fetch_88 : decode cX2_fetch 88 = .ok (.iconst 1, 1) := dk_4 (dk_at dksX2_fetch_3 16 rfl rfl)
theorem dX2_fetch_89 : decode cX2_fetch 89 = .ok (.goto 28, 3) := dk_167 0 28 (dk_at dksX2_fetch_3 17 rfl rfl)
theorem dX2_fetch_92 : decode cX2_fetch 92 = .ok (.iload_n 2, 1) := dk_28 (dk_at dksX2_fetch_3 20 rfl rfl)
theorem dX2_fetch_93 : decode cX2_fetch 93 = .ok (.iconst 0, 1) := dk_3 (dk_at dksX2_fetch_3 21 rfl rfl)
theorem dX2_fetch_94 : decode cX2_fetch 94 = .ok (.sipush 9999, 3) := dk_17 39 15 (dk_at dksX2_fetch_4 0 rfl rfl)
theorem dX2_fetch_97 : decode cX2_fetch 97 = .ok (.invokestatic 116, 3) := dk_184 0 116 (dk_at dksX2_fetch_4 3 rfl rfl)
theorem dX2_fetch_100 : decode cX2_fetch 100 = .ok (.ifCond .ne 7, 3) := dk_154 0 7 (dk_at dksX2_fetch_4 6 rfl rfl)
theorem dX2_fetch_103 : decode cX2_fetch 103 = .ok (.iconst 2, 1) := dk_5 (dk_at dksX2_fetch_4 9 rfl rfl)
theorem dX2_fetch_104 : decode cX2_fetch 104 = .ok (.goto 13, 3) := dk_167 0 13 (dk_at dksX2_fetch_4 10 rfl rfl)
theorem dX2_fetch_107 : decode cX2_fetch 107 = .ok (.iload 5, 2) := dk_21 5 (dk_at dksX2_fetch_4 13 rfl rfl)
theorem dX2_fetch_109 : decode cX2_fetch 109 = .ok (.ifCond .eq 7, 3) := dk_153 0 7 (dk_at dksX2_fetch_4 15 rfl rfl)
theorem dX2_fetch_112 : decode cX2_fetch 112 = .ok (.iconst 0, 1) := dk_3 (dk_at dksX2_fetch_4 18 rfl rfl)
theorem dX2_fetch_113 : decode cX2_fetch 113 = .ok (.goto 4, 3) := dk_167 0 4 (dk_at dksX2_fetch_4 19 rfl rfl)
theorem dX2_fetch_116 : decode cX2_fetch 116 = .ok (.iconst 3, 1) := dk_6 (dk_at dksX2_fetch_4 22 rfl rfl)
theorem dX2_fetch_117 : decode cX2_fetch 117 = .ok (.invokevirtual 124, 3) := dk_182 0 124 (dk_at dksX2_fetch_5 0 rfl rfl)
theorem dX2_fetch_120 : decode cX2_fetch 120 = .ok (.ifCond .ne 5, 3) := dk_154 0 5 (dk_at dksX2_fetch_5 3 rfl rfl)
theorem dX2_fetch_123 : decode cX2_fetch 123 = .ok (.iconst 0, 1) := dk_3 (dk_at dksX2_fetch_5 6 rfl rfl)
theorem dX2_fetch_124 : decode cX2_fetch 124 = .ok (.ireturn, 1) := dk_172 (dk_at dksX2_fetch_5 7 rfl rfl)
theorem dX2_fetch_125 : decode cX2_fetch 125 = .ok (.iload_n 2, 1) := dk_28 (dk_at dksX2_fetch_5 8 rfl rfl)
theorem dX2_fetch_126 : decode cX2_fetch 126 = .ok (.aload_n 0, 1) := dk_42 (dk_at dksX2_fetch_5 9 rfl rfl)
theorem dX2_fetch_127 : decode cX2_fetch 127 = .ok (.getfield 51, 3) := dk_180 0 51 (dk_at dksX2_fetch_5 10 rfl rfl)
theorem dX2_fetch_130 : decode cX2_fetch 130 = .ok (.iload_n 1, 1) := dk_27 (dk_at dksX2_fetch_5 13 rfl rfl)
theorem dX2_fetch_131 : decode cX2_fetch 131 = .ok (.iaload, 1) := dk_46 (dk_at dksX2_fetch_5 14 rfl rfl)
theorem dX2_fetch_132 : decode cX2_fetch 132 = .ok (.if_icmp .ne 46, 3) := dk_160 0 46 (dk_at dksX2_fetch_5 15 rfl rfl)
theorem dX2_fetch_135 : decode cX2_fetch 135 = .ok (.aload_n 0, 1) := dk_42 (dk_at dksX2_fetch_5 18 rfl rfl)
theorem dX2_fetch_136 : decode cX2_fetch 136 = .ok (.getfield 13, 3) := dk_180 0 13 (dk_at dksX2_fetch_5 19 rfl rfl)
theorem dX2_fetch_139 : decode cX2_fetch 139 = .ok (.iload 4, 2) := dk_21 4 (dk_at dksX2_fetch_5 22 rfl rfl)
theorem dX2_fetch_141 : decode cX2_fetch 141 = .ok (.dup2, 1) := dk_92 (dk_at dksX2_fetch_6 0 rfl rfl)
theorem dX2_fetch_142 : decode cX2_fetch 142 = .ok (.laload, 1) := dk_47 (dk_at dksX2_fetch_6 1 rfl rfl)
theorem dX2_fetch_143 : decode cX2_fetch 143 = .ok (.aload_n 0, 1) := dk_42 (dk_at dksX2_fetch_6 2 rfl rfl)
theorem dX2_fetch_144 : decode cX2_fetch 144 = .ok (.getfield 45, 3) := dk_180 0 45 (dk_at dksX2_fetch_6 3 rfl rfl)
theorem dX2_fetch_147 : decode cX2_fetch 147 = .ok (.iload_n 1, 1) := dk_27 (dk_at dksX2_fetch_6 6 rfl rfl)
theorem dX2_fetch_148 : decode cX2_fetch 148 = .ok (.iaload, 1) := dk_46 (dk_at dksX2_fetch_6 7 rfl rfl)
theorem dX2_fetch_149 : decode cX2_fetch 149 = .ok (.i2l, 1) := dk_133 (dk_at dksX2_fetch_6 8 rfl rfl)
theorem dX2_fetch_150 : decode cX2_fetch 150 = .ok (.lsub, 1) := dk_101 (dk_at dksX2_fetch_6 9 rfl rfl)
theorem dX2_fetch_151 : decode cX2_fetch 151 = .ok (.lastore, 1) := dk_80 (dk_at dksX2_fetch_6 10 rfl rfl)
theorem dX2_fetch_152 : decode cX2_fetch 152 = .ok (.aload_n 0, 1) := dk_42 (dk_at dksX2_fetch_6 11 rfl rfl)
theorem dX2_fetch_153 : decode cX2_fetch 153 = .ok (.getfield 97, 3) := dk_180 0 97 (dk_at dksX2_fetch_6 12 rfl rfl)
theorem dX2_fetch_156 : decode cX2_fetch 156 = .ok (.iconst 1, 1) := dk_4 (dk_at dksX2_fetch_6 15 rfl rfl)
theorem dX2_fetch_157 : decode cX2_fetch 157 = .ok (.dup2, 1) := dk_92 (dk_at dksX2_fetch_6 16 rfl rfl)
theorem dX2_fetch_158 : decode cX2_fetch 158 = .ok (.laload, 1) := dk_47 (dk_at dksX2_fetch_6 17 rfl rfl)
theorem dX2_fetch_159 : decode cX2_fetch 159 = .ok (.aload_n 0, 1) := dk_42 (dk_at dksX2_fetch_6 18 rfl rfl)
theorem dX2_fetch_160 : decode cX2_fetch 160 = .ok (.getfield 45, 3) := dk_180 0 45 (dk_at dksX2_fetch_6 19 rfl rfl)
theorem dX2_fetch_163 : decode cX2_fetch 163 = .ok (.iload_n 1, 1) := dk_27 (dk_at dksX2_fetch_6 22 rfl rfl)
theorem dX2_fetch_164 : decode cX2_fetch 164 = .ok (.iaload, 1) := dk_46 (dk_at dksX2_fetch_6 23 rfl rfl)
theorem dX2_fetch_165 : decode cX2_fetch 165 = .ok (.i2l, 1) := dk_133 (dk_at dksX2_fetch_7 0 rfl rfl)
theorem dX2_fetch_166 : decode cX2_fetch 166 = .ok (.ladd, 1) := dk_97 (dk_at dksX2_fetch_7 1 rfl rfl)
theorem dX2_fetch_167 : decode cX2_fetch 167 = .ok (.lastore, 1) := dk_80 (dk_at dksX2_fetch_7 2 rfl rfl)
theorem dX2_fetch_168 : decode cX2_fetch 168 = .ok (.aload_n 0, 1) := dk_42 (dk_at dksX2_fetch_7 3 rfl rfl)
theorem dX2_fetch_169 : decode cX2_fetch 169 = .ok (.getfield 42, 3) := dk_180 0 42 (dk_at dksX2_fetch_7 4 rfl rfl)
theorem dX2_fetch_172 : decode cX2_fetch 172 = .ok (.iload_n 1, 1) := dk_27 (dk_at dksX2_fetch_7 7 rfl rfl)
theorem dX2_fetch_173 : decode cX2_fetch 173 = .ok (.iconst 2, 1) := dk_5 (dk_at dksX2_fetch_7 8 rfl rfl)
theorem dX2_fetch_174 : decode cX2_fetch 174 = .ok (.iastore, 1) := dk_79 (dk_at dksX2_fetch_7 9 rfl rfl)
theorem dX2_fetch_175 : decode cX2_fetch 175 = .ok (.goto 28, 3) := dk_167 0 28 (dk_at dksX2_fetch_7 10 rfl rfl)
theorem dX2_fetch_178 : decode cX2_fetch 178 = .ok (.aload_n 0, 1) := dk_42 (dk_at dksX2_fetch_7 13 rfl rfl)
theorem dX2_fetch_179 : decode cX2_fetch 179 = .ok (.getfield 54, 3) := dk_180 0 54 (dk_at dksX2_fetch_7 14 rfl rfl)
theorem dX2_fetch_182 : decode cX2_fetch 182 = .ok (.iload_n 1, 1) := dk_27 (dk_at dksX2_fetch_7 17 rfl rfl)
theorem dX2_fetch_183 : decode cX2_fetch 183 = .ok (.dup2, 1) := dk_92 (dk_at dksX2_fetch_7 18 rfl rfl)
theorem dX2_fetch_184 : decode cX2_fetch 184 = .ok (.iaload, 1) := dk_46 (dk_at dksX2_fetch_7 19 rfl rfl)
theorem dX2_fetch_185 : decode cX2_fetch 185 = .ok (.iconst 1, 1) := dk_4 (dk_at dksX2_fetch_7 20 rfl rfl)
theorem dX2_fetch_186 : decode cX2_fetch 186 = .ok (.iadd, 1) := dk_96 (dk_at dksX2_fetch_7 21 rfl rfl)
theorem dX2_fetch_187 : decode cX2_fetch 187 = .ok (.iastore, 1) := dk_79 (dk_at dksX2_fetch_7 22 rfl rfl)
theorem dX2_fetch_188 : decode cX2_fetch 188 = .ok (.aload_n 0, 1) := dk_42 (dk_at dksX2_fetch_7 23 rfl rfl)
theorem dX2_fetch_189 : decode cX2_fetch 189 = .ok (.getfield 54, 3) := dk_180 0 54 (dk_at dksX2_fetch_8 0 rfl rfl)
theorem dX2_fetch_192 : decode cX2_fetch 192 = .ok (.iload_n 1, 1) := dk_27 (dk_at dksX2_fetch_8 3 rfl rfl)
theorem dX2_fetch_193 : decode cX2_fetch 193 = .ok (.iaload, 1) := dk_46 (dk_at dksX2_fetch_8 4 rfl rfl)
theorem dX2_fetch_194 : decode cX2_fetch 194 = .ok (.iconst 3, 1) := dk_6 (dk_at dksX2_fetch_8 5 rfl rfl)
theorem dX2_fetch_195 : decode cX2_fetch 195 = .ok (.if_icmp .ne 8, 3) := dk_160 0 8 (dk_at dksX2_fetch_8 6 rfl rfl)
theorem dX2_fetch_198 : decode cX2_fetch 198 = .ok (.aload_n 0, 1) := dk_42 (dk_at dksX2_fetch_8 9 rfl rfl)
theorem dX2_fetch_199 : decode cX2_fetch 199 = .ok (.iload_n 1, 1) := dk_27 (dk_at dksX2_fetch_8 10 rfl rfl)
theorem dX2_fetch_200 : decode cX2_fetch 200 = .ok (.invokevirtual 177, 3) := dk_182 0 177 (dk_at dksX2_fetch_8 11 rfl rfl)
theorem dX2_fetch_203 : decode cX2_fetch 203 = .ok (.aload_n 0, 1) := dk_42 (dk_at dksX2_fetch_8 14 rfl rfl)
theorem dX2_fetch_204 : decode cX2_fetch 204 = .ok (.getfield 42, 3) := dk_180 0 42 (dk_at dksX2_fetch_8 15 rfl rfl)
theorem dX2_fetch_207 : decode cX2_fetch 207 = .ok (.iload_n 1, 1) := dk_27 (dk_at dksX2_fetch_8 18 rfl rfl)
theorem dX2_fetch_208 : decode cX2_fetch 208 = .ok (.iaload, 1) := dk_46 (dk_at dksX2_fetch_8 19 rfl rfl)
theorem dX2_fetch_209 : decode cX2_fetch 209 = .ok (.ireturn, 1) := dk_172 (dk_at dksX2_fetch_8 20 rfl rfl)
abbrev cX2_isOrder : ByteArray := prog_11_method_29_code
def yX2_isOrder : MethodName := ⟨RX2, "isOrder", "(I)Z"⟩
def dkwX2_isOrder_0 : List UInt8 := [27, 3, 42, 180, 0, 181, 4, 100, 184, 0, 116, 172]
abbrev dktX2_isOrder_0 : List UInt8 := dkwX2_isOrder_0 ++ []
theorem dksX2_isOrder_0 : cX2_isOrder.data.toList.drop 0 = dktX2_isOrder_0 := by decide +kernel
theorem dX2_isOrder_0 : decode cX2_isOrder 0 = .ok (.iload_n 1, 1) := dk_27 (dk_at dksX2_isOrder_0 0 rfl rfl)
theorem dX2_isOrder_1 : decode cX2_isOrder 1 = .ok (.iconst 0, 1) := dk_3 (dk_at dksX2_isOrder_0 1 rfl rfl)
theorem dX2_isOrder_2 : decode cX2_isOrder 2 = .ok (.aload_n 0, 1) := dk_42 (dk_at dksX2_isOrder_0 2 rfl rfl)
theorem dX2_isOrder_3 : decode cX2_isOrder 3 = .ok (.getfield 181, 3) := dk_180 0 181 (dk_at dksX2_isOrder_0 3 rfl rfl)
theorem dX2_isOrder_6 : decode cX2_isOrder 6 = .ok (.iconst 1, 1) := dk_4 (dk_at dksX2_isOrder_0 6 rfl rfl)
theorem dX2_isOrder_7 : decode cX2_isOrder 7 = .ok (.isub, 1) := dk_100 (dk_at dksX2_isOrder_0 7 rfl rfl)
theorem dX2_isOrder_8 : decode cX2_isOrder 8 = .ok (.invokestatic 116, 3) := dk_184 0 116 (dk_at dksX2_isOrder_0 8 rfl rfl)
theorem dX2_isOrder_11 : decode cX2_isOrder 11 = .ok (.ireturn, 1) := dk_172 (dk_at dksX2_isOrder_0 11 rfl rfl)
abbrev cX2_pass : ByteArray := prog_11_method_34_code
def yX2_pass : MethodName := ⟨RX2, "pass", "(I)I"⟩
def dkwX2_pass_1 : List UInt8 := [172, 3, 61, 28, 27, 162, 0, 13, 42, 182, 0, 213, 132, 2, 1, 167, 255, 244, 42, 180, 0, 194, 172]
abbrev dktX2_pass_1 : List UInt8 := dkwX2_pass_1 ++ []
def dkwX2_pass_0 : List UInt8 := [42, 27, 4, 17, 1, 244, 184, 0, 116, 153, 0, 7, 3, 167, 0, 4, 4, 182, 0, 124, 154, 0, 5, 3]
abbrev dktX2_pass_0 : List UInt8 := dkwX2_pass_0 ++ dktX2_pass_1
theorem dksX2_pass_0 : cX2_pass.data.toList.drop 0 = dktX2_pass_0 := by decide +kernel
theorem dksX2_pass_1 : cX2_pass.data.toList.drop 24 = dktX2_pass_1 := dk_seg dksX2_pass_0 24 rfl rfl
theorem dX2_pass_0 : decode cX2_pass 0 = .ok (.aload_n 0, 1) := dk_42 (dk_at dksX2_pass_0 0 rfl rfl)
theorem dX2_pass_1 : decode cX2_pass 1 = .ok (.iload_n 1, 1) := dk_27 (dk_at dksX2_pass_0 1 rfl rfl)
theorem dX2_pass_2 : decode cX2_pass 2 = .ok (.iconst 1, 1) := dk_4 (dk_at dksX2_pass_0 2 rfl rfl)
theorem dX2_pass_3 : decode cX2_pass 3 = .ok (.sipush 500, 3) := dk_17 1 244 (dk_at dksX2_pass_0 3 rfl rfl)
theorem dX2_pass_6 : decode cX2_pass 6 = .ok (.invokestatic 116, 3) := dk_184 0 116 (dk_at dksX2_pass_0 6 rfl rfl)
theorem dX2_pass_9 : decode cX2_pass 9 = .ok (.ifCond .eq 7, 3) := dk_153 0 7 (dk_at dksX2_pass_0 9 rfl rfl)
theorem dX2_pass_12 : decode cX2_pass 12 = .ok (.iconst 0, 1) := dk_3 (dk_at dksX2_pass_0 12 rfl rfl)
theorem dX2_pass_13 : decode cX2_pass 13 = .ok (.goto 4, 3) := dk_167 0 4 (dk_at dksX2_pass_0 13 rfl rfl)
theorem dX2_pass_16 : decode cX2_pass 16 = .ok (.iconst 1, 1) := dk_4 (dk_at dksX2_pass_0 16 rfl rfl)
theorem dX2_pass_17 : decode cX2_pass 17 = .ok (.invokevirtual 124, 3) := dk_182 0 124 (dk_at dksX2_pass_0 17 rfl rfl)
theorem dX2_pass_20 : decode cX2_pass 20 = .ok (.ifCond .ne 5, 3) := dk_154 0 5 (dk_at dksX2_pass_0 20 rfl rfl)
theorem dX2_pass_23 : decode cX2_pass 23 = .ok (.iconst 0, 1) := dk_3 (dk_at dksX2_pass_0 23 rfl rfl)
theorem dX2_pass_24 : decode cX2_pass 24 = .ok (.ireturn, 1) := dk_172 (dk_at dksX2_pass_1 0 rfl rfl)
theorem dX2_pass_25 : decode cX2_pass 25 = .ok (.iconst 0, 1) := dk_3 (dk_at dksX2_pass_1 1 rfl rfl)
theorem dX2_pass_26 : decode cX2_pass 26 = .ok (.istore_n 2, 1) := dk_61 (dk_at dksX2_pass_1 2 rfl rfl)
theorem dX2_pass_27 : decode cX2_pass 27 = .ok (.iload_n 2, 1) := dk_28 (dk_at dksX2_pass_1 3 rfl rfl)
theorem dX2_pass_28 : decode cX2_pass 28 = .ok (.iload_n 1, 1) := dk_27 (dk_at dksX2_pass_1 4 rfl rfl)
theorem dX2_pass_29 : decode cX2_pass 29 = .ok (.if_icmp .ge 13, 3) := dk_162 0 13 (dk_at dksX2_pass_1 5 rfl rfl)
theorem dX2_pass_32 : decode cX2_pass 32 = .ok (.aload_n 0, 1) := dk_42 (dk_at dksX2_pass_1 8 rfl rfl)
theorem dX2_pass_33 : decode cX2_pass 33 = .ok (.invokevirtual 213, 3) := dk_182 0 213 (dk_at dksX2_pass_1 9 rfl rfl)
theorem dX2_pass_36 : decode cX2_pass 36 = .ok (.iinc 2 1, 3) := dk_132 2 1 (dk_at dksX2_pass_1 12 rfl rfl)
theorem dX2_pass_39 : decode cX2_pass 39 = .ok (.goto (-12), 3) := dk_167 255 244 (dk_at dksX2_pass_1 15 rfl rfl)
theorem dX2_pass_42 : decode cX2_pass 42 = .ok (.aload_n 0, 1) := dk_42 (dk_at dksX2_pass_1 18 rfl rfl)
theorem dX2_pass_43 : decode cX2_pass 43 = .ok (.getfield 194, 3) := dk_180 0 194 (dk_at dksX2_pass_1 19 rfl rfl)
theorem dX2_pass_46 : decode cX2_pass 46 = .ok (.ireturn, 1) := dk_172 (dk_at dksX2_pass_1 22 rfl rfl)
abbrev cX2_nextHour : ByteArray := prog_11_method_33_code
def yX2_nextHour : MethodName := ⟨RX2, "nextHour", "()V"⟩
def dkwX2_nextHour_10 : List UInt8 := [132, 1, 1, 167, 255, 164, 42, 182, 0, 210, 177]
abbrev dktX2_nextHour_10 : List UInt8 := dkwX2_nextHour_10 ++ []
def dkwX2_nextHour_9 : List UInt8 := [180, 0, 97, 5, 92, 47, 42, 180, 0, 48, 27, 46, 133, 97, 80, 42, 180, 0, 42, 27, 7, 79]
abbrev dktX2_nextHour_9 : List UInt8 := dkwX2_nextHour_9 ++ dktX2_nextHour_10
def dkwX2_nextHour_8 : List UInt8 := [133, 148, 155, 0, 42, 42, 180, 0, 13, 28, 92, 47, 42, 180, 0, 48, 27, 46, 133, 101, 80, 42]
abbrev dktX2_nextHour_8 : List UInt8 := dkwX2_nextHour_8 ++ dktX2_nextHour_9
def dkwX2_nextHour_7 : List UInt8 := [160, 0, 68, 42, 180, 0, 20, 28, 46, 154, 0, 59, 42, 180, 0, 13, 28, 47, 42, 180, 0, 48, 27, 46]
abbrev dktX2_nextHour_7 : List UInt8 := dkwX2_nextHour_7 ++ dktX2_nextHour_8
def dkwX2_nextHour_6 : List UInt8 := [60, 27, 42, 180, 0, 181, 162, 0, 90, 42, 27, 182, 0, 166, 61, 42, 180, 0, 42, 27, 46, 6]
abbrev dktX2_nextHour_6 : List UInt8 := dkwX2_nextHour_6 ++ dktX2_nextHour_7
def dkwX2_nextHour_5 : List UInt8 := [180, 0, 57, 27, 46, 100, 17, 0, 240, 161, 0, 8, 42, 27, 182, 0, 177, 132, 1, 1, 167, 255, 213, 3]
abbrev dktX2_nextHour_5 : List UInt8 := dkwX2_nextHour_5 ++ dktX2_nextHour_6
def dkwX2_nextHour_4 : List UInt8 := [60, 27, 42, 180, 0, 181, 162, 0, 41, 42, 180, 0, 42, 27, 46, 4, 163, 0, 25, 42, 180, 0, 194, 42]
abbrev dktX2_nextHour_4 : List UInt8 := dkwX2_nextHour_4 ++ dktX2_nextHour_5
def dkwX2_nextHour_3 : List UInt8 := [162, 0, 23, 42, 180, 0, 42, 27, 46, 154, 0, 8, 42, 27, 182, 0, 207, 132, 1, 1, 167, 255, 231, 3]
abbrev dktX2_nextHour_3 : List UInt8 := dkwX2_nextHour_3 ++ dktX2_nextHour_4
def dkwX2_nextHour_2 : List UInt8 := [3, 167, 0, 9, 42, 180, 0, 20, 27, 46, 79, 132, 1, 1, 167, 255, 206, 3, 60, 27, 42, 180, 0, 181]
abbrev dktX2_nextHour_2 : List UInt8 := dkwX2_nextHour_2 ++ dktX2_nextHour_3
def dkwX2_nextHour_1 : List UInt8 := [27, 42, 180, 0, 20, 27, 46, 4, 160, 0, 20, 42, 180, 0, 23, 27, 46, 42, 180, 0, 194, 163, 0, 7]
abbrev dktX2_nextHour_1 : List UInt8 := dkwX2_nextHour_1 ++ dktX2_nextHour_2
def dkwX2_nextHour_0 : List UInt8 := [42, 89, 180, 0, 194, 4, 96, 181, 0, 194, 3, 60, 27, 42, 180, 0, 113, 162, 0, 48, 42, 180, 0, 20]
abbrev dktX2_nextHour_0 : List UInt8 := dkwX2_nextHour_0 ++ dktX2_nextHour_1
theorem dksX2_nextHour_0 : cX2_nextHour.data.toList.drop 0 = dktX2_nextHour_0 := by decide +kernel
theorem dksX2_nextHour_1 : cX2_nextHour.data.toList.drop 24 = dktX2_nextHour_1 := dk_seg dksX2_nextHour_0 24 rfl rfl
theorem dksX2_nextHour_2 : cX2_nextHour.data.toList.drop 48 = dktX2_nextHour_2 := dk_seg dksX2_nextHour_1 24 rfl rfl
theorem dksX2_nextHour_3 : cX2_nextHour.data.toList.drop 72 = dktX2_nextHour_3 := dk_seg dksX2_nextHour_2 24 rfl rfl
theorem dksX2_nextHour_4 : cX2_nextHour.data.toList.drop 96 = dktX2_nextHour_4 := dk_seg dksX2_nextHour_3 24 rfl rfl
theorem dksX2_nextHour_5 : cX2_nextHour.data.toList.drop 120 = dktX2_nextHour_5 := dk_seg dksX2_nextHour_4 24 rfl rfl
theorem dksX2_nextHour_6 : cX2_nextHour.data.toList.drop 144 = dktX2_nextHour_6 := dk_seg dksX2_nextHour_5 24 rfl rfl
theorem dksX2_nextHour_7 : cX2_nextHour.data.toList.drop 166 = dktX2_nextHour_7 := dk_seg dksX2_nextHour_6 22 rfl rfl
theorem dksX2_nextHour_8 : cX2_nextHour.data.toList.drop 190 = dktX2_nextHour_8 := dk_seg dksX2_nextHour_7 24 rfl rfl
theorem dksX2_nextHour_9 : cX2_nextHour.data.toList.drop 212 = dktX2_nextHour_9 := dk_seg dksX2_nextHour_8 22 rfl rfl
theorem dksX2_nextHour_10 : cX2_nextHour.data.toList.drop 234 = dktX2_nextHour_10 := dk_seg dksX2_nextHour_9 22 rfl rfl
theorem dX2_nextHour_0 : decode cX2_nextHour 0 = .ok (.aload_n 0, 1) := dk_42 (dk_at dksX2_nextHour_0 0 rfl rfl)
theorem dX2_nextHour_1 : decode cX2_nextHour 1 = .ok (.dup, 1) := dk_89 (dk_at dksX2_nextHour_0 1 rfl rfl)
theorem dX2_nextHour_2 : decode cX2_nextHour 2 = .ok (.getfield 194, 3) := dk_180 0 194 (dk_at dksX2_nextHour_0 2 rfl rfl)
theorem dX2_nextHour_5 : decode cX2_nextHour 5 = .ok (.iconst 1, 1) := dk_4 (dk_at dksX2_nextHour_0 5 rfl rfl)
theorem dX2_nextHour_6 : decode cX2_nextHour 6 = .ok (.iadd, 1) := dk_96 (dk_at dksX2_nextHour_0 6 rfl rfl)
theorem dX2_nextHour_7 : decode cX2_nextHour 7 = .ok (.putfield 194, 3) := dk_181 0 194 (dk_at dksX2_nextHour_0 7 rfl rfl)
theorem dX2_nextHour_10 : decode cX2_nextHour 10 = .ok (.iconst 0, 1) := dk_3 (dk_at dksX2_nextHour_0 10 rfl rfl)
theorem dX2_nextHour_11 : decode cX2_nextHour 11 = .ok (.istore_n 1, 1) := dk_60 (dk_at dksX2_nextHour_0 11 rfl rfl)
theorem dX2_nextHour_12 : decode cX2_nextHour 12 = .ok (.iload_n 1, 1) := dk_27 (dk_at dksX2_nextHour_0 12 rfl rfl)
theorem dX2_nextHour_13 : decode cX2_nextHour 13 = .ok (.aload_n 0, 1) := dk_42 (dk_at dksX2_nextHour_0 13 rfl rfl)
theorem dX2_nextHour_14 : decode cX2_nextHour 14 = .ok (.getfield 113, 3) := dk_180 0 113 (dk_at dksX2_nextHour_0 14 rfl rfl)
theorem dX2_nextHour_17 : decode cX2_nextHour 17 = .ok (.if_icmp .ge 48, 3) := dk_162 0 48 (dk_at dksX2_nextHour_0 17 rfl rfl)
theorem dX2_nextHour_20 : decode cX2_nextHour 20 = .ok (.aload_n 0, 1) := dk_42 (dk_at dksX2_nextHour_0 20 rfl rfl)
theorem dX2_nextHour_21 : decode cX2_nextHour 21 = .ok (.getfield 20, 3) := dk_180 0 20 (dk_at dksX2_nextHour_0 21 rfl rfl)
theorem dX2_nextHour_24 : decode cX2_nextHour 24 = .ok (.iload_n 1, 1) := dk_27 (dk_at dksX2_nextHour_1 0 rfl rfl)
theorem dX2_nextHour_25 : decode cX2_nextHour 25 = .ok (.aload_n 0, 1) := dk_42 (dk_at dksX2_nextHour_1 1 rfl rfl)
theorem dX2_nextHour_26 : decode cX2_nextHour 26 = .ok (.getfield 20, 3) := dk_180 0 20 (dk_at dksX2_nextHour_1 2 rfl rfl)
theorem dX2_nextHour_29 : decode cX2_nextHour 29 = .ok (.iload_n 1, 1) := dk_27 (dk_at dksX2_nextHour_1 5 rfl rfl)
theorem dX2_nextHour_30 : decode cX2_nextHour 30 = .ok (.iaload, 1) := dk_46 (dk_at dksX2_nextHour_1 6 rfl rfl)
theorem dX2_nextHour_31 : decode cX2_nextHour 31 = .ok (.iconst 1, 1) := dk_4 (dk_at dksX2_nextHour_1 7 rfl rfl)
theorem dX2_nextHour_32 : decode cX2_nextHour 32 = .ok (.if_icmp .ne 20, 3) := dk_160 0 20 (dk_at dksX2_nextHour_1 8 rfl rfl)
theorem dX2_nextHour_35 : decode cX2_nextHour 35 = .ok (.aload_n 0, 1) := dk_42 (dk_at dksX2_nextHour_1 11 rfl rfl)
theorem dX2_nextHour_36 : decode cX2_nextHour 36 = .ok (.getfield 23, 3) := dk_180 0 23 (dk_at dksX2_nextHour_1 12 rfl rfl)
theorem dX2_nextHour_39 : decode cX2_nextHour 39 = .ok (.iload_n 1, 1) := dk_27 (dk_at dksX2_nextHour_1 15 rfl rfl)
theorem dX2_nextHour_40 : decode cX2_nextHour 40 = .ok (.iaload, 1) := dk_46 (dk_at dksX2_nextHour_1 16 rfl rfl)
theorem dX2_nextHour_41 : decode cX2_nextHour 41 = .ok (.aload_n 0, 1) := dk_42 (dk_at dksX2_nextHour_1 17 rfl rfl)
theorem dX2_nextHour_42 : decode cX2_nextHour 42 = .ok (.getfield 194, 3) := dk_180 0 194 (dk_at dksX2_nextHour_1 18 rfl rfl)
theorem dX2_nextHour_45 : decode cX2_nextHour 45 = .ok (.if_icmp .gt 7, 3) := dk_163 0 7 (dk_at dksX2_nextHour_1 21 rfl rfl)
theorem dX2_nextHour_48 : decode cX2_nextHour 48 = .ok (.iconst 0, 1) := dk_3 (dk_at dksX2_nextHour_2 0 rfl rfl)
theorem dX2_nextHour_49 : decode cX2_nextHour 49 = .ok (.goto 9, 3) := dk_167 0 9 (dk_at dksX2_nextHour_2 1 rfl rfl)
theorem dX2_nextHour_52 : decode cX2_nextHour 52 = .ok (.aload_n 0, 1) := dk_42 (dk_at dksX2_nextHour_2 4 rfl rfl)
theorem dX2_nextHour_53 : decode cX2_nextHour 53 = .ok (.getfield 20, 3) := dk_180 0 20 (dk_at dksX2_nextHour_2 5 rfl rfl)
theorem dX2_nextHour_56 : decode cX2_nextHour 56 = .ok (.iload_n 1, 1) := dk_27 (dk_at dksX2_nextHour_2 8 rfl rfl)
theorem dX2_nextHour_57 : decode cX2_nextHour 57 = .ok (.iaload, 1) := dk_46 (dk_at dksX2_nextHour_2 9 rfl rfl)
theorem dX2_nextHour_58 : decode cX2_nextHour 58 = .ok (.iastore, 1) := dk_79 (dk_at dksX2_nextHour_2 10 rfl rfl)
theorem dX2_nextHour_59 : decode cX2_nextHour 59 = .ok (.iinc 1 1, 3) := dk_132 1 1 (dk_at dksX2_nextHour_2 11 rfl rfl)
theorem dX2_nextHour_62 : decode cX2_nextHour 62 = .ok (.goto (-50), 3) := dk_167 255 206 (dk_at dksX2_nextHour_2 14 rfl rfl)
theorem dX2_nextHour_65 : decode cX2_nextHour 65 = .ok (.iconst 0, 1) := dk_3 (dk_at dksX2_nextHour_2 17 rfl rfl)
theorem dX2_nextHour_66 : decode cX2_nextHour 66 = .ok (.istore_n 1, 1) := dk_60 (dk_at dksX2_nextHour_2 18 rfl rfl)
theorem dX2_nextHour_67 : decode cX2_nextHour 67 = .ok (.iload_n 1, 1) := dk_27 (dk_at dksX2_nextHour_2 19 rfl rfl)
theorem dX2_nextHour_68 : decode cX2_nextHour 68 = .ok (.aload_n 0, 1) := dk_42 (dk_at dksX2_nextHour_2 20 rfl rfl)
theorem dX2_nextHour_69 : decode cX2_nextHour 69 = .ok (.getfield 181, 3) := dk_180 0 181 (dk_at dksX2_nextHour_2 21 rfl rfl)
theorem dX2_nextHour_72 : decode cX2_nextHour 72 = .ok (.if_icmp .ge 23, 3) := dk_162 0 23 (dk_at dksX2_nextHour_3 0 rfl rfl)
theorem dX2_nextHour_75 : decode cX2_nextHour 75 = .ok (.aload_n 0, 1) := dk_42 (dk_at dksX2_nextHour_3 3 rfl rfl)
theorem dX2_nextHour_76 : decode cX2_nextHour 76 = .ok (.getfield 42, 3) := dk_180 0 42 (dk_at dksX2_nextHour_3 4 rfl rfl)
theorem dX2_nextHour_79 : decode cX2_nextHour 79 = .ok (.iload_n 1, 1) := dk_27 (dk_at dksX2_nextHour_3 7 rfl rfl)
theorem dX2_nextHour_80 : decode cX2_nextHour 80 = .ok (.iaload, 1) := dk_46 (dk_at dksX2_nextHour_3 8 rfl rfl)
theorem dX2_nextHour_81 : decode cX2_nextHour 81 = .ok (.ifCond .ne 8, 3) := dk_154 0 8 (dk_at dksX2_nextHour_3 9 rfl rfl)
theorem dX2_nextHour_84 : decode cX2_nextHour 84 = .ok (.aload_n 0, 1) := dk_42 (dk_at dksX2_nextHour_3 12 rfl rfl)
theorem dX2_nextHour_85 : decode cX2_nextHour 85 = .ok (.iload_n 1, 1) := dk_27 (dk_at dksX2_nextHour_3 13 rfl rfl)
theorem dX2_nextHour_86 : decode cX2_nextHour 86 = .ok (.invokevirtual 207, 3) := dk_182 0 207 (dk_at dksX2_nextHour_3 14 rfl rfl)
theorem dX2_nextHour_89 : decode cX2_nextHour 89 = .ok (.iinc 1 1, 3) := dk_132 1 1 (dk_at dksX2_nextHour_3 17 rfl rfl)
theorem dX2_nextHour_92 : decode cX2_nextHour 92 = .ok (.goto (-25), 3) := dk_167 255 231 (dk_at dksX2_nextHour_3 20 rfl rfl)
theorem dX2_nextHour_95 : decode cX2_nextHour 95 = .ok (.iconst 0, 1) := dk_3 (dk_at dksX2_nextHour_3 23 rfl rfl)
theorem dX2_nextHour_96 : decode cX2_nextHour 96 = .ok (.istore_n 1, 1) := dk_60 (dk_at dksX2_nextHour_4 0 rfl rfl)
theorem dX2_nextHour_97 : decode cX2_nextHour 97 = .ok (.iload_n 1, 1) := dk_27 (dk_at dksX2_nextHour_4 1 rfl rfl)
theorem dX2_nextHour_98 : decode cX2_nextHour 98 = .ok (.aload_n 0, 1) := dk_42 (dk_at dksX2_nextHour_4 2 rfl rfl)
theorem dX2_nextHour_99 : decode cX2_nextHour 99 = .ok (.getfield 181, 3) := dk_180 0 181 (dk_at dksX2_nextHour_4 3 rfl rfl)
theorem dX2_nextHour_102 : decode cX2_nextHour 102 = .ok (.if_icmp .ge 41, 3) := dk_162 0 41 (dk_at dksX2_nextHour_4 6 rfl rfl)
theorem dX2_nextHour_105 : decode cX2_nextHour 105 = .ok (.aload_n 0, 1) := dk_42 (dk_at dksX2_nextHour_4 9 rfl rfl)
theorem dX2_nextHour_106 : decode cX2_nextHour 106 = .ok (.getfield 42, 3) := dk_180 0 42 (dk_at dksX2_nextHour_4 10 rfl rfl)
theorem dX2_nextHour_109 : decode cX2_nextHour 109 = .ok (.iload_n 1, 1) := dk_27 (dk_at dksX2_nextHour_4 13 rfl rfl)
theorem dX2_nextHour_110 : decode cX2_nextHour 110 = .ok (.iaload, 1) := dk_46 (dk_at dksX2_nextHour_4 14 rfl rfl)
theorem dX2_nextHour_111 : decode cX2_nextHour 111 = .ok (.iconst 1, 1) := dk_4 (dk_at dksX2_nextHour_4 15 rfl rfl)
theorem dX2_nextHour_112 : decode cX2_nextHour 112 = .ok (.if_icmp .gt 25, 3) := dk_163 0 25 (dk_at dksX2_nextHour_4 16 rfl rfl)
theorem dX2_nextHour_115 : decode cX2_nextHour 115 = .ok (.aload_n 0, 1) := dk_42 (dk_at dksX2_nextHour_4 19 rfl rfl)
theorem dX2_nextHour_116 : decode cX2_nextHour 116 = .ok (.getfield 194, 3) := dk_180 0 194 (dk_at dksX2_nextHour_4 20 rfl rfl)
theorem dX2_nextHour_119 : decode cX2_nextHour 119 = .ok (.aload_n 0, 1) := dk_42 (dk_at dksX2_nextHour_4 23 rfl rfl)
theorem dX2_nextHour_120 : decode cX2_nextHour 120 = .ok (.getfield 57, 3) := dk_180 0 57 (dk_at dksX2_nextHour_5 0 rfl rfl)
theorem dX2_nextHour_123 : decode cX2_nextHour 123 = .ok (.iload_n 1, 1) := dk_27 (dk_at dksX2_nextHour_5 3 rfl rfl)
theorem dX2_nextHour_124 : decode cX2_nextHour 124 = .ok (.iaload, 1) := dk_46 (dk_at dksX2_nextHour_5 4 rfl rfl)
theorem dX2_nextHour_125 : decode cX2_nextHour 125 = .ok (.isub, 1) := dk_100 (dk_at dksX2_nextHour_5 5 rfl rfl)
theorem dX2_nextHour_126 : decode cX2_nextHour 126 = .ok (.sipush 240, 3) := dk_17 0 240 (dk_at dksX2_nextHour_5 6 rfl rfl)
theorem dX2_nextHour_129 : decode cX2_nextHour 129 = .ok (.if_icmp .lt 8, 3) := dk_161 0 8 (dk_at dksX2_nextHour_5 9 rfl rfl)
theorem dX2_nextHour_132 : decode cX2_nextHour 132 = .ok (.aload_n 0, 1) := dk_42 (dk_at dksX2_nextHour_5 12 rfl rfl)
theorem dX2_nextHour_133 : decode cX2_nextHour 133 = .ok (.iload_n 1, 1) := dk_27 (dk_at dksX2_nextHour_5 13 rfl rfl)
theorem dX2_nextHour_134 : decode cX2_nextHour 134 = .ok (.invokevirtual 177, 3) := dk_182 0 177 (dk_at dksX2_nextHour_5 14 rfl rfl)
theorem dX2_nextHour_137 : decode cX2_nextHour 137 = .ok (.iinc 1 1, 3) := dk_132 1 1 (dk_at dksX2_nextHour_5 17 rfl rfl)
theorem dX2_nextHour_140 : decode cX2_nextHour 140 = .ok (.goto (-43), 3) := dk_167 255 213 (dk_at dksX2_nextHour_5 20 rfl rfl)
theorem dX2_nextHour_143 : decode cX2_nextHour 143 = .ok (.iconst 0, 1) := dk_3 (dk_at dksX2_nextHour_5 23 rfl rfl)
theorem dX2_nextHour_144 : decode cX2_nextHour 144 = .ok (.istore_n 1, 1) := dk_60 (dk_at dksX2_nextHour_6 0 rfl rfl)
theorem dX2_nextHour_145 : decode cX2_nextHour 145 = .ok (.iload_n 1, 1) := dk_27 (dk_at dksX2_nextHour_6 1 rfl rfl)
theorem dX2_nextHour_146 : decode cX2_nextHour 146 = .ok (.aload_n 0, 1) := dk_42 (dk_at dksX2_nextHour_6 2 rfl rfl)
theorem dX2_nextHour_147 : decode cX2_nextHour 147 = .ok (.getfield 181, 3) := dk_180 0 181 (dk_at dksX2_nextHour_6 3 rfl rfl)
theorem dX2_nextHour_150 : decode cX2_nextHour 150 = .ok (.if_icmp .ge 90, 3) := dk_162 0 90 (dk_at dksX2_nextHour_6 6 rfl rfl)
theorem dX2_nextHour_153 : decode cX2_nextHour 153 = .ok (.aload_n 0, 1) := dk_42 (dk_at dksX2_nextHour_6 9 rfl rfl)
theorem dX2_nextHour_154 : decode cX2_nextHour 154 = .ok (.iload_n 1, 1) := dk_27 (dk_at dksX2_nextHour_6 10 rfl rfl)
theorem dX2_nextHour_155 : decode cX2_nextHour 155 = .ok (.invokevirtual 166, 3) := dk_182 0 166 (dk_at dksX2_nextHour_6 11 rfl rfl)
theorem dX2_nextHour_158 : decode cX2_nextHour 158 = .ok (.istore_n 2, 1) := dk_61 (dk_at dksX2_nextHour_6 14 rfl rfl)
theorem dX2_nextHour_159 : decode cX2_nextHour 159 = .ok (.aload_n 0, 1) := dk_42 (dk_at dksX2_nextHour_6 15 rfl rfl)
theorem dX2_nextHour_160 : decode cX2_nextHour 160 = .ok (.getfield 42, 3) := dk_180 0 42 (dk_at dksX2_nextHour_6 16 rfl rfl)
theorem dX2_nextHour_163 : decode cX2_nextHour 163 = .ok (.iload_n 1, 1) := dk_27 (dk_at dksX2_nextHour_6 19 rfl rfl)
theorem dX2_nextHour_164 : decode cX2_nextHour 164 = .ok (.iaload, 1) := dk_46 (dk_at dksX2_nextHour_6 20 rfl rfl)
theorem dX2_nextHour_165 : decode cX2_nextHour 165 = .ok (.iconst 3, 1) := dk_6 (dk_at dksX2_nextHour_6 21 rfl rfl)
theorem dX2_nextHour_166 : decode cX2_nextHour 166 = .ok (.if_icmp .ne 68, 3) := dk_160 0 68 (dk_at dksX2_nextHour_7 0 rfl rfl)
theorem dX2_nextHour_169 : decode cX2_nextHour 169 = .ok (.aload_n 0, 1) := dk_42 (dk_at dksX2_nextHour_7 3 rfl rfl)
theorem dX2_nextHour_170 : decode cX2_nextHour 170 = .ok (.getfield 20, 3) := dk_180 0 20 (dk_at dksX2_nextHour_7 4 rfl rfl)
theorem dX2_nextHour_173 : decode cX2_nextHour 173 = .ok (.iload_n 2, 1) := dk_28 (dk_at dksX2_nextHour_7 7 rfl rfl)
theorem dX2_nextHour_174 : decode cX2_nextHour 174 = .ok (.iaload, 1) := dk_46 (dk_at dksX2_nextHour_7 8 rfl rfl)
theorem dX2_nextHour_175 : decode cX2_nextHour 175 = .ok (.ifCond .ne 59, 3) := dk_154 0 59 (dk_at dksX2_nextHour_7 9 rfl rfl)
theorem dX2_nextHour_178 : decode cX2_nextHour 178 = .ok (.aload_n 0, 1) := dk_42 (dk_at dksX2_nextHour_7 12 rfl rfl)
theorem dX2_nextHour_179 : decode cX2_nextHour 179 = .ok (.getfield 13, 3) := dk_180 0 13 (dk_at dksX2_nextHour_7 13 rfl rfl)
theorem dX2_nextHour_182 : decode cX2_nextHour 182 = .ok (.iload_n 2, 1) := dk_28 (dk_at dksX2_nextHour_7 16 rfl rfl)
theorem dX2_nextHour_183 : decode cX2_nextHour 183 = .ok (.laload, 1) := dk_47 (dk_at dksX2_nextHour_7 17 rfl rfl)
theorem dX2_nextHour_184 : decode cX2_nextHour 184 = .ok (.aload_n 0, 1) := dk_42 (dk_at dksX2_nextHour_7 18 rfl rfl)
theorem dX2_nextHour_185 : decode cX2_nextHour 185 = .ok (.getfield 48, 3) := dk_180 0 48 (dk_at dksX2_nextHour_7 19 rfl rfl)
theorem dX2_nextHour_188 : decode cX2_nextHour 188 = .ok (.iload_n 1, 1) := dk_27 (dk_at dksX2_nextHour_7 22 rfl rfl)
theorem dX2_nextHour_189 : decode cX2_nextHour 189 = .ok (.iaload, 1) := dk_46 (dk_at dksX2_nextHour_7 23 rfl rfl)
theorem dX2_nextHour_190 : decode cX2_nextHour 190 = .ok (.i2l, 1) := dk_133 (dk_at dksX2_nextHour_8 0 rfl rfl)
theorem dX2_nextHour_191 : decode cX2_nextHour 191 = .ok (.lcmp, 1) := dk_148 (dk_at dksX2_nextHour_8 1 rfl rfl)
theorem dX2_nextHour_192 : decode cX2_nextHour 192 = .ok (.ifCond .lt 42, 3) := dk_155 0 42 (dk_at dksX2_nextHour_8 2 rfl rfl)
theorem dX2_nextHour_195 : decode cX2_nextHour 195 = .ok (.aload_n 0, 1) := dk_42 (dk_at dksX2_nextHour_8 5 rfl rfl)
theorem dX2_nextHour_196 : decode cX2_nextHour 196 = .ok (.getfield 13, 3) := dk_180 0 13 (dk_at dksX2_nextHour_8 6 rfl rfl)
theorem dX2_nextHour_199 : decode cX2_nextHour 199 = .ok (.iload_n 2, 1) := dk_28 (dk_at dksX2_nextHour_8 9 rfl rfl)
theorem dX2_nextHour_200 : decode cX2_nextHour 200 = .ok (.dup2, 1) := dk_92 (dk_at dksX2_nextHour_8 10 rfl rfl)
theorem dX2_nextHour_201 : decode cX2_nextHour 201 = .ok (.laload, 1) := dk_47 (dk_at dksX2_nextHour_8 11 rfl rfl)
theorem dX2_nextHour_202 : decode cX2_nextHour 202 = .ok (.aload_n 0, 1) := dk_42 (dk_at dksX2_nextHour_8 12 rfl rfl)
theorem dX2_nextHour_203 : decode cX2_nextHour 203 = .ok (.getfield 48, 3) := dk_180 0 48 (dk_at dksX2_nextHour_8 13 rfl rfl)
theorem dX2_nextHour_206 : decode cX2_nextHour 206 = .ok (.iload_n 1, 1) := dk_27 (dk_at dksX2_nextHour_8 16 rfl rfl)
theorem dX2_nextHour_207 : decode cX2_nextHour 207 = .ok (.iaload, 1) := dk_46 (dk_at dksX2_nextHour_8 17 rfl rfl)
theorem dX2_nextHour_208 : decode cX2_nextHour 208 = .ok (.i2l, 1) := dk_133 (dk_at dksX2_nextHour_8 18 rfl rfl)
theorem dX2_nextHour_209 : decode cX2_nextHour 209 = .ok (.lsub, 1) := dk_101 (dk_at dksX2_nextHour_8 19 rfl rfl)
theorem dX2_nextHour_210 : decode cX2_nextHour 210 = .ok (.lastore, 1) := dk_80 (dk_at dksX2_nextHour_8 20 rfl rfl)
theorem dX2_nextHour_211 : decode cX2_nextHour 211 = .ok (.aload_n 0, 1) := dk_42 (dk_at dksX2_nextHour_8 21 rfl rfl)
theorem dX2_nextHour_212 : decode cX2_nextHour 212 = .ok (.getfield 97, 3) := dk_180 0 97 (dk_at dksX2_nextHour_9 0 rfl rfl)
theorem dX2_nextHour_215 : decode cX2_nextHour 215 = .ok (.iconst 2, 1) := dk_5 (dk_at dksX2_nextHour_9 3 rfl rfl)
theorem dX2_nextHour_216 : decode cX2_nextHour 216 = .ok (.dup2, 1) := dk_92 (dk_at dksX2_nextHour_9 4 rfl rfl)
theorem dX2_nextHour_217 : decode cX2_nextHour 217 = .ok (.laload, 1) := dk_47 (dk_at dksX2_nextHour_9 5 rfl rfl)
theorem dX2_nextHour_218 : decode cX2_nextHour 218 = .ok (.aload_n 0, 1) := dk_42 (dk_at dksX2_nextHour_9 6 rfl rfl)
theorem dX2_nextHour_219 : decode cX2_nextHour 219 = .ok (.getfield 48, 3) := dk_180 0 48 (dk_at dksX2_nextHour_9 7 rfl rfl)
theorem dX2_nextHour_222 : decode cX2_nextHour 222 = .ok (.iload_n 1, 1) := dk_27 (dk_at dksX2_nextHour_9 10 rfl rfl)
theorem dX2_nextHour_223 : decode cX2_nextHour 223 = .ok (.iaload, 1) := dk_46 (dk_at dksX2_nextHour_9 11 rfl rfl)
theorem dX2_nextHour_224 : decode cX2_nextHour 224 = .ok (.i2l, 1) := dk_133 (dk_at dksX2_nextHour_9 12 rfl rfl)
theorem dX2_nextHour_225 : decode cX2_nextHour 225 = .ok (.ladd, 1) := dk_97 (dk_at dksX2_nextHour_9 13 rfl rfl)
theorem dX2_nextHour_226 : decode cX2_nextHour 226 = .ok (.lastore, 1) := dk_80 (dk_at dksX2_nextHour_9 14 rfl rfl)
theorem dX2_nextHour_227 : decode cX2_nextHour 227 = .ok (.aload_n 0, 1) := dk_42 (dk_at dksX2_nextHour_9 15 rfl rfl)
theorem dX2_nextHour_228 : decode cX2_nextHour 228 = .ok (.getfield 42, 3) := dk_180 0 42 (dk_at dksX2_nextHour_9 16 rfl rfl)
theorem dX2_nextHour_231 : decode cX2_nextHour 231 = .ok (.iload_n 1, 1) := dk_27 (dk_at dksX2_nextHour_9 19 rfl rfl)
theorem dX2_nextHour_232 : decode cX2_nextHour 232 = .ok (.iconst 4, 1) := dk_7 (dk_at dksX2_nextHour_9 20 rfl rfl)
theorem dX2_nextHour_233 : decode cX2_nextHour 233 = .ok (.iastore, 1) := dk_79 (dk_at dksX2_nextHour_9 21 rfl rfl)
theorem dX2_nextHour_234 : decode cX2_nextHour 234 = .ok (.iinc 1 1, 3) := dk_132 1 1 (dk_at dksX2_nextHour_10 0 rfl rfl)
theorem dX2_nextHour_237 : decode cX2_nextHour 237 = .ok (.goto (-92), 3) := dk_167 255 164 (dk_at dksX2_nextHour_10 3 rfl rfl)
theorem dX2_nextHour_240 : decode cX2_nextHour 240 = .ok (.aload_n 0, 1) := dk_42 (dk_at dksX2_nextHour_10 6 rfl rfl)
theorem dX2_nextHour_241 : decode cX2_nextHour 241 = .ok (.invokevirtual 210, 3) := dk_182 0 210 (dk_at dksX2_nextHour_10 7 rfl rfl)
theorem dX2_nextHour_244 : decode cX2_nextHour 244 = .ok (.return_, 1) := dk_177 (dk_at dksX2_nextHour_10 10 rfl rfl)
abbrev cX2_move : ByteArray := prog_11_method_31_code
def yX2_move : MethodName := ⟨RX2, "move", "(I)V"⟩
def dkwX2_move_3 : List UInt8 := [27, 46, 42, 180, 0, 63, 27, 46, 4, 100, 160, 0, 7, 4, 167, 0, 4, 3, 79, 177]
abbrev dktX2_move_3 : List UInt8 := dkwX2_move_3 ++ []
def dkwX2_move_2 : List UInt8 := [180, 0, 69, 16, 12, 27, 104, 28, 96, 46, 116, 133, 182, 0, 135, 42, 180, 0, 42, 27, 42, 180, 0, 60]
abbrev dktX2_move_2 : List UInt8 := dkwX2_move_2 ++ dktX2_move_3
def dkwX2_move_1 : List UInt8 := [180, 0, 66, 16, 12, 27, 104, 28, 96, 4, 96, 46, 42, 180, 0, 66, 16, 12, 27, 104, 28, 96, 46, 42]
abbrev dktX2_move_1 : List UInt8 := dkwX2_move_1 ++ dktX2_move_2
def dkwX2_move_0 : List UInt8 := [42, 180, 0, 60, 27, 46, 61, 42, 180, 0, 60, 27, 92, 46, 4, 96, 79, 42, 42, 180, 0, 39, 42]
abbrev dktX2_move_0 : List UInt8 := dkwX2_move_0 ++ dktX2_move_1
theorem dksX2_move_0 : cX2_move.data.toList.drop 0 = dktX2_move_0 := by decide +kernel
theorem dksX2_move_1 : cX2_move.data.toList.drop 23 = dktX2_move_1 := dk_seg dksX2_move_0 23 rfl rfl
theorem dksX2_move_2 : cX2_move.data.toList.drop 47 = dktX2_move_2 := dk_seg dksX2_move_1 24 rfl rfl
theorem dksX2_move_3 : cX2_move.data.toList.drop 71 = dktX2_move_3 := dk_seg dksX2_move_2 24 rfl rfl
theorem dX2_move_0 : decode cX2_move 0 = .ok (.aload_n 0, 1) := dk_42 (dk_at dksX2_move_0 0 rfl rfl)
theorem dX2_move_1 : decode cX2_move 1 = .ok (.getfield 60, 3) := dk_180 0 60 (dk_at dksX2_move_0 1 rfl rfl)
theorem dX2_move_4 : decode cX2_move 4 = .ok (.iload_n 1, 1) := dk_27 (dk_at dksX2_move_0 4 rfl rfl)
theorem dX2_move_5 : decode cX2_move 5 = .ok (.iaload, 1) := dk_46 (dk_at dksX2_move_0 5 rfl rfl)
theorem dX2_move_6 : decode cX2_move 6 = .ok (.istore_n 2, 1) := dk_61 (dk_at dksX2_move_0 6 rfl rfl)
theorem dX2_move_7 : decode cX2_move 7 = .ok (.aload_n 0, 1) := dk_42 (dk_at dksX2_move_0 7 rfl rfl)
theorem dX2_move_8 : decode cX2_move 8 = .ok (.getfield 60, 3) := dk_180 0 60 (dk_at dksX2_move_0 8 rfl rfl)
theorem dX2_move_11 : decode cX2_move 11 = .ok (.iload_n 1, 1) := dk_27 (dk_at dksX2_move_0 11 rfl rfl)
theorem dX2_move_12 : decode cX2_move 12 = .ok (.dup2, 1) := dk_92 (dk_at dksX2_move_0 12 rfl rfl)
theorem dX2_move_13 : decode cX2_move 13 = .ok (.iaload, 1) := dk_46 (dk_at dksX2_move_0 13 rfl rfl)
theorem dX2_move_14 : decode cX2_move 14 = .ok (.iconst 1, 1) := dk_4 (dk_at dksX2_move_0 14 rfl rfl)
theorem dX2_move_15 : decode cX2_move 15 = .ok (.iadd, 1) := dk_96 (dk_at dksX2_move_0 15 rfl rfl)
theorem dX2_move_16 : decode cX2_move 16 = .ok (.iastore, 1) := dk_79 (dk_at dksX2_move_0 16 rfl rfl)
theorem dX2_move_17 : decode cX2_move 17 = .ok (.aload_n 0, 1) := dk_42 (dk_at dksX2_move_0 17 rfl rfl)
theorem dX2_move_18 : decode cX2_move 18 = .ok (.aload_n 0, 1) := dk_42 (dk_at dksX2_move_0 18 rfl rfl)
theorem dX2_move_19 : decode cX2_move 19 = .ok (.getfield 39, 3) := dk_180 0 39 (dk_at dksX2_move_0 19 rfl rfl)
theorem dX2_move_22 : decode cX2_move 22 = .ok (.aload_n 0, 1) := dk_42 (dk_at dksX2_move_0 22 rfl rfl)
theorem dX2_move_23 : decode cX2_move 23 = .ok (.getfield 66, 3) := dk_180 0 66 (dk_at dksX2_move_1 0 rfl rfl)
theorem dX2_move_26 : decode cX2_move 26 = .ok (.bipush 12, 2) := dk_16 12 (dk_at dksX2_move_1 3 rfl rfl)
theorem dX2_move_28 : decode cX2_move 28 = .ok (.iload_n 1, 1) := dk_27 (dk_at dksX2_move_1 5 rfl rfl)
theorem dX2_move_29 : decode cX2_move 29 = .ok (.imul, 1) := dk_104 (dk_at dksX2_move_1 6 rfl rfl)
theorem dX2_move_30 : decode cX2_move 30 = .ok (.iload_n 2, 1) := dk_28 (dk_at dksX2_move_1 7 rfl rfl)
theorem dX2_move_31 : decode cX2_move 31 = .ok (.iadd, 1) := dk_96 (dk_at dksX2_move_1 8 rfl rfl)
theorem dX2_move_32 : decode cX2_move 32 = .ok (.iconst 1, 1) := dk_4 (dk_at dksX2_move_1 9 rfl rfl)
theorem dX2_move_33 : decode cX2_move 33 = .ok (.iadd, 1) := dk_96 (dk_at dksX2_move_1 10 rfl rfl)
theorem dX2_move_34 : decode cX2_move 34 = .ok (.iaload, 1) := dk_46 (dk_at dksX2_move_1 11 rfl rfl)
theorem dX2_move_35 : decode cX2_move 35 = .ok (.aload_n 0, 1) := dk_42 (dk_at dksX2_move_1 12 rfl rfl)
theorem dX2_move_36 : decode cX2_move 36 = .ok (.getfield 66, 3) := dk_180 0 66 (dk_at dksX2_move_1 13 rfl rfl)
theorem dX2_move_39 : decode cX2_move 39 = .ok (.bipush 12, 2) := dk_16 12 (dk_at dksX2_move_1 16 rfl rfl)
theorem dX2_move_41 : decode cX2_move 41 = .ok (.iload_n 1, 1) := dk_27 (dk_at dksX2_move_1 18 rfl rfl)
theorem dX2_move_42 : decode cX2_move 42 = .ok (.imul, 1) := dk_104 (dk_at dksX2_move_1 19 rfl rfl)
theorem dX2_move_43 : decode cX2_move 43 = .ok (.iload_n 2, 1) := dk_28 (dk_at dksX2_move_1 20 rfl rfl)
theorem dX2_move_44 : decode cX2_move 44 = .ok (.iadd, 1) := dk_96 (dk_at dksX2_move_1 21 rfl rfl)
theorem dX2_move_45 : decode cX2_move 45 = .ok (.iaload, 1) := dk_46 (dk_at dksX2_move_1 22 rfl rfl)
theorem dX2_move_46 : decode cX2_move 46 = .ok (.aload_n 0, 1) := dk_42 (dk_at dksX2_move_1 23 rfl rfl)
theorem dX2_move_47 : decode cX2_move 47 = .ok (.getfield 69, 3) := dk_180 0 69 (dk_at dksX2_move_2 0 rfl rfl)
theorem dX2_move_50 : decode cX2_move 50 = .ok (.bipush 12, 2) := dk_16 12 (dk_at dksX2_move_2 3 rfl rfl)
theorem dX2_move_52 : decode cX2_move 52 = .ok (.iload_n 1, 1) := dk_27 (dk_at dksX2_move_2 5 rfl rfl)
theorem dX2_move_53 : decode cX2_move 53 = .ok (.imul, 1) := dk_104 (dk_at dksX2_move_2 6 rfl rfl)
theorem dX2_move_54 : decode cX2_move 54 = .ok (.iload_n 2, 1) := dk_28 (dk_at dksX2_move_2 7 rfl rfl)
theorem dX2_move_55 : decode cX2_move 55 = .ok (.iadd, 1) := dk_96 (dk_at dksX2_move_2 8 rfl rfl)
theorem dX2_move_56 : decode cX2_move 56 = .ok (.iaload, 1) := dk_46 (dk_at dksX2_move_2 9 rfl rfl)
theorem dX2_move_57 : decode cX2_move 57 = .ok (.ineg, 1) := dk_116 (dk_at dksX2_move_2 10 rfl rfl)
theorem dX2_move_58 : decode cX2_move 58 = .ok (.i2l, 1) := dk_133 (dk_at dksX2_move_2 11 rfl rfl)
theorem dX2_move_59 : decode cX2_move 59 = .ok (.invokevirtual 135, 3) := dk_182 0 135 (dk_at dksX2_move_2 12 rfl rfl)
theorem dX2_move_62 : decode cX2_move 62 = .ok (.aload_n 0, 1) := dk_42 (dk_at dksX2_move_2 15 rfl rfl)
theorem dX2_move_63 : decode cX2_move 63 = .ok (.getfield 42, 3) := dk_180 0 42 (dk_at dksX2_move_2 16 rfl rfl)
theorem dX2_move_66 : decode cX2_move 66 = .ok (.iload_n 1, 1) := dk_27 (dk_at dksX2_move_2 19 rfl rfl)
theorem dX2_move_67 : decode cX2_move 67 = .ok (.aload_n 0, 1) := dk_42 (dk_at dksX2_move_2 20 rfl rfl)
theorem dX2_move_68 : decode cX2_move 68 = .ok (.getfield 60, 3) := dk_180 0 60 (dk_at dksX2_move_2 21 rfl rfl)
theorem dX2_move_71 : decode cX2_move 71 = .ok (.iload_n 1, 1) := dk_27 (dk_at dksX2_move_3 0 rfl rfl)
theorem dX2_move_72 : decode cX2_move 72 = .ok (.iaload, 1) := dk_46 (dk_at dksX2_move_3 1 rfl rfl)
theorem dX2_move_73 : decode cX2_move 73 = .ok (.aload_n 0, 1) := dk_42 (dk_at dksX2_move_3 2 rfl rfl)
theorem dX2_move_74 : decode cX2_move 74 = .ok (.getfield 63, 3) := dk_180 0 63 (dk_at dksX2_move_3 3 rfl rfl)
theorem dX2_move_77 : decode cX2_move 77 = .ok (.iload_n 1, 1) := dk_27 (dk_at dksX2_move_3 6 rfl rfl)
theorem dX2_move_78 : decode cX2_move 78 = .ok (.iaload, 1) := dk_46 (dk_at dksX2_move_3 7 rfl rfl)
theorem dX2_move_79 : decode cX2_move 79 = .ok (.iconst 1, 1) := dk_4 (dk_at dksX2_move_3 8 rfl rfl)
theorem dX2_move_80 : decode cX2_move 80 = .ok (.isub, 1) := dk_100 (dk_at dksX2_move_3 9 rfl rfl)
theorem dX2_move_81 : decode cX2_move 81 = .ok (.if_icmp .ne 7, 3) := dk_160 0 7 (dk_at dksX2_move_3 10 rfl rfl)
theorem dX2_move_84 : decode cX2_move 84 = .ok (.iconst 1, 1) := dk_4 (dk_at dksX2_move_3 13 rfl rfl)
theorem dX2_move_85 : decode cX2_move 85 = .ok (.goto 4, 3) := dk_167 0 4 (dk_at dksX2_move_3 14 rfl rfl)
theorem dX2_move_88 : decode cX2_move 88 = .ok (.iconst 0, 1) := dk_3 (dk_at dksX2_move_3 17 rfl rfl)
theorem dX2_move_89 : decode cX2_move 89 = .ok (.iastore, 1) := dk_79 (dk_at dksX2_move_3 18 rfl rfl)
theorem dX2_move_90 : decode cX2_move 90 = .ok (.return_, 1) := dk_177 (dk_at dksX2_move_3 19 rfl rfl)
abbrev cX2_comeAll : ByteArray := prog_11_method_32_code
def yX2_comeAll : MethodName := ⟨RX2, "comeAll", "()V"⟩
def dkwX2_comeAll_3 : List UInt8 := [46, 42, 180, 0, 72, 27, 46, 116, 133, 182, 0, 203, 132, 1, 1, 167, 255, 171, 177]
abbrev dktX2_comeAll_3 : List UInt8 := dkwX2_comeAll_3 ++ []
def dkwX2_comeAll_2 : List UInt8 := [46, 92, 47, 42, 180, 0, 72, 27, 46, 133, 97, 80, 42, 42, 180, 0, 75, 27, 46, 42, 180, 0, 78, 27]
abbrev dktX2_comeAll_2 : List UInt8 := dkwX2_comeAll_2 ++ dktX2_comeAll_3
def dkwX2_comeAll_1 : List UInt8 := [46, 42, 180, 0, 194, 163, 0, 55, 42, 180, 0, 84, 27, 4, 84, 42, 180, 0, 13, 42, 180, 0, 78, 27]
abbrev dktX2_comeAll_1 : List UInt8 := dkwX2_comeAll_1 ++ dktX2_comeAll_2
def dkwX2_comeAll_0 : List UInt8 := [3, 60, 27, 42, 180, 0, 200, 162, 0, 83, 42, 180, 0, 84, 27, 51, 154, 0, 68, 42, 180, 0, 81, 27]
abbrev dktX2_comeAll_0 : List UInt8 := dkwX2_comeAll_0 ++ dktX2_comeAll_1
theorem dksX2_comeAll_0 : cX2_comeAll.data.toList.drop 0 = dktX2_comeAll_0 := by decide +kernel
theorem dksX2_comeAll_1 : cX2_comeAll.data.toList.drop 24 = dktX2_comeAll_1 := dk_seg dksX2_comeAll_0 24 rfl rfl
theorem dksX2_comeAll_2 : cX2_comeAll.data.toList.drop 48 = dktX2_comeAll_2 := dk_seg dksX2_comeAll_1 24 rfl rfl
theorem dksX2_comeAll_3 : cX2_comeAll.data.toList.drop 72 = dktX2_comeAll_3 := dk_seg dksX2_comeAll_2 24 rfl rfl
theorem dX2_comeAll_0 : decode cX2_comeAll 0 = .ok (.iconst 0, 1) := dk_3 (dk_at dksX2_comeAll_0 0 rfl rfl)
theorem dX2_comeAll_1 : decode cX2_comeAll 1 = .ok (.istore_n 1, 1) := dk_60 (dk_at dksX2_comeAll_0 1 rfl rfl)
theorem dX2_comeAll_2 : decode cX2_comeAll 2 = .ok (.iload_n 1, 1) := dk_27 (dk_at dksX2_comeAll_0 2 rfl rfl)
theorem dX2_comeAll_3 : decode cX2_comeAll 3 = .ok (.aload_n 0, 1) := dk_42 (dk_at dksX2_comeAll_0 3 rfl rfl)
theorem dX2_comeAll_4 : decode cX2_comeAll 4 = .ok (.getfield 200, 3) := dk_180 0 200 (dk_at dksX2_comeAll_0 4 rfl rfl)
theorem dX2_comeAll_7 : decode cX2_comeAll 7 = .ok (.if_icmp .ge 83, 3) := dk_162 0 83 (dk_at dksX2_comeAll_0 7 rfl rfl)
theorem dX2_comeAll_10 : decode cX2_comeAll 10 = .ok (.aload_n 0, 1) := dk_42 (dk_at dksX2_comeAll_0 10 rfl rfl)
theorem dX2_comeAll_11 : decode cX2_comeAll 11 = .ok (.getfield 84, 3) := dk_180 0 84 (dk_at dksX2_comeAll_0 11 rfl rfl)
theorem dX2_comeAll_14 : decode cX2_comeAll 14 = .ok (.iload_n 1, 1) := dk_27 (dk_at dksX2_comeAll_0 14 rfl rfl)
theorem dX2_comeAll_15 : decode cX2_comeAll 15 = .ok (.baload, 1) := dk_51 (dk_at dksX2_comeAll_0 15 rfl rfl)
theorem dX2_comeAll_16 : decode cX2_comeAll 16 = .ok (.ifCond .ne 68, 3) := dk_154 0 68 (dk_at dksX2_comeAll_0 16 rfl rfl)
theorem dX2_comeAll_19 : decode cX2_comeAll 19 = .ok (.aload_n 0, 1) := dk_42 (dk_at dksX2_comeAll_0 19 rfl rfl)
theorem dX2_comeAll_20 : decode cX2_comeAll 20 = .ok (.getfield 81, 3) := dk_180 0 81 (dk_at dksX2_comeAll_0 20 rfl rfl)
theorem dX2_comeAll_23 : decode cX2_comeAll 23 = .ok (.iload_n 1, 1) := dk_27 (dk_at dksX2_comeAll_0 23 rfl rfl)
theorem dX2_comeAll_24 : decode cX2_comeAll 24 = .ok (.iaload, 1) := dk_46 (dk_at dksX2_comeAll_1 0 rfl rfl)
theorem dX2_comeAll_25 : decode cX2_comeAll 25 = .ok (.aload_n 0, 1) := dk_42 (dk_at dksX2_comeAll_1 1 rfl rfl)
theorem dX2_comeAll_26 : decode cX2_comeAll 26 = .ok (.getfield 194, 3) := dk_180 0 194 (dk_at dksX2_comeAll_1 2 rfl rfl)
theorem dX2_comeAll_29 : decode cX2_comeAll 29 = .ok (.if_icmp .gt 55, 3) := dk_163 0 55 (dk_at dksX2_comeAll_1 5 rfl rfl)
theorem dX2_comeAll_32 : decode cX2_comeAll 32 = .ok (.aload_n 0, 1) := dk_42 (dk_at dksX2_comeAll_1 8 rfl rfl)
theorem dX2_comeAll_33 : decode cX2_comeAll 33 = .ok (.getfield 84, 3) := dk_180 0 84 (dk_at dksX2_comeAll_1 9 rfl rfl)
theorem dX2_comeAll_36 : decode cX2_comeAll 36 = .ok (.iload_n 1, 1) := dk_27 (dk_at dksX2_comeAll_1 12 rfl rfl)
theorem dX2_comeAll_37 : decode cX2_comeAll 37 = .ok (.iconst 1, 1) := dk_4 (dk_at dksX2_comeAll_1 13 rfl rfl)
theorem dX2_comeAll_38 : decode cX2_comeAll 38 = .ok (.bastore, 1) := dk_84 (dk_at dksX2_comeAll_1 14 rfl rfl)
theorem dX2_comeAll_39 : decode cX2_comeAll 39 = .ok (.aload_n 0, 1) := dk_42 (dk_at dksX2_comeAll_1 15 rfl rfl)
theorem dX2_comeAll_40 : decode cX2_comeAll 40 = .ok (.getfield 13, 3) := dk_180 0 13 (dk_at dksX2_comeAll_1 16 rfl rfl)
theorem dX2_comeAll_43 : decode cX2_comeAll 43 = .ok (.aload_n 0, 1) := dk_42 (dk_at dksX2_comeAll_1 19 rfl rfl)
theorem dX2_comeAll_44 : decode cX2_comeAll 44 = .ok (.getfield 78, 3) := dk_180 0 78 (dk_at dksX2_comeAll_1 20 rfl rfl)
theorem dX2_comeAll_47 : decode cX2_comeAll 47 = .ok (.iload_n 1, 1) := dk_27 (dk_at dksX2_comeAll_1 23 rfl rfl)
theorem dX2_comeAll_48 : decode cX2_comeAll 48 = .ok (.iaload, 1) := dk_46 (dk_at dksX2_comeAll_2 0 rfl rfl)
theorem dX2_comeAll_49 : decode cX2_comeAll 49 = .ok (.dup2, 1) := dk_92 (dk_at dksX2_comeAll_2 1 rfl rfl)
theorem dX2_comeAll_50 : decode cX2_comeAll 50 = .ok (.laload, 1) := dk_47 (dk_at dksX2_comeAll_2 2 rfl rfl)
theorem dX2_comeAll_51 : decode cX2_comeAll 51 = .ok (.aload_n 0, 1) := dk_42 (dk_at dksX2_comeAll_2 3 rfl rfl)
theorem dX2_comeAll_52 : decode cX2_comeAll 52 = .ok (.getfield 72, 3) := dk_180 0 72 (dk_at dksX2_comeAll_2 4 rfl rfl)
theorem dX2_comeAll_55 : decode cX2_comeAll 55 = .ok (.iload_n 1, 1) := dk_27 (dk_at dksX2_comeAll_2 7 rfl rfl)
theorem dX2_comeAll_56 : decode cX2_comeAll 56 = .ok (.iaload, 1) := dk_46 (dk_at dksX2_comeAll_2 8 rfl rfl)
theorem dX2_comeAll_57 : decode cX2_comeAll 57 = .ok (.i2l, 1) := dk_133 (dk_at dksX2_comeAll_2 9 rfl rfl)
theorem dX2_comeAll_58 : decode cX2_comeAll 58 = .ok (.ladd, 1) := dk_97 (dk_at dksX2_comeAll_2 10 rfl rfl)
theorem dX2_comeAll_59 : decode cX2_comeAll 59 = .ok (.lastore, 1) := dk_80 (dk_at dksX2_comeAll_2 11 rfl rfl)
theorem dX2_comeAll_60 : decode cX2_comeAll 60 = .ok (.aload_n 0, 1) := dk_42 (dk_at dksX2_comeAll_2 12 rfl rfl)
theorem dX2_comeAll_61 : decode cX2_comeAll 61 = .ok (.aload_n 0, 1) := dk_42 (dk_at dksX2_comeAll_2 13 rfl rfl)
theorem dX2_comeAll_62 : decode cX2_comeAll 62 = .ok (.getfield 75, 3) := dk_180 0 75 (dk_at dksX2_comeAll_2 14 rfl rfl)
theorem dX2_comeAll_65 : decode cX2_comeAll 65 = .ok (.iload_n 1, 1) := dk_27 (dk_at dksX2_comeAll_2 17 rfl rfl)
theorem dX2_comeAll_66 : decode cX2_comeAll 66 = .ok (.iaload, 1) := dk_46 (dk_at dksX2_comeAll_2 18 rfl rfl)
theorem dX2_comeAll_67 : decode cX2_comeAll 67 = .ok (.aload_n 0, 1) := dk_42 (dk_at dksX2_comeAll_2 19 rfl rfl)
theorem dX2_comeAll_68 : decode cX2_comeAll 68 = .ok (.getfield 78, 3) := dk_180 0 78 (dk_at dksX2_comeAll_2 20 rfl rfl)
theorem dX2_comeAll_71 : decode cX2_comeAll 71 = .ok (.iload_n 1, 1) := dk_27 (dk_at dksX2_comeAll_2 23 rfl rfl)
theorem dX2_comeAll_72 : decode cX2_comeAll 72 = .ok (.iaload, 1) := dk_46 (dk_at dksX2_comeAll_3 0 rfl rfl)
theorem dX2_comeAll_73 : decode cX2_comeAll 73 = .ok (.aload_n 0, 1) := dk_42 (dk_at dksX2_comeAll_3 1 rfl rfl)
theorem dX2_comeAll_74 : decode cX2_comeAll 74 = .ok (.getfield 72, 3) := dk_180 0 72 (dk_at dksX2_comeAll_3 2 rfl rfl)
theorem dX2_comeAll_77 : decode cX2_comeAll 77 = .ok (.iload_n 1, 1) := dk_27 (dk_at dksX2_comeAll_3 5 rfl rfl)
theorem dX2_comeAll_78 : decode cX2_comeAll 78 = .ok (.iaload, 1) := dk_46 (dk_at dksX2_comeAll_3 6 rfl rfl)
theorem dX2_comeAll_79 : decode cX2_comeAll 79 = .ok (.ineg, 1) := dk_116 (dk_at dksX2_comeAll_3 7 rfl rfl)
theorem dX2_comeAll_80 : decode cX2_comeAll 80 = .ok (.i2l, 1) := dk_133 (dk_at dksX2_comeAll_3 8 rfl rfl)
theorem dX2_comeAll_81 : decode cX2_comeAll 81 = .ok (.invokevirtual 203, 3) := dk_182 0 203 (dk_at dksX2_comeAll_3 9 rfl rfl)
theorem dX2_comeAll_84 : decode cX2_comeAll 84 = .ok (.iinc 1 1, 3) := dk_132 1 1 (dk_at dksX2_comeAll_3 12 rfl rfl)
theorem dX2_comeAll_87 : decode cX2_comeAll 87 = .ok (.goto (-85), 3) := dk_167 255 171 (dk_at dksX2_comeAll_3 15 rfl rfl)
theorem dX2_comeAll_90 : decode cX2_comeAll 90 = .ok (.return_, 1) := dk_177 (dk_at dksX2_comeAll_3 18 rfl rfl)
abbrev cX2_oweBoth : ByteArray := prog_11_method_12_code
def yX2_oweBoth : MethodName := ⟨RX2, "oweBoth", "(IIJ)V"⟩
def dkwX2_oweBoth_1 : List UInt8 := [42, 180, 0, 39, 27, 28, 33, 182, 0, 135, 42, 42, 180, 0, 39, 28, 27, 33, 117, 182, 0, 135, 177]
abbrev dktX2_oweBoth_1 : List UInt8 := dkwX2_oweBoth_1 ++ []
def dkwX2_oweBoth_0 : List UInt8 := [42, 42, 180, 0, 36, 27, 28, 33, 182, 0, 135, 42, 42, 180, 0, 36, 28, 27, 33, 117, 182, 0, 135, 42]
abbrev dktX2_oweBoth_0 : List UInt8 := dkwX2_oweBoth_0 ++ dktX2_oweBoth_1
theorem dksX2_oweBoth_0 : cX2_oweBoth.data.toList.drop 0 = dktX2_oweBoth_0 := by decide +kernel
theorem dksX2_oweBoth_1 : cX2_oweBoth.data.toList.drop 24 = dktX2_oweBoth_1 := dk_seg dksX2_oweBoth_0 24 rfl rfl
theorem dX2_oweBoth_0 : decode cX2_oweBoth 0 = .ok (.aload_n 0, 1) := dk_42 (dk_at dksX2_oweBoth_0 0 rfl rfl)
theorem dX2_oweBoth_1 : decode cX2_oweBoth 1 = .ok (.aload_n 0, 1) := dk_42 (dk_at dksX2_oweBoth_0 1 rfl rfl)
theorem dX2_oweBoth_2 : decode cX2_oweBoth 2 = .ok (.getfield 36, 3) := dk_180 0 36 (dk_at dksX2_oweBoth_0 2 rfl rfl)
theorem dX2_oweBoth_5 : decode cX2_oweBoth 5 = .ok (.iload_n 1, 1) := dk_27 (dk_at dksX2_oweBoth_0 5 rfl rfl)
theorem dX2_oweBoth_6 : decode cX2_oweBoth 6 = .ok (.iload_n 2, 1) := dk_28 (dk_at dksX2_oweBoth_0 6 rfl rfl)
theorem dX2_oweBoth_7 : decode cX2_oweBoth 7 = .ok (.lload_n 3, 1) := dk_33 (dk_at dksX2_oweBoth_0 7 rfl rfl)
theorem dX2_oweBoth_8 : decode cX2_oweBoth 8 = .ok (.invokevirtual 135, 3) := dk_182 0 135 (dk_at dksX2_oweBoth_0 8 rfl rfl)
theorem dX2_oweBoth_11 : decode cX2_oweBoth 11 = .ok (.aload_n 0, 1) := dk_42 (dk_at dksX2_oweBoth_0 11 rfl rfl)
theorem dX2_oweBoth_12 : decode cX2_oweBoth 12 = .ok (.aload_n 0, 1) := dk_42 (dk_at dksX2_oweBoth_0 12 rfl rfl)
theorem dX2_oweBoth_13 : decode cX2_oweBoth 13 = .ok (.getfield 36, 3) := dk_180 0 36 (dk_at dksX2_oweBoth_0 13 rfl rfl)
theorem dX2_oweBoth_16 : decode cX2_oweBoth 16 = .ok (.iload_n 2, 1) := dk_28 (dk_at dksX2_oweBoth_0 16 rfl rfl)
theorem dX2_oweBoth_17 : decode cX2_oweBoth 17 = .ok (.iload_n 1, 1) := dk_27 (dk_at dksX2_oweBoth_0 17 rfl rfl)
theorem dX2_oweBoth_18 : decode cX2_oweBoth 18 = .ok (.lload_n 3, 1) := dk_33 (dk_at dksX2_oweBoth_0 18 rfl rfl)
theorem dX2_oweBoth_19 : decode cX2_oweBoth 19 = .ok (.lneg, 1) := dk_117 (dk_at dksX2_oweBoth_0 19 rfl rfl)
theorem dX2_oweBoth_20 : decode cX2_oweBoth 20 = .ok (.invokevirtual 135, 3) := dk_182 0 135 (dk_at dksX2_oweBoth_0 20 rfl rfl)
theorem dX2_oweBoth_23 : decode cX2_oweBoth 23 = .ok (.aload_n 0, 1) := dk_42 (dk_at dksX2_oweBoth_0 23 rfl rfl)
theorem dX2_oweBoth_24 : decode cX2_oweBoth 24 = .ok (.aload_n 0, 1) := dk_42 (dk_at dksX2_oweBoth_1 0 rfl rfl)
theorem dX2_oweBoth_25 : decode cX2_oweBoth 25 = .ok (.getfield 39, 3) := dk_180 0 39 (dk_at dksX2_oweBoth_1 1 rfl rfl)
theorem dX2_oweBoth_28 : decode cX2_oweBoth 28 = .ok (.iload_n 1, 1) := dk_27 (dk_at dksX2_oweBoth_1 4 rfl rfl)
theorem dX2_oweBoth_29 : decode cX2_oweBoth 29 = .ok (.iload_n 2, 1) := dk_28 (dk_at dksX2_oweBoth_1 5 rfl rfl)
theorem dX2_oweBoth_30 : decode cX2_oweBoth 30 = .ok (.lload_n 3, 1) := dk_33 (dk_at dksX2_oweBoth_1 6 rfl rfl)
theorem dX2_oweBoth_31 : decode cX2_oweBoth 31 = .ok (.invokevirtual 135, 3) := dk_182 0 135 (dk_at dksX2_oweBoth_1 7 rfl rfl)
theorem dX2_oweBoth_34 : decode cX2_oweBoth 34 = .ok (.aload_n 0, 1) := dk_42 (dk_at dksX2_oweBoth_1 10 rfl rfl)
theorem dX2_oweBoth_35 : decode cX2_oweBoth 35 = .ok (.aload_n 0, 1) := dk_42 (dk_at dksX2_oweBoth_1 11 rfl rfl)
theorem dX2_oweBoth_36 : decode cX2_oweBoth 36 = .ok (.getfield 39, 3) := dk_180 0 39 (dk_at dksX2_oweBoth_1 12 rfl rfl)
theorem dX2_oweBoth_39 : decode cX2_oweBoth 39 = .ok (.iload_n 2, 1) := dk_28 (dk_at dksX2_oweBoth_1 15 rfl rfl)
theorem dX2_oweBoth_40 : decode cX2_oweBoth 40 = .ok (.iload_n 1, 1) := dk_27 (dk_at dksX2_oweBoth_1 16 rfl rfl)
theorem dX2_oweBoth_41 : decode cX2_oweBoth 41 = .ok (.lload_n 3, 1) := dk_33 (dk_at dksX2_oweBoth_1 17 rfl rfl)
theorem dX2_oweBoth_42 : decode cX2_oweBoth 42 = .ok (.lneg, 1) := dk_117 (dk_at dksX2_oweBoth_1 18 rfl rfl)
theorem dX2_oweBoth_43 : decode cX2_oweBoth 43 = .ok (.invokevirtual 135, 3) := dk_182 0 135 (dk_at dksX2_oweBoth_1 19 rfl rfl)
theorem dX2_oweBoth_46 : decode cX2_oweBoth 46 = .ok (.return_, 1) := dk_177 (dk_at dksX2_oweBoth_1 22 rfl rfl)
abbrev cX2_pay : ByteArray := prog_11_method_35_code
def yX2_pay : MethodName := ⟨RX2, "pay", "(III)I"⟩
def dkwX2_pay_7 : List UInt8 := [96, 47, 136, 172]
abbrev dktX2_pay_7 : List UInt8 := dkwX2_pay_7 ++ []
def dkwX2_pay_6 : List UInt8 := [92, 47, 29, 133, 97, 80, 42, 27, 28, 29, 116, 133, 182, 0, 203, 42, 180, 0, 36, 16, 12, 27, 104, 28]
abbrev dktX2_pay_6 : List UInt8 := dkwX2_pay_6 ++ dktX2_pay_7
def dkwX2_pay_5 : List UInt8 := [182, 0, 124, 154, 0, 5, 3, 172, 42, 180, 0, 13, 27, 92, 47, 29, 133, 101, 80, 42, 180, 0, 13, 28]
abbrev dktX2_pay_5 : List UInt8 := dkwX2_pay_5 ++ dktX2_pay_6
def dkwX2_pay_4 : List UInt8 := [4, 167, 0, 22, 21, 5, 154, 0, 7, 5, 167, 0, 13, 21, 6, 153, 0, 7, 3, 167, 0, 4, 6]
abbrev dktX2_pay_4 : List UInt8 := dkwX2_pay_4 ++ dktX2_pay_5
def dkwX2_pay_3 : List UInt8 := [180, 0, 13, 27, 47, 29, 133, 148, 155, 0, 7, 4, 167, 0, 4, 3, 54, 6, 42, 21, 4, 154, 0, 7]
abbrev dktX2_pay_3 : List UInt8 := dkwX2_pay_3 ++ dktX2_pay_4
def dkwX2_pay_2 : List UInt8 := [28, 46, 154, 0, 36, 42, 180, 0, 36, 16, 12, 27, 104, 28, 96, 47, 29, 133, 148, 155, 0, 19, 42]
abbrev dktX2_pay_2 : List UInt8 := dkwX2_pay_2 ++ dktX2_pay_3
def dkwX2_pay_1 : List UInt8 := [167, 0, 4, 3, 54, 5, 21, 4, 153, 0, 54, 42, 180, 0, 20, 27, 46, 154, 0, 45, 42, 180, 0, 20]
abbrev dktX2_pay_1 : List UInt8 := dkwX2_pay_1 ++ dktX2_pay_2
def dkwX2_pay_0 : List UInt8 := [42, 27, 28, 182, 0, 127, 54, 4, 27, 28, 159, 0, 17, 29, 4, 18, 87, 184, 0, 116, 153, 0, 7, 4]
abbrev dktX2_pay_0 : List UInt8 := dkwX2_pay_0 ++ dktX2_pay_1
theorem dksX2_pay_0 : cX2_pay.data.toList.drop 0 = dktX2_pay_0 := by decide +kernel
theorem dksX2_pay_1 : cX2_pay.data.toList.drop 24 = dktX2_pay_1 := dk_seg dksX2_pay_0 24 rfl rfl
theorem dksX2_pay_2 : cX2_pay.data.toList.drop 48 = dktX2_pay_2 := dk_seg dksX2_pay_1 24 rfl rfl
theorem dksX2_pay_3 : cX2_pay.data.toList.drop 71 = dktX2_pay_3 := dk_seg dksX2_pay_2 23 rfl rfl
theorem dksX2_pay_4 : cX2_pay.data.toList.drop 95 = dktX2_pay_4 := dk_seg dksX2_pay_3 24 rfl rfl
theorem dksX2_pay_5 : cX2_pay.data.toList.drop 118 = dktX2_pay_5 := dk_seg dksX2_pay_4 23 rfl rfl
theorem dksX2_pay_6 : cX2_pay.data.toList.drop 142 = dktX2_pay_6 := dk_seg dksX2_pay_5 24 rfl rfl
theorem dksX2_pay_7 : cX2_pay.data.toList.drop 166 = dktX2_pay_7 := dk_seg dksX2_pay_6 24 rfl rfl
theorem dX2_pay_0 : decode cX2_pay 0 = .ok (.aload_n 0, 1) := dk_42 (dk_at dksX2_pay_0 0 rfl rfl)
theorem dX2_pay_1 : decode cX2_pay 1 = .ok (.iload_n 1, 1) := dk_27 (dk_at dksX2_pay_0 1 rfl rfl)
theorem dX2_pay_2 : decode cX2_pay 2 = .ok (.iload_n 2, 1) := dk_28 (dk_at dksX2_pay_0 2 rfl rfl)
theorem dX2_pay_3 : decode cX2_pay 3 = .ok (.invokevirtual 127, 3) := dk_182 0 127 (dk_at dksX2_pay_0 3 rfl rfl)
theorem dX2_pay_6 : decode cX2_pay 6 = .ok (.istore 4, 2) := dk_54 4 (dk_at dksX2_pay_0 6 rfl rfl)
theorem dX2_pay_8 : decode cX2_pay 8 = .ok (.iload_n 1, 1) := dk_27 (dk_at dksX2_pay_0 8 rfl rfl)
theorem dX2_pay_9 : decode cX2_pay 9 = .ok (.iload_n 2, 1) := dk_28 (dk_at dksX2_pay_0 9 rfl rfl)
theorem dX2_pay_10 : decode cX2_pay 10 = .ok (.if_icmp .eq 17, 3) := dk_159 0 17 (dk_at dksX2_pay_0 10 rfl rfl)
theorem dX2_pay_13 : decode cX2_pay 13 = .ok (.iload_n 3, 1) := dk_29 (dk_at dksX2_pay_0 13 rfl rfl)
theorem dX2_pay_14 : decode cX2_pay 14 = .ok (.iconst 1, 1) := dk_4 (dk_at dksX2_pay_0 14 rfl rfl)
theorem dX2_pay_15 : decode cX2_pay 15 = .ok (.ldc 87, 2) := dk_18 87 (dk_at dksX2_pay_0 15 rfl rfl)
theorem dX2_pay_17 : decode cX2_pay 17 = .ok (.invokestatic 116, 3) := dk_184 0 116 (dk_at dksX2_pay_0 17 rfl rfl)
theorem dX2_pay_20 : decode cX2_pay 20 = .ok (.ifCond .eq 7, 3) := dk_153 0 7 (dk_at dksX2_pay_0 20 rfl rfl)
theorem dX2_pay_23 : decode cX2_pay 23 = .ok (.iconst 1, 1) := dk_4 (dk_at dksX2_pay_0 23 rfl rfl)
theorem dX2_pay_24 : decode cX2_pay 24 = .ok (.goto 4, 3) := dk_167 0 4 (dk_at dksX2_pay_1 0 rfl rfl)
theorem dX2_pay_27 : decode cX2_pay 27 = .ok (.iconst 0, 1) := dk_3 (dk_at dksX2_pay_1 3 rfl rfl)
theorem dX2_pay_28 : decode cX2_pay 28 = .ok (.istore 5, 2) := dk_54 5 (dk_at dksX2_pay_1 4 rfl rfl)
theorem dX2_pay_30 : decode cX2_pay 30 = .ok (.iload 4, 2) := dk_21 4 (dk_at dksX2_pay_1 6 rfl rfl)
theorem dX2_pay_32 : decode cX2_pay 32 = .ok (.ifCond .eq 54, 3) := dk_153 0 54 (dk_at dksX2_pay_1 8 rfl rfl)
theorem dX2_pay_35 : decode cX2_pay 35 = .ok (.aload_n 0, 1) := dk_42 (dk_at dksX2_pay_1 11 rfl rfl)
theorem dX2_pay_36 : decode cX2_pay 36 = .ok (.getfield 20, 3) := dk_180 0 20 (dk_at dksX2_pay_1 12 rfl rfl)
theorem dX2_pay_39 : decode cX2_pay 39 = .ok (.iload_n 1, 1) := dk_27 (dk_at dksX2_pay_1 15 rfl rfl)
theorem dX2_pay_40 : decode cX2_pay 40 = .ok (.iaload, 1) := dk_46 (dk_at dksX2_pay_1 16 rfl rfl)
theorem dX2_pay_41 : decode cX2_pay 41 = .ok (.ifCond .ne 45, 3) := dk_154 0 45 (dk_at dksX2_pay_1 17 rfl rfl)
theorem dX2_pay_44 : decode cX2_pay 44 = .ok (.aload_n 0, 1) := dk_42 (dk_at dksX2_pay_1 20 rfl rfl)
theorem dX2_pay_45 : decode cX2_pay 45 = .ok (.getfield 20, 3) := dk_180 0 20 (dk_at dksX2_pay_1 21 rfl rfl)
theorem dX2_pay_48 : decode cX2_pay 48 = .ok (.iload_n 2, 1) := dk_28 (dk_at dksX2_pay_2 0 rfl rfl)
theorem dX2_pay_49 : decode cX2_pay 49 = .ok (.iaload, 1) := dk_46 (dk_at dksX2_pay_2 1 rfl rfl)
theorem dX2_pay_50 : decode cX2_pay 50 = .ok (.ifCond .ne 36, 3) := dk_154 0 36 (dk_at dksX2_pay_2 2 rfl rfl)
theorem dX2_pay_53 : decode cX2_pay 53 = .ok (.aload_n 0, 1) := dk_42 (dk_at dksX2_pay_2 5 rfl rfl)
theorem dX2_pay_54 : decode cX2_pay 54 = .ok (.getfield 36, 3) := dk_180 0 36 (dk_at dksX2_pay_2 6 rfl rfl)
theorem dX2_pay_57 : decode cX2_pay 57 = .ok (.bipush 12, 2) := dk_16 12 (dk_at dksX2_pay_2 9 rfl rfl)
theorem dX2_pay_59 : decode cX2_pay 59 = .ok (.iload_n 1, 1) := dk_27 (dk_at dksX2_pay_2 11 rfl rfl)
theorem dX2_pay_60 : decode cX2_pay 60 = .ok (.imul, 1) := dk_104 (dk_at dksX2_pay_2 12 rfl rfl)
theorem dX2_pay_61 : decode cX2_pay 61 = .ok (.iload_n 2, 1) := dk_28 (dk_at dksX2_pay_2 13 rfl rfl)
theorem dX2_pay_62 : decode cX2_pay 62 = .ok (.iadd, 1) := dk_96 (dk_at dksX2_pay_2 14 rfl rfl)
theorem dX2_pay_63 : decode cX2_pay 63 = .ok (.laload, 1) := dk_47 (dk_at dksX2_pay_2 15 rfl rfl)
theorem dX2_pay_64 : decode cX2_pay 64 = .ok (.iload_n 3, 1) := dk_29 (dk_at dksX2_pay_2 16 rfl rfl)
theorem dX2_pay_65 : decode cX2_pay 65 = .ok (.i2l, 1) := dk_133 (dk_at dksX2_pay_2 17 rfl rfl)
theorem dX2_pay_66 : decode cX2_pay 66 = .ok (.lcmp, 1) := dk_148 (dk_at dksX2_pay_2 18 rfl rfl)
theorem dX2_pay_67 : decode cX2_pay 67 = .ok (.ifCond .lt 19, 3) := dk_155 0 19 (dk_at dksX2_pay_2 19 rfl rfl)
theorem dX2_pay_70 : decode cX2_pay 70 = .ok (.aload_n 0, 1) := dk_42 (dk_at dksX2_pay_2 22 rfl rfl)
theorem dX2_pay_71 : decode cX2_pay 71 = .ok (.getfield 13, 3) := dk_180 0 13 (dk_at dksX2_pay_3 0 rfl rfl)
theorem dX2_pay_74 : decode cX2_pay 74 = .ok (.iload_n 1, 1) := dk_27 (dk_at dksX2_pay_3 3 rfl rfl)
theorem dX2_pay_75 : decode cX2_pay 75 = .ok (.laload, 1) := dk_47 (dk_at dksX2_pay_3 4 rfl rfl)
theorem dX2_pay_76 : decode cX2_pay 76 = .ok (.iload_n 3, 1) := dk_29 (dk_at dksX2_pay_3 5 rfl rfl)
theorem dX2_pay_77 : decode cX2_pay 77 = .ok (.i2l, 1) := dk_133 (dk_at dksX2_pay_3 6 rfl rfl)
theorem dX2_pay_78 : decode cX2_pay 78 = .ok (.lcmp, 1) := dk_148 (dk_at dksX2_pay_3 7 rfl rfl)
theorem dX2_pay_79 : decode cX2_pay 79 = .ok (.ifCond .lt 7, 3) := dk_155 0 7 (dk_at dksX2_pay_3 8 rfl rfl)
theorem dX2_pay_82 : decode cX2_pay 82 = .ok (.iconst 1, 1) := dk_4 (dk_at dksX2_pay_3 11 rfl rfl)
theorem dX2_pay_83 : decode cX2_pay 83 = .ok (.goto 4, 3) := dk_167 0 4 (dk_at dksX2_pay_3 12 rfl rfl)
theorem dX2_pay_86 : decode cX2_pay 86 = .ok (.iconst 0, 1) := dk_3 (dk_at dksX2_pay_3 15 rfl rfl)
theorem dX2_pay_87 : decode cX2_pay 87 = .ok (.istore 6, 2) := dk_54 6 (dk_at dksX2_pay_3 16 rfl rfl)
theorem dX2_pay_89 : decode cX2_pay 89 = .ok (.aload_n 0, 1) := dk_42 (dk_at dksX2_pay_3 18 rfl rfl)
theorem dX2_pay_90 : decode cX2_pay 90 = .ok (.iload 4, 2) := dk_21 4 (dk_at dksX2_pay_3 19 rfl rfl)
theorem dX2_pay_92 : decode cX2_pay 92 = .ok (.ifCond .ne 7, 3) := dk_154 0 7 (dk_at dksX2_pay_3 21 rfl rfl)
theorem dX2_pay_95 : decode cX2_pay 95 = .ok (.iconst 1, 1) := dk_4 (dk_at dksX2_pay_4 0 rfl rfl)
theorem dX2_pay_96 : decode cX2_pay 96 = .ok (.goto 22, 3) := dk_167 0 22 (dk_at dksX2_pay_4 1 rfl rfl)
theorem dX2_pay_99 : decode cX2_pay 99 = .ok (.iload 5, 2) := dk_21 5 (dk_at dksX2_pay_4 4 rfl rfl)
theorem dX2_pay_101 : decode cX2_pay 101 = .ok (.ifCond .ne 7, 3) := dk_154 0 7 (dk_at dksX2_pay_4 6 rfl rfl)
theorem dX2_pay_104 : decode cX2_pay 104 = .ok (.iconst 2, 1) := dk_5 (dk_at dksX2_pay_4 9 rfl rfl)
theorem dX2_pay_105 : decode cX2_pay 105 = .ok (.goto 13, 3) := dk_167 0 13 (dk_at dksX2_pay_4 10 rfl rfl)
theorem dX2_pay_108 : decode cX2_pay 108 = .ok (.iload 6, 2) := dk_21 6 (dk_at dksX2_pay_4 13 rfl rfl)
theorem dX2_pay_110 : decode cX2_pay 110 = .ok (.ifCond .eq 7, 3) := dk_153 0 7 (dk_at dksX2_pay_4 15 rfl rfl)
theorem dX2_pay_113 : decode cX2_pay 113 = .ok (.iconst 0, 1) := dk_3 (dk_at dksX2_pay_4 18 rfl rfl)
theorem dX2_pay_114 : decode cX2_pay 114 = .ok (.goto 4, 3) := dk_167 0 4 (dk_at dksX2_pay_4 19 rfl rfl)
theorem dX2_pay_117 : decode cX2_pay 117 = .ok (.iconst 3, 1) := dk_6 (dk_at dksX2_pay_4 22 rfl rfl)
theorem dX2_pay_118 : decode cX2_pay 118 = .ok (.invokevirtual 124, 3) := dk_182 0 124 (dk_at dksX2_pay_5 0 rfl rfl)
theorem dX2_pay_121 : decode cX2_pay 121 = .ok (.ifCond .ne 5, 3) := dk_154 0 5 (dk_at dksX2_pay_5 3 rfl rfl)
theorem dX2_pay_124 : decode cX2_pay 124 = .ok (.iconst 0, 1) := dk_3 (dk_at dksX2_pay_5 6 rfl rfl)
theorem dX2_pay_125 : decode cX2_pay 125 = .ok (.ireturn, 1) := dk_172 (dk_at dksX2_pay_5 7 rfl rfl)
theorem dX2_pay_126 : decode cX2_pay 126 = .ok (.aload_n 0, 1) := dk_42 (dk_at dksX2_pay_5 8 rfl rfl)
theorem dX2_pay_127 : decode cX2_pay 127 = .ok (.getfield 13, 3) := dk_180 0 13 (dk_at dksX2_pay_5 9 rfl rfl)
theorem dX2_pay_130 : decode cX2_pay 130 = .ok (.iload_n 1, 1) := dk_27 (dk_at dksX2_pay_5 12 rfl rfl)
theorem dX2_pay_131 : decode cX2_pay 131 = .ok (.dup2, 1) := dk_92 (dk_at dksX2_pay_5 13 rfl rfl)
theorem dX2_pay_132 : decode cX2_pay 132 = .ok (.laload, 1) := dk_47 (dk_at dksX2_pay_5 14 rfl rfl)
theorem dX2_pay_133 : decode cX2_pay 133 = .ok (.iload_n 3, 1) := dk_29 (dk_at dksX2_pay_5 15 rfl rfl)
theorem dX2_pay_134 : decode cX2_pay 134 = .ok (.i2l, 1) := dk_133 (dk_at dksX2_pay_5 16 rfl rfl)
theorem dX2_pay_135 : decode cX2_pay 135 = .ok (.lsub, 1) := dk_101 (dk_at dksX2_pay_5 17 rfl rfl)
theorem dX2_pay_136 : decode cX2_pay 136 = .ok (.lastore, 1) := dk_80 (dk_at dksX2_pay_5 18 rfl rfl)
theorem dX2_pay_137 : decode cX2_pay 137 = .ok (.aload_n 0, 1) := dk_42 (dk_at dksX2_pay_5 19 rfl rfl)
theorem dX2_pay_138 : decode cX2_pay 138 = .ok (.getfield 13, 3) := dk_180 0 13 (dk_at dksX2_pay_5 20 rfl rfl)
theorem dX2_pay_141 : decode cX2_pay 141 = .ok (.iload_n 2, 1) := dk_28 (dk_at dksX2_pay_5 23 rfl rfl)
theorem dX2_pay_142 : decode cX2_pay 142 = .ok (.dup2, 1) := dk_92 (dk_at dksX2_pay_6 0 rfl rfl)
theorem dX2_pay_143 : decode cX2_pay 143 = .ok (.laload, 1) := dk_47 (dk_at dksX2_pay_6 1 rfl rfl)
theorem dX2_pay_144 : decode cX2_pay 144 = .ok (.iload_n 3, 1) := dk_29 (dk_at dksX2_pay_6 2 rfl rfl)
theorem dX2_pay_145 : decode cX2_pay 145 = .ok (.i2l, 1) := dk_133 (dk_at dksX2_pay_6 3 rfl rfl)
theorem dX2_pay_146 : decode cX2_pay 146 = .ok (.ladd, 1) := dk_97 (dk_at dksX2_pay_6 4 rfl rfl)
theorem dX2_pay_147 : decode cX2_pay 147 = .ok (.lastore, 1) := dk_80 (dk_at dksX2_pay_6 5 rfl rfl)
theorem dX2_pay_148 : decode cX2_pay 148 = .ok (.aload_n 0, 1) := dk_42 (dk_at dksX2_pay_6 6 rfl rfl)
theorem dX2_pay_149 : decode cX2_pay 149 = .ok (.iload_n 1, 1) := dk_27 (dk_at dksX2_pay_6 7 rfl rfl)
theorem dX2_pay_150 : decode cX2_pay 150 = .ok (.iload_n 2, 1) := dk_28 (dk_at dksX2_pay_6 8 rfl rfl)
theorem dX2_pay_151 : decode cX2_pay 151 = .ok (.iload_n 3, 1) := dk_29 (dk_at dksX2_pay_6 9 rfl rfl)
theorem dX2_pay_152 : decode cX2_pay 152 = .ok (.ineg, 1) := dk_116 (dk_at dksX2_pay_6 10 rfl rfl)
theorem dX2_pay_153 : decode cX2_pay 153 = .ok (.i2l, 1) := dk_133 (dk_at dksX2_pay_6 11 rfl rfl)
theorem dX2_pay_154 : decode cX2_pay 154 = .ok (.invokevirtual 203, 3) := dk_182 0 203 (dk_at dksX2_pay_6 12 rfl rfl)
theorem dX2_pay_157 : decode cX2_pay 157 = .ok (.aload_n 0, 1) := dk_42 (dk_at dksX2_pay_6 15 rfl rfl)
theorem dX2_pay_158 : decode cX2_pay 158 = .ok (.getfield 36, 3) := dk_180 0 36 (dk_at dksX2_pay_6 16 rfl rfl)
theorem dX2_pay_161 : decode cX2_pay 161 = .ok (.bipush 12, 2) := dk_16 12 (dk_at dksX2_pay_6 19 rfl rfl)
theorem dX2_pay_163 : decode cX2_pay 163 = .ok (.iload_n 1, 1) := dk_27 (dk_at dksX2_pay_6 21 rfl rfl)
theorem dX2_pay_164 : decode cX2_pay 164 = .ok (.imul, 1) := dk_104 (dk_at dksX2_pay_6 22 rfl rfl)
theorem dX2_pay_165 : decode cX2_pay 165 = .ok (.iload_n 2, 1) := dk_28 (dk_at dksX2_pay_6 23 rfl rfl)
theorem dX2_pay_166 : decode cX2_pay 166 = .ok (.iadd, 1) := dk_96 (dk_at dksX2_pay_7 0 rfl rfl)
theorem dX2_pay_167 : decode cX2_pay 167 = .ok (.laload, 1) := dk_47 (dk_at dksX2_pay_7 1 rfl rfl)
theorem dX2_pay_168 : decode cX2_pay 168 = .ok (.l2i, 1) := dk_136 (dk_at dksX2_pay_7 2 rfl rfl)
theorem dX2_pay_169 : decode cX2_pay 169 = .ok (.ireturn, 1) := dk_172 (dk_at dksX2_pay_7 3 rfl rfl)
abbrev cX2_deliver : ByteArray := prog_11_method_36_code
def yX2_deliver : MethodName := ⟨RX2, "deliver", "(III)I"⟩
def dkwX2_deliver_5 : List UInt8 := [172, 42, 27, 28, 29, 116, 133, 182, 0, 203, 42, 180, 0, 36, 16, 12, 27, 104, 28, 96, 47, 136, 172]
abbrev dktX2_deliver_5 : List UInt8 := dkwX2_deliver_5 ++ []
def dkwX2_deliver_4 : List UInt8 := [154, 0, 7, 5, 167, 0, 13, 21, 6, 153, 0, 7, 3, 167, 0, 4, 6, 182, 0, 124, 154, 0, 5, 3]
abbrev dktX2_deliver_4 : List UInt8 := dkwX2_deliver_4 ++ dktX2_deliver_5
def dkwX2_deliver_3 : List UInt8 := [155, 0, 7, 4, 167, 0, 4, 3, 54, 6, 42, 21, 4, 154, 0, 7, 4, 167, 0, 22, 21, 5]
abbrev dktX2_deliver_3 : List UInt8 := dkwX2_deliver_3 ++ dktX2_deliver_4
def dkwX2_deliver_2 : List UInt8 := [180, 0, 20, 28, 46, 5, 159, 0, 24, 42, 180, 0, 36, 16, 12, 27, 104, 28, 96, 47, 29, 133, 148]
abbrev dktX2_deliver_2 : List UInt8 := dkwX2_deliver_2 ++ dktX2_deliver_3
def dkwX2_deliver_1 : List UInt8 := [167, 0, 4, 3, 54, 5, 21, 4, 153, 0, 44, 42, 180, 0, 20, 27, 46, 5, 159, 0, 34, 42]
abbrev dktX2_deliver_1 : List UInt8 := dkwX2_deliver_1 ++ dktX2_deliver_2
def dkwX2_deliver_0 : List UInt8 := [42, 27, 28, 182, 0, 127, 54, 4, 27, 28, 159, 0, 17, 29, 4, 18, 87, 184, 0, 116, 153, 0, 7, 4]
abbrev dktX2_deliver_0 : List UInt8 := dkwX2_deliver_0 ++ dktX2_deliver_1
theorem dksX2_deliver_0 : cX2_deliver.data.toList.drop 0 = dktX2_deliver_0 := by decide +kernel
theorem dksX2_deliver_1 : cX2_deliver.data.toList.drop 24 = dktX2_deliver_1 := dk_seg dksX2_deliver_0 24 rfl rfl
theorem dksX2_deliver_2 : cX2_deliver.data.toList.drop 46 = dktX2_deliver_2 := dk_seg dksX2_deliver_1 22 rfl rfl
theorem dksX2_deliver_3 : cX2_deliver.data.toList.drop 69 = dktX2_deliver_3 := dk_seg dksX2_deliver_2 23 rfl rfl
theorem dksX2_deliver_4 : cX2_deliver.data.toList.drop 91 = dktX2_deliver_4 := dk_seg dksX2_deliver_3 22 rfl rfl
theorem dksX2_deliver_5 : cX2_deliver.data.toList.drop 115 = dktX2_deliver_5 := dk_seg dksX2_deliver_4 24 rfl rfl
theorem dX2_deliver_0 : decode cX2_deliver 0 = .ok (.aload_n 0, 1) := dk_42 (dk_at dksX2_deliver_0 0 rfl rfl)
theorem dX2_deliver_1 : decode cX2_deliver 1 = .ok (.iload_n 1, 1) := dk_27 (dk_at dksX2_deliver_0 1 rfl rfl)
theorem dX2_deliver_2 : decode cX2_deliver 2 = .ok (.iload_n 2, 1) := dk_28 (dk_at dksX2_deliver_0 2 rfl rfl)
theorem dX2_deliver_3 : decode cX2_deliver 3 = .ok (.invokevirtual 127, 3) := dk_182 0 127 (dk_at dksX2_deliver_0 3 rfl rfl)
theorem dX2_deliver_6 : decode cX2_deliver 6 = .ok (.istore 4, 2) := dk_54 4 (dk_at dksX2_deliver_0 6 rfl rfl)
theorem dX2_deliver_8 : decode cX2_deliver 8 = .ok (.iload_n 1, 1) := dk_27 (dk_at dksX2_deliver_0 8 rfl rfl)
theorem dX2_deliver_9 : decode cX2_deliver 9 = .ok (.iload_n 2, 1) := dk_28 (dk_at dksX2_deliver_0 9 rfl rfl)
theorem dX2_deliver_10 : decode cX2_deliver 10 = .ok (.if_icmp .eq 17, 3) := dk_159 0 17 (dk_at dksX2_deliver_0 10 rfl rfl)
theorem dX2_deliver_13 : decode cX2_deliver 13 = .ok (.iload_n 3, 1) := dk_29 (dk_at dksX2_deliver_0 13 rfl rfl)
theorem dX2_deliver_14 : decode cX2_deliver 14 = .ok (.iconst 1, 1) := dk_4 (dk_at dksX2_deliver_0 14 rfl rfl)
theorem dX2_deliver_15 : decode cX2_deliver 15 = .ok (.ldc 87, 2) := dk_18 87 (dk_at dksX2_deliver_0 15 rfl rfl)
theorem dX2_deliver_17 : decode cX2_deliver 17 = .ok (.invokestatic 116, 3) := dk_184 0 116 (dk_at dksX2_deliver_0 17 rfl rfl)
theorem dX2_deliver_20 : decode cX2_deliver 20 = .ok (.ifCond .eq 7, 3) := dk_153 0 7 (dk_at dksX2_deliver_0 20 rfl rfl)
theorem dX2_deliver_23 : decode cX2_deliver 23 = .ok (.iconst 1, 1) := dk_4 (dk_at dksX2_deliver_0 23 rfl rfl)
theorem dX2_deliver_24 : decode cX2_deliver 24 = .ok (.goto 4, 3) := dk_167 0 4 (dk_at dksX2_deliver_1 0 rfl rfl)
theorem dX2_deliver_27 : decode cX2_deliver 27 = .ok (.iconst 0, 1) := dk_3 (dk_at dksX2_deliver_1 3 rfl rfl)
theorem dX2_deliver_28 : decode cX2_deliver 28 = .ok (.istore 5, 2) := dk_54 5 (dk_at dksX2_deliver_1 4 rfl rfl)
theorem dX2_deliver_30 : decode cX2_deliver 30 = .ok (.iload 4, 2) := dk_21 4 (dk_at dksX2_deliver_1 6 rfl rfl)
theorem dX2_deliver_32 : decode cX2_deliver 32 = .ok (.ifCond .eq 44, 3) := dk_153 0 44 (dk_at dksX2_deliver_1 8 rfl rfl)
theorem dX2_deliver_35 : decode cX2_deliver 35 = .ok (.aload_n 0, 1) := dk_42 (dk_at dksX2_deliver_1 11 rfl rfl)
theorem dX2_deliver_36 : decode cX2_deliver 36 = .ok (.getfield 20, 3) := dk_180 0 20 (dk_at dksX2_deliver_1 12 rfl rfl)
theorem dX2_deliver_39 : decode cX2_deliver 39 = .ok (.iload_n 1, 1) := dk_27 (dk_at dksX2_deliver_1 15 rfl rfl)
theorem dX2_deliver_40 : decode cX2_deliver 40 = .ok (.iaload, 1) := dk_46 (dk_at dksX2_deliver_1 16 rfl rfl)
theorem dX2_deliver_41 : decode cX2_deliver 41 = .ok (.iconst 2, 1) := dk_5 (dk_at dksX2_deliver_1 17 rfl rfl)
theorem dX2_deliver_42 : decode cX2_deliver 42 = .ok (.if_icmp .eq 34, 3) := dk_159 0 34 (dk_at dksX2_deliver_1 18 rfl rfl)
theorem dX2_deliver_45 : decode cX2_deliver 45 = .ok (.aload_n 0, 1) := dk_42 (dk_at dksX2_deliver_1 21 rfl rfl)
theorem dX2_deliver_46 : decode cX2_deliver 46 = .ok (.getfield 20, 3) := dk_180 0 20 (dk_at dksX2_deliver_2 0 rfl rfl)
theorem dX2_deliver_49 : decode cX2_deliver 49 = .ok (.iload_n 2, 1) := dk_28 (dk_at dksX2_deliver_2 3 rfl rfl)
theorem dX2_deliver_50 : decode cX2_deliver 50 = .ok (.iaload, 1) := dk_46 (dk_at dksX2_deliver_2 4 rfl rfl)
theorem dX2_deliver_51 : decode cX2_deliver 51 = .ok (.iconst 2, 1) := dk_5 (dk_at dksX2_deliver_2 5 rfl rfl)
theorem dX2_deliver_52 : decode cX2_deliver 52 = .ok (.if_icmp .eq 24, 3) := dk_159 0 24 (dk_at dksX2_deliver_2 6 rfl rfl)
theorem dX2_deliver_55 : decode cX2_deliver 55 = .ok (.aload_n 0, 1) := dk_42 (dk_at dksX2_deliver_2 9 rfl rfl)
theorem dX2_deliver_56 : decode cX2_deliver 56 = .ok (.getfield 36, 3) := dk_180 0 36 (dk_at dksX2_deliver_2 10 rfl rfl)
theorem dX2_deliver_59 : decode cX2_deliver 59 = .ok (.bipush 12, 2) := dk_16 12 (dk_at dksX2_deliver_2 13 rfl rfl)
theorem dX2_deliver_61 : decode cX2_deliver 61 = .ok (.iload_n 1, 1) := dk_27 (dk_at dksX2_deliver_2 15 rfl rfl)
theorem dX2_deliver_62 : decode cX2_deliver 62 = .ok (.imul, 1) := dk_104 (dk_at dksX2_deliver_2 16 rfl rfl)
theorem dX2_deliver_63 : decode cX2_deliver 63 = .ok (.iload_n 2, 1) := dk_28 (dk_at dksX2_deliver_2 17 rfl rfl)
theorem dX2_deliver_64 : decode cX2_deliver 64 = .ok (.iadd, 1) := dk_96 (dk_at dksX2_deliver_2 18 rfl rfl)
theorem dX2_deliver_65 : decode cX2_deliver 65 = .ok (.laload, 1) := dk_47 (dk_at dksX2_deliver_2 19 rfl rfl)
theorem dX2_deliver_66 : decode cX2_deliver 66 = .ok (.iload_n 3, 1) := dk_29 (dk_at dksX2_deliver_2 20 rfl rfl)
theorem dX2_deliver_67 : decode cX2_deliver 67 = .ok (.i2l, 1) := dk_133 (dk_at dksX2_deliver_2 21 rfl rfl)
theorem dX2_deliver_68 : decode cX2_deliver 68 = .ok (.lcmp, 1) := dk_148 (dk_at dksX2_deliver_2 22 rfl rfl)
theorem dX2_deliver_69 : decode cX2_deliver 69 = .ok (.ifCond .lt 7, 3) := dk_155 0 7 (dk_at dksX2_deliver_3 0 rfl rfl)
theorem dX2_deliver_72 : decode cX2_deliver 72 = .ok (.iconst 1, 1) := dk_4 (dk_at dksX2_deliver_3 3 rfl rfl)
theorem dX2_deliver_73 : decode cX2_deliver 73 = .ok (.goto 4, 3) := dk_167 0 4 (dk_at dksX2_deliver_3 4 rfl rfl)
theorem dX2_deliver_76 : decode cX2_deliver 76 = .ok (.iconst 0, 1) := dk_3 (dk_at dksX2_deliver_3 7 rfl rfl)
theorem dX2_deliver_77 : decode cX2_deliver 77 = .ok (.istore 6, 2) := dk_54 6 (dk_at dksX2_deliver_3 8 rfl rfl)
theorem dX2_deliver_79 : decode cX2_deliver 79 = .ok (.aload_n 0, 1) := dk_42 (dk_at dksX2_deliver_3 10 rfl rfl)
theorem dX2_deliver_80 : decode cX2_deliver 80 = .ok (.iload 4, 2) := dk_21 4 (dk_at dksX2_deliver_3 11 rfl rfl)
theorem dX2_deliver_82 : decode cX2_deliver 82 = .ok (.ifCond .ne 7, 3) := dk_154 0 7 (dk_at dksX2_deliver_3 13 rfl rfl)
theorem dX2_deliver_85 : decode cX2_deliver 85 = .ok (.iconst 1, 1) := dk_4 (dk_at dksX2_deliver_3 16 rfl rfl)
theorem dX2_deliver_86 : decode cX2_deliver 86 = .ok (.goto 22, 3) := dk_167 0 22 (dk_at dksX2_deliver_3 17 rfl rfl)
theorem dX2_deliver_89 : decode cX2_deliver 89 = .ok (.iload 5, 2) := dk_21 5 (dk_at dksX2_deliver_3 20 rfl rfl)
theorem dX2_deliver_91 : decode cX2_deliver 91 = .ok (.ifCond .ne 7, 3) := dk_154 0 7 (dk_at dksX2_deliver_4 0 rfl rfl)
theorem dX2_deliver_94 : decode cX2_deliver 94 = .ok (.iconst 2, 1) := dk_5 (dk_at dksX2_deliver_4 3 rfl rfl)
theorem dX2_deliver_95 : decode cX2_deliver 95 = .ok (.goto 13, 3) := dk_167 0 13 (dk_at dksX2_deliver_4 4 rfl rfl)
theorem dX2_deliver_98 : decode cX2_deliver 98 = .ok (.iload 6, 2) := dk_21 6 (dk_at dksX2_deliver_4 7 rfl rfl)
theorem dX2_deliver_100 : decode cX2_deliver 100 = .ok (.ifCond .eq 7, 3) := dk_153 0 7 (dk_at dksX2_deliver_4 9 rfl rfl)
theorem dX2_deliver_103 : decode cX2_deliver 103 = .ok (.iconst 0, 1) := dk_3 (dk_at dksX2_deliver_4 12 rfl rfl)
theorem dX2_deliver_104 : decode cX2_deliver 104 = .ok (.goto 4, 3) := dk_167 0 4 (dk_at dksX2_deliver_4 13 rfl rfl)
theorem dX2_deliver_107 : decode cX2_deliver 107 = .ok (.iconst 3, 1) := dk_6 (dk_at dksX2_deliver_4 16 rfl rfl)
theorem dX2_deliver_108 : decode cX2_deliver 108 = .ok (.invokevirtual 124, 3) := dk_182 0 124 (dk_at dksX2_deliver_4 17 rfl rfl)
theorem dX2_deliver_111 : decode cX2_deliver 111 = .ok (.ifCond .ne 5, 3) := dk_154 0 5 (dk_at dksX2_deliver_4 20 rfl rfl)
theorem dX2_deliver_114 : decode cX2_deliver 114 = .ok (.iconst 0, 1) := dk_3 (dk_at dksX2_deliver_4 23 rfl rfl)
theorem dX2_deliver_115 : decode cX2_deliver 115 = .ok (.ireturn, 1) := dk_172 (dk_at dksX2_deliver_5 0 rfl rfl)
theorem dX2_deliver_116 : decode cX2_deliver 116 = .ok (.aload_n 0, 1) := dk_42 (dk_at dksX2_deliver_5 1 rfl rfl)
theorem dX2_deliver_117 : decode cX2_deliver 117 = .ok (.iload_n 1, 1) := dk_27 (dk_at dksX2_deliver_5 2 rfl rfl)
theorem dX2_deliver_118 : decode cX2_deliver 118 = .ok (.iload_n 2, 1) := dk_28 (dk_at dksX2_deliver_5 3 rfl rfl)
theorem dX2_deliver_119 : decode cX2_deliver 119 = .ok (.iload_n 3, 1) := dk_29 (dk_at dksX2_deliver_5 4 rfl rfl)
theorem dX2_deliver_120 : decode cX2_deliver 120 = .ok (.ineg, 1) := dk_116 (dk_at dksX2_deliver_5 5 rfl rfl)
theorem dX2_deliver_121 : decode cX2_deliver 121 = .ok (.i2l, 1) := dk_133 (dk_at dksX2_deliver_5 6 rfl rfl)
theorem dX2_deliver_122 : decode cX2_deliver 122 = .ok (.invokevirtual 203, 3) := dk_182 0 203 (dk_at dksX2_deliver_5 7 rfl rfl)
theorem dX2_deliver_125 : decode cX2_deliver 125 = .ok (.aload_n 0, 1) := dk_42 (dk_at dksX2_deliver_5 10 rfl rfl)
theorem dX2_deliver_126 : decode cX2_deliver 126 = .ok (.getfield 36, 3) := dk_180 0 36 (dk_at dksX2_deliver_5 11 rfl rfl)
theorem dX2_deliver_129 : decode cX2_deliver 129 = .ok (.bipush 12, 2) := dk_16 12 (dk_at dksX2_deliver_5 14 rfl rfl)
theorem dX2_deliver_131 : decode cX2_deliver 131 = .ok (.iload_n 1, 1) := dk_27 (dk_at dksX2_deliver_5 16 rfl rfl)
theorem dX2_deliver_132 : decode cX2_deliver 132 = .ok (.imul, 1) := dk_104 (dk_at dksX2_deliver_5 17 rfl rfl)
theorem dX2_deliver_133 : decode cX2_deliver 133 = .ok (.iload_n 2, 1) := dk_28 (dk_at dksX2_deliver_5 18 rfl rfl)
theorem dX2_deliver_134 : decode cX2_deliver 134 = .ok (.iadd, 1) := dk_96 (dk_at dksX2_deliver_5 19 rfl rfl)
theorem dX2_deliver_135 : decode cX2_deliver 135 = .ok (.laload, 1) := dk_47 (dk_at dksX2_deliver_5 20 rfl rfl)
theorem dX2_deliver_136 : decode cX2_deliver 136 = .ok (.l2i, 1) := dk_136 (dk_at dksX2_deliver_5 21 rfl rfl)
theorem dX2_deliver_137 : decode cX2_deliver 137 = .ok (.ireturn, 1) := dk_172 (dk_at dksX2_deliver_5 22 rfl rfl)
abbrev cX2_courier : ByteArray := prog_11_method_37_code
def yX2_courier : MethodName := ⟨RX2, "courier", "(IIII)I"⟩
def dkwX2_courier_8 : List UInt8 := [181, 0, 200, 42, 180, 0, 200, 4, 100, 172]
abbrev dktX2_courier_8 : List UInt8 := dkwX2_courier_8 ++ []
def dkwX2_courier_7 : List UInt8 := [180, 0, 81, 42, 180, 0, 200, 42, 180, 0, 194, 21, 4, 96, 79, 42, 89, 180, 0, 200, 4, 96]
abbrev dktX2_courier_7 : List UInt8 := dkwX2_courier_7 ++ dktX2_courier_8
def dkwX2_courier_6 : List UInt8 := [29, 79, 42, 180, 0, 75, 42, 180, 0, 200, 27, 79, 42, 180, 0, 78, 42, 180, 0, 200, 28, 79, 42]
abbrev dktX2_courier_6 : List UInt8 := dkwX2_courier_6 ++ dktX2_courier_7
def dkwX2_courier_5 : List UInt8 := [154, 0, 5, 3, 172, 42, 180, 0, 13, 27, 92, 47, 29, 133, 101, 80, 42, 180, 0, 72, 42, 180, 0, 200]
abbrev dktX2_courier_5 : List UInt8 := dkwX2_courier_5 ++ dktX2_courier_6
def dkwX2_courier_4 : List UInt8 := [21, 6, 154, 0, 7, 5, 167, 0, 13, 21, 7, 153, 0, 7, 3, 167, 0, 4, 6, 182, 0, 124]
abbrev dktX2_courier_4 : List UInt8 := dkwX2_courier_4 ++ dktX2_courier_5
def dkwX2_courier_3 : List UInt8 := [29, 133, 148, 155, 0, 7, 4, 167, 0, 4, 3, 54, 7, 42, 21, 5, 154, 0, 7, 4, 167, 0, 22]
abbrev dktX2_courier_3 : List UInt8 := dkwX2_courier_3 ++ dktX2_courier_4
def dkwX2_courier_2 : List UInt8 := [42, 180, 0, 200, 16, 40, 162, 0, 28, 42, 180, 0, 20, 27, 46, 154, 0, 19, 42, 180, 0, 13, 27, 47]
abbrev dktX2_courier_2 : List UInt8 := dkwX2_courier_2 ++ dktX2_courier_3
def dkwX2_courier_1 : List UInt8 := [21, 4, 4, 17, 1, 244, 184, 0, 116, 153, 0, 7, 4, 167, 0, 4, 3, 54, 6, 21, 5, 153, 0, 37]
abbrev dktX2_courier_1 : List UInt8 := dkwX2_courier_1 ++ dktX2_courier_2
def dkwX2_courier_0 : List UInt8 := [42, 27, 28, 182, 0, 127, 54, 5, 27, 28, 159, 0, 29, 29, 4, 18, 87, 184, 0, 116, 153, 0, 19]
abbrev dktX2_courier_0 : List UInt8 := dkwX2_courier_0 ++ dktX2_courier_1
theorem dksX2_courier_0 : cX2_courier.data.toList.drop 0 = dktX2_courier_0 := by decide +kernel
theorem dksX2_courier_1 : cX2_courier.data.toList.drop 23 = dktX2_courier_1 := dk_seg dksX2_courier_0 23 rfl rfl
theorem dksX2_courier_2 : cX2_courier.data.toList.drop 47 = dktX2_courier_2 := dk_seg dksX2_courier_1 24 rfl rfl
theorem dksX2_courier_3 : cX2_courier.data.toList.drop 71 = dktX2_courier_3 := dk_seg dksX2_courier_2 24 rfl rfl
theorem dksX2_courier_4 : cX2_courier.data.toList.drop 94 = dktX2_courier_4 := dk_seg dksX2_courier_3 23 rfl rfl
theorem dksX2_courier_5 : cX2_courier.data.toList.drop 116 = dktX2_courier_5 := dk_seg dksX2_courier_4 22 rfl rfl
theorem dksX2_courier_6 : cX2_courier.data.toList.drop 140 = dktX2_courier_6 := dk_seg dksX2_courier_5 24 rfl rfl
theorem dksX2_courier_7 : cX2_courier.data.toList.drop 163 = dktX2_courier_7 := dk_seg dksX2_courier_6 23 rfl rfl
theorem dksX2_courier_8 : cX2_courier.data.toList.drop 185 = dktX2_courier_8 := dk_seg dksX2_courier_7 22 rfl rfl
theorem dX2_courier_0 : decode cX2_courier 0 = .ok (.aload_n 0, 1) := dk_42 (dk_at dksX2_courier_0 0 rfl rfl)
theorem dX2_courier_1 : decode cX2_courier 1 = .ok (.iload_n 1, 1) := dk_27 (dk_at dksX2_courier_0 1 rfl rfl)
theorem dX2_courier_2 : decode cX2_courier 2 = .ok (.iload_n 2, 1) := dk_28 (dk_at dksX2_courier_0 2 rfl rfl)
theorem dX2_courier_3 : decode cX2_courier 3 = .ok (.invokevirtual 127, 3) := dk_182 0 127 (dk_at dksX2_courier_0 3 rfl rfl)
theorem dX2_courier_6 : decode cX2_courier 6 = .ok (.istore 5, 2) := dk_54 5 (dk_at dksX2_courier_0 6 rfl rfl)
theorem dX2_courier_8 : decode cX2_courier 8 = .ok (.iload_n 1, 1) := dk_27 (dk_at dksX2_courier_0 8 rfl rfl)
theorem dX2_courier_9 : decode cX2_courier 9 = .ok (.iload_n 2, 1) := dk_28 (dk_at dksX2_courier_0 9 rfl rfl)
theorem dX2_courier_10 : decode cX2_courier 10 = .ok (.if_icmp .eq 29, 3) := dk_159 0 29 (dk_at dksX2_courier_0 10 rfl rfl)
theorem dX2_courier_13 : decode cX2_courier 13 = .ok (.iload_n 3, 1) := dk_29 (dk_at dksX2_courier_0 13 rfl rfl)
theorem dX2_courier_14 : decode cX2_courier 14 = .ok (.iconst 1, 1) := dk_4 (dk_at dksX2_courier_0 14 rfl rfl)
theorem dX2_courier_15 : decode cX2_courier 15 = .ok (.ldc 87, 2) := dk_18 87 (dk_at dksX2_courier_0 15 rfl rfl)
theorem dX2_courier_17 : decode cX2_courier 17 = .ok (.invokestatic 116, 3) := dk_184 0 116 (dk_at dksX2_courier_0 17 rfl rfl)
theorem dX2_courier_20 : decode cX2_courier 20 = .ok (.ifCond .eq 19, 3) := dk_153 0 19 (dk_at dksX2_courier_0 20 rfl rfl)
theorem dX2_courier_23 : decode cX2_courier 23 = .ok (.iload 4, 2) := dk_21 4 (dk_at dksX2_courier_1 0 rfl rfl)
theorem dX2_courier_25 : decode cX2_courier 25 = .ok (.iconst 1, 1) := dk_4 (dk_at dksX2_courier_1 2 rfl rfl)
theorem dX2_courier_26 : decode cX2_courier 26 = .ok (.sipush 500, 3) := dk_17 1 244 (dk_at dksX2_courier_1 3 rfl rfl)
theorem dX2_courier_29 : decode cX2_courier 29 = .ok (.invokestatic 116, 3) := dk_184 0 116 (dk_at dksX2_courier_1 6 rfl rfl)
theorem dX2_courier_32 : decode cX2_courier 32 = .ok (.ifCond .eq 7, 3) := dk_153 0 7 (dk_at dksX2_courier_1 9 rfl rfl)
theorem dX2_courier_35 : decode cX2_courier 35 = .ok (.iconst 1, 1) := dk_4 (dk_at dksX2_courier_1 12 rfl rfl)
theorem dX2_courier_36 : decode cX2_courier 36 = .ok (.goto 4, 3) := dk_167 0 4 (dk_at dksX2_courier_1 13 rfl rfl)
theorem dX2_courier_39 : decode cX2_courier 39 = .ok (.iconst 0, 1) := dk_3 (dk_at dksX2_courier_1 16 rfl rfl)
theorem dX2_courier_40 : decode cX2_courier 40 = .ok (.istore 6, 2) := dk_54 6 (dk_at dksX2_courier_1 17 rfl rfl)
theorem dX2_courier_42 : decode cX2_courier 42 = .ok (.iload 5, 2) := dk_21 5 (dk_at dksX2_courier_1 19 rfl rfl)
theorem dX2_courier_44 : decode cX2_courier 44 = .ok (.ifCond .eq 37, 3) := dk_153 0 37 (dk_at dksX2_courier_1 21 rfl rfl)
theorem dX2_courier_47 : decode cX2_courier 47 = .ok (.aload_n 0, 1) := dk_42 (dk_at dksX2_courier_2 0 rfl rfl)
theorem dX2_courier_48 : decode cX2_courier 48 = .ok (.getfield 200, 3) := dk_180 0 200 (dk_at dksX2_courier_2 1 rfl rfl)
theorem dX2_courier_51 : decode cX2_courier 51 = .ok (.bipush 40, 2) := dk_16 40 (dk_at dksX2_courier_2 4 rfl rfl)
theorem dX2_courier_53 : decode cX2_courier 53 = .ok (.if_icmp .ge 28, 3) := dk_162 0 28 (dk_at dksX2_courier_2 6 rfl rfl)
theorem dX2_courier_56 : decode cX2_courier 56 = .ok (.aload_n 0, 1) := dk_42 (dk_at dksX2_courier_2 9 rfl rfl)
theorem dX2_courier_57 : decode cX2_courier 57 = .ok (.getfield 20, 3) := dk_180 0 20 (dk_at dksX2_courier_2 10 rfl rfl)
theorem dX2_courier_60 : decode cX2_courier 60 = .ok (.iload_n 1, 1) := dk_27 (dk_at dksX2_courier_2 13 rfl rfl)
theorem dX2_courier_61 : decode cX2_courier 61 = .ok (.iaload, 1) := dk_46 (dk_at dksX2_courier_2 14 rfl rfl)
theorem dX2_courier_62 : decode cX2_courier 62 = .ok (.ifCond .ne 19, 3) := dk_154 0 19 (dk_at dksX2_courier_2 15 rfl rfl)
theorem dX2_courier_65 : decode cX2_courier 65 = .ok (.aload_n 0, 1) := dk_42 (dk_at dksX2_courier_2 18 rfl rfl)
theorem dX2_courier_66 : decode cX2_courier 66 = .ok (.getfield 13, 3) := dk_180 0 13 (dk_at dksX2_courier_2 19 rfl rfl)
theorem dX2_courier_69 : decode cX2_courier 69 = .ok (.iload_n 1, 1) := dk_27 (dk_at dksX2_courier_2 22 rfl rfl)
theorem dX2_courier_70 : decode cX2_courier 70 = .ok (.laload, 1) := dk_47 (dk_at dksX2_courier_2 23 rfl rfl)
theorem dX2_courier_71 : decode cX2_courier 71 = .ok (.iload_n 3, 1) := dk_29 (dk_at dksX2_courier_3 0 rfl rfl)
theorem dX2_courier_72 : decode cX2_courier 72 = .ok (.i2l, 1) := dk_133 (dk_at dksX2_courier_3 1 rfl rfl)
theorem dX2_courier_73 : decode cX2_courier 73 = .ok (.lcmp, 1) := dk_148 (dk_at dksX2_courier_3 2 rfl rfl)
theorem dX2_courier_74 : decode cX2_courier 74 = .ok (.ifCond .lt 7, 3) := dk_155 0 7 (dk_at dksX2_courier_3 3 rfl rfl)
theorem dX2_courier_77 : decode cX2_courier 77 = .ok (.iconst 1, 1) := dk_4 (dk_at dksX2_courier_3 6 rfl rfl)
theorem dX2_courier_78 : decode cX2_courier 78 = .ok (.goto 4, 3) := dk_167 0 4 (dk_at dksX2_courier_3 7 rfl rfl)
theorem dX2_courier_81 : decode cX2_courier 81 = .ok (.iconst 0, 1) := dk_3 (dk_at dksX2_courier_3 10 rfl rfl)
theorem dX2_courier_82 : decode cX2_courier 82 = .ok (.istore 7, 2) := dk_54 7 (dk_at dksX2_courier_3 11 rfl rfl)
theorem dX2_courier_84 : decode cX2_courier 84 = .ok (.aload_n 0, 1) := dk_42 (dk_at dksX2_courier_3 13 rfl rfl)
theorem dX2_courier_85 : decode cX2_courier 85 = .ok (.iload 5, 2) := dk_21 5 (dk_at dksX2_courier_3 14 rfl rfl)
theorem dX2_courier_87 : decode cX2_courier 87 = .ok (.ifCond .ne 7, 3) := dk_154 0 7 (dk_at dksX2_courier_3 16 rfl rfl)
theorem dX2_courier_90 : decode cX2_courier 90 = .ok (.iconst 1, 1) := dk_4 (dk_at dksX2_courier_3 19 rfl rfl)
theorem dX2_courier_91 : decode cX2_courier 91 = .ok (.goto 22, 3) := dk_167 0 22 (dk_at dksX2_courier_3 20 rfl rfl)
theorem dX2_courier_94 : decode cX2_courier 94 = .ok (.iload 6, 2) := dk_21 6 (dk_at dksX2_courier_4 0 rfl rfl)
theorem dX2_courier_96 : decode cX2_courier 96 = .ok (.ifCond .ne 7, 3) := dk_154 0 7 (dk_at dksX2_courier_4 2 rfl rfl)
theorem dX2_courier_99 : decode cX2_courier 99 = .ok (.iconst 2, 1) := dk_5 (dk_at dksX2_courier_4 5 rfl rfl)
theorem dX2_courier_100 : decode cX2_courier 100 = .ok (.goto 13, 3) := dk_167 0 13 (dk_at dksX2_courier_4 6 rfl rfl)
theorem dX2_courier_103 : decode cX2_courier 103 = .ok (.iload 7, 2) := dk_21 7 (dk_at dksX2_courier_4 9 rfl rfl)
theorem dX2_courier_105 : decode cX2_courier 105 = .ok (.ifCond .eq 7, 3) := dk_153 0 7 (dk_at dksX2_courier_4 11 rfl rfl)
theorem dX2_courier_108 : decode cX2_courier 108 = .ok (.iconst 0, 1) := dk_3 (dk_at dksX2_courier_4 14 rfl rfl)
theorem dX2_courier_109 : decode cX2_courier 109 = .ok (.goto 4, 3) := dk_167 0 4 (dk_at dksX2_courier_4 15 rfl rfl)
theorem dX2_courier_112 : decode cX2_courier 112 = .ok (.iconst 3, 1) := dk_6 (dk_at dksX2_courier_4 18 rfl rfl)
theorem dX2_courier_113 : decode cX2_courier 113 = .ok (.invokevirtual 124, 3) := dk_182 0 124 (dk_at dksX2_courier_4 19 rfl rfl)
theorem dX2_courier_116 : decode cX2_courier 116 = .ok (.ifCond .ne 5, 3) := dk_154 0 5 (dk_at dksX2_courier_5 0 rfl rfl)
theorem dX2_courier_119 : decode cX2_courier 119 = .ok (.iconst 0, 1) := dk_3 (dk_at dksX2_courier_5 3 rfl rfl)
theorem dX2_courier_120 : decode cX2_courier 120 = .ok (.ireturn, 1) := dk_172 (dk_at dksX2_courier_5 4 rfl rfl)
theorem dX2_courier_121 : decode cX2_courier 121 = .ok (.aload_n 0, 1) := dk_42 (dk_at dksX2_courier_5 5 rfl rfl)
theorem dX2_courier_122 : decode cX2_courier 122 = .ok (.getfield 13, 3) := dk_180 0 13 (dk_at dksX2_courier_5 6 rfl rfl)
theorem dX2_courier_125 : decode cX2_courier 125 = .ok (.iload_n 1, 1) := dk_27 (dk_at dksX2_courier_5 9 rfl rfl)
theorem dX2_courier_126 : decode cX2_courier 126 = .ok (.dup2, 1) := dk_92 (dk_at dksX2_courier_5 10 rfl rfl)
theorem dX2_courier_127 : decode cX2_courier 127 = .ok (.laload, 1) := dk_47 (dk_at dksX2_courier_5 11 rfl rfl)
theorem dX2_courier_128 : decode cX2_courier 128 = .ok (.iload_n 3, 1) := dk_29 (dk_at dksX2_courier_5 12 rfl rfl)
theorem dX2_courier_129 : decode cX2_courier 129 = .ok (.i2l, 1) := dk_133 (dk_at dksX2_courier_5 13 rfl rfl)
theorem dX2_courier_130 : decode cX2_courier 130 = .ok (.lsub, 1) := dk_101 (dk_at dksX2_courier_5 14 rfl rfl)
theorem dX2_courier_131 : decode cX2_courier 131 = .ok (.lastore, 1) := dk_80 (dk_at dksX2_courier_5 15 rfl rfl)
theorem dX2_courier_132 : decode cX2_courier 132 = .ok (.aload_n 0, 1) := dk_42 (dk_at dksX2_courier_5 16 rfl rfl)
theorem dX2_courier_133 : decode cX2_courier 133 = .ok (.getfield 72, 3) := dk_180 0 72 (dk_at dksX2_courier_5 17 rfl rfl)
theorem dX2_courier_136 : decode cX2_courier 136 = .ok (.aload_n 0, 1) := dk_42 (dk_at dksX2_courier_5 20 rfl rfl)
theorem dX2_courier_137 : decode cX2_courier 137 = .ok (.getfield 200, 3) := dk_180 0 200 (dk_at dksX2_courier_5 21 rfl rfl)
theorem dX2_courier_140 : decode cX2_courier 140 = .ok (.iload_n 3, 1) := dk_29 (dk_at dksX2_courier_6 0 rfl rfl)
theorem dX2_courier_141 : decode cX2_courier 141 = .ok (.iastore, 1) := dk_79 (dk_at dksX2_courier_6 1 rfl rfl)
theorem dX2_courier_142 : decode cX2_courier 142 = .ok (.aload_n 0, 1) := dk_42 (dk_at dksX2_courier_6 2 rfl rfl)
theorem dX2_courier_143 : decode cX2_courier 143 = .ok (.getfield 75, 3) := dk_180 0 75 (dk_at dksX2_courier_6 3 rfl rfl)
theorem dX2_courier_146 : decode cX2_courier 146 = .ok (.aload_n 0, 1) := dk_42 (dk_at dksX2_courier_6 6 rfl rfl)
theorem dX2_courier_147 : decode cX2_courier 147 = .ok (.getfield 200, 3) := dk_180 0 200 (dk_at dksX2_courier_6 7 rfl rfl)
theorem dX2_courier_150 : decode cX2_courier 150 = .ok (.iload_n 1, 1) := dk_27 (dk_at dksX2_courier_6 10 rfl rfl)
theorem dX2_courier_151 : decode cX2_courier 151 = .ok (.iastore, 1) := dk_79 (dk_at dksX2_courier_6 11 rfl rfl)
theorem dX2_courier_152 : decode cX2_courier 152 = .ok (.aload_n 0, 1) := dk_42 (dk_at dksX2_courier_6 12 rfl rfl)
theorem dX2_courier_153 : decode cX2_courier 153 = .ok (.getfield 78, 3) := dk_180 0 78 (dk_at dksX2_courier_6 13 rfl rfl)
theorem dX2_courier_156 : decode cX2_courier 156 = .ok (.aload_n 0, 1) := dk_42 (dk_at dksX2_courier_6 16 rfl rfl)
theorem dX2_courier_157 : decode cX2_courier 157 = .ok (.getfield 200, 3) := dk_180 0 200 (dk_at dksX2_courier_6 17 rfl rfl)
theorem dX2_courier_160 : decode cX2_courier 160 = .ok (.iload_n 2, 1) := dk_28 (dk_at dksX2_courier_6 20 rfl rfl)
theorem dX2_courier_161 : decode cX2_courier 161 = .ok (.iastore, 1) := dk_79 (dk_at dksX2_courier_6 21 rfl rfl)
theorem dX2_courier_162 : decode cX2_courier 162 = .ok (.aload_n 0, 1) := dk_42 (dk_at dksX2_courier_6 22 rfl rfl)
theorem dX2_courier_163 : decode cX2_courier 163 = .ok (.getfield 81, 3) := dk_180 0 81 (dk_at dksX2_courier_7 0 rfl rfl)
theorem dX2_courier_166 : decode cX2_courier 166 = .ok (.aload_n 0, 1) := dk_42 (dk_at dksX2_courier_7 3 rfl rfl)
theorem dX2_courier_167 : decode cX2_courier 167 = .ok (.getfield 200, 3) := dk_180 0 200 (dk_at dksX2_courier_7 4 rfl rfl)
theorem dX2_courier_170 : decode cX2_courier 170 = .ok (.aload_n 0, 1) := dk_42 (dk_at dksX2_courier_7 7 rfl rfl)
theorem dX2_courier_171 : decode cX2_courier 171 = .ok (.getfield 194, 3) := dk_180 0 194 (dk_at dksX2_courier_7 8 rfl rfl)
theorem dX2_courier_174 : decode cX2_courier 174 = .ok (.iload 4, 2) := dk_21 4 (dk_at dksX2_courier_7 11 rfl rfl)
theorem dX2_courier_176 : decode cX2_courier 176 = .ok (.iadd, 1) := dk_96 (dk_at dksX2_courier_7 13 rfl rfl)
theorem dX2_courier_177 : decode cX2_courier 177 = .ok (.iastore, 1) := dk_79 (dk_at dksX2_courier_7 14 rfl rfl)
theorem dX2_courier_178 : decode cX2_courier 178 = .ok (.aload_n 0, 1) := dk_42 (dk_at dksX2_courier_7 15 rfl rfl)
theorem dX2_courier_179 : decode cX2_courier 179 = .ok (.dup, 1) := dk_89 (dk_at dksX2_courier_7 16 rfl rfl)
theorem dX2_courier_180 : decode cX2_courier 180 = .ok (.getfield 200, 3) := dk_180 0 200 (dk_at dksX2_courier_7 17 rfl rfl)
theorem dX2_courier_183 : decode cX2_courier 183 = .ok (.iconst 1, 1) := dk_4 (dk_at dksX2_courier_7 20 rfl rfl)
theorem dX2_courier_184 : decode cX2_courier 184 = .ok (.iadd, 1) := dk_96 (dk_at dksX2_courier_7 21 rfl rfl)
theorem dX2_courier_185 : decode cX2_courier 185 = .ok (.putfield 200, 3) := dk_181 0 200 (dk_at dksX2_courier_8 0 rfl rfl)
theorem dX2_courier_188 : decode cX2_courier 188 = .ok (.aload_n 0, 1) := dk_42 (dk_at dksX2_courier_8 3 rfl rfl)
theorem dX2_courier_189 : decode cX2_courier 189 = .ok (.getfield 200, 3) := dk_180 0 200 (dk_at dksX2_courier_8 4 rfl rfl)
theorem dX2_courier_192 : decode cX2_courier 192 = .ok (.iconst 1, 1) := dk_4 (dk_at dksX2_courier_8 7 rfl rfl)
theorem dX2_courier_193 : decode cX2_courier 193 = .ok (.isub, 1) := dk_100 (dk_at dksX2_courier_8 8 rfl rfl)
theorem dX2_courier_194 : decode cX2_courier 194 = .ok (.ireturn, 1) := dk_172 (dk_at dksX2_courier_8 9 rfl rfl)
abbrev cX2_rob : ByteArray := prog_11_method_38_code
def yX2_rob : MethodName := ⟨RX2, "rob", "(I)I"⟩
def dkwX2_rob_3 : List UInt8 := [180, 0, 72, 27, 46, 172]
abbrev dktX2_rob_3 : List UInt8 := dkwX2_rob_3 ++ []
def dkwX2_rob_2 : List UInt8 := [180, 0, 84, 27, 4, 84, 42, 180, 0, 97, 6, 92, 47, 42, 180, 0, 72, 27, 46, 133, 97, 80, 42]
abbrev dktX2_rob_2 : List UInt8 := dkwX2_rob_2 ++ dktX2_rob_3
def dkwX2_rob_1 : List UInt8 := [180, 0, 84, 27, 51, 153, 0, 7, 5, 167, 0, 4, 3, 182, 0, 124, 154, 0, 5, 3, 172, 42]
abbrev dktX2_rob_1 : List UInt8 := dkwX2_rob_1 ++ dktX2_rob_2
def dkwX2_rob_0 : List UInt8 := [27, 3, 42, 180, 0, 200, 4, 100, 184, 0, 116, 61, 42, 28, 154, 0, 7, 4, 167, 0, 17, 42]
abbrev dktX2_rob_0 : List UInt8 := dkwX2_rob_0 ++ dktX2_rob_1
theorem dksX2_rob_0 : cX2_rob.data.toList.drop 0 = dktX2_rob_0 := by decide +kernel
theorem dksX2_rob_1 : cX2_rob.data.toList.drop 22 = dktX2_rob_1 := dk_seg dksX2_rob_0 22 rfl rfl
theorem dksX2_rob_2 : cX2_rob.data.toList.drop 44 = dktX2_rob_2 := dk_seg dksX2_rob_1 22 rfl rfl
theorem dksX2_rob_3 : cX2_rob.data.toList.drop 67 = dktX2_rob_3 := dk_seg dksX2_rob_2 23 rfl rfl
theorem dX2_rob_0 : decode cX2_rob 0 = .ok (.iload_n 1, 1) := dk_27 (dk_at dksX2_rob_0 0 rfl rfl)
theorem dX2_rob_1 : decode cX2_rob 1 = .ok (.iconst 0, 1) := dk_3 (dk_at dksX2_rob_0 1 rfl rfl)
theorem dX2_rob_2 : decode cX2_rob 2 = .ok (.aload_n 0, 1) := dk_42 (dk_at dksX2_rob_0 2 rfl rfl)
theorem dX2_rob_3 : decode cX2_rob 3 = .ok (.getfield 200, 3) := dk_180 0 200 (dk_at dksX2_rob_0 3 rfl rfl)
theorem dX2_rob_6 : decode cX2_rob 6 = .ok (.iconst 1, 1) := dk_4 (dk_at dksX2_rob_0 6 rfl rfl)
theorem dX2_rob_7 : decode cX2_rob 7 = .ok (.isub, 1) := dk_100 (dk_at dksX2_rob_0 7 rfl rfl)
theorem dX2_rob_8 : decode cX2_rob 8 = .ok (.invokestatic 116, 3) := dk_184 0 116 (dk_at dksX2_rob_0 8 rfl rfl)
theorem dX2_rob_11 : decode cX2_rob 11 = .ok (.istore_n 2, 1) := dk_61 (dk_at dksX2_rob_0 11 rfl rfl)
theorem dX2_rob_12 : decode cX2_rob 12 = .ok (.aload_n 0, 1) := dk_42 (dk_at dksX2_rob_0 12 rfl rfl)
theorem dX2_rob_13 : decode cX2_rob 13 = .ok (.iload_n 2, 1) := dk_28 (dk_at dksX2_rob_0 13 rfl rfl)
theorem dX2_rob_14 : decode cX2_rob 14 = .ok (.ifCond .ne 7, 3) := dk_154 0 7 (dk_at dksX2_rob_0 14 rfl rfl)
theorem dX2_rob_17 : decode cX2_rob 17 = .ok (.iconst 1, 1) := dk_4 (dk_at dksX2_rob_0 17 rfl rfl)
theorem dX2_rob_18 : decode cX2_rob 18 = .ok (.goto 17, 3) := dk_167 0 17 (dk_at dksX2_rob_0 18 rfl rfl)
theorem dX2_rob_21 : decode cX2_rob 21 = .ok (.aload_n 0, 1) := dk_42 (dk_at dksX2_rob_0 21 rfl rfl)
theorem dX2_rob_22 : decode cX2_rob 22 = .ok (.getfield 84, 3) := dk_180 0 84 (dk_at dksX2_rob_1 0 rfl rfl)
theorem dX2_rob_25 : decode cX2_rob 25 = .ok (.iload_n 1, 1) := dk_27 (dk_at dksX2_rob_1 3 rfl rfl)
theorem dX2_rob_26 : decode cX2_rob 26 = .ok (.baload, 1) := dk_51 (dk_at dksX2_rob_1 4 rfl rfl)
theorem dX2_rob_27 : decode cX2_rob 27 = .ok (.ifCond .eq 7, 3) := dk_153 0 7 (dk_at dksX2_rob_1 5 rfl rfl)
theorem dX2_rob_30 : decode cX2_rob 30 = .ok (.iconst 2, 1) := dk_5 (dk_at dksX2_rob_1 8 rfl rfl)
theorem dX2_rob_31 : decode cX2_rob 31 = .ok (.goto 4, 3) := dk_167 0 4 (dk_at dksX2_rob_1 9 rfl rfl)
theorem dX2_rob_34 : decode cX2_rob 34 = .ok (.iconst 0, 1) := dk_3 (dk_at dksX2_rob_1 12 rfl rfl)
theorem dX2_rob_35 : decode cX2_rob 35 = .ok (.invokevirtual 124, 3) := dk_182 0 124 (dk_at dksX2_rob_1 13 rfl rfl)
theorem dX2_rob_38 : decode cX2_rob 38 = .ok (.ifCond .ne 5, 3) := dk_154 0 5 (dk_at dksX2_rob_1 16 rfl rfl)
theorem dX2_rob_41 : decode cX2_rob 41 = .ok (.iconst 0, 1) := dk_3 (dk_at dksX2_rob_1 19 rfl rfl)
theorem dX2_rob_42 : decode cX2_rob 42 = .ok (.ireturn, 1) := dk_172 (dk_at dksX2_rob_1 20 rfl rfl)
theorem dX2_rob_43 : decode cX2_rob 43 = .ok (.aload_n 0, 1) := dk_42 (dk_at dksX2_rob_1 21 rfl rfl)
theorem dX2_rob_44 : decode cX2_rob 44 = .ok (.getfield 84, 3) := dk_180 0 84 (dk_at dksX2_rob_2 0 rfl rfl)
theorem dX2_rob_47 : decode cX2_rob 47 = .ok (.iload_n 1, 1) := dk_27 (dk_at dksX2_rob_2 3 rfl rfl)
theorem dX2_rob_48 : decode cX2_rob 48 = .ok (.iconst 1, 1) := dk_4 (dk_at dksX2_rob_2 4 rfl rfl)
theorem dX2_rob_49 : decode cX2_rob 49 = .ok (.bastore, 1) := dk_84 (dk_at dksX2_rob_2 5 rfl rfl)
theorem dX2_rob_50 : decode cX2_rob 50 = .ok (.aload_n 0, 1) := dk_42 (dk_at dksX2_rob_2 6 rfl rfl)
theorem dX2_rob_51 : decode cX2_rob 51 = .ok (.getfield 97, 3) := dk_180 0 97 (dk_at dksX2_rob_2 7 rfl rfl)
theorem dX2_rob_54 : decode cX2_rob 54 = .ok (.iconst 3, 1) := dk_6 (dk_at dksX2_rob_2 10 rfl rfl)
theorem dX2_rob_55 : decode cX2_rob 55 = .ok (.dup2, 1) := dk_92 (dk_at dksX2_rob_2 11 rfl rfl)
theorem dX2_rob_56 : decode cX2_rob 56 = .ok (.laload, 1) := dk_47 (dk_at dksX2_rob_2 12 rfl rfl)
theorem dX2_rob_57 : decode cX2_rob 57 = .ok (.aload_n 0, 1) := dk_42 (dk_at dksX2_rob_2 13 rfl rfl)
theorem dX2_rob_58 : decode cX2_rob 58 = .ok (.getfield 72, 3) := dk_180 0 72 (dk_at dksX2_rob_2 14 rfl rfl)
theorem dX2_rob_61 : decode cX2_rob 61 = .ok (.iload_n 1, 1) := dk_27 (dk_at dksX2_rob_2 17 rfl rfl)
theorem dX2_rob_62 : decode cX2_rob 62 = .ok (.iaload, 1) := dk_46 (dk_at dksX2_rob_2 18 rfl rfl)
theorem dX2_rob_63 : decode cX2_rob 63 = .ok (.i2l, 1) := dk_133 (dk_at dksX2_rob_2 19 rfl rfl)
theorem dX2_rob_64 : decode cX2_rob 64 = .ok (.ladd, 1) := dk_97 (dk_at dksX2_rob_2 20 rfl rfl)
theorem dX2_rob_65 : decode cX2_rob 65 = .ok (.lastore, 1) := dk_80 (dk_at dksX2_rob_2 21 rfl rfl)
theorem dX2_rob_66 : decode cX2_rob 66 = .ok (.aload_n 0, 1) := dk_42 (dk_at dksX2_rob_2 22 rfl rfl)
theorem dX2_rob_67 : decode cX2_rob 67 = .ok (.getfield 72, 3) := dk_180 0 72 (dk_at dksX2_rob_3 0 rfl rfl)
theorem dX2_rob_70 : decode cX2_rob 70 = .ok (.iload_n 1, 1) := dk_27 (dk_at dksX2_rob_3 3 rfl rfl)
theorem dX2_rob_71 : decode cX2_rob 71 = .ok (.iaload, 1) := dk_46 (dk_at dksX2_rob_3 4 rfl rfl)
theorem dX2_rob_72 : decode cX2_rob 72 = .ok (.ireturn, 1) := dk_172 (dk_at dksX2_rob_3 5 rfl rfl)
abbrev cX2_ring : ByteArray := prog_11_method_40_code
def yX2_ring : MethodName := ⟨RX2, "ring", "()J"⟩
def dkwX2_ring_4 : List UInt8 := [167, 255, 174, 31, 173]
abbrev dktX2_ring_4 : List UInt8 := dkwX2_ring_4 ++ []
def dkwX2_ring_3 : List UInt8 := [182, 0, 216, 167, 0, 4, 9, 97, 64, 132, 5, 1, 167, 255, 209, 132, 4, 1, 167, 255, 191, 132, 3, 1]
abbrev dktX2_ring_3 : List UInt8 := dkwX2_ring_3 ++ dktX2_ring_4
def dkwX2_ring_2 : List UInt8 := [159, 0, 28, 21, 4, 21, 5, 159, 0, 21, 29, 21, 5, 159, 0, 15, 42, 29, 21, 4, 21, 5]
abbrev dktX2_ring_2 : List UInt8 := dkwX2_ring_2 ++ dktX2_ring_3
def dkwX2_ring_1 : List UInt8 := [180, 0, 113, 162, 0, 62, 3, 54, 5, 21, 5, 42, 180, 0, 113, 162, 0, 44, 31, 29, 21, 4]
abbrev dktX2_ring_1 : List UInt8 := dkwX2_ring_1 ++ dktX2_ring_2
def dkwX2_ring_0 : List UInt8 := [42, 3, 181, 0, 109, 9, 64, 3, 62, 29, 42, 180, 0, 113, 162, 0, 80, 3, 54, 4, 21, 4, 42]
abbrev dktX2_ring_0 : List UInt8 := dkwX2_ring_0 ++ dktX2_ring_1
theorem dksX2_ring_0 : cX2_ring.data.toList.drop 0 = dktX2_ring_0 := by decide +kernel
theorem dksX2_ring_1 : cX2_ring.data.toList.drop 23 = dktX2_ring_1 := dk_seg dksX2_ring_0 23 rfl rfl
theorem dksX2_ring_2 : cX2_ring.data.toList.drop 45 = dktX2_ring_2 := dk_seg dksX2_ring_1 22 rfl rfl
theorem dksX2_ring_3 : cX2_ring.data.toList.drop 67 = dktX2_ring_3 := dk_seg dksX2_ring_2 22 rfl rfl
theorem dksX2_ring_4 : cX2_ring.data.toList.drop 91 = dktX2_ring_4 := dk_seg dksX2_ring_3 24 rfl rfl
theorem dX2_ring_0 : decode cX2_ring 0 = .ok (.aload_n 0, 1) := dk_42 (dk_at dksX2_ring_0 0 rfl rfl)
theorem dX2_ring_1 : decode cX2_ring 1 = .ok (.iconst 0, 1) := dk_3 (dk_at dksX2_ring_0 1 rfl rfl)
theorem dX2_ring_2 : decode cX2_ring 2 = .ok (.putfield 109, 3) := dk_181 0 109 (dk_at dksX2_ring_0 2 rfl rfl)
theorem dX2_ring_5 : decode cX2_ring 5 = .ok (.lconst 0, 1) := dk_9 (dk_at dksX2_ring_0 5 rfl rfl)
theorem dX2_ring_6 : decode cX2_ring 6 = .ok (.lstore_n 1, 1) := dk_64 (dk_at dksX2_ring_0 6 rfl rfl)
theorem dX2_ring_7 : decode cX2_ring 7 = .ok (.iconst 0, 1) := dk_3 (dk_at dksX2_ring_0 7 rfl rfl)
theorem dX2_ring_8 : decode cX2_ring 8 = .ok (.istore_n 3, 1) := dk_62 (dk_at dksX2_ring_0 8 rfl rfl)
theorem dX2_ring_9 : decode cX2_ring 9 = .ok (.iload_n 3, 1) := dk_29 (dk_at dksX2_ring_0 9 rfl rfl)
theorem dX2_ring_10 : decode cX2_ring 10 = .ok (.aload_n 0, 1) := dk_42 (dk_at dksX2_ring_0 10 rfl rfl)
theorem dX2_ring_11 : decode cX2_ring 11 = .ok (.getfield 113, 3) := dk_180 0 113 (dk_at dksX2_ring_0 11 rfl rfl)
theorem dX2_ring_14 : decode cX2_ring 14 = .ok (.if_icmp .ge 80, 3) := dk_162 0 80 (dk_at dksX2_ring_0 14 rfl rfl)
theorem dX2_ring_17 : decode cX2_ring 17 = .ok (.iconst 0, 1) := dk_3 (dk_at dksX2_ring_0 17 rfl rfl)
theorem dX2_ring_18 : decode cX2_ring 18 = .ok (.istore 4, 2) := dk_54 4 (dk_at dksX2_ring_0 18 rfl rfl)
theorem dX2_ring_20 : decode cX2_ring 20 = .ok (.iload 4, 2) := dk_21 4 (dk_at dksX2_ring_0 20 rfl rfl)
theorem dX2_ring_22 : decode cX2_ring 22 = .ok (.aload_n 0, 1) := dk_42 (dk_at dksX2_ring_0 22 rfl rfl)
theorem dX2_ring_23 : decode cX2_ring 23 = .ok (.getfield 113, 3) := dk_180 0 113 (dk_at dksX2_ring_1 0 rfl rfl)
theorem dX2_ring_26 : decode cX2_ring 26 = .ok (.if_icmp .ge 62, 3) := dk_162 0 62 (dk_at dksX2_ring_1 3 rfl rfl)
theorem dX2_ring_29 : decode cX2_ring 29 = .ok (.iconst 0, 1) := dk_3 (dk_at dksX2_ring_1 6 rfl rfl)
theorem dX2_ring_30 : decode cX2_ring 30 = .ok (.istore 5, 2) := dk_54 5 (dk_at dksX2_ring_1 7 rfl rfl)
theorem dX2_ring_32 : decode cX2_ring 32 = .ok (.iload 5, 2) := dk_21 5 (dk_at dksX2_ring_1 9 rfl rfl)
theorem dX2_ring_34 : decode cX2_ring 34 = .ok (.aload_n 0, 1) := dk_42 (dk_at dksX2_ring_1 11 rfl rfl)
theorem dX2_ring_35 : decode cX2_ring 35 = .ok (.getfield 113, 3) := dk_180 0 113 (dk_at dksX2_ring_1 12 rfl rfl)
theorem dX2_ring_38 : decode cX2_ring 38 = .ok (.if_icmp .ge 44, 3) := dk_162 0 44 (dk_at dksX2_ring_1 15 rfl rfl)
theorem dX2_ring_41 : decode cX2_ring 41 = .ok (.lload_n 1, 1) := dk_31 (dk_at dksX2_ring_1 18 rfl rfl)
theorem dX2_ring_42 : decode cX2_ring 42 = .ok (.iload_n 3, 1) := dk_29 (dk_at dksX2_ring_1 19 rfl rfl)
theorem dX2_ring_43 : decode cX2_ring 43 = .ok (.iload 4, 2) := dk_21 4 (dk_at dksX2_ring_1 20 rfl rfl)
theorem dX2_ring_45 : decode cX2_ring 45 = .ok (.if_icmp .eq 28, 3) := dk_159 0 28 (dk_at dksX2_ring_2 0 rfl rfl)
theorem dX2_ring_48 : decode cX2_ring 48 = .ok (.iload 4, 2) := dk_21 4 (dk_at dksX2_ring_2 3 rfl rfl)
theorem dX2_ring_50 : decode cX2_ring 50 = .ok (.iload 5, 2) := dk_21 5 (dk_at dksX2_ring_2 5 rfl rfl)
theorem dX2_ring_52 : decode cX2_ring 52 = .ok (.if_icmp .eq 21, 3) := dk_159 0 21 (dk_at dksX2_ring_2 7 rfl rfl)
theorem dX2_ring_55 : decode cX2_ring 55 = .ok (.iload_n 3, 1) := dk_29 (dk_at dksX2_ring_2 10 rfl rfl)
theorem dX2_ring_56 : decode cX2_ring 56 = .ok (.iload 5, 2) := dk_21 5 (dk_at dksX2_ring_2 11 rfl rfl)
theorem dX2_ring_58 : decode cX2_ring 58 = .ok (.if_icmp .eq 15, 3) := dk_159 0 15 (dk_at dksX2_ring_2 13 rfl rfl)
theorem dX2_ring_61 : decode cX2_ring 61 = .ok (.aload_n 0, 1) := dk_42 (dk_at dksX2_ring_2 16 rfl rfl)
theorem dX2_ring_62 : decode cX2_ring 62 = .ok (.iload_n 3, 1) := dk_29 (dk_at dksX2_ring_2 17 rfl rfl)
theorem dX2_ring_63 : decode cX2_ring 63 = .ok (.iload 4, 2) := dk_21 4 (dk_at dksX2_ring_2 18 rfl rfl)
theorem dX2_ring_65 : decode cX2_ring 65 = .ok (.iload 5, 2) := dk_21 5 (dk_at dksX2_ring_2 20 rfl rfl)
theorem dX2_ring_67 : decode cX2_ring 67 = .ok (.invokevirtual 216, 3) := dk_182 0 216 (dk_at dksX2_ring_3 0 rfl rfl)
theorem dX2_ring_70 : decode cX2_ring 70 = .ok (.goto 4, 3) := dk_167 0 4 (dk_at dksX2_ring_3 3 rfl rfl)
theorem dX2_ring_73 : decode cX2_ring 73 = .ok (.lconst 0, 1) := dk_9 (dk_at dksX2_ring_3 6 rfl rfl)
theorem dX2_ring_74 : decode cX2_ring 74 = .ok (.ladd, 1) := dk_97 (dk_at dksX2_ring_3 7 rfl rfl)
theorem dX2_ring_75 : decode cX2_ring 75 = .ok (.lstore_n 1, 1) := dk_64 (dk_at dksX2_ring_3 8 rfl rfl)
theorem dX2_ring_76 : decode cX2_ring 76 = .ok (.iinc 5 1, 3) := dk_132 5 1 (dk_at dksX2_ring_3 9 rfl rfl)
theorem dX2_ring_79 : decode cX2_ring 79 = .ok (.goto (-47), 3) := dk_167 255 209 (dk_at dksX2_ring_3 12 rfl rfl)
theorem dX2_ring_82 : decode cX2_ring 82 = .ok (.iinc 4 1, 3) := dk_132 4 1 (dk_at dksX2_ring_3 15 rfl rfl)
theorem dX2_ring_85 : decode cX2_ring 85 = .ok (.goto (-65), 3) := dk_167 255 191 (dk_at dksX2_ring_3 18 rfl rfl)
theorem dX2_ring_88 : decode cX2_ring 88 = .ok (.iinc 3 1, 3) := dk_132 3 1 (dk_at dksX2_ring_3 21 rfl rfl)
theorem dX2_ring_91 : decode cX2_ring 91 = .ok (.goto (-82), 3) := dk_167 255 174 (dk_at dksX2_ring_4 0 rfl rfl)
theorem dX2_ring_94 : decode cX2_ring 94 = .ok (.lload_n 1, 1) := dk_31 (dk_at dksX2_ring_4 3 rfl rfl)
theorem dX2_ring_95 : decode cX2_ring 95 = .ok (.lreturn, 1) := dk_173 (dk_at dksX2_ring_4 4 rfl rfl)
abbrev cX2_clear : ByteArray := prog_11_method_39_code
def yX2_clear : MethodName := ⟨RX2, "clear", "(III)J"⟩
def dkwX2_clear_4 : List UInt8 := [22, 10, 117, 182, 0, 203, 42, 29, 27, 22, 10, 117, 182, 0, 203, 22, 10, 173]
abbrev dktX2_clear_4 : List UInt8 := dkwX2_clear_4 ++ []
def dkwX2_clear_3 : List UInt8 := [55, 10, 22, 10, 9, 148, 157, 0, 5, 9, 173, 42, 27, 28, 22, 10, 117, 182, 0, 203, 42, 28, 29]
abbrev dktX2_clear_3 : List UInt8 := dkwX2_clear_3 ++ dktX2_clear_4
def dkwX2_clear_2 : List UInt8 := [22, 4, 167, 0, 5, 22, 6, 55, 10, 22, 8, 22, 10, 148, 156, 0, 8, 22, 8, 167, 0, 5, 22, 10]
abbrev dktX2_clear_2 : List UInt8 := dkwX2_clear_2 ++ dktX2_clear_3
def dkwX2_clear_1 : List UInt8 := [55, 6, 42, 180, 0, 36, 16, 12, 29, 104, 27, 96, 47, 55, 8, 22, 4, 22, 6, 148, 156, 0, 8]
abbrev dktX2_clear_1 : List UInt8 := dkwX2_clear_1 ++ dktX2_clear_2
def dkwX2_clear_0 : List UInt8 := [42, 180, 0, 36, 16, 12, 27, 104, 28, 96, 47, 55, 4, 42, 180, 0, 36, 16, 12, 28, 104, 29, 96, 47]
abbrev dktX2_clear_0 : List UInt8 := dkwX2_clear_0 ++ dktX2_clear_1
theorem dksX2_clear_0 : cX2_clear.data.toList.drop 0 = dktX2_clear_0 := by decide +kernel
theorem dksX2_clear_1 : cX2_clear.data.toList.drop 24 = dktX2_clear_1 := dk_seg dksX2_clear_0 24 rfl rfl
theorem dksX2_clear_2 : cX2_clear.data.toList.drop 47 = dktX2_clear_2 := dk_seg dksX2_clear_1 23 rfl rfl
theorem dksX2_clear_3 : cX2_clear.data.toList.drop 71 = dktX2_clear_3 := dk_seg dksX2_clear_2 24 rfl rfl
theorem dksX2_clear_4 : cX2_clear.data.toList.drop 94 = dktX2_clear_4 := dk_seg dksX2_clear_3 23 rfl rfl
theorem dX2_clear_0 : decode cX2_clear 0 = .ok (.aload_n 0, 1) := dk_42 (dk_at dksX2_clear_0 0 rfl rfl)
theorem dX2_clear_1 : decode cX2_clear 1 = .ok (.getfield 36, 3) := dk_180 0 36 (dk_at dksX2_clear_0 1 rfl rfl)
theorem dX2_clear_4 : decode cX2_clear 4 = .ok (.bipush 12, 2) := dk_16 12 (dk_at dksX2_clear_0 4 rfl rfl)
theorem dX2_clear_6 : decode cX2_clear 6 = .ok (.iload_n 1, 1) := dk_27 (dk_at dksX2_clear_0 6 rfl rfl)
theorem dX2_clear_7 : decode cX2_clear 7 = .ok (.imul, 1) := dk_104 (dk_at dksX2_clear_0 7 rfl rfl)
theorem dX2_clear_8 : decode cX2_clear 8 = .ok (.iload_n 2, 1) := dk_28 (dk_at dksX2_clear_0 8 rfl rfl)
theorem dX2_clear_9 : decode cX2_clear 9 = .ok (.iadd, 1) := dk_96 (dk_at dksX2_clear_0 9 rfl rfl)
theorem dX2_clear_10 : decode cX2_clear 10 = .ok (.laload, 1) := dk_47 (dk_at dksX2_clear_0 10 rfl rfl)
theorem dX2_clear_11 : decode cX2_clear 11 = .ok (.lstore 4, 2) := dk_55 4 (dk_at dksX2_clear_0 11 rfl rfl)
theorem dX2_clear_13 : decode cX2_clear 13 = .ok (.aload_n 0, 1) := dk_42 (dk_at dksX2_clear_0 13 rfl rfl)
theorem dX2_clear_14 : decode cX2_clear 14 = .ok (.getfield 36, 3) := dk_180 0 36 (dk_at dksX2_clear_0 14 rfl rfl)
theorem dX2_clear_17 : decode cX2_clear 17 = .ok (.bipush 12, 2) := dk_16 12 (dk_at dksX2_clear_0 17 rfl rfl)
theorem dX2_clear_19 : decode cX2_clear 19 = .ok (.iload_n 2, 1) := dk_28 (dk_at dksX2_clear_0 19 rfl rfl)
theorem dX2_clear_20 : decode cX2_clear 20 = .ok (.imul, 1) := dk_104 (dk_at dksX2_clear_0 20 rfl rfl)
theorem dX2_clear_21 : decode cX2_clear 21 = .ok (.iload_n 3, 1) := dk_29 (dk_at dksX2_clear_0 21 rfl rfl)
theorem dX2_clear_22 : decode cX2_clear 22 = .ok (.iadd, 1) := dk_96 (dk_at dksX2_clear_0 22 rfl rfl)
theorem dX2_clear_23 : decode cX2_clear 23 = .ok (.laload, 1) := dk_47 (dk_at dksX2_clear_0 23 rfl rfl)
theorem dX2_clear_24 : decode cX2_clear 24 = .ok (.lstore 6, 2) := dk_55 6 (dk_at dksX2_clear_1 0 rfl rfl)
theorem dX2_clear_26 : decode cX2_clear 26 = .ok (.aload_n 0, 1) := dk_42 (dk_at dksX2_clear_1 2 rfl rfl)
theorem dX2_clear_27 : decode cX2_clear 27 = .ok (.getfield 36, 3) := dk_180 0 36 (dk_at dksX2_clear_1 3 rfl rfl)
theorem dX2_clear_30 : decode cX2_clear 30 = .ok (.bipush 12, 2) := dk_16 12 (dk_at dksX2_clear_1 6 rfl rfl)
theorem dX2_clear_32 : decode cX2_clear 32 = .ok (.iload_n 3, 1) := dk_29 (dk_at dksX2_clear_1 8 rfl rfl)
theorem dX2_clear_33 : decode cX2_clear 33 = .ok (.imul, 1) := dk_104 (dk_at dksX2_clear_1 9 rfl rfl)
theorem dX2_clear_34 : decode cX2_clear 34 = .ok (.iload_n 1, 1) := dk_27 (dk_at dksX2_clear_1 10 rfl rfl)
theorem dX2_clear_35 : decode cX2_clear 35 = .ok (.iadd, 1) := dk_96 (dk_at dksX2_clear_1 11 rfl rfl)
theorem dX2_clear_36 : decode cX2_clear 36 = .ok (.laload, 1) := dk_47 (dk_at dksX2_clear_1 12 rfl rfl)
theorem dX2_clear_37 : decode cX2_clear 37 = .ok (.lstore 8, 2) := dk_55 8 (dk_at dksX2_clear_1 13 rfl rfl)
theorem dX2_clear_39 : decode cX2_clear 39 = .ok (.lload 4, 2) := dk_22 4 (dk_at dksX2_clear_1 15 rfl rfl)
theorem dX2_clear_41 : decode cX2_clear 41 = .ok (.lload 6, 2) := dk_22 6 (dk_at dksX2_clear_1 17 rfl rfl)
theorem dX2_clear_43 : decode cX2_clear 43 = .ok (.lcmp, 1) := dk_148 (dk_at dksX2_clear_1 19 rfl rfl)
theorem dX2_clear_44 : decode cX2_clear 44 = .ok (.ifCond .ge 8, 3) := dk_156 0 8 (dk_at dksX2_clear_1 20 rfl rfl)
theorem dX2_clear_47 : decode cX2_clear 47 = .ok (.lload 4, 2) := dk_22 4 (dk_at dksX2_clear_2 0 rfl rfl)
theorem dX2_clear_49 : decode cX2_clear 49 = .ok (.goto 5, 3) := dk_167 0 5 (dk_at dksX2_clear_2 2 rfl rfl)
theorem dX2_clear_52 : decode cX2_clear 52 = .ok (.lload 6, 2) := dk_22 6 (dk_at dksX2_clear_2 5 rfl rfl)
theorem dX2_clear_54 : decode cX2_clear 54 = .ok (.lstore 10, 2) := dk_55 10 (dk_at dksX2_clear_2 7 rfl rfl)
theorem dX2_clear_56 : decode cX2_clear 56 = .ok (.lload 8, 2) := dk_22 8 (dk_at dksX2_clear_2 9 rfl rfl)
theorem dX2_clear_58 : decode cX2_clear 58 = .ok (.lload 10, 2) := dk_22 10 (dk_at dksX2_clear_2 11 rfl rfl)
theorem dX2_clear_60 : decode cX2_clear 60 = .ok (.lcmp, 1) := dk_148 (dk_at dksX2_clear_2 13 rfl rfl)
theorem dX2_clear_61 : decode cX2_clear 61 = .ok (.ifCond .ge 8, 3) := dk_156 0 8 (dk_at dksX2_clear_2 14 rfl rfl)
theorem dX2_clear_64 : decode cX2_clear 64 = .ok (.lload 8, 2) := dk_22 8 (dk_at dksX2_clear_2 17 rfl rfl)
theorem dX2_clear_66 : decode cX2_clear 66 = .ok (.goto 5, 3) := dk_167 0 5 (dk_at dksX2_clear_2 19 rfl rfl)
theorem dX2_clear_69 : decode cX2_clear 69 = .ok (.lload 10, 2) := dk_22 10 (dk_at dksX2_clear_2 22 rfl rfl)
theorem dX2_clear_71 : decode cX2_clear 71 = .ok (.lstore 10, 2) := dk_55 10 (dk_at dksX2_clear_3 0 rfl rfl)
theorem dX2_clear_73 : decode cX2_clear 73 = .ok (.lload 10, 2) := dk_22 10 (dk_at dksX2_clear_3 2 rfl rfl)
theorem dX2_clear_75 : decode cX2_clear 75 = .ok (.lconst 0, 1) := dk_9 (dk_at dksX2_clear_3 4 rfl rfl)
theorem dX2_clear_76 : decode cX2_clear 76 = .ok (.lcmp, 1) := dk_148 (dk_at dksX2_clear_3 5 rfl rfl)
theorem dX2_clear_77 : decode cX2_clear 77 = .ok (.ifCond .gt 5, 3) := dk_157 0 5 (dk_at dksX2_clear_3 6 rfl rfl)
theorem dX2_clear_80 : decode cX2_clear 80 = .ok (.lconst 0, 1) := dk_9 (dk_at dksX2_clear_3 9 rfl rfl)
theorem dX2_clear_81 : decode cX2_clear 81 = .ok (.lreturn, 1) := dk_173 (dk_at dksX2_clear_3 10 rfl rfl)
theorem dX2_clear_82 : decode cX2_clear 82 = .ok (.aload_n 0, 1) := dk_42 (dk_at dksX2_clear_3 11 rfl rfl)
theorem dX2_clear_83 : decode cX2_clear 83 = .ok (.iload_n 1, 1) := dk_27 (dk_at dksX2_clear_3 12 rfl rfl)
theorem dX2_clear_84 : decode cX2_clear 84 = .ok (.iload_n 2, 1) := dk_28 (dk_at dksX2_clear_3 13 rfl rfl)
theorem dX2_clear_85 : decode cX2_clear 85 = .ok (.lload 10, 2) := dk_22 10 (dk_at dksX2_clear_3 14 rfl rfl)
theorem dX2_clear_87 : decode cX2_clear 87 = .ok (.lneg, 1) := dk_117 (dk_at dksX2_clear_3 16 rfl rfl)
theorem dX2_clear_88 : decode cX2_clear 88 = .ok (.invokevirtual 203, 3) := dk_182 0 203 (dk_at dksX2_clear_3 17 rfl rfl)
theorem dX2_clear_91 : decode cX2_clear 91 = .ok (.aload_n 0, 1) := dk_42 (dk_at dksX2_clear_3 20 rfl rfl)
theorem dX2_clear_92 : decode cX2_clear 92 = .ok (.iload_n 2, 1) := dk_28 (dk_at dksX2_clear_3 21 rfl rfl)
theorem dX2_clear_93 : decode cX2_clear 93 = .ok (.iload_n 3, 1) := dk_29 (dk_at dksX2_clear_3 22 rfl rfl)
theorem dX2_clear_94 : decode cX2_clear 94 = .ok (.lload 10, 2) := dk_22 10 (dk_at dksX2_clear_4 0 rfl rfl)
theorem dX2_clear_96 : decode cX2_clear 96 = .ok (.lneg, 1) := dk_117 (dk_at dksX2_clear_4 2 rfl rfl)
theorem dX2_clear_97 : decode cX2_clear 97 = .ok (.invokevirtual 203, 3) := dk_182 0 203 (dk_at dksX2_clear_4 3 rfl rfl)
theorem dX2_clear_100 : decode cX2_clear 100 = .ok (.aload_n 0, 1) := dk_42 (dk_at dksX2_clear_4 6 rfl rfl)
theorem dX2_clear_101 : decode cX2_clear 101 = .ok (.iload_n 3, 1) := dk_29 (dk_at dksX2_clear_4 7 rfl rfl)
theorem dX2_clear_102 : decode cX2_clear 102 = .ok (.iload_n 1, 1) := dk_27 (dk_at dksX2_clear_4 8 rfl rfl)
theorem dX2_clear_103 : decode cX2_clear 103 = .ok (.lload 10, 2) := dk_22 10 (dk_at dksX2_clear_4 9 rfl rfl)
theorem dX2_clear_105 : decode cX2_clear 105 = .ok (.lneg, 1) := dk_117 (dk_at dksX2_clear_4 11 rfl rfl)
theorem dX2_clear_106 : decode cX2_clear 106 = .ok (.invokevirtual 203, 3) := dk_182 0 203 (dk_at dksX2_clear_4 12 rfl rfl)
theorem dX2_clear_109 : decode cX2_clear 109 = .ok (.lload 10, 2) := dk_22 10 (dk_at dksX2_clear_4 15 rfl rfl)
theorem dX2_clear_111 : decode cX2_clear 111 = .ok (.lreturn, 1) := dk_173 (dk_at dksX2_clear_4 17 rfl rfl)
abbrev cX2_law : ByteArray := prog_11_method_41_code
def yX2_law : MethodName := ⟨RX2, "law", "(II)I"⟩
def dkwX2_law_2 : List UInt8 := [180, 0, 91, 27, 46, 172]
abbrev dktX2_law_2 : List UInt8 := dkwX2_law_2 ++ []
def dkwX2_law_1 : List UInt8 := [153, 0, 7, 3, 167, 0, 4, 5, 182, 0, 124, 154, 0, 5, 3, 172, 42, 180, 0, 88, 27, 28, 79, 42]
abbrev dktX2_law_1 : List UInt8 := dkwX2_law_1 ++ dktX2_law_2
def dkwX2_law_0 : List UInt8 := [27, 3, 16, 7, 184, 0, 116, 62, 42, 29, 154, 0, 7, 4, 167, 0, 18, 28, 3, 18, 87, 184, 0, 116]
abbrev dktX2_law_0 : List UInt8 := dkwX2_law_0 ++ dktX2_law_1
theorem dksX2_law_0 : cX2_law.data.toList.drop 0 = dktX2_law_0 := by decide +kernel
theorem dksX2_law_1 : cX2_law.data.toList.drop 24 = dktX2_law_1 := dk_seg dksX2_law_0 24 rfl rfl
theorem dksX2_law_2 : cX2_law.data.toList.drop 48 = dktX2_law_2 := dk_seg dksX2_law_1 24 rfl rfl
theorem dX2_law_0 : decode cX2_law 0 = .ok (.iload_n 1, 1) := dk_27 (dk_at dksX2_law_0 0 rfl rfl)
theorem dX2_law_1 : decode cX2_law 1 = .ok (.iconst 0, 1) := dk_3 (dk_at dksX2_law_0 1 rfl rfl)
theorem dX2_law_2 : decode cX2_law 2 = .ok (.bipush 7, 2) := dk_16 7 (dk_at dksX2_law_0 2 rfl rfl)
theorem dX2_law_4 : decode cX2_law 4 = .ok (.invokestatic 116, 3) := dk_184 0 116 (dk_at dksX2_law_0 4 rfl rfl)
theorem dX2_law_7 : decode cX2_law 7 = .ok (.istore_n 3, 1) := dk_62 (dk_at dksX2_law_0 7 rfl rfl)
theorem dX2_law_8 : decode cX2_law 8 = .ok (.aload_n 0, 1) := dk_42 (dk_at dksX2_law_0 8 rfl rfl)
theorem dX2_law_9 : decode cX2_law 9 = .ok (.iload_n 3, 1) := dk_29 (dk_at dksX2_law_0 9 rfl rfl)
theorem dX2_law_10 : decode cX2_law 10 = .ok (.ifCond .ne 7, 3) := dk_154 0 7 (dk_at dksX2_law_0 10 rfl rfl)
theorem dX2_law_13 : decode cX2_law 13 = .ok (.iconst 1, 1) := dk_4 (dk_at dksX2_law_0 13 rfl rfl)
theorem dX2_law_14 : decode cX2_law 14 = .ok (.goto 18, 3) := dk_167 0 18 (dk_at dksX2_law_0 14 rfl rfl)
theorem dX2_law_17 : decode cX2_law 17 = .ok (.iload_n 2, 1) := dk_28 (dk_at dksX2_law_0 17 rfl rfl)
theorem dX2_law_18 : decode cX2_law 18 = .ok (.iconst 0, 1) := dk_3 (dk_at dksX2_law_0 18 rfl rfl)
theorem dX2_law_19 : decode cX2_law 19 = .ok (.ldc 87, 2) := dk_18 87 (dk_at dksX2_law_0 19 rfl rfl)
theorem dX2_law_21 : decode cX2_law 21 = .ok (.invokestatic 116, 3) := dk_184 0 116 (dk_at dksX2_law_0 21 rfl rfl)
theorem dX2_law_24 : decode cX2_law 24 = .ok (.ifCond .eq 7, 3) := dk_153 0 7 (dk_at dksX2_law_1 0 rfl rfl)
theorem dX2_law_27 : decode cX2_law 27 = .ok (.iconst 0, 1) := dk_3 (dk_at dksX2_law_1 3 rfl rfl)
theorem dX2_law_28 : decode cX2_law 28 = .ok (.goto 4, 3) := dk_167 0 4 (dk_at dksX2_law_1 4 rfl rfl)
theorem dX2_law_31 : decode cX2_law 31 = .ok (.iconst 2, 1) := dk_5 (dk_at dksX2_law_1 7 rfl rfl)
theorem dX2_law_32 : decode cX2_law 32 = .ok (.invokevirtual 124, 3) := dk_182 0 124 (dk_at dksX2_law_1 8 rfl rfl)
theorem dX2_law_35 : decode cX2_law 35 = .ok (.ifCond .ne 5, 3) := dk_154 0 5 (dk_at dksX2_law_1 11 rfl rfl)
theorem dX2_law_38 : decode cX2_law 38 = .ok (.iconst 0, 1) := dk_3 (dk_at dksX2_law_1 14 rfl rfl)
theorem dX2_law_39 : decode cX2_law 39 = .ok (.ireturn, 1) := dk_172 (dk_at dksX2_law_1 15 rfl rfl)
theorem dX2_law_40 : decode cX2_law 40 = .ok (.aload_n 0, 1) := dk_42 (dk_at dksX2_law_1 16 rfl rfl)
theorem dX2_law_41 : decode cX2_law 41 = .ok (.getfield 88, 3) := dk_180 0 88 (dk_at dksX2_law_1 17 rfl rfl)
theorem dX2_law_44 : decode cX2_law 44 = .ok (.iload_n 1, 1) := dk_27 (dk_at dksX2_law_1 20 rfl rfl)
theorem dX2_law_45 : decode cX2_law 45 = .ok (.iload_n 2, 1) := dk_28 (dk_at dksX2_law_1 21 rfl rfl)
theorem dX2_law_46 : decode cX2_law 46 = .ok (.iastore, 1) := dk_79 (dk_at dksX2_law_1 22 rfl rfl)
theorem dX2_law_47 : decode cX2_law 47 = .ok (.aload_n 0, 1) := dk_42 (dk_at dksX2_law_1 23 rfl rfl)
theorem dX2_law_48 : decode cX2_law 48 = .ok (.getfield 91, 3) := dk_180 0 91 (dk_at dksX2_law_2 0 rfl rfl)
theorem dX2_law_51 : decode cX2_law 51 = .ok (.iload_n 1, 1) := dk_27 (dk_at dksX2_law_2 3 rfl rfl)
theorem dX2_law_52 : decode cX2_law 52 = .ok (.iaload, 1) := dk_46 (dk_at dksX2_law_2 4 rfl rfl)
theorem dX2_law_53 : decode cX2_law 53 = .ok (.ireturn, 1) := dk_172 (dk_at dksX2_law_2 5 rfl rfl)
abbrev cX2_list : ByteArray := prog_11_method_42_code
def yX2_list : MethodName := ⟨RX2, "list", "(I)Z"⟩
def dkwX2_list_2 : List UInt8 := [27, 51, 172]
abbrev dktX2_list_2 : List UInt8 := dkwX2_list_2 ++ []
def dkwX2_list_1 : List UInt8 := [42, 180, 0, 94, 27, 42, 180, 0, 94, 27, 51, 154, 0, 7, 4, 167, 0, 4, 3, 84, 42, 180, 0, 94]
abbrev dktX2_list_1 : List UInt8 := dkwX2_list_1 ++ dktX2_list_2
def dkwX2_list_0 : List UInt8 := [42, 27, 3, 16, 19, 184, 0, 116, 153, 0, 7, 3, 167, 0, 4, 4, 182, 0, 124, 154, 0, 5, 3, 172]
abbrev dktX2_list_0 : List UInt8 := dkwX2_list_0 ++ dktX2_list_1
theorem dksX2_list_0 : cX2_list.data.toList.drop 0 = dktX2_list_0 := by decide +kernel
theorem dksX2_list_1 : cX2_list.data.toList.drop 24 = dktX2_list_1 := dk_seg dksX2_list_0 24 rfl rfl
theorem dksX2_list_2 : cX2_list.data.toList.drop 48 = dktX2_list_2 := dk_seg dksX2_list_1 24 rfl rfl
theorem dX2_list_0 : decode cX2_list 0 = .ok (.aload_n 0, 1) := dk_42 (dk_at dksX2_list_0 0 rfl rfl)
theorem dX2_list_1 : decode cX2_list 1 = .ok (.iload_n 1, 1) := dk_27 (dk_at dksX2_list_0 1 rfl rfl)
theorem dX2_list_2 : decode cX2_list 2 = .ok (.iconst 0, 1) := dk_3 (dk_at dksX2_list_0 2 rfl rfl)
theorem dX2_list_3 : decode cX2_list 3 = .ok (.bipush 19, 2) := dk_16 19 (dk_at dksX2_list_0 3 rfl rfl)
theorem dX2_list_5 : decode cX2_list 5 = .ok (.invokestatic 116, 3) := dk_184 0 116 (dk_at dksX2_list_0 5 rfl rfl)
theorem dX2_list_8 : decode cX2_list 8 = .ok (.ifCond .eq 7, 3) := dk_153 0 7 (dk_at dksX2_list_0 8 rfl rfl)
theorem dX2_list_11 : decode cX2_list 11 = .ok (.iconst 0, 1) := dk_3 (dk_at dksX2_list_0 11 rfl rfl)
theorem dX2_list_12 : decode cX2_list 12 = .ok (.goto 4, 3) := dk_167 0 4 (dk_at dksX2_list_0 12 rfl rfl)
theorem dX2_list_15 : decode cX2_list 15 = .ok (.iconst 1, 1) := dk_4 (dk_at dksX2_list_0 15 rfl rfl)
theorem dX2_list_16 : decode cX2_list 16 = .ok (.invokevirtual 124, 3) := dk_182 0 124 (dk_at dksX2_list_0 16 rfl rfl)
theorem dX2_list_19 : decode cX2_list 19 = .ok (.ifCond .ne 5, 3) := dk_154 0 5 (dk_at dksX2_list_0 19 rfl rfl)
theorem dX2_list_22 : decode cX2_list 22 = .ok (.iconst 0, 1) := dk_3 (dk_at dksX2_list_0 22 rfl rfl)
theorem dX2_list_23 : decode cX2_list 23 = .ok (.ireturn, 1) := dk_172 (dk_at dksX2_list_0 23 rfl rfl)
theorem dX2_list_24 : decode cX2_list 24 = .ok (.aload_n 0, 1) := dk_42 (dk_at dksX2_list_1 0 rfl rfl)
theorem dX2_list_25 : decode cX2_list 25 = .ok (.getfield 94, 3) := dk_180 0 94 (dk_at dksX2_list_1 1 rfl rfl)
theorem dX2_list_28 : decode cX2_list 28 = .ok (.iload_n 1, 1) := dk_27 (dk_at dksX2_list_1 4 rfl rfl)
theorem dX2_list_29 : decode cX2_list 29 = .ok (.aload_n 0, 1) := dk_42 (dk_at dksX2_list_1 5 rfl rfl)
theorem dX2_list_30 : decode cX2_list 30 = .ok (.getfield 94, 3) := dk_180 0 94 (dk_at dksX2_list_1 6 rfl rfl)
theorem dX2_list_33 : decode cX2_list 33 = .ok (.iload_n 1, 1) := dk_27 (dk_at dksX2_list_1 9 rfl rfl)
theorem dX2_list_34 : decode cX2_list 34 = .ok (.baload, 1) := dk_51 (dk_at dksX2_list_1 10 rfl rfl)
theorem dX2_list_35 : decode cX2_list 35 = .ok (.ifCond .ne 7, 3) := dk_154 0 7 (dk_at dksX2_list_1 11 rfl rfl)
theorem dX2_list_38 : decode cX2_list 38 = .ok (.iconst 1, 1) := dk_4 (dk_at dksX2_list_1 14 rfl rfl)
theorem dX2_list_39 : decode cX2_list 39 = .ok (.goto 4, 3) := dk_167 0 4 (dk_at dksX2_list_1 15 rfl rfl)
theorem dX2_list_42 : decode cX2_list 42 = .ok (.iconst 0, 1) := dk_3 (dk_at dksX2_list_1 18 rfl rfl)
theorem dX2_list_43 : decode cX2_list 43 = .ok (.bastore, 1) := dk_84 (dk_at dksX2_list_1 19 rfl rfl)
theorem dX2_list_44 : decode cX2_list 44 = .ok (.aload_n 0, 1) := dk_42 (dk_at dksX2_list_1 20 rfl rfl)
theorem dX2_list_45 : decode cX2_list 45 = .ok (.getfield 94, 3) := dk_180 0 94 (dk_at dksX2_list_1 21 rfl rfl)
theorem dX2_list_48 : decode cX2_list 48 = .ok (.iload_n 1, 1) := dk_27 (dk_at dksX2_list_2 0 rfl rfl)
theorem dX2_list_49 : decode cX2_list 49 = .ok (.baload, 1) := dk_51 (dk_at dksX2_list_2 1 rfl rfl)
theorem dX2_list_50 : decode cX2_list 50 = .ok (.ireturn, 1) := dk_172 (dk_at dksX2_list_2 2 rfl rfl)
abbrev cX2_brokerOf : ByteArray := prog_11_method_43_code
def yX2_brokerOf : MethodName := ⟨RX2, "brokerOf", "(II)J"⟩
def dkwX2_brokerOf_5 : List UInt8 := [167, 0, 5, 22, 4, 173]
abbrev dktX2_brokerOf_5 : List UInt8 := dkwX2_brokerOf_5 ++ []
def dkwX2_brokerOf_4 : List UInt8 := [160, 0, 12, 42, 180, 0, 13, 27, 47, 167, 0, 20, 28, 5, 160, 0, 13, 42, 180, 0, 7, 27, 46, 133]
abbrev dktX2_brokerOf_4 : List UInt8 := dkwX2_brokerOf_4 ++ dktX2_brokerOf_5
def dkwX2_brokerOf_3 : List UInt8 := [55, 4, 132, 6, 1, 167, 255, 227, 28, 154, 0, 13, 42, 180, 0, 20, 27, 46, 133, 167, 0, 34, 28, 4]
abbrev dktX2_brokerOf_3 : List UInt8 := dkwX2_brokerOf_3 ++ dktX2_brokerOf_4
def dkwX2_brokerOf_2 : List UInt8 := [21, 6, 42, 180, 0, 113, 162, 0, 26, 22, 4, 42, 180, 0, 36, 16, 12, 27, 104, 21, 6, 96, 47, 101]
abbrev dktX2_brokerOf_2 : List UInt8 := dkwX2_brokerOf_2 ++ dktX2_brokerOf_3
def dkwX2_brokerOf_1 : List UInt8 := [3, 167, 0, 4, 5, 182, 0, 124, 154, 0, 5, 9, 173, 42, 180, 0, 13, 27, 47, 55, 4, 3, 54, 6]
abbrev dktX2_brokerOf_1 : List UInt8 := dkwX2_brokerOf_1 ++ dktX2_brokerOf_2
def dkwX2_brokerOf_0 : List UInt8 := [42, 27, 182, 0, 120, 62, 42, 29, 154, 0, 7, 4, 167, 0, 17, 28, 3, 6, 184, 0, 116, 153, 0, 7]
abbrev dktX2_brokerOf_0 : List UInt8 := dkwX2_brokerOf_0 ++ dktX2_brokerOf_1
theorem dksX2_brokerOf_0 : cX2_brokerOf.data.toList.drop 0 = dktX2_brokerOf_0 := by decide +kernel
theorem dksX2_brokerOf_1 : cX2_brokerOf.data.toList.drop 24 = dktX2_brokerOf_1 := dk_seg dksX2_brokerOf_0 24 rfl rfl
theorem dksX2_brokerOf_2 : cX2_brokerOf.data.toList.drop 48 = dktX2_brokerOf_2 := dk_seg dksX2_brokerOf_1 24 rfl rfl
theorem dksX2_brokerOf_3 : cX2_brokerOf.data.toList.drop 72 = dktX2_brokerOf_3 := dk_seg dksX2_brokerOf_2 24 rfl rfl
theorem dksX2_brokerOf_4 : cX2_brokerOf.data.toList.drop 96 = dktX2_brokerOf_4 := dk_seg dksX2_brokerOf_3 24 rfl rfl
theorem dksX2_brokerOf_5 : cX2_brokerOf.data.toList.drop 120 = dktX2_brokerOf_5 := dk_seg dksX2_brokerOf_4 24 rfl rfl
theorem dX2_brokerOf_0 : decode cX2_brokerOf 0 = .ok (.aload_n 0, 1) := dk_42 (dk_at dksX2_brokerOf_0 0 rfl rfl)
theorem dX2_brokerOf_1 : decode cX2_brokerOf 1 = .ok (.iload_n 1, 1) := dk_27 (dk_at dksX2_brokerOf_0 1 rfl rfl)
theorem dX2_brokerOf_2 : decode cX2_brokerOf 2 = .ok (.invokevirtual 120, 3) := dk_182 0 120 (dk_at dksX2_brokerOf_0 2 rfl rfl)
theorem dX2_brokerOf_5 : decode cX2_brokerOf 5 = .ok (.istore_n 3, 1) := dk_62 (dk_at dksX2_brokerOf_0 5 rfl rfl)
theorem dX2_brokerOf_6 : decode cX2_brokerOf 6 = .ok (.aload_n 0, 1) := dk_42 (dk_at dksX2_brokerOf_0 6 rfl rfl)
theorem dX2_brokerOf_7 : decode cX2_brokerOf 7 = .ok (.iload_n 3, 1) := dk_29 (dk_at dksX2_brokerOf_0 7 rfl rfl)
theorem dX2_brokerOf_8 : decode cX2_brokerOf 8 = .ok (.ifCond .ne 7, 3) := dk_154 0 7 (dk_at dksX2_brokerOf_0 8 rfl rfl)
theorem dX2_brokerOf_11 : decode cX2_brokerOf 11 = .ok (.iconst 1, 1) := dk_4 (dk_at dksX2_brokerOf_0 11 rfl rfl)
theorem dX2_brokerOf_12 : decode cX2_brokerOf 12 = .ok (.goto 17, 3) := dk_167 0 17 (dk_at dksX2_brokerOf_0 12 rfl rfl)
theorem dX2_brokerOf_15 : decode cX2_brokerOf 15 = .ok (.iload_n 2, 1) := dk_28 (dk_at dksX2_brokerOf_0 15 rfl rfl)
theorem dX2_brokerOf_16 : decode cX2_brokerOf 16 = .ok (.iconst 0, 1) := dk_3 (dk_at dksX2_brokerOf_0 16 rfl rfl)
theorem dX2_brokerOf_17 : decode cX2_brokerOf 17 = .ok (.iconst 3, 1) := dk_6 (dk_at dksX2_brokerOf_0 17 rfl rfl)
theorem dX2_brokerOf_18 : decode cX2_brokerOf 18 = .ok (.invokestatic 116, 3) := dk_184 0 116 (dk_at dksX2_brokerOf_0 18 rfl rfl)
theorem dX2_brokerOf_21 : decode cX2_brokerOf 21 = .ok (.ifCond .eq 7, 3) := dk_153 0 7 (dk_at dksX2_brokerOf_0 21 rfl rfl)
theorem dX2_brokerOf_24 : decode cX2_brokerOf 24 = .ok (.iconst 0, 1) := dk_3 (dk_at dksX2_brokerOf_1 0 rfl rfl)
theorem dX2_brokerOf_25 : decode cX2_brokerOf 25 = .ok (.goto 4, 3) := dk_167 0 4 (dk_at dksX2_brokerOf_1 1 rfl rfl)
theorem dX2_brokerOf_28 : decode cX2_brokerOf 28 = .ok (.iconst 2, 1) := dk_5 (dk_at dksX2_brokerOf_1 4 rfl rfl)
theorem dX2_brokerOf_29 : decode cX2_brokerOf 29 = .ok (.invokevirtual 124, 3) := dk_182 0 124 (dk_at dksX2_brokerOf_1 5 rfl rfl)
theorem dX2_brokerOf_32 : decode cX2_brokerOf 32 = .ok (.ifCond .ne 5, 3) := dk_154 0 5 (dk_at dksX2_brokerOf_1 8 rfl rfl)
theorem dX2_brokerOf_35 : decode cX2_brokerOf 35 = .ok (.lconst 0, 1) := dk_9 (dk_at dksX2_brokerOf_1 11 rfl rfl)
theorem dX2_brokerOf_36 : decode cX2_brokerOf 36 = .ok (.lreturn, 1) := dk_173 (dk_at dksX2_brokerOf_1 12 rfl rfl)
theorem dX2_brokerOf_37 : decode cX2_brokerOf 37 = .ok (.aload_n 0, 1) := dk_42 (dk_at dksX2_brokerOf_1 13 rfl rfl)
theorem dX2_brokerOf_38 : decode cX2_brokerOf 38 = .ok (.getfield 13, 3) := dk_180 0 13 (dk_at dksX2_brokerOf_1 14 rfl rfl)
theorem dX2_brokerOf_41 : decode cX2_brokerOf 41 = .ok (.iload_n 1, 1) := dk_27 (dk_at dksX2_brokerOf_1 17 rfl rfl)
theorem dX2_brokerOf_42 : decode cX2_brokerOf 42 = .ok (.laload, 1) := dk_47 (dk_at dksX2_brokerOf_1 18 rfl rfl)
theorem dX2_brokerOf_43 : decode cX2_brokerOf 43 = .ok (.lstore 4, 2) := dk_55 4 (dk_at dksX2_brokerOf_1 19 rfl rfl)
theorem dX2_brokerOf_45 : decode cX2_brokerOf 45 = .ok (.iconst 0, 1) := dk_3 (dk_at dksX2_brokerOf_1 21 rfl rfl)
theorem dX2_brokerOf_46 : decode cX2_brokerOf 46 = .ok (.istore 6, 2) := dk_54 6 (dk_at dksX2_brokerOf_1 22 rfl rfl)
theorem dX2_brokerOf_48 : decode cX2_brokerOf 48 = .ok (.iload 6, 2) := dk_21 6 (dk_at dksX2_brokerOf_2 0 rfl rfl)
theorem dX2_brokerOf_50 : decode cX2_brokerOf 50 = .ok (.aload_n 0, 1) := dk_42 (dk_at dksX2_brokerOf_2 2 rfl rfl)
theorem dX2_brokerOf_51 : decode cX2_brokerOf 51 = .ok (.getfield 113, 3) := dk_180 0 113 (dk_at dksX2_brokerOf_2 3 rfl rfl)
theorem dX2_brokerOf_54 : decode cX2_brokerOf 54 = .ok (.if_icmp .ge 26, 3) := dk_162 0 26 (dk_at dksX2_brokerOf_2 6 rfl rfl)
theorem dX2_brokerOf_57 : decode cX2_brokerOf 57 = .ok (.lload 4, 2) := dk_22 4 (dk_at dksX2_brokerOf_2 9 rfl rfl)
theorem dX2_brokerOf_59 : decode cX2_brokerOf 59 = .ok (.aload_n 0, 1) := dk_42 (dk_at dksX2_brokerOf_2 11 rfl rfl)
theorem dX2_brokerOf_60 : decode cX2_brokerOf 60 = .ok (.getfield 36, 3) := dk_180 0 36 (dk_at dksX2_brokerOf_2 12 rfl rfl)
theorem dX2_brokerOf_63 : decode cX2_brokerOf 63 = .ok (.bipush 12, 2) := dk_16 12 (dk_at dksX2_brokerOf_2 15 rfl rfl)
theorem dX2_brokerOf_65 : decode cX2_brokerOf 65 = .ok (.iload_n 1, 1) := dk_27 (dk_at dksX2_brokerOf_2 17 rfl rfl)
theorem dX2_brokerOf_66 : decode cX2_brokerOf 66 = .ok (.imul, 1) := dk_104 (dk_at dksX2_brokerOf_2 18 rfl rfl)
theorem dX2_brokerOf_67 : decode cX2_brokerOf 67 = .ok (.iload 6, 2) := dk_21 6 (dk_at dksX2_brokerOf_2 19 rfl rfl)
theorem dX2_brokerOf_69 : decode cX2_brokerOf 69 = .ok (.iadd, 1) := dk_96 (dk_at dksX2_brokerOf_2 21 rfl rfl)
theorem dX2_brokerOf_70 : decode cX2_brokerOf 70 = .ok (.laload, 1) := dk_47 (dk_at dksX2_brokerOf_2 22 rfl rfl)
theorem dX2_brokerOf_71 : decode cX2_brokerOf 71 = .ok (.lsub, 1) := dk_101 (dk_at dksX2_brokerOf_2 23 rfl rfl)
theorem dX2_brokerOf_72 : decode cX2_brokerOf 72 = .ok (.lstore 4, 2) := dk_55 4 (dk_at dksX2_brokerOf_3 0 rfl rfl)
theorem dX2_brokerOf_74 : decode cX2_brokerOf 74 = .ok (.iinc 6 1, 3) := dk_132 6 1 (dk_at dksX2_brokerOf_3 2 rfl rfl)
theorem dX2_brokerOf_77 : decode cX2_brokerOf 77 = .ok (.goto (-29), 3) := dk_167 255 227 (dk_at dksX2_brokerOf_3 5 rfl rfl)
theorem dX2_brokerOf_80 : decode cX2_brokerOf 80 = .ok (.iload_n 2, 1) := dk_28 (dk_at dksX2_brokerOf_3 8 rfl rfl)
theorem dX2_brokerOf_81 : decode cX2_brokerOf 81 = .ok (.ifCond .ne 13, 3) := dk_154 0 13 (dk_at dksX2_brokerOf_3 9 rfl rfl)
theorem dX2_brokerOf_84 : decode cX2_brokerOf 84 = .ok (.aload_n 0, 1) := dk_42 (dk_at dksX2_brokerOf_3 12 rfl rfl)
theorem dX2_brokerOf_85 : decode cX2_brokerOf 85 = .ok (.getfield 20, 3) := dk_180 0 20 (dk_at dksX2_brokerOf_3 13 rfl rfl)
theorem dX2_brokerOf_88 : decode cX2_brokerOf 88 = .ok (.iload_n 1, 1) := dk_27 (dk_at dksX2_brokerOf_3 16 rfl rfl)
theorem dX2_brokerOf_89 : decode cX2_brokerOf 89 = .ok (.iaload, 1) := dk_46 (dk_at dksX2_brokerOf_3 17 rfl rfl)
theorem dX2_brokerOf_90 : decode cX2_brokerOf 90 = .ok (.i2l, 1) := dk_133 (dk_at dksX2_brokerOf_3 18 rfl rfl)
theorem dX2_brokerOf_91 : decode cX2_brokerOf 91 = .ok (.goto 34, 3) := dk_167 0 34 (dk_at dksX2_brokerOf_3 19 rfl rfl)
theorem dX2_brokerOf_94 : decode cX2_brokerOf 94 = .ok (.iload_n 2, 1) := dk_28 (dk_at dksX2_brokerOf_3 22 rfl rfl)
theorem dX2_brokerOf_95 : decode cX2_brokerOf 95 = .ok (.iconst 1, 1) := dk_4 (dk_at dksX2_brokerOf_3 23 rfl rfl)
theorem dX2_brokerOf_96 : decode cX2_brokerOf 96 = .ok (.if_icmp .ne 12, 3) := dk_160 0 12 (dk_at dksX2_brokerOf_4 0 rfl rfl)
theorem dX2_brokerOf_99 : decode cX2_brokerOf 99 = .ok (.aload_n 0, 1) := dk_42 (dk_at dksX2_brokerOf_4 3 rfl rfl)
theorem dX2_brokerOf_100 : decode cX2_brokerOf 100 = .ok (.getfield 13, 3) := dk_180 0 13 (dk_at dksX2_brokerOf_4 4 rfl rfl)
theorem dX2_brokerOf_103 : decode cX2_brokerOf 103 = .ok (.iload_n 1, 1) := dk_27 (dk_at dksX2_brokerOf_4 7 rfl rfl)
theorem dX2_brokerOf_104 : decode cX2_brokerOf 104 = .ok (.laload, 1) := dk_47 (dk_at dksX2_brokerOf_4 8 rfl rfl)
theorem dX2_brokerOf_105 : decode cX2_brokerOf 105 = .ok (.goto 20, 3) := dk_167 0 20 (dk_at dksX2_brokerOf_4 9 rfl rfl)
theorem dX2_brokerOf_108 : decode cX2_brokerOf 108 = .ok (.iload_n 2, 1) := dk_28 (dk_at dksX2_brokerOf_4 12 rfl rfl)
theorem dX2_brokerOf_109 : decode cX2_brokerOf 109 = .ok (.iconst 2, 1) := dk_5 (dk_at dksX2_brokerOf_4 13 rfl rfl)
theorem dX2_brokerOf_110 : decode cX2_brokerOf 110 = .ok (.if_icmp .ne 13, 3) := dk_160 0 13 (dk_at dksX2_brokerOf_4 14 rfl rfl)
theorem dX2_brokerOf_113 : decode cX2_brokerOf 113 = .ok (.aload_n 0, 1) := dk_42 (dk_at dksX2_brokerOf_4 17 rfl rfl)
theorem dX2_brokerOf_114 : decode cX2_brokerOf 114 = .ok (.getfield 7, 3) := dk_180 0 7 (dk_at dksX2_brokerOf_4 18 rfl rfl)
theorem dX2_brokerOf_117 : decode cX2_brokerOf 117 = .ok (.iload_n 1, 1) := dk_27 (dk_at dksX2_brokerOf_4 21 rfl rfl)
theorem dX2_brokerOf_118 : decode cX2_brokerOf 118 = .ok (.iaload, 1) := dk_46 (dk_at dksX2_brokerOf_4 22 rfl rfl)
theorem dX2_brokerOf_119 : decode cX2_brokerOf 119 = .ok (.i2l, 1) := dk_133 (dk_at dksX2_brokerOf_4 23 rfl rfl)
theorem dX2_brokerOf_120 : decode cX2_brokerOf 120 = .ok (.goto 5, 3) := dk_167 0 5 (dk_at dksX2_brokerOf_5 0 rfl rfl)
theorem dX2_brokerOf_123 : decode cX2_brokerOf 123 = .ok (.lload 4, 2) := dk_22 4 (dk_at dksX2_brokerOf_5 3 rfl rfl)
theorem dX2_brokerOf_125 : decode cX2_brokerOf 125 = .ok (.lreturn, 1) := dk_173 (dk_at dksX2_brokerOf_5 5 rfl rfl)
abbrev cX2_debt : ByteArray := prog_11_method_44_code
def yX2_debt : MethodName := ⟨RX2, "debt", "(IIZ)J"⟩
def dkwX2_debt_2 : List UInt8 := [104, 28, 96, 47, 173]
abbrev dktX2_debt_2 : List UInt8 := dkwX2_debt_2 ++ []
def dkwX2_debt_1 : List UInt8 := [153, 0, 17, 42, 180, 0, 39, 16, 12, 27, 104, 28, 96, 47, 167, 0, 14, 42, 180, 0, 36, 16, 12, 27]
abbrev dktX2_debt_1 : List UInt8 := dkwX2_debt_1 ++ dktX2_debt_2
def dkwX2_debt_0 : List UInt8 := [42, 42, 27, 28, 182, 0, 127, 153, 0, 7, 3, 167, 0, 4, 4, 182, 0, 124, 154, 0, 5, 9, 173, 29]
abbrev dktX2_debt_0 : List UInt8 := dkwX2_debt_0 ++ dktX2_debt_1
theorem dksX2_debt_0 : cX2_debt.data.toList.drop 0 = dktX2_debt_0 := by decide +kernel
theorem dksX2_debt_1 : cX2_debt.data.toList.drop 24 = dktX2_debt_1 := dk_seg dksX2_debt_0 24 rfl rfl
theorem dksX2_debt_2 : cX2_debt.data.toList.drop 48 = dktX2_debt_2 := dk_seg dksX2_debt_1 24 rfl rfl
theorem dX2_debt_0 : decode cX2_debt 0 = .ok (.aload_n 0, 1) := dk_42 (dk_at dksX2_debt_0 0 rfl rfl)
theorem dX2_debt_1 : decode cX2_debt 1 = .ok (.aload_n 0, 1) := dk_42 (dk_at dksX2_debt_0 1 rfl rfl)
theorem dX2_debt_2 : decode cX2_debt 2 = .ok (.iload_n 1, 1) := dk_27 (dk_at dksX2_debt_0 2 rfl rfl)
theorem dX2_debt_3 : decode cX2_debt 3 = .ok (.iload_n 2, 1) := dk_28 (dk_at dksX2_debt_0 3 rfl rfl)
theorem dX2_debt_4 : decode cX2_debt 4 = .ok (.invokevirtual 127, 3) := dk_182 0 127 (dk_at dksX2_debt_0 4 rfl rfl)
theorem dX2_debt_7 : decode cX2_debt 7 = .ok (.ifCond .eq 7, 3) := dk_153 0 7 (dk_at dksX2_debt_0 7 rfl rfl)
theorem dX2_debt_10 : decode cX2_debt 10 = .ok (.iconst 0, 1) := dk_3 (dk_at dksX2_debt_0 10 rfl rfl)
theorem dX2_debt_11 : decode cX2_debt 11 = .ok (.goto 4, 3) := dk_167 0 4 (dk_at dksX2_debt_0 11 rfl rfl)
theorem dX2_debt_14 : decode cX2_debt 14 = .ok (.iconst 1, 1) := dk_4 (dk_at dksX2_debt_0 14 rfl rfl)
theorem dX2_debt_15 : decode cX2_debt 15 = .ok (.invokevirtual 124, 3) := dk_182 0 124 (dk_at dksX2_debt_0 15 rfl rfl)
theorem dX2_debt_18 : decode cX2_debt 18 = .ok (.ifCond .ne 5, 3) := dk_154 0 5 (dk_at dksX2_debt_0 18 rfl rfl)
theorem dX2_debt_21 : decode cX2_debt 21 = .ok (.lconst 0, 1) := dk_9 (dk_at dksX2_debt_0 21 rfl rfl)
theorem dX2_debt_22 : decode cX2_debt 22 = .ok (.lreturn, 1) := dk_173 (dk_at dksX2_debt_0 22 rfl rfl)
theorem dX2_debt_23 : decode cX2_debt 23 = .ok (.iload_n 3, 1) := dk_29 (dk_at dksX2_debt_0 23 rfl rfl)
theorem dX2_debt_24 : decode cX2_debt 24 = .ok (.ifCond .eq 17, 3) := dk_153 0 17 (dk_at dksX2_debt_1 0 rfl rfl)
theorem dX2_debt_27 : decode cX2_debt 27 = .ok (.aload_n 0, 1) := dk_42 (dk_at dksX2_debt_1 3 rfl rfl)
theorem dX2_debt_28 : decode cX2_debt 28 = .ok (.getfield 39, 3) := dk_180 0 39 (dk_at dksX2_debt_1 4 rfl rfl)
theorem dX2_debt_31 : decode cX2_debt 31 = .ok (.bipush 12, 2) := dk_16 12 (dk_at dksX2_debt_1 7 rfl rfl)
theorem dX2_debt_33 : decode cX2_debt 33 = .ok (.iload_n 1, 1) := dk_27 (dk_at dksX2_debt_1 9 rfl rfl)
theorem dX2_debt_34 : decode cX2_debt 34 = .ok (.imul, 1) := dk_104 (dk_at dksX2_debt_1 10 rfl rfl)
theorem dX2_debt_35 : decode cX2_debt 35 = .ok (.iload_n 2, 1) := dk_28 (dk_at dksX2_debt_1 11 rfl rfl)
theorem dX2_debt_36 : decode cX2_debt 36 = .ok (.iadd, 1) := dk_96 (dk_at dksX2_debt_1 12 rfl rfl)
theorem dX2_debt_37 : decode cX2_debt 37 = .ok (.laload, 1) := dk_47 (dk_at dksX2_debt_1 13 rfl rfl)
theorem dX2_debt_38 : decode cX2_debt 38 = .ok (.goto 14, 3) := dk_167 0 14 (dk_at dksX2_debt_1 14 rfl rfl)
theorem dX2_debt_41 : decode cX2_debt 41 = .ok (.aload_n 0, 1) := dk_42 (dk_at dksX2_debt_1 17 rfl rfl)
theorem dX2_debt_42 : decode cX2_debt 42 = .ok (.getfield 36, 3) := dk_180 0 36 (dk_at dksX2_debt_1 18 rfl rfl)
theorem dX2_debt_45 : decode cX2_debt 45 = .ok (.bipush 12, 2) := dk_16 12 (dk_at dksX2_debt_1 21 rfl rfl)
theorem dX2_debt_47 : decode cX2_debt 47 = .ok (.iload_n 1, 1) := dk_27 (dk_at dksX2_debt_1 23 rfl rfl)
theorem dX2_debt_48 : decode cX2_debt 48 = .ok (.imul, 1) := dk_104 (dk_at dksX2_debt_2 0 rfl rfl)
theorem dX2_debt_49 : decode cX2_debt 49 = .ok (.iload_n 2, 1) := dk_28 (dk_at dksX2_debt_2 1 rfl rfl)
theorem dX2_debt_50 : decode cX2_debt 50 = .ok (.iadd, 1) := dk_96 (dk_at dksX2_debt_2 2 rfl rfl)
theorem dX2_debt_51 : decode cX2_debt 51 = .ok (.laload, 1) := dk_47 (dk_at dksX2_debt_2 3 rfl rfl)
theorem dX2_debt_52 : decode cX2_debt 52 = .ok (.lreturn, 1) := dk_173 (dk_at dksX2_debt_2 4 rfl rfl)
abbrev cX2_agree : ByteArray := prog_11_method_45_code
def yX2_agree : MethodName := ⟨RX2, "agree", "(II)Z"⟩
def dkwX2_agree_2 : List UInt8 := [154, 0, 7, 4, 167, 0, 4, 3, 172]
abbrev dktX2_agree_2 : List UInt8 := dkwX2_agree_2 ++ []
def dkwX2_agree_1 : List UInt8 := [180, 0, 39, 16, 12, 27, 104, 28, 96, 47, 42, 180, 0, 39, 16, 12, 28, 104, 27, 96, 47, 117, 148]
abbrev dktX2_agree_1 : List UInt8 := dkwX2_agree_1 ++ dktX2_agree_2
def dkwX2_agree_0 : List UInt8 := [42, 42, 27, 28, 182, 0, 127, 153, 0, 7, 3, 167, 0, 4, 4, 182, 0, 124, 153, 0, 34, 42]
abbrev dktX2_agree_0 : List UInt8 := dkwX2_agree_0 ++ dktX2_agree_1
theorem dksX2_agree_0 : cX2_agree.data.toList.drop 0 = dktX2_agree_0 := by decide +kernel
theorem dksX2_agree_1 : cX2_agree.data.toList.drop 22 = dktX2_agree_1 := dk_seg dksX2_agree_0 22 rfl rfl
theorem dksX2_agree_2 : cX2_agree.data.toList.drop 45 = dktX2_agree_2 := dk_seg dksX2_agree_1 23 rfl rfl
theorem dX2_agree_0 : decode cX2_agree 0 = .ok (.aload_n 0, 1) := dk_42 (dk_at dksX2_agree_0 0 rfl rfl)
theorem dX2_agree_1 : decode cX2_agree 1 = .ok (.aload_n 0, 1) := dk_42 (dk_at dksX2_agree_0 1 rfl rfl)
theorem dX2_agree_2 : decode cX2_agree 2 = .ok (.iload_n 1, 1) := dk_27 (dk_at dksX2_agree_0 2 rfl rfl)
theorem dX2_agree_3 : decode cX2_agree 3 = .ok (.iload_n 2, 1) := dk_28 (dk_at dksX2_agree_0 3 rfl rfl)
theorem dX2_agree_4 : decode cX2_agree 4 = .ok (.invokevirtual 127, 3) := dk_182 0 127 (dk_at dksX2_agree_0 4 rfl rfl)
theorem dX2_agree_7 : decode cX2_agree 7 = .ok (.ifCond .eq 7, 3) := dk_153 0 7 (dk_at dksX2_agree_0 7 rfl rfl)
theorem dX2_agree_10 : decode cX2_agree 10 = .ok (.iconst 0, 1) := dk_3 (dk_at dksX2_agree_0 10 rfl rfl)
theorem dX2_agree_11 : decode cX2_agree 11 = .ok (.goto 4, 3) := dk_167 0 4 (dk_at dksX2_agree_0 11 rfl rfl)
theorem dX2_agree_14 : decode cX2_agree 14 = .ok (.iconst 1, 1) := dk_4 (dk_at dksX2_agree_0 14 rfl rfl)
theorem dX2_agree_15 : decode cX2_agree 15 = .ok (.invokevirtual 124, 3) := dk_182 0 124 (dk_at dksX2_agree_0 15 rfl rfl)
theorem dX2_agree_18 : decode cX2_agree 18 = .ok (.ifCond .eq 34, 3) := dk_153 0 34 (dk_at dksX2_agree_0 18 rfl rfl)
theorem dX2_agree_21 : decode cX2_agree 21 = .ok (.aload_n 0, 1) := dk_42 (dk_at dksX2_agree_0 21 rfl rfl)
theorem dX2_agree_22 : decode cX2_agree 22 = .ok (.getfield 39, 3) := dk_180 0 39 (dk_at dksX2_agree_1 0 rfl rfl)
theorem dX2_agree_25 : decode cX2_agree 25 = .ok (.bipush 12, 2) := dk_16 12 (dk_at dksX2_agree_1 3 rfl rfl)
theorem dX2_agree_27 : decode cX2_agree 27 = .ok (.iload_n 1, 1) := dk_27 (dk_at dksX2_agree_1 5 rfl rfl)
theorem dX2_agree_28 : decode cX2_agree 28 = .ok (.imul, 1) := dk_104 (dk_at dksX2_agree_1 6 rfl rfl)
theorem dX2_agree_29 : decode cX2_agree 29 = .ok (.iload_n 2, 1) := dk_28 (dk_at dksX2_agree_1 7 rfl rfl)
theorem dX2_agree_30 : decode cX2_agree 30 = .ok (.iadd, 1) := dk_96 (dk_at dksX2_agree_1 8 rfl rfl)
theorem dX2_agree_31 : decode cX2_agree 31 = .ok (.laload, 1) := dk_47 (dk_at dksX2_agree_1 9 rfl rfl)
theorem dX2_agree_32 : decode cX2_agree 32 = .ok (.aload_n 0, 1) := dk_42 (dk_at dksX2_agree_1 10 rfl rfl)
theorem dX2_agree_33 : decode cX2_agree 33 = .ok (.getfield 39, 3) := dk_180 0 39 (dk_at dksX2_agree_1 11 rfl rfl)
theorem dX2_agree_36 : decode cX2_agree 36 = .ok (.bipush 12, 2) := dk_16 12 (dk_at dksX2_agree_1 14 rfl rfl)
theorem dX2_agree_38 : decode cX2_agree 38 = .ok (.iload_n 2, 1) := dk_28 (dk_at dksX2_agree_1 16 rfl rfl)
theorem dX2_agree_39 : decode cX2_agree 39 = .ok (.imul, 1) := dk_104 (dk_at dksX2_agree_1 17 rfl rfl)
theorem dX2_agree_40 : decode cX2_agree 40 = .ok (.iload_n 1, 1) := dk_27 (dk_at dksX2_agree_1 18 rfl rfl)
theorem dX2_agree_41 : decode cX2_agree 41 = .ok (.iadd, 1) := dk_96 (dk_at dksX2_agree_1 19 rfl rfl)
theorem dX2_agree_42 : decode cX2_agree 42 = .ok (.laload, 1) := dk_47 (dk_at dksX2_agree_1 20 rfl rfl)
theorem dX2_agree_43 : decode cX2_agree 43 = .ok (.lneg, 1) := dk_117 (dk_at dksX2_agree_1 21 rfl rfl)
theorem dX2_agree_44 : decode cX2_agree 44 = .ok (.lcmp, 1) := dk_148 (dk_at dksX2_agree_1 22 rfl rfl)
theorem dX2_agree_45 : decode cX2_agree 45 = .ok (.ifCond .ne 7, 3) := dk_154 0 7 (dk_at dksX2_agree_2 0 rfl rfl)
theorem dX2_agree_48 : decode cX2_agree 48 = .ok (.iconst 1, 1) := dk_4 (dk_at dksX2_agree_2 3 rfl rfl)
theorem dX2_agree_49 : decode cX2_agree 49 = .ok (.goto 4, 3) := dk_167 0 4 (dk_at dksX2_agree_2 4 rfl rfl)
theorem dX2_agree_52 : decode cX2_agree 52 = .ok (.iconst 0, 1) := dk_3 (dk_at dksX2_agree_2 7 rfl rfl)
theorem dX2_agree_53 : decode cX2_agree 53 = .ok (.ireturn, 1) := dk_172 (dk_at dksX2_agree_2 8 rfl rfl)
abbrev cX2_way : ByteArray := prog_11_method_46_code
def yX2_way : MethodName := ⟨RX2, "way", "(IIII)I"⟩
def dkwX2_way_3 : List UInt8 := [21, 6, 162, 0, 13, 42, 180, 0, 106, 21, 4, 46, 167, 0, 4, 2, 172]
abbrev dktX2_way_3 : List UInt8 := dkwX2_way_3 ++ []
def dkwX2_way_2 : List UInt8 := [167, 0, 4, 5, 182, 0, 124, 154, 0, 5, 3, 172, 42, 27, 28, 29, 3, 182, 0, 170, 54, 6, 21, 4]
abbrev dktX2_way_2 : List UInt8 := dkwX2_way_2 ++ dktX2_way_3
def dkwX2_way_1 : List UInt8 := [154, 0, 7, 4, 167, 0, 23, 27, 28, 159, 0, 17, 29, 4, 18, 87, 184, 0, 116, 153, 0, 7, 3]
abbrev dktX2_way_1 : List UInt8 := dkwX2_way_1 ++ dktX2_way_2
def dkwX2_way_0 : List UInt8 := [42, 27, 28, 182, 0, 127, 153, 0, 12, 21, 4, 155, 0, 7, 4, 167, 0, 4, 3, 54, 5, 42, 21, 5]
abbrev dktX2_way_0 : List UInt8 := dkwX2_way_0 ++ dktX2_way_1
theorem dksX2_way_0 : cX2_way.data.toList.drop 0 = dktX2_way_0 := by decide +kernel
theorem dksX2_way_1 : cX2_way.data.toList.drop 24 = dktX2_way_1 := dk_seg dksX2_way_0 24 rfl rfl
theorem dksX2_way_2 : cX2_way.data.toList.drop 47 = dktX2_way_2 := dk_seg dksX2_way_1 23 rfl rfl
theorem dksX2_way_3 : cX2_way.data.toList.drop 71 = dktX2_way_3 := dk_seg dksX2_way_2 24 rfl rfl
theorem dX2_way_0 : decode cX2_way 0 = .ok (.aload_n 0, 1) := dk_42 (dk_at dksX2_way_0 0 rfl rfl)
theorem dX2_way_1 : decode cX2_way 1 = .ok (.iload_n 1, 1) := dk_27 (dk_at dksX2_way_0 1 rfl rfl)
theorem dX2_way_2 : decode cX2_way 2 = .ok (.iload_n 2, 1) := dk_28 (dk_at dksX2_way_0 2 rfl rfl)
theorem dX2_way_3 : decode cX2_way 3 = .ok (.invokevirtual 127, 3) := dk_182 0 127 (dk_at dksX2_way_0 3 rfl rfl)
theorem dX2_way_6 : decode cX2_way 6 = .ok (.ifCond .eq 12, 3) := dk_153 0 12 (dk_at dksX2_way_0 6 rfl rfl)
theorem dX2_way_9 : decode cX2_way 9 = .ok (.iload 4, 2) := dk_21 4 (dk_at dksX2_way_0 9 rfl rfl)
theorem dX2_way_11 : decode cX2_way 11 = .ok (.ifCond .lt 7, 3) := dk_155 0 7 (dk_at dksX2_way_0 11 rfl rfl)
theorem dX2_way_14 : decode cX2_way 14 = .ok (.iconst 1, 1) := dk_4 (dk_at dksX2_way_0 14 rfl rfl)
theorem dX2_way_15 : decode cX2_way 15 = .ok (.goto 4, 3) := dk_167 0 4 (dk_at dksX2_way_0 15 rfl rfl)
theorem dX2_way_18 : decode cX2_way 18 = .ok (.iconst 0, 1) := dk_3 (dk_at dksX2_way_0 18 rfl rfl)
theorem dX2_way_19 : decode cX2_way 19 = .ok (.istore 5, 2) := dk_54 5 (dk_at dksX2_way_0 19 rfl rfl)
theorem dX2_way_21 : decode cX2_way 21 = .ok (.aload_n 0, 1) := dk_42 (dk_at dksX2_way_0 21 rfl rfl)
theorem dX2_way_22 : decode cX2_way 22 = .ok (.iload 5, 2) := dk_21 5 (dk_at dksX2_way_0 22 rfl rfl)
theorem dX2_way_24 : decode cX2_way 24 = .ok (.ifCond .ne 7, 3) := dk_154 0 7 (dk_at dksX2_way_1 0 rfl rfl)
theorem dX2_way_27 : decode cX2_way 27 = .ok (.iconst 1, 1) := dk_4 (dk_at dksX2_way_1 3 rfl rfl)
theorem dX2_way_28 : decode cX2_way 28 = .ok (.goto 23, 3) := dk_167 0 23 (dk_at dksX2_way_1 4 rfl rfl)
theorem dX2_way_31 : decode cX2_way 31 = .ok (.iload_n 1, 1) := dk_27 (dk_at dksX2_way_1 7 rfl rfl)
theorem dX2_way_32 : decode cX2_way 32 = .ok (.iload_n 2, 1) := dk_28 (dk_at dksX2_way_1 8 rfl rfl)
theorem dX2_way_33 : decode cX2_way 33 = .ok (.if_icmp .eq 17, 3) := dk_159 0 17 (dk_at dksX2_way_1 9 rfl rfl)
theorem dX2_way_36 : decode cX2_way 36 = .ok (.iload_n 3, 1) := dk_29 (dk_at dksX2_way_1 12 rfl rfl)
theorem dX2_way_37 : decode cX2_way 37 = .ok (.iconst 1, 1) := dk_4 (dk_at dksX2_way_1 13 rfl rfl)
theorem dX2_way_38 : decode cX2_way 38 = .ok (.ldc 87, 2) := dk_18 87 (dk_at dksX2_way_1 14 rfl rfl)
theorem dX2_way_40 : decode cX2_way 40 = .ok (.invokestatic 116, 3) := dk_184 0 116 (dk_at dksX2_way_1 16 rfl rfl)
theorem dX2_way_43 : decode cX2_way 43 = .ok (.ifCond .eq 7, 3) := dk_153 0 7 (dk_at dksX2_way_1 19 rfl rfl)
theorem dX2_way_46 : decode cX2_way 46 = .ok (.iconst 0, 1) := dk_3 (dk_at dksX2_way_1 22 rfl rfl)
theorem dX2_way_47 : decode cX2_way 47 = .ok (.goto 4, 3) := dk_167 0 4 (dk_at dksX2_way_2 0 rfl rfl)
theorem dX2_way_50 : decode cX2_way 50 = .ok (.iconst 2, 1) := dk_5 (dk_at dksX2_way_2 3 rfl rfl)
theorem dX2_way_51 : decode cX2_way 51 = .ok (.invokevirtual 124, 3) := dk_182 0 124 (dk_at dksX2_way_2 4 rfl rfl)
theorem dX2_way_54 : decode cX2_way 54 = .ok (.ifCond .ne 5, 3) := dk_154 0 5 (dk_at dksX2_way_2 7 rfl rfl)
theorem dX2_way_57 : decode cX2_way 57 = .ok (.iconst 0, 1) := dk_3 (dk_at dksX2_way_2 10 rfl rfl)
theorem dX2_way_58 : decode cX2_way 58 = .ok (.ireturn, 1) := dk_172 (dk_at dksX2_way_2 11 rfl rfl)
theorem dX2_way_59 : decode cX2_way 59 = .ok (.aload_n 0, 1) := dk_42 (dk_at dksX2_way_2 12 rfl rfl)
theorem dX2_way_60 : decode cX2_way 60 = .ok (.iload_n 1, 1) := dk_27 (dk_at dksX2_way_2 13 rfl rfl)
theorem dX2_way_61 : decode cX2_way 61 = .ok (.iload_n 2, 1) := dk_28 (dk_at dksX2_way_2 14 rfl rfl)
theorem dX2_way_62 : decode cX2_way 62 = .ok (.iload_n 3, 1) := dk_29 (dk_at dksX2_way_2 15 rfl rfl)
theorem dX2_way_63 : decode cX2_way 63 = .ok (.iconst 0, 1) := dk_3 (dk_at dksX2_way_2 16 rfl rfl)
theorem dX2_way_64 : decode cX2_way 64 = .ok (.invokevirtual 170, 3) := dk_182 0 170 (dk_at dksX2_way_2 17 rfl rfl)
theorem dX2_way_67 : decode cX2_way 67 = .ok (.istore 6, 2) := dk_54 6 (dk_at dksX2_way_2 20 rfl rfl)
theorem dX2_way_69 : decode cX2_way 69 = .ok (.iload 4, 2) := dk_21 4 (dk_at dksX2_way_2 22 rfl rfl)
theorem dX2_way_71 : decode cX2_way 71 = .ok (.iload 6, 2) := dk_21 6 (dk_at dksX2_way_3 0 rfl rfl)
theorem dX2_way_73 : decode cX2_way 73 = .ok (.if_icmp .ge 13, 3) := dk_162 0 13 (dk_at dksX2_way_3 2 rfl rfl)
theorem dX2_way_76 : decode cX2_way 76 = .ok (.aload_n 0, 1) := dk_42 (dk_at dksX2_way_3 5 rfl rfl)
theorem dX2_way_77 : decode cX2_way 77 = .ok (.getfield 106, 3) := dk_180 0 106 (dk_at dksX2_way_3 6 rfl rfl)
theorem dX2_way_80 : decode cX2_way 80 = .ok (.iload 4, 2) := dk_21 4 (dk_at dksX2_way_3 9 rfl rfl)
theorem dX2_way_82 : decode cX2_way 82 = .ok (.iaload, 1) := dk_46 (dk_at dksX2_way_3 11 rfl rfl)
theorem dX2_way_83 : decode cX2_way 83 = .ok (.goto 4, 3) := dk_167 0 4 (dk_at dksX2_way_3 12 rfl rfl)
theorem dX2_way_86 : decode cX2_way 86 = .ok (.iconst (-1), 1) := dk_2 (dk_at dksX2_way_3 15 rfl rfl)
theorem dX2_way_87 : decode cX2_way 87 = .ok (.ireturn, 1) := dk_172 (dk_at dksX2_way_3 16 rfl rfl)
abbrev cX2_wayOf : ByteArray := prog_11_method_47_code
def yX2_wayOf : MethodName := ⟨RX2, "wayOf", "(II)I"⟩
def dkwX2_wayOf_2 : List UInt8 := [167, 0, 4, 2, 172]
abbrev dktX2_wayOf_2 : List UInt8 := dkwX2_wayOf_2 ++ []
def dkwX2_wayOf_1 : List UInt8 := [3, 172, 28, 42, 180, 0, 63, 27, 46, 162, 0, 17, 42, 180, 0, 66, 16, 12, 27, 104, 28, 96, 46]
abbrev dktX2_wayOf_1 : List UInt8 := dkwX2_wayOf_1 ++ dktX2_wayOf_2
def dkwX2_wayOf_0 : List UInt8 := [42, 42, 27, 182, 0, 197, 153, 0, 11, 28, 155, 0, 7, 3, 167, 0, 4, 4, 182, 0, 124, 154, 0, 5]
abbrev dktX2_wayOf_0 : List UInt8 := dkwX2_wayOf_0 ++ dktX2_wayOf_1
theorem dksX2_wayOf_0 : cX2_wayOf.data.toList.drop 0 = dktX2_wayOf_0 := by decide +kernel
theorem dksX2_wayOf_1 : cX2_wayOf.data.toList.drop 24 = dktX2_wayOf_1 := dk_seg dksX2_wayOf_0 24 rfl rfl
theorem dksX2_wayOf_2 : cX2_wayOf.data.toList.drop 47 = dktX2_wayOf_2 := dk_seg dksX2_wayOf_1 23 rfl rfl
theorem dX2_wayOf_0 : decode cX2_wayOf 0 = .ok (.aload_n 0, 1) := dk_42 (dk_at dksX2_wayOf_0 0 rfl rfl)
theorem dX2_wayOf_1 : decode cX2_wayOf 1 = .ok (.aload_n 0, 1) := dk_42 (dk_at dksX2_wayOf_0 1 rfl rfl)
theorem dX2_wayOf_2 : decode cX2_wayOf 2 = .ok (.iload_n 1, 1) := dk_27 (dk_at dksX2_wayOf_0 2 rfl rfl)
theorem dX2_wayOf_3 : decode cX2_wayOf 3 = .ok (.invokevirtual 197, 3) := dk_182 0 197 (dk_at dksX2_wayOf_0 3 rfl rfl)
theorem dX2_wayOf_6 : decode cX2_wayOf 6 = .ok (.ifCond .eq 11, 3) := dk_153 0 11 (dk_at dksX2_wayOf_0 6 rfl rfl)
theorem dX2_wayOf_9 : decode cX2_wayOf 9 = .ok (.iload_n 2, 1) := dk_28 (dk_at dksX2_wayOf_0 9 rfl rfl)
theorem dX2_wayOf_10 : decode cX2_wayOf 10 = .ok (.ifCond .lt 7, 3) := dk_155 0 7 (dk_at dksX2_wayOf_0 10 rfl rfl)
theorem dX2_wayOf_13 : decode cX2_wayOf 13 = .ok (.iconst 0, 1) := dk_3 (dk_at dksX2_wayOf_0 13 rfl rfl)
theorem dX2_wayOf_14 : decode cX2_wayOf 14 = .ok (.goto 4, 3) := dk_167 0 4 (dk_at dksX2_wayOf_0 14 rfl rfl)
theorem dX2_wayOf_17 : decode cX2_wayOf 17 = .ok (.iconst 1, 1) := dk_4 (dk_at dksX2_wayOf_0 17 rfl rfl)
theorem dX2_wayOf_18 : decode cX2_wayOf 18 = .ok (.invokevirtual 124, 3) := dk_182 0 124 (dk_at dksX2_wayOf_0 18 rfl rfl)
theorem dX2_wayOf_21 : decode cX2_wayOf 21 = .ok (.ifCond .ne 5, 3) := dk_154 0 5 (dk_at dksX2_wayOf_0 21 rfl rfl)
theorem dX2_wayOf_24 : decode cX2_wayOf 24 = .ok (.iconst 0, 1) := dk_3 (dk_at dksX2_wayOf_1 0 rfl rfl)
theorem dX2_wayOf_25 : decode cX2_wayOf 25 = .ok (.ireturn, 1) := dk_172 (dk_at dksX2_wayOf_1 1 rfl rfl)
theorem dX2_wayOf_26 : decode cX2_wayOf 26 = .ok (.iload_n 2, 1) := dk_28 (dk_at dksX2_wayOf_1 2 rfl rfl)
theorem dX2_wayOf_27 : decode cX2_wayOf 27 = .ok (.aload_n 0, 1) := dk_42 (dk_at dksX2_wayOf_1 3 rfl rfl)
theorem dX2_wayOf_28 : decode cX2_wayOf 28 = .ok (.getfield 63, 3) := dk_180 0 63 (dk_at dksX2_wayOf_1 4 rfl rfl)
theorem dX2_wayOf_31 : decode cX2_wayOf 31 = .ok (.iload_n 1, 1) := dk_27 (dk_at dksX2_wayOf_1 7 rfl rfl)
theorem dX2_wayOf_32 : decode cX2_wayOf 32 = .ok (.iaload, 1) := dk_46 (dk_at dksX2_wayOf_1 8 rfl rfl)
theorem dX2_wayOf_33 : decode cX2_wayOf 33 = .ok (.if_icmp .ge 17, 3) := dk_162 0 17 (dk_at dksX2_wayOf_1 9 rfl rfl)
theorem dX2_wayOf_36 : decode cX2_wayOf 36 = .ok (.aload_n 0, 1) := dk_42 (dk_at dksX2_wayOf_1 12 rfl rfl)
theorem dX2_wayOf_37 : decode cX2_wayOf 37 = .ok (.getfield 66, 3) := dk_180 0 66 (dk_at dksX2_wayOf_1 13 rfl rfl)
theorem dX2_wayOf_40 : decode cX2_wayOf 40 = .ok (.bipush 12, 2) := dk_16 12 (dk_at dksX2_wayOf_1 16 rfl rfl)
theorem dX2_wayOf_42 : decode cX2_wayOf 42 = .ok (.iload_n 1, 1) := dk_27 (dk_at dksX2_wayOf_1 18 rfl rfl)
theorem dX2_wayOf_43 : decode cX2_wayOf 43 = .ok (.imul, 1) := dk_104 (dk_at dksX2_wayOf_1 19 rfl rfl)
theorem dX2_wayOf_44 : decode cX2_wayOf 44 = .ok (.iload_n 2, 1) := dk_28 (dk_at dksX2_wayOf_1 20 rfl rfl)
theorem dX2_wayOf_45 : decode cX2_wayOf 45 = .ok (.iadd, 1) := dk_96 (dk_at dksX2_wayOf_1 21 rfl rfl)
theorem dX2_wayOf_46 : decode cX2_wayOf 46 = .ok (.iaload, 1) := dk_46 (dk_at dksX2_wayOf_1 22 rfl rfl)
theorem dX2_wayOf_47 : decode cX2_wayOf 47 = .ok (.goto 4, 3) := dk_167 0 4 (dk_at dksX2_wayOf_2 0 rfl rfl)
theorem dX2_wayOf_50 : decode cX2_wayOf 50 = .ok (.iconst (-1), 1) := dk_2 (dk_at dksX2_wayOf_2 3 rfl rfl)
theorem dX2_wayOf_51 : decode cX2_wayOf 51 = .ok (.ireturn, 1) := dk_172 (dk_at dksX2_wayOf_2 4 rfl rfl)
abbrev cX2_orderOf : ByteArray := prog_11_method_48_code
def yX2_orderOf : MethodName := ⟨RX2, "orderOf", "(II)I"⟩
def dkwX2_orderOf_4 : List UInt8 := [180, 0, 60, 27, 46, 172, 42, 180, 0, 54, 27, 46, 172, 42, 180, 0, 57, 27, 46, 172]
abbrev dktX2_orderOf_4 : List UInt8 := dkwX2_orderOf_4 ++ []
def dkwX2_orderOf_3 : List UInt8 := [42, 180, 0, 42, 27, 46, 172, 42, 180, 0, 45, 27, 46, 172, 42, 180, 0, 48, 27, 46, 172, 42]
abbrev dktX2_orderOf_3 : List UInt8 := dkwX2_orderOf_3 ++ dktX2_orderOf_4
def dkwX2_orderOf_2 : List UInt8 := [170, 0, 0, 0, 0, 69, 0, 0, 0, 0, 0, 0, 0, 4, 0, 0, 0, 34, 0, 0, 0, 41, 0, 0, 0, 48, 0, 0, 0, 55, 0, 0, 0, 62]
abbrev dktX2_orderOf_2 : List UInt8 := dkwX2_orderOf_2 ++ dktX2_orderOf_3
def dkwX2_orderOf_1 : List UInt8 := [3, 167, 0, 4, 5, 182, 0, 124, 154, 0, 5, 3, 172, 28]
abbrev dktX2_orderOf_1 : List UInt8 := dkwX2_orderOf_1 ++ dktX2_orderOf_2
def dkwX2_orderOf_0 : List UInt8 := [42, 27, 182, 0, 197, 62, 42, 29, 154, 0, 7, 4, 167, 0, 17, 28, 3, 8, 184, 0, 116, 153, 0, 7]
abbrev dktX2_orderOf_0 : List UInt8 := dkwX2_orderOf_0 ++ dktX2_orderOf_1
theorem dksX2_orderOf_0 : cX2_orderOf.data.toList.drop 0 = dktX2_orderOf_0 := by decide +kernel
theorem dksX2_orderOf_1 : cX2_orderOf.data.toList.drop 24 = dktX2_orderOf_1 := dk_seg dksX2_orderOf_0 24 rfl rfl
theorem dksX2_orderOf_2 : cX2_orderOf.data.toList.drop 38 = dktX2_orderOf_2 := dk_seg dksX2_orderOf_1 14 rfl rfl
theorem dksX2_orderOf_3 : cX2_orderOf.data.toList.drop 72 = dktX2_orderOf_3 := dk_seg dksX2_orderOf_2 34 rfl rfl
theorem dksX2_orderOf_4 : cX2_orderOf.data.toList.drop 94 = dktX2_orderOf_4 := dk_seg dksX2_orderOf_3 22 rfl rfl
theorem dX2_orderOf_0 : decode cX2_orderOf 0 = .ok (.aload_n 0, 1) := dk_42 (dk_at dksX2_orderOf_0 0 rfl rfl)
theorem dX2_orderOf_1 : decode cX2_orderOf 1 = .ok (.iload_n 1, 1) := dk_27 (dk_at dksX2_orderOf_0 1 rfl rfl)
theorem dX2_orderOf_2 : decode cX2_orderOf 2 = .ok (.invokevirtual 197, 3) := dk_182 0 197 (dk_at dksX2_orderOf_0 2 rfl rfl)
theorem dX2_orderOf_5 : decode cX2_orderOf 5 = .ok (.istore_n 3, 1) := dk_62 (dk_at dksX2_orderOf_0 5 rfl rfl)
theorem dX2_orderOf_6 : decode cX2_orderOf 6 = .ok (.aload_n 0, 1) := dk_42 (dk_at dksX2_orderOf_0 6 rfl rfl)
theorem dX2_orderOf_7 : decode cX2_orderOf 7 = .ok (.iload_n 3, 1) := dk_29 (dk_at dksX2_orderOf_0 7 rfl rfl)
theorem dX2_orderOf_8 : decode cX2_orderOf 8 = .ok (.ifCond .ne 7, 3) := dk_154 0 7 (dk_at dksX2_orderOf_0 8 rfl rfl)
theorem dX2_orderOf_11 : decode cX2_orderOf 11 = .ok (.iconst 1, 1) := dk_4 (dk_at dksX2_orderOf_0 11 rfl rfl)
theorem dX2_orderOf_12 : decode cX2_orderOf 12 = .ok (.goto 17, 3) := dk_167 0 17 (dk_at dksX2_orderOf_0 12 rfl rfl)
theorem dX2_orderOf_15 : decode cX2_orderOf 15 = .ok (.iload_n 2, 1) := dk_28 (dk_at dksX2_orderOf_0 15 rfl rfl)
theorem dX2_orderOf_16 : decode cX2_orderOf 16 = .ok (.iconst 0, 1) := dk_3 (dk_at dksX2_orderOf_0 16 rfl rfl)
theorem dX2_orderOf_17 : decode cX2_orderOf 17 = .ok (.iconst 5, 1) := dk_8 (dk_at dksX2_orderOf_0 17 rfl rfl)
theorem dX2_orderOf_18 : decode cX2_orderOf 18 = .ok (.invokestatic 116, 3) := dk_184 0 116 (dk_at dksX2_orderOf_0 18 rfl rfl)
theorem dX2_orderOf_21 : decode cX2_orderOf 21 = .ok (.ifCond .eq 7, 3) := dk_153 0 7 (dk_at dksX2_orderOf_0 21 rfl rfl)
theorem dX2_orderOf_24 : decode cX2_orderOf 24 = .ok (.iconst 0, 1) := dk_3 (dk_at dksX2_orderOf_1 0 rfl rfl)
theorem dX2_orderOf_25 : decode cX2_orderOf 25 = .ok (.goto 4, 3) := dk_167 0 4 (dk_at dksX2_orderOf_1 1 rfl rfl)
theorem dX2_orderOf_28 : decode cX2_orderOf 28 = .ok (.iconst 2, 1) := dk_5 (dk_at dksX2_orderOf_1 4 rfl rfl)
theorem dX2_orderOf_29 : decode cX2_orderOf 29 = .ok (.invokevirtual 124, 3) := dk_182 0 124 (dk_at dksX2_orderOf_1 5 rfl rfl)
theorem dX2_orderOf_32 : decode cX2_orderOf 32 = .ok (.ifCond .ne 5, 3) := dk_154 0 5 (dk_at dksX2_orderOf_1 8 rfl rfl)
theorem dX2_orderOf_35 : decode cX2_orderOf 35 = .ok (.iconst 0, 1) := dk_3 (dk_at dksX2_orderOf_1 11 rfl rfl)
theorem dX2_orderOf_36 : decode cX2_orderOf 36 = .ok (.ireturn, 1) := dk_172 (dk_at dksX2_orderOf_1 12 rfl rfl)
theorem dX2_orderOf_37 : decode cX2_orderOf 37 = .ok (.iload_n 2, 1) := dk_28 (dk_at dksX2_orderOf_1 13 rfl rfl)
theorem dX2_orderOf_38 : decode cX2_orderOf 38 = .ok (.tableswitch 69 0 4 #[34, 41, 48, 55, 62], 34) := by decide +kernel
theorem dX2_orderOf_72 : decode cX2_orderOf 72 = .ok (.aload_n 0, 1) := dk_42 (dk_at dksX2_orderOf_3 0 rfl rfl)
theorem dX2_orderOf_73 : decode cX2_orderOf 73 = .ok (.getfield 42, 3) := dk_180 0 42 (dk_at dksX2_orderOf_3 1 rfl rfl)
theorem dX2_orderOf_76 : decode cX2_orderOf 76 = .ok (.iload_n 1, 1) := dk_27 (dk_at dksX2_orderOf_3 4 rfl rfl)
theorem dX2_orderOf_77 : decode cX2_orderOf 77 = .ok (.iaload, 1) := dk_46 (dk_at dksX2_orderOf_3 5 rfl rfl)
theorem dX2_orderOf_78 : decode cX2_orderOf 78 = .ok (.ireturn, 1) := dk_172 (dk_at dksX2_orderOf_3 6 rfl rfl)
theorem dX2_orderOf_79 : decode cX2_orderOf 79 = .ok (.aload_n 0, 1) := dk_42 (dk_at dksX2_orderOf_3 7 rfl rfl)
theorem dX2_orderOf_80 : decode cX2_orderOf 80 = .ok (.getfield 45, 3) := dk_180 0 45 (dk_at dksX2_orderOf_3 8 rfl rfl)
theorem dX2_orderOf_83 : decode cX2_orderOf 83 = .ok (.iload_n 1, 1) := dk_27 (dk_at dksX2_orderOf_3 11 rfl rfl)
theorem dX2_orderOf_84 : decode cX2_orderOf 84 = .ok (.iaload, 1) := dk_46 (dk_at dksX2_orderOf_3 12 rfl rfl)
theorem dX2_orderOf_85 : decode cX2_orderOf 85 = .ok (.ireturn, 1) := dk_172 (dk_at dksX2_orderOf_3 13 rfl rfl)
theorem dX2_orderOf_86 : decode cX2_orderOf 86 = .ok (.aload_n 0, 1) := dk_42 (dk_at dksX2_orderOf_3 14 rfl rfl)
theorem dX2_orderOf_87 : decode cX2_orderOf 87 = .ok (.getfield 48, 3) := dk_180 0 48 (dk_at dksX2_orderOf_3 15 rfl rfl)
theorem dX2_orderOf_90 : decode cX2_orderOf 90 = .ok (.iload_n 1, 1) := dk_27 (dk_at dksX2_orderOf_3 18 rfl rfl)
theorem dX2_orderOf_91 : decode cX2_orderOf 91 = .ok (.iaload, 1) := dk_46 (dk_at dksX2_orderOf_3 19 rfl rfl)
theorem dX2_orderOf_92 : decode cX2_orderOf 92 = .ok (.ireturn, 1) := dk_172 (dk_at dksX2_orderOf_3 20 rfl rfl)
theorem dX2_orderOf_93 : decode cX2_orderOf 93 = .ok (.aload_n 0, 1) := dk_42 (dk_at dksX2_orderOf_3 21 rfl rfl)
theorem dX2_orderOf_94 : decode cX2_orderOf 94 = .ok (.getfield 60, 3) := dk_180 0 60 (dk_at dksX2_orderOf_4 0 rfl rfl)
theorem dX2_orderOf_97 : decode cX2_orderOf 97 = .ok (.iload_n 1, 1) := dk_27 (dk_at dksX2_orderOf_4 3 rfl rfl)
theorem dX2_orderOf_98 : decode cX2_orderOf 98 = .ok (.iaload, 1) := dk_46 (dk_at dksX2_orderOf_4 4 rfl rfl)
theorem dX2_orderOf_99 : decode cX2_orderOf 99 = .ok (.ireturn, 1) := dk_172 (dk_at dksX2_orderOf_4 5 rfl rfl)
theorem dX2_orderOf_100 : decode cX2_orderOf 100 = .ok (.aload_n 0, 1) := dk_42 (dk_at dksX2_orderOf_4 6 rfl rfl)
theorem dX2_orderOf_101 : decode cX2_orderOf 101 = .ok (.getfield 54, 3) := dk_180 0 54 (dk_at dksX2_orderOf_4 7 rfl rfl)
theorem dX2_orderOf_104 : decode cX2_orderOf 104 = .ok (.iload_n 1, 1) := dk_27 (dk_at dksX2_orderOf_4 10 rfl rfl)
theorem dX2_orderOf_105 : decode cX2_orderOf 105 = .ok (.iaload, 1) := dk_46 (dk_at dksX2_orderOf_4 11 rfl rfl)
theorem dX2_orderOf_106 : decode cX2_orderOf 106 = .ok (.ireturn, 1) := dk_172 (dk_at dksX2_orderOf_4 12 rfl rfl)
theorem dX2_orderOf_107 : decode cX2_orderOf 107 = .ok (.aload_n 0, 1) := dk_42 (dk_at dksX2_orderOf_4 13 rfl rfl)
theorem dX2_orderOf_108 : decode cX2_orderOf 108 = .ok (.getfield 57, 3) := dk_180 0 57 (dk_at dksX2_orderOf_4 14 rfl rfl)
theorem dX2_orderOf_111 : decode cX2_orderOf 111 = .ok (.iload_n 1, 1) := dk_27 (dk_at dksX2_orderOf_4 17 rfl rfl)
theorem dX2_orderOf_112 : decode cX2_orderOf 112 = .ok (.iaload, 1) := dk_46 (dk_at dksX2_orderOf_4 18 rfl rfl)
theorem dX2_orderOf_113 : decode cX2_orderOf 113 = .ok (.ireturn, 1) := dk_172 (dk_at dksX2_orderOf_4 19 rfl rfl)
abbrev cX2_inquiry : ByteArray := prog_11_method_49_code
def yX2_inquiry : MethodName := ⟨RX2, "inquiry", "()I"⟩
def dkwX2_inquiry_5 : List UInt8 := [167, 255, 207, 132, 3, 1, 167, 255, 190, 132, 2, 1, 167, 255, 174, 27, 172]
abbrev dktX2_inquiry_5 : List UInt8 := dkwX2_inquiry_5 ++ []
def dkwX2_inquiry_4 : List UInt8 := [21, 4, 96, 47, 9, 148, 153, 0, 10, 4, 21, 4, 120, 167, 0, 4, 3, 128, 60, 132, 4, 1]
abbrev dktX2_inquiry_4 : List UInt8 := dkwX2_inquiry_4 ++ dktX2_inquiry_5
def dkwX2_inquiry_3 : List UInt8 := [180, 0, 113, 162, 0, 46, 27, 27, 29, 122, 4, 126, 4, 160, 0, 27, 42, 180, 0, 39, 16, 12, 29, 104]
abbrev dktX2_inquiry_3 : List UInt8 := dkwX2_inquiry_3 ++ dktX2_inquiry_4
def dkwX2_inquiry_2 : List UInt8 := [180, 0, 113, 162, 0, 80, 3, 62, 29, 42, 180, 0, 113, 162, 0, 64, 3, 54, 4, 21, 4, 42]
abbrev dktX2_inquiry_2 : List UInt8 := dkwX2_inquiry_2 ++ dktX2_inquiry_3
def dkwX2_inquiry_1 : List UInt8 := [153, 0, 9, 4, 28, 120, 167, 0, 4, 3, 128, 60, 132, 2, 1, 167, 255, 226, 3, 61, 28, 42]
abbrev dktX2_inquiry_1 : List UInt8 := dkwX2_inquiry_1 ++ dktX2_inquiry_2
def dkwX2_inquiry_0 : List UInt8 := [42, 3, 181, 0, 109, 3, 60, 3, 61, 28, 42, 180, 0, 113, 162, 0, 28, 27, 42, 180, 0, 26, 28, 51]
abbrev dktX2_inquiry_0 : List UInt8 := dkwX2_inquiry_0 ++ dktX2_inquiry_1
theorem dksX2_inquiry_0 : cX2_inquiry.data.toList.drop 0 = dktX2_inquiry_0 := by decide +kernel
theorem dksX2_inquiry_1 : cX2_inquiry.data.toList.drop 24 = dktX2_inquiry_1 := dk_seg dksX2_inquiry_0 24 rfl rfl
theorem dksX2_inquiry_2 : cX2_inquiry.data.toList.drop 46 = dktX2_inquiry_2 := dk_seg dksX2_inquiry_1 22 rfl rfl
theorem dksX2_inquiry_3 : cX2_inquiry.data.toList.drop 68 = dktX2_inquiry_3 := dk_seg dksX2_inquiry_2 22 rfl rfl
theorem dksX2_inquiry_4 : cX2_inquiry.data.toList.drop 92 = dktX2_inquiry_4 := dk_seg dksX2_inquiry_3 24 rfl rfl
theorem dksX2_inquiry_5 : cX2_inquiry.data.toList.drop 114 = dktX2_inquiry_5 := dk_seg dksX2_inquiry_4 22 rfl rfl
theorem dX2_inquiry_0 : decode cX2_inquiry 0 = .ok (.aload_n 0, 1) := dk_42 (dk_at dksX2_inquiry_0 0 rfl rfl)
theorem dX2_inquiry_1 : decode cX2_inquiry 1 = .ok (.iconst 0, 1) := dk_3 (dk_at dksX2_inquiry_0 1 rfl rfl)
theorem dX2_inquiry_2 : decode cX2_inquiry 2 = .ok (.putfield 109, 3) := dk_181 0 109 (dk_at dksX2_inquiry_0 2 rfl rfl)
theorem dX2_inquiry_5 : decode cX2_inquiry 5 = .ok (.iconst 0, 1) := dk_3 (dk_at dksX2_inquiry_0 5 rfl rfl)
theorem dX2_inquiry_6 : decode cX2_inquiry 6 = .ok (.istore_n 1, 1) := dk_60 (dk_at dksX2_inquiry_0 6 rfl rfl)
theorem dX2_inquiry_7 : decode cX2_inquiry 7 = .ok (.iconst 0, 1) := dk_3 (dk_at dksX2_inquiry_0 7 rfl rfl)
theorem dX2_inquiry_8 : decode cX2_inquiry 8 = .ok (.istore_n 2, 1) := dk_61 (dk_at dksX2_inquiry_0 8 rfl rfl)
theorem dX2_inquiry_9 : decode cX2_inquiry 9 = .ok (.iload_n 2, 1) := dk_28 (dk_at dksX2_inquiry_0 9 rfl rfl)
theorem dX2_inquiry_10 : decode cX2_inquiry 10 = .ok (.aload_n 0, 1) := dk_42 (dk_at dksX2_inquiry_0 10 rfl rfl)
theorem dX2_inquiry_11 : decode cX2_inquiry 11 = .ok (.getfield 113, 3) := dk_180 0 113 (dk_at dksX2_inquiry_0 11 rfl rfl)
theorem dX2_inquiry_14 : decode cX2_inquiry 14 = .ok (.if_icmp .ge 28, 3) := dk_162 0 28 (dk_at dksX2_inquiry_0 14 rfl rfl)
theorem dX2_inquiry_17 : decode cX2_inquiry 17 = .ok (.iload_n 1, 1) := dk_27 (dk_at dksX2_inquiry_0 17 rfl rfl)
theorem dX2_inquiry_18 : decode cX2_inquiry 18 = .ok (.aload_n 0, 1) := dk_42 (dk_at dksX2_inquiry_0 18 rfl rfl)
theorem dX2_inquiry_19 : decode cX2_inquiry 19 = .ok (.getfield 26, 3) := dk_180 0 26 (dk_at dksX2_inquiry_0 19 rfl rfl)
theorem dX2_inquiry_22 : decode cX2_inquiry 22 = .ok (.iload_n 2, 1) := dk_28 (dk_at dksX2_inquiry_0 22 rfl rfl)
theorem dX2_inquiry_23 : decode cX2_inquiry 23 = .ok (.baload, 1) := dk_51 (dk_at dksX2_inquiry_0 23 rfl rfl)
theorem dX2_inquiry_24 : decode cX2_inquiry 24 = .ok (.ifCond .eq 9, 3) := dk_153 0 9 (dk_at dksX2_inquiry_1 0 rfl rfl)
theorem dX2_inquiry_27 : decode cX2_inquiry 27 = .ok (.iconst 1, 1) := dk_4 (dk_at dksX2_inquiry_1 3 rfl rfl)
theorem dX2_inquiry_28 : decode cX2_inquiry 28 = .ok (.iload_n 2, 1) := dk_28 (dk_at dksX2_inquiry_1 4 rfl rfl)
theorem dX2_inquiry_29 : decode cX2_inquiry 29 = .ok (.ishl, 1) := dk_120 (dk_at dksX2_inquiry_1 5 rfl rfl)
theorem dX2_inquiry_30 : decode cX2_inquiry 30 = .ok (.goto 4, 3) := dk_167 0 4 (dk_at dksX2_inquiry_1 6 rfl rfl)
theorem dX2_inquiry_33 : decode cX2_inquiry 33 = .ok (.iconst 0, 1) := dk_3 (dk_at dksX2_inquiry_1 9 rfl rfl)
theorem dX2_inquiry_34 : decode cX2_inquiry 34 = .ok (.ior, 1) := dk_128 (dk_at dksX2_inquiry_1 10 rfl rfl)
theorem dX2_inquiry_35 : decode cX2_inquiry 35 = .ok (.istore_n 1, 1) := dk_60 (dk_at dksX2_inquiry_1 11 rfl rfl)
theorem dX2_inquiry_36 : decode cX2_inquiry 36 = .ok (.iinc 2 1, 3) := dk_132 2 1 (dk_at dksX2_inquiry_1 12 rfl rfl)
theorem dX2_inquiry_39 : decode cX2_inquiry 39 = .ok (.goto (-30), 3) := dk_167 255 226 (dk_at dksX2_inquiry_1 15 rfl rfl)
theorem dX2_inquiry_42 : decode cX2_inquiry 42 = .ok (.iconst 0, 1) := dk_3 (dk_at dksX2_inquiry_1 18 rfl rfl)
theorem dX2_inquiry_43 : decode cX2_inquiry 43 = .ok (.istore_n 2, 1) := dk_61 (dk_at dksX2_inquiry_1 19 rfl rfl)
theorem dX2_inquiry_44 : decode cX2_inquiry 44 = .ok (.iload_n 2, 1) := dk_28 (dk_at dksX2_inquiry_1 20 rfl rfl)
theorem dX2_inquiry_45 : decode cX2_inquiry 45 = .ok (.aload_n 0, 1) := dk_42 (dk_at dksX2_inquiry_1 21 rfl rfl)
theorem dX2_inquiry_46 : decode cX2_inquiry 46 = .ok (.getfield 113, 3) := dk_180 0 113 (dk_at dksX2_inquiry_2 0 rfl rfl)
theorem dX2_inquiry_49 : decode cX2_inquiry 49 = .ok (.if_icmp .ge 80, 3) := dk_162 0 80 (dk_at dksX2_inquiry_2 3 rfl rfl)
theorem dX2_inquiry_52 : decode cX2_inquiry 52 = .ok (.iconst 0, 1) := dk_3 (dk_at dksX2_inquiry_2 6 rfl rfl)
theorem dX2_inquiry_53 : decode cX2_inquiry 53 = .ok (.istore_n 3, 1) := dk_62 (dk_at dksX2_inquiry_2 7 rfl rfl)
theorem dX2_inquiry_54 : decode cX2_inquiry 54 = .ok (.iload_n 3, 1) := dk_29 (dk_at dksX2_inquiry_2 8 rfl rfl)
theorem dX2_inquiry_55 : decode cX2_inquiry 55 = .ok (.aload_n 0, 1) := dk_42 (dk_at dksX2_inquiry_2 9 rfl rfl)
theorem dX2_inquiry_56 : decode cX2_inquiry 56 = .ok (.getfield 113, 3) := dk_180 0 113 (dk_at dksX2_inquiry_2 10 rfl rfl)
theorem dX2_inquiry_59 : decode cX2_inquiry 59 = .ok (.if_icmp .ge 64, 3) := dk_162 0 64 (dk_at dksX2_inquiry_2 13 rfl rfl)
theorem dX2_inquiry_62 : decode cX2_inquiry 62 = .ok (.iconst 0, 1) := dk_3 (dk_at dksX2_inquiry_2 16 rfl rfl)
theorem dX2_inquiry_63 : decode cX2_inquiry 63 = .ok (.istore 4, 2) := dk_54 4 (dk_at dksX2_inquiry_2 17 rfl rfl)
theorem dX2_inquiry_65 : decode cX2_inquiry 65 = .ok (.iload 4, 2) := dk_21 4 (dk_at dksX2_inquiry_2 19 rfl rfl)
theorem dX2_inquiry_67 : decode cX2_inquiry 67 = .ok (.aload_n 0, 1) := dk_42 (dk_at dksX2_inquiry_2 21 rfl rfl)
theorem dX2_inquiry_68 : decode cX2_inquiry 68 = .ok (.getfield 113, 3) := dk_180 0 113 (dk_at dksX2_inquiry_3 0 rfl rfl)
theorem dX2_inquiry_71 : decode cX2_inquiry 71 = .ok (.if_icmp .ge 46, 3) := dk_162 0 46 (dk_at dksX2_inquiry_3 3 rfl rfl)
theorem dX2_inquiry_74 : decode cX2_inquiry 74 = .ok (.iload_n 1, 1) := dk_27 (dk_at dksX2_inquiry_3 6 rfl rfl)
theorem dX2_inquiry_75 : decode cX2_inquiry 75 = .ok (.iload_n 1, 1) := dk_27 (dk_at dksX2_inquiry_3 7 rfl rfl)
theorem dX2_inquiry_76 : decode cX2_inquiry 76 = .ok (.iload_n 3, 1) := dk_29 (dk_at dksX2_inquiry_3 8 rfl rfl)
theorem dX2_inquiry_77 : decode cX2_inquiry 77 = .ok (.ishr, 1) := dk_122 (dk_at dksX2_inquiry_3 9 rfl rfl)
theorem dX2_inquiry_78 : decode cX2_inquiry 78 = .ok (.iconst 1, 1) := dk_4 (dk_at dksX2_inquiry_3 10 rfl rfl)
theorem dX2_inquiry_79 : decode cX2_inquiry 79 = .ok (.iand, 1) := dk_126 (dk_at dksX2_inquiry_3 11 rfl rfl)
theorem dX2_inquiry_80 : decode cX2_inquiry 80 = .ok (.iconst 1, 1) := dk_4 (dk_at dksX2_inquiry_3 12 rfl rfl)
theorem dX2_inquiry_81 : decode cX2_inquiry 81 = .ok (.if_icmp .ne 27, 3) := dk_160 0 27 (dk_at dksX2_inquiry_3 13 rfl rfl)
theorem dX2_inquiry_84 : decode cX2_inquiry 84 = .ok (.aload_n 0, 1) := dk_42 (dk_at dksX2_inquiry_3 16 rfl rfl)
theorem dX2_inquiry_85 : decode cX2_inquiry 85 = .ok (.getfield 39, 3) := dk_180 0 39 (dk_at dksX2_inquiry_3 17 rfl rfl)
theorem dX2_inquiry_88 : decode cX2_inquiry 88 = .ok (.bipush 12, 2) := dk_16 12 (dk_at dksX2_inquiry_3 20 rfl rfl)
theorem dX2_inquiry_90 : decode cX2_inquiry 90 = .ok (.iload_n 3, 1) := dk_29 (dk_at dksX2_inquiry_3 22 rfl rfl)
theorem dX2_inquiry_91 : decode cX2_inquiry 91 = .ok (.imul, 1) := dk_104 (dk_at dksX2_inquiry_3 23 rfl rfl)
theorem dX2_inquiry_92 : decode cX2_inquiry 92 = .ok (.iload 4, 2) := dk_21 4 (dk_at dksX2_inquiry_4 0 rfl rfl)
theorem dX2_inquiry_94 : decode cX2_inquiry 94 = .ok (.iadd, 1) := dk_96 (dk_at dksX2_inquiry_4 2 rfl rfl)
theorem dX2_inquiry_95 : decode cX2_inquiry 95 = .ok (.laload, 1) := dk_47 (dk_at dksX2_inquiry_4 3 rfl rfl)
theorem dX2_inquiry_96 : decode cX2_inquiry 96 = .ok (.lconst 0, 1) := dk_9 (dk_at dksX2_inquiry_4 4 rfl rfl)
theorem dX2_inquiry_97 : decode cX2_inquiry 97 = .ok (.lcmp, 1) := dk_148 (dk_at dksX2_inquiry_4 5 rfl rfl)
theorem dX2_inquiry_98 : decode cX2_inquiry 98 = .ok (.ifCond .eq 10, 3) := dk_153 0 10 (dk_at dksX2_inquiry_4 6 rfl rfl)
theorem dX2_inquiry_101 : decode cX2_inquiry 101 = .ok (.iconst 1, 1) := dk_4 (dk_at dksX2_inquiry_4 9 rfl rfl)
theorem dX2_inquiry_102 : decode cX2_inquiry 102 = .ok (.iload 4, 2) := dk_21 4 (dk_at dksX2_inquiry_4 10 rfl rfl)
theorem dX2_inquiry_104 : decode cX2_inquiry 104 = .ok (.ishl, 1) := dk_120 (dk_at dksX2_inquiry_4 12 rfl rfl)
theorem dX2_inquiry_105 : decode cX2_inquiry 105 = .ok (.goto 4, 3) := dk_167 0 4 (dk_at dksX2_inquiry_4 13 rfl rfl)
theorem dX2_inquiry_108 : decode cX2_inquiry 108 = .ok (.iconst 0, 1) := dk_3 (dk_at dksX2_inquiry_4 16 rfl rfl)
theorem dX2_inquiry_109 : decode cX2_inquiry 109 = .ok (.ior, 1) := dk_128 (dk_at dksX2_inquiry_4 17 rfl rfl)
theorem dX2_inquiry_110 : decode cX2_inquiry 110 = .ok (.istore_n 1, 1) := dk_60 (dk_at dksX2_inquiry_4 18 rfl rfl)
theorem dX2_inquiry_111 : decode cX2_inquiry 111 = .ok (.iinc 4 1, 3) := dk_132 4 1 (dk_at dksX2_inquiry_4 19 rfl rfl)
theorem dX2_inquiry_114 : decode cX2_inquiry 114 = .ok (.goto (-49), 3) := dk_167 255 207 (dk_at dksX2_inquiry_5 0 rfl rfl)
theorem dX2_inquiry_117 : decode cX2_inquiry 117 = .ok (.iinc 3 1, 3) := dk_132 3 1 (dk_at dksX2_inquiry_5 3 rfl rfl)
theorem dX2_inquiry_120 : decode cX2_inquiry 120 = .ok (.goto (-66), 3) := dk_167 255 190 (dk_at dksX2_inquiry_5 6 rfl rfl)
theorem dX2_inquiry_123 : decode cX2_inquiry 123 = .ok (.iinc 2 1, 3) := dk_132 2 1 (dk_at dksX2_inquiry_5 9 rfl rfl)
theorem dX2_inquiry_126 : decode cX2_inquiry 126 = .ok (.goto (-82), 3) := dk_167 255 174 (dk_at dksX2_inquiry_5 12 rfl rfl)
theorem dX2_inquiry_129 : decode cX2_inquiry 129 = .ok (.iload_n 1, 1) := dk_27 (dk_at dksX2_inquiry_5 15 rfl rfl)
theorem dX2_inquiry_130 : decode cX2_inquiry 130 = .ok (.ireturn, 1) := dk_172 (dk_at dksX2_inquiry_5 16 rfl rfl)
abbrev cX2_sum : ByteArray := prog_11_method_50_code
def yX2_sum : MethodName := ⟨RX2, "sum", "(I)J"⟩
def dkwX2_sum_7 : List UInt8 := [97, 65, 132, 4, 1, 167, 255, 212, 32, 173]
abbrev dktX2_sum_7 : List UInt8 := dkwX2_sum_7 ++ []
def dkwX2_sum_6 : List UInt8 := [32, 42, 180, 0, 42, 21, 4, 46, 8, 160, 0, 14, 42, 180, 0, 48, 21, 4, 46, 133, 167, 0, 4, 9]
abbrev dktX2_sum_6 : List UInt8 := dkwX2_sum_6 ++ dktX2_sum_7
def dkwX2_sum_5 : List UInt8 := [132, 4, 1, 167, 255, 228, 3, 54, 4, 21, 4, 42, 180, 0, 181, 162, 0, 41, 27, 16, 7, 160, 0, 35]
abbrev dktX2_sum_5 : List UInt8 := dkwX2_sum_5 ++ dktX2_sum_6
def dkwX2_sum_4 : List UInt8 := [42, 180, 0, 113, 162, 0, 25, 27, 16, 6, 160, 0, 19, 32, 42, 180, 0, 13, 21, 4, 47, 97, 65]
abbrev dktX2_sum_4 : List UInt8 := dkwX2_sum_4 ++ dktX2_sum_5
def dkwX2_sum_3 : List UInt8 := [167, 0, 11, 42, 180, 0, 72, 21, 4, 46, 133, 97, 65, 132, 4, 1, 167, 255, 214, 3, 54, 4, 21, 4]
abbrev dktX2_sum_3 : List UInt8 := dkwX2_sum_3 ++ dktX2_sum_4
def dkwX2_sum_2 : List UInt8 := [180, 0, 200, 162, 0, 39, 27, 8, 160, 0, 34, 32, 42, 180, 0, 84, 21, 4, 51, 153, 0, 7, 9]
abbrev dktX2_sum_2 : List UInt8 := dkwX2_sum_2 ++ dktX2_sum_3
def dkwX2_sum_1 : List UInt8 := [27, 8, 162, 0, 12, 42, 180, 0, 97, 27, 47, 167, 0, 4, 9, 65, 3, 54, 4, 21, 4, 42]
abbrev dktX2_sum_1 : List UInt8 := dkwX2_sum_1 ++ dktX2_sum_2
def dkwX2_sum_0 : List UInt8 := [42, 27, 3, 16, 7, 184, 0, 116, 153, 0, 7, 3, 167, 0, 4, 4, 182, 0, 124, 154, 0, 5, 9, 173]
abbrev dktX2_sum_0 : List UInt8 := dkwX2_sum_0 ++ dktX2_sum_1
theorem dksX2_sum_0 : cX2_sum.data.toList.drop 0 = dktX2_sum_0 := by decide +kernel
theorem dksX2_sum_1 : cX2_sum.data.toList.drop 24 = dktX2_sum_1 := dk_seg dksX2_sum_0 24 rfl rfl
theorem dksX2_sum_2 : cX2_sum.data.toList.drop 46 = dktX2_sum_2 := dk_seg dksX2_sum_1 22 rfl rfl
theorem dksX2_sum_3 : cX2_sum.data.toList.drop 69 = dktX2_sum_3 := dk_seg dksX2_sum_2 23 rfl rfl
theorem dksX2_sum_4 : cX2_sum.data.toList.drop 93 = dktX2_sum_4 := dk_seg dksX2_sum_3 24 rfl rfl
theorem dksX2_sum_5 : cX2_sum.data.toList.drop 116 = dktX2_sum_5 := dk_seg dksX2_sum_4 23 rfl rfl
theorem dksX2_sum_6 : cX2_sum.data.toList.drop 140 = dktX2_sum_6 := dk_seg dksX2_sum_5 24 rfl rfl
theorem dksX2_sum_7 : cX2_sum.data.toList.drop 164 = dktX2_sum_7 := dk_seg dksX2_sum_6 24 rfl rfl
theorem dX2_sum_0 : decode cX2_sum 0 = .ok (.aload_n 0, 1) := dk_42 (dk_at dksX2_sum_0 0 rfl rfl)
theorem dX2_sum_1 : decode cX2_sum 1 = .ok (.iload_n 1, 1) := dk_27 (dk_at dksX2_sum_0 1 rfl rfl)
theorem dX2_sum_2 : decode cX2_sum 2 = .ok (.iconst 0, 1) := dk_3 (dk_at dksX2_sum_0 2 rfl rfl)
theorem dX2_sum_3 : decode cX2_sum 3 = .ok (.bipush 7, 2) := dk_16 7 (dk_at dksX2_sum_0 3 rfl rfl)
theorem dX2_sum_5 : decode cX2_sum 5 = .ok (.invokestatic 116, 3) := dk_184 0 116 (dk_at dksX2_sum_0 5 rfl rfl)
theorem dX2_sum_8 : decode cX2_sum 8 = .ok (.ifCond .eq 7, 3) := dk_153 0 7 (dk_at dksX2_sum_0 8 rfl rfl)
theorem dX2_sum_11 : decode cX2_sum 11 = .ok (.iconst 0, 1) := dk_3 (dk_at dksX2_sum_0 11 rfl rfl)
theorem dX2_sum_12 : decode cX2_sum 12 = .ok (.goto 4, 3) := dk_167 0 4 (dk_at dksX2_sum_0 12 rfl rfl)
theorem dX2_sum_15 : decode cX2_sum 15 = .ok (.iconst 1, 1) := dk_4 (dk_at dksX2_sum_0 15 rfl rfl)
theorem dX2_sum_16 : decode cX2_sum 16 = .ok (.invokevirtual 124, 3) := dk_182 0 124 (dk_at dksX2_sum_0 16 rfl rfl)
theorem dX2_sum_19 : decode cX2_sum 19 = .ok (.ifCond .ne 5, 3) := dk_154 0 5 (dk_at dksX2_sum_0 19 rfl rfl)
theorem dX2_sum_22 : decode cX2_sum 22 = .ok (.lconst 0, 1) := dk_9 (dk_at dksX2_sum_0 22 rfl rfl)
theorem dX2_sum_23 : decode cX2_sum 23 = .ok (.lreturn, 1) := dk_173 (dk_at dksX2_sum_0 23 rfl rfl)
theorem dX2_sum_24 : decode cX2_sum 24 = .ok (.iload_n 1, 1) := dk_27 (dk_at dksX2_sum_1 0 rfl rfl)
theorem dX2_sum_25 : decode cX2_sum 25 = .ok (.iconst 5, 1) := dk_8 (dk_at dksX2_sum_1 1 rfl rfl)
theorem dX2_sum_26 : decode cX2_sum 26 = .ok (.if_icmp .ge 12, 3) := dk_162 0 12 (dk_at dksX2_sum_1 2 rfl rfl)
theorem dX2_sum_29 : decode cX2_sum 29 = .ok (.aload_n 0, 1) := dk_42 (dk_at dksX2_sum_1 5 rfl rfl)
theorem dX2_sum_30 : decode cX2_sum 30 = .ok (.getfield 97, 3) := dk_180 0 97 (dk_at dksX2_sum_1 6 rfl rfl)
theorem dX2_sum_33 : decode cX2_sum 33 = .ok (.iload_n 1, 1) := dk_27 (dk_at dksX2_sum_1 9 rfl rfl)
theorem dX2_sum_34 : decode cX2_sum 34 = .ok (.laload, 1) := dk_47 (dk_at dksX2_sum_1 10 rfl rfl)
theorem dX2_sum_35 : decode cX2_sum 35 = .ok (.goto 4, 3) := dk_167 0 4 (dk_at dksX2_sum_1 11 rfl rfl)
theorem dX2_sum_38 : decode cX2_sum 38 = .ok (.lconst 0, 1) := dk_9 (dk_at dksX2_sum_1 14 rfl rfl)
theorem dX2_sum_39 : decode cX2_sum 39 = .ok (.lstore_n 2, 1) := dk_65 (dk_at dksX2_sum_1 15 rfl rfl)
theorem dX2_sum_40 : decode cX2_sum 40 = .ok (.iconst 0, 1) := dk_3 (dk_at dksX2_sum_1 16 rfl rfl)
theorem dX2_sum_41 : decode cX2_sum 41 = .ok (.istore 4, 2) := dk_54 4 (dk_at dksX2_sum_1 17 rfl rfl)
theorem dX2_sum_43 : decode cX2_sum 43 = .ok (.iload 4, 2) := dk_21 4 (dk_at dksX2_sum_1 19 rfl rfl)
theorem dX2_sum_45 : decode cX2_sum 45 = .ok (.aload_n 0, 1) := dk_42 (dk_at dksX2_sum_1 21 rfl rfl)
theorem dX2_sum_46 : decode cX2_sum 46 = .ok (.getfield 200, 3) := dk_180 0 200 (dk_at dksX2_sum_2 0 rfl rfl)
theorem dX2_sum_49 : decode cX2_sum 49 = .ok (.if_icmp .ge 39, 3) := dk_162 0 39 (dk_at dksX2_sum_2 3 rfl rfl)
theorem dX2_sum_52 : decode cX2_sum 52 = .ok (.iload_n 1, 1) := dk_27 (dk_at dksX2_sum_2 6 rfl rfl)
theorem dX2_sum_53 : decode cX2_sum 53 = .ok (.iconst 5, 1) := dk_8 (dk_at dksX2_sum_2 7 rfl rfl)
theorem dX2_sum_54 : decode cX2_sum 54 = .ok (.if_icmp .ne 34, 3) := dk_160 0 34 (dk_at dksX2_sum_2 8 rfl rfl)
theorem dX2_sum_57 : decode cX2_sum 57 = .ok (.lload_n 2, 1) := dk_32 (dk_at dksX2_sum_2 11 rfl rfl)
theorem dX2_sum_58 : decode cX2_sum 58 = .ok (.aload_n 0, 1) := dk_42 (dk_at dksX2_sum_2 12 rfl rfl)
theorem dX2_sum_59 : decode cX2_sum 59 = .ok (.getfield 84, 3) := dk_180 0 84 (dk_at dksX2_sum_2 13 rfl rfl)
theorem dX2_sum_62 : decode cX2_sum 62 = .ok (.iload 4, 2) := dk_21 4 (dk_at dksX2_sum_2 16 rfl rfl)
theorem dX2_sum_64 : decode cX2_sum 64 = .ok (.baload, 1) := dk_51 (dk_at dksX2_sum_2 18 rfl rfl)
theorem dX2_sum_65 : decode cX2_sum 65 = .ok (.ifCond .eq 7, 3) := dk_153 0 7 (dk_at dksX2_sum_2 19 rfl rfl)
theorem dX2_sum_68 : decode cX2_sum 68 = .ok (.lconst 0, 1) := dk_9 (dk_at dksX2_sum_2 22 rfl rfl)
theorem dX2_sum_69 : decode cX2_sum 69 = .ok (.goto 11, 3) := dk_167 0 11 (dk_at dksX2_sum_3 0 rfl rfl)
theorem dX2_sum_72 : decode cX2_sum 72 = .ok (.aload_n 0, 1) := dk_42 (dk_at dksX2_sum_3 3 rfl rfl)
theorem dX2_sum_73 : decode cX2_sum 73 = .ok (.getfield 72, 3) := dk_180 0 72 (dk_at dksX2_sum_3 4 rfl rfl)
theorem dX2_sum_76 : decode cX2_sum 76 = .ok (.iload 4, 2) := dk_21 4 (dk_at dksX2_sum_3 7 rfl rfl)
theorem dX2_sum_78 : decode cX2_sum 78 = .ok (.iaload, 1) := dk_46 (dk_at dksX2_sum_3 9 rfl rfl)
theorem dX2_sum_79 : decode cX2_sum 79 = .ok (.i2l, 1) := dk_133 (dk_at dksX2_sum_3 10 rfl rfl)
theorem dX2_sum_80 : decode cX2_sum 80 = .ok (.ladd, 1) := dk_97 (dk_at dksX2_sum_3 11 rfl rfl)
theorem dX2_sum_81 : decode cX2_sum 81 = .ok (.lstore_n 2, 1) := dk_65 (dk_at dksX2_sum_3 12 rfl rfl)
theorem dX2_sum_82 : decode cX2_sum 82 = .ok (.iinc 4 1, 3) := dk_132 4 1 (dk_at dksX2_sum_3 13 rfl rfl)
theorem dX2_sum_85 : decode cX2_sum 85 = .ok (.goto (-42), 3) := dk_167 255 214 (dk_at dksX2_sum_3 16 rfl rfl)
theorem dX2_sum_88 : decode cX2_sum 88 = .ok (.iconst 0, 1) := dk_3 (dk_at dksX2_sum_3 19 rfl rfl)
theorem dX2_sum_89 : decode cX2_sum 89 = .ok (.istore 4, 2) := dk_54 4 (dk_at dksX2_sum_3 20 rfl rfl)
theorem dX2_sum_91 : decode cX2_sum 91 = .ok (.iload 4, 2) := dk_21 4 (dk_at dksX2_sum_3 22 rfl rfl)
theorem dX2_sum_93 : decode cX2_sum 93 = .ok (.aload_n 0, 1) := dk_42 (dk_at dksX2_sum_4 0 rfl rfl)
theorem dX2_sum_94 : decode cX2_sum 94 = .ok (.getfield 113, 3) := dk_180 0 113 (dk_at dksX2_sum_4 1 rfl rfl)
theorem dX2_sum_97 : decode cX2_sum 97 = .ok (.if_icmp .ge 25, 3) := dk_162 0 25 (dk_at dksX2_sum_4 4 rfl rfl)
theorem dX2_sum_100 : decode cX2_sum 100 = .ok (.iload_n 1, 1) := dk_27 (dk_at dksX2_sum_4 7 rfl rfl)
theorem dX2_sum_101 : decode cX2_sum 101 = .ok (.bipush 6, 2) := dk_16 6 (dk_at dksX2_sum_4 8 rfl rfl)
theorem dX2_sum_103 : decode cX2_sum 103 = .ok (.if_icmp .ne 19, 3) := dk_160 0 19 (dk_at dksX2_sum_4 10 rfl rfl)
theorem dX2_sum_106 : decode cX2_sum 106 = .ok (.lload_n 2, 1) := dk_32 (dk_at dksX2_sum_4 13 rfl rfl)
theorem dX2_sum_107 : decode cX2_sum 107 = .ok (.aload_n 0, 1) := dk_42 (dk_at dksX2_sum_4 14 rfl rfl)
theorem dX2_sum_108 : decode cX2_sum 108 = .ok (.getfield 13, 3) := dk_180 0 13 (dk_at dksX2_sum_4 15 rfl rfl)
theorem dX2_sum_111 : decode cX2_sum 111 = .ok (.iload 4, 2) := dk_21 4 (dk_at dksX2_sum_4 18 rfl rfl)
theorem dX2_sum_113 : decode cX2_sum 113 = .ok (.laload, 1) := dk_47 (dk_at dksX2_sum_4 20 rfl rfl)
theorem dX2_sum_114 : decode cX2_sum 114 = .ok (.ladd, 1) := dk_97 (dk_at dksX2_sum_4 21 rfl rfl)
theorem dX2_sum_115 : decode cX2_sum 115 = .ok (.lstore_n 2, 1) := dk_65 (dk_at dksX2_sum_4 22 rfl rfl)
theorem dX2_sum_116 : decode cX2_sum 116 = .ok (.iinc 4 1, 3) := dk_132 4 1 (dk_at dksX2_sum_5 0 rfl rfl)
theorem dX2_sum_119 : decode cX2_sum 119 = .ok (.goto (-28), 3) := dk_167 255 228 (dk_at dksX2_sum_5 3 rfl rfl)
theorem dX2_sum_122 : decode cX2_sum 122 = .ok (.iconst 0, 1) := dk_3 (dk_at dksX2_sum_5 6 rfl rfl)
theorem dX2_sum_123 : decode cX2_sum 123 = .ok (.istore 4, 2) := dk_54 4 (dk_at dksX2_sum_5 7 rfl rfl)
theorem dX2_sum_125 : decode cX2_sum 125 = .ok (.iload 4, 2) := dk_21 4 (dk_at dksX2_sum_5 9 rfl rfl)
theorem dX2_sum_127 : decode cX2_sum 127 = .ok (.aload_n 0, 1) := dk_42 (dk_at dksX2_sum_5 11 rfl rfl)
theorem dX2_sum_128 : decode cX2_sum 128 = .ok (.getfield 181, 3) := dk_180 0 181 (dk_at dksX2_sum_5 12 rfl rfl)
theorem dX2_sum_131 : decode cX2_sum 131 = .ok (.if_icmp .ge 41, 3) := dk_162 0 41 (dk_at dksX2_sum_5 15 rfl rfl)
theorem dX2_sum_134 : decode cX2_sum 134 = .ok (.iload_n 1, 1) := dk_27 (dk_at dksX2_sum_5 18 rfl rfl)
theorem dX2_sum_135 : decode cX2_sum 135 = .ok (.bipush 7, 2) := dk_16 7 (dk_at dksX2_sum_5 19 rfl rfl)
theorem dX2_sum_137 : decode cX2_sum 137 = .ok (.if_icmp .ne 35, 3) := dk_160 0 35 (dk_at dksX2_sum_5 21 rfl rfl)
theorem dX2_sum_140 : decode cX2_sum 140 = .ok (.lload_n 2, 1) := dk_32 (dk_at dksX2_sum_6 0 rfl rfl)
theorem dX2_sum_141 : decode cX2_sum 141 = .ok (.aload_n 0, 1) := dk_42 (dk_at dksX2_sum_6 1 rfl rfl)
theorem dX2_sum_142 : decode cX2_sum 142 = .ok (.getfield 42, 3) := dk_180 0 42 (dk_at dksX2_sum_6 2 rfl rfl)
theorem dX2_sum_145 : decode cX2_sum 145 = .ok (.iload 4, 2) := dk_21 4 (dk_at dksX2_sum_6 5 rfl rfl)
theorem dX2_sum_147 : decode cX2_sum 147 = .ok (.iaload, 1) := dk_46 (dk_at dksX2_sum_6 7 rfl rfl)
theorem dX2_sum_148 : decode cX2_sum 148 = .ok (.iconst 5, 1) := dk_8 (dk_at dksX2_sum_6 8 rfl rfl)
theorem dX2_sum_149 : decode cX2_sum 149 = .ok (.if_icmp .ne 14, 3) := dk_160 0 14 (dk_at dksX2_sum_6 9 rfl rfl)
theorem dX2_sum_152 : decode cX2_sum 152 = .ok (.aload_n 0, 1) := dk_42 (dk_at dksX2_sum_6 12 rfl rfl)
theorem dX2_sum_153 : decode cX2_sum 153 = .ok (.getfield 48, 3) := dk_180 0 48 (dk_at dksX2_sum_6 13 rfl rfl)
theorem dX2_sum_156 : decode cX2_sum 156 = .ok (.iload 4, 2) := dk_21 4 (dk_at dksX2_sum_6 16 rfl rfl)
theorem dX2_sum_158 : decode cX2_sum 158 = .ok (.iaload, 1) := dk_46 (dk_at dksX2_sum_6 18 rfl rfl)
theorem dX2_sum_159 : decode cX2_sum 159 = .ok (.i2l, 1) := dk_133 (dk_at dksX2_sum_6 19 rfl rfl)
theorem dX2_sum_160 : decode cX2_sum 160 = .ok (.goto 4, 3) := dk_167 0 4 (dk_at dksX2_sum_6 20 rfl rfl)
theorem dX2_sum_163 : decode cX2_sum 163 = .ok (.lconst 0, 1) := dk_9 (dk_at dksX2_sum_6 23 rfl rfl)
theorem dX2_sum_164 : decode cX2_sum 164 = .ok (.ladd, 1) := dk_97 (dk_at dksX2_sum_7 0 rfl rfl)
theorem dX2_sum_165 : decode cX2_sum 165 = .ok (.lstore_n 2, 1) := dk_65 (dk_at dksX2_sum_7 1 rfl rfl)
theorem dX2_sum_166 : decode cX2_sum 166 = .ok (.iinc 4 1, 3) := dk_132 4 1 (dk_at dksX2_sum_7 2 rfl rfl)
theorem dX2_sum_169 : decode cX2_sum 169 = .ok (.goto (-44), 3) := dk_167 255 212 (dk_at dksX2_sum_7 5 rfl rfl)
theorem dX2_sum_172 : decode cX2_sum 172 = .ok (.lload_n 2, 1) := dk_32 (dk_at dksX2_sum_7 8 rfl rfl)
theorem dX2_sum_173 : decode cX2_sum 173 = .ok (.lreturn, 1) := dk_173 (dk_at dksX2_sum_7 9 rfl rfl)
theorem q45 : (Jvm.Cond.initialized "HundiHallModel") ∈ lw_all := lw_g (lw_at lw_m1 5 rfl) rfl
theorem q501 : (Jvm.Cond.selects "HundiHallModel" ({ cls := "java/lang/Object", name := "getClass", desc := "()Ljava/lang/Class;" } : Jvm.MethodName) ({ cls := "java/lang/Object", name := "getClass", desc := "()Ljava/lang/Class;" } : Jvm.MethodName)) ∈ lw_all := lw_g (lw_at lw_m2 221 rfl) rfl
theorem q917 : (Jvm.Cond.instantiable "HundiHallModel" (38 : Nat)) ∈ lw_all := lw_g (lw_at lw_m4 157 rfl) rfl
theorem q919 : (Jvm.Cond.instanceMethod ({ cls := "HundiHallModel", name := "<init>", desc := "()V" } : Jvm.MethodName)) ∈ lw_all := lw_g (lw_at lw_m4 159 rfl) rfl
theorem q920 : (Jvm.Cond.code ({ cls := "HundiHallModel", name := "<init>", desc := "()V" } : Jvm.MethodName) prog_11_method_1_code (1 : Nat) (Option.none : Option Jvm.ClassFile.FieldType)) ∈ lw_all := lw_g (lw_at lw_m4 160 rfl) rfl
theorem q921 : (Jvm.Cond.methodLink "HundiHallModel" (1 : Nat) ({ cls := "java/lang/Object", name := "<init>", desc := "()V" } : Jvm.MethodName)) ∈ lw_all := lw_g (lw_at lw_m4 161 rfl) rfl
theorem q922 : (Jvm.Cond.constant "HundiHallModel" (87 : Nat) (1000000 : Int32)) ∈ lw_all := lw_g (lw_at lw_m4 162 rfl) rfl
theorem q923 : (Jvm.Cond.fieldLink "HundiHallModel" (109 : Nat) "HundiHallModel" "thrown" "I") ∈ lw_all := lw_g (lw_at lw_m4 163 rfl) rfl
theorem q924 : (Jvm.Cond.fieldLink "HundiHallModel" (194 : Nat) "HundiHallModel" "hour" "I") ∈ lw_all := lw_g (lw_at lw_m4 164 rfl) rfl
theorem q925 : (Jvm.Cond.fieldLink "HundiHallModel" (131 : Nat) "HundiHallModel" "isFestival" "Z") ∈ lw_all := lw_g (lw_at lw_m4 165 rfl) rfl
theorem q926 : (Jvm.Cond.fieldLink "HundiHallModel" (113 : Nat) "HundiHallModel" "brokers" "I") ∈ lw_all := lw_g (lw_at lw_m4 166 rfl) rfl
theorem q927 : (Jvm.Cond.fieldLink "HundiHallModel" (7 : Nat) "HundiHallModel" "town" "[I") ∈ lw_all := lw_g (lw_at lw_m4 167 rfl) rfl
theorem q928 : (Jvm.Cond.fieldLink "HundiHallModel" (13 : Nat) "HundiHallModel" "cash" "[J") ∈ lw_all := lw_g (lw_at lw_m4 168 rfl) rfl
theorem q929 : (Jvm.Cond.fieldLink "HundiHallModel" (17 : Nat) "HundiHallModel" "rate" "[I") ∈ lw_all := lw_g (lw_at lw_m4 169 rfl) rfl
theorem q930 : (Jvm.Cond.fieldLink "HundiHallModel" (20 : Nat) "HundiHallModel" "state" "[I") ∈ lw_all := lw_g (lw_at lw_m4 170 rfl) rfl
theorem q931 : (Jvm.Cond.fieldLink "HundiHallModel" (23 : Nat) "HundiHallModel" "until" "[I") ∈ lw_all := lw_g (lw_at lw_m4 171 rfl) rfl
theorem q932 : (Jvm.Cond.fieldLink "HundiHallModel" (26 : Nat) "HundiHallModel" "wasRaided" "[Z") ∈ lw_all := lw_g (lw_at lw_m4 172 rfl) rfl
theorem q933 : (Jvm.Cond.fieldLink "HundiHallModel" (30 : Nat) "HundiHallModel" "limit" "[I") ∈ lw_all := lw_g (lw_at lw_m4 173 rfl) rfl
theorem q934 : (Jvm.Cond.fieldLink "HundiHallModel" (33 : Nat) "HundiHallModel" "isKin" "[Z") ∈ lw_all := lw_g (lw_at lw_m4 174 rfl) rfl
theorem q935 : (Jvm.Cond.fieldLink "HundiHallModel" (36 : Nat) "HundiHallModel" "owes" "[J") ∈ lw_all := lw_g (lw_at lw_m4 175 rfl) rfl
theorem q936 : (Jvm.Cond.fieldLink "HundiHallModel" (39 : Nat) "HundiHallModel" "book" "[J") ∈ lw_all := lw_g (lw_at lw_m4 176 rfl) rfl
theorem q937 : (Jvm.Cond.fieldLink "HundiHallModel" (181 : Nat) "HundiHallModel" "orders" "I") ∈ lw_all := lw_g (lw_at lw_m4 177 rfl) rfl
theorem q938 : (Jvm.Cond.fieldLink "HundiHallModel" (42 : Nat) "HundiHallModel" "how" "[I") ∈ lw_all := lw_g (lw_at lw_m4 178 rfl) rfl
theorem q939 : (Jvm.Cond.fieldLink "HundiHallModel" (45 : Nat) "HundiHallModel" "amountOf" "[I") ∈ lw_all := lw_g (lw_at lw_m4 179 rfl) rfl
theorem q940 : (Jvm.Cond.fieldLink "HundiHallModel" (48 : Nat) "HundiHallModel" "gave" "[I") ∈ lw_all := lw_g (lw_at lw_m4 180 rfl) rfl
theorem q941 : (Jvm.Cond.fieldLink "HundiHallModel" (51 : Nat) "HundiHallModel" "codeOf" "[I") ∈ lw_all := lw_g (lw_at lw_m4 181 rfl) rfl
theorem q942 : (Jvm.Cond.fieldLink "HundiHallModel" (54 : Nat) "HundiHallModel" "falseCodes" "[I") ∈ lw_all := lw_g (lw_at lw_m4 182 rfl) rfl
theorem q943 : (Jvm.Cond.fieldLink "HundiHallModel" (57 : Nat) "HundiHallModel" "since" "[I") ∈ lw_all := lw_g (lw_at lw_m4 183 rfl) rfl
theorem q944 : (Jvm.Cond.fieldLink "HundiHallModel" (60 : Nat) "HundiHallModel" "at" "[I") ∈ lw_all := lw_g (lw_at lw_m4 184 rfl) rfl
theorem q945 : (Jvm.Cond.fieldLink "HundiHallModel" (63 : Nat) "HundiHallModel" "many" "[I") ∈ lw_all := lw_g (lw_at lw_m4 185 rfl) rfl
theorem q946 : (Jvm.Cond.fieldLink "HundiHallModel" (66 : Nat) "HundiHallModel" "wayOf" "[I") ∈ lw_all := lw_g (lw_at lw_m4 186 rfl) rfl
theorem q947 : (Jvm.Cond.fieldLink "HundiHallModel" (69 : Nat) "HundiHallModel" "arose" "[I") ∈ lw_all := lw_g (lw_at lw_m4 187 rfl) rfl
theorem q948 : (Jvm.Cond.fieldLink "HundiHallModel" (200 : Nat) "HundiHallModel" "couriers" "I") ∈ lw_all := lw_g (lw_at lw_m4 188 rfl) rfl
theorem q949 : (Jvm.Cond.fieldLink "HundiHallModel" (72 : Nat) "HundiHallModel" "carries" "[I") ∈ lw_all := lw_g (lw_at lw_m4 189 rfl) rfl
theorem q950 : (Jvm.Cond.fieldLink "HundiHallModel" (75 : Nat) "HundiHallModel" "carrier" "[I") ∈ lw_all := lw_g (lw_at lw_m4 190 rfl) rfl
theorem q951 : (Jvm.Cond.fieldLink "HundiHallModel" (78 : Nat) "HundiHallModel" "goesTo" "[I") ∈ lw_all := lw_g (lw_at lw_m4 191 rfl) rfl
theorem q952 : (Jvm.Cond.fieldLink "HundiHallModel" (81 : Nat) "HundiHallModel" "comesAt" "[I") ∈ lw_all := lw_g (lw_at lw_m4 192 rfl) rfl
theorem q953 : (Jvm.Cond.fieldLink "HundiHallModel" (84 : Nat) "HundiHallModel" "isOver" "[Z") ∈ lw_all := lw_g (lw_at lw_m4 193 rfl) rfl
theorem q954 : (Jvm.Cond.fieldLink "HundiHallModel" (88 : Nat) "HundiHallModel" "bound" "[I") ∈ lw_all := lw_g (lw_at lw_m4 194 rfl) rfl
theorem q955 : (Jvm.Cond.fieldLink "HundiHallModel" (91 : Nat) "HundiHallModel" "toldTo" "[I") ∈ lw_all := lw_g (lw_at lw_m4 195 rfl) rfl
theorem q956 : (Jvm.Cond.fieldLink "HundiHallModel" (94 : Nat) "HundiHallModel" "isListed" "[Z") ∈ lw_all := lw_g (lw_at lw_m4 196 rfl) rfl
theorem q957 : (Jvm.Cond.fieldLink "HundiHallModel" (97 : Nat) "HundiHallModel" "sums" "[J") ∈ lw_all := lw_g (lw_at lw_m4 197 rfl) rfl
theorem q958 : (Jvm.Cond.fieldLink "HundiHallModel" (100 : Nat) "HundiHallModel" "fees" "[J") ∈ lw_all := lw_g (lw_at lw_m4 198 rfl) rfl
theorem q959 : (Jvm.Cond.fieldLink "HundiHallModel" (103 : Nat) "HundiHallModel" "length" "[I") ∈ lw_all := lw_g (lw_at lw_m4 199 rfl) rfl
theorem q960 : (Jvm.Cond.fieldLink "HundiHallModel" (106 : Nat) "HundiHallModel" "found" "[I") ∈ lw_all := lw_g (lw_at lw_m4 200 rfl) rfl
theorem q961 : (Jvm.Cond.lays "HundiHallModel" "HundiHallModel" "thrown" "I") ∈ lw_all := lw_g (lw_at lw_m4 201 rfl) rfl
theorem q962 : (Jvm.Cond.soleField "HundiHallModel" "thrown") ∈ lw_all := lw_g (lw_at lw_m4 202 rfl) rfl
theorem q963 : (Jvm.Cond.lays "HundiHallModel" "HundiHallModel" "hour" "I") ∈ lw_all := lw_g (lw_at lw_m4 203 rfl) rfl
theorem q964 : (Jvm.Cond.soleField "HundiHallModel" "hour") ∈ lw_all := lw_g (lw_at lw_m4 204 rfl) rfl
theorem q965 : (Jvm.Cond.lays "HundiHallModel" "HundiHallModel" "isFestival" "Z") ∈ lw_all := lw_g (lw_at lw_m4 205 rfl) rfl
theorem q966 : (Jvm.Cond.soleField "HundiHallModel" "isFestival") ∈ lw_all := lw_g (lw_at lw_m4 206 rfl) rfl
theorem q967 : (Jvm.Cond.lays "HundiHallModel" "HundiHallModel" "brokers" "I") ∈ lw_all := lw_g (lw_at lw_m4 207 rfl) rfl
theorem q968 : (Jvm.Cond.soleField "HundiHallModel" "brokers") ∈ lw_all := lw_g (lw_at lw_m4 208 rfl) rfl
theorem q969 : (Jvm.Cond.laysFinal "HundiHallModel" "HundiHallModel" "town" "[I") ∈ lw_all := lw_g (lw_at lw_m4 209 rfl) rfl
theorem q970 : (Jvm.Cond.soleField "HundiHallModel" "town") ∈ lw_all := lw_g (lw_at lw_m4 210 rfl) rfl
theorem q971 : (Jvm.Cond.laysFinal "HundiHallModel" "HundiHallModel" "cash" "[J") ∈ lw_all := lw_g (lw_at lw_m4 211 rfl) rfl
theorem q972 : (Jvm.Cond.soleField "HundiHallModel" "cash") ∈ lw_all := lw_g (lw_at lw_m4 212 rfl) rfl
theorem q973 : (Jvm.Cond.laysFinal "HundiHallModel" "HundiHallModel" "rate" "[I") ∈ lw_all := lw_g (lw_at lw_m4 213 rfl) rfl
theorem q974 : (Jvm.Cond.soleField "HundiHallModel" "rate") ∈ lw_all := lw_g (lw_at lw_m4 214 rfl) rfl
theorem q975 : (Jvm.Cond.laysFinal "HundiHallModel" "HundiHallModel" "state" "[I") ∈ lw_all := lw_g (lw_at lw_m4 215 rfl) rfl
theorem q976 : (Jvm.Cond.soleField "HundiHallModel" "state") ∈ lw_all := lw_g (lw_at lw_m4 216 rfl) rfl
theorem q977 : (Jvm.Cond.laysFinal "HundiHallModel" "HundiHallModel" "until" "[I") ∈ lw_all := lw_g (lw_at lw_m4 217 rfl) rfl
theorem q978 : (Jvm.Cond.soleField "HundiHallModel" "until") ∈ lw_all := lw_g (lw_at lw_m4 218 rfl) rfl
theorem q979 : (Jvm.Cond.laysFinal "HundiHallModel" "HundiHallModel" "wasRaided" "[Z") ∈ lw_all := lw_g (lw_at lw_m4 219 rfl) rfl
theorem q980 : (Jvm.Cond.soleField "HundiHallModel" "wasRaided") ∈ lw_all := lw_g (lw_at lw_m4 220 rfl) rfl
theorem q981 : (Jvm.Cond.laysFinal "HundiHallModel" "HundiHallModel" "limit" "[I") ∈ lw_all := lw_g (lw_at lw_m4 221 rfl) rfl
theorem q982 : (Jvm.Cond.soleField "HundiHallModel" "limit") ∈ lw_all := lw_g (lw_at lw_m4 222 rfl) rfl
theorem q983 : (Jvm.Cond.laysFinal "HundiHallModel" "HundiHallModel" "isKin" "[Z") ∈ lw_all := lw_g (lw_at lw_m4 223 rfl) rfl
theorem q984 : (Jvm.Cond.soleField "HundiHallModel" "isKin") ∈ lw_all := lw_g (lw_at lw_m4 224 rfl) rfl
theorem q985 : (Jvm.Cond.laysFinal "HundiHallModel" "HundiHallModel" "owes" "[J") ∈ lw_all := lw_g (lw_at lw_m4 225 rfl) rfl
theorem q986 : (Jvm.Cond.soleField "HundiHallModel" "owes") ∈ lw_all := lw_g (lw_at lw_m4 226 rfl) rfl
theorem q987 : (Jvm.Cond.laysFinal "HundiHallModel" "HundiHallModel" "book" "[J") ∈ lw_all := lw_g (lw_at lw_m4 227 rfl) rfl
theorem q988 : (Jvm.Cond.soleField "HundiHallModel" "book") ∈ lw_all := lw_g (lw_at lw_m4 228 rfl) rfl
theorem q989 : (Jvm.Cond.lays "HundiHallModel" "HundiHallModel" "orders" "I") ∈ lw_all := lw_g (lw_at lw_m4 229 rfl) rfl
theorem q990 : (Jvm.Cond.soleField "HundiHallModel" "orders") ∈ lw_all := lw_g (lw_at lw_m4 230 rfl) rfl
theorem q991 : (Jvm.Cond.laysFinal "HundiHallModel" "HundiHallModel" "how" "[I") ∈ lw_all := lw_g (lw_at lw_m4 231 rfl) rfl
theorem q992 : (Jvm.Cond.soleField "HundiHallModel" "how") ∈ lw_all := lw_g (lw_at lw_m4 232 rfl) rfl
theorem q993 : (Jvm.Cond.laysFinal "HundiHallModel" "HundiHallModel" "amountOf" "[I") ∈ lw_all := lw_g (lw_at lw_m4 233 rfl) rfl
theorem q994 : (Jvm.Cond.soleField "HundiHallModel" "amountOf") ∈ lw_all := lw_g (lw_at lw_m4 234 rfl) rfl
theorem q995 : (Jvm.Cond.laysFinal "HundiHallModel" "HundiHallModel" "gave" "[I") ∈ lw_all := lw_g (lw_at lw_m4 235 rfl) rfl
theorem q996 : (Jvm.Cond.soleField "HundiHallModel" "gave") ∈ lw_all := lw_g (lw_at lw_m4 236 rfl) rfl
theorem q997 : (Jvm.Cond.laysFinal "HundiHallModel" "HundiHallModel" "codeOf" "[I") ∈ lw_all := lw_g (lw_at lw_m4 237 rfl) rfl
theorem q998 : (Jvm.Cond.soleField "HundiHallModel" "codeOf") ∈ lw_all := lw_g (lw_at lw_m4 238 rfl) rfl
theorem q999 : (Jvm.Cond.laysFinal "HundiHallModel" "HundiHallModel" "falseCodes" "[I") ∈ lw_all := lw_g (lw_at lw_m4 239 rfl) rfl
theorem q1000 : (Jvm.Cond.soleField "HundiHallModel" "falseCodes") ∈ lw_all := lw_g (lw_at lw_m5 0 rfl) rfl
theorem q1001 : (Jvm.Cond.laysFinal "HundiHallModel" "HundiHallModel" "since" "[I") ∈ lw_all := lw_g (lw_at lw_m5 1 rfl) rfl
theorem q1002 : (Jvm.Cond.soleField "HundiHallModel" "since") ∈ lw_all := lw_g (lw_at lw_m5 2 rfl) rfl
theorem q1003 : (Jvm.Cond.laysFinal "HundiHallModel" "HundiHallModel" "at" "[I") ∈ lw_all := lw_g (lw_at lw_m5 3 rfl) rfl
theorem q1004 : (Jvm.Cond.soleField "HundiHallModel" "at") ∈ lw_all := lw_g (lw_at lw_m5 4 rfl) rfl
theorem q1005 : (Jvm.Cond.laysFinal "HundiHallModel" "HundiHallModel" "many" "[I") ∈ lw_all := lw_g (lw_at lw_m5 5 rfl) rfl
theorem q1006 : (Jvm.Cond.soleField "HundiHallModel" "many") ∈ lw_all := lw_g (lw_at lw_m5 6 rfl) rfl
theorem q1007 : (Jvm.Cond.laysFinal "HundiHallModel" "HundiHallModel" "wayOf" "[I") ∈ lw_all := lw_g (lw_at lw_m5 7 rfl) rfl
theorem q1008 : (Jvm.Cond.soleField "HundiHallModel" "wayOf") ∈ lw_all := lw_g (lw_at lw_m5 8 rfl) rfl
theorem q1009 : (Jvm.Cond.laysFinal "HundiHallModel" "HundiHallModel" "arose" "[I") ∈ lw_all := lw_g (lw_at lw_m5 9 rfl) rfl
theorem q1010 : (Jvm.Cond.soleField "HundiHallModel" "arose") ∈ lw_all := lw_g (lw_at lw_m5 10 rfl) rfl
theorem q1011 : (Jvm.Cond.lays "HundiHallModel" "HundiHallModel" "couriers" "I") ∈ lw_all := lw_g (lw_at lw_m5 11 rfl) rfl
theorem q1012 : (Jvm.Cond.soleField "HundiHallModel" "couriers") ∈ lw_all := lw_g (lw_at lw_m5 12 rfl) rfl
theorem q1013 : (Jvm.Cond.laysFinal "HundiHallModel" "HundiHallModel" "carries" "[I") ∈ lw_all := lw_g (lw_at lw_m5 13 rfl) rfl
theorem q1014 : (Jvm.Cond.soleField "HundiHallModel" "carries") ∈ lw_all := lw_g (lw_at lw_m5 14 rfl) rfl
theorem q1015 : (Jvm.Cond.laysFinal "HundiHallModel" "HundiHallModel" "carrier" "[I") ∈ lw_all := lw_g (lw_at lw_m5 15 rfl) rfl
theorem q1016 : (Jvm.Cond.soleField "HundiHallModel" "carrier") ∈ lw_all := lw_g (lw_at lw_m5 16 rfl) rfl
theorem q1017 : (Jvm.Cond.laysFinal "HundiHallModel" "HundiHallModel" "goesTo" "[I") ∈ lw_all := lw_g (lw_at lw_m5 17 rfl) rfl
theorem q1018 : (Jvm.Cond.soleField "HundiHallModel" "goesTo") ∈ lw_all := lw_g (lw_at lw_m5 18 rfl) rfl
theorem q1019 : (Jvm.Cond.laysFinal "HundiHallModel" "HundiHallModel" "comesAt" "[I") ∈ lw_all := lw_g (lw_at lw_m5 19 rfl) rfl
theorem q1020 : (Jvm.Cond.soleField "HundiHallModel" "comesAt") ∈ lw_all := lw_g (lw_at lw_m5 20 rfl) rfl
theorem q1021 : (Jvm.Cond.laysFinal "HundiHallModel" "HundiHallModel" "isOver" "[Z") ∈ lw_all := lw_g (lw_at lw_m5 21 rfl) rfl
theorem q1022 : (Jvm.Cond.soleField "HundiHallModel" "isOver") ∈ lw_all := lw_g (lw_at lw_m5 22 rfl) rfl
theorem q1023 : (Jvm.Cond.laysFinal "HundiHallModel" "HundiHallModel" "bound" "[I") ∈ lw_all := lw_g (lw_at lw_m5 23 rfl) rfl
theorem q1024 : (Jvm.Cond.soleField "HundiHallModel" "bound") ∈ lw_all := lw_g (lw_at lw_m5 24 rfl) rfl
theorem q1025 : (Jvm.Cond.laysFinal "HundiHallModel" "HundiHallModel" "toldTo" "[I") ∈ lw_all := lw_g (lw_at lw_m5 25 rfl) rfl
theorem q1026 : (Jvm.Cond.soleField "HundiHallModel" "toldTo") ∈ lw_all := lw_g (lw_at lw_m5 26 rfl) rfl
theorem q1027 : (Jvm.Cond.laysFinal "HundiHallModel" "HundiHallModel" "isListed" "[Z") ∈ lw_all := lw_g (lw_at lw_m5 27 rfl) rfl
theorem q1028 : (Jvm.Cond.soleField "HundiHallModel" "isListed") ∈ lw_all := lw_g (lw_at lw_m5 28 rfl) rfl
theorem q1029 : (Jvm.Cond.laysFinal "HundiHallModel" "HundiHallModel" "sums" "[J") ∈ lw_all := lw_g (lw_at lw_m5 29 rfl) rfl
theorem q1030 : (Jvm.Cond.soleField "HundiHallModel" "sums") ∈ lw_all := lw_g (lw_at lw_m5 30 rfl) rfl
theorem q1031 : (Jvm.Cond.laysFinal "HundiHallModel" "HundiHallModel" "fees" "[J") ∈ lw_all := lw_g (lw_at lw_m5 31 rfl) rfl
theorem q1032 : (Jvm.Cond.soleField "HundiHallModel" "fees") ∈ lw_all := lw_g (lw_at lw_m5 32 rfl) rfl
theorem q1033 : (Jvm.Cond.laysFinal "HundiHallModel" "HundiHallModel" "length" "[I") ∈ lw_all := lw_g (lw_at lw_m5 33 rfl) rfl
theorem q1034 : (Jvm.Cond.soleField "HundiHallModel" "length") ∈ lw_all := lw_g (lw_at lw_m5 34 rfl) rfl
theorem q1035 : (Jvm.Cond.laysFinal "HundiHallModel" "HundiHallModel" "found" "[I") ∈ lw_all := lw_g (lw_at lw_m5 35 rfl) rfl
theorem q1036 : (Jvm.Cond.soleField "HundiHallModel" "found") ∈ lw_all := lw_g (lw_at lw_m5 36 rfl) rfl
theorem q1037 : (Jvm.Cond.superclass "HundiHallModel" "java/lang/Object") ∈ lw_all := lw_g (lw_at lw_m5 37 rfl) rfl
theorem q1039 : (Jvm.Cond.instanceMethod ({ cls := "HundiHallModel", name := "thrown", desc := "()I" } : Jvm.MethodName)) ∈ lw_all := lw_g (lw_at lw_m5 39 rfl) rfl
theorem q1040 : (Jvm.Cond.selects "HundiHallModel" ({ cls := "HundiHallModel", name := "thrown", desc := "()I" } : Jvm.MethodName) ({ cls := "HundiHallModel", name := "thrown", desc := "()I" } : Jvm.MethodName)) ∈ lw_all := lw_g (lw_at lw_m5 40 rfl) rfl
theorem q1041 : (Jvm.Cond.code ({ cls := "HundiHallModel", name := "thrown", desc := "()I" } : Jvm.MethodName) prog_11_method_2_code (1 : Nat) (Option.some Jvm.ClassFile.FieldType.int)) ∈ lw_all := lw_g (lw_at lw_m5 41 rfl) rfl
theorem q1043 : (Jvm.Cond.instanceMethod ({ cls := "HundiHallModel", name := "broker", desc := "(III)I" } : Jvm.MethodName)) ∈ lw_all := lw_g (lw_at lw_m5 43 rfl) rfl
theorem q1044 : (Jvm.Cond.selects "HundiHallModel" ({ cls := "HundiHallModel", name := "broker", desc := "(III)I" } : Jvm.MethodName) ({ cls := "HundiHallModel", name := "broker", desc := "(III)I" } : Jvm.MethodName)) ∈ lw_all := lw_g (lw_at lw_m5 44 rfl) rfl
theorem q1045 : (Jvm.Cond.code ({ cls := "HundiHallModel", name := "broker", desc := "(III)I" } : Jvm.MethodName) prog_11_method_7_code (5 : Nat) (Option.some Jvm.ClassFile.FieldType.int)) ∈ lw_all := lw_g (lw_at lw_m5 45 rfl) rfl
theorem q1046 : (Jvm.Cond.methodLink "HundiHallModel" (116 : Nat) ({ cls := "HundiHallModel", name := "in", desc := "(III)Z" } : Jvm.MethodName)) ∈ lw_all := lw_g (lw_at lw_m5 46 rfl) rfl
theorem q1047 : (Jvm.Cond.static ({ cls := "HundiHallModel", name := "in", desc := "(III)Z" } : Jvm.MethodName)) ∈ lw_all := lw_g (lw_at lw_m5 47 rfl) rfl
theorem q1048 : (Jvm.Cond.code ({ cls := "HundiHallModel", name := "in", desc := "(III)Z" } : Jvm.MethodName) prog_11_method_4_code (3 : Nat) (Option.some Jvm.ClassFile.FieldType.boolean)) ∈ lw_all := lw_g (lw_at lw_m5 48 rfl) rfl
theorem q1049 : (Jvm.Cond.methodLink "HundiHallModel" (124 : Nat) ({ cls := "HundiHallModel", name := "goesWell", desc := "(I)Z" } : Jvm.MethodName)) ∈ lw_all := lw_g (lw_at lw_m5 49 rfl) rfl
theorem q1050 : (Jvm.Cond.privateMethod ({ cls := "HundiHallModel", name := "goesWell", desc := "(I)Z" } : Jvm.MethodName)) ∈ lw_tbl := lw_at lw_m5 50 rfl
theorem q1051 : (Jvm.Cond.instanceMethod ({ cls := "HundiHallModel", name := "goesWell", desc := "(I)Z" } : Jvm.MethodName)) ∈ lw_all := lw_g (lw_at lw_m5 51 rfl) rfl
theorem q1052 : (Jvm.Cond.code ({ cls := "HundiHallModel", name := "goesWell", desc := "(I)Z" } : Jvm.MethodName) prog_11_method_3_code (2 : Nat) (Option.some Jvm.ClassFile.FieldType.boolean)) ∈ lw_all := lw_g (lw_at lw_m5 52 rfl) rfl
theorem q1054 : (Jvm.Cond.instanceMethod ({ cls := "HundiHallModel", name := "rate", desc := "(II)I" } : Jvm.MethodName)) ∈ lw_all := lw_g (lw_at lw_m5 54 rfl) rfl
theorem q1055 : (Jvm.Cond.selects "HundiHallModel" ({ cls := "HundiHallModel", name := "rate", desc := "(II)I" } : Jvm.MethodName) ({ cls := "HundiHallModel", name := "rate", desc := "(II)I" } : Jvm.MethodName)) ∈ lw_all := lw_g (lw_at lw_m5 55 rfl) rfl
theorem q1056 : (Jvm.Cond.code ({ cls := "HundiHallModel", name := "rate", desc := "(II)I" } : Jvm.MethodName) prog_11_method_8_code (5 : Nat) (Option.some Jvm.ClassFile.FieldType.int)) ∈ lw_all := lw_g (lw_at lw_m5 56 rfl) rfl
theorem q1057 : (Jvm.Cond.methodLink "HundiHallModel" (120 : Nat) ({ cls := "HundiHallModel", name := "isBroker", desc := "(I)Z" } : Jvm.MethodName)) ∈ lw_all := lw_g (lw_at lw_m5 57 rfl) rfl
theorem q1058 : (Jvm.Cond.privateMethod ({ cls := "HundiHallModel", name := "isBroker", desc := "(I)Z" } : Jvm.MethodName)) ∈ lw_tbl := lw_at lw_m5 58 rfl
theorem q1059 : (Jvm.Cond.instanceMethod ({ cls := "HundiHallModel", name := "isBroker", desc := "(I)Z" } : Jvm.MethodName)) ∈ lw_all := lw_g (lw_at lw_m5 59 rfl) rfl
theorem q1060 : (Jvm.Cond.code ({ cls := "HundiHallModel", name := "isBroker", desc := "(I)Z" } : Jvm.MethodName) prog_11_method_5_code (2 : Nat) (Option.some Jvm.ClassFile.FieldType.boolean)) ∈ lw_all := lw_g (lw_at lw_m5 60 rfl) rfl
theorem q1062 : (Jvm.Cond.instanceMethod ({ cls := "HundiHallModel", name := "trust", desc := "(IIIZ)V" } : Jvm.MethodName)) ∈ lw_all := lw_g (lw_at lw_m5 62 rfl) rfl
theorem q1063 : (Jvm.Cond.selects "HundiHallModel" ({ cls := "HundiHallModel", name := "trust", desc := "(IIIZ)V" } : Jvm.MethodName) ({ cls := "HundiHallModel", name := "trust", desc := "(IIIZ)V" } : Jvm.MethodName)) ∈ lw_all := lw_g (lw_at lw_m5 63 rfl) rfl
theorem q1064 : (Jvm.Cond.code ({ cls := "HundiHallModel", name := "trust", desc := "(IIIZ)V" } : Jvm.MethodName) prog_11_method_9_code (6 : Nat) (Option.none : Option Jvm.ClassFile.FieldType)) ∈ lw_all := lw_g (lw_at lw_m5 64 rfl) rfl
theorem q1065 : (Jvm.Cond.methodLink "HundiHallModel" (127 : Nat) ({ cls := "HundiHallModel", name := "areBrokers", desc := "(II)Z" } : Jvm.MethodName)) ∈ lw_all := lw_g (lw_at lw_m5 65 rfl) rfl
theorem q1066 : (Jvm.Cond.privateMethod ({ cls := "HundiHallModel", name := "areBrokers", desc := "(II)Z" } : Jvm.MethodName)) ∈ lw_tbl := lw_at lw_m5 66 rfl
theorem q1067 : (Jvm.Cond.instanceMethod ({ cls := "HundiHallModel", name := "areBrokers", desc := "(II)Z" } : Jvm.MethodName)) ∈ lw_all := lw_g (lw_at lw_m5 67 rfl) rfl
theorem q1068 : (Jvm.Cond.code ({ cls := "HundiHallModel", name := "areBrokers", desc := "(II)Z" } : Jvm.MethodName) prog_11_method_6_code (3 : Nat) (Option.some Jvm.ClassFile.FieldType.boolean)) ∈ lw_all := lw_g (lw_at lw_m5 68 rfl) rfl
theorem q1070 : (Jvm.Cond.instanceMethod ({ cls := "HundiHallModel", name := "festival", desc := "()Z" } : Jvm.MethodName)) ∈ lw_all := lw_g (lw_at lw_m5 70 rfl) rfl
theorem q1071 : (Jvm.Cond.selects "HundiHallModel" ({ cls := "HundiHallModel", name := "festival", desc := "()Z" } : Jvm.MethodName) ({ cls := "HundiHallModel", name := "festival", desc := "()Z" } : Jvm.MethodName)) ∈ lw_all := lw_g (lw_at lw_m5 71 rfl) rfl
theorem q1072 : (Jvm.Cond.code ({ cls := "HundiHallModel", name := "festival", desc := "()Z" } : Jvm.MethodName) prog_11_method_10_code (1 : Nat) (Option.some Jvm.ClassFile.FieldType.boolean)) ∈ lw_all := lw_g (lw_at lw_m5 72 rfl) rfl
theorem q1074 : (Jvm.Cond.instanceMethod ({ cls := "HundiHallModel", name := "breakWord", desc := "(I)I" } : Jvm.MethodName)) ∈ lw_all := lw_g (lw_at lw_m5 74 rfl) rfl
theorem q1075 : (Jvm.Cond.selects "HundiHallModel" ({ cls := "HundiHallModel", name := "breakWord", desc := "(I)I" } : Jvm.MethodName) ({ cls := "HundiHallModel", name := "breakWord", desc := "(I)I" } : Jvm.MethodName)) ∈ lw_all := lw_g (lw_at lw_m5 75 rfl) rfl
theorem q1076 : (Jvm.Cond.code ({ cls := "HundiHallModel", name := "breakWord", desc := "(I)I" } : Jvm.MethodName) prog_11_method_26_code (5 : Nat) (Option.some Jvm.ClassFile.FieldType.int)) ∈ lw_all := lw_g (lw_at lw_m5 76 rfl) rfl
theorem q1077 : (Jvm.Cond.methodLink "HundiHallModel" (166 : Nat) ({ cls := "HundiHallModel", name := "firstOf", desc := "(I)I" } : Jvm.MethodName)) ∈ lw_all := lw_g (lw_at lw_m5 77 rfl) rfl
theorem q1078 : (Jvm.Cond.privateMethod ({ cls := "HundiHallModel", name := "firstOf", desc := "(I)I" } : Jvm.MethodName)) ∈ lw_tbl := lw_at lw_m5 78 rfl
theorem q1079 : (Jvm.Cond.instanceMethod ({ cls := "HundiHallModel", name := "firstOf", desc := "(I)I" } : Jvm.MethodName)) ∈ lw_all := lw_g (lw_at lw_m5 79 rfl) rfl
theorem q1080 : (Jvm.Cond.code ({ cls := "HundiHallModel", name := "firstOf", desc := "(I)I" } : Jvm.MethodName) prog_11_method_21_code (2 : Nat) (Option.some Jvm.ClassFile.FieldType.int)) ∈ lw_all := lw_g (lw_at lw_m5 80 rfl) rfl
theorem q1081 : (Jvm.Cond.methodLink "HundiHallModel" (162 : Nat) ({ cls := "HundiHallModel", name := "takeBack", desc := "(II)V" } : Jvm.MethodName)) ∈ lw_all := lw_g (lw_at lw_m5 81 rfl) rfl
theorem q1082 : (Jvm.Cond.privateMethod ({ cls := "HundiHallModel", name := "takeBack", desc := "(II)V" } : Jvm.MethodName)) ∈ lw_tbl := lw_at lw_m5 82 rfl
theorem q1083 : (Jvm.Cond.instanceMethod ({ cls := "HundiHallModel", name := "takeBack", desc := "(II)V" } : Jvm.MethodName)) ∈ lw_all := lw_g (lw_at lw_m5 83 rfl) rfl
theorem q1084 : (Jvm.Cond.code ({ cls := "HundiHallModel", name := "takeBack", desc := "(II)V" } : Jvm.MethodName) prog_11_method_14_code (4 : Nat) (Option.none : Option Jvm.ClassFile.FieldType)) ∈ lw_all := lw_g (lw_at lw_m5 84 rfl) rfl
theorem q1085 : (Jvm.Cond.methodLink "HundiHallModel" (139 : Nat) ({ cls := "HundiHallModel", name := "oweOn", desc := "(III)V" } : Jvm.MethodName)) ∈ lw_all := lw_g (lw_at lw_m5 85 rfl) rfl
theorem q1086 : (Jvm.Cond.privateMethod ({ cls := "HundiHallModel", name := "oweOn", desc := "(III)V" } : Jvm.MethodName)) ∈ lw_tbl := lw_at lw_m5 86 rfl
theorem q1087 : (Jvm.Cond.instanceMethod ({ cls := "HundiHallModel", name := "oweOn", desc := "(III)V" } : Jvm.MethodName)) ∈ lw_all := lw_g (lw_at lw_m5 87 rfl) rfl
theorem q1088 : (Jvm.Cond.code ({ cls := "HundiHallModel", name := "oweOn", desc := "(III)V" } : Jvm.MethodName) prog_11_method_13_code (8 : Nat) (Option.none : Option Jvm.ClassFile.FieldType)) ∈ lw_all := lw_g (lw_at lw_m5 88 rfl) rfl
theorem q1089 : (Jvm.Cond.methodLink "HundiHallModel" (135 : Nat) ({ cls := "HundiHallModel", name := "owe", desc := "([JIIJ)V" } : Jvm.MethodName)) ∈ lw_all := lw_g (lw_at lw_m5 89 rfl) rfl
theorem q1090 : (Jvm.Cond.privateMethod ({ cls := "HundiHallModel", name := "owe", desc := "([JIIJ)V" } : Jvm.MethodName)) ∈ lw_tbl := lw_at lw_m5 90 rfl
theorem q1091 : (Jvm.Cond.instanceMethod ({ cls := "HundiHallModel", name := "owe", desc := "([JIIJ)V" } : Jvm.MethodName)) ∈ lw_all := lw_g (lw_at lw_m5 91 rfl) rfl
theorem q1092 : (Jvm.Cond.code ({ cls := "HundiHallModel", name := "owe", desc := "([JIIJ)V" } : Jvm.MethodName) prog_11_method_11_code (6 : Nat) (Option.none : Option Jvm.ClassFile.FieldType)) ∈ lw_all := lw_g (lw_at lw_m5 92 rfl) rfl
theorem q1093 : (Jvm.Cond.methodLink "HundiHallModel" (191 : Nat) ({ cls := "HundiHallModel", name := "failsFor", desc := "(I)V" } : Jvm.MethodName)) ∈ lw_all := lw_g (lw_at lw_m5 93 rfl) rfl
theorem q1094 : (Jvm.Cond.privateMethod ({ cls := "HundiHallModel", name := "failsFor", desc := "(I)V" } : Jvm.MethodName)) ∈ lw_tbl := lw_at lw_m5 94 rfl
theorem q1095 : (Jvm.Cond.instanceMethod ({ cls := "HundiHallModel", name := "failsFor", desc := "(I)V" } : Jvm.MethodName)) ∈ lw_all := lw_g (lw_at lw_m5 95 rfl) rfl
theorem q1096 : (Jvm.Cond.code ({ cls := "HundiHallModel", name := "failsFor", desc := "(I)V" } : Jvm.MethodName) prog_11_method_25_code (3 : Nat) (Option.none : Option Jvm.ClassFile.FieldType)) ∈ lw_all := lw_g (lw_at lw_m5 96 rfl) rfl
theorem q1097 : (Jvm.Cond.methodLink "HundiHallModel" (184 : Nat) ({ cls := "HundiHallModel", name := "placeOn", desc := "(II)I" } : Jvm.MethodName)) ∈ lw_all := lw_g (lw_at lw_m5 97 rfl) rfl
theorem q1098 : (Jvm.Cond.privateMethod ({ cls := "HundiHallModel", name := "placeOn", desc := "(II)I" } : Jvm.MethodName)) ∈ lw_tbl := lw_at lw_m5 98 rfl
theorem q1099 : (Jvm.Cond.instanceMethod ({ cls := "HundiHallModel", name := "placeOn", desc := "(II)I" } : Jvm.MethodName)) ∈ lw_all := lw_g (lw_at lw_m5 99 rfl) rfl
theorem q1100 : (Jvm.Cond.code ({ cls := "HundiHallModel", name := "placeOn", desc := "(II)I" } : Jvm.MethodName) prog_11_method_23_code (5 : Nat) (Option.some Jvm.ClassFile.FieldType.int)) ∈ lw_all := lw_g (lw_at lw_m5 100 rfl) rfl
theorem q1101 : (Jvm.Cond.methodLink "HundiHallModel" (188 : Nat) ({ cls := "HundiHallModel", name := "goElsewhere", desc := "(I)V" } : Jvm.MethodName)) ∈ lw_all := lw_g (lw_at lw_m5 101 rfl) rfl
theorem q1102 : (Jvm.Cond.privateMethod ({ cls := "HundiHallModel", name := "goElsewhere", desc := "(I)V" } : Jvm.MethodName)) ∈ lw_tbl := lw_at lw_m5 102 rfl
theorem q1103 : (Jvm.Cond.instanceMethod ({ cls := "HundiHallModel", name := "goElsewhere", desc := "(I)V" } : Jvm.MethodName)) ∈ lw_all := lw_g (lw_at lw_m5 103 rfl) rfl
theorem q1104 : (Jvm.Cond.code ({ cls := "HundiHallModel", name := "goElsewhere", desc := "(I)V" } : Jvm.MethodName) prog_11_method_24_code (10 : Nat) (Option.none : Option Jvm.ClassFile.FieldType)) ∈ lw_all := lw_g (lw_at lw_m5 104 rfl) rfl
theorem q1105 : (Jvm.Cond.methodLink "HundiHallModel" (170 : Nat) ({ cls := "HundiHallModel", name := "findWay", desc := "(IIII)I" } : Jvm.MethodName)) ∈ lw_all := lw_g (lw_at lw_m5 105 rfl) rfl
theorem q1106 : (Jvm.Cond.privateMethod ({ cls := "HundiHallModel", name := "findWay", desc := "(IIII)I" } : Jvm.MethodName)) ∈ lw_tbl := lw_at lw_m5 106 rfl
theorem q1107 : (Jvm.Cond.instanceMethod ({ cls := "HundiHallModel", name := "findWay", desc := "(IIII)I" } : Jvm.MethodName)) ∈ lw_all := lw_g (lw_at lw_m5 107 rfl) rfl
theorem q1108 : (Jvm.Cond.code ({ cls := "HundiHallModel", name := "findWay", desc := "(IIII)I" } : Jvm.MethodName) prog_11_method_19_code (10 : Nat) (Option.some Jvm.ClassFile.FieldType.int)) ∈ lw_all := lw_g (lw_at lw_m5 108 rfl) rfl
theorem q1109 : (Jvm.Cond.methodLink "HundiHallModel" (159 : Nat) ({ cls := "HundiHallModel", name := "findWays", desc := "(III)V" } : Jvm.MethodName)) ∈ lw_all := lw_g (lw_at lw_m5 109 rfl) rfl
theorem q1110 : (Jvm.Cond.privateMethod ({ cls := "HundiHallModel", name := "findWays", desc := "(III)V" } : Jvm.MethodName)) ∈ lw_tbl := lw_at lw_m5 110 rfl
theorem q1111 : (Jvm.Cond.instanceMethod ({ cls := "HundiHallModel", name := "findWays", desc := "(III)V" } : Jvm.MethodName)) ∈ lw_all := lw_g (lw_at lw_m5 111 rfl) rfl
theorem q1112 : (Jvm.Cond.code ({ cls := "HundiHallModel", name := "findWays", desc := "(III)V" } : Jvm.MethodName) prog_11_method_18_code (10 : Nat) (Option.none : Option Jvm.ClassFile.FieldType)) ∈ lw_all := lw_g (lw_at lw_m5 112 rfl) rfl
theorem q1113 : (Jvm.Cond.methodLink "HundiHallModel" (153 : Nat) ({ cls := "HundiHallModel", name := "feeOf", desc := "(II)J" } : Jvm.MethodName)) ∈ lw_all := lw_g (lw_at lw_m5 113 rfl) rfl
theorem q1114 : (Jvm.Cond.privateMethod ({ cls := "HundiHallModel", name := "feeOf", desc := "(II)J" } : Jvm.MethodName)) ∈ lw_tbl := lw_at lw_m5 114 rfl
theorem q1115 : (Jvm.Cond.instanceMethod ({ cls := "HundiHallModel", name := "feeOf", desc := "(II)J" } : Jvm.MethodName)) ∈ lw_all := lw_g (lw_at lw_m5 115 rfl) rfl
theorem q1116 : (Jvm.Cond.code ({ cls := "HundiHallModel", name := "feeOf", desc := "(II)J" } : Jvm.MethodName) prog_11_method_15_code (3 : Nat) (Option.some Jvm.ClassFile.FieldType.long)) ∈ lw_all := lw_g (lw_at lw_m5 116 rfl) rfl
theorem q1117 : (Jvm.Cond.constantLong "HundiHallModel" (143 : Nat) (1000 : Int64)) ∈ lw_all := lw_g (lw_at lw_m5 117 rfl) rfl
theorem q1118 : (Jvm.Cond.constantLong "HundiHallModel" (147 : Nat) (1000000000000 : Int64)) ∈ lw_all := lw_g (lw_at lw_m5 118 rfl) rfl
theorem q1119 : (Jvm.Cond.methodLink "HundiHallModel" (156 : Nat) ({ cls := "HundiHallModel", name := "canOwe", desc := "(III)Z" } : Jvm.MethodName)) ∈ lw_all := lw_g (lw_at lw_m5 119 rfl) rfl
theorem q1120 : (Jvm.Cond.privateMethod ({ cls := "HundiHallModel", name := "canOwe", desc := "(III)Z" } : Jvm.MethodName)) ∈ lw_tbl := lw_at lw_m5 120 rfl
theorem q1121 : (Jvm.Cond.instanceMethod ({ cls := "HundiHallModel", name := "canOwe", desc := "(III)Z" } : Jvm.MethodName)) ∈ lw_all := lw_g (lw_at lw_m5 121 rfl) rfl
theorem q1122 : (Jvm.Cond.code ({ cls := "HundiHallModel", name := "canOwe", desc := "(III)Z" } : Jvm.MethodName) prog_11_method_17_code (4 : Nat) (Option.some Jvm.ClassFile.FieldType.boolean)) ∈ lw_all := lw_g (lw_at lw_m5 122 rfl) rfl
theorem q1123 : (Jvm.Cond.methodLink "HundiHallModel" (149 : Nat) ({ cls := "HundiHallModel", name := "limitOf", desc := "(II)J" } : Jvm.MethodName)) ∈ lw_all := lw_g (lw_at lw_m5 123 rfl) rfl
theorem q1124 : (Jvm.Cond.privateMethod ({ cls := "HundiHallModel", name := "limitOf", desc := "(II)J" } : Jvm.MethodName)) ∈ lw_tbl := lw_at lw_m5 124 rfl
theorem q1125 : (Jvm.Cond.instanceMethod ({ cls := "HundiHallModel", name := "limitOf", desc := "(II)J" } : Jvm.MethodName)) ∈ lw_all := lw_g (lw_at lw_m5 125 rfl) rfl
theorem q1126 : (Jvm.Cond.code ({ cls := "HundiHallModel", name := "limitOf", desc := "(II)J" } : Jvm.MethodName) prog_11_method_16_code (4 : Nat) (Option.some Jvm.ClassFile.FieldType.long)) ∈ lw_all := lw_g (lw_at lw_m5 126 rfl) rfl
theorem q1127 : (Jvm.Cond.constantLong "HundiHallModel" (145 : Nat) (2 : Int64)) ∈ lw_all := lw_g (lw_at lw_m5 127 rfl) rfl
theorem q1128 : (Jvm.Cond.methodLink "HundiHallModel" (174 : Nat) ({ cls := "HundiHallModel", name := "lay", desc := "(III)V" } : Jvm.MethodName)) ∈ lw_all := lw_g (lw_at lw_m5 128 rfl) rfl
theorem q1129 : (Jvm.Cond.privateMethod ({ cls := "HundiHallModel", name := "lay", desc := "(III)V" } : Jvm.MethodName)) ∈ lw_tbl := lw_at lw_m5 129 rfl
theorem q1130 : (Jvm.Cond.instanceMethod ({ cls := "HundiHallModel", name := "lay", desc := "(III)V" } : Jvm.MethodName)) ∈ lw_all := lw_g (lw_at lw_m5 130 rfl) rfl
theorem q1131 : (Jvm.Cond.code ({ cls := "HundiHallModel", name := "lay", desc := "(III)V" } : Jvm.MethodName) prog_11_method_20_code (5 : Nat) (Option.none : Option Jvm.ClassFile.FieldType)) ∈ lw_all := lw_g (lw_at lw_m5 131 rfl) rfl
theorem q1132 : (Jvm.Cond.methodLink "HundiHallModel" (177 : Nat) ({ cls := "HundiHallModel", name := "goBack", desc := "(I)V" } : Jvm.MethodName)) ∈ lw_all := lw_g (lw_at lw_m5 132 rfl) rfl
theorem q1133 : (Jvm.Cond.privateMethod ({ cls := "HundiHallModel", name := "goBack", desc := "(I)V" } : Jvm.MethodName)) ∈ lw_tbl := lw_at lw_m5 133 rfl
theorem q1134 : (Jvm.Cond.instanceMethod ({ cls := "HundiHallModel", name := "goBack", desc := "(I)V" } : Jvm.MethodName)) ∈ lw_all := lw_g (lw_at lw_m5 134 rfl) rfl
theorem q1135 : (Jvm.Cond.code ({ cls := "HundiHallModel", name := "goBack", desc := "(I)V" } : Jvm.MethodName) prog_11_method_22_code (2 : Nat) (Option.none : Option Jvm.ClassFile.FieldType)) ∈ lw_all := lw_g (lw_at lw_m5 135 rfl) rfl
theorem q1137 : (Jvm.Cond.instanceMethod ({ cls := "HundiHallModel", name := "raid", desc := "(I)I" } : Jvm.MethodName)) ∈ lw_all := lw_g (lw_at lw_m5 137 rfl) rfl
theorem q1138 : (Jvm.Cond.selects "HundiHallModel" ({ cls := "HundiHallModel", name := "raid", desc := "(I)I" } : Jvm.MethodName) ({ cls := "HundiHallModel", name := "raid", desc := "(I)I" } : Jvm.MethodName)) ∈ lw_all := lw_g (lw_at lw_m5 138 rfl) rfl
theorem q1139 : (Jvm.Cond.code ({ cls := "HundiHallModel", name := "raid", desc := "(I)I" } : Jvm.MethodName) prog_11_method_27_code (4 : Nat) (Option.some Jvm.ClassFile.FieldType.int)) ∈ lw_all := lw_g (lw_at lw_m5 139 rfl) rfl
theorem q1141 : (Jvm.Cond.instanceMethod ({ cls := "HundiHallModel", name := "order", desc := "(IIIII)I" } : Jvm.MethodName)) ∈ lw_all := lw_g (lw_at lw_m5 141 rfl) rfl
theorem q1142 : (Jvm.Cond.selects "HundiHallModel" ({ cls := "HundiHallModel", name := "order", desc := "(IIIII)I" } : Jvm.MethodName) ({ cls := "HundiHallModel", name := "order", desc := "(IIIII)I" } : Jvm.MethodName)) ∈ lw_all := lw_g (lw_at lw_m5 142 rfl) rfl
theorem q1143 : (Jvm.Cond.code ({ cls := "HundiHallModel", name := "order", desc := "(IIIII)I" } : Jvm.MethodName) prog_11_method_28_code (10 : Nat) (Option.some Jvm.ClassFile.FieldType.int)) ∈ lw_all := lw_g (lw_at lw_m5 143 rfl) rfl
theorem q1145 : (Jvm.Cond.instanceMethod ({ cls := "HundiHallModel", name := "fetch", desc := "(II)I" } : Jvm.MethodName)) ∈ lw_all := lw_g (lw_at lw_m5 145 rfl) rfl
theorem q1146 : (Jvm.Cond.selects "HundiHallModel" ({ cls := "HundiHallModel", name := "fetch", desc := "(II)I" } : Jvm.MethodName) ({ cls := "HundiHallModel", name := "fetch", desc := "(II)I" } : Jvm.MethodName)) ∈ lw_all := lw_g (lw_at lw_m5 146 rfl) rfl
theorem q1147 : (Jvm.Cond.code ({ cls := "HundiHallModel", name := "fetch", desc := "(II)I" } : Jvm.MethodName) prog_11_method_30_code (6 : Nat) (Option.some Jvm.ClassFile.FieldType.int)) ∈ lw_all := lw_g (lw_at lw_m5 147 rfl) rfl
theorem q1148 : (Jvm.Cond.methodLink "HundiHallModel" (197 : Nat) ({ cls := "HundiHallModel", name := "isOrder", desc := "(I)Z" } : Jvm.MethodName)) ∈ lw_all := lw_g (lw_at lw_m5 148 rfl) rfl
theorem q1149 : (Jvm.Cond.privateMethod ({ cls := "HundiHallModel", name := "isOrder", desc := "(I)Z" } : Jvm.MethodName)) ∈ lw_tbl := lw_at lw_m5 149 rfl
theorem q1150 : (Jvm.Cond.instanceMethod ({ cls := "HundiHallModel", name := "isOrder", desc := "(I)Z" } : Jvm.MethodName)) ∈ lw_all := lw_g (lw_at lw_m5 150 rfl) rfl
theorem q1151 : (Jvm.Cond.code ({ cls := "HundiHallModel", name := "isOrder", desc := "(I)Z" } : Jvm.MethodName) prog_11_method_29_code (2 : Nat) (Option.some Jvm.ClassFile.FieldType.boolean)) ∈ lw_all := lw_g (lw_at lw_m5 151 rfl) rfl
theorem q1153 : (Jvm.Cond.instanceMethod ({ cls := "HundiHallModel", name := "pass", desc := "(I)I" } : Jvm.MethodName)) ∈ lw_all := lw_g (lw_at lw_m5 153 rfl) rfl
theorem q1154 : (Jvm.Cond.selects "HundiHallModel" ({ cls := "HundiHallModel", name := "pass", desc := "(I)I" } : Jvm.MethodName) ({ cls := "HundiHallModel", name := "pass", desc := "(I)I" } : Jvm.MethodName)) ∈ lw_all := lw_g (lw_at lw_m5 154 rfl) rfl
theorem q1155 : (Jvm.Cond.code ({ cls := "HundiHallModel", name := "pass", desc := "(I)I" } : Jvm.MethodName) prog_11_method_34_code (3 : Nat) (Option.some Jvm.ClassFile.FieldType.int)) ∈ lw_all := lw_g (lw_at lw_m5 155 rfl) rfl
theorem q1156 : (Jvm.Cond.methodLink "HundiHallModel" (213 : Nat) ({ cls := "HundiHallModel", name := "nextHour", desc := "()V" } : Jvm.MethodName)) ∈ lw_all := lw_g (lw_at lw_m5 156 rfl) rfl
theorem q1157 : (Jvm.Cond.privateMethod ({ cls := "HundiHallModel", name := "nextHour", desc := "()V" } : Jvm.MethodName)) ∈ lw_tbl := lw_at lw_m5 157 rfl
theorem q1158 : (Jvm.Cond.instanceMethod ({ cls := "HundiHallModel", name := "nextHour", desc := "()V" } : Jvm.MethodName)) ∈ lw_all := lw_g (lw_at lw_m5 158 rfl) rfl
theorem q1159 : (Jvm.Cond.code ({ cls := "HundiHallModel", name := "nextHour", desc := "()V" } : Jvm.MethodName) prog_11_method_33_code (3 : Nat) (Option.none : Option Jvm.ClassFile.FieldType)) ∈ lw_all := lw_g (lw_at lw_m5 159 rfl) rfl
theorem q1160 : (Jvm.Cond.methodLink "HundiHallModel" (207 : Nat) ({ cls := "HundiHallModel", name := "move", desc := "(I)V" } : Jvm.MethodName)) ∈ lw_all := lw_g (lw_at lw_m5 160 rfl) rfl
theorem q1161 : (Jvm.Cond.privateMethod ({ cls := "HundiHallModel", name := "move", desc := "(I)V" } : Jvm.MethodName)) ∈ lw_tbl := lw_at lw_m5 161 rfl
theorem q1162 : (Jvm.Cond.instanceMethod ({ cls := "HundiHallModel", name := "move", desc := "(I)V" } : Jvm.MethodName)) ∈ lw_all := lw_g (lw_at lw_m5 162 rfl) rfl
theorem q1163 : (Jvm.Cond.code ({ cls := "HundiHallModel", name := "move", desc := "(I)V" } : Jvm.MethodName) prog_11_method_31_code (3 : Nat) (Option.none : Option Jvm.ClassFile.FieldType)) ∈ lw_all := lw_g (lw_at lw_m5 163 rfl) rfl
theorem q1164 : (Jvm.Cond.methodLink "HundiHallModel" (210 : Nat) ({ cls := "HundiHallModel", name := "comeAll", desc := "()V" } : Jvm.MethodName)) ∈ lw_all := lw_g (lw_at lw_m5 164 rfl) rfl
theorem q1165 : (Jvm.Cond.privateMethod ({ cls := "HundiHallModel", name := "comeAll", desc := "()V" } : Jvm.MethodName)) ∈ lw_tbl := lw_at lw_m5 165 rfl
theorem q1166 : (Jvm.Cond.instanceMethod ({ cls := "HundiHallModel", name := "comeAll", desc := "()V" } : Jvm.MethodName)) ∈ lw_all := lw_g (lw_at lw_m5 166 rfl) rfl
theorem q1167 : (Jvm.Cond.code ({ cls := "HundiHallModel", name := "comeAll", desc := "()V" } : Jvm.MethodName) prog_11_method_32_code (2 : Nat) (Option.none : Option Jvm.ClassFile.FieldType)) ∈ lw_all := lw_g (lw_at lw_m5 167 rfl) rfl
theorem q1168 : (Jvm.Cond.methodLink "HundiHallModel" (203 : Nat) ({ cls := "HundiHallModel", name := "oweBoth", desc := "(IIJ)V" } : Jvm.MethodName)) ∈ lw_all := lw_g (lw_at lw_m5 168 rfl) rfl
theorem q1169 : (Jvm.Cond.privateMethod ({ cls := "HundiHallModel", name := "oweBoth", desc := "(IIJ)V" } : Jvm.MethodName)) ∈ lw_tbl := lw_at lw_m5 169 rfl
theorem q1170 : (Jvm.Cond.instanceMethod ({ cls := "HundiHallModel", name := "oweBoth", desc := "(IIJ)V" } : Jvm.MethodName)) ∈ lw_all := lw_g (lw_at lw_m5 170 rfl) rfl
theorem q1171 : (Jvm.Cond.code ({ cls := "HundiHallModel", name := "oweBoth", desc := "(IIJ)V" } : Jvm.MethodName) prog_11_method_12_code (5 : Nat) (Option.none : Option Jvm.ClassFile.FieldType)) ∈ lw_all := lw_g (lw_at lw_m5 171 rfl) rfl
theorem q1173 : (Jvm.Cond.instanceMethod ({ cls := "HundiHallModel", name := "pay", desc := "(III)I" } : Jvm.MethodName)) ∈ lw_all := lw_g (lw_at lw_m5 173 rfl) rfl
theorem q1174 : (Jvm.Cond.selects "HundiHallModel" ({ cls := "HundiHallModel", name := "pay", desc := "(III)I" } : Jvm.MethodName) ({ cls := "HundiHallModel", name := "pay", desc := "(III)I" } : Jvm.MethodName)) ∈ lw_all := lw_g (lw_at lw_m5 174 rfl) rfl
theorem q1175 : (Jvm.Cond.code ({ cls := "HundiHallModel", name := "pay", desc := "(III)I" } : Jvm.MethodName) prog_11_method_35_code (7 : Nat) (Option.some Jvm.ClassFile.FieldType.int)) ∈ lw_all := lw_g (lw_at lw_m5 175 rfl) rfl
theorem q1177 : (Jvm.Cond.instanceMethod ({ cls := "HundiHallModel", name := "deliver", desc := "(III)I" } : Jvm.MethodName)) ∈ lw_all := lw_g (lw_at lw_m5 177 rfl) rfl
theorem q1178 : (Jvm.Cond.selects "HundiHallModel" ({ cls := "HundiHallModel", name := "deliver", desc := "(III)I" } : Jvm.MethodName) ({ cls := "HundiHallModel", name := "deliver", desc := "(III)I" } : Jvm.MethodName)) ∈ lw_all := lw_g (lw_at lw_m5 178 rfl) rfl
theorem q1179 : (Jvm.Cond.code ({ cls := "HundiHallModel", name := "deliver", desc := "(III)I" } : Jvm.MethodName) prog_11_method_36_code (7 : Nat) (Option.some Jvm.ClassFile.FieldType.int)) ∈ lw_all := lw_g (lw_at lw_m5 179 rfl) rfl
theorem q1181 : (Jvm.Cond.instanceMethod ({ cls := "HundiHallModel", name := "courier", desc := "(IIII)I" } : Jvm.MethodName)) ∈ lw_all := lw_g (lw_at lw_m5 181 rfl) rfl
theorem q1182 : (Jvm.Cond.selects "HundiHallModel" ({ cls := "HundiHallModel", name := "courier", desc := "(IIII)I" } : Jvm.MethodName) ({ cls := "HundiHallModel", name := "courier", desc := "(IIII)I" } : Jvm.MethodName)) ∈ lw_all := lw_g (lw_at lw_m5 182 rfl) rfl
theorem q1183 : (Jvm.Cond.code ({ cls := "HundiHallModel", name := "courier", desc := "(IIII)I" } : Jvm.MethodName) prog_11_method_37_code (8 : Nat) (Option.some Jvm.ClassFile.FieldType.int)) ∈ lw_all := lw_g (lw_at lw_m5 183 rfl) rfl
theorem q1185 : (Jvm.Cond.instanceMethod ({ cls := "HundiHallModel", name := "rob", desc := "(I)I" } : Jvm.MethodName)) ∈ lw_all := lw_g (lw_at lw_m5 185 rfl) rfl
theorem q1186 : (Jvm.Cond.selects "HundiHallModel" ({ cls := "HundiHallModel", name := "rob", desc := "(I)I" } : Jvm.MethodName) ({ cls := "HundiHallModel", name := "rob", desc := "(I)I" } : Jvm.MethodName)) ∈ lw_all := lw_g (lw_at lw_m5 186 rfl) rfl
theorem q1187 : (Jvm.Cond.code ({ cls := "HundiHallModel", name := "rob", desc := "(I)I" } : Jvm.MethodName) prog_11_method_38_code (3 : Nat) (Option.some Jvm.ClassFile.FieldType.int)) ∈ lw_all := lw_g (lw_at lw_m5 187 rfl) rfl
theorem q1189 : (Jvm.Cond.instanceMethod ({ cls := "HundiHallModel", name := "ring", desc := "()J" } : Jvm.MethodName)) ∈ lw_all := lw_g (lw_at lw_m5 189 rfl) rfl
theorem q1190 : (Jvm.Cond.selects "HundiHallModel" ({ cls := "HundiHallModel", name := "ring", desc := "()J" } : Jvm.MethodName) ({ cls := "HundiHallModel", name := "ring", desc := "()J" } : Jvm.MethodName)) ∈ lw_all := lw_g (lw_at lw_m5 190 rfl) rfl
theorem q1191 : (Jvm.Cond.code ({ cls := "HundiHallModel", name := "ring", desc := "()J" } : Jvm.MethodName) prog_11_method_40_code (6 : Nat) (Option.some Jvm.ClassFile.FieldType.long)) ∈ lw_all := lw_g (lw_at lw_m5 191 rfl) rfl
theorem q1192 : (Jvm.Cond.methodLink "HundiHallModel" (216 : Nat) ({ cls := "HundiHallModel", name := "clear", desc := "(III)J" } : Jvm.MethodName)) ∈ lw_all := lw_g (lw_at lw_m5 192 rfl) rfl
theorem q1193 : (Jvm.Cond.privateMethod ({ cls := "HundiHallModel", name := "clear", desc := "(III)J" } : Jvm.MethodName)) ∈ lw_tbl := lw_at lw_m5 193 rfl
theorem q1194 : (Jvm.Cond.instanceMethod ({ cls := "HundiHallModel", name := "clear", desc := "(III)J" } : Jvm.MethodName)) ∈ lw_all := lw_g (lw_at lw_m5 194 rfl) rfl
theorem q1195 : (Jvm.Cond.code ({ cls := "HundiHallModel", name := "clear", desc := "(III)J" } : Jvm.MethodName) prog_11_method_39_code (12 : Nat) (Option.some Jvm.ClassFile.FieldType.long)) ∈ lw_all := lw_g (lw_at lw_m5 195 rfl) rfl
theorem q1197 : (Jvm.Cond.instanceMethod ({ cls := "HundiHallModel", name := "law", desc := "(II)I" } : Jvm.MethodName)) ∈ lw_all := lw_g (lw_at lw_m5 197 rfl) rfl
theorem q1198 : (Jvm.Cond.selects "HundiHallModel" ({ cls := "HundiHallModel", name := "law", desc := "(II)I" } : Jvm.MethodName) ({ cls := "HundiHallModel", name := "law", desc := "(II)I" } : Jvm.MethodName)) ∈ lw_all := lw_g (lw_at lw_m5 198 rfl) rfl
theorem q1199 : (Jvm.Cond.code ({ cls := "HundiHallModel", name := "law", desc := "(II)I" } : Jvm.MethodName) prog_11_method_41_code (4 : Nat) (Option.some Jvm.ClassFile.FieldType.int)) ∈ lw_all := lw_g (lw_at lw_m5 199 rfl) rfl
theorem q1201 : (Jvm.Cond.instanceMethod ({ cls := "HundiHallModel", name := "list", desc := "(I)Z" } : Jvm.MethodName)) ∈ lw_all := lw_g (lw_at lw_m5 201 rfl) rfl
theorem q1202 : (Jvm.Cond.selects "HundiHallModel" ({ cls := "HundiHallModel", name := "list", desc := "(I)Z" } : Jvm.MethodName) ({ cls := "HundiHallModel", name := "list", desc := "(I)Z" } : Jvm.MethodName)) ∈ lw_all := lw_g (lw_at lw_m5 202 rfl) rfl
theorem q1203 : (Jvm.Cond.code ({ cls := "HundiHallModel", name := "list", desc := "(I)Z" } : Jvm.MethodName) prog_11_method_42_code (2 : Nat) (Option.some Jvm.ClassFile.FieldType.boolean)) ∈ lw_all := lw_g (lw_at lw_m5 203 rfl) rfl
theorem q1205 : (Jvm.Cond.instanceMethod ({ cls := "HundiHallModel", name := "brokerOf", desc := "(II)J" } : Jvm.MethodName)) ∈ lw_all := lw_g (lw_at lw_m5 205 rfl) rfl
theorem q1206 : (Jvm.Cond.selects "HundiHallModel" ({ cls := "HundiHallModel", name := "brokerOf", desc := "(II)J" } : Jvm.MethodName) ({ cls := "HundiHallModel", name := "brokerOf", desc := "(II)J" } : Jvm.MethodName)) ∈ lw_all := lw_g (lw_at lw_m5 206 rfl) rfl
theorem q1207 : (Jvm.Cond.code ({ cls := "HundiHallModel", name := "brokerOf", desc := "(II)J" } : Jvm.MethodName) prog_11_method_43_code (7 : Nat) (Option.some Jvm.ClassFile.FieldType.long)) ∈ lw_all := lw_g (lw_at lw_m5 207 rfl) rfl
theorem q1209 : (Jvm.Cond.instanceMethod ({ cls := "HundiHallModel", name := "debt", desc := "(IIZ)J" } : Jvm.MethodName)) ∈ lw_all := lw_g (lw_at lw_m5 209 rfl) rfl
theorem q1210 : (Jvm.Cond.selects "HundiHallModel" ({ cls := "HundiHallModel", name := "debt", desc := "(IIZ)J" } : Jvm.MethodName) ({ cls := "HundiHallModel", name := "debt", desc := "(IIZ)J" } : Jvm.MethodName)) ∈ lw_all := lw_g (lw_at lw_m5 210 rfl) rfl
theorem q1211 : (Jvm.Cond.code ({ cls := "HundiHallModel", name := "debt", desc := "(IIZ)J" } : Jvm.MethodName) prog_11_method_44_code (4 : Nat) (Option.some Jvm.ClassFile.FieldType.long)) ∈ lw_all := lw_g (lw_at lw_m5 211 rfl) rfl
theorem q1213 : (Jvm.Cond.instanceMethod ({ cls := "HundiHallModel", name := "agree", desc := "(II)Z" } : Jvm.MethodName)) ∈ lw_all := lw_g (lw_at lw_m5 213 rfl) rfl
theorem q1214 : (Jvm.Cond.selects "HundiHallModel" ({ cls := "HundiHallModel", name := "agree", desc := "(II)Z" } : Jvm.MethodName) ({ cls := "HundiHallModel", name := "agree", desc := "(II)Z" } : Jvm.MethodName)) ∈ lw_all := lw_g (lw_at lw_m5 214 rfl) rfl
theorem q1215 : (Jvm.Cond.code ({ cls := "HundiHallModel", name := "agree", desc := "(II)Z" } : Jvm.MethodName) prog_11_method_45_code (3 : Nat) (Option.some Jvm.ClassFile.FieldType.boolean)) ∈ lw_all := lw_g (lw_at lw_m5 215 rfl) rfl
theorem q1217 : (Jvm.Cond.instanceMethod ({ cls := "HundiHallModel", name := "way", desc := "(IIII)I" } : Jvm.MethodName)) ∈ lw_all := lw_g (lw_at lw_m5 217 rfl) rfl
theorem q1218 : (Jvm.Cond.selects "HundiHallModel" ({ cls := "HundiHallModel", name := "way", desc := "(IIII)I" } : Jvm.MethodName) ({ cls := "HundiHallModel", name := "way", desc := "(IIII)I" } : Jvm.MethodName)) ∈ lw_all := lw_g (lw_at lw_m5 218 rfl) rfl
theorem q1219 : (Jvm.Cond.code ({ cls := "HundiHallModel", name := "way", desc := "(IIII)I" } : Jvm.MethodName) prog_11_method_46_code (7 : Nat) (Option.some Jvm.ClassFile.FieldType.int)) ∈ lw_all := lw_g (lw_at lw_m5 219 rfl) rfl
theorem q1221 : (Jvm.Cond.instanceMethod ({ cls := "HundiHallModel", name := "wayOf", desc := "(II)I" } : Jvm.MethodName)) ∈ lw_all := lw_g (lw_at lw_m5 221 rfl) rfl
theorem q1222 : (Jvm.Cond.selects "HundiHallModel" ({ cls := "HundiHallModel", name := "wayOf", desc := "(II)I" } : Jvm.MethodName) ({ cls := "HundiHallModel", name := "wayOf", desc := "(II)I" } : Jvm.MethodName)) ∈ lw_all := lw_g (lw_at lw_m5 222 rfl) rfl
theorem q1223 : (Jvm.Cond.code ({ cls := "HundiHallModel", name := "wayOf", desc := "(II)I" } : Jvm.MethodName) prog_11_method_47_code (3 : Nat) (Option.some Jvm.ClassFile.FieldType.int)) ∈ lw_all := lw_g (lw_at lw_m5 223 rfl) rfl
theorem q1225 : (Jvm.Cond.instanceMethod ({ cls := "HundiHallModel", name := "orderOf", desc := "(II)I" } : Jvm.MethodName)) ∈ lw_all := lw_g (lw_at lw_m5 225 rfl) rfl
theorem q1226 : (Jvm.Cond.selects "HundiHallModel" ({ cls := "HundiHallModel", name := "orderOf", desc := "(II)I" } : Jvm.MethodName) ({ cls := "HundiHallModel", name := "orderOf", desc := "(II)I" } : Jvm.MethodName)) ∈ lw_all := lw_g (lw_at lw_m5 226 rfl) rfl
theorem q1227 : (Jvm.Cond.code ({ cls := "HundiHallModel", name := "orderOf", desc := "(II)I" } : Jvm.MethodName) prog_11_method_48_code (4 : Nat) (Option.some Jvm.ClassFile.FieldType.int)) ∈ lw_all := lw_g (lw_at lw_m5 227 rfl) rfl
theorem q1229 : (Jvm.Cond.instanceMethod ({ cls := "HundiHallModel", name := "inquiry", desc := "()I" } : Jvm.MethodName)) ∈ lw_all := lw_g (lw_at lw_m5 229 rfl) rfl
theorem q1230 : (Jvm.Cond.selects "HundiHallModel" ({ cls := "HundiHallModel", name := "inquiry", desc := "()I" } : Jvm.MethodName) ({ cls := "HundiHallModel", name := "inquiry", desc := "()I" } : Jvm.MethodName)) ∈ lw_all := lw_g (lw_at lw_m5 230 rfl) rfl
theorem q1231 : (Jvm.Cond.code ({ cls := "HundiHallModel", name := "inquiry", desc := "()I" } : Jvm.MethodName) prog_11_method_49_code (5 : Nat) (Option.some Jvm.ClassFile.FieldType.int)) ∈ lw_all := lw_g (lw_at lw_m5 231 rfl) rfl
theorem q1233 : (Jvm.Cond.instanceMethod ({ cls := "HundiHallModel", name := "sum", desc := "(I)J" } : Jvm.MethodName)) ∈ lw_all := lw_g (lw_at lw_m5 233 rfl) rfl
theorem q1234 : (Jvm.Cond.selects "HundiHallModel" ({ cls := "HundiHallModel", name := "sum", desc := "(I)J" } : Jvm.MethodName) ({ cls := "HundiHallModel", name := "sum", desc := "(I)J" } : Jvm.MethodName)) ∈ lw_all := lw_g (lw_at lw_m5 234 rfl) rfl
theorem q1235 : (Jvm.Cond.code ({ cls := "HundiHallModel", name := "sum", desc := "(I)J" } : Jvm.MethodName) prog_11_method_50_code (5 : Nat) (Option.some Jvm.ClassFile.FieldType.long)) ∈ lw_all := lw_g (lw_at lw_m5 235 rfl) rfl
theorem q1243 : (Jvm.Cond.castable "HundiHallModel" "java/lang/Object") ∈ lw_tbl := lw_at lw_m6 3 rfl
theorem in_X2 : ∀ w ∈ wsX20, w ∈ lw_all := lw_in wsX20 [961, 963, 965, 967, 969, 971, 973, 975, 977, 979, 981, 983, 985, 987, 989, 991, 993, 995, 997, 999, 1001, 1003, 1005, 1007, 1009, 1011, 1013, 1015, 1017, 1019, 1021, 1023, 1025, 1027, 1029, 1031, 1033, 1035] (by decide +kernel) (by decide +kernel)
