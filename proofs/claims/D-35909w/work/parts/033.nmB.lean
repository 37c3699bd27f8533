/-! HundiHall$Broker -/
set_option maxRecDepth 100000
def RX3 : String := "HundiHall$Broker"
def TX3 : u_T := fun k => match k with
  | 0 => ("HundiHall$Broker", "number", "I", true)
  | 1 => ("HundiHall$Broker", "town", "I", true)
  | 2 => ("HundiHall$Broker", "cash", "J", false)
  | 3 => ("HundiHall$Broker", "rate", "I", false)
  | 4 => ("HundiHall$Broker", "state", "I", false)
  | 5 => ("HundiHall$Broker", "raidedUntil", "I", false)
  | 6 => ("HundiHall$Broker", "wasRaided", "Z", false)
  | 7 => ("HundiHall$Broker", "owes", "[J", true)
  | 8 => ("HundiHall$Broker", "book", "[J", true)
  | 9 => ("HundiHall$Broker", "limits", "[I", true)
  | _ => ("HundiHall$Broker", "areKin", "[Z", true)
def tyX3 : Nat → FieldType := fun k => match k with
  | 0 => .int
  | 1 => .int
  | 2 => .long
  | 3 => .int
  | 4 => .int
  | 5 => .int
  | 6 => .boolean
  | 7 => .array .long
  | 8 => .array .long
  | 9 => .array .int
  | _ => .array .boolean
abbrev wsX30 : List Cond := u_ws RX3 TX3 11
theorem nmX3 : ∀ a, a < 11 → ∀ b, b < 11 → a ≠ b → (TX3 a).2.1 ≠ (TX3 b).2.1 := by decide +kernel
theorem tyX3_ok : ∀ k, k < 11 → parseFieldDescriptor (TX3 k).2.2.1 = some (tyX3 k) := by decide +kernel
abbrev cX3_init : ByteArray := prog_3_method_1_code
def yX3_init : MethodName := ⟨RX3, "<init>", "(IIII)V"⟩
def dkwX3_init_2 : List UInt8 := [42, 28, 181, 0, 33, 42, 29, 133, 181, 0, 36, 42, 21, 4, 181, 0, 40, 177]
abbrev dktX3_init_2 : List UInt8 := dkwX3_init_2 ++ []
def dkwX3_init_1 : List UInt8 := [181, 0, 19, 42, 16, 12, 188, 10, 181, 0, 22, 42, 16, 12, 188, 4, 181, 0, 26, 42, 27, 181, 0, 30]
abbrev dktX3_init_1 : List UInt8 := dkwX3_init_1 ++ dktX3_init_2
def dkwX3_init_0 : List UInt8 := [42, 183, 0, 3, 42, 3, 181, 0, 9, 42, 16, 12, 188, 11, 181, 0, 15, 42, 16, 12, 188, 11]
abbrev dktX3_init_0 : List UInt8 := dkwX3_init_0 ++ dktX3_init_1
theorem dksX3_init_0 : cX3_init.data.toList.drop 0 = dktX3_init_0 := by decide +kernel
theorem dksX3_init_1 : cX3_init.data.toList.drop 22 = dktX3_init_1 := dk_seg dksX3_init_0 22 rfl rfl
theorem dksX3_init_2 : cX3_init.data.toList.drop 46 = dktX3_init_2 := dk_seg dksX3_init_1 24 rfl rfl
theorem dX3_init_0 : decode cX3_init 0 = .ok (.aload_n 0, 1) := dk_42 (dk_at dksX3_init_0 0 rfl rfl)
theorem dX3_init_1 : decode cX3_init 1 = .ok (.invokespecial 3, 3) := dk_183 0 3 (dk_at dksX3_init_0 1 rfl rfl)
theorem dX3_init_4 : decode cX3_init 4 = .ok (.aload_n 0, 1) := dk_42 (dk_at dksX3_init_0 4 rfl rfl)
theorem dX3_init_5 : decode cX3_init 5 = .ok (.iconst 0, 1) := dk_3 (dk_at dksX3_init_0 5 rfl rfl)
theorem dX3_init_6 : decode cX3_init 6 = .ok (.putfield 9, 3) := dk_181 0 9 (dk_at dksX3_init_0 6 rfl rfl)
theorem dX3_init_9 : decode cX3_init 9 = .ok (.aload_n 0, 1) := dk_42 (dk_at dksX3_init_0 9 rfl rfl)
theorem dX3_init_10 : decode cX3_init 10 = .ok (.bipush 12, 2) := dk_16 12 (dk_at dksX3_init_0 10 rfl rfl)
theorem dX3_init_12 : decode cX3_init 12 = .ok (.newarray .long, 2) := dk_188_11 (dk_at dksX3_init_0 12 rfl rfl)
theorem dX3_init_14 : decode cX3_init 14 = .ok (.putfield 15, 3) := dk_181 0 15 (dk_at dksX3_init_0 14 rfl rfl)
theorem dX3_init_17 : decode cX3_init 17 = .ok (.aload_n 0, 1) := dk_42 (dk_at dksX3_init_0 17 rfl rfl)
theorem dX3_init_18 : decode cX3_init 18 = .ok (.bipush 12, 2) := dk_16 12 (dk_at dksX3_init_0 18 rfl rfl)
theorem dX3_init_20 : decode cX3_init 20 = .ok (.newarray .long, 2) := dk_188_11 (dk_at dksX3_init_0 20 rfl rfl)
theorem dX3_init_22 : decode cX3_init 22 = .ok (.putfield 19, 3) := dk_181 0 19 (dk_at dksX3_init_1 0 rfl rfl)
theorem dX3_init_25 : decode cX3_init 25 = .ok (.aload_n 0, 1) := dk_42 (dk_at dksX3_init_1 3 rfl rfl)
theorem dX3_init_26 : decode cX3_init 26 = .ok (.bipush 12, 2) := dk_16 12 (dk_at dksX3_init_1 4 rfl rfl)
theorem dX3_init_28 : decode cX3_init 28 = .ok (.newarray .int, 2) := dk_188_10 (dk_at dksX3_init_1 6 rfl rfl)
theorem dX3_init_30 : decode cX3_init 30 = .ok (.putfield 22, 3) := dk_181 0 22 (dk_at dksX3_init_1 8 rfl rfl)
theorem dX3_init_33 : decode cX3_init 33 = .ok (.aload_n 0, 1) := dk_42 (dk_at dksX3_init_1 11 rfl rfl)
theorem dX3_init_34 : decode cX3_init 34 = .ok (.bipush 12, 2) := dk_16 12 (dk_at dksX3_init_1 12 rfl rfl)
theorem dX3_init_36 : decode cX3_init 36 = .ok (.newarray .boolean, 2) := dk_188_4 (dk_at dksX3_init_1 14 rfl rfl)
theorem dX3_init_38 : decode cX3_init 38 = .ok (.putfield 26, 3) := dk_181 0 26 (dk_at dksX3_init_1 16 rfl rfl)
theorem dX3_init_41 : decode cX3_init 41 = .ok (.aload_n 0, 1) := dk_42 (dk_at dksX3_init_1 19 rfl rfl)
theorem dX3_init_42 : decode cX3_init 42 = .ok (.iload_n 1, 1) := dk_27 (dk_at dksX3_init_1 20 rfl rfl)
theorem dX3_init_43 : decode cX3_init 43 = .ok (.putfield 30, 3) := dk_181 0 30 (dk_at dksX3_init_1 21 rfl rfl)
theorem dX3_init_46 : decode cX3_init 46 = .ok (.aload_n 0, 1) := dk_42 (dk_at dksX3_init_2 0 rfl rfl)
theorem dX3_init_47 : decode cX3_init 47 = .ok (.iload_n 2, 1) := dk_28 (dk_at dksX3_init_2 1 rfl rfl)
theorem dX3_init_48 : decode cX3_init 48 = .ok (.putfield 33, 3) := dk_181 0 33 (dk_at dksX3_init_2 2 rfl rfl)
theorem dX3_init_51 : decode cX3_init 51 = .ok (.aload_n 0, 1) := dk_42 (dk_at dksX3_init_2 5 rfl rfl)
theorem dX3_init_52 : decode cX3_init 52 = .ok (.iload_n 3, 1) := dk_29 (dk_at dksX3_init_2 6 rfl rfl)
theorem dX3_init_53 : decode cX3_init 53 = .ok (.i2l, 1) := dk_133 (dk_at dksX3_init_2 7 rfl rfl)
theorem dX3_init_54 : decode cX3_init 54 = .ok (.putfield 36, 3) := dk_181 0 36 (dk_at dksX3_init_2 8 rfl rfl)
theorem dX3_init_57 : decode cX3_init 57 = .ok (.aload_n 0, 1) := dk_42 (dk_at dksX3_init_2 11 rfl rfl)
theorem dX3_init_58 : decode cX3_init 58 = .ok (.iload 4, 2) := dk_21 4 (dk_at dksX3_init_2 12 rfl rfl)
theorem dX3_init_60 : decode cX3_init 60 = .ok (.putfield 40, 3) := dk_181 0 40 (dk_at dksX3_init_2 14 rfl rfl)
theorem dX3_init_63 : decode cX3_init 63 = .ok (.return_, 1) := dk_177 (dk_at dksX3_init_2 17 rfl rfl)
abbrev cX3_feeOf : ByteArray := prog_3_method_2_code
def yX3_feeOf : MethodName := ⟨RX3, "feeOf", "(I)I"⟩
def dkwX3_feeOf_0 : List UInt8 := [27, 133, 42, 180, 0, 40, 133, 105, 20, 0, 43, 109, 136, 172]
abbrev dktX3_feeOf_0 : List UInt8 := dkwX3_feeOf_0 ++ []
theorem dksX3_feeOf_0 : cX3_feeOf.data.toList.drop 0 = dktX3_feeOf_0 := by decide +kernel
theorem dX3_feeOf_0 : decode cX3_feeOf 0 = .ok (.iload_n 1, 1) := dk_27 (dk_at dksX3_feeOf_0 0 rfl rfl)
theorem dX3_feeOf_1 : decode cX3_feeOf 1 = .ok (.i2l, 1) := dk_133 (dk_at dksX3_feeOf_0 1 rfl rfl)
theorem dX3_feeOf_2 : decode cX3_feeOf 2 = .ok (.aload_n 0, 1) := dk_42 (dk_at dksX3_feeOf_0 2 rfl rfl)
theorem dX3_feeOf_3 : decode cX3_feeOf 3 = .ok (.getfield 40, 3) := dk_180 0 40 (dk_at dksX3_feeOf_0 3 rfl rfl)
theorem dX3_feeOf_6 : decode cX3_feeOf 6 = .ok (.i2l, 1) := dk_133 (dk_at dksX3_feeOf_0 6 rfl rfl)
theorem dX3_feeOf_7 : decode cX3_feeOf 7 = .ok (.lmul, 1) := dk_105 (dk_at dksX3_feeOf_0 7 rfl rfl)
theorem dX3_feeOf_8 : decode cX3_feeOf 8 = .ok (.ldc2_w 43, 3) := dk_20 0 43 (dk_at dksX3_feeOf_0 8 rfl rfl)
theorem dX3_feeOf_11 : decode cX3_feeOf 11 = .ok (.ldiv, 1) := dk_109 (dk_at dksX3_feeOf_0 11 rfl rfl)
theorem dX3_feeOf_12 : decode cX3_feeOf 12 = .ok (.l2i, 1) := dk_136 (dk_at dksX3_feeOf_0 12 rfl rfl)
theorem dX3_feeOf_13 : decode cX3_feeOf 13 = .ok (.ireturn, 1) := dk_172 (dk_at dksX3_feeOf_0 13 rfl rfl)
abbrev cX3_net : ByteArray := prog_3_method_3_code
def yX3_net : MethodName := ⟨RX3, "net", "()J"⟩
def dkwX3_net_1 : List UInt8 := [45, 21, 5, 47, 55, 6, 31, 22, 6, 101, 64, 132, 5, 1, 167, 255, 235, 31, 173]
abbrev dktX3_net_1 : List UInt8 := dkwX3_net_1 ++ []
def dkwX3_net_0 : List UInt8 := [42, 180, 0, 36, 64, 42, 180, 0, 15, 78, 45, 190, 54, 4, 3, 54, 5, 21, 5, 21, 4, 162, 0, 20]
abbrev dktX3_net_0 : List UInt8 := dkwX3_net_0 ++ dktX3_net_1
theorem dksX3_net_0 : cX3_net.data.toList.drop 0 = dktX3_net_0 := by decide +kernel
theorem dksX3_net_1 : cX3_net.data.toList.drop 24 = dktX3_net_1 := dk_seg dksX3_net_0 24 rfl rfl
theorem dX3_net_0 : decode cX3_net 0 = .ok (.aload_n 0, 1) := dk_42 (dk_at dksX3_net_0 0 rfl rfl)
theorem dX3_net_1 : decode cX3_net 1 = .ok (.getfield 36, 3) := dk_180 0 36 (dk_at dksX3_net_0 1 rfl rfl)
theorem dX3_net_4 : decode cX3_net 4 = .ok (.lstore_n 1, 1) := dk_64 (dk_at dksX3_net_0 4 rfl rfl)
theorem dX3_net_5 : decode cX3_net 5 = .ok (.aload_n 0, 1) := dk_42 (dk_at dksX3_net_0 5 rfl rfl)
theorem dX3_net_6 : decode cX3_net 6 = .ok (.getfield 15, 3) := dk_180 0 15 (dk_at dksX3_net_0 6 rfl rfl)
theorem dX3_net_9 : decode cX3_net 9 = .ok (.astore_n 3, 1) := dk_78 (dk_at dksX3_net_0 9 rfl rfl)
theorem dX3_net_10 : decode cX3_net 10 = .ok (.aload_n 3, 1) := dk_45 (dk_at dksX3_net_0 10 rfl rfl)
theorem dX3_net_11 : decode cX3_net 11 = .ok (.arraylength, 1) := dk_190 (dk_at dksX3_net_0 11 rfl rfl)
theorem dX3_net_12 : decode cX3_net 12 = .ok (.istore 4, 2) := dk_54 4 (dk_at dksX3_net_0 12 rfl rfl)
theorem dX3_net_14 : decode cX3_net 14 = .ok (.iconst 0, 1) := dk_3 (dk_at dksX3_net_0 14 rfl rfl)
theorem dX3_net_15 : decode cX3_net 15 = .ok (.istore 5, 2) := dk_54 5 (dk_at dksX3_net_0 15 rfl rfl)
theorem dX3_net_17 : decode cX3_net 17 = .ok (.iload 5, 2) := dk_21 5 (dk_at dksX3_net_0 17 rfl rfl)
theorem dX3_net_19 : decode cX3_net 19 = .ok (.iload 4, 2) := dk_21 4 (dk_at dksX3_net_0 19 rfl rfl)
theorem dX3_net_21 : decode cX3_net 21 = .ok (.if_icmp .ge 20, 3) := dk_162 0 20 (dk_at dksX3_net_0 21 rfl rfl)
theorem dX3_net_24 : decode cX3_net 24 = .ok (.aload_n 3, 1) := dk_45 (dk_at dksX3_net_1 0 rfl rfl)
theorem dX3_net_25 : decode cX3_net 25 = .ok (.iload 5, 2) := dk_21 5 (dk_at dksX3_net_1 1 rfl rfl)
theorem dX3_net_27 : decode cX3_net 27 = .ok (.laload, 1) := dk_47 (dk_at dksX3_net_1 3 rfl rfl)
theorem dX3_net_28 : decode cX3_net 28 = .ok (.lstore 6, 2) := dk_55 6 (dk_at dksX3_net_1 4 rfl rfl)
theorem dX3_net_30 : decode cX3_net 30 = .ok (.lload_n 1, 1) := dk_31 (dk_at dksX3_net_1 6 rfl rfl)
theorem dX3_net_31 : decode cX3_net 31 = .ok (.lload 6, 2) := dk_22 6 (dk_at dksX3_net_1 7 rfl rfl)
theorem dX3_net_33 : decode cX3_net 33 = .ok (.lsub, 1) := dk_101 (dk_at dksX3_net_1 9 rfl rfl)
theorem dX3_net_34 : decode cX3_net 34 = .ok (.lstore_n 1, 1) := dk_64 (dk_at dksX3_net_1 10 rfl rfl)
theorem dX3_net_35 : decode cX3_net 35 = .ok (.iinc 5 1, 3) := dk_132 5 1 (dk_at dksX3_net_1 11 rfl rfl)
theorem dX3_net_38 : decode cX3_net 38 = .ok (.goto (-21), 3) := dk_167 255 235 (dk_at dksX3_net_1 14 rfl rfl)
theorem dX3_net_41 : decode cX3_net 41 = .ok (.lload_n 1, 1) := dk_31 (dk_at dksX3_net_1 17 rfl rfl)
theorem dX3_net_42 : decode cX3_net 42 = .ok (.lreturn, 1) := dk_173 (dk_at dksX3_net_1 18 rfl rfl)
theorem q54 : (Jvm.Cond.initialized "HundiHall$Broker") ∈ lw_all := lw_g (lw_at lw_m1 14 rfl) rfl
theorem q413 : (Jvm.Cond.instantiable "HundiHall$Broker" (11 : Nat)) ∈ lw_all := lw_g (lw_at lw_m2 133 rfl) rfl
theorem q415 : (Jvm.Cond.instanceMethod ({ cls := "HundiHall$Broker", name := "<init>", desc := "(IIII)V" } : Jvm.MethodName)) ∈ lw_all := lw_g (lw_at lw_m2 135 rfl) rfl
theorem q416 : (Jvm.Cond.code ({ cls := "HundiHall$Broker", name := "<init>", desc := "(IIII)V" } : Jvm.MethodName) prog_3_method_1_code (5 : Nat) (Option.none : Option Jvm.ClassFile.FieldType)) ∈ lw_all := lw_g (lw_at lw_m2 136 rfl) rfl
theorem q417 : (Jvm.Cond.methodLink "HundiHall$Broker" (3 : Nat) ({ cls := "java/lang/Object", name := "<init>", desc := "()V" } : Jvm.MethodName)) ∈ lw_all := lw_g (lw_at lw_m2 137 rfl) rfl
theorem q418 : (Jvm.Cond.fieldLink "HundiHall$Broker" (30 : Nat) "HundiHall$Broker" "number" "I") ∈ lw_all := lw_g (lw_at lw_m2 138 rfl) rfl
theorem q420 : (Jvm.Cond.fieldLink "HundiHall$Broker" (33 : Nat) "HundiHall$Broker" "town" "I") ∈ lw_all := lw_g (lw_at lw_m2 140 rfl) rfl
theorem q422 : (Jvm.Cond.fieldLink "HundiHall$Broker" (36 : Nat) "HundiHall$Broker" "cash" "J") ∈ lw_all := lw_g (lw_at lw_m2 142 rfl) rfl
theorem q424 : (Jvm.Cond.fieldLink "HundiHall$Broker" (40 : Nat) "HundiHall$Broker" "rate" "I") ∈ lw_all := lw_g (lw_at lw_m2 144 rfl) rfl
theorem q426 : (Jvm.Cond.fieldLink "HundiHall$Broker" (9 : Nat) "HundiHall$Broker" "state" "I") ∈ lw_all := lw_g (lw_at lw_m2 146 rfl) rfl
theorem q430 : (Jvm.Cond.fieldLink "HundiHall$Broker" (15 : Nat) "HundiHall$Broker" "owes" "[J") ∈ lw_all := lw_g (lw_at lw_m2 150 rfl) rfl
theorem q432 : (Jvm.Cond.fieldLink "HundiHall$Broker" (19 : Nat) "HundiHall$Broker" "book" "[J") ∈ lw_all := lw_g (lw_at lw_m2 152 rfl) rfl
theorem q434 : (Jvm.Cond.fieldLink "HundiHall$Broker" (22 : Nat) "HundiHall$Broker" "limits" "[I") ∈ lw_all := lw_g (lw_at lw_m2 154 rfl) rfl
theorem q436 : (Jvm.Cond.fieldLink "HundiHall$Broker" (26 : Nat) "HundiHall$Broker" "areKin" "[Z") ∈ lw_all := lw_g (lw_at lw_m2 156 rfl) rfl
theorem q438 : (Jvm.Cond.laysFinal "HundiHall$Broker" "HundiHall$Broker" "number" "I") ∈ lw_all := lw_g (lw_at lw_m2 158 rfl) rfl
theorem q439 : (Jvm.Cond.soleField "HundiHall$Broker" "number") ∈ lw_all := lw_g (lw_at lw_m2 159 rfl) rfl
theorem q440 : (Jvm.Cond.laysFinal "HundiHall$Broker" "HundiHall$Broker" "town" "I") ∈ lw_all := lw_g (lw_at lw_m2 160 rfl) rfl
theorem q441 : (Jvm.Cond.soleField "HundiHall$Broker" "town") ∈ lw_all := lw_g (lw_at lw_m2 161 rfl) rfl
theorem q442 : (Jvm.Cond.lays "HundiHall$Broker" "HundiHall$Broker" "cash" "J") ∈ lw_all := lw_g (lw_at lw_m2 162 rfl) rfl
theorem q443 : (Jvm.Cond.soleField "HundiHall$Broker" "cash") ∈ lw_all := lw_g (lw_at lw_m2 163 rfl) rfl
theorem q444 : (Jvm.Cond.lays "HundiHall$Broker" "HundiHall$Broker" "rate" "I") ∈ lw_all := lw_g (lw_at lw_m2 164 rfl) rfl
theorem q445 : (Jvm.Cond.soleField "HundiHall$Broker" "rate") ∈ lw_all := lw_g (lw_at lw_m2 165 rfl) rfl
theorem q446 : (Jvm.Cond.lays "HundiHall$Broker" "HundiHall$Broker" "state" "I") ∈ lw_all := lw_g (lw_at lw_m2 166 rfl) rfl
theorem q447 : (Jvm.Cond.soleField "HundiHall$Broker" "state") ∈ lw_all := lw_g (lw_at lw_m2 167 rfl) rfl
theorem q448 : (Jvm.Cond.lays "HundiHall$Broker" "HundiHall$Broker" "raidedUntil" "I") ∈ lw_all := lw_g (lw_at lw_m2 168 rfl) rfl
theorem q449 : (Jvm.Cond.soleField "HundiHall$Broker" "raidedUntil") ∈ lw_all := lw_g (lw_at lw_m2 169 rfl) rfl
theorem q450 : (Jvm.Cond.lays "HundiHall$Broker" "HundiHall$Broker" "wasRaided" "Z") ∈ lw_all := lw_g (lw_at lw_m2 170 rfl) rfl
theorem q451 : (Jvm.Cond.soleField "HundiHall$Broker" "wasRaided") ∈ lw_all := lw_g (lw_at lw_m2 171 rfl) rfl
theorem q452 : (Jvm.Cond.laysFinal "HundiHall$Broker" "HundiHall$Broker" "owes" "[J") ∈ lw_all := lw_g (lw_at lw_m2 172 rfl) rfl
theorem q453 : (Jvm.Cond.soleField "HundiHall$Broker" "owes") ∈ lw_all := lw_g (lw_at lw_m2 173 rfl) rfl
theorem q454 : (Jvm.Cond.laysFinal "HundiHall$Broker" "HundiHall$Broker" "book" "[J") ∈ lw_all := lw_g (lw_at lw_m2 174 rfl) rfl
theorem q455 : (Jvm.Cond.soleField "HundiHall$Broker" "book") ∈ lw_all := lw_g (lw_at lw_m2 175 rfl) rfl
theorem q456 : (Jvm.Cond.laysFinal "HundiHall$Broker" "HundiHall$Broker" "limits" "[I") ∈ lw_all := lw_g (lw_at lw_m2 176 rfl) rfl
theorem q457 : (Jvm.Cond.soleField "HundiHall$Broker" "limits") ∈ lw_all := lw_g (lw_at lw_m2 177 rfl) rfl
theorem q458 : (Jvm.Cond.laysFinal "HundiHall$Broker" "HundiHall$Broker" "areKin" "[Z") ∈ lw_all := lw_g (lw_at lw_m2 178 rfl) rfl
theorem q459 : (Jvm.Cond.soleField "HundiHall$Broker" "areKin") ∈ lw_all := lw_g (lw_at lw_m2 179 rfl) rfl
theorem q460 : (Jvm.Cond.superclass "HundiHall$Broker" "java/lang/Object") ∈ lw_all := lw_g (lw_at lw_m2 180 rfl) rfl
theorem q494 : (Jvm.Cond.selects "HundiHall$Broker" ({ cls := "java/lang/Object", name := "getClass", desc := "()Ljava/lang/Class;" } : Jvm.MethodName) ({ cls := "java/lang/Object", name := "getClass", desc := "()Ljava/lang/Class;" } : Jvm.MethodName)) ∈ lw_all := lw_g (lw_at lw_m2 214 rfl) rfl
theorem q642 : (Jvm.Cond.instanceMethod ({ cls := "HundiHall$Broker", name := "feeOf", desc := "(I)I" } : Jvm.MethodName)) ∈ lw_all := lw_g (lw_at lw_m3 122 rfl) rfl
theorem q643 : (Jvm.Cond.selects "HundiHall$Broker" ({ cls := "HundiHall$Broker", name := "feeOf", desc := "(I)I" } : Jvm.MethodName) ({ cls := "HundiHall$Broker", name := "feeOf", desc := "(I)I" } : Jvm.MethodName)) ∈ lw_all := lw_g (lw_at lw_m3 123 rfl) rfl
theorem q644 : (Jvm.Cond.code ({ cls := "HundiHall$Broker", name := "feeOf", desc := "(I)I" } : Jvm.MethodName) prog_3_method_2_code (2 : Nat) (Option.some Jvm.ClassFile.FieldType.int)) ∈ lw_all := lw_g (lw_at lw_m3 124 rfl) rfl
theorem q645 : (Jvm.Cond.constantLong "HundiHall$Broker" (43 : Nat) (1000 : Int64)) ∈ lw_all := lw_g (lw_at lw_m3 125 rfl) rfl
theorem q871 : (Jvm.Cond.instanceMethod ({ cls := "HundiHall$Broker", name := "net", desc := "()J" } : Jvm.MethodName)) ∈ lw_all := lw_g (lw_at lw_m4 111 rfl) rfl
theorem q872 : (Jvm.Cond.selects "HundiHall$Broker" ({ cls := "HundiHall$Broker", name := "net", desc := "()J" } : Jvm.MethodName) ({ cls := "HundiHall$Broker", name := "net", desc := "()J" } : Jvm.MethodName)) ∈ lw_all := lw_g (lw_at lw_m4 112 rfl) rfl
theorem q873 : (Jvm.Cond.code ({ cls := "HundiHall$Broker", name := "net", desc := "()J" } : Jvm.MethodName) prog_3_method_3_code (8 : Nat) (Option.some Jvm.ClassFile.FieldType.long)) ∈ lw_all := lw_g (lw_at lw_m4 113 rfl) rfl
theorem q1240 : (Jvm.Cond.castable "HundiHall$Broker" "java/lang/Object") ∈ lw_tbl := lw_at lw_m6 0 rfl
theorem in_X3 : ∀ w ∈ wsX30, w ∈ lw_all := lw_in wsX30 [438, 440, 442, 444, 446, 448, 450, 452, 454, 456, 458] (by decide +kernel) (by decide +kernel)
/-! HundiHall$Word -/
set_option maxRecDepth 100000
def RX4 : String := "HundiHall$Word"
def TX4 : u_T := fun k => match k with
  | _ => ("HundiHall$Word", "broker", "LHundiHall$Broker;", true)
def tyX4 : Nat → FieldType := fun k => match k with
  | _ => .object "HundiHall$Broker"
abbrev wsX40 : List Cond := u_ws RX4 TX4 1
theorem nmX4 : ∀ a, a < 1 → ∀ b, b < 1 → a ≠ b → (TX4 a).2.1 ≠ (TX4 b).2.1 := by decide +kernel
theorem tyX4_ok : ∀ k, k < 1 → parseFieldDescriptor (TX4 k).2.2.1 = some (tyX4 k) := by decide +kernel
abbrev cX4_init : ByteArray := prog_9_method_1_code
def yX4_init : MethodName := ⟨RX4, "<init>", "(LHundiHall$Broker;)V"⟩
def dkwX4_init_0 : List UInt8 := [42, 183, 0, 1, 42, 43, 181, 0, 7, 177]
abbrev dktX4_init_0 : List UInt8 := dkwX4_init_0 ++ []
theorem dksX4_init_0 : cX4_init.data.toList.drop 0 = dktX4_init_0 := by decide +kernel
theorem dX4_init_0 : decode cX4_init 0 = .ok (.aload_n 0, 1) := dk_42 (dk_at dksX4_init_0 0 rfl rfl)
theorem dX4_init_1 : decode cX4_init 1 = .ok (.invokespecial 1, 3) := dk_183 0 1 (dk_at dksX4_init_0 1 rfl rfl)
theorem dX4_init_4 : decode cX4_init 4 = .ok (.aload_n 0, 1) := dk_42 (dk_at dksX4_init_0 4 rfl rfl)
theorem dX4_init_5 : decode cX4_init 5 = .ok (.aload_n 1, 1) := dk_43 (dk_at dksX4_init_0 5 rfl rfl)
theorem dX4_init_6 : decode cX4_init 6 = .ok (.putfield 7, 3) := dk_181 0 7 (dk_at dksX4_init_0 6 rfl rfl)
theorem dX4_init_9 : decode cX4_init 9 = .ok (.return_, 1) := dk_177 (dk_at dksX4_init_0 9 rfl rfl)
theorem q62 : (Jvm.Cond.initialized "HundiHall$Word") ∈ lw_all := lw_g (lw_at lw_m1 22 rfl) rfl
theorem q500 : (Jvm.Cond.selects "HundiHall$Word" ({ cls := "java/lang/Object", name := "getClass", desc := "()Ljava/lang/Class;" } : Jvm.MethodName) ({ cls := "java/lang/Object", name := "getClass", desc := "()Ljava/lang/Class;" } : Jvm.MethodName)) ∈ lw_all := lw_g (lw_at lw_m2 220 rfl) rfl
theorem q579 : (Jvm.Cond.instantiable "HundiHall$Word" (1 : Nat)) ∈ lw_all := lw_g (lw_at lw_m3 59 rfl) rfl
theorem q581 : (Jvm.Cond.instanceMethod ({ cls := "HundiHall$Word", name := "<init>", desc := "(LHundiHall$Broker;)V" } : Jvm.MethodName)) ∈ lw_all := lw_g (lw_at lw_m3 61 rfl) rfl
theorem q582 : (Jvm.Cond.code ({ cls := "HundiHall$Word", name := "<init>", desc := "(LHundiHall$Broker;)V" } : Jvm.MethodName) prog_9_method_1_code (2 : Nat) (Option.none : Option Jvm.ClassFile.FieldType)) ∈ lw_all := lw_g (lw_at lw_m3 62 rfl) rfl
theorem q583 : (Jvm.Cond.methodLink "HundiHall$Word" (1 : Nat) ({ cls := "java/lang/Record", name := "<init>", desc := "()V" } : Jvm.MethodName)) ∈ lw_all := lw_g (lw_at lw_m3 63 rfl) rfl
theorem q584 : (Jvm.Cond.fieldLink "HundiHall$Word" (7 : Nat) "HundiHall$Word" "broker" "LHundiHall$Broker;") ∈ lw_all := lw_g (lw_at lw_m3 64 rfl) rfl
theorem q586 : (Jvm.Cond.laysFinal "HundiHall$Word" "HundiHall$Word" "broker" "LHundiHall$Broker;") ∈ lw_all := lw_g (lw_at lw_m3 66 rfl) rfl
theorem q587 : (Jvm.Cond.soleField "HundiHall$Word" "broker") ∈ lw_all := lw_g (lw_at lw_m3 67 rfl) rfl
theorem q588 : (Jvm.Cond.superclass "HundiHall$Word" "java/lang/Record") ∈ lw_all := lw_g (lw_at lw_m3 68 rfl) rfl
theorem q1248 : (Jvm.Cond.castable "HundiHall$Word" "java/lang/Object") ∈ lw_tbl := lw_at lw_m6 8 rfl
theorem in_X4 : ∀ w ∈ wsX40, w ∈ lw_all := lw_in wsX40 [586] (by decide +kernel) (by decide +kernel)
/-! HundiHall$Hop -/
set_option maxRecDepth 100000
def RX5 : String := "HundiHall$Hop"
def TX5 : u_T := fun k => match k with
  | 0 => ("HundiHall$Hop", "from", "LHundiHall$Broker;", true)
  | 1 => ("HundiHall$Hop", "to", "LHundiHall$Broker;", true)
  | 2 => ("HundiHall$Hop", "debt", "J", true)
  | _ => ("HundiHall$Hop", "place", "I", true)
def tyX5 : Nat → FieldType := fun k => match k with
  | 0 => .object "HundiHall$Broker"
  | 1 => .object "HundiHall$Broker"
  | 2 => .long
  | _ => .int
abbrev wsX50 : List Cond := u_ws RX5 TX5 4
theorem nmX5 : ∀ a, a < 4 → ∀ b, b < 4 → a ≠ b → (TX5 a).2.1 ≠ (TX5 b).2.1 := by decide +kernel
theorem tyX5_ok : ∀ k, k < 4 → parseFieldDescriptor (TX5 k).2.2.1 = some (tyX5 k) := by decide +kernel
abbrev cX5_init : ByteArray := prog_5_method_1_code
def yX5_init : MethodName := ⟨RX5, "<init>", "(LHundiHall$Broker;LHundiHall$Broker;JI)V"⟩
def dkwX5_init_1 : List UInt8 := [181, 0, 20, 177]
abbrev dktX5_init_1 : List UInt8 := dkwX5_init_1 ++ []
def dkwX5_init_0 : List UInt8 := [42, 183, 0, 1, 42, 43, 181, 0, 7, 42, 44, 181, 0, 13, 42, 33, 181, 0, 16, 42, 21, 5]
abbrev dktX5_init_0 : List UInt8 := dkwX5_init_0 ++ dktX5_init_1
theorem dksX5_init_0 : cX5_init.data.toList.drop 0 = dktX5_init_0 := by decide +kernel
theorem dksX5_init_1 : cX5_init.data.toList.drop 22 = dktX5_init_1 := dk_seg dksX5_init_0 22 rfl rfl
theorem dX5_init_0 : decode cX5_init 0 = .ok (.aload_n 0, 1) := dk_42 (dk_at dksX5_init_0 0 rfl rfl)
theorem dX5_init_1 : decode cX5_init 1 = .ok (.invokespecial 1, 3) := dk_183 0 1 (dk_at dksX5_init_0 1 rfl rfl)
theorem dX5_init_4 : decode cX5_init 4 = .ok (.aload_n 0, 1) := dk_42 (dk_at dksX5_init_0 4 rfl rfl)
theorem dX5_init_5 : decode cX5_init 5 = .ok (.aload_n 1, 1) := dk_43 (dk_at dksX5_init_0 5 rfl rfl)
theorem dX5_init_6 : decode cX5_init 6 = .ok (.putfield 7, 3) := dk_181 0 7 (dk_at dksX5_init_0 6 rfl rfl)
theorem dX5_init_9 : decode cX5_init 9 = .ok (.aload_n 0, 1) := dk_42 (dk_at dksX5_init_0 9 rfl rfl)
theorem dX5_init_10 : decode cX5_init 10 = .ok (.aload_n 2, 1) := dk_44 (dk_at dksX5_init_0 10 rfl rfl)
theorem dX5_init_11 : decode cX5_init 11 = .ok (.putfield 13, 3) := dk_181 0 13 (dk_at dksX5_init_0 11 rfl rfl)
theorem dX5_init_14 : decode cX5_init 14 = .ok (.aload_n 0, 1) := dk_42 (dk_at dksX5_init_0 14 rfl rfl)
theorem dX5_init_15 : decode cX5_init 15 = .ok (.lload_n 3, 1) := dk_33 (dk_at dksX5_init_0 15 rfl rfl)
theorem dX5_init_16 : decode cX5_init 16 = .ok (.putfield 16, 3) := dk_181 0 16 (dk_at dksX5_init_0 16 rfl rfl)
theorem dX5_init_19 : decode cX5_init 19 = .ok (.aload_n 0, 1) := dk_42 (dk_at dksX5_init_0 19 rfl rfl)
theorem dX5_init_20 : decode cX5_init 20 = .ok (.iload 5, 2) := dk_21 5 (dk_at dksX5_init_0 20 rfl rfl)
theorem dX5_init_22 : decode cX5_init 22 = .ok (.putfield 20, 3) := dk_181 0 20 (dk_at dksX5_init_1 0 rfl rfl)
theorem dX5_init_25 : decode cX5_init 25 = .ok (.return_, 1) := dk_177 (dk_at dksX5_init_1 3 rfl rfl)
theorem q64 : (Jvm.Cond.initialized "HundiHall$Hop") ∈ lw_all := lw_g (lw_at lw_m1 24 rfl) rfl
theorem q199 : (Jvm.Cond.instantiable "HundiHall$Hop" (4 : Nat)) ∈ lw_all := lw_g (lw_at lw_m1 159 rfl) rfl
theorem q201 : (Jvm.Cond.instanceMethod ({ cls := "HundiHall$Hop", name := "<init>", desc := "(LHundiHall$Broker;LHundiHall$Broker;JI)V" } : Jvm.MethodName)) ∈ lw_all := lw_g (lw_at lw_m1 161 rfl) rfl
theorem q202 : (Jvm.Cond.code ({ cls := "HundiHall$Hop", name := "<init>", desc := "(LHundiHall$Broker;LHundiHall$Broker;JI)V" } : Jvm.MethodName) prog_5_method_1_code (6 : Nat) (Option.none : Option Jvm.ClassFile.FieldType)) ∈ lw_all := lw_g (lw_at lw_m1 162 rfl) rfl
theorem q203 : (Jvm.Cond.methodLink "HundiHall$Hop" (1 : Nat) ({ cls := "java/lang/Record", name := "<init>", desc := "()V" } : Jvm.MethodName)) ∈ lw_all := lw_g (lw_at lw_m1 163 rfl) rfl
theorem q207 : (Jvm.Cond.fieldLink "HundiHall$Hop" (7 : Nat) "HundiHall$Hop" "from" "LHundiHall$Broker;") ∈ lw_all := lw_g (lw_at lw_m1 167 rfl) rfl
theorem q209 : (Jvm.Cond.fieldLink "HundiHall$Hop" (13 : Nat) "HundiHall$Hop" "to" "LHundiHall$Broker;") ∈ lw_all := lw_g (lw_at lw_m1 169 rfl) rfl
theorem q211 : (Jvm.Cond.fieldLink "HundiHall$Hop" (16 : Nat) "HundiHall$Hop" "debt" "J") ∈ lw_all := lw_g (lw_at lw_m1 171 rfl) rfl
theorem q213 : (Jvm.Cond.fieldLink "HundiHall$Hop" (20 : Nat) "HundiHall$Hop" "place" "I") ∈ lw_all := lw_g (lw_at lw_m1 173 rfl) rfl
theorem q215 : (Jvm.Cond.laysFinal "HundiHall$Hop" "HundiHall$Hop" "from" "LHundiHall$Broker;") ∈ lw_all := lw_g (lw_at lw_m1 175 rfl) rfl
theorem q216 : (Jvm.Cond.soleField "HundiHall$Hop" "from") ∈ lw_all := lw_g (lw_at lw_m1 176 rfl) rfl
theorem q217 : (Jvm.Cond.laysFinal "HundiHall$Hop" "HundiHall$Hop" "to" "LHundiHall$Broker;") ∈ lw_all := lw_g (lw_at lw_m1 177 rfl) rfl
theorem q218 : (Jvm.Cond.soleField "HundiHall$Hop" "to") ∈ lw_all := lw_g (lw_at lw_m1 178 rfl) rfl
theorem q219 : (Jvm.Cond.laysFinal "HundiHall$Hop" "HundiHall$Hop" "debt" "J") ∈ lw_all := lw_g (lw_at lw_m1 179 rfl) rfl
theorem q220 : (Jvm.Cond.soleField "HundiHall$Hop" "debt") ∈ lw_all := lw_g (lw_at lw_m1 180 rfl) rfl
theorem q221 : (Jvm.Cond.laysFinal "HundiHall$Hop" "HundiHall$Hop" "place" "I") ∈ lw_all := lw_g (lw_at lw_m1 181 rfl) rfl
theorem q222 : (Jvm.Cond.soleField "HundiHall$Hop" "place") ∈ lw_all := lw_g (lw_at lw_m1 182 rfl) rfl
theorem q223 : (Jvm.Cond.superclass "HundiHall$Hop" "java/lang/Record") ∈ lw_all := lw_g (lw_at lw_m1 183 rfl) rfl
theorem q496 : (Jvm.Cond.selects "HundiHall$Hop" ({ cls := "java/lang/Object", name := "getClass", desc := "()Ljava/lang/Class;" } : Jvm.MethodName) ({ cls := "java/lang/Object", name := "getClass", desc := "()Ljava/lang/Class;" } : Jvm.MethodName)) ∈ lw_all := lw_g (lw_at lw_m2 216 rfl) rfl
theorem q1251 : (Jvm.Cond.castable "HundiHall$Hop" "java/lang/Object") ∈ lw_tbl := lw_at lw_m6 11 rfl
theorem in_X5 : ∀ w ∈ wsX50, w ∈ lw_all := lw_in wsX50 [215, 217, 219, 221] (by decide +kernel) (by decide +kernel)
/-! HundiHall$Order$1 -/
set_option maxRecDepth 100000
def RX6 : String := "HundiHall$Order$1"
def TX6 : u_T := fun k => match k with
  | 0 => ("HundiHall$Order$1", "at", "I", false)
  | _ => ("HundiHall$Order$1", "this$0", "LHundiHall$Order;", true)
def tyX6 : Nat → FieldType := fun k => match k with
  | 0 => .int
  | _ => .object "HundiHall$Order"
abbrev wsX60 : List Cond := u_ws RX6 TX6 2
theorem nmX6 : ∀ a, a < 2 → ∀ b, b < 2 → a ≠ b → (TX6 a).2.1 ≠ (TX6 b).2.1 := by decide +kernel
theorem tyX6_ok : ∀ k, k < 2 → parseFieldDescriptor (TX6 k).2.2.1 = some (tyX6 k) := by decide +kernel
abbrev cX6_hasNext : ByteArray := prog_7_method_2_code
def yX6_hasNext : MethodName := ⟨RX6, "hasNext", "()Z"⟩
def dkwX6_hasNext_0 : List UInt8 := [42, 180, 0, 13, 42, 180, 0, 1, 180, 0, 17, 190, 4, 100, 162, 0, 7, 4, 167, 0, 4, 3, 172]
abbrev dktX6_hasNext_0 : List UInt8 := dkwX6_hasNext_0 ++ []
theorem dksX6_hasNext_0 : cX6_hasNext.data.toList.drop 0 = dktX6_hasNext_0 := by decide +kernel
theorem dX6_hasNext_0 : decode cX6_hasNext 0 = .ok (.aload_n 0, 1) := dk_42 (dk_at dksX6_hasNext_0 0 rfl rfl)
theorem dX6_hasNext_1 : decode cX6_hasNext 1 = .ok (.getfield 13, 3) := dk_180 0 13 (dk_at dksX6_hasNext_0 1 rfl rfl)
theorem dX6_hasNext_4 : decode cX6_hasNext 4 = .ok (.aload_n 0, 1) := dk_42 (dk_at dksX6_hasNext_0 4 rfl rfl)
theorem dX6_hasNext_5 : decode cX6_hasNext 5 = .ok (.getfield 1, 3) := dk_180 0 1 (dk_at dksX6_hasNext_0 5 rfl rfl)
theorem dX6_hasNext_8 : decode cX6_hasNext 8 = .ok (.getfield 17, 3) := dk_180 0 17 (dk_at dksX6_hasNext_0 8 rfl rfl)
theorem dX6_hasNext_11 : decode cX6_hasNext 11 = .ok (.arraylength, 1) := dk_190 (dk_at dksX6_hasNext_0 11 rfl rfl)
theorem dX6_hasNext_12 : decode cX6_hasNext 12 = .ok (.iconst 1, 1) := dk_4 (dk_at dksX6_hasNext_0 12 rfl rfl)
theorem dX6_hasNext_13 : decode cX6_hasNext 13 = .ok (.isub, 1) := dk_100 (dk_at dksX6_hasNext_0 13 rfl rfl)
theorem dX6_hasNext_14 : decode cX6_hasNext 14 = .ok (.if_icmp .ge 7, 3) := dk_162 0 7 (dk_at dksX6_hasNext_0 14 rfl rfl)
theorem dX6_hasNext_17 : decode cX6_hasNext 17 = .ok (.iconst 1, 1) := dk_4 (dk_at dksX6_hasNext_0 17 rfl rfl)
theorem dX6_hasNext_18 : decode cX6_hasNext 18 = .ok (.goto 4, 3) := dk_167 0 4 (dk_at dksX6_hasNext_0 18 rfl rfl)
theorem dX6_hasNext_21 : decode cX6_hasNext 21 = .ok (.iconst 0, 1) := dk_3 (dk_at dksX6_hasNext_0 21 rfl rfl)
theorem dX6_hasNext_22 : decode cX6_hasNext 22 = .ok (.ireturn, 1) := dk_172 (dk_at dksX6_hasNext_0 22 rfl rfl)
abbrev cX6_next : ByteArray := prog_7_method_4_code
def yX6_next : MethodName := ⟨RX6, "next", "()Ljava/lang/Object;"⟩
theorem dX6_next_0 : decode cX6_next 0 = .ok (.aload_n 0, 1) := by decide +kernel
theorem dX6_next_1 : decode cX6_next 1 = .ok (.invokevirtual 32, 3) := by decide +kernel
theorem dX6_next_4 : decode cX6_next 4 = .ok (.areturn, 1) := by decide +kernel
abbrev cX6_next_2 : ByteArray := prog_7_method_3_code
def yX6_next_2 : MethodName := ⟨RX6, "next", "()LHundiHall$Hop;"⟩
def dkwX6_next_2_2 : List UInt8 := [180, 0, 25, 42, 180, 0, 13, 4, 100, 47, 42, 180, 0, 13, 4, 100, 183, 0, 29, 176]
abbrev dktX6_next_2_2 : List UInt8 := dkwX6_next_2_2 ++ []
def dkwX6_next_2_1 : List UInt8 := [180, 0, 13, 4, 100, 50, 42, 180, 0, 1, 180, 0, 17, 42, 180, 0, 13, 50, 42, 180, 0, 1]
abbrev dktX6_next_2_1 : List UInt8 := dkwX6_next_2_1 ++ dktX6_next_2_2
def dkwX6_next_2_0 : List UInt8 := [42, 89, 180, 0, 13, 4, 96, 181, 0, 13, 187, 0, 23, 89, 42, 180, 0, 1, 180, 0, 17, 42]
abbrev dktX6_next_2_0 : List UInt8 := dkwX6_next_2_0 ++ dktX6_next_2_1
theorem dksX6_next_2_0 : cX6_next_2.data.toList.drop 0 = dktX6_next_2_0 := by decide +kernel
theorem dksX6_next_2_1 : cX6_next_2.data.toList.drop 22 = dktX6_next_2_1 := dk_seg dksX6_next_2_0 22 rfl rfl
theorem dksX6_next_2_2 : cX6_next_2.data.toList.drop 44 = dktX6_next_2_2 := dk_seg dksX6_next_2_1 22 rfl rfl
theorem dX6_next_2_0 : decode cX6_next_2 0 = .ok (.aload_n 0, 1) := dk_42 (dk_at dksX6_next_2_0 0 rfl rfl)
theorem dX6_next_2_1 : decode cX6_next_2 1 = .ok (.dup, 1) := dk_89 (dk_at dksX6_next_2_0 1 rfl rfl)
theorem dX6_next_2_2 : decode cX6_next_2 2 = .ok (.getfield 13, 3) := dk_180 0 13 (dk_at dksX6_next_2_0 2 rfl rfl)
theorem dX6_next_2_5 : decode cX6_next_2 5 = .ok (.iconst 1, 1) := dk_4 (dk_at dksX6_next_2_0 5 rfl rfl)
theorem dX6_next_2_6 : decode cX6_next_2 6 = .ok (.iadd, 1) := dk_96 (dk_at dksX6_next_2_0 6 rfl rfl)
theorem dX6_next_2_7 : decode cX6_next_2 7 = .ok (.putfield 13, 3) := dk_181 0 13 (dk_at dksX6_next_2_0 7 rfl rfl)
theorem dX6_next_2_10 : decode cX6_next_2 10 = .ok (.new 23, 3) := dk_187 0 23 (dk_at dksX6_next_2_0 10 rfl rfl)
theorem dX6_next_2_13 : decode cX6_next_2 13 = .ok (.dup, 1) := dk_89 (dk_at dksX6_next_2_0 13 rfl rfl)
theorem dX6_next_2_14 : decode cX6_next_2 14 = .ok (.aload_n 0, 1) := dk_42 (dk_at dksX6_next_2_0 14 rfl rfl)
theorem dX6_next_2_15 : decode cX6_next_2 15 = .ok (.getfield 1, 3) := dk_180 0 1 (dk_at dksX6_next_2_0 15 rfl rfl)
theorem dX6_next_2_18 : decode cX6_next_2 18 = .ok (.getfield 17, 3) := dk_180 0 17 (dk_at dksX6_next_2_0 18 rfl rfl)
theorem dX6_next_2_21 : decode cX6_next_2 21 = .ok (.aload_n 0, 1) := dk_42 (dk_at dksX6_next_2_0 21 rfl rfl)
theorem dX6_next_2_22 : decode cX6_next_2 22 = .ok (.getfield 13, 3) := dk_180 0 13 (dk_at dksX6_next_2_1 0 rfl rfl)
theorem dX6_next_2_25 : decode cX6_next_2 25 = .ok (.iconst 1, 1) := dk_4 (dk_at dksX6_next_2_1 3 rfl rfl)
theorem dX6_next_2_26 : decode cX6_next_2 26 = .ok (.isub, 1) := dk_100 (dk_at dksX6_next_2_1 4 rfl rfl)
theorem dX6_next_2_27 : decode cX6_next_2 27 = .ok (.aaload, 1) := dk_50 (dk_at dksX6_next_2_1 5 rfl rfl)
theorem dX6_next_2_28 : decode cX6_next_2 28 = .ok (.aload_n 0, 1) := dk_42 (dk_at dksX6_next_2_1 6 rfl rfl)
theorem dX6_next_2_29 : decode cX6_next_2 29 = .ok (.getfield 1, 3) := dk_180 0 1 (dk_at dksX6_next_2_1 7 rfl rfl)
theorem dX6_next_2_32 : decode cX6_next_2 32 = .ok (.getfield 17, 3) := dk_180 0 17 (dk_at dksX6_next_2_1 10 rfl rfl)
theorem dX6_next_2_35 : decode cX6_next_2 35 = .ok (.aload_n 0, 1) := dk_42 (dk_at dksX6_next_2_1 13 rfl rfl)
theorem dX6_next_2_36 : decode cX6_next_2 36 = .ok (.getfield 13, 3) := dk_180 0 13 (dk_at dksX6_next_2_1 14 rfl rfl)
theorem dX6_next_2_39 : decode cX6_next_2 39 = .ok (.aaload, 1) := dk_50 (dk_at dksX6_next_2_1 17 rfl rfl)
theorem dX6_next_2_40 : decode cX6_next_2 40 = .ok (.aload_n 0, 1) := dk_42 (dk_at dksX6_next_2_1 18 rfl rfl)
theorem dX6_next_2_41 : decode cX6_next_2 41 = .ok (.getfield 1, 3) := dk_180 0 1 (dk_at dksX6_next_2_1 19 rfl rfl)
theorem dX6_next_2_44 : decode cX6_next_2 44 = .ok (.getfield 25, 3) := dk_180 0 25 (dk_at dksX6_next_2_2 0 rfl rfl)
theorem dX6_next_2_47 : decode cX6_next_2 47 = .ok (.aload_n 0, 1) := dk_42 (dk_at dksX6_next_2_2 3 rfl rfl)
theorem dX6_next_2_48 : decode cX6_next_2 48 = .ok (.getfield 13, 3) := dk_180 0 13 (dk_at dksX6_next_2_2 4 rfl rfl)
theorem dX6_next_2_51 : decode cX6_next_2 51 = .ok (.iconst 1, 1) := dk_4 (dk_at dksX6_next_2_2 7 rfl rfl)
theorem dX6_next_2_52 : decode cX6_next_2 52 = .ok (.isub, 1) := dk_100 (dk_at dksX6_next_2_2 8 rfl rfl)
theorem dX6_next_2_53 : decode cX6_next_2 53 = .ok (.laload, 1) := dk_47 (dk_at dksX6_next_2_2 9 rfl rfl)
theorem dX6_next_2_54 : decode cX6_next_2 54 = .ok (.aload_n 0, 1) := dk_42 (dk_at dksX6_next_2_2 10 rfl rfl)
theorem dX6_next_2_55 : decode cX6_next_2 55 = .ok (.getfield 13, 3) := dk_180 0 13 (dk_at dksX6_next_2_2 11 rfl rfl)
theorem dX6_next_2_58 : decode cX6_next_2 58 = .ok (.iconst 1, 1) := dk_4 (dk_at dksX6_next_2_2 14 rfl rfl)
theorem dX6_next_2_59 : decode cX6_next_2 59 = .ok (.isub, 1) := dk_100 (dk_at dksX6_next_2_2 15 rfl rfl)
theorem dX6_next_2_60 : decode cX6_next_2 60 = .ok (.invokespecial 29, 3) := dk_183 0 29 (dk_at dksX6_next_2_2 16 rfl rfl)
theorem dX6_next_2_63 : decode cX6_next_2 63 = .ok (.areturn, 1) := dk_176 (dk_at dksX6_next_2_2 19 rfl rfl)
abbrev cX6_init : ByteArray := prog_7_method_1_code
def yX6_init : MethodName := ⟨RX6, "<init>", "(LHundiHall$Order;)V"⟩
def dkwX6_init_0 : List UInt8 := [42, 43, 181, 0, 1, 42, 183, 0, 7, 177]
abbrev dktX6_init_0 : List UInt8 := dkwX6_init_0 ++ []
theorem dksX6_init_0 : cX6_init.data.toList.drop 0 = dktX6_init_0 := by decide +kernel
theorem dX6_init_0 : decode cX6_init 0 = .ok (.aload_n 0, 1) := dk_42 (dk_at dksX6_init_0 0 rfl rfl)
theorem dX6_init_1 : decode cX6_init 1 = .ok (.aload_n 1, 1) := dk_43 (dk_at dksX6_init_0 1 rfl rfl)
theorem dX6_init_2 : decode cX6_init 2 = .ok (.putfield 1, 3) := dk_181 0 1 (dk_at dksX6_init_0 2 rfl rfl)
theorem dX6_init_5 : decode cX6_init 5 = .ok (.aload_n 0, 1) := dk_42 (dk_at dksX6_init_0 5 rfl rfl)
theorem dX6_init_6 : decode cX6_init 6 = .ok (.invokespecial 7, 3) := dk_183 0 7 (dk_at dksX6_init_0 6 rfl rfl)
theorem dX6_init_9 : decode cX6_init 9 = .ok (.return_, 1) := dk_177 (dk_at dksX6_init_0 9 rfl rfl)
theorem q65 : (Jvm.Cond.initialized "HundiHall$Order$1") ∈ lw_all := lw_g (lw_at lw_m1 25 rfl) rfl
theorem q173 : (Jvm.Cond.castable "HundiHall$Order$1" "java/util/Iterator") ∈ lw_tbl := lw_at lw_m1 133 rfl
theorem q174 : (Jvm.Cond.selects "HundiHall$Order$1" ({ cls := "java/util/Iterator", name := "hasNext", desc := "()Z" } : Jvm.MethodName) ({ cls := "HundiHall$Order$1", name := "hasNext", desc := "()Z" } : Jvm.MethodName)) ∈ lw_all := lw_g (lw_at lw_m1 134 rfl) rfl
theorem q175 : (Jvm.Cond.unhidden "HundiHall$Order$1" "hasNext" "()Z") ∈ lw_tbl := lw_at lw_m1 135 rfl
theorem q176 : (Jvm.Cond.instanceMethod ({ cls := "HundiHall$Order$1", name := "hasNext", desc := "()Z" } : Jvm.MethodName)) ∈ lw_all := lw_g (lw_at lw_m1 136 rfl) rfl
theorem q177 : (Jvm.Cond.publicMethod ({ cls := "HundiHall$Order$1", name := "hasNext", desc := "()Z" } : Jvm.MethodName)) ∈ lw_tbl := lw_at lw_m1 137 rfl
theorem q178 : (Jvm.Cond.code ({ cls := "HundiHall$Order$1", name := "hasNext", desc := "()Z" } : Jvm.MethodName) prog_7_method_2_code (1 : Nat) (Option.some Jvm.ClassFile.FieldType.boolean)) ∈ lw_all := lw_g (lw_at lw_m1 138 rfl) rfl
theorem q189 : (Jvm.Cond.selects "HundiHall$Order$1" ({ cls := "java/util/Iterator", name := "next", desc := "()Ljava/lang/Object;" } : Jvm.MethodName) ({ cls := "HundiHall$Order$1", name := "next", desc := "()Ljava/lang/Object;" } : Jvm.MethodName)) ∈ lw_all := lw_g (lw_at lw_m1 149 rfl) rfl
theorem q190 : (Jvm.Cond.unhidden "HundiHall$Order$1" "next" "()Ljava/lang/Object;") ∈ lw_tbl := lw_at lw_m1 150 rfl
theorem q191 : (Jvm.Cond.instanceMethod ({ cls := "HundiHall$Order$1", name := "next", desc := "()Ljava/lang/Object;" } : Jvm.MethodName)) ∈ lw_all := lw_g (lw_at lw_m1 151 rfl) rfl
theorem q192 : (Jvm.Cond.publicMethod ({ cls := "HundiHall$Order$1", name := "next", desc := "()Ljava/lang/Object;" } : Jvm.MethodName)) ∈ lw_tbl := lw_at lw_m1 152 rfl
theorem q193 : (Jvm.Cond.code ({ cls := "HundiHall$Order$1", name := "next", desc := "()Ljava/lang/Object;" } : Jvm.MethodName) prog_7_method_4_code (1 : Nat) (Option.some (Jvm.ClassFile.FieldType.object "java/lang/Object"))) ∈ lw_all := lw_g (lw_at lw_m1 153 rfl) rfl
theorem q194 : (Jvm.Cond.methodLink "HundiHall$Order$1" (32 : Nat) ({ cls := "HundiHall$Order$1", name := "next", desc := "()LHundiHall$Hop;" } : Jvm.MethodName)) ∈ lw_all := lw_g (lw_at lw_m1 154 rfl) rfl
theorem q195 : (Jvm.Cond.instanceMethod ({ cls := "HundiHall$Order$1", name := "next", desc := "()LHundiHall$Hop;" } : Jvm.MethodName)) ∈ lw_all := lw_g (lw_at lw_m1 155 rfl) rfl
theorem q196 : (Jvm.Cond.selects "HundiHall$Order$1" ({ cls := "HundiHall$Order$1", name := "next", desc := "()LHundiHall$Hop;" } : Jvm.MethodName) ({ cls := "HundiHall$Order$1", name := "next", desc := "()LHundiHall$Hop;" } : Jvm.MethodName)) ∈ lw_all := lw_g (lw_at lw_m1 156 rfl) rfl
theorem q197 : (Jvm.Cond.code ({ cls := "HundiHall$Order$1", name := "next", desc := "()LHundiHall$Hop;" } : Jvm.MethodName) prog_7_method_3_code (1 : Nat) (Option.some (Jvm.ClassFile.FieldType.object "HundiHall$Hop"))) ∈ lw_all := lw_g (lw_at lw_m1 157 rfl) rfl
theorem q198 : (Jvm.Cond.classLink "HundiHall$Order$1" (23 : Nat) "HundiHall$Hop") ∈ lw_all := lw_g (lw_at lw_m1 158 rfl) rfl
theorem q200 : (Jvm.Cond.methodLinkNest "HundiHall$Order$1" (29 : Nat) ({ cls := "HundiHall$Hop", name := "<init>", desc := "(LHundiHall$Broker;LHundiHall$Broker;JI)V" } : Jvm.MethodName) "HundiHall") ∈ lw_tbl := lw_at lw_m1 160 rfl
theorem q498 : (Jvm.Cond.selects "HundiHall$Order$1" ({ cls := "java/lang/Object", name := "getClass", desc := "()Ljava/lang/Class;" } : Jvm.MethodName) ({ cls := "java/lang/Object", name := "getClass", desc := "()Ljava/lang/Class;" } : Jvm.MethodName)) ∈ lw_all := lw_g (lw_at lw_m2 218 rfl) rfl
theorem q611 : (Jvm.Cond.instantiable "HundiHall$Order$1" (2 : Nat)) ∈ lw_all := lw_g (lw_at lw_m3 91 rfl) rfl
theorem q613 : (Jvm.Cond.instanceMethod ({ cls := "HundiHall$Order$1", name := "<init>", desc := "(LHundiHall$Order;)V" } : Jvm.MethodName)) ∈ lw_all := lw_g (lw_at lw_m3 93 rfl) rfl
theorem q614 : (Jvm.Cond.code ({ cls := "HundiHall$Order$1", name := "<init>", desc := "(LHundiHall$Order;)V" } : Jvm.MethodName) prog_7_method_1_code (2 : Nat) (Option.none : Option Jvm.ClassFile.FieldType)) ∈ lw_all := lw_g (lw_at lw_m3 94 rfl) rfl
theorem q615 : (Jvm.Cond.methodLink "HundiHall$Order$1" (7 : Nat) ({ cls := "java/lang/Object", name := "<init>", desc := "()V" } : Jvm.MethodName)) ∈ lw_all := lw_g (lw_at lw_m3 95 rfl) rfl
theorem q616 : (Jvm.Cond.fieldLink "HundiHall$Order$1" (13 : Nat) "HundiHall$Order$1" "at" "I") ∈ lw_all := lw_g (lw_at lw_m3 96 rfl) rfl
theorem q617 : (Jvm.Cond.fieldLink "HundiHall$Order$1" (1 : Nat) "HundiHall$Order$1" "this$0" "LHundiHall$Order;") ∈ lw_all := lw_g (lw_at lw_m3 97 rfl) rfl
theorem q618 : (Jvm.Cond.lays "HundiHall$Order$1" "HundiHall$Order$1" "at" "I") ∈ lw_all := lw_g (lw_at lw_m3 98 rfl) rfl
theorem q619 : (Jvm.Cond.soleField "HundiHall$Order$1" "at") ∈ lw_all := lw_g (lw_at lw_m3 99 rfl) rfl
theorem q620 : (Jvm.Cond.laysFinal "HundiHall$Order$1" "HundiHall$Order$1" "this$0" "LHundiHall$Order;") ∈ lw_all := lw_g (lw_at lw_m3 100 rfl) rfl
theorem q621 : (Jvm.Cond.soleField "HundiHall$Order$1" "this$0") ∈ lw_all := lw_g (lw_at lw_m3 101 rfl) rfl
theorem q622 : (Jvm.Cond.superclass "HundiHall$Order$1" "java/lang/Object") ∈ lw_all := lw_g (lw_at lw_m3 102 rfl) rfl
theorem q723 : (Jvm.Cond.fieldLinkNest "HundiHall$Order$1" (17 : Nat) "HundiHall$Order" "way" "[LHundiHall$Broker;" "HundiHall") ∈ lw_tbl := lw_at lw_m3 203 rfl
theorem q727 : (Jvm.Cond.fieldLinkNest "HundiHall$Order$1" (25 : Nat) "HundiHall$Order" "debts" "[J" "HundiHall") ∈ lw_tbl := lw_at lw_m3 207 rfl
theorem q1250 : (Jvm.Cond.castable "HundiHall$Order$1" "java/lang/Object") ∈ lw_tbl := lw_at lw_m6 10 rfl
theorem in_X6 : ∀ w ∈ wsX60, w ∈ lw_all := lw_in wsX60 [618, 620] (by decide +kernel) (by decide +kernel)
/-! HundiHall$Raid -/
set_option maxRecDepth 100000
def RX7 : String := "HundiHall$Raid"
def TX7 : u_T := fun k => match k with
  | 0 => ("HundiHall$Raid", "broker", "LHundiHall$Broker;", true)
  | _ => ("HundiHall$Raid", "until", "I", true)
def tyX7 : Nat → FieldType := fun k => match k with
  | 0 => .object "HundiHall$Broker"
  | _ => .int
abbrev wsX70 : List Cond := u_ws RX7 TX7 2
theorem nmX7 : ∀ a, a < 2 → ∀ b, b < 2 → a ≠ b → (TX7 a).2.1 ≠ (TX7 b).2.1 := by decide +kernel
theorem tyX7_ok : ∀ k, k < 2 → parseFieldDescriptor (TX7 k).2.2.1 = some (tyX7 k) := by decide +kernel
abbrev cX7_init : ByteArray := prog_8_method_1_code
def yX7_init : MethodName := ⟨RX7, "<init>", "(LHundiHall$Broker;I)V"⟩
def dkwX7_init_0 : List UInt8 := [42, 183, 0, 1, 42, 43, 181, 0, 7, 42, 28, 181, 0, 13, 177]
abbrev dktX7_init_0 : List UInt8 := dkwX7_init_0 ++ []
theorem dksX7_init_0 : cX7_init.data.toList.drop 0 = dktX7_init_0 := by decide +kernel
theorem dX7_init_0 : decode cX7_init 0 = .ok (.aload_n 0, 1) := dk_42 (dk_at dksX7_init_0 0 rfl rfl)
theorem dX7_init_1 : decode cX7_init 1 = .ok (.invokespecial 1, 3) := dk_183 0 1 (dk_at dksX7_init_0 1 rfl rfl)
theorem dX7_init_4 : decode cX7_init 4 = .ok (.aload_n 0, 1) := dk_42 (dk_at dksX7_init_0 4 rfl rfl)
theorem dX7_init_5 : decode cX7_init 5 = .ok (.aload_n 1, 1) := dk_43 (dk_at dksX7_init_0 5 rfl rfl)
theorem dX7_init_6 : decode cX7_init 6 = .ok (.putfield 7, 3) := dk_181 0 7 (dk_at dksX7_init_0 6 rfl rfl)
theorem dX7_init_9 : decode cX7_init 9 = .ok (.aload_n 0, 1) := dk_42 (dk_at dksX7_init_0 9 rfl rfl)
theorem dX7_init_10 : decode cX7_init 10 = .ok (.iload_n 2, 1) := dk_28 (dk_at dksX7_init_0 10 rfl rfl)
theorem dX7_init_11 : decode cX7_init 11 = .ok (.putfield 13, 3) := dk_181 0 13 (dk_at dksX7_init_0 11 rfl rfl)
theorem dX7_init_14 : decode cX7_init 14 = .ok (.return_, 1) := dk_177 (dk_at dksX7_init_0 14 rfl rfl)
theorem q66 : (Jvm.Cond.initialized "HundiHall$Raid") ∈ lw_all := lw_g (lw_at lw_m1 26 rfl) rfl
theorem q499 : (Jvm.Cond.selects "HundiHall$Raid" ({ cls := "java/lang/Object", name := "getClass", desc := "()Ljava/lang/Class;" } : Jvm.MethodName) ({ cls := "java/lang/Object", name := "getClass", desc := "()Ljava/lang/Class;" } : Jvm.MethodName)) ∈ lw_all := lw_g (lw_at lw_m2 219 rfl) rfl
theorem q680 : (Jvm.Cond.instantiable "HundiHall$Raid" (2 : Nat)) ∈ lw_all := lw_g (lw_at lw_m3 160 rfl) rfl
theorem q682 : (Jvm.Cond.instanceMethod ({ cls := "HundiHall$Raid", name := "<init>", desc := "(LHundiHall$Broker;I)V" } : Jvm.MethodName)) ∈ lw_all := lw_g (lw_at lw_m3 162 rfl) rfl
theorem q683 : (Jvm.Cond.code ({ cls := "HundiHall$Raid", name := "<init>", desc := "(LHundiHall$Broker;I)V" } : Jvm.MethodName) prog_8_method_1_code (3 : Nat) (Option.none : Option Jvm.ClassFile.FieldType)) ∈ lw_all := lw_g (lw_at lw_m3 163 rfl) rfl
theorem q684 : (Jvm.Cond.methodLink "HundiHall$Raid" (1 : Nat) ({ cls := "java/lang/Record", name := "<init>", desc := "()V" } : Jvm.MethodName)) ∈ lw_all := lw_g (lw_at lw_m3 164 rfl) rfl
theorem q685 : (Jvm.Cond.fieldLink "HundiHall$Raid" (7 : Nat) "HundiHall$Raid" "broker" "LHundiHall$Broker;") ∈ lw_all := lw_g (lw_at lw_m3 165 rfl) rfl
theorem q687 : (Jvm.Cond.fieldLink "HundiHall$Raid" (13 : Nat) "HundiHall$Raid" "until" "I") ∈ lw_all := lw_g (lw_at lw_m3 167 rfl) rfl
theorem q689 : (Jvm.Cond.laysFinal "HundiHall$Raid" "HundiHall$Raid" "broker" "LHundiHall$Broker;") ∈ lw_all := lw_g (lw_at lw_m3 169 rfl) rfl
theorem q690 : (Jvm.Cond.soleField "HundiHall$Raid" "broker") ∈ lw_all := lw_g (lw_at lw_m3 170 rfl) rfl
theorem q691 : (Jvm.Cond.laysFinal "HundiHall$Raid" "HundiHall$Raid" "until" "I") ∈ lw_all := lw_g (lw_at lw_m3 171 rfl) rfl
theorem q692 : (Jvm.Cond.soleField "HundiHall$Raid" "until") ∈ lw_all := lw_g (lw_at lw_m3 172 rfl) rfl
theorem q693 : (Jvm.Cond.superclass "HundiHall$Raid" "java/lang/Record") ∈ lw_all := lw_g (lw_at lw_m3 173 rfl) rfl
theorem q1252 : (Jvm.Cond.castable "HundiHall$Raid" "java/lang/Object") ∈ lw_tbl := lw_at lw_m6 12 rfl
theorem in_X7 : ∀ w ∈ wsX70, w ∈ lw_all := lw_in wsX70 [689, 691] (by decide +kernel) (by decide +kernel)
/-! HundiHall$Order -/
set_option maxRecDepth 100000
def RX8 : String := "HundiHall$Order"
def TX8 : u_T := fun k => match k with
  | 0 => ("HundiHall$Order", "number", "I", true)
  | 1 => ("HundiHall$Order", "amount", "I", true)
  | 2 => ("HundiHall$Order", "code", "I", true)
  | 3 => ("HundiHall$Order", "given", "I", true)
  | 4 => ("HundiHall$Order", "sum", "I", true)
  | 5 => ("HundiHall$Order", "way", "[LHundiHall$Broker;", false)
  | 6 => ("HundiHall$Order", "fees", "[I", false)
  | 7 => ("HundiHall$Order", "debts", "[J", false)
  | 8 => ("HundiHall$Order", "place", "I", false)
  | 9 => ("HundiHall$Order", "tries", "I", false)
  | _ => ("HundiHall$Order", "state", "I", false)
def tyX8 : Nat → FieldType := fun k => match k with
  | 0 => .int
  | 1 => .int
  | 2 => .int
  | 3 => .int
  | 4 => .int
  | 5 => .array (.object "HundiHall$Broker")
  | 6 => .array .int
  | 7 => .array .long
  | 8 => .int
  | 9 => .int
  | _ => .int
abbrev wsX80 : List Cond := u_ws RX8 TX8 11
theorem nmX8 : ∀ a, a < 11 → ∀ b, b < 11 → a ≠ b → (TX8 a).2.1 ≠ (TX8 b).2.1 := by decide +kernel
theorem tyX8_ok : ∀ k, k < 11 → parseFieldDescriptor (TX8 k).2.2.1 = some (tyX8 k) := by decide +kernel
abbrev cX8_first : ByteArray := prog_6_method_2_code
def yX8_first : MethodName := ⟨RX8, "first", "()LHundiHall$Broker;"⟩
def dkwX8_first_0 : List UInt8 := [42, 180, 0, 27, 3, 50, 176]
abbrev dktX8_first_0 : List UInt8 := dkwX8_first_0 ++ []
theorem dksX8_first_0 : cX8_first.data.toList.drop 0 = dktX8_first_0 := by decide +kernel
theorem dX8_first_0 : decode cX8_first 0 = .ok (.aload_n 0, 1) := dk_42 (dk_at dksX8_first_0 0 rfl rfl)
theorem dX8_first_1 : decode cX8_first 1 = .ok (.getfield 27, 3) := dk_180 0 27 (dk_at dksX8_first_0 1 rfl rfl)
theorem dX8_first_4 : decode cX8_first 4 = .ok (.iconst 0, 1) := dk_3 (dk_at dksX8_first_0 4 rfl rfl)
theorem dX8_first_5 : decode cX8_first 5 = .ok (.aaload, 1) := dk_50 (dk_at dksX8_first_0 5 rfl rfl)
theorem dX8_first_6 : decode cX8_first 6 = .ok (.areturn, 1) := dk_176 (dk_at dksX8_first_0 6 rfl rfl)
abbrev cX8_iterator : ByteArray := prog_6_method_7_code
def yX8_iterator : MethodName := ⟨RX8, "iterator", "()Ljava/util/Iterator;"⟩
def dkwX8_iterator_0 : List UInt8 := [187, 0, 55, 89, 42, 183, 0, 57, 176]
abbrev dktX8_iterator_0 : List UInt8 := dkwX8_iterator_0 ++ []
theorem dksX8_iterator_0 : cX8_iterator.data.toList.drop 0 = dktX8_iterator_0 := by decide +kernel
theorem dX8_iterator_0 : decode cX8_iterator 0 = .ok (.new 55, 3) := dk_187 0 55 (dk_at dksX8_iterator_0 0 rfl rfl)
theorem dX8_iterator_3 : decode cX8_iterator 3 = .ok (.dup, 1) := dk_89 (dk_at dksX8_iterator_0 3 rfl rfl)
theorem dX8_iterator_4 : decode cX8_iterator 4 = .ok (.aload_n 0, 1) := dk_42 (dk_at dksX8_iterator_0 4 rfl rfl)
theorem dX8_iterator_5 : decode cX8_iterator 5 = .ok (.invokespecial 57, 3) := dk_183 0 57 (dk_at dksX8_iterator_0 5 rfl rfl)
theorem dX8_iterator_8 : decode cX8_iterator 8 = .ok (.areturn, 1) := dk_176 (dk_at dksX8_iterator_0 8 rfl rfl)
abbrev cX8_placeOf : ByteArray := prog_6_method_5_code
def yX8_placeOf : MethodName := ⟨RX8, "placeOf", "(LHundiHall$Broker;)I"⟩
def dkwX8_placeOf_1 : List UInt8 := [167, 0, 4, 28, 61, 132, 3, 1, 167, 255, 228, 28, 172]
abbrev dktX8_placeOf_1 : List UInt8 := dkwX8_placeOf_1 ++ []
def dkwX8_placeOf_0 : List UInt8 := [2, 61, 3, 62, 29, 42, 180, 0, 27, 190, 162, 0, 25, 42, 180, 0, 27, 29, 50, 43, 166, 0, 7, 29]
abbrev dktX8_placeOf_0 : List UInt8 := dkwX8_placeOf_0 ++ dktX8_placeOf_1
theorem dksX8_placeOf_0 : cX8_placeOf.data.toList.drop 0 = dktX8_placeOf_0 := by decide +kernel
theorem dksX8_placeOf_1 : cX8_placeOf.data.toList.drop 24 = dktX8_placeOf_1 := dk_seg dksX8_placeOf_0 24 rfl rfl
theorem dX8_placeOf_0 : decode cX8_placeOf 0 = .ok (.iconst (-1), 1) := dk_2 (dk_at dksX8_placeOf_0 0 rfl rfl)
theorem dX8_placeOf_1 : decode cX8_placeOf 1 = .ok (.istore_n 2, 1) := dk_61 (dk_at dksX8_placeOf_0 1 rfl rfl)
theorem dX8_placeOf_2 : decode cX8_placeOf 2 = .ok (.iconst 0, 1) := dk_3 (dk_at dksX8_placeOf_0 2 rfl rfl)
theorem dX8_placeOf_3 : decode cX8_placeOf 3 = .ok (.istore_n 3, 1) := dk_62 (dk_at dksX8_placeOf_0 3 rfl rfl)
theorem dX8_placeOf_4 : decode cX8_placeOf 4 = .ok (.iload_n 3, 1) := dk_29 (dk_at dksX8_placeOf_0 4 rfl rfl)
theorem dX8_placeOf_5 : decode cX8_placeOf 5 = .ok (.aload_n 0, 1) := dk_42 (dk_at dksX8_placeOf_0 5 rfl rfl)
theorem dX8_placeOf_6 : decode cX8_placeOf 6 = .ok (.getfield 27, 3) := dk_180 0 27 (dk_at dksX8_placeOf_0 6 rfl rfl)
theorem dX8_placeOf_9 : decode cX8_placeOf 9 = .ok (.arraylength, 1) := dk_190 (dk_at dksX8_placeOf_0 9 rfl rfl)
theorem dX8_placeOf_10 : decode cX8_placeOf 10 = .ok (.if_icmp .ge 25, 3) := dk_162 0 25 (dk_at dksX8_placeOf_0 10 rfl rfl)
theorem dX8_placeOf_13 : decode cX8_placeOf 13 = .ok (.aload_n 0, 1) := dk_42 (dk_at dksX8_placeOf_0 13 rfl rfl)
theorem dX8_placeOf_14 : decode cX8_placeOf 14 = .ok (.getfield 27, 3) := dk_180 0 27 (dk_at dksX8_placeOf_0 14 rfl rfl)
theorem dX8_placeOf_17 : decode cX8_placeOf 17 = .ok (.iload_n 3, 1) := dk_29 (dk_at dksX8_placeOf_0 17 rfl rfl)
theorem dX8_placeOf_18 : decode cX8_placeOf 18 = .ok (.aaload, 1) := dk_50 (dk_at dksX8_placeOf_0 18 rfl rfl)
theorem dX8_placeOf_19 : decode cX8_placeOf 19 = .ok (.aload_n 1, 1) := dk_43 (dk_at dksX8_placeOf_0 19 rfl rfl)
theorem dX8_placeOf_20 : decode cX8_placeOf 20 = .ok (.if_acmp .ne 7, 3) := dk_166 0 7 (dk_at dksX8_placeOf_0 20 rfl rfl)
theorem dX8_placeOf_23 : decode cX8_placeOf 23 = .ok (.iload_n 3, 1) := dk_29 (dk_at dksX8_placeOf_0 23 rfl rfl)
theorem dX8_placeOf_24 : decode cX8_placeOf 24 = .ok (.goto 4, 3) := dk_167 0 4 (dk_at dksX8_placeOf_1 0 rfl rfl)
theorem dX8_placeOf_27 : decode cX8_placeOf 27 = .ok (.iload_n 2, 1) := dk_28 (dk_at dksX8_placeOf_1 3 rfl rfl)
theorem dX8_placeOf_28 : decode cX8_placeOf 28 = .ok (.istore_n 2, 1) := dk_61 (dk_at dksX8_placeOf_1 4 rfl rfl)
theorem dX8_placeOf_29 : decode cX8_placeOf 29 = .ok (.iinc 3 1, 3) := dk_132 3 1 (dk_at dksX8_placeOf_1 5 rfl rfl)
theorem dX8_placeOf_32 : decode cX8_placeOf 32 = .ok (.goto (-28), 3) := dk_167 255 228 (dk_at dksX8_placeOf_1 8 rfl rfl)
theorem dX8_placeOf_35 : decode cX8_placeOf 35 = .ok (.iload_n 2, 1) := dk_28 (dk_at dksX8_placeOf_1 11 rfl rfl)
theorem dX8_placeOf_36 : decode cX8_placeOf 36 = .ok (.ireturn, 1) := dk_172 (dk_at dksX8_placeOf_1 12 rfl rfl)
abbrev cX8_last : ByteArray := prog_6_method_3_code
def yX8_last : MethodName := ⟨RX8, "last", "()LHundiHall$Broker;"⟩
def dkwX8_last_0 : List UInt8 := [42, 180, 0, 27, 42, 180, 0, 27, 190, 4, 100, 50, 176]
abbrev dktX8_last_0 : List UInt8 := dkwX8_last_0 ++ []
theorem dksX8_last_0 : cX8_last.data.toList.drop 0 = dktX8_last_0 := by decide +kernel
theorem dX8_last_0 : decode cX8_last 0 = .ok (.aload_n 0, 1) := dk_42 (dk_at dksX8_last_0 0 rfl rfl)
theorem dX8_last_1 : decode cX8_last 1 = .ok (.getfield 27, 3) := dk_180 0 27 (dk_at dksX8_last_0 1 rfl rfl)
theorem dX8_last_4 : decode cX8_last 4 = .ok (.aload_n 0, 1) := dk_42 (dk_at dksX8_last_0 4 rfl rfl)
theorem dX8_last_5 : decode cX8_last 5 = .ok (.getfield 27, 3) := dk_180 0 27 (dk_at dksX8_last_0 5 rfl rfl)
theorem dX8_last_8 : decode cX8_last 8 = .ok (.arraylength, 1) := dk_190 (dk_at dksX8_last_0 8 rfl rfl)
theorem dX8_last_9 : decode cX8_last 9 = .ok (.iconst 1, 1) := dk_4 (dk_at dksX8_last_0 9 rfl rfl)
theorem dX8_last_10 : decode cX8_last 10 = .ok (.isub, 1) := dk_100 (dk_at dksX8_last_0 10 rfl rfl)
theorem dX8_last_11 : decode cX8_last 11 = .ok (.aaload, 1) := dk_50 (dk_at dksX8_last_0 11 rfl rfl)
theorem dX8_last_12 : decode cX8_last 12 = .ok (.areturn, 1) := dk_176 (dk_at dksX8_last_0 12 rfl rfl)
abbrev cX8_feesBehind : ByteArray := prog_6_method_4_code
def yX8_feesBehind : MethodName := ⟨RX8, "feesBehind", "(I)J"⟩
def dkwX8_feesBehind_1 : List UInt8 := [46, 133, 97, 65, 132, 4, 1, 167, 255, 232, 32, 173]
abbrev dktX8_feesBehind_1 : List UInt8 := dkwX8_feesBehind_1 ++ []
def dkwX8_feesBehind_0 : List UInt8 := [9, 65, 27, 4, 96, 54, 4, 21, 4, 42, 180, 0, 27, 190, 162, 0, 20, 32, 42, 180, 0, 31, 21, 4]
abbrev dktX8_feesBehind_0 : List UInt8 := dkwX8_feesBehind_0 ++ dktX8_feesBehind_1
theorem dksX8_feesBehind_0 : cX8_feesBehind.data.toList.drop 0 = dktX8_feesBehind_0 := by decide +kernel
theorem dksX8_feesBehind_1 : cX8_feesBehind.data.toList.drop 24 = dktX8_feesBehind_1 := dk_seg dksX8_feesBehind_0 24 rfl rfl
theorem dX8_feesBehind_0 : decode cX8_feesBehind 0 = .ok (.lconst 0, 1) := dk_9 (dk_at dksX8_feesBehind_0 0 rfl rfl)
theorem dX8_feesBehind_1 : decode cX8_feesBehind 1 = .ok (.lstore_n 2, 1) := dk_65 (dk_at dksX8_feesBehind_0 1 rfl rfl)
theorem dX8_feesBehind_2 : decode cX8_feesBehind 2 = .ok (.iload_n 1, 1) := dk_27 (dk_at dksX8_feesBehind_0 2 rfl rfl)
theorem dX8_feesBehind_3 : decode cX8_feesBehind 3 = .ok (.iconst 1, 1) := dk_4 (dk_at dksX8_feesBehind_0 3 rfl rfl)
theorem dX8_feesBehind_4 : decode cX8_feesBehind 4 = .ok (.iadd, 1) := dk_96 (dk_at dksX8_feesBehind_0 4 rfl rfl)
theorem dX8_feesBehind_5 : decode cX8_feesBehind 5 = .ok (.istore 4, 2) := dk_54 4 (dk_at dksX8_feesBehind_0 5 rfl rfl)
theorem dX8_feesBehind_7 : decode cX8_feesBehind 7 = .ok (.iload 4, 2) := dk_21 4 (dk_at dksX8_feesBehind_0 7 rfl rfl)
theorem dX8_feesBehind_9 : decode cX8_feesBehind 9 = .ok (.aload_n 0, 1) := dk_42 (dk_at dksX8_feesBehind_0 9 rfl rfl)
theorem dX8_feesBehind_10 : decode cX8_feesBehind 10 = .ok (.getfield 27, 3) := dk_180 0 27 (dk_at dksX8_feesBehind_0 10 rfl rfl)
theorem dX8_feesBehind_13 : decode cX8_feesBehind 13 = .ok (.arraylength, 1) := dk_190 (dk_at dksX8_feesBehind_0 13 rfl rfl)
theorem dX8_feesBehind_14 : decode cX8_feesBehind 14 = .ok (.if_icmp .ge 20, 3) := dk_162 0 20 (dk_at dksX8_feesBehind_0 14 rfl rfl)
theorem dX8_feesBehind_17 : decode cX8_feesBehind 17 = .ok (.lload_n 2, 1) := dk_32 (dk_at dksX8_feesBehind_0 17 rfl rfl)
theorem dX8_feesBehind_18 : decode cX8_feesBehind 18 = .ok (.aload_n 0, 1) := dk_42 (dk_at dksX8_feesBehind_0 18 rfl rfl)
theorem dX8_feesBehind_19 : decode cX8_feesBehind 19 = .ok (.getfield 31, 3) := dk_180 0 31 (dk_at dksX8_feesBehind_0 19 rfl rfl)
theorem dX8_feesBehind_22 : decode cX8_feesBehind 22 = .ok (.iload 4, 2) := dk_21 4 (dk_at dksX8_feesBehind_0 22 rfl rfl)
theorem dX8_feesBehind_24 : decode cX8_feesBehind 24 = .ok (.iaload, 1) := dk_46 (dk_at dksX8_feesBehind_1 0 rfl rfl)
theorem dX8_feesBehind_25 : decode cX8_feesBehind 25 = .ok (.i2l, 1) := dk_133 (dk_at dksX8_feesBehind_1 1 rfl rfl)
theorem dX8_feesBehind_26 : decode cX8_feesBehind 26 = .ok (.ladd, 1) := dk_97 (dk_at dksX8_feesBehind_1 2 rfl rfl)
theorem dX8_feesBehind_27 : decode cX8_feesBehind 27 = .ok (.lstore_n 2, 1) := dk_65 (dk_at dksX8_feesBehind_1 3 rfl rfl)
theorem dX8_feesBehind_28 : decode cX8_feesBehind 28 = .ok (.iinc 4 1, 3) := dk_132 4 1 (dk_at dksX8_feesBehind_1 4 rfl rfl)
theorem dX8_feesBehind_31 : decode cX8_feesBehind 31 = .ok (.goto (-24), 3) := dk_167 255 232 (dk_at dksX8_feesBehind_1 7 rfl rfl)
theorem dX8_feesBehind_34 : decode cX8_feesBehind 34 = .ok (.lload_n 2, 1) := dk_32 (dk_at dksX8_feesBehind_1 10 rfl rfl)
theorem dX8_feesBehind_35 : decode cX8_feesBehind 35 = .ok (.lreturn, 1) := dk_173 (dk_at dksX8_feesBehind_1 11 rfl rfl)
abbrev cX8_turn : ByteArray := prog_6_method_6_code
def yX8_turn : MethodName := ⟨RX8, "turn", "([LHundiHall$Broker;)V"⟩
def dkwX8_turn_7 : List UInt8 := [97, 80, 132, 5, 1, 167, 255, 210, 42, 25, 4, 181, 0, 41, 177]
abbrev dktX8_turn_7 : List UInt8 := dkwX8_turn_7 ++ []
def dkwX8_turn_6 : List UInt8 := [162, 0, 13, 42, 180, 0, 41, 21, 5, 47, 167, 0, 15, 42, 180, 0, 18, 133, 42, 21, 5, 182, 0, 45]
abbrev dktX8_turn_6 : List UInt8 := dkwX8_turn_6 ++ dktX8_turn_7
def dkwX8_turn_5 : List UInt8 := [58, 4, 3, 54, 5, 21, 5, 44, 190, 162, 0, 45, 25, 4, 21, 5, 21, 5, 42, 180, 0, 52]
abbrev dktX8_turn_5 : List UInt8 := dkwX8_turn_5 ++ dktX8_turn_6
def dkwX8_turn_4 : List UInt8 := [182, 0, 35, 79, 132, 4, 1, 167, 255, 180, 42, 44, 181, 0, 27, 42, 45, 181, 0, 31, 44, 190, 188, 11]
abbrev dktX8_turn_4 : List UInt8 := dkwX8_turn_4 ++ dktX8_turn_5
def dkwX8_turn_3 : List UInt8 := [180, 0, 52, 163, 0, 13, 42, 180, 0, 31, 21, 4, 46, 167, 0, 14, 44, 21, 4, 50, 42, 180, 0, 18]
abbrev dktX8_turn_3 : List UInt8 := dkwX8_turn_3 ++ dktX8_turn_4
def dkwX8_turn_2 : List UInt8 := [21, 4, 50, 167, 0, 12, 43, 21, 4, 42, 180, 0, 52, 100, 50, 83, 45, 21, 4, 21, 4, 42]
abbrev dktX8_turn_2 : List UInt8 := dkwX8_turn_2 ++ dktX8_turn_3
def dkwX8_turn_1 : List UInt8 := [21, 4, 44, 190, 162, 0, 75, 44, 21, 4, 21, 4, 42, 180, 0, 52, 162, 0, 13, 42, 180, 0, 27]
abbrev dktX8_turn_1 : List UInt8 := dkwX8_turn_1 ++ dktX8_turn_2
def dkwX8_turn_0 : List UInt8 := [42, 180, 0, 52, 43, 190, 96, 189, 0, 36, 77, 42, 180, 0, 52, 43, 190, 96, 188, 10, 78, 3, 54, 4]
abbrev dktX8_turn_0 : List UInt8 := dkwX8_turn_0 ++ dktX8_turn_1
theorem dksX8_turn_0 : cX8_turn.data.toList.drop 0 = dktX8_turn_0 := by decide +kernel
theorem dksX8_turn_1 : cX8_turn.data.toList.drop 24 = dktX8_turn_1 := dk_seg dksX8_turn_0 24 rfl rfl
theorem dksX8_turn_2 : cX8_turn.data.toList.drop 47 = dktX8_turn_2 := dk_seg dksX8_turn_1 23 rfl rfl
theorem dksX8_turn_3 : cX8_turn.data.toList.drop 69 = dktX8_turn_3 := dk_seg dksX8_turn_2 22 rfl rfl
theorem dksX8_turn_4 : cX8_turn.data.toList.drop 93 = dktX8_turn_4 := dk_seg dksX8_turn_3 24 rfl rfl
theorem dksX8_turn_5 : cX8_turn.data.toList.drop 117 = dktX8_turn_5 := dk_seg dksX8_turn_4 24 rfl rfl
theorem dksX8_turn_6 : cX8_turn.data.toList.drop 139 = dktX8_turn_6 := dk_seg dksX8_turn_5 22 rfl rfl
theorem dksX8_turn_7 : cX8_turn.data.toList.drop 163 = dktX8_turn_7 := dk_seg dksX8_turn_6 24 rfl rfl
theorem dX8_turn_0 : decode cX8_turn 0 = .ok (.aload_n 0, 1) := dk_42 (dk_at dksX8_turn_0 0 rfl rfl)
theorem dX8_turn_1 : decode cX8_turn 1 = .ok (.getfield 52, 3) := dk_180 0 52 (dk_at dksX8_turn_0 1 rfl rfl)
theorem dX8_turn_4 : decode cX8_turn 4 = .ok (.aload_n 1, 1) := dk_43 (dk_at dksX8_turn_0 4 rfl rfl)
theorem dX8_turn_5 : decode cX8_turn 5 = .ok (.arraylength, 1) := dk_190 (dk_at dksX8_turn_0 5 rfl rfl)
theorem dX8_turn_6 : decode cX8_turn 6 = .ok (.iadd, 1) := dk_96 (dk_at dksX8_turn_0 6 rfl rfl)
theorem dX8_turn_7 : decode cX8_turn 7 = .ok (.anewarray 36, 3) := dk_189 0 36 (dk_at dksX8_turn_0 7 rfl rfl)
theorem dX8_turn_10 : decode cX8_turn 10 = .ok (.astore_n 2, 1) := dk_77 (dk_at dksX8_turn_0 10 rfl rfl)
theorem dX8_turn_11 : decode cX8_turn 11 = .ok (.aload_n 0, 1) := dk_42 (dk_at dksX8_turn_0 11 rfl rfl)
theorem dX8_turn_12 : decode cX8_turn 12 = .ok (.getfield 52, 3) := dk_180 0 52 (dk_at dksX8_turn_0 12 rfl rfl)
theorem dX8_turn_15 : decode cX8_turn 15 = .ok (.aload_n 1, 1) := dk_43 (dk_at dksX8_turn_0 15 rfl rfl)
theorem dX8_turn_16 : decode cX8_turn 16 = .ok (.arraylength, 1) := dk_190 (dk_at dksX8_turn_0 16 rfl rfl)
theorem dX8_turn_17 : decode cX8_turn 17 = .ok (.iadd, 1) := dk_96 (dk_at dksX8_turn_0 17 rfl rfl)
theorem dX8_turn_18 : decode cX8_turn 18 = .ok (.newarray .int, 2) := dk_188_10 (dk_at dksX8_turn_0 18 rfl rfl)
theorem dX8_turn_20 : decode cX8_turn 20 = .ok (.astore_n 3, 1) := dk_78 (dk_at dksX8_turn_0 20 rfl rfl)
theorem dX8_turn_21 : decode cX8_turn 21 = .ok (.iconst 0, 1) := dk_3 (dk_at dksX8_turn_0 21 rfl rfl)
theorem dX8_turn_22 : decode cX8_turn 22 = .ok (.istore 4, 2) := dk_54 4 (dk_at dksX8_turn_0 22 rfl rfl)
theorem dX8_turn_24 : decode cX8_turn 24 = .ok (.iload 4, 2) := dk_21 4 (dk_at dksX8_turn_1 0 rfl rfl)
theorem dX8_turn_26 : decode cX8_turn 26 = .ok (.aload_n 2, 1) := dk_44 (dk_at dksX8_turn_1 2 rfl rfl)
theorem dX8_turn_27 : decode cX8_turn 27 = .ok (.arraylength, 1) := dk_190 (dk_at dksX8_turn_1 3 rfl rfl)
theorem dX8_turn_28 : decode cX8_turn 28 = .ok (.if_icmp .ge 75, 3) := dk_162 0 75 (dk_at dksX8_turn_1 4 rfl rfl)
theorem dX8_turn_31 : decode cX8_turn 31 = .ok (.aload_n 2, 1) := dk_44 (dk_at dksX8_turn_1 7 rfl rfl)
theorem dX8_turn_32 : decode cX8_turn 32 = .ok (.iload 4, 2) := dk_21 4 (dk_at dksX8_turn_1 8 rfl rfl)
theorem dX8_turn_34 : decode cX8_turn 34 = .ok (.iload 4, 2) := dk_21 4 (dk_at dksX8_turn_1 10 rfl rfl)
theorem dX8_turn_36 : decode cX8_turn 36 = .ok (.aload_n 0, 1) := dk_42 (dk_at dksX8_turn_1 12 rfl rfl)
theorem dX8_turn_37 : decode cX8_turn 37 = .ok (.getfield 52, 3) := dk_180 0 52 (dk_at dksX8_turn_1 13 rfl rfl)
theorem dX8_turn_40 : decode cX8_turn 40 = .ok (.if_icmp .ge 13, 3) := dk_162 0 13 (dk_at dksX8_turn_1 16 rfl rfl)
theorem dX8_turn_43 : decode cX8_turn 43 = .ok (.aload_n 0, 1) := dk_42 (dk_at dksX8_turn_1 19 rfl rfl)
theorem dX8_turn_44 : decode cX8_turn 44 = .ok (.getfield 27, 3) := dk_180 0 27 (dk_at dksX8_turn_1 20 rfl rfl)
theorem dX8_turn_47 : decode cX8_turn 47 = .ok (.iload 4, 2) := dk_21 4 (dk_at dksX8_turn_2 0 rfl rfl)
theorem dX8_turn_49 : decode cX8_turn 49 = .ok (.aaload, 1) := dk_50 (dk_at dksX8_turn_2 2 rfl rfl)
theorem dX8_turn_50 : decode cX8_turn 50 = .ok (.goto 12, 3) := dk_167 0 12 (dk_at dksX8_turn_2 3 rfl rfl)
theorem dX8_turn_53 : decode cX8_turn 53 = .ok (.aload_n 1, 1) := dk_43 (dk_at dksX8_turn_2 6 rfl rfl)
theorem dX8_turn_54 : decode cX8_turn 54 = .ok (.iload 4, 2) := dk_21 4 (dk_at dksX8_turn_2 7 rfl rfl)
theorem dX8_turn_56 : decode cX8_turn 56 = .ok (.aload_n 0, 1) := dk_42 (dk_at dksX8_turn_2 9 rfl rfl)
theorem dX8_turn_57 : decode cX8_turn 57 = .ok (.getfield 52, 3) := dk_180 0 52 (dk_at dksX8_turn_2 10 rfl rfl)
theorem dX8_turn_60 : decode cX8_turn 60 = .ok (.isub, 1) := dk_100 (dk_at dksX8_turn_2 13 rfl rfl)
theorem dX8_turn_61 : decode cX8_turn 61 = .ok (.aaload, 1) := dk_50 (dk_at dksX8_turn_2 14 rfl rfl)
theorem dX8_turn_62 : decode cX8_turn 62 = .ok (.aastore, 1) := dk_83 (dk_at dksX8_turn_2 15 rfl rfl)
theorem dX8_turn_63 : decode cX8_turn 63 = .ok (.aload_n 3, 1) := dk_45 (dk_at dksX8_turn_2 16 rfl rfl)
theorem dX8_turn_64 : decode cX8_turn 64 = .ok (.iload 4, 2) := dk_21 4 (dk_at dksX8_turn_2 17 rfl rfl)
theorem dX8_turn_66 : decode cX8_turn 66 = .ok (.iload 4, 2) := dk_21 4 (dk_at dksX8_turn_2 19 rfl rfl)
theorem dX8_turn_68 : decode cX8_turn 68 = .ok (.aload_n 0, 1) := dk_42 (dk_at dksX8_turn_2 21 rfl rfl)
theorem dX8_turn_69 : decode cX8_turn 69 = .ok (.getfield 52, 3) := dk_180 0 52 (dk_at dksX8_turn_3 0 rfl rfl)
theorem dX8_turn_72 : decode cX8_turn 72 = .ok (.if_icmp .gt 13, 3) := dk_163 0 13 (dk_at dksX8_turn_3 3 rfl rfl)
theorem dX8_turn_75 : decode cX8_turn 75 = .ok (.aload_n 0, 1) := dk_42 (dk_at dksX8_turn_3 6 rfl rfl)
theorem dX8_turn_76 : decode cX8_turn 76 = .ok (.getfield 31, 3) := dk_180 0 31 (dk_at dksX8_turn_3 7 rfl rfl)
theorem dX8_turn_79 : decode cX8_turn 79 = .ok (.iload 4, 2) := dk_21 4 (dk_at dksX8_turn_3 10 rfl rfl)
theorem dX8_turn_81 : decode cX8_turn 81 = .ok (.iaload, 1) := dk_46 (dk_at dksX8_turn_3 12 rfl rfl)
theorem dX8_turn_82 : decode cX8_turn 82 = .ok (.goto 14, 3) := dk_167 0 14 (dk_at dksX8_turn_3 13 rfl rfl)
theorem dX8_turn_85 : decode cX8_turn 85 = .ok (.aload_n 2, 1) := dk_44 (dk_at dksX8_turn_3 16 rfl rfl)
theorem dX8_turn_86 : decode cX8_turn 86 = .ok (.iload 4, 2) := dk_21 4 (dk_at dksX8_turn_3 17 rfl rfl)
theorem dX8_turn_88 : decode cX8_turn 88 = .ok (.aaload, 1) := dk_50 (dk_at dksX8_turn_3 19 rfl rfl)
theorem dX8_turn_89 : decode cX8_turn 89 = .ok (.aload_n 0, 1) := dk_42 (dk_at dksX8_turn_3 20 rfl rfl)
theorem dX8_turn_90 : decode cX8_turn 90 = .ok (.getfield 18, 3) := dk_180 0 18 (dk_at dksX8_turn_3 21 rfl rfl)
theorem dX8_turn_93 : decode cX8_turn 93 = .ok (.invokevirtual 35, 3) := dk_182 0 35 (dk_at dksX8_turn_4 0 rfl rfl)
theorem dX8_turn_96 : decode cX8_turn 96 = .ok (.iastore, 1) := dk_79 (dk_at dksX8_turn_4 3 rfl rfl)
theorem dX8_turn_97 : decode cX8_turn 97 = .ok (.iinc 4 1, 3) := dk_132 4 1 (dk_at dksX8_turn_4 4 rfl rfl)
theorem dX8_turn_100 : decode cX8_turn 100 = .ok (.goto (-76), 3) := dk_167 255 180 (dk_at dksX8_turn_4 7 rfl rfl)
theorem dX8_turn_103 : decode cX8_turn 103 = .ok (.aload_n 0, 1) := dk_42 (dk_at dksX8_turn_4 10 rfl rfl)
theorem dX8_turn_104 : decode cX8_turn 104 = .ok (.aload_n 2, 1) := dk_44 (dk_at dksX8_turn_4 11 rfl rfl)
theorem dX8_turn_105 : decode cX8_turn 105 = .ok (.putfield 27, 3) := dk_181 0 27 (dk_at dksX8_turn_4 12 rfl rfl)
theorem dX8_turn_108 : decode cX8_turn 108 = .ok (.aload_n 0, 1) := dk_42 (dk_at dksX8_turn_4 15 rfl rfl)
theorem dX8_turn_109 : decode cX8_turn 109 = .ok (.aload_n 3, 1) := dk_45 (dk_at dksX8_turn_4 16 rfl rfl)
theorem dX8_turn_110 : decode cX8_turn 110 = .ok (.putfield 31, 3) := dk_181 0 31 (dk_at dksX8_turn_4 17 rfl rfl)
theorem dX8_turn_113 : decode cX8_turn 113 = .ok (.aload_n 2, 1) := dk_44 (dk_at dksX8_turn_4 20 rfl rfl)
theorem dX8_turn_114 : decode cX8_turn 114 = .ok (.arraylength, 1) := dk_190 (dk_at dksX8_turn_4 21 rfl rfl)
theorem dX8_turn_115 : decode cX8_turn 115 = .ok (.newarray .long, 2) := dk_188_11 (dk_at dksX8_turn_4 22 rfl rfl)
theorem dX8_turn_117 : decode cX8_turn 117 = .ok (.astore 4, 2) := dk_58 4 (dk_at dksX8_turn_5 0 rfl rfl)
theorem dX8_turn_119 : decode cX8_turn 119 = .ok (.iconst 0, 1) := dk_3 (dk_at dksX8_turn_5 2 rfl rfl)
theorem dX8_turn_120 : decode cX8_turn 120 = .ok (.istore 5, 2) := dk_54 5 (dk_at dksX8_turn_5 3 rfl rfl)
theorem dX8_turn_122 : decode cX8_turn 122 = .ok (.iload 5, 2) := dk_21 5 (dk_at dksX8_turn_5 5 rfl rfl)
theorem dX8_turn_124 : decode cX8_turn 124 = .ok (.aload_n 2, 1) := dk_44 (dk_at dksX8_turn_5 7 rfl rfl)
theorem dX8_turn_125 : decode cX8_turn 125 = .ok (.arraylength, 1) := dk_190 (dk_at dksX8_turn_5 8 rfl rfl)
theorem dX8_turn_126 : decode cX8_turn 126 = .ok (.if_icmp .ge 45, 3) := dk_162 0 45 (dk_at dksX8_turn_5 9 rfl rfl)
theorem dX8_turn_129 : decode cX8_turn 129 = .ok (.aload 4, 2) := dk_25 4 (dk_at dksX8_turn_5 12 rfl rfl)
theorem dX8_turn_131 : decode cX8_turn 131 = .ok (.iload 5, 2) := dk_21 5 (dk_at dksX8_turn_5 14 rfl rfl)
theorem dX8_turn_133 : decode cX8_turn 133 = .ok (.iload 5, 2) := dk_21 5 (dk_at dksX8_turn_5 16 rfl rfl)
theorem dX8_turn_135 : decode cX8_turn 135 = .ok (.aload_n 0, 1) := dk_42 (dk_at dksX8_turn_5 18 rfl rfl)
theorem dX8_turn_136 : decode cX8_turn 136 = .ok (.getfield 52, 3) := dk_180 0 52 (dk_at dksX8_turn_5 19 rfl rfl)
theorem dX8_turn_139 : decode cX8_turn 139 = .ok (.if_icmp .ge 13, 3) := dk_162 0 13 (dk_at dksX8_turn_6 0 rfl rfl)
theorem dX8_turn_142 : decode cX8_turn 142 = .ok (.aload_n 0, 1) := dk_42 (dk_at dksX8_turn_6 3 rfl rfl)
theorem dX8_turn_143 : decode cX8_turn 143 = .ok (.getfield 41, 3) := dk_180 0 41 (dk_at dksX8_turn_6 4 rfl rfl)
theorem dX8_turn_146 : decode cX8_turn 146 = .ok (.iload 5, 2) := dk_21 5 (dk_at dksX8_turn_6 7 rfl rfl)
theorem dX8_turn_148 : decode cX8_turn 148 = .ok (.laload, 1) := dk_47 (dk_at dksX8_turn_6 9 rfl rfl)
theorem dX8_turn_149 : decode cX8_turn 149 = .ok (.goto 15, 3) := dk_167 0 15 (dk_at dksX8_turn_6 10 rfl rfl)
theorem dX8_turn_152 : decode cX8_turn 152 = .ok (.aload_n 0, 1) := dk_42 (dk_at dksX8_turn_6 13 rfl rfl)
theorem dX8_turn_153 : decode cX8_turn 153 = .ok (.getfield 18, 3) := dk_180 0 18 (dk_at dksX8_turn_6 14 rfl rfl)
theorem dX8_turn_156 : decode cX8_turn 156 = .ok (.i2l, 1) := dk_133 (dk_at dksX8_turn_6 17 rfl rfl)
theorem dX8_turn_157 : decode cX8_turn 157 = .ok (.aload_n 0, 1) := dk_42 (dk_at dksX8_turn_6 18 rfl rfl)
theorem dX8_turn_158 : decode cX8_turn 158 = .ok (.iload 5, 2) := dk_21 5 (dk_at dksX8_turn_6 19 rfl rfl)
theorem dX8_turn_160 : decode cX8_turn 160 = .ok (.invokevirtual 45, 3) := dk_182 0 45 (dk_at dksX8_turn_6 21 rfl rfl)
theorem dX8_turn_163 : decode cX8_turn 163 = .ok (.ladd, 1) := dk_97 (dk_at dksX8_turn_7 0 rfl rfl)
theorem dX8_turn_164 : decode cX8_turn 164 = .ok (.lastore, 1) := dk_80 (dk_at dksX8_turn_7 1 rfl rfl)
theorem dX8_turn_165 : decode cX8_turn 165 = .ok (.iinc 5 1, 3) := dk_132 5 1 (dk_at dksX8_turn_7 2 rfl rfl)
theorem dX8_turn_168 : decode cX8_turn 168 = .ok (.goto (-46), 3) := dk_167 255 210 (dk_at dksX8_turn_7 5 rfl rfl)
theorem dX8_turn_171 : decode cX8_turn 171 = .ok (.aload_n 0, 1) := dk_42 (dk_at dksX8_turn_7 8 rfl rfl)
theorem dX8_turn_172 : decode cX8_turn 172 = .ok (.aload 4, 2) := dk_25 4 (dk_at dksX8_turn_7 9 rfl rfl)
theorem dX8_turn_174 : decode cX8_turn 174 = .ok (.putfield 41, 3) := dk_181 0 41 (dk_at dksX8_turn_7 11 rfl rfl)
theorem dX8_turn_177 : decode cX8_turn 177 = .ok (.return_, 1) := dk_177 (dk_at dksX8_turn_7 14 rfl rfl)
abbrev cX8_init : ByteArray := prog_6_method_1_code
def yX8_init : MethodName := ⟨RX8, "<init>", "(IIII[LHundiHall$Broker;)V"⟩
def dkwX8_init_6 : List UInt8 := [177]
abbrev dktX8_init_6 : List UInt8 := dkwX8_init_6 ++ []
def dkwX8_init_5 : List UInt8 := [167, 255, 229, 42, 28, 133, 42, 3, 182, 0, 45, 97, 42, 180, 0, 31, 3, 46, 133, 97, 136, 181, 0, 49]
abbrev dktX8_init_5 : List UInt8 := dkwX8_init_5 ++ dktX8_init_6
def dkwX8_init_4 : List UInt8 := [162, 0, 25, 42, 180, 0, 41, 21, 6, 28, 133, 42, 21, 6, 182, 0, 45, 97, 80, 132, 6, 1]
abbrev dktX8_init_4 : List UInt8 := dkwX8_init_4 ++ dktX8_init_5
def dkwX8_init_3 : List UInt8 := [132, 6, 1, 167, 255, 229, 42, 25, 5, 190, 188, 11, 181, 0, 41, 3, 54, 6, 21, 6, 25, 5, 190]
abbrev dktX8_init_3 : List UInt8 := dkwX8_init_3 ++ dktX8_init_4
def dkwX8_init_2 : List UInt8 := [21, 6, 25, 5, 190, 162, 0, 25, 42, 180, 0, 31, 21, 6, 25, 5, 21, 6, 50, 28, 182, 0, 35, 79]
abbrev dktX8_init_2 : List UInt8 := dkwX8_init_2 ++ dktX8_init_3
def dkwX8_init_1 : List UInt8 := [42, 21, 4, 181, 0, 24, 42, 25, 5, 181, 0, 27, 42, 25, 5, 190, 188, 10, 181, 0, 31, 3, 54, 6]
abbrev dktX8_init_1 : List UInt8 := dkwX8_init_1 ++ dktX8_init_2
def dkwX8_init_0 : List UInt8 := [42, 183, 0, 3, 42, 3, 181, 0, 9, 42, 27, 181, 0, 15, 42, 28, 181, 0, 18, 42, 29, 181, 0, 21]
abbrev dktX8_init_0 : List UInt8 := dkwX8_init_0 ++ dktX8_init_1
theorem dksX8_init_0 : cX8_init.data.toList.drop 0 = dktX8_init_0 := by decide +kernel
theorem dksX8_init_1 : cX8_init.data.toList.drop 24 = dktX8_init_1 := dk_seg dksX8_init_0 24 rfl rfl
theorem dksX8_init_2 : cX8_init.data.toList.drop 48 = dktX8_init_2 := dk_seg dksX8_init_1 24 rfl rfl
theorem dksX8_init_3 : cX8_init.data.toList.drop 72 = dktX8_init_3 := dk_seg dksX8_init_2 24 rfl rfl
theorem dksX8_init_4 : cX8_init.data.toList.drop 95 = dktX8_init_4 := dk_seg dksX8_init_3 23 rfl rfl
theorem dksX8_init_5 : cX8_init.data.toList.drop 117 = dktX8_init_5 := dk_seg dksX8_init_4 22 rfl rfl
theorem dksX8_init_6 : cX8_init.data.toList.drop 141 = dktX8_init_6 := dk_seg dksX8_init_5 24 rfl rfl
theorem dX8_init_0 : decode cX8_init 0 = .ok (.aload_n 0, 1) := dk_42 (dk_at dksX8_init_0 0 rfl rfl)
theorem dX8_init_1 : decode cX8_init 1 = .ok (.invokespecial 3, 3) := dk_183 0 3 (dk_at dksX8_init_0 1 rfl rfl)
theorem dX8_init_4 : decode cX8_init 4 = .ok (.aload_n 0, 1) := dk_42 (dk_at dksX8_init_0 4 rfl rfl)
theorem dX8_init_5 : decode cX8_init 5 = .ok (.iconst 0, 1) := dk_3 (dk_at dksX8_init_0 5 rfl rfl)
theorem dX8_init_6 : decode cX8_init 6 = .ok (.putfield 9, 3) := dk_181 0 9 (dk_at dksX8_init_0 6 rfl rfl)
theorem dX8_init_9 : decode cX8_init 9 = .ok (.aload_n 0, 1) := dk_42 (dk_at dksX8_init_0 9 rfl rfl)
theorem dX8_init_10 : decode cX8_init 10 = .ok (.iload_n 1, 1) := dk_27 (dk_at dksX8_init_0 10 rfl rfl)
theorem dX8_init_11 : decode cX8_init 11 = .ok (.putfield 15, 3) := dk_181 0 15 (dk_at dksX8_init_0 11 rfl rfl)
theorem dX8_init_14 : decode cX8_init 14 = .ok (.aload_n 0, 1) := dk_42 (dk_at dksX8_init_0 14 rfl rfl)
theorem dX8_init_15 : decode cX8_init 15 = .ok (.iload_n 2, 1) := dk_28 (dk_at dksX8_init_0 15 rfl rfl)
theorem dX8_init_16 : decode cX8_init 16 = .ok (.putfield 18, 3) := dk_181 0 18 (dk_at dksX8_init_0 16 rfl rfl)
theorem dX8_init_19 : decode cX8_init 19 = .ok (.aload_n 0, 1) := dk_42 (dk_at dksX8_init_0 19 rfl rfl)
theorem dX8_init_20 : decode cX8_init 20 = .ok (.iload_n 3, 1) := dk_29 (dk_at dksX8_init_0 20 rfl rfl)
theorem dX8_init_21 : decode cX8_init 21 = .ok (.putfield 21, 3) := dk_181 0 21 (dk_at dksX8_init_0 21 rfl rfl)
theorem dX8_init_24 : decode cX8_init 24 = .ok (.aload_n 0, 1) := dk_42 (dk_at dksX8_init_1 0 rfl rfl)
theorem dX8_init_25 : decode cX8_init 25 = .ok (.iload 4, 2) := dk_21 4 (dk_at dksX8_init_1 1 rfl rfl)
theorem dX8_init_27 : decode cX8_init 27 = .ok (.putfield 24, 3) := dk_181 0 24 (dk_at dksX8_init_1 3 rfl rfl)
theorem dX8_init_30 : decode cX8_init 30 = .ok (.aload_n 0, 1) := dk_42 (dk_at dksX8_init_1 6 rfl rfl)
theorem dX8_init_31 : decode cX8_init 31 = .ok (.aload 5, 2) := dk_25 5 (dk_at dksX8_init_1 7 rfl rfl)
theorem dX8_init_33 : decode cX8_init 33 = .ok (.putfield 27, 3) := dk_181 0 27 (dk_at dksX8_init_1 9 rfl rfl)
theorem dX8_init_36 : decode cX8_init 36 = .ok (.aload_n 0, 1) := dk_42 (dk_at dksX8_init_1 12 rfl rfl)
theorem dX8_init_37 : decode cX8_init 37 = .ok (.aload 5, 2) := dk_25 5 (dk_at dksX8_init_1 13 rfl rfl)
theorem dX8_init_39 : decode cX8_init 39 = .ok (.arraylength, 1) := dk_190 (dk_at dksX8_init_1 15 rfl rfl)
theorem dX8_init_40 : decode cX8_init 40 = .ok (.newarray .int, 2) := dk_188_10 (dk_at dksX8_init_1 16 rfl rfl)
theorem dX8_init_42 : decode cX8_init 42 = .ok (.putfield 31, 3) := dk_181 0 31 (dk_at dksX8_init_1 18 rfl rfl)
theorem dX8_init_45 : decode cX8_init 45 = .ok (.iconst 0, 1) := dk_3 (dk_at dksX8_init_1 21 rfl rfl)
theorem dX8_init_46 : decode cX8_init 46 = .ok (.istore 6, 2) := dk_54 6 (dk_at dksX8_init_1 22 rfl rfl)
theorem dX8_init_48 : decode cX8_init 48 = .ok (.iload 6, 2) := dk_21 6 (dk_at dksX8_init_2 0 rfl rfl)
theorem dX8_init_50 : decode cX8_init 50 = .ok (.aload 5, 2) := dk_25 5 (dk_at dksX8_init_2 2 rfl rfl)
theorem dX8_init_52 : decode cX8_init 52 = .ok (.arraylength, 1) := dk_190 (dk_at dksX8_init_2 4 rfl rfl)
theorem dX8_init_53 : decode cX8_init 53 = .ok (.if_icmp .ge 25, 3) := dk_162 0 25 (dk_at dksX8_init_2 5 rfl rfl)
theorem dX8_init_56 : decode cX8_init 56 = .ok (.aload_n 0, 1) := dk_42 (dk_at dksX8_init_2 8 rfl rfl)
theorem dX8_init_57 : decode cX8_init 57 = .ok (.getfield 31, 3) := dk_180 0 31 (dk_at dksX8_init_2 9 rfl rfl)
theorem dX8_init_60 : decode cX8_init 60 = .ok (.iload 6, 2) := dk_21 6 (dk_at dksX8_init_2 12 rfl rfl)
theorem dX8_init_62 : decode cX8_init 62 = .ok (.aload 5, 2) := dk_25 5 (dk_at dksX8_init_2 14 rfl rfl)
theorem dX8_init_64 : decode cX8_init 64 = .ok (.iload 6, 2) := dk_21 6 (dk_at dksX8_init_2 16 rfl rfl)
theorem dX8_init_66 : decode cX8_init 66 = .ok (.aaload, 1) := dk_50 (dk_at dksX8_init_2 18 rfl rfl)
theorem dX8_init_67 : decode cX8_init 67 = .ok (.iload_n 2, 1) := dk_28 (dk_at dksX8_init_2 19 rfl rfl)
theorem dX8_init_68 : decode cX8_init 68 = .ok (.invokevirtual 35, 3) := dk_182 0 35 (dk_at dksX8_init_2 20 rfl rfl)
theorem dX8_init_71 : decode cX8_init 71 = .ok (.iastore, 1) := dk_79 (dk_at dksX8_init_2 23 rfl rfl)
theorem dX8_init_72 : decode cX8_init 72 = .ok (.iinc 6 1, 3) := dk_132 6 1 (dk_at dksX8_init_3 0 rfl rfl)
theorem dX8_init_75 : decode cX8_init 75 = .ok (.goto (-27), 3) := dk_167 255 229 (dk_at dksX8_init_3 3 rfl rfl)
theorem dX8_init_78 : decode cX8_init 78 = .ok (.aload_n 0, 1) := dk_42 (dk_at dksX8_init_3 6 rfl rfl)
theorem dX8_init_79 : decode cX8_init 79 = .ok (.aload 5, 2) := dk_25 5 (dk_at dksX8_init_3 7 rfl rfl)
theorem dX8_init_81 : decode cX8_init 81 = .ok (.arraylength, 1) := dk_190 (dk_at dksX8_init_3 9 rfl rfl)
theorem dX8_init_82 : decode cX8_init 82 = .ok (.newarray .long, 2) := dk_188_11 (dk_at dksX8_init_3 10 rfl rfl)
theorem dX8_init_84 : decode cX8_init 84 = .ok (.putfield 41, 3) := dk_181 0 41 (dk_at dksX8_init_3 12 rfl rfl)
theorem dX8_init_87 : decode cX8_init 87 = .ok (.iconst 0, 1) := dk_3 (dk_at dksX8_init_3 15 rfl rfl)
theorem dX8_init_88 : decode cX8_init 88 = .ok (.istore 6, 2) := dk_54 6 (dk_at dksX8_init_3 16 rfl rfl)
theorem dX8_init_90 : decode cX8_init 90 = .ok (.iload 6, 2) := dk_21 6 (dk_at dksX8_init_3 18 rfl rfl)
theorem dX8_init_92 : decode cX8_init 92 = .ok (.aload 5, 2) := dk_25 5 (dk_at dksX8_init_3 20 rfl rfl)
theorem dX8_init_94 : decode cX8_init 94 = .ok (.arraylength, 1) := dk_190 (dk_at dksX8_init_3 22 rfl rfl)
theorem dX8_init_95 : decode cX8_init 95 = .ok (.if_icmp .ge 25, 3) := dk_162 0 25 (dk_at dksX8_init_4 0 rfl rfl)
theorem dX8_init_98 : decode cX8_init 98 = .ok (.aload_n 0, 1) := dk_42 (dk_at dksX8_init_4 3 rfl rfl)
theorem dX8_init_99 : decode cX8_init 99 = .ok (.getfield 41, 3) := dk_180 0 41 (dk_at dksX8_init_4 4 rfl rfl)
theorem dX8_init_102 : decode cX8_init 102 = .ok (.iload 6, 2) := dk_21 6 (dk_at dksX8_init_4 7 rfl rfl)
theorem dX8_init_104 : decode cX8_init 104 = .ok (.iload_n 2, 1) := dk_28 (dk_at dksX8_init_4 9 rfl rfl)
theorem dX8_init_105 : decode cX8_init 105 = .ok (.i2l, 1) := dk_133 (dk_at dksX8_init_4 10 rfl rfl)
theorem dX8_init_106 : decode cX8_init 106 = .ok (.aload_n 0, 1) := dk_42 (dk_at dksX8_init_4 11 rfl rfl)
theorem dX8_init_107 : decode cX8_init 107 = .ok (.iload 6, 2) := dk_21 6 (dk_at dksX8_init_4 12 rfl rfl)
theorem dX8_init_109 : decode cX8_init 109 = .ok (.invokevirtual 45, 3) := dk_182 0 45 (dk_at dksX8_init_4 14 rfl rfl)
theorem dX8_init_112 : decode cX8_init 112 = .ok (.ladd, 1) := dk_97 (dk_at dksX8_init_4 17 rfl rfl)
theorem dX8_init_113 : decode cX8_init 113 = .ok (.lastore, 1) := dk_80 (dk_at dksX8_init_4 18 rfl rfl)
theorem dX8_init_114 : decode cX8_init 114 = .ok (.iinc 6 1, 3) := dk_132 6 1 (dk_at dksX8_init_4 19 rfl rfl)
theorem dX8_init_117 : decode cX8_init 117 = .ok (.goto (-27), 3) := dk_167 255 229 (dk_at dksX8_init_5 0 rfl rfl)
theorem dX8_init_120 : decode cX8_init 120 = .ok (.aload_n 0, 1) := dk_42 (dk_at dksX8_init_5 3 rfl rfl)
theorem dX8_init_121 : decode cX8_init 121 = .ok (.iload_n 2, 1) := dk_28 (dk_at dksX8_init_5 4 rfl rfl)
theorem dX8_init_122 : decode cX8_init 122 = .ok (.i2l, 1) := dk_133 (dk_at dksX8_init_5 5 rfl rfl)
theorem dX8_init_123 : decode cX8_init 123 = .ok (.aload_n 0, 1) := dk_42 (dk_at dksX8_init_5 6 rfl rfl)
theorem dX8_init_124 : decode cX8_init 124 = .ok (.iconst 0, 1) := dk_3 (dk_at dksX8_init_5 7 rfl rfl)
theorem dX8_init_125 : decode cX8_init 125 = .ok (.invokevirtual 45, 3) := dk_182 0 45 (dk_at dksX8_init_5 8 rfl rfl)
theorem dX8_init_128 : decode cX8_init 128 = .ok (.ladd, 1) := dk_97 (dk_at dksX8_init_5 11 rfl rfl)
theorem dX8_init_129 : decode cX8_init 129 = .ok (.aload_n 0, 1) := dk_42 (dk_at dksX8_init_5 12 rfl rfl)
theorem dX8_init_130 : decode cX8_init 130 = .ok (.getfield 31, 3) := dk_180 0 31 (dk_at dksX8_init_5 13 rfl rfl)
theorem dX8_init_133 : decode cX8_init 133 = .ok (.iconst 0, 1) := dk_3 (dk_at dksX8_init_5 16 rfl rfl)
theorem dX8_init_134 : decode cX8_init 134 = .ok (.iaload, 1) := dk_46 (dk_at dksX8_init_5 17 rfl rfl)
theorem dX8_init_135 : decode cX8_init 135 = .ok (.i2l, 1) := dk_133 (dk_at dksX8_init_5 18 rfl rfl)
theorem dX8_init_136 : decode cX8_init 136 = .ok (.ladd, 1) := dk_97 (dk_at dksX8_init_5 19 rfl rfl)
theorem dX8_init_137 : decode cX8_init 137 = .ok (.l2i, 1) := dk_136 (dk_at dksX8_init_5 20 rfl rfl)
theorem dX8_init_138 : decode cX8_init 138 = .ok (.putfield 49, 3) := dk_181 0 49 (dk_at dksX8_init_5 21 rfl rfl)
theorem dX8_init_141 : decode cX8_init 141 = .ok (.return_, 1) := dk_177 (dk_at dksX8_init_6 0 rfl rfl)
abbrev cX8_isOpen : ByteArray := prog_6_method_8_code
def yX8_isOpen : MethodName := ⟨RX8, "isOpen", "()Z"⟩
def dkwX8_isOpen_0 : List UInt8 := [42, 180, 0, 9, 153, 0, 11, 42, 180, 0, 9, 4, 160, 0, 7, 4, 167, 0, 4, 3, 172]
abbrev dktX8_isOpen_0 : List UInt8 := dkwX8_isOpen_0 ++ []
theorem dksX8_isOpen_0 : cX8_isOpen.data.toList.drop 0 = dktX8_isOpen_0 := by decide +kernel
theorem dX8_isOpen_0 : decode cX8_isOpen 0 = .ok (.aload_n 0, 1) := dk_42 (dk_at dksX8_isOpen_0 0 rfl rfl)
theorem dX8_isOpen_1 : decode cX8_isOpen 1 = .ok (.getfield 9, 3) := dk_180 0 9 (dk_at dksX8_isOpen_0 1 rfl rfl)
theorem dX8_isOpen_4 : decode cX8_isOpen 4 = .ok (.ifCond .eq 11, 3) := dk_153 0 11 (dk_at dksX8_isOpen_0 4 rfl rfl)
theorem dX8_isOpen_7 : decode cX8_isOpen 7 = .ok (.aload_n 0, 1) := dk_42 (dk_at dksX8_isOpen_0 7 rfl rfl)
theorem dX8_isOpen_8 : decode cX8_isOpen 8 = .ok (.getfield 9, 3) := dk_180 0 9 (dk_at dksX8_isOpen_0 8 rfl rfl)
theorem dX8_isOpen_11 : decode cX8_isOpen 11 = .ok (.iconst 1, 1) := dk_4 (dk_at dksX8_isOpen_0 11 rfl rfl)
theorem dX8_isOpen_12 : decode cX8_isOpen 12 = .ok (.if_icmp .ne 7, 3) := dk_160 0 7 (dk_at dksX8_isOpen_0 12 rfl rfl)
theorem dX8_isOpen_15 : decode cX8_isOpen 15 = .ok (.iconst 1, 1) := dk_4 (dk_at dksX8_isOpen_0 15 rfl rfl)
theorem dX8_isOpen_16 : decode cX8_isOpen 16 = .ok (.goto 4, 3) := dk_167 0 4 (dk_at dksX8_isOpen_0 16 rfl rfl)
theorem dX8_isOpen_19 : decode cX8_isOpen 19 = .ok (.iconst 0, 1) := dk_3 (dk_at dksX8_isOpen_0 19 rfl rfl)
theorem dX8_isOpen_20 : decode cX8_isOpen 20 = .ok (.ireturn, 1) := dk_172 (dk_at dksX8_isOpen_0 20 rfl rfl)
theorem q67 : (Jvm.Cond.initialized "HundiHall$Order") ∈ lw_all := lw_g (lw_at lw_m1 27 rfl) rfl
theorem q497 : (Jvm.Cond.selects "HundiHall$Order" ({ cls := "java/lang/Object", name := "getClass", desc := "()Ljava/lang/Class;" } : Jvm.MethodName) ({ cls := "java/lang/Object", name := "getClass", desc := "()Ljava/lang/Class;" } : Jvm.MethodName)) ∈ lw_all := lw_g (lw_at lw_m2 217 rfl) rfl
theorem q600 : (Jvm.Cond.instanceMethod ({ cls := "HundiHall$Order", name := "first", desc := "()LHundiHall$Broker;" } : Jvm.MethodName)) ∈ lw_all := lw_g (lw_at lw_m3 80 rfl) rfl
theorem q601 : (Jvm.Cond.selects "HundiHall$Order" ({ cls := "HundiHall$Order", name := "first", desc := "()LHundiHall$Broker;" } : Jvm.MethodName) ({ cls := "HundiHall$Order", name := "first", desc := "()LHundiHall$Broker;" } : Jvm.MethodName)) ∈ lw_all := lw_g (lw_at lw_m3 81 rfl) rfl
theorem q602 : (Jvm.Cond.code ({ cls := "HundiHall$Order", name := "first", desc := "()LHundiHall$Broker;" } : Jvm.MethodName) prog_6_method_2_code (1 : Nat) (Option.some (Jvm.ClassFile.FieldType.object "HundiHall$Broker"))) ∈ lw_all := lw_g (lw_at lw_m3 82 rfl) rfl
theorem q607 : (Jvm.Cond.instanceMethod ({ cls := "HundiHall$Order", name := "iterator", desc := "()Ljava/util/Iterator;" } : Jvm.MethodName)) ∈ lw_all := lw_g (lw_at lw_m3 87 rfl) rfl
theorem q608 : (Jvm.Cond.selects "HundiHall$Order" ({ cls := "HundiHall$Order", name := "iterator", desc := "()Ljava/util/Iterator;" } : Jvm.MethodName) ({ cls := "HundiHall$Order", name := "iterator", desc := "()Ljava/util/Iterator;" } : Jvm.MethodName)) ∈ lw_all := lw_g (lw_at lw_m3 88 rfl) rfl
theorem q609 : (Jvm.Cond.code ({ cls := "HundiHall$Order", name := "iterator", desc := "()Ljava/util/Iterator;" } : Jvm.MethodName) prog_6_method_7_code (1 : Nat) (Option.some (Jvm.ClassFile.FieldType.object "java/util/Iterator"))) ∈ lw_all := lw_g (lw_at lw_m3 89 rfl) rfl
theorem q610 : (Jvm.Cond.classLink "HundiHall$Order" (55 : Nat) "HundiHall$Order$1") ∈ lw_all := lw_g (lw_at lw_m3 90 rfl) rfl
theorem q612 : (Jvm.Cond.methodLink "HundiHall$Order" (57 : Nat) ({ cls := "HundiHall$Order$1", name := "<init>", desc := "(LHundiHall$Order;)V" } : Jvm.MethodName)) ∈ lw_all := lw_g (lw_at lw_m3 92 rfl) rfl
theorem q625 : (Jvm.Cond.instanceMethod ({ cls := "HundiHall$Order", name := "placeOf", desc := "(LHundiHall$Broker;)I" } : Jvm.MethodName)) ∈ lw_all := lw_g (lw_at lw_m3 105 rfl) rfl
theorem q626 : (Jvm.Cond.selects "HundiHall$Order" ({ cls := "HundiHall$Order", name := "placeOf", desc := "(LHundiHall$Broker;)I" } : Jvm.MethodName) ({ cls := "HundiHall$Order", name := "placeOf", desc := "(LHundiHall$Broker;)I" } : Jvm.MethodName)) ∈ lw_all := lw_g (lw_at lw_m3 106 rfl) rfl
theorem q627 : (Jvm.Cond.code ({ cls := "HundiHall$Order", name := "placeOf", desc := "(LHundiHall$Broker;)I" } : Jvm.MethodName) prog_6_method_5_code (4 : Nat) (Option.some Jvm.ClassFile.FieldType.int)) ∈ lw_all := lw_g (lw_at lw_m3 107 rfl) rfl
theorem q633 : (Jvm.Cond.instanceMethod ({ cls := "HundiHall$Order", name := "last", desc := "()LHundiHall$Broker;" } : Jvm.MethodName)) ∈ lw_all := lw_g (lw_at lw_m3 113 rfl) rfl
theorem q634 : (Jvm.Cond.selects "HundiHall$Order" ({ cls := "HundiHall$Order", name := "last", desc := "()LHundiHall$Broker;" } : Jvm.MethodName) ({ cls := "HundiHall$Order", name := "last", desc := "()LHundiHall$Broker;" } : Jvm.MethodName)) ∈ lw_all := lw_g (lw_at lw_m3 114 rfl) rfl
theorem q635 : (Jvm.Cond.code ({ cls := "HundiHall$Order", name := "last", desc := "()LHundiHall$Broker;" } : Jvm.MethodName) prog_6_method_3_code (1 : Nat) (Option.some (Jvm.ClassFile.FieldType.object "HundiHall$Broker"))) ∈ lw_all := lw_g (lw_at lw_m3 115 rfl) rfl
theorem q657 : (Jvm.Cond.instanceMethod ({ cls := "HundiHall$Order", name := "feesBehind", desc := "(I)J" } : Jvm.MethodName)) ∈ lw_all := lw_g (lw_at lw_m3 137 rfl) rfl
theorem q658 : (Jvm.Cond.selects "HundiHall$Order" ({ cls := "HundiHall$Order", name := "feesBehind", desc := "(I)J" } : Jvm.MethodName) ({ cls := "HundiHall$Order", name := "feesBehind", desc := "(I)J" } : Jvm.MethodName)) ∈ lw_all := lw_g (lw_at lw_m3 138 rfl) rfl
theorem q659 : (Jvm.Cond.code ({ cls := "HundiHall$Order", name := "feesBehind", desc := "(I)J" } : Jvm.MethodName) prog_6_method_4_code (5 : Nat) (Option.some Jvm.ClassFile.FieldType.long)) ∈ lw_all := lw_g (lw_at lw_m3 139 rfl) rfl
theorem q661 : (Jvm.Cond.instanceMethod ({ cls := "HundiHall$Order", name := "turn", desc := "([LHundiHall$Broker;)V" } : Jvm.MethodName)) ∈ lw_all := lw_g (lw_at lw_m3 141 rfl) rfl
theorem q662 : (Jvm.Cond.selects "HundiHall$Order" ({ cls := "HundiHall$Order", name := "turn", desc := "([LHundiHall$Broker;)V" } : Jvm.MethodName) ({ cls := "HundiHall$Order", name := "turn", desc := "([LHundiHall$Broker;)V" } : Jvm.MethodName)) ∈ lw_all := lw_g (lw_at lw_m3 142 rfl) rfl
theorem q663 : (Jvm.Cond.code ({ cls := "HundiHall$Order", name := "turn", desc := "([LHundiHall$Broker;)V" } : Jvm.MethodName) prog_6_method_6_code (6 : Nat) (Option.none : Option Jvm.ClassFile.FieldType)) ∈ lw_all := lw_g (lw_at lw_m3 143 rfl) rfl
theorem q664 : (Jvm.Cond.classLink "HundiHall$Order" (36 : Nat) "HundiHall$Broker") ∈ lw_all := lw_g (lw_at lw_m3 144 rfl) rfl
theorem q665 : (Jvm.Cond.methodLink "HundiHall$Order" (35 : Nat) ({ cls := "HundiHall$Broker", name := "feeOf", desc := "(I)I" } : Jvm.MethodName)) ∈ lw_all := lw_g (lw_at lw_m3 145 rfl) rfl
theorem q666 : (Jvm.Cond.methodLink "HundiHall$Order" (45 : Nat) ({ cls := "HundiHall$Order", name := "feesBehind", desc := "(I)J" } : Jvm.MethodName)) ∈ lw_all := lw_g (lw_at lw_m3 146 rfl) rfl
theorem q707 : (Jvm.Cond.instantiable "HundiHall$Order" (11 : Nat)) ∈ lw_all := lw_g (lw_at lw_m3 187 rfl) rfl
theorem q709 : (Jvm.Cond.instanceMethod ({ cls := "HundiHall$Order", name := "<init>", desc := "(IIII[LHundiHall$Broker;)V" } : Jvm.MethodName)) ∈ lw_all := lw_g (lw_at lw_m3 189 rfl) rfl
theorem q710 : (Jvm.Cond.code ({ cls := "HundiHall$Order", name := "<init>", desc := "(IIII[LHundiHall$Broker;)V" } : Jvm.MethodName) prog_6_method_1_code (7 : Nat) (Option.none : Option Jvm.ClassFile.FieldType)) ∈ lw_all := lw_g (lw_at lw_m3 190 rfl) rfl
theorem q711 : (Jvm.Cond.methodLink "HundiHall$Order" (3 : Nat) ({ cls := "java/lang/Object", name := "<init>", desc := "()V" } : Jvm.MethodName)) ∈ lw_all := lw_g (lw_at lw_m3 191 rfl) rfl
theorem q712 : (Jvm.Cond.fieldLink "HundiHall$Order" (15 : Nat) "HundiHall$Order" "number" "I") ∈ lw_all := lw_g (lw_at lw_m3 192 rfl) rfl
theorem q714 : (Jvm.Cond.fieldLink "HundiHall$Order" (18 : Nat) "HundiHall$Order" "amount" "I") ∈ lw_all := lw_g (lw_at lw_m3 194 rfl) rfl
theorem q716 : (Jvm.Cond.fieldLink "HundiHall$Order" (21 : Nat) "HundiHall$Order" "code" "I") ∈ lw_all := lw_g (lw_at lw_m3 196 rfl) rfl
theorem q718 : (Jvm.Cond.fieldLink "HundiHall$Order" (24 : Nat) "HundiHall$Order" "given" "I") ∈ lw_all := lw_g (lw_at lw_m3 198 rfl) rfl
theorem q720 : (Jvm.Cond.fieldLink "HundiHall$Order" (49 : Nat) "HundiHall$Order" "sum" "I") ∈ lw_all := lw_g (lw_at lw_m3 200 rfl) rfl
theorem q722 : (Jvm.Cond.fieldLink "HundiHall$Order" (27 : Nat) "HundiHall$Order" "way" "[LHundiHall$Broker;") ∈ lw_all := lw_g (lw_at lw_m3 202 rfl) rfl
theorem q725 : (Jvm.Cond.fieldLink "HundiHall$Order" (31 : Nat) "HundiHall$Order" "fees" "[I") ∈ lw_all := lw_g (lw_at lw_m3 205 rfl) rfl
theorem q726 : (Jvm.Cond.fieldLink "HundiHall$Order" (41 : Nat) "HundiHall$Order" "debts" "[J") ∈ lw_all := lw_g (lw_at lw_m3 206 rfl) rfl
theorem q728 : (Jvm.Cond.fieldLink "HundiHall$Order" (52 : Nat) "HundiHall$Order" "place" "I") ∈ lw_all := lw_g (lw_at lw_m3 208 rfl) rfl
theorem q731 : (Jvm.Cond.fieldLink "HundiHall$Order" (9 : Nat) "HundiHall$Order" "state" "I") ∈ lw_all := lw_g (lw_at lw_m3 211 rfl) rfl
theorem q733 : (Jvm.Cond.laysFinal "HundiHall$Order" "HundiHall$Order" "number" "I") ∈ lw_all := lw_g (lw_at lw_m3 213 rfl) rfl
theorem q734 : (Jvm.Cond.soleField "HundiHall$Order" "number") ∈ lw_all := lw_g (lw_at lw_m3 214 rfl) rfl
theorem q735 : (Jvm.Cond.laysFinal "HundiHall$Order" "HundiHall$Order" "amount" "I") ∈ lw_all := lw_g (lw_at lw_m3 215 rfl) rfl
theorem q736 : (Jvm.Cond.soleField "HundiHall$Order" "amount") ∈ lw_all := lw_g (lw_at lw_m3 216 rfl) rfl
theorem q737 : (Jvm.Cond.laysFinal "HundiHall$Order" "HundiHall$Order" "code" "I") ∈ lw_all := lw_g (lw_at lw_m3 217 rfl) rfl
theorem q738 : (Jvm.Cond.soleField "HundiHall$Order" "code") ∈ lw_all := lw_g (lw_at lw_m3 218 rfl) rfl
theorem q739 : (Jvm.Cond.laysFinal "HundiHall$Order" "HundiHall$Order" "given" "I") ∈ lw_all := lw_g (lw_at lw_m3 219 rfl) rfl
theorem q740 : (Jvm.Cond.soleField "HundiHall$Order" "given") ∈ lw_all := lw_g (lw_at lw_m3 220 rfl) rfl
theorem q741 : (Jvm.Cond.laysFinal "HundiHall$Order" "HundiHall$Order" "sum" "I") ∈ lw_all := lw_g (lw_at lw_m3 221 rfl) rfl
theorem q742 : (Jvm.Cond.soleField "HundiHall$Order" "sum") ∈ lw_all := lw_g (lw_at lw_m3 222 rfl) rfl
theorem q743 : (Jvm.Cond.lays "HundiHall$Order" "HundiHall$Order" "way" "[LHundiHall$Broker;") ∈ lw_all := lw_g (lw_at lw_m3 223 rfl) rfl
theorem q744 : (Jvm.Cond.soleField "HundiHall$Order" "way") ∈ lw_all := lw_g (lw_at lw_m3 224 rfl) rfl
theorem q745 : (Jvm.Cond.lays "HundiHall$Order" "HundiHall$Order" "fees" "[I") ∈ lw_all := lw_g (lw_at lw_m3 225 rfl) rfl
theorem q746 : (Jvm.Cond.soleField "HundiHall$Order" "fees") ∈ lw_all := lw_g (lw_at lw_m3 226 rfl) rfl
theorem q747 : (Jvm.Cond.lays "HundiHall$Order" "HundiHall$Order" "debts" "[J") ∈ lw_all := lw_g (lw_at lw_m3 227 rfl) rfl
theorem q748 : (Jvm.Cond.soleField "HundiHall$Order" "debts") ∈ lw_all := lw_g (lw_at lw_m3 228 rfl) rfl
theorem q749 : (Jvm.Cond.lays "HundiHall$Order" "HundiHall$Order" "place" "I") ∈ lw_all := lw_g (lw_at lw_m3 229 rfl) rfl
theorem q750 : (Jvm.Cond.soleField "HundiHall$Order" "place") ∈ lw_all := lw_g (lw_at lw_m3 230 rfl) rfl
theorem q751 : (Jvm.Cond.lays "HundiHall$Order" "HundiHall$Order" "tries" "I") ∈ lw_all := lw_g (lw_at lw_m3 231 rfl) rfl
theorem q752 : (Jvm.Cond.soleField "HundiHall$Order" "tries") ∈ lw_all := lw_g (lw_at lw_m3 232 rfl) rfl
theorem q753 : (Jvm.Cond.lays "HundiHall$Order" "HundiHall$Order" "state" "I") ∈ lw_all := lw_g (lw_at lw_m3 233 rfl) rfl
theorem q754 : (Jvm.Cond.soleField "HundiHall$Order" "state") ∈ lw_all := lw_g (lw_at lw_m3 234 rfl) rfl
theorem q755 : (Jvm.Cond.superclass "HundiHall$Order" "java/lang/Object") ∈ lw_all := lw_g (lw_at lw_m3 235 rfl) rfl
theorem q779 : (Jvm.Cond.instanceMethod ({ cls := "HundiHall$Order", name := "isOpen", desc := "()Z" } : Jvm.MethodName)) ∈ lw_all := lw_g (lw_at lw_m4 19 rfl) rfl
theorem q780 : (Jvm.Cond.selects "HundiHall$Order" ({ cls := "HundiHall$Order", name := "isOpen", desc := "()Z" } : Jvm.MethodName) ({ cls := "HundiHall$Order", name := "isOpen", desc := "()Z" } : Jvm.MethodName)) ∈ lw_all := lw_g (lw_at lw_m4 20 rfl) rfl
theorem q781 : (Jvm.Cond.code ({ cls := "HundiHall$Order", name := "isOpen", desc := "()Z" } : Jvm.MethodName) prog_6_method_8_code (1 : Nat) (Option.some Jvm.ClassFile.FieldType.boolean)) ∈ lw_all := lw_g (lw_at lw_m4 21 rfl) rfl
theorem q1253 : (Jvm.Cond.castable "HundiHall$Order" "java/lang/Object") ∈ lw_tbl := lw_at lw_m6 13 rfl
theorem in_X8 : ∀ w ∈ wsX80, w ∈ lw_all := lw_in wsX80 [733, 735, 737, 739, 741, 743, 745, 747, 749, 751, 753] (by decide +kernel) (by decide +kernel)
/-! HundiHall$Courier -/
set_option maxRecDepth 100000
def RX9 : String := "HundiHall$Courier"
def TX9 : u_T := fun k => match k with
  | 0 => ("HundiHall$Courier", "from", "LHundiHall$Broker;", true)
  | 1 => ("HundiHall$Courier", "to", "LHundiHall$Broker;", true)
  | 2 => ("HundiHall$Courier", "amount", "I", true)
  | 3 => ("HundiHall$Courier", "comes", "I", true)
  | _ => ("HundiHall$Courier", "isGone", "Z", false)
def tyX9 : Nat → FieldType := fun k => match k with
  | 0 => .object "HundiHall$Broker"
  | 1 => .object "HundiHall$Broker"
  | 2 => .int
  | 3 => .int
  | _ => .boolean
abbrev wsX90 : List Cond := u_ws RX9 TX9 5
theorem nmX9 : ∀ a, a < 5 → ∀ b, b < 5 → a ≠ b → (TX9 a).2.1 ≠ (TX9 b).2.1 := by decide +kernel
theorem tyX9_ok : ∀ k, k < 5 → parseFieldDescriptor (TX9 k).2.2.1 = some (tyX9 k) := by decide +kernel
abbrev cX9_init : ByteArray := prog_4_method_1_code
def yX9_init : MethodName := ⟨RX9, "<init>", "(LHundiHall$Broker;LHundiHall$Broker;II)V"⟩
def dkwX9_init_1 : List UInt8 := [181, 0, 20, 177]
abbrev dktX9_init_1 : List UInt8 := dkwX9_init_1 ++ []
def dkwX9_init_0 : List UInt8 := [42, 183, 0, 1, 42, 43, 181, 0, 7, 42, 44, 181, 0, 13, 42, 29, 181, 0, 16, 42, 21, 4]
abbrev dktX9_init_0 : List UInt8 := dkwX9_init_0 ++ dktX9_init_1
theorem dksX9_init_0 : cX9_init.data.toList.drop 0 = dktX9_init_0 := by decide +kernel
theorem dksX9_init_1 : cX9_init.data.toList.drop 22 = dktX9_init_1 := dk_seg dksX9_init_0 22 rfl rfl
theorem dX9_init_0 : decode cX9_init 0 = .ok (.aload_n 0, 1) := dk_42 (dk_at dksX9_init_0 0 rfl rfl)
theorem dX9_init_1 : decode cX9_init 1 = .ok (.invokespecial 1, 3) := dk_183 0 1 (dk_at dksX9_init_0 1 rfl rfl)
theorem dX9_init_4 : decode cX9_init 4 = .ok (.aload_n 0, 1) := dk_42 (dk_at dksX9_init_0 4 rfl rfl)
theorem dX9_init_5 : decode cX9_init 5 = .ok (.aload_n 1, 1) := dk_43 (dk_at dksX9_init_0 5 rfl rfl)
theorem dX9_init_6 : decode cX9_init 6 = .ok (.putfield 7, 3) := dk_181 0 7 (dk_at dksX9_init_0 6 rfl rfl)
theorem dX9_init_9 : decode cX9_init 9 = .ok (.aload_n 0, 1) := dk_42 (dk_at dksX9_init_0 9 rfl rfl)
theorem dX9_init_10 : decode cX9_init 10 = .ok (.aload_n 2, 1) := dk_44 (dk_at dksX9_init_0 10 rfl rfl)
theorem dX9_init_11 : decode cX9_init 11 = .ok (.putfield 13, 3) := dk_181 0 13 (dk_at dksX9_init_0 11 rfl rfl)
theorem dX9_init_14 : decode cX9_init 14 = .ok (.aload_n 0, 1) := dk_42 (dk_at dksX9_init_0 14 rfl rfl)
theorem dX9_init_15 : decode cX9_init 15 = .ok (.iload_n 3, 1) := dk_29 (dk_at dksX9_init_0 15 rfl rfl)
theorem dX9_init_16 : decode cX9_init 16 = .ok (.putfield 16, 3) := dk_181 0 16 (dk_at dksX9_init_0 16 rfl rfl)
theorem dX9_init_19 : decode cX9_init 19 = .ok (.aload_n 0, 1) := dk_42 (dk_at dksX9_init_0 19 rfl rfl)
theorem dX9_init_20 : decode cX9_init 20 = .ok (.iload 4, 2) := dk_21 4 (dk_at dksX9_init_0 20 rfl rfl)
theorem dX9_init_22 : decode cX9_init 22 = .ok (.putfield 20, 3) := dk_181 0 20 (dk_at dksX9_init_1 0 rfl rfl)
theorem dX9_init_25 : decode cX9_init 25 = .ok (.return_, 1) := dk_177 (dk_at dksX9_init_1 3 rfl rfl)
theorem q68 : (Jvm.Cond.initialized "HundiHall$Courier") ∈ lw_all := lw_g (lw_at lw_m1 28 rfl) rfl
theorem q495 : (Jvm.Cond.selects "HundiHall$Courier" ({ cls := "java/lang/Object", name := "getClass", desc := "()Ljava/lang/Class;" } : Jvm.MethodName) ({ cls := "java/lang/Object", name := "getClass", desc := "()Ljava/lang/Class;" } : Jvm.MethodName)) ∈ lw_all := lw_g (lw_at lw_m2 215 rfl) rfl
theorem q817 : (Jvm.Cond.instantiable "HundiHall$Courier" (5 : Nat)) ∈ lw_all := lw_g (lw_at lw_m4 57 rfl) rfl
theorem q819 : (Jvm.Cond.instanceMethod ({ cls := "HundiHall$Courier", name := "<init>", desc := "(LHundiHall$Broker;LHundiHall$Broker;II)V" } : Jvm.MethodName)) ∈ lw_all := lw_g (lw_at lw_m4 59 rfl) rfl
theorem q820 : (Jvm.Cond.code ({ cls := "HundiHall$Courier", name := "<init>", desc := "(LHundiHall$Broker;LHundiHall$Broker;II)V" } : Jvm.MethodName) prog_4_method_1_code (5 : Nat) (Option.none : Option Jvm.ClassFile.FieldType)) ∈ lw_all := lw_g (lw_at lw_m4 60 rfl) rfl
theorem q821 : (Jvm.Cond.methodLink "HundiHall$Courier" (1 : Nat) ({ cls := "java/lang/Object", name := "<init>", desc := "()V" } : Jvm.MethodName)) ∈ lw_all := lw_g (lw_at lw_m4 61 rfl) rfl
theorem q822 : (Jvm.Cond.fieldLink "HundiHall$Courier" (7 : Nat) "HundiHall$Courier" "from" "LHundiHall$Broker;") ∈ lw_all := lw_g (lw_at lw_m4 62 rfl) rfl
theorem q824 : (Jvm.Cond.fieldLink "HundiHall$Courier" (13 : Nat) "HundiHall$Courier" "to" "LHundiHall$Broker;") ∈ lw_all := lw_g (lw_at lw_m4 64 rfl) rfl
theorem q826 : (Jvm.Cond.fieldLink "HundiHall$Courier" (16 : Nat) "HundiHall$Courier" "amount" "I") ∈ lw_all := lw_g (lw_at lw_m4 66 rfl) rfl
theorem q828 : (Jvm.Cond.fieldLink "HundiHall$Courier" (20 : Nat) "HundiHall$Courier" "comes" "I") ∈ lw_all := lw_g (lw_at lw_m4 68 rfl) rfl
theorem q831 : (Jvm.Cond.laysFinal "HundiHall$Courier" "HundiHall$Courier" "from" "LHundiHall$Broker;") ∈ lw_all := lw_g (lw_at lw_m4 71 rfl) rfl
theorem q832 : (Jvm.Cond.soleField "HundiHall$Courier" "from") ∈ lw_all := lw_g (lw_at lw_m4 72 rfl) rfl
theorem q833 : (Jvm.Cond.laysFinal "HundiHall$Courier" "HundiHall$Courier" "to" "LHundiHall$Broker;") ∈ lw_all := lw_g (lw_at lw_m4 73 rfl) rfl
theorem q834 : (Jvm.Cond.soleField "HundiHall$Courier" "to") ∈ lw_all := lw_g (lw_at lw_m4 74 rfl) rfl
theorem q835 : (Jvm.Cond.laysFinal "HundiHall$Courier" "HundiHall$Courier" "amount" "I") ∈ lw_all := lw_g (lw_at lw_m4 75 rfl) rfl
theorem q836 : (Jvm.Cond.soleField "HundiHall$Courier" "amount") ∈ lw_all := lw_g (lw_at lw_m4 76 rfl) rfl
theorem q837 : (Jvm.Cond.laysFinal "HundiHall$Courier" "HundiHall$Courier" "comes" "I") ∈ lw_all := lw_g (lw_at lw_m4 77 rfl) rfl
theorem q838 : (Jvm.Cond.soleField "HundiHall$Courier" "comes") ∈ lw_all := lw_g (lw_at lw_m4 78 rfl) rfl
theorem q839 : (Jvm.Cond.lays "HundiHall$Courier" "HundiHall$Courier" "isGone" "Z") ∈ lw_all := lw_g (lw_at lw_m4 79 rfl) rfl
theorem q840 : (Jvm.Cond.soleField "HundiHall$Courier" "isGone") ∈ lw_all := lw_g (lw_at lw_m4 80 rfl) rfl
theorem q841 : (Jvm.Cond.superclass "HundiHall$Courier" "java/lang/Object") ∈ lw_all := lw_g (lw_at lw_m4 81 rfl) rfl
theorem q1254 : (Jvm.Cond.castable "HundiHall$Courier" "java/lang/Object") ∈ lw_tbl := lw_at lw_m6 14 rfl
theorem in_X9 : ∀ w ∈ wsX90, w ∈ lw_all := lw_in wsX90 [831, 833, 835, 837, 839] (by decide +kernel) (by decide +kernel)
