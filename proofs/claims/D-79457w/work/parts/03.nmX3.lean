/-! TurningWheelModel -/
set_option maxRecDepth 100000
def RX3 : String := "TurningWheelModel"
def TX3 : u_T := fun k => match k with
  | 0 => ("TurningWheelModel", "g", "[I", true)
  | 1 => ("TurningWheelModel", "history", "[I", true)
  | 2 => ("TurningWheelModel", "changes", "I", false)
  | 3 => ("TurningWheelModel", "saved", "[I", true)
  | 4 => ("TurningWheelModel", "hasSaved", "Z", false)
  | 5 => ("TurningWheelModel", "aside", "[I", true)
  | 6 => ("TurningWheelModel", "input", "[I", true)
  | 7 => ("TurningWheelModel", "fed", "I", false)
  | 8 => ("TurningWheelModel", "faultAt", "I", false)
  | 9 => ("TurningWheelModel", "why", "[I", true)
  | 10 => ("TurningWheelModel", "whys", "I", false)
  | 11 => ("TurningWheelModel", "now", "[I", true)
  | 12 => ("TurningWheelModel", "nows", "I", false)
  | 13 => ("TurningWheelModel", "cracksThen", "I", false)
  | 14 => ("TurningWheelModel", "stateThen", "I", false)
  | 15 => ("TurningWheelModel", "place", "I", false)
  | 16 => ("TurningWheelModel", "isWrong", "Z", false)
  | 17 => ("TurningWheelModel", "told", "[I", true)
  | 18 => ("TurningWheelModel", "soldNow", "I", false)
  | _ => ("TurningWheelModel", "before", "[I", true)
def tyX3 : Nat → FieldType := fun k => match k with
  | 0 => .array .int
  | 1 => .array .int
  | 2 => .int
  | 3 => .array .int
  | 4 => .boolean
  | 5 => .array .int
  | 6 => .array .int
  | 7 => .int
  | 8 => .int
  | 9 => .array .int
  | 10 => .int
  | 11 => .array .int
  | 12 => .int
  | 13 => .int
  | 14 => .int
  | 15 => .int
  | 16 => .boolean
  | 17 => .array .int
  | 18 => .int
  | _ => .array .int
abbrev wsX30 : List Cond := u_ws RX3 TX3 20
set_option maxRecDepth 100000 in
theorem nmX3 : ∀ a, a < 20 → ∀ b, b < 20 → a ≠ b → (TX3 a).2.1 ≠ (TX3 b).2.1 := by decide +kernel
set_option maxRecDepth 100000 in
theorem tyX3_ok : ∀ k, k < 20 → parseFieldDescriptor (TX3 k).2.2.1 = some (tyX3 k) := by decide +kernel
abbrev cX3_init : ByteArray := prog_32_method_1_code
def yX3_init : MethodName := ⟨RX3, "<init>", "()V"⟩
def dkwX3_init_3 : List UInt8 := [17, 0, 240, 188, 10, 181, 0, 35, 42, 17, 4, 84, 188, 10, 181, 0, 38, 42, 182, 0, 41, 177]
abbrev dktX3_init_3 : List UInt8 := dkwX3_init_3 ++ []
def dkwX3_init_2 : List UInt8 := [181, 0, 22, 42, 2, 181, 0, 25, 42, 16, 6, 188, 10, 181, 0, 29, 42, 7, 188, 10, 181, 0, 32, 42]
abbrev dktX3_init_2 : List UInt8 := dkwX3_init_2 ++ dktX3_init_3
def dkwX3_init_1 : List UInt8 := [17, 4, 84, 188, 10, 181, 0, 16, 42, 17, 4, 84, 188, 10, 181, 0, 19, 42, 16, 60, 188, 10]
abbrev dktX3_init_1 : List UInt8 := dkwX3_init_1 ++ dktX3_init_2
def dkwX3_init_0 : List UInt8 := [42, 183, 0, 1, 42, 17, 4, 84, 188, 10, 181, 0, 9, 42, 17, 34, 160, 188, 10, 181, 0, 13, 42]
abbrev dktX3_init_0 : List UInt8 := dkwX3_init_0 ++ dktX3_init_1
theorem dksX3_init_0 : cX3_init.data.toList.drop 0 = dktX3_init_0 := by decide +kernel
theorem dksX3_init_1 : cX3_init.data.toList.drop 23 = dktX3_init_1 := dk_seg dksX3_init_0 23 rfl rfl
theorem dksX3_init_2 : cX3_init.data.toList.drop 45 = dktX3_init_2 := dk_seg dksX3_init_1 22 rfl rfl
theorem dksX3_init_3 : cX3_init.data.toList.drop 69 = dktX3_init_3 := dk_seg dksX3_init_2 24 rfl rfl
theorem dX3_init_0 : decode cX3_init 0 = .ok (.aload_n 0, 1) := dk_42 (dk_at dksX3_init_0 0 rfl rfl)
theorem dX3_init_1 : decode cX3_init 1 = .ok (.invokespecial 1, 3) := dk_183 0 1 (dk_at dksX3_init_0 1 rfl rfl)
theorem dX3_init_4 : decode cX3_init 4 = .ok (.aload_n 0, 1) := dk_42 (dk_at dksX3_init_0 4 rfl rfl)
theorem dX3_init_5 : decode cX3_init 5 = .ok (.sipush 1108, 3) := dk_17 4 84 (dk_at dksX3_init_0 5 rfl rfl)
theorem dX3_init_8 : decode cX3_init 8 = .ok (.newarray .int, 2) := dk_188_10 (dk_at dksX3_init_0 8 rfl rfl)
theorem dX3_init_10 : decode cX3_init 10 = .ok (.putfield 9, 3) := dk_181 0 9 (dk_at dksX3_init_0 10 rfl rfl)
theorem dX3_init_13 : decode cX3_init 13 = .ok (.aload_n 0, 1) := dk_42 (dk_at dksX3_init_0 13 rfl rfl)
theorem dX3_init_14 : decode cX3_init 14 = .ok (.sipush 8864, 3) := dk_17 34 160 (dk_at dksX3_init_0 14 rfl rfl)
theorem dX3_init_17 : decode cX3_init 17 = .ok (.newarray .int, 2) := dk_188_10 (dk_at dksX3_init_0 17 rfl rfl)
theorem dX3_init_19 : decode cX3_init 19 = .ok (.putfield 13, 3) := dk_181 0 13 (dk_at dksX3_init_0 19 rfl rfl)
theorem dX3_init_22 : decode cX3_init 22 = .ok (.aload_n 0, 1) := dk_42 (dk_at dksX3_init_0 22 rfl rfl)
theorem dX3_init_23 : decode cX3_init 23 = .ok (.sipush 1108, 3) := dk_17 4 84 (dk_at dksX3_init_1 0 rfl rfl)
theorem dX3_init_26 : decode cX3_init 26 = .ok (.newarray .int, 2) := dk_188_10 (dk_at dksX3_init_1 3 rfl rfl)
theorem dX3_init_28 : decode cX3_init 28 = .ok (.putfield 16, 3) := dk_181 0 16 (dk_at dksX3_init_1 5 rfl rfl)
theorem dX3_init_31 : decode cX3_init 31 = .ok (.aload_n 0, 1) := dk_42 (dk_at dksX3_init_1 8 rfl rfl)
theorem dX3_init_32 : decode cX3_init 32 = .ok (.sipush 1108, 3) := dk_17 4 84 (dk_at dksX3_init_1 9 rfl rfl)
theorem dX3_init_35 : decode cX3_init 35 = .ok (.newarray .int, 2) := dk_188_10 (dk_at dksX3_init_1 12 rfl rfl)
theorem dX3_init_37 : decode cX3_init 37 = .ok (.putfield 19, 3) := dk_181 0 19 (dk_at dksX3_init_1 14 rfl rfl)
theorem dX3_init_40 : decode cX3_init 40 = .ok (.aload_n 0, 1) := dk_42 (dk_at dksX3_init_1 17 rfl rfl)
theorem dX3_init_41 : decode cX3_init 41 = .ok (.bipush 60, 2) := dk_16 60 (dk_at dksX3_init_1 18 rfl rfl)
theorem dX3_init_43 : decode cX3_init 43 = .ok (.newarray .int, 2) := dk_188_10 (dk_at dksX3_init_1 20 rfl rfl)
theorem dX3_init_45 : decode cX3_init 45 = .ok (.putfield 22, 3) := dk_181 0 22 (dk_at dksX3_init_2 0 rfl rfl)
theorem dX3_init_48 : decode cX3_init 48 = .ok (.aload_n 0, 1) := dk_42 (dk_at dksX3_init_2 3 rfl rfl)
theorem dX3_init_49 : decode cX3_init 49 = .ok (.iconst (-1), 1) := dk_2 (dk_at dksX3_init_2 4 rfl rfl)
theorem dX3_init_50 : decode cX3_init 50 = .ok (.putfield 25, 3) := dk_181 0 25 (dk_at dksX3_init_2 5 rfl rfl)
theorem dX3_init_53 : decode cX3_init 53 = .ok (.aload_n 0, 1) := dk_42 (dk_at dksX3_init_2 8 rfl rfl)
theorem dX3_init_54 : decode cX3_init 54 = .ok (.bipush 6, 2) := dk_16 6 (dk_at dksX3_init_2 9 rfl rfl)
theorem dX3_init_56 : decode cX3_init 56 = .ok (.newarray .int, 2) := dk_188_10 (dk_at dksX3_init_2 11 rfl rfl)
theorem dX3_init_58 : decode cX3_init 58 = .ok (.putfield 29, 3) := dk_181 0 29 (dk_at dksX3_init_2 13 rfl rfl)
theorem dX3_init_61 : decode cX3_init 61 = .ok (.aload_n 0, 1) := dk_42 (dk_at dksX3_init_2 16 rfl rfl)
theorem dX3_init_62 : decode cX3_init 62 = .ok (.iconst 4, 1) := dk_7 (dk_at dksX3_init_2 17 rfl rfl)
theorem dX3_init_63 : decode cX3_init 63 = .ok (.newarray .int, 2) := dk_188_10 (dk_at dksX3_init_2 18 rfl rfl)
theorem dX3_init_65 : decode cX3_init 65 = .ok (.putfield 32, 3) := dk_181 0 32 (dk_at dksX3_init_2 20 rfl rfl)
theorem dX3_init_68 : decode cX3_init 68 = .ok (.aload_n 0, 1) := dk_42 (dk_at dksX3_init_2 23 rfl rfl)
theorem dX3_init_69 : decode cX3_init 69 = .ok (.sipush 240, 3) := dk_17 0 240 (dk_at dksX3_init_3 0 rfl rfl)
theorem dX3_init_72 : decode cX3_init 72 = .ok (.newarray .int, 2) := dk_188_10 (dk_at dksX3_init_3 3 rfl rfl)
theorem dX3_init_74 : decode cX3_init 74 = .ok (.putfield 35, 3) := dk_181 0 35 (dk_at dksX3_init_3 5 rfl rfl)
theorem dX3_init_77 : decode cX3_init 77 = .ok (.aload_n 0, 1) := dk_42 (dk_at dksX3_init_3 8 rfl rfl)
theorem dX3_init_78 : decode cX3_init 78 = .ok (.sipush 1108, 3) := dk_17 4 84 (dk_at dksX3_init_3 9 rfl rfl)
theorem dX3_init_81 : decode cX3_init 81 = .ok (.newarray .int, 2) := dk_188_10 (dk_at dksX3_init_3 12 rfl rfl)
theorem dX3_init_83 : decode cX3_init 83 = .ok (.putfield 38, 3) := dk_181 0 38 (dk_at dksX3_init_3 14 rfl rfl)
theorem dX3_init_86 : decode cX3_init 86 = .ok (.aload_n 0, 1) := dk_42 (dk_at dksX3_init_3 17 rfl rfl)
theorem dX3_init_87 : decode cX3_init 87 = .ok (.invokevirtual 41, 3) := dk_182 0 41 (dk_at dksX3_init_3 18 rfl rfl)
theorem dX3_init_90 : decode cX3_init 90 = .ok (.return_, 1) := dk_177 (dk_at dksX3_init_3 21 rfl rfl)
abbrev cX3_begins : ByteArray := prog_32_method_4_code
def yX3_begins : MethodName := ⟨RX3, "begins", "()V"⟩
def dkwX3_begins_5 : List UInt8 := [27, 16, 8, 162, 0, 19, 42, 180, 0, 9, 16, 41, 27, 96, 2, 79, 132, 1, 1, 167, 255, 237, 177]
abbrev dktX3_begins_5 : List UInt8 := dkwX3_begins_5 ++ []
def dkwX3_begins_4 : List UInt8 := [132, 1, 1, 167, 255, 236, 42, 180, 0, 9, 16, 38, 2, 79, 42, 180, 0, 9, 16, 40, 2, 79, 3, 60]
abbrev dktX3_begins_4 : List UInt8 := dkwX3_begins_4 ++ dktX3_begins_5
def dkwX3_begins_3 : List UInt8 := [16, 12, 79, 3, 60, 27, 16, 24, 162, 0, 20, 42, 180, 0, 9, 16, 10, 27, 96, 16, 20, 79]
abbrev dktX3_begins_3 : List UInt8 := dkwX3_begins_3 ++ dktX3_begins_4
def dkwX3_begins_2 : List UInt8 := [180, 0, 9, 16, 7, 16, 8, 79, 42, 180, 0, 9, 16, 8, 17, 0, 150, 79, 42, 180, 0, 9, 16, 9]
abbrev dktX3_begins_2 : List UInt8 := dkwX3_begins_2 ++ dktX3_begins_3
def dkwX3_begins_1 : List UInt8 := [180, 0, 9, 7, 4, 79, 42, 180, 0, 9, 8, 6, 79, 42, 180, 0, 9, 16, 6, 8, 79, 42]
abbrev dktX3_begins_1 : List UInt8 := dkwX3_begins_1 ++ dktX3_begins_2
def dkwX3_begins_0 : List UInt8 := [3, 60, 27, 17, 4, 84, 162, 0, 16, 42, 180, 0, 9, 27, 3, 79, 132, 1, 1, 167, 255, 239, 42]
abbrev dktX3_begins_0 : List UInt8 := dkwX3_begins_0 ++ dktX3_begins_1
theorem dksX3_begins_0 : cX3_begins.data.toList.drop 0 = dktX3_begins_0 := by decide +kernel
theorem dksX3_begins_1 : cX3_begins.data.toList.drop 23 = dktX3_begins_1 := dk_seg dksX3_begins_0 23 rfl rfl
theorem dksX3_begins_2 : cX3_begins.data.toList.drop 45 = dktX3_begins_2 := dk_seg dksX3_begins_1 22 rfl rfl
theorem dksX3_begins_3 : cX3_begins.data.toList.drop 69 = dktX3_begins_3 := dk_seg dksX3_begins_2 24 rfl rfl
theorem dksX3_begins_4 : cX3_begins.data.toList.drop 91 = dktX3_begins_4 := dk_seg dksX3_begins_3 22 rfl rfl
theorem dksX3_begins_5 : cX3_begins.data.toList.drop 115 = dktX3_begins_5 := dk_seg dksX3_begins_4 24 rfl rfl
theorem dX3_begins_0 : decode cX3_begins 0 = .ok (.iconst 0, 1) := dk_3 (dk_at dksX3_begins_0 0 rfl rfl)
theorem dX3_begins_1 : decode cX3_begins 1 = .ok (.istore_n 1, 1) := dk_60 (dk_at dksX3_begins_0 1 rfl rfl)
theorem dX3_begins_2 : decode cX3_begins 2 = .ok (.iload_n 1, 1) := dk_27 (dk_at dksX3_begins_0 2 rfl rfl)
theorem dX3_begins_3 : decode cX3_begins 3 = .ok (.sipush 1108, 3) := dk_17 4 84 (dk_at dksX3_begins_0 3 rfl rfl)
theorem dX3_begins_6 : decode cX3_begins 6 = .ok (.if_icmp .ge 16, 3) := dk_162 0 16 (dk_at dksX3_begins_0 6 rfl rfl)
theorem dX3_begins_9 : decode cX3_begins 9 = .ok (.aload_n 0, 1) := dk_42 (dk_at dksX3_begins_0 9 rfl rfl)
theorem dX3_begins_10 : decode cX3_begins 10 = .ok (.getfield 9, 3) := dk_180 0 9 (dk_at dksX3_begins_0 10 rfl rfl)
theorem dX3_begins_13 : decode cX3_begins 13 = .ok (.iload_n 1, 1) := dk_27 (dk_at dksX3_begins_0 13 rfl rfl)
theorem dX3_begins_14 : decode cX3_begins 14 = .ok (.iconst 0, 1) := dk_3 (dk_at dksX3_begins_0 14 rfl rfl)
theorem dX3_begins_15 : decode cX3_begins 15 = .ok (.iastore, 1) := dk_79 (dk_at dksX3_begins_0 15 rfl rfl)
theorem dX3_begins_16 : decode cX3_begins 16 = .ok (.iinc 1 1, 3) := dk_132 1 1 (dk_at dksX3_begins_0 16 rfl rfl)
theorem dX3_begins_19 : decode cX3_begins 19 = .ok (.goto (-17), 3) := dk_167 255 239 (dk_at dksX3_begins_0 19 rfl rfl)
theorem dX3_begins_22 : decode cX3_begins 22 = .ok (.aload_n 0, 1) := dk_42 (dk_at dksX3_begins_0 22 rfl rfl)
theorem dX3_begins_23 : decode cX3_begins 23 = .ok (.getfield 9, 3) := dk_180 0 9 (dk_at dksX3_begins_1 0 rfl rfl)
theorem dX3_begins_26 : decode cX3_begins 26 = .ok (.iconst 4, 1) := dk_7 (dk_at dksX3_begins_1 3 rfl rfl)
theorem dX3_begins_27 : decode cX3_begins 27 = .ok (.iconst 1, 1) := dk_4 (dk_at dksX3_begins_1 4 rfl rfl)
theorem dX3_begins_28 : decode cX3_begins 28 = .ok (.iastore, 1) := dk_79 (dk_at dksX3_begins_1 5 rfl rfl)
theorem dX3_begins_29 : decode cX3_begins 29 = .ok (.aload_n 0, 1) := dk_42 (dk_at dksX3_begins_1 6 rfl rfl)
theorem dX3_begins_30 : decode cX3_begins 30 = .ok (.getfield 9, 3) := dk_180 0 9 (dk_at dksX3_begins_1 7 rfl rfl)
theorem dX3_begins_33 : decode cX3_begins 33 = .ok (.iconst 5, 1) := dk_8 (dk_at dksX3_begins_1 10 rfl rfl)
theorem dX3_begins_34 : decode cX3_begins 34 = .ok (.iconst 3, 1) := dk_6 (dk_at dksX3_begins_1 11 rfl rfl)
theorem dX3_begins_35 : decode cX3_begins 35 = .ok (.iastore, 1) := dk_79 (dk_at dksX3_begins_1 12 rfl rfl)
theorem dX3_begins_36 : decode cX3_begins 36 = .ok (.aload_n 0, 1) := dk_42 (dk_at dksX3_begins_1 13 rfl rfl)
theorem dX3_begins_37 : decode cX3_begins 37 = .ok (.getfield 9, 3) := dk_180 0 9 (dk_at dksX3_begins_1 14 rfl rfl)
theorem dX3_begins_40 : decode cX3_begins 40 = .ok (.bipush 6, 2) := dk_16 6 (dk_at dksX3_begins_1 17 rfl rfl)
theorem dX3_begins_42 : decode cX3_begins 42 = .ok (.iconst 5, 1) := dk_8 (dk_at dksX3_begins_1 19 rfl rfl)
theorem dX3_begins_43 : decode cX3_begins 43 = .ok (.iastore, 1) := dk_79 (dk_at dksX3_begins_1 20 rfl rfl)
theorem dX3_begins_44 : decode cX3_begins 44 = .ok (.aload_n 0, 1) := dk_42 (dk_at dksX3_begins_1 21 rfl rfl)
theorem dX3_begins_45 : decode cX3_begins 45 = .ok (.getfield 9, 3) := dk_180 0 9 (dk_at dksX3_begins_2 0 rfl rfl)
theorem dX3_begins_48 : decode cX3_begins 48 = .ok (.bipush 7, 2) := dk_16 7 (dk_at dksX3_begins_2 3 rfl rfl)
theorem dX3_begins_50 : decode cX3_begins 50 = .ok (.bipush 8, 2) := dk_16 8 (dk_at dksX3_begins_2 5 rfl rfl)
theorem dX3_begins_52 : decode cX3_begins 52 = .ok (.iastore, 1) := dk_79 (dk_at dksX3_begins_2 7 rfl rfl)
theorem dX3_begins_53 : decode cX3_begins 53 = .ok (.aload_n 0, 1) := dk_42 (dk_at dksX3_begins_2 8 rfl rfl)
theorem dX3_begins_54 : decode cX3_begins 54 = .ok (.getfield 9, 3) := dk_180 0 9 (dk_at dksX3_begins_2 9 rfl rfl)
theorem dX3_begins_57 : decode cX3_begins 57 = .ok (.bipush 8, 2) := dk_16 8 (dk_at dksX3_begins_2 12 rfl rfl)
theorem dX3_begins_59 : decode cX3_begins 59 = .ok (.sipush 150, 3) := dk_17 0 150 (dk_at dksX3_begins_2 14 rfl rfl)
theorem dX3_begins_62 : decode cX3_begins 62 = .ok (.iastore, 1) := dk_79 (dk_at dksX3_begins_2 17 rfl rfl)
theorem dX3_begins_63 : decode cX3_begins 63 = .ok (.aload_n 0, 1) := dk_42 (dk_at dksX3_begins_2 18 rfl rfl)
theorem dX3_begins_64 : decode cX3_begins 64 = .ok (.getfield 9, 3) := dk_180 0 9 (dk_at dksX3_begins_2 19 rfl rfl)
theorem dX3_begins_67 : decode cX3_begins 67 = .ok (.bipush 9, 2) := dk_16 9 (dk_at dksX3_begins_2 22 rfl rfl)
theorem dX3_begins_69 : decode cX3_begins 69 = .ok (.bipush 12, 2) := dk_16 12 (dk_at dksX3_begins_3 0 rfl rfl)
theorem dX3_begins_71 : decode cX3_begins 71 = .ok (.iastore, 1) := dk_79 (dk_at dksX3_begins_3 2 rfl rfl)
theorem dX3_begins_72 : decode cX3_begins 72 = .ok (.iconst 0, 1) := dk_3 (dk_at dksX3_begins_3 3 rfl rfl)
theorem dX3_begins_73 : decode cX3_begins 73 = .ok (.istore_n 1, 1) := dk_60 (dk_at dksX3_begins_3 4 rfl rfl)
theorem dX3_begins_74 : decode cX3_begins 74 = .ok (.iload_n 1, 1) := dk_27 (dk_at dksX3_begins_3 5 rfl rfl)
theorem dX3_begins_75 : decode cX3_begins 75 = .ok (.bipush 24, 2) := dk_16 24 (dk_at dksX3_begins_3 6 rfl rfl)
theorem dX3_begins_77 : decode cX3_begins 77 = .ok (.if_icmp .ge 20, 3) := dk_162 0 20 (dk_at dksX3_begins_3 8 rfl rfl)
theorem dX3_begins_80 : decode cX3_begins 80 = .ok (.aload_n 0, 1) := dk_42 (dk_at dksX3_begins_3 11 rfl rfl)
theorem dX3_begins_81 : decode cX3_begins 81 = .ok (.getfield 9, 3) := dk_180 0 9 (dk_at dksX3_begins_3 12 rfl rfl)
theorem dX3_begins_84 : decode cX3_begins 84 = .ok (.bipush 10, 2) := dk_16 10 (dk_at dksX3_begins_3 15 rfl rfl)
theorem dX3_begins_86 : decode cX3_begins 86 = .ok (.iload_n 1, 1) := dk_27 (dk_at dksX3_begins_3 17 rfl rfl)
theorem dX3_begins_87 : decode cX3_begins 87 = .ok (.iadd, 1) := dk_96 (dk_at dksX3_begins_3 18 rfl rfl)
theorem dX3_begins_88 : decode cX3_begins 88 = .ok (.bipush 20, 2) := dk_16 20 (dk_at dksX3_begins_3 19 rfl rfl)
theorem dX3_begins_90 : decode cX3_begins 90 = .ok (.iastore, 1) := dk_79 (dk_at dksX3_begins_3 21 rfl rfl)
theorem dX3_begins_91 : decode cX3_begins 91 = .ok (.iinc 1 1, 3) := dk_132 1 1 (dk_at dksX3_begins_4 0 rfl rfl)
theorem dX3_begins_94 : decode cX3_begins 94 = .ok (.goto (-20), 3) := dk_167 255 236 (dk_at dksX3_begins_4 3 rfl rfl)
theorem dX3_begins_97 : decode cX3_begins 97 = .ok (.aload_n 0, 1) := dk_42 (dk_at dksX3_begins_4 6 rfl rfl)
theorem dX3_begins_98 : decode cX3_begins 98 = .ok (.getfield 9, 3) := dk_180 0 9 (dk_at dksX3_begins_4 7 rfl rfl)
theorem dX3_begins_101 : decode cX3_begins 101 = .ok (.bipush 38, 2) := dk_16 38 (dk_at dksX3_begins_4 10 rfl rfl)
theorem dX3_begins_103 : decode cX3_begins 103 = .ok (.iconst (-1), 1) := dk_2 (dk_at dksX3_begins_4 12 rfl rfl)
theorem dX3_begins_104 : decode cX3_begins 104 = .ok (.iastore, 1) := dk_79 (dk_at dksX3_begins_4 13 rfl rfl)
theorem dX3_begins_105 : decode cX3_begins 105 = .ok (.aload_n 0, 1) := dk_42 (dk_at dksX3_begins_4 14 rfl rfl)
theorem dX3_begins_106 : decode cX3_begins 106 = .ok (.getfield 9, 3) := dk_180 0 9 (dk_at dksX3_begins_4 15 rfl rfl)
theorem dX3_begins_109 : decode cX3_begins 109 = .ok (.bipush 40, 2) := dk_16 40 (dk_at dksX3_begins_4 18 rfl rfl)
theorem dX3_begins_111 : decode cX3_begins 111 = .ok (.iconst (-1), 1) := dk_2 (dk_at dksX3_begins_4 20 rfl rfl)
theorem dX3_begins_112 : decode cX3_begins 112 = .ok (.iastore, 1) := dk_79 (dk_at dksX3_begins_4 21 rfl rfl)
theorem dX3_begins_113 : decode cX3_begins 113 = .ok (.iconst 0, 1) := dk_3 (dk_at dksX3_begins_4 22 rfl rfl)
theorem dX3_begins_114 : decode cX3_begins 114 = .ok (.istore_n 1, 1) := dk_60 (dk_at dksX3_begins_4 23 rfl rfl)
theorem dX3_begins_115 : decode cX3_begins 115 = .ok (.iload_n 1, 1) := dk_27 (dk_at dksX3_begins_5 0 rfl rfl)
theorem dX3_begins_116 : decode cX3_begins 116 = .ok (.bipush 8, 2) := dk_16 8 (dk_at dksX3_begins_5 1 rfl rfl)
theorem dX3_begins_118 : decode cX3_begins 118 = .ok (.if_icmp .ge 19, 3) := dk_162 0 19 (dk_at dksX3_begins_5 3 rfl rfl)
theorem dX3_begins_121 : decode cX3_begins 121 = .ok (.aload_n 0, 1) := dk_42 (dk_at dksX3_begins_5 6 rfl rfl)
theorem dX3_begins_122 : decode cX3_begins 122 = .ok (.getfield 9, 3) := dk_180 0 9 (dk_at dksX3_begins_5 7 rfl rfl)
theorem dX3_begins_125 : decode cX3_begins 125 = .ok (.bipush 41, 2) := dk_16 41 (dk_at dksX3_begins_5 10 rfl rfl)
theorem dX3_begins_127 : decode cX3_begins 127 = .ok (.iload_n 1, 1) := dk_27 (dk_at dksX3_begins_5 12 rfl rfl)
theorem dX3_begins_128 : decode cX3_begins 128 = .ok (.iadd, 1) := dk_96 (dk_at dksX3_begins_5 13 rfl rfl)
theorem dX3_begins_129 : decode cX3_begins 129 = .ok (.iconst (-1), 1) := dk_2 (dk_at dksX3_begins_5 14 rfl rfl)
theorem dX3_begins_130 : decode cX3_begins 130 = .ok (.iastore, 1) := dk_79 (dk_at dksX3_begins_5 15 rfl rfl)
theorem dX3_begins_131 : decode cX3_begins 131 = .ok (.iinc 1 1, 3) := dk_132 1 1 (dk_at dksX3_begins_5 16 rfl rfl)
theorem dX3_begins_134 : decode cX3_begins 134 = .ok (.goto (-19), 3) := dk_167 255 237 (dk_at dksX3_begins_5 19 rfl rfl)
theorem dX3_begins_137 : decode cX3_begins 137 = .ok (.return_, 1) := dk_177 (dk_at dksX3_begins_5 22 rfl rfl)
abbrev cX3_reason : ByteArray := prog_32_method_11_code
def yX3_reason : MethodName := ⟨RX3, "reason", "(IZ)I"⟩
def dkwX3_reason_2 : List UInt8 := [167, 0, 4, 3, 96, 46, 172]
abbrev dktX3_reason_2 : List UInt8 := dkwX3_reason_2 ++ []
def dkwX3_reason_1 : List UInt8 := [180, 0, 58, 161, 0, 8, 16, 250, 167, 0, 21, 42, 180, 0, 29, 5, 27, 104, 28, 153, 0, 7, 4]
abbrev dktX3_reason_1 : List UInt8 := dkwX3_reason_1 ++ dktX3_reason_2
def dkwX3_reason_0 : List UInt8 := [42, 180, 0, 58, 154, 0, 6, 16, 253, 172, 27, 3, 5, 184, 0, 51, 154, 0, 6, 16, 254, 172, 27, 42]
abbrev dktX3_reason_0 : List UInt8 := dkwX3_reason_0 ++ dktX3_reason_1
theorem dksX3_reason_0 : cX3_reason.data.toList.drop 0 = dktX3_reason_0 := by decide +kernel
theorem dksX3_reason_1 : cX3_reason.data.toList.drop 24 = dktX3_reason_1 := dk_seg dksX3_reason_0 24 rfl rfl
theorem dksX3_reason_2 : cX3_reason.data.toList.drop 47 = dktX3_reason_2 := dk_seg dksX3_reason_1 23 rfl rfl
theorem dX3_reason_0 : decode cX3_reason 0 = .ok (.aload_n 0, 1) := dk_42 (dk_at dksX3_reason_0 0 rfl rfl)
theorem dX3_reason_1 : decode cX3_reason 1 = .ok (.getfield 58, 3) := dk_180 0 58 (dk_at dksX3_reason_0 1 rfl rfl)
theorem dX3_reason_4 : decode cX3_reason 4 = .ok (.ifCond .ne 6, 3) := dk_154 0 6 (dk_at dksX3_reason_0 4 rfl rfl)
theorem dX3_reason_7 : decode cX3_reason 7 = .ok (.bipush (-3), 2) := dk_16 253 (dk_at dksX3_reason_0 7 rfl rfl)
theorem dX3_reason_9 : decode cX3_reason 9 = .ok (.ireturn, 1) := dk_172 (dk_at dksX3_reason_0 9 rfl rfl)
theorem dX3_reason_10 : decode cX3_reason 10 = .ok (.iload_n 1, 1) := dk_27 (dk_at dksX3_reason_0 10 rfl rfl)
theorem dX3_reason_11 : decode cX3_reason 11 = .ok (.iconst 0, 1) := dk_3 (dk_at dksX3_reason_0 11 rfl rfl)
theorem dX3_reason_12 : decode cX3_reason 12 = .ok (.iconst 2, 1) := dk_5 (dk_at dksX3_reason_0 12 rfl rfl)
theorem dX3_reason_13 : decode cX3_reason 13 = .ok (.invokestatic 51, 3) := dk_184 0 51 (dk_at dksX3_reason_0 13 rfl rfl)
theorem dX3_reason_16 : decode cX3_reason 16 = .ok (.ifCond .ne 6, 3) := dk_154 0 6 (dk_at dksX3_reason_0 16 rfl rfl)
theorem dX3_reason_19 : decode cX3_reason 19 = .ok (.bipush (-2), 2) := dk_16 254 (dk_at dksX3_reason_0 19 rfl rfl)
theorem dX3_reason_21 : decode cX3_reason 21 = .ok (.ireturn, 1) := dk_172 (dk_at dksX3_reason_0 21 rfl rfl)
theorem dX3_reason_22 : decode cX3_reason 22 = .ok (.iload_n 1, 1) := dk_27 (dk_at dksX3_reason_0 22 rfl rfl)
theorem dX3_reason_23 : decode cX3_reason 23 = .ok (.aload_n 0, 1) := dk_42 (dk_at dksX3_reason_0 23 rfl rfl)
theorem dX3_reason_24 : decode cX3_reason 24 = .ok (.getfield 58, 3) := dk_180 0 58 (dk_at dksX3_reason_1 0 rfl rfl)
theorem dX3_reason_27 : decode cX3_reason 27 = .ok (.if_icmp .lt 8, 3) := dk_161 0 8 (dk_at dksX3_reason_1 3 rfl rfl)
theorem dX3_reason_30 : decode cX3_reason 30 = .ok (.bipush (-6), 2) := dk_16 250 (dk_at dksX3_reason_1 6 rfl rfl)
theorem dX3_reason_32 : decode cX3_reason 32 = .ok (.goto 21, 3) := dk_167 0 21 (dk_at dksX3_reason_1 8 rfl rfl)
theorem dX3_reason_35 : decode cX3_reason 35 = .ok (.aload_n 0, 1) := dk_42 (dk_at dksX3_reason_1 11 rfl rfl)
theorem dX3_reason_36 : decode cX3_reason 36 = .ok (.getfield 29, 3) := dk_180 0 29 (dk_at dksX3_reason_1 12 rfl rfl)
theorem dX3_reason_39 : decode cX3_reason 39 = .ok (.iconst 2, 1) := dk_5 (dk_at dksX3_reason_1 15 rfl rfl)
theorem dX3_reason_40 : decode cX3_reason 40 = .ok (.iload_n 1, 1) := dk_27 (dk_at dksX3_reason_1 16 rfl rfl)
theorem dX3_reason_41 : decode cX3_reason 41 = .ok (.imul, 1) := dk_104 (dk_at dksX3_reason_1 17 rfl rfl)
theorem dX3_reason_42 : decode cX3_reason 42 = .ok (.iload_n 2, 1) := dk_28 (dk_at dksX3_reason_1 18 rfl rfl)
theorem dX3_reason_43 : decode cX3_reason 43 = .ok (.ifCond .eq 7, 3) := dk_153 0 7 (dk_at dksX3_reason_1 19 rfl rfl)
theorem dX3_reason_46 : decode cX3_reason 46 = .ok (.iconst 1, 1) := dk_4 (dk_at dksX3_reason_1 22 rfl rfl)
theorem dX3_reason_47 : decode cX3_reason 47 = .ok (.goto 4, 3) := dk_167 0 4 (dk_at dksX3_reason_2 0 rfl rfl)
theorem dX3_reason_50 : decode cX3_reason 50 = .ok (.iconst 0, 1) := dk_3 (dk_at dksX3_reason_2 3 rfl rfl)
theorem dX3_reason_51 : decode cX3_reason 51 = .ok (.iadd, 1) := dk_96 (dk_at dksX3_reason_2 4 rfl rfl)
theorem dX3_reason_52 : decode cX3_reason 52 = .ok (.iaload, 1) := dk_46 (dk_at dksX3_reason_2 5 rfl rfl)
theorem dX3_reason_53 : decode cX3_reason 53 = .ok (.ireturn, 1) := dk_172 (dk_at dksX3_reason_2 6 rfl rfl)
abbrev cX3_in : ByteArray := prog_32_method_2_code
def yX3_in : MethodName := ⟨RX3, "in", "(III)Z"⟩
def dkwX3_in_0 : List UInt8 := [26, 27, 161, 0, 12, 26, 28, 163, 0, 7, 4, 167, 0, 4, 3, 172]
abbrev dktX3_in_0 : List UInt8 := dkwX3_in_0 ++ []
theorem dksX3_in_0 : cX3_in.data.toList.drop 0 = dktX3_in_0 := by decide +kernel
theorem dX3_in_0 : decode cX3_in 0 = .ok (.iload_n 0, 1) := dk_26 (dk_at dksX3_in_0 0 rfl rfl)
theorem dX3_in_1 : decode cX3_in 1 = .ok (.iload_n 1, 1) := dk_27 (dk_at dksX3_in_0 1 rfl rfl)
theorem dX3_in_2 : decode cX3_in 2 = .ok (.if_icmp .lt 12, 3) := dk_161 0 12 (dk_at dksX3_in_0 2 rfl rfl)
theorem dX3_in_5 : decode cX3_in 5 = .ok (.iload_n 0, 1) := dk_26 (dk_at dksX3_in_0 5 rfl rfl)
theorem dX3_in_6 : decode cX3_in 6 = .ok (.iload_n 2, 1) := dk_28 (dk_at dksX3_in_0 6 rfl rfl)
theorem dX3_in_7 : decode cX3_in 7 = .ok (.if_icmp .gt 7, 3) := dk_163 0 7 (dk_at dksX3_in_0 7 rfl rfl)
theorem dX3_in_10 : decode cX3_in 10 = .ok (.iconst 1, 1) := dk_4 (dk_at dksX3_in_0 10 rfl rfl)
theorem dX3_in_11 : decode cX3_in 11 = .ok (.goto 4, 3) := dk_167 0 4 (dk_at dksX3_in_0 11 rfl rfl)
theorem dX3_in_14 : decode cX3_in 14 = .ok (.iconst 0, 1) := dk_3 (dk_at dksX3_in_0 14 rfl rfl)
theorem dX3_in_15 : decode cX3_in 15 = .ok (.ireturn, 1) := dk_172 (dk_at dksX3_in_0 15 rfl rfl)
abbrev cX3_clear : ByteArray := prog_32_method_12_code
def yX3_clear : MethodName := ⟨RX3, "clear", "()I"⟩
def dkwX3_clear_0 : List UInt8 := [42, 180, 0, 9, 5, 46, 60, 42, 182, 0, 41, 42, 3, 181, 0, 44, 27, 172]
abbrev dktX3_clear_0 : List UInt8 := dkwX3_clear_0 ++ []
theorem dksX3_clear_0 : cX3_clear.data.toList.drop 0 = dktX3_clear_0 := by decide +kernel
theorem dX3_clear_0 : decode cX3_clear 0 = .ok (.aload_n 0, 1) := dk_42 (dk_at dksX3_clear_0 0 rfl rfl)
theorem dX3_clear_1 : decode cX3_clear 1 = .ok (.getfield 9, 3) := dk_180 0 9 (dk_at dksX3_clear_0 1 rfl rfl)
theorem dX3_clear_4 : decode cX3_clear 4 = .ok (.iconst 2, 1) := dk_5 (dk_at dksX3_clear_0 4 rfl rfl)
theorem dX3_clear_5 : decode cX3_clear 5 = .ok (.iaload, 1) := dk_46 (dk_at dksX3_clear_0 5 rfl rfl)
theorem dX3_clear_6 : decode cX3_clear 6 = .ok (.istore_n 1, 1) := dk_60 (dk_at dksX3_clear_0 6 rfl rfl)
theorem dX3_clear_7 : decode cX3_clear 7 = .ok (.aload_n 0, 1) := dk_42 (dk_at dksX3_clear_0 7 rfl rfl)
theorem dX3_clear_8 : decode cX3_clear 8 = .ok (.invokevirtual 41, 3) := dk_182 0 41 (dk_at dksX3_clear_0 8 rfl rfl)
theorem dX3_clear_11 : decode cX3_clear 11 = .ok (.aload_n 0, 1) := dk_42 (dk_at dksX3_clear_0 11 rfl rfl)
theorem dX3_clear_12 : decode cX3_clear 12 = .ok (.iconst 0, 1) := dk_3 (dk_at dksX3_clear_0 12 rfl rfl)
theorem dX3_clear_13 : decode cX3_clear 13 = .ok (.putfield 44, 3) := dk_181 0 44 (dk_at dksX3_clear_0 13 rfl rfl)
theorem dX3_clear_16 : decode cX3_clear 16 = .ok (.iload_n 1, 1) := dk_27 (dk_at dksX3_clear_0 16 rfl rfl)
theorem dX3_clear_17 : decode cX3_clear 17 = .ok (.ireturn, 1) := dk_172 (dk_at dksX3_clear_0 17 rfl rfl)
abbrev cX3_set : ByteArray := prog_32_method_13_code
def yX3_set : MethodName := ⟨RX3, "set", "(II)I"⟩
def dkwX3_set_3 : List UInt8 := [7, 27, 96, 46, 62, 42, 180, 0, 9, 7, 27, 96, 28, 79, 29, 172]
abbrev dktX3_set_3 : List UInt8 := dkwX3_set_3 ++ []
def dkwX3_set_2 : List UInt8 := [167, 0, 13, 28, 4, 16, 48, 184, 0, 51, 154, 0, 6, 16, 254, 172, 42, 182, 0, 61, 42, 180, 0, 9]
abbrev dktX3_set_2 : List UInt8 := dkwX3_set_2 ++ dktX3_set_3
def dkwX3_set_1 : List UInt8 := [154, 0, 39, 167, 0, 33, 27, 7, 160, 0, 18, 28, 16, 10, 17, 1, 144, 184, 0, 51, 154, 0, 19]
abbrev dktX3_set_1 : List UInt8 := dkwX3_set_1 ++ dktX3_set_2
def dkwX3_set_0 : List UInt8 := [27, 3, 8, 184, 0, 51, 154, 0, 5, 2, 172, 27, 7, 162, 0, 16, 28, 3, 16, 9, 184, 0, 51]
abbrev dktX3_set_0 : List UInt8 := dkwX3_set_0 ++ dktX3_set_1
theorem dksX3_set_0 : cX3_set.data.toList.drop 0 = dktX3_set_0 := by decide +kernel
theorem dksX3_set_1 : cX3_set.data.toList.drop 23 = dktX3_set_1 := dk_seg dksX3_set_0 23 rfl rfl
theorem dksX3_set_2 : cX3_set.data.toList.drop 46 = dktX3_set_2 := dk_seg dksX3_set_1 23 rfl rfl
theorem dksX3_set_3 : cX3_set.data.toList.drop 70 = dktX3_set_3 := dk_seg dksX3_set_2 24 rfl rfl
theorem dX3_set_0 : decode cX3_set 0 = .ok (.iload_n 1, 1) := dk_27 (dk_at dksX3_set_0 0 rfl rfl)
theorem dX3_set_1 : decode cX3_set 1 = .ok (.iconst 0, 1) := dk_3 (dk_at dksX3_set_0 1 rfl rfl)
theorem dX3_set_2 : decode cX3_set 2 = .ok (.iconst 5, 1) := dk_8 (dk_at dksX3_set_0 2 rfl rfl)
theorem dX3_set_3 : decode cX3_set 3 = .ok (.invokestatic 51, 3) := dk_184 0 51 (dk_at dksX3_set_0 3 rfl rfl)
theorem dX3_set_6 : decode cX3_set 6 = .ok (.ifCond .ne 5, 3) := dk_154 0 5 (dk_at dksX3_set_0 6 rfl rfl)
theorem dX3_set_9 : decode cX3_set 9 = .ok (.iconst (-1), 1) := dk_2 (dk_at dksX3_set_0 9 rfl rfl)
theorem dX3_set_10 : decode cX3_set 10 = .ok (.ireturn, 1) := dk_172 (dk_at dksX3_set_0 10 rfl rfl)
theorem dX3_set_11 : decode cX3_set 11 = .ok (.iload_n 1, 1) := dk_27 (dk_at dksX3_set_0 11 rfl rfl)
theorem dX3_set_12 : decode cX3_set 12 = .ok (.iconst 4, 1) := dk_7 (dk_at dksX3_set_0 12 rfl rfl)
theorem dX3_set_13 : decode cX3_set 13 = .ok (.if_icmp .ge 16, 3) := dk_162 0 16 (dk_at dksX3_set_0 13 rfl rfl)
theorem dX3_set_16 : decode cX3_set 16 = .ok (.iload_n 2, 1) := dk_28 (dk_at dksX3_set_0 16 rfl rfl)
theorem dX3_set_17 : decode cX3_set 17 = .ok (.iconst 0, 1) := dk_3 (dk_at dksX3_set_0 17 rfl rfl)
theorem dX3_set_18 : decode cX3_set 18 = .ok (.bipush 9, 2) := dk_16 9 (dk_at dksX3_set_0 18 rfl rfl)
theorem dX3_set_20 : decode cX3_set 20 = .ok (.invokestatic 51, 3) := dk_184 0 51 (dk_at dksX3_set_0 20 rfl rfl)
theorem dX3_set_23 : decode cX3_set 23 = .ok (.ifCond .ne 39, 3) := dk_154 0 39 (dk_at dksX3_set_1 0 rfl rfl)
theorem dX3_set_26 : decode cX3_set 26 = .ok (.goto 33, 3) := dk_167 0 33 (dk_at dksX3_set_1 3 rfl rfl)
theorem dX3_set_29 : decode cX3_set 29 = .ok (.iload_n 1, 1) := dk_27 (dk_at dksX3_set_1 6 rfl rfl)
theorem dX3_set_30 : decode cX3_set 30 = .ok (.iconst 4, 1) := dk_7 (dk_at dksX3_set_1 7 rfl rfl)
theorem dX3_set_31 : decode cX3_set 31 = .ok (.if_icmp .ne 18, 3) := dk_160 0 18 (dk_at dksX3_set_1 8 rfl rfl)
theorem dX3_set_34 : decode cX3_set 34 = .ok (.iload_n 2, 1) := dk_28 (dk_at dksX3_set_1 11 rfl rfl)
theorem dX3_set_35 : decode cX3_set 35 = .ok (.bipush 10, 2) := dk_16 10 (dk_at dksX3_set_1 12 rfl rfl)
theorem dX3_set_37 : decode cX3_set 37 = .ok (.sipush 400, 3) := dk_17 1 144 (dk_at dksX3_set_1 14 rfl rfl)
theorem dX3_set_40 : decode cX3_set 40 = .ok (.invokestatic 51, 3) := dk_184 0 51 (dk_at dksX3_set_1 17 rfl rfl)
theorem dX3_set_43 : decode cX3_set 43 = .ok (.ifCond .ne 19, 3) := dk_154 0 19 (dk_at dksX3_set_1 20 rfl rfl)
theorem dX3_set_46 : decode cX3_set 46 = .ok (.goto 13, 3) := dk_167 0 13 (dk_at dksX3_set_2 0 rfl rfl)
theorem dX3_set_49 : decode cX3_set 49 = .ok (.iload_n 2, 1) := dk_28 (dk_at dksX3_set_2 3 rfl rfl)
theorem dX3_set_50 : decode cX3_set 50 = .ok (.iconst 1, 1) := dk_4 (dk_at dksX3_set_2 4 rfl rfl)
theorem dX3_set_51 : decode cX3_set 51 = .ok (.bipush 48, 2) := dk_16 48 (dk_at dksX3_set_2 5 rfl rfl)
theorem dX3_set_53 : decode cX3_set 53 = .ok (.invokestatic 51, 3) := dk_184 0 51 (dk_at dksX3_set_2 7 rfl rfl)
theorem dX3_set_56 : decode cX3_set 56 = .ok (.ifCond .ne 6, 3) := dk_154 0 6 (dk_at dksX3_set_2 10 rfl rfl)
theorem dX3_set_59 : decode cX3_set 59 = .ok (.bipush (-2), 2) := dk_16 254 (dk_at dksX3_set_2 13 rfl rfl)
theorem dX3_set_61 : decode cX3_set 61 = .ok (.ireturn, 1) := dk_172 (dk_at dksX3_set_2 15 rfl rfl)
theorem dX3_set_62 : decode cX3_set 62 = .ok (.aload_n 0, 1) := dk_42 (dk_at dksX3_set_2 16 rfl rfl)
theorem dX3_set_63 : decode cX3_set 63 = .ok (.invokevirtual 61, 3) := dk_182 0 61 (dk_at dksX3_set_2 17 rfl rfl)
theorem dX3_set_66 : decode cX3_set 66 = .ok (.aload_n 0, 1) := dk_42 (dk_at dksX3_set_2 20 rfl rfl)
theorem dX3_set_67 : decode cX3_set 67 = .ok (.getfield 9, 3) := dk_180 0 9 (dk_at dksX3_set_2 21 rfl rfl)
theorem dX3_set_70 : decode cX3_set 70 = .ok (.iconst 4, 1) := dk_7 (dk_at dksX3_set_3 0 rfl rfl)
theorem dX3_set_71 : decode cX3_set 71 = .ok (.iload_n 1, 1) := dk_27 (dk_at dksX3_set_3 1 rfl rfl)
theorem dX3_set_72 : decode cX3_set 72 = .ok (.iadd, 1) := dk_96 (dk_at dksX3_set_3 2 rfl rfl)
theorem dX3_set_73 : decode cX3_set 73 = .ok (.iaload, 1) := dk_46 (dk_at dksX3_set_3 3 rfl rfl)
theorem dX3_set_74 : decode cX3_set 74 = .ok (.istore_n 3, 1) := dk_62 (dk_at dksX3_set_3 4 rfl rfl)
theorem dX3_set_75 : decode cX3_set 75 = .ok (.aload_n 0, 1) := dk_42 (dk_at dksX3_set_3 5 rfl rfl)
theorem dX3_set_76 : decode cX3_set 76 = .ok (.getfield 9, 3) := dk_180 0 9 (dk_at dksX3_set_3 6 rfl rfl)
theorem dX3_set_79 : decode cX3_set 79 = .ok (.iconst 4, 1) := dk_7 (dk_at dksX3_set_3 9 rfl rfl)
theorem dX3_set_80 : decode cX3_set 80 = .ok (.iload_n 1, 1) := dk_27 (dk_at dksX3_set_3 10 rfl rfl)
theorem dX3_set_81 : decode cX3_set 81 = .ok (.iadd, 1) := dk_96 (dk_at dksX3_set_3 11 rfl rfl)
theorem dX3_set_82 : decode cX3_set 82 = .ok (.iload_n 2, 1) := dk_28 (dk_at dksX3_set_3 12 rfl rfl)
theorem dX3_set_83 : decode cX3_set 83 = .ok (.iastore, 1) := dk_79 (dk_at dksX3_set_3 13 rfl rfl)
theorem dX3_set_84 : decode cX3_set 84 = .ok (.iload_n 3, 1) := dk_29 (dk_at dksX3_set_3 14 rfl rfl)
theorem dX3_set_85 : decode cX3_set 85 = .ok (.ireturn, 1) := dk_172 (dk_at dksX3_set_3 15 rfl rfl)
abbrev cX3_remembers : ByteArray := prog_32_method_5_code
def yX3_remembers : MethodName := ⟨RX3, "remembers", "()V"⟩
def dkwX3_remembers_3 : List UInt8 := [89, 180, 0, 44, 4, 96, 181, 0, 44, 177]
abbrev dktX3_remembers_3 : List UInt8 := dkwX3_remembers_3 ++ []
def dkwX3_remembers_2 : List UInt8 := [181, 0, 44, 42, 180, 0, 9, 3, 42, 180, 0, 13, 42, 180, 0, 44, 17, 4, 84, 104, 184, 0, 47, 42]
abbrev dktX3_remembers_2 : List UInt8 := dkwX3_remembers_2 ++ dktX3_remembers_3
def dkwX3_remembers_1 : List UInt8 := [180, 0, 13, 27, 17, 4, 84, 96, 46, 79, 132, 1, 1, 167, 255, 230, 42, 89, 180, 0, 44, 4, 100]
abbrev dktX3_remembers_1 : List UInt8 := dkwX3_remembers_1 ++ dktX3_remembers_2
def dkwX3_remembers_0 : List UInt8 := [42, 180, 0, 44, 16, 8, 160, 0, 44, 3, 60, 27, 17, 30, 76, 162, 0, 25, 42, 180, 0, 13, 27, 42]
abbrev dktX3_remembers_0 : List UInt8 := dkwX3_remembers_0 ++ dktX3_remembers_1
theorem dksX3_remembers_0 : cX3_remembers.data.toList.drop 0 = dktX3_remembers_0 := by decide +kernel
theorem dksX3_remembers_1 : cX3_remembers.data.toList.drop 24 = dktX3_remembers_1 := dk_seg dksX3_remembers_0 24 rfl rfl
theorem dksX3_remembers_2 : cX3_remembers.data.toList.drop 47 = dktX3_remembers_2 := dk_seg dksX3_remembers_1 23 rfl rfl
theorem dksX3_remembers_3 : cX3_remembers.data.toList.drop 71 = dktX3_remembers_3 := dk_seg dksX3_remembers_2 24 rfl rfl
theorem dX3_remembers_0 : decode cX3_remembers 0 = .ok (.aload_n 0, 1) := dk_42 (dk_at dksX3_remembers_0 0 rfl rfl)
theorem dX3_remembers_1 : decode cX3_remembers 1 = .ok (.getfield 44, 3) := dk_180 0 44 (dk_at dksX3_remembers_0 1 rfl rfl)
theorem dX3_remembers_4 : decode cX3_remembers 4 = .ok (.bipush 8, 2) := dk_16 8 (dk_at dksX3_remembers_0 4 rfl rfl)
theorem dX3_remembers_6 : decode cX3_remembers 6 = .ok (.if_icmp .ne 44, 3) := dk_160 0 44 (dk_at dksX3_remembers_0 6 rfl rfl)
theorem dX3_remembers_9 : decode cX3_remembers 9 = .ok (.iconst 0, 1) := dk_3 (dk_at dksX3_remembers_0 9 rfl rfl)
theorem dX3_remembers_10 : decode cX3_remembers 10 = .ok (.istore_n 1, 1) := dk_60 (dk_at dksX3_remembers_0 10 rfl rfl)
theorem dX3_remembers_11 : decode cX3_remembers 11 = .ok (.iload_n 1, 1) := dk_27 (dk_at dksX3_remembers_0 11 rfl rfl)
theorem dX3_remembers_12 : decode cX3_remembers 12 = .ok (.sipush 7756, 3) := dk_17 30 76 (dk_at dksX3_remembers_0 12 rfl rfl)
theorem dX3_remembers_15 : decode cX3_remembers 15 = .ok (.if_icmp .ge 25, 3) := dk_162 0 25 (dk_at dksX3_remembers_0 15 rfl rfl)
theorem dX3_remembers_18 : decode cX3_remembers 18 = .ok (.aload_n 0, 1) := dk_42 (dk_at dksX3_remembers_0 18 rfl rfl)
theorem dX3_remembers_19 : decode cX3_remembers 19 = .ok (.getfield 13, 3) := dk_180 0 13 (dk_at dksX3_remembers_0 19 rfl rfl)
theorem dX3_remembers_22 : decode cX3_remembers 22 = .ok (.iload_n 1, 1) := dk_27 (dk_at dksX3_remembers_0 22 rfl rfl)
theorem dX3_remembers_23 : decode cX3_remembers 23 = .ok (.aload_n 0, 1) := dk_42 (dk_at dksX3_remembers_0 23 rfl rfl)
theorem dX3_remembers_24 : decode cX3_remembers 24 = .ok (.getfield 13, 3) := dk_180 0 13 (dk_at dksX3_remembers_1 0 rfl rfl)
theorem dX3_remembers_27 : decode cX3_remembers 27 = .ok (.iload_n 1, 1) := dk_27 (dk_at dksX3_remembers_1 3 rfl rfl)
theorem dX3_remembers_28 : decode cX3_remembers 28 = .ok (.sipush 1108, 3) := dk_17 4 84 (dk_at dksX3_remembers_1 4 rfl rfl)
theorem dX3_remembers_31 : decode cX3_remembers 31 = .ok (.iadd, 1) := dk_96 (dk_at dksX3_remembers_1 7 rfl rfl)
theorem dX3_remembers_32 : decode cX3_remembers 32 = .ok (.iaload, 1) := dk_46 (dk_at dksX3_remembers_1 8 rfl rfl)
theorem dX3_remembers_33 : decode cX3_remembers 33 = .ok (.iastore, 1) := dk_79 (dk_at dksX3_remembers_1 9 rfl rfl)
theorem dX3_remembers_34 : decode cX3_remembers 34 = .ok (.iinc 1 1, 3) := dk_132 1 1 (dk_at dksX3_remembers_1 10 rfl rfl)
theorem dX3_remembers_37 : decode cX3_remembers 37 = .ok (.goto (-26), 3) := dk_167 255 230 (dk_at dksX3_remembers_1 13 rfl rfl)
theorem dX3_remembers_40 : decode cX3_remembers 40 = .ok (.aload_n 0, 1) := dk_42 (dk_at dksX3_remembers_1 16 rfl rfl)
theorem dX3_remembers_41 : decode cX3_remembers 41 = .ok (.dup, 1) := dk_89 (dk_at dksX3_remembers_1 17 rfl rfl)
theorem dX3_remembers_42 : decode cX3_remembers 42 = .ok (.getfield 44, 3) := dk_180 0 44 (dk_at dksX3_remembers_1 18 rfl rfl)
theorem dX3_remembers_45 : decode cX3_remembers 45 = .ok (.iconst 1, 1) := dk_4 (dk_at dksX3_remembers_1 21 rfl rfl)
theorem dX3_remembers_46 : decode cX3_remembers 46 = .ok (.isub, 1) := dk_100 (dk_at dksX3_remembers_1 22 rfl rfl)
theorem dX3_remembers_47 : decode cX3_remembers 47 = .ok (.putfield 44, 3) := dk_181 0 44 (dk_at dksX3_remembers_2 0 rfl rfl)
theorem dX3_remembers_50 : decode cX3_remembers 50 = .ok (.aload_n 0, 1) := dk_42 (dk_at dksX3_remembers_2 3 rfl rfl)
theorem dX3_remembers_51 : decode cX3_remembers 51 = .ok (.getfield 9, 3) := dk_180 0 9 (dk_at dksX3_remembers_2 4 rfl rfl)
theorem dX3_remembers_54 : decode cX3_remembers 54 = .ok (.iconst 0, 1) := dk_3 (dk_at dksX3_remembers_2 7 rfl rfl)
theorem dX3_remembers_55 : decode cX3_remembers 55 = .ok (.aload_n 0, 1) := dk_42 (dk_at dksX3_remembers_2 8 rfl rfl)
theorem dX3_remembers_56 : decode cX3_remembers 56 = .ok (.getfield 13, 3) := dk_180 0 13 (dk_at dksX3_remembers_2 9 rfl rfl)
theorem dX3_remembers_59 : decode cX3_remembers 59 = .ok (.aload_n 0, 1) := dk_42 (dk_at dksX3_remembers_2 12 rfl rfl)
theorem dX3_remembers_60 : decode cX3_remembers 60 = .ok (.getfield 44, 3) := dk_180 0 44 (dk_at dksX3_remembers_2 13 rfl rfl)
theorem dX3_remembers_63 : decode cX3_remembers 63 = .ok (.sipush 1108, 3) := dk_17 4 84 (dk_at dksX3_remembers_2 16 rfl rfl)
theorem dX3_remembers_66 : decode cX3_remembers 66 = .ok (.imul, 1) := dk_104 (dk_at dksX3_remembers_2 19 rfl rfl)
theorem dX3_remembers_67 : decode cX3_remembers 67 = .ok (.invokestatic 47, 3) := dk_184 0 47 (dk_at dksX3_remembers_2 20 rfl rfl)
theorem dX3_remembers_70 : decode cX3_remembers 70 = .ok (.aload_n 0, 1) := dk_42 (dk_at dksX3_remembers_2 23 rfl rfl)
theorem dX3_remembers_71 : decode cX3_remembers 71 = .ok (.dup, 1) := dk_89 (dk_at dksX3_remembers_3 0 rfl rfl)
theorem dX3_remembers_72 : decode cX3_remembers 72 = .ok (.getfield 44, 3) := dk_180 0 44 (dk_at dksX3_remembers_3 1 rfl rfl)
theorem dX3_remembers_75 : decode cX3_remembers 75 = .ok (.iconst 1, 1) := dk_4 (dk_at dksX3_remembers_3 4 rfl rfl)
theorem dX3_remembers_76 : decode cX3_remembers 76 = .ok (.iadd, 1) := dk_96 (dk_at dksX3_remembers_3 5 rfl rfl)
theorem dX3_remembers_77 : decode cX3_remembers 77 = .ok (.putfield 44, 3) := dk_181 0 44 (dk_at dksX3_remembers_3 6 rfl rfl)
theorem dX3_remembers_80 : decode cX3_remembers 80 = .ok (.return_, 1) := dk_177 (dk_at dksX3_remembers_3 9 rfl rfl)
abbrev cX3_copy : ByteArray := prog_32_method_3_code
def yX3_copy : MethodName := ⟨RX3, "copy", "([II[II)V"⟩
def dkwX3_copy_1 : List UInt8 := [132, 4, 1, 167, 255, 233, 177]
abbrev dktX3_copy_1 : List UInt8 := dkwX3_copy_1 ++ []
def dkwX3_copy_0 : List UInt8 := [3, 54, 4, 21, 4, 17, 4, 84, 162, 0, 21, 44, 29, 21, 4, 96, 42, 27, 21, 4, 96, 46, 79]
abbrev dktX3_copy_0 : List UInt8 := dkwX3_copy_0 ++ dktX3_copy_1
theorem dksX3_copy_0 : cX3_copy.data.toList.drop 0 = dktX3_copy_0 := by decide +kernel
theorem dksX3_copy_1 : cX3_copy.data.toList.drop 23 = dktX3_copy_1 := dk_seg dksX3_copy_0 23 rfl rfl
theorem dX3_copy_0 : decode cX3_copy 0 = .ok (.iconst 0, 1) := dk_3 (dk_at dksX3_copy_0 0 rfl rfl)
theorem dX3_copy_1 : decode cX3_copy 1 = .ok (.istore 4, 2) := dk_54 4 (dk_at dksX3_copy_0 1 rfl rfl)
theorem dX3_copy_3 : decode cX3_copy 3 = .ok (.iload 4, 2) := dk_21 4 (dk_at dksX3_copy_0 3 rfl rfl)
theorem dX3_copy_5 : decode cX3_copy 5 = .ok (.sipush 1108, 3) := dk_17 4 84 (dk_at dksX3_copy_0 5 rfl rfl)
theorem dX3_copy_8 : decode cX3_copy 8 = .ok (.if_icmp .ge 21, 3) := dk_162 0 21 (dk_at dksX3_copy_0 8 rfl rfl)
theorem dX3_copy_11 : decode cX3_copy 11 = .ok (.aload_n 2, 1) := dk_44 (dk_at dksX3_copy_0 11 rfl rfl)
theorem dX3_copy_12 : decode cX3_copy 12 = .ok (.iload_n 3, 1) := dk_29 (dk_at dksX3_copy_0 12 rfl rfl)
theorem dX3_copy_13 : decode cX3_copy 13 = .ok (.iload 4, 2) := dk_21 4 (dk_at dksX3_copy_0 13 rfl rfl)
theorem dX3_copy_15 : decode cX3_copy 15 = .ok (.iadd, 1) := dk_96 (dk_at dksX3_copy_0 15 rfl rfl)
theorem dX3_copy_16 : decode cX3_copy 16 = .ok (.aload_n 0, 1) := dk_42 (dk_at dksX3_copy_0 16 rfl rfl)
theorem dX3_copy_17 : decode cX3_copy 17 = .ok (.iload_n 1, 1) := dk_27 (dk_at dksX3_copy_0 17 rfl rfl)
theorem dX3_copy_18 : decode cX3_copy 18 = .ok (.iload 4, 2) := dk_21 4 (dk_at dksX3_copy_0 18 rfl rfl)
theorem dX3_copy_20 : decode cX3_copy 20 = .ok (.iadd, 1) := dk_96 (dk_at dksX3_copy_0 20 rfl rfl)
theorem dX3_copy_21 : decode cX3_copy 21 = .ok (.iaload, 1) := dk_46 (dk_at dksX3_copy_0 21 rfl rfl)
theorem dX3_copy_22 : decode cX3_copy 22 = .ok (.iastore, 1) := dk_79 (dk_at dksX3_copy_0 22 rfl rfl)
theorem dX3_copy_23 : decode cX3_copy 23 = .ok (.iinc 4 1, 3) := dk_132 4 1 (dk_at dksX3_copy_1 0 rfl rfl)
theorem dX3_copy_26 : decode cX3_copy 26 = .ok (.goto (-23), 3) := dk_167 255 233 (dk_at dksX3_copy_1 3 rfl rfl)
theorem dX3_copy_29 : decode cX3_copy 29 = .ok (.return_, 1) := dk_177 (dk_at dksX3_copy_1 6 rfl rfl)
abbrev cX3_dryness : ByteArray := prog_32_method_14_code
def yX3_dryness : MethodName := ⟨RX3, "dryness", "(II)I"⟩
def dkwX3_dryness_2 : List UInt8 := [79, 29, 172]
abbrev dktX3_dryness_2 : List UInt8 := dkwX3_dryness_2 ++ []
def dkwX3_dryness_1 : List UInt8 := [172, 42, 182, 0, 61, 42, 180, 0, 9, 16, 10, 27, 96, 46, 62, 42, 180, 0, 9, 16, 10, 27, 96, 28]
abbrev dktX3_dryness_1 : List UInt8 := dkwX3_dryness_1 ++ dktX3_dryness_2
def dkwX3_dryness_0 : List UInt8 := [27, 3, 16, 23, 184, 0, 51, 154, 0, 5, 2, 172, 28, 3, 16, 60, 184, 0, 51, 154, 0, 6, 16, 254]
abbrev dktX3_dryness_0 : List UInt8 := dkwX3_dryness_0 ++ dktX3_dryness_1
theorem dksX3_dryness_0 : cX3_dryness.data.toList.drop 0 = dktX3_dryness_0 := by decide +kernel
theorem dksX3_dryness_1 : cX3_dryness.data.toList.drop 24 = dktX3_dryness_1 := dk_seg dksX3_dryness_0 24 rfl rfl
theorem dksX3_dryness_2 : cX3_dryness.data.toList.drop 48 = dktX3_dryness_2 := dk_seg dksX3_dryness_1 24 rfl rfl
theorem dX3_dryness_0 : decode cX3_dryness 0 = .ok (.iload_n 1, 1) := dk_27 (dk_at dksX3_dryness_0 0 rfl rfl)
theorem dX3_dryness_1 : decode cX3_dryness 1 = .ok (.iconst 0, 1) := dk_3 (dk_at dksX3_dryness_0 1 rfl rfl)
theorem dX3_dryness_2 : decode cX3_dryness 2 = .ok (.bipush 23, 2) := dk_16 23 (dk_at dksX3_dryness_0 2 rfl rfl)
theorem dX3_dryness_4 : decode cX3_dryness 4 = .ok (.invokestatic 51, 3) := dk_184 0 51 (dk_at dksX3_dryness_0 4 rfl rfl)
theorem dX3_dryness_7 : decode cX3_dryness 7 = .ok (.ifCond .ne 5, 3) := dk_154 0 5 (dk_at dksX3_dryness_0 7 rfl rfl)
theorem dX3_dryness_10 : decode cX3_dryness 10 = .ok (.iconst (-1), 1) := dk_2 (dk_at dksX3_dryness_0 10 rfl rfl)
theorem dX3_dryness_11 : decode cX3_dryness 11 = .ok (.ireturn, 1) := dk_172 (dk_at dksX3_dryness_0 11 rfl rfl)
theorem dX3_dryness_12 : decode cX3_dryness 12 = .ok (.iload_n 2, 1) := dk_28 (dk_at dksX3_dryness_0 12 rfl rfl)
theorem dX3_dryness_13 : decode cX3_dryness 13 = .ok (.iconst 0, 1) := dk_3 (dk_at dksX3_dryness_0 13 rfl rfl)
theorem dX3_dryness_14 : decode cX3_dryness 14 = .ok (.bipush 60, 2) := dk_16 60 (dk_at dksX3_dryness_0 14 rfl rfl)
theorem dX3_dryness_16 : decode cX3_dryness 16 = .ok (.invokestatic 51, 3) := dk_184 0 51 (dk_at dksX3_dryness_0 16 rfl rfl)
theorem dX3_dryness_19 : decode cX3_dryness 19 = .ok (.ifCond .ne 6, 3) := dk_154 0 6 (dk_at dksX3_dryness_0 19 rfl rfl)
theorem dX3_dryness_22 : decode cX3_dryness 22 = .ok (.bipush (-2), 2) := dk_16 254 (dk_at dksX3_dryness_0 22 rfl rfl)
theorem dX3_dryness_24 : decode cX3_dryness 24 = .ok (.ireturn, 1) := dk_172 (dk_at dksX3_dryness_1 0 rfl rfl)
theorem dX3_dryness_25 : decode cX3_dryness 25 = .ok (.aload_n 0, 1) := dk_42 (dk_at dksX3_dryness_1 1 rfl rfl)
theorem dX3_dryness_26 : decode cX3_dryness 26 = .ok (.invokevirtual 61, 3) := dk_182 0 61 (dk_at dksX3_dryness_1 2 rfl rfl)
theorem dX3_dryness_29 : decode cX3_dryness 29 = .ok (.aload_n 0, 1) := dk_42 (dk_at dksX3_dryness_1 5 rfl rfl)
theorem dX3_dryness_30 : decode cX3_dryness 30 = .ok (.getfield 9, 3) := dk_180 0 9 (dk_at dksX3_dryness_1 6 rfl rfl)
theorem dX3_dryness_33 : decode cX3_dryness 33 = .ok (.bipush 10, 2) := dk_16 10 (dk_at dksX3_dryness_1 9 rfl rfl)
theorem dX3_dryness_35 : decode cX3_dryness 35 = .ok (.iload_n 1, 1) := dk_27 (dk_at dksX3_dryness_1 11 rfl rfl)
theorem dX3_dryness_36 : decode cX3_dryness 36 = .ok (.iadd, 1) := dk_96 (dk_at dksX3_dryness_1 12 rfl rfl)
theorem dX3_dryness_37 : decode cX3_dryness 37 = .ok (.iaload, 1) := dk_46 (dk_at dksX3_dryness_1 13 rfl rfl)
theorem dX3_dryness_38 : decode cX3_dryness 38 = .ok (.istore_n 3, 1) := dk_62 (dk_at dksX3_dryness_1 14 rfl rfl)
theorem dX3_dryness_39 : decode cX3_dryness 39 = .ok (.aload_n 0, 1) := dk_42 (dk_at dksX3_dryness_1 15 rfl rfl)
theorem dX3_dryness_40 : decode cX3_dryness 40 = .ok (.getfield 9, 3) := dk_180 0 9 (dk_at dksX3_dryness_1 16 rfl rfl)
theorem dX3_dryness_43 : decode cX3_dryness 43 = .ok (.bipush 10, 2) := dk_16 10 (dk_at dksX3_dryness_1 19 rfl rfl)
theorem dX3_dryness_45 : decode cX3_dryness 45 = .ok (.iload_n 1, 1) := dk_27 (dk_at dksX3_dryness_1 21 rfl rfl)
theorem dX3_dryness_46 : decode cX3_dryness 46 = .ok (.iadd, 1) := dk_96 (dk_at dksX3_dryness_1 22 rfl rfl)
theorem dX3_dryness_47 : decode cX3_dryness 47 = .ok (.iload_n 2, 1) := dk_28 (dk_at dksX3_dryness_1 23 rfl rfl)
theorem dX3_dryness_48 : decode cX3_dryness 48 = .ok (.iastore, 1) := dk_79 (dk_at dksX3_dryness_2 0 rfl rfl)
theorem dX3_dryness_49 : decode cX3_dryness 49 = .ok (.iload_n 3, 1) := dk_29 (dk_at dksX3_dryness_2 1 rfl rfl)
theorem dX3_dryness_50 : decode cX3_dryness 50 = .ok (.ireturn, 1) := dk_172 (dk_at dksX3_dryness_2 2 rfl rfl)
abbrev cX3_air : ByteArray := prog_32_method_15_code
def yX3_air : MethodName := ⟨RX3, "air", "(I)I"⟩
def dkwX3_air_0 : List UInt8 := [27, 3, 16, 23, 184, 0, 51, 153, 0, 15, 42, 180, 0, 9, 16, 10, 27, 96, 46, 167, 0, 4, 2, 172]
abbrev dktX3_air_0 : List UInt8 := dkwX3_air_0 ++ []
theorem dksX3_air_0 : cX3_air.data.toList.drop 0 = dktX3_air_0 := by decide +kernel
theorem dX3_air_0 : decode cX3_air 0 = .ok (.iload_n 1, 1) := dk_27 (dk_at dksX3_air_0 0 rfl rfl)
theorem dX3_air_1 : decode cX3_air 1 = .ok (.iconst 0, 1) := dk_3 (dk_at dksX3_air_0 1 rfl rfl)
theorem dX3_air_2 : decode cX3_air 2 = .ok (.bipush 23, 2) := dk_16 23 (dk_at dksX3_air_0 2 rfl rfl)
theorem dX3_air_4 : decode cX3_air 4 = .ok (.invokestatic 51, 3) := dk_184 0 51 (dk_at dksX3_air_0 4 rfl rfl)
theorem dX3_air_7 : decode cX3_air 7 = .ok (.ifCond .eq 15, 3) := dk_153 0 15 (dk_at dksX3_air_0 7 rfl rfl)
theorem dX3_air_10 : decode cX3_air 10 = .ok (.aload_n 0, 1) := dk_42 (dk_at dksX3_air_0 10 rfl rfl)
theorem dX3_air_11 : decode cX3_air 11 = .ok (.getfield 9, 3) := dk_180 0 9 (dk_at dksX3_air_0 11 rfl rfl)
theorem dX3_air_14 : decode cX3_air 14 = .ok (.bipush 10, 2) := dk_16 10 (dk_at dksX3_air_0 14 rfl rfl)
theorem dX3_air_16 : decode cX3_air 16 = .ok (.iload_n 1, 1) := dk_27 (dk_at dksX3_air_0 16 rfl rfl)
theorem dX3_air_17 : decode cX3_air 17 = .ok (.iadd, 1) := dk_96 (dk_at dksX3_air_0 17 rfl rfl)
theorem dX3_air_18 : decode cX3_air 18 = .ok (.iaload, 1) := dk_46 (dk_at dksX3_air_0 18 rfl rfl)
theorem dX3_air_19 : decode cX3_air 19 = .ok (.goto 4, 3) := dk_167 0 4 (dk_at dksX3_air_0 19 rfl rfl)
theorem dX3_air_22 : decode cX3_air 22 = .ok (.iconst (-1), 1) := dk_2 (dk_at dksX3_air_0 22 rfl rfl)
theorem dX3_air_23 : decode cX3_air 23 = .ok (.ireturn, 1) := dk_172 (dk_at dksX3_air_0 23 rfl rfl)
abbrev cX3_potter : ByteArray := prog_32_method_16_code
def yX3_potter : MethodName := ⟨RX3, "potter", "(I)I"⟩
def dkwX3_potter_3 : List UInt8 := [4, 100, 172]
abbrev dktX3_potter_3 : List UInt8 := dkwX3_potter_3 ++ []
def dkwX3_potter_2 : List UInt8 := [180, 0, 9, 4, 46, 96, 27, 79, 42, 180, 0, 9, 4, 92, 46, 4, 96, 79, 42, 180, 0, 9, 4, 46]
abbrev dktX3_potter_2 : List UInt8 := dkwX3_potter_2 ++ dktX3_potter_3
def dkwX3_potter_1 : List UInt8 := [16, 10, 7, 182, 0, 64, 87, 42, 182, 0, 68, 172, 42, 182, 0, 61, 42, 180, 0, 9, 16, 34, 42]
abbrev dktX3_potter_1 : List UInt8 := dkwX3_potter_1 ++ dktX3_potter_2
def dkwX3_potter_0 : List UInt8 := [27, 4, 16, 9, 184, 0, 51, 154, 0, 6, 16, 254, 172, 42, 180, 0, 9, 4, 46, 7, 160, 0, 16, 42]
abbrev dktX3_potter_0 : List UInt8 := dkwX3_potter_0 ++ dktX3_potter_1
theorem dksX3_potter_0 : cX3_potter.data.toList.drop 0 = dktX3_potter_0 := by decide +kernel
theorem dksX3_potter_1 : cX3_potter.data.toList.drop 24 = dktX3_potter_1 := dk_seg dksX3_potter_0 24 rfl rfl
theorem dksX3_potter_2 : cX3_potter.data.toList.drop 47 = dktX3_potter_2 := dk_seg dksX3_potter_1 23 rfl rfl
theorem dksX3_potter_3 : cX3_potter.data.toList.drop 71 = dktX3_potter_3 := dk_seg dksX3_potter_2 24 rfl rfl
theorem dX3_potter_0 : decode cX3_potter 0 = .ok (.iload_n 1, 1) := dk_27 (dk_at dksX3_potter_0 0 rfl rfl)
theorem dX3_potter_1 : decode cX3_potter 1 = .ok (.iconst 1, 1) := dk_4 (dk_at dksX3_potter_0 1 rfl rfl)
theorem dX3_potter_2 : decode cX3_potter 2 = .ok (.bipush 9, 2) := dk_16 9 (dk_at dksX3_potter_0 2 rfl rfl)
theorem dX3_potter_4 : decode cX3_potter 4 = .ok (.invokestatic 51, 3) := dk_184 0 51 (dk_at dksX3_potter_0 4 rfl rfl)
theorem dX3_potter_7 : decode cX3_potter 7 = .ok (.ifCond .ne 6, 3) := dk_154 0 6 (dk_at dksX3_potter_0 7 rfl rfl)
theorem dX3_potter_10 : decode cX3_potter 10 = .ok (.bipush (-2), 2) := dk_16 254 (dk_at dksX3_potter_0 10 rfl rfl)
theorem dX3_potter_12 : decode cX3_potter 12 = .ok (.ireturn, 1) := dk_172 (dk_at dksX3_potter_0 12 rfl rfl)
theorem dX3_potter_13 : decode cX3_potter 13 = .ok (.aload_n 0, 1) := dk_42 (dk_at dksX3_potter_0 13 rfl rfl)
theorem dX3_potter_14 : decode cX3_potter 14 = .ok (.getfield 9, 3) := dk_180 0 9 (dk_at dksX3_potter_0 14 rfl rfl)
theorem dX3_potter_17 : decode cX3_potter 17 = .ok (.iconst 1, 1) := dk_4 (dk_at dksX3_potter_0 17 rfl rfl)
theorem dX3_potter_18 : decode cX3_potter 18 = .ok (.iaload, 1) := dk_46 (dk_at dksX3_potter_0 18 rfl rfl)
theorem dX3_potter_19 : decode cX3_potter 19 = .ok (.iconst 4, 1) := dk_7 (dk_at dksX3_potter_0 19 rfl rfl)
theorem dX3_potter_20 : decode cX3_potter 20 = .ok (.if_icmp .ne 16, 3) := dk_160 0 16 (dk_at dksX3_potter_0 20 rfl rfl)
theorem dX3_potter_23 : decode cX3_potter 23 = .ok (.aload_n 0, 1) := dk_42 (dk_at dksX3_potter_0 23 rfl rfl)
theorem dX3_potter_24 : decode cX3_potter 24 = .ok (.bipush 10, 2) := dk_16 10 (dk_at dksX3_potter_1 0 rfl rfl)
theorem dX3_potter_26 : decode cX3_potter 26 = .ok (.iconst 4, 1) := dk_7 (dk_at dksX3_potter_1 2 rfl rfl)
theorem dX3_potter_27 : decode cX3_potter 27 = .ok (.invokevirtual 64, 3) := dk_182 0 64 (dk_at dksX3_potter_1 3 rfl rfl)
theorem dX3_potter_30 : decode cX3_potter 30 = .ok (.pop, 1) := dk_87 (dk_at dksX3_potter_1 6 rfl rfl)
theorem dX3_potter_31 : decode cX3_potter 31 = .ok (.aload_n 0, 1) := dk_42 (dk_at dksX3_potter_1 7 rfl rfl)
theorem dX3_potter_32 : decode cX3_potter 32 = .ok (.invokevirtual 68, 3) := dk_182 0 68 (dk_at dksX3_potter_1 8 rfl rfl)
theorem dX3_potter_35 : decode cX3_potter 35 = .ok (.ireturn, 1) := dk_172 (dk_at dksX3_potter_1 11 rfl rfl)
theorem dX3_potter_36 : decode cX3_potter 36 = .ok (.aload_n 0, 1) := dk_42 (dk_at dksX3_potter_1 12 rfl rfl)
theorem dX3_potter_37 : decode cX3_potter 37 = .ok (.invokevirtual 61, 3) := dk_182 0 61 (dk_at dksX3_potter_1 13 rfl rfl)
theorem dX3_potter_40 : decode cX3_potter 40 = .ok (.aload_n 0, 1) := dk_42 (dk_at dksX3_potter_1 16 rfl rfl)
theorem dX3_potter_41 : decode cX3_potter 41 = .ok (.getfield 9, 3) := dk_180 0 9 (dk_at dksX3_potter_1 17 rfl rfl)
theorem dX3_potter_44 : decode cX3_potter 44 = .ok (.bipush 34, 2) := dk_16 34 (dk_at dksX3_potter_1 20 rfl rfl)
theorem dX3_potter_46 : decode cX3_potter 46 = .ok (.aload_n 0, 1) := dk_42 (dk_at dksX3_potter_1 22 rfl rfl)
theorem dX3_potter_47 : decode cX3_potter 47 = .ok (.getfield 9, 3) := dk_180 0 9 (dk_at dksX3_potter_2 0 rfl rfl)
theorem dX3_potter_50 : decode cX3_potter 50 = .ok (.iconst 1, 1) := dk_4 (dk_at dksX3_potter_2 3 rfl rfl)
theorem dX3_potter_51 : decode cX3_potter 51 = .ok (.iaload, 1) := dk_46 (dk_at dksX3_potter_2 4 rfl rfl)
theorem dX3_potter_52 : decode cX3_potter 52 = .ok (.iadd, 1) := dk_96 (dk_at dksX3_potter_2 5 rfl rfl)
theorem dX3_potter_53 : decode cX3_potter 53 = .ok (.iload_n 1, 1) := dk_27 (dk_at dksX3_potter_2 6 rfl rfl)
theorem dX3_potter_54 : decode cX3_potter 54 = .ok (.iastore, 1) := dk_79 (dk_at dksX3_potter_2 7 rfl rfl)
theorem dX3_potter_55 : decode cX3_potter 55 = .ok (.aload_n 0, 1) := dk_42 (dk_at dksX3_potter_2 8 rfl rfl)
theorem dX3_potter_56 : decode cX3_potter 56 = .ok (.getfield 9, 3) := dk_180 0 9 (dk_at dksX3_potter_2 9 rfl rfl)
theorem dX3_potter_59 : decode cX3_potter 59 = .ok (.iconst 1, 1) := dk_4 (dk_at dksX3_potter_2 12 rfl rfl)
theorem dX3_potter_60 : decode cX3_potter 60 = .ok (.dup2, 1) := dk_92 (dk_at dksX3_potter_2 13 rfl rfl)
theorem dX3_potter_61 : decode cX3_potter 61 = .ok (.iaload, 1) := dk_46 (dk_at dksX3_potter_2 14 rfl rfl)
theorem dX3_potter_62 : decode cX3_potter 62 = .ok (.iconst 1, 1) := dk_4 (dk_at dksX3_potter_2 15 rfl rfl)
theorem dX3_potter_63 : decode cX3_potter 63 = .ok (.iadd, 1) := dk_96 (dk_at dksX3_potter_2 16 rfl rfl)
theorem dX3_potter_64 : decode cX3_potter 64 = .ok (.iastore, 1) := dk_79 (dk_at dksX3_potter_2 17 rfl rfl)
theorem dX3_potter_65 : decode cX3_potter 65 = .ok (.aload_n 0, 1) := dk_42 (dk_at dksX3_potter_2 18 rfl rfl)
theorem dX3_potter_66 : decode cX3_potter 66 = .ok (.getfield 9, 3) := dk_180 0 9 (dk_at dksX3_potter_2 19 rfl rfl)
theorem dX3_potter_69 : decode cX3_potter 69 = .ok (.iconst 1, 1) := dk_4 (dk_at dksX3_potter_2 22 rfl rfl)
theorem dX3_potter_70 : decode cX3_potter 70 = .ok (.iaload, 1) := dk_46 (dk_at dksX3_potter_2 23 rfl rfl)
theorem dX3_potter_71 : decode cX3_potter 71 = .ok (.iconst 1, 1) := dk_4 (dk_at dksX3_potter_3 0 rfl rfl)
theorem dX3_potter_72 : decode cX3_potter 72 = .ok (.isub, 1) := dk_100 (dk_at dksX3_potter_3 1 rfl rfl)
theorem dX3_potter_73 : decode cX3_potter 73 = .ok (.ireturn, 1) := dk_172 (dk_at dksX3_potter_3 2 rfl rfl)
abbrev cX3_noted : ByteArray := prog_32_method_8_code
def yX3_noted : MethodName := ⟨RX3, "noted", "(II)I"⟩
def dkwX3_noted_0 : List UInt8 := [42, 180, 0, 32, 3, 27, 79, 42, 180, 0, 32, 4, 28, 79, 42, 4, 181, 0, 55, 27, 172]
abbrev dktX3_noted_0 : List UInt8 := dkwX3_noted_0 ++ []
theorem dksX3_noted_0 : cX3_noted.data.toList.drop 0 = dktX3_noted_0 := by decide +kernel
theorem dX3_noted_0 : decode cX3_noted 0 = .ok (.aload_n 0, 1) := dk_42 (dk_at dksX3_noted_0 0 rfl rfl)
theorem dX3_noted_1 : decode cX3_noted 1 = .ok (.getfield 32, 3) := dk_180 0 32 (dk_at dksX3_noted_0 1 rfl rfl)
theorem dX3_noted_4 : decode cX3_noted 4 = .ok (.iconst 0, 1) := dk_3 (dk_at dksX3_noted_0 4 rfl rfl)
theorem dX3_noted_5 : decode cX3_noted 5 = .ok (.iload_n 1, 1) := dk_27 (dk_at dksX3_noted_0 5 rfl rfl)
theorem dX3_noted_6 : decode cX3_noted 6 = .ok (.iastore, 1) := dk_79 (dk_at dksX3_noted_0 6 rfl rfl)
theorem dX3_noted_7 : decode cX3_noted 7 = .ok (.aload_n 0, 1) := dk_42 (dk_at dksX3_noted_0 7 rfl rfl)
theorem dX3_noted_8 : decode cX3_noted 8 = .ok (.getfield 32, 3) := dk_180 0 32 (dk_at dksX3_noted_0 8 rfl rfl)
theorem dX3_noted_11 : decode cX3_noted 11 = .ok (.iconst 1, 1) := dk_4 (dk_at dksX3_noted_0 11 rfl rfl)
theorem dX3_noted_12 : decode cX3_noted 12 = .ok (.iload_n 2, 1) := dk_28 (dk_at dksX3_noted_0 12 rfl rfl)
theorem dX3_noted_13 : decode cX3_noted 13 = .ok (.iastore, 1) := dk_79 (dk_at dksX3_noted_0 13 rfl rfl)
theorem dX3_noted_14 : decode cX3_noted 14 = .ok (.aload_n 0, 1) := dk_42 (dk_at dksX3_noted_0 14 rfl rfl)
theorem dX3_noted_15 : decode cX3_noted 15 = .ok (.iconst 1, 1) := dk_4 (dk_at dksX3_noted_0 15 rfl rfl)
theorem dX3_noted_16 : decode cX3_noted 16 = .ok (.putfield 55, 3) := dk_181 0 55 (dk_at dksX3_noted_0 16 rfl rfl)
theorem dX3_noted_19 : decode cX3_noted 19 = .ok (.iload_n 1, 1) := dk_27 (dk_at dksX3_noted_0 19 rfl rfl)
theorem dX3_noted_20 : decode cX3_noted 20 = .ok (.ireturn, 1) := dk_172 (dk_at dksX3_noted_0 20 rfl rfl)
abbrev cX3_refused : ByteArray := prog_32_method_9_code
def yX3_refused : MethodName := ⟨RX3, "refused", "()I"⟩
def dkwX3_refused_1 : List UInt8 := [27, 42, 180, 0, 32, 27, 46, 79, 132, 1, 1, 167, 255, 231, 16, 251, 172]
abbrev dktX3_refused_1 : List UInt8 := dkwX3_refused_1 ++ []
def dkwX3_refused_0 : List UInt8 := [42, 42, 180, 0, 55, 181, 0, 58, 3, 60, 27, 5, 42, 180, 0, 55, 104, 162, 0, 21, 42, 180, 0, 29]
abbrev dktX3_refused_0 : List UInt8 := dkwX3_refused_0 ++ dktX3_refused_1
theorem dksX3_refused_0 : cX3_refused.data.toList.drop 0 = dktX3_refused_0 := by decide +kernel
theorem dksX3_refused_1 : cX3_refused.data.toList.drop 24 = dktX3_refused_1 := dk_seg dksX3_refused_0 24 rfl rfl
theorem dX3_refused_0 : decode cX3_refused 0 = .ok (.aload_n 0, 1) := dk_42 (dk_at dksX3_refused_0 0 rfl rfl)
theorem dX3_refused_1 : decode cX3_refused 1 = .ok (.aload_n 0, 1) := dk_42 (dk_at dksX3_refused_0 1 rfl rfl)
theorem dX3_refused_2 : decode cX3_refused 2 = .ok (.getfield 55, 3) := dk_180 0 55 (dk_at dksX3_refused_0 2 rfl rfl)
theorem dX3_refused_5 : decode cX3_refused 5 = .ok (.putfield 58, 3) := dk_181 0 58 (dk_at dksX3_refused_0 5 rfl rfl)
theorem dX3_refused_8 : decode cX3_refused 8 = .ok (.iconst 0, 1) := dk_3 (dk_at dksX3_refused_0 8 rfl rfl)
theorem dX3_refused_9 : decode cX3_refused 9 = .ok (.istore_n 1, 1) := dk_60 (dk_at dksX3_refused_0 9 rfl rfl)
theorem dX3_refused_10 : decode cX3_refused 10 = .ok (.iload_n 1, 1) := dk_27 (dk_at dksX3_refused_0 10 rfl rfl)
theorem dX3_refused_11 : decode cX3_refused 11 = .ok (.iconst 2, 1) := dk_5 (dk_at dksX3_refused_0 11 rfl rfl)
theorem dX3_refused_12 : decode cX3_refused 12 = .ok (.aload_n 0, 1) := dk_42 (dk_at dksX3_refused_0 12 rfl rfl)
theorem dX3_refused_13 : decode cX3_refused 13 = .ok (.getfield 55, 3) := dk_180 0 55 (dk_at dksX3_refused_0 13 rfl rfl)
theorem dX3_refused_16 : decode cX3_refused 16 = .ok (.imul, 1) := dk_104 (dk_at dksX3_refused_0 16 rfl rfl)
theorem dX3_refused_17 : decode cX3_refused 17 = .ok (.if_icmp .ge 21, 3) := dk_162 0 21 (dk_at dksX3_refused_0 17 rfl rfl)
theorem dX3_refused_20 : decode cX3_refused 20 = .ok (.aload_n 0, 1) := dk_42 (dk_at dksX3_refused_0 20 rfl rfl)
theorem dX3_refused_21 : decode cX3_refused 21 = .ok (.getfield 29, 3) := dk_180 0 29 (dk_at dksX3_refused_0 21 rfl rfl)
theorem dX3_refused_24 : decode cX3_refused 24 = .ok (.iload_n 1, 1) := dk_27 (dk_at dksX3_refused_1 0 rfl rfl)
theorem dX3_refused_25 : decode cX3_refused 25 = .ok (.aload_n 0, 1) := dk_42 (dk_at dksX3_refused_1 1 rfl rfl)
theorem dX3_refused_26 : decode cX3_refused 26 = .ok (.getfield 32, 3) := dk_180 0 32 (dk_at dksX3_refused_1 2 rfl rfl)
theorem dX3_refused_29 : decode cX3_refused 29 = .ok (.iload_n 1, 1) := dk_27 (dk_at dksX3_refused_1 5 rfl rfl)
theorem dX3_refused_30 : decode cX3_refused 30 = .ok (.iaload, 1) := dk_46 (dk_at dksX3_refused_1 6 rfl rfl)
theorem dX3_refused_31 : decode cX3_refused 31 = .ok (.iastore, 1) := dk_79 (dk_at dksX3_refused_1 7 rfl rfl)
theorem dX3_refused_32 : decode cX3_refused 32 = .ok (.iinc 1 1, 3) := dk_132 1 1 (dk_at dksX3_refused_1 8 rfl rfl)
theorem dX3_refused_35 : decode cX3_refused 35 = .ok (.goto (-25), 3) := dk_167 255 231 (dk_at dksX3_refused_1 11 rfl rfl)
theorem dX3_refused_38 : decode cX3_refused 38 = .ok (.bipush (-5), 2) := dk_16 251 (dk_at dksX3_refused_1 14 rfl rfl)
theorem dX3_refused_40 : decode cX3_refused 40 = .ok (.ireturn, 1) := dk_172 (dk_at dksX3_refused_1 16 rfl rfl)
abbrev cX3_pot : ByteArray := prog_32_method_25_code
def yX3_pot : MethodName := ⟨RX3, "pot", "(III)I"⟩
def dkwX3_pot_3 : List UInt8 := [46, 4, 100, 172]
abbrev dktX3_pot_3 : List UInt8 := dkwX3_pot_3 ++ []
def dkwX3_pot_2 : List UInt8 := [153, 0, 8, 42, 182, 0, 68, 172, 42, 182, 0, 61, 42, 27, 28, 29, 182, 0, 88, 42, 180, 0, 9, 5]
abbrev dktX3_pot_2 : List UInt8 := dkwX3_pot_2 ++ dktX3_pot_3
def dkwX3_pot_1 : List UInt8 := [184, 0, 51, 153, 0, 13, 29, 4, 16, 9, 184, 0, 51, 154, 0, 6, 16, 254, 172, 42, 182, 0, 85]
abbrev dktX3_pot_1 : List UInt8 := dkwX3_pot_1 ++ dktX3_pot_2
def dkwX3_pot_0 : List UInt8 := [27, 3, 42, 180, 0, 9, 4, 46, 4, 100, 184, 0, 51, 154, 0, 5, 2, 172, 28, 4, 16, 9]
abbrev dktX3_pot_0 : List UInt8 := dkwX3_pot_0 ++ dktX3_pot_1
theorem dksX3_pot_0 : cX3_pot.data.toList.drop 0 = dktX3_pot_0 := by decide +kernel
theorem dksX3_pot_1 : cX3_pot.data.toList.drop 22 = dktX3_pot_1 := dk_seg dksX3_pot_0 22 rfl rfl
theorem dksX3_pot_2 : cX3_pot.data.toList.drop 45 = dktX3_pot_2 := dk_seg dksX3_pot_1 23 rfl rfl
theorem dksX3_pot_3 : cX3_pot.data.toList.drop 69 = dktX3_pot_3 := dk_seg dksX3_pot_2 24 rfl rfl
theorem dX3_pot_0 : decode cX3_pot 0 = .ok (.iload_n 1, 1) := dk_27 (dk_at dksX3_pot_0 0 rfl rfl)
theorem dX3_pot_1 : decode cX3_pot 1 = .ok (.iconst 0, 1) := dk_3 (dk_at dksX3_pot_0 1 rfl rfl)
theorem dX3_pot_2 : decode cX3_pot 2 = .ok (.aload_n 0, 1) := dk_42 (dk_at dksX3_pot_0 2 rfl rfl)
theorem dX3_pot_3 : decode cX3_pot 3 = .ok (.getfield 9, 3) := dk_180 0 9 (dk_at dksX3_pot_0 3 rfl rfl)
theorem dX3_pot_6 : decode cX3_pot 6 = .ok (.iconst 1, 1) := dk_4 (dk_at dksX3_pot_0 6 rfl rfl)
theorem dX3_pot_7 : decode cX3_pot 7 = .ok (.iaload, 1) := dk_46 (dk_at dksX3_pot_0 7 rfl rfl)
theorem dX3_pot_8 : decode cX3_pot 8 = .ok (.iconst 1, 1) := dk_4 (dk_at dksX3_pot_0 8 rfl rfl)
theorem dX3_pot_9 : decode cX3_pot 9 = .ok (.isub, 1) := dk_100 (dk_at dksX3_pot_0 9 rfl rfl)
theorem dX3_pot_10 : decode cX3_pot 10 = .ok (.invokestatic 51, 3) := dk_184 0 51 (dk_at dksX3_pot_0 10 rfl rfl)
theorem dX3_pot_13 : decode cX3_pot 13 = .ok (.ifCond .ne 5, 3) := dk_154 0 5 (dk_at dksX3_pot_0 13 rfl rfl)
theorem dX3_pot_16 : decode cX3_pot 16 = .ok (.iconst (-1), 1) := dk_2 (dk_at dksX3_pot_0 16 rfl rfl)
theorem dX3_pot_17 : decode cX3_pot 17 = .ok (.ireturn, 1) := dk_172 (dk_at dksX3_pot_0 17 rfl rfl)
theorem dX3_pot_18 : decode cX3_pot 18 = .ok (.iload_n 2, 1) := dk_28 (dk_at dksX3_pot_0 18 rfl rfl)
theorem dX3_pot_19 : decode cX3_pot 19 = .ok (.iconst 1, 1) := dk_4 (dk_at dksX3_pot_0 19 rfl rfl)
theorem dX3_pot_20 : decode cX3_pot 20 = .ok (.bipush 9, 2) := dk_16 9 (dk_at dksX3_pot_0 20 rfl rfl)
theorem dX3_pot_22 : decode cX3_pot 22 = .ok (.invokestatic 51, 3) := dk_184 0 51 (dk_at dksX3_pot_1 0 rfl rfl)
theorem dX3_pot_25 : decode cX3_pot 25 = .ok (.ifCond .eq 13, 3) := dk_153 0 13 (dk_at dksX3_pot_1 3 rfl rfl)
theorem dX3_pot_28 : decode cX3_pot 28 = .ok (.iload_n 3, 1) := dk_29 (dk_at dksX3_pot_1 6 rfl rfl)
theorem dX3_pot_29 : decode cX3_pot 29 = .ok (.iconst 1, 1) := dk_4 (dk_at dksX3_pot_1 7 rfl rfl)
theorem dX3_pot_30 : decode cX3_pot 30 = .ok (.bipush 9, 2) := dk_16 9 (dk_at dksX3_pot_1 8 rfl rfl)
theorem dX3_pot_32 : decode cX3_pot 32 = .ok (.invokestatic 51, 3) := dk_184 0 51 (dk_at dksX3_pot_1 10 rfl rfl)
theorem dX3_pot_35 : decode cX3_pot 35 = .ok (.ifCond .ne 6, 3) := dk_154 0 6 (dk_at dksX3_pot_1 13 rfl rfl)
theorem dX3_pot_38 : decode cX3_pot 38 = .ok (.bipush (-2), 2) := dk_16 254 (dk_at dksX3_pot_1 16 rfl rfl)
theorem dX3_pot_40 : decode cX3_pot 40 = .ok (.ireturn, 1) := dk_172 (dk_at dksX3_pot_1 18 rfl rfl)
theorem dX3_pot_41 : decode cX3_pot 41 = .ok (.aload_n 0, 1) := dk_42 (dk_at dksX3_pot_1 19 rfl rfl)
theorem dX3_pot_42 : decode cX3_pot 42 = .ok (.invokevirtual 85, 3) := dk_182 0 85 (dk_at dksX3_pot_1 20 rfl rfl)
theorem dX3_pot_45 : decode cX3_pot 45 = .ok (.ifCond .eq 8, 3) := dk_153 0 8 (dk_at dksX3_pot_2 0 rfl rfl)
theorem dX3_pot_48 : decode cX3_pot 48 = .ok (.aload_n 0, 1) := dk_42 (dk_at dksX3_pot_2 3 rfl rfl)
theorem dX3_pot_49 : decode cX3_pot 49 = .ok (.invokevirtual 68, 3) := dk_182 0 68 (dk_at dksX3_pot_2 4 rfl rfl)
theorem dX3_pot_52 : decode cX3_pot 52 = .ok (.ireturn, 1) := dk_172 (dk_at dksX3_pot_2 7 rfl rfl)
theorem dX3_pot_53 : decode cX3_pot 53 = .ok (.aload_n 0, 1) := dk_42 (dk_at dksX3_pot_2 8 rfl rfl)
theorem dX3_pot_54 : decode cX3_pot 54 = .ok (.invokevirtual 61, 3) := dk_182 0 61 (dk_at dksX3_pot_2 9 rfl rfl)
theorem dX3_pot_57 : decode cX3_pot 57 = .ok (.aload_n 0, 1) := dk_42 (dk_at dksX3_pot_2 12 rfl rfl)
theorem dX3_pot_58 : decode cX3_pot 58 = .ok (.iload_n 1, 1) := dk_27 (dk_at dksX3_pot_2 13 rfl rfl)
theorem dX3_pot_59 : decode cX3_pot 59 = .ok (.iload_n 2, 1) := dk_28 (dk_at dksX3_pot_2 14 rfl rfl)
theorem dX3_pot_60 : decode cX3_pot 60 = .ok (.iload_n 3, 1) := dk_29 (dk_at dksX3_pot_2 15 rfl rfl)
theorem dX3_pot_61 : decode cX3_pot 61 = .ok (.invokevirtual 88, 3) := dk_182 0 88 (dk_at dksX3_pot_2 16 rfl rfl)
theorem dX3_pot_64 : decode cX3_pot 64 = .ok (.aload_n 0, 1) := dk_42 (dk_at dksX3_pot_2 19 rfl rfl)
theorem dX3_pot_65 : decode cX3_pot 65 = .ok (.getfield 9, 3) := dk_180 0 9 (dk_at dksX3_pot_2 20 rfl rfl)
theorem dX3_pot_68 : decode cX3_pot 68 = .ok (.iconst 2, 1) := dk_5 (dk_at dksX3_pot_2 23 rfl rfl)
theorem dX3_pot_69 : decode cX3_pot 69 = .ok (.iaload, 1) := dk_46 (dk_at dksX3_pot_3 0 rfl rfl)
theorem dX3_pot_70 : decode cX3_pot 70 = .ok (.iconst 1, 1) := dk_4 (dk_at dksX3_pot_3 1 rfl rfl)
theorem dX3_pot_71 : decode cX3_pot 71 = .ok (.isub, 1) := dk_100 (dk_at dksX3_pot_3 2 rfl rfl)
theorem dX3_pot_72 : decode cX3_pot 72 = .ok (.ireturn, 1) := dk_172 (dk_at dksX3_pot_3 3 rfl rfl)
abbrev cX3_mayPot : ByteArray := prog_32_method_17_code
def yX3_mayPot : MethodName := ⟨RX3, "mayPot", "()I"⟩
def dkwX3_mayPot_0 : List UInt8 := [42, 180, 0, 9, 5, 46, 16, 16, 160, 0, 14, 42, 16, 11, 16, 16, 182, 0, 64, 167, 0, 4, 3, 172]
abbrev dktX3_mayPot_0 : List UInt8 := dkwX3_mayPot_0 ++ []
theorem dksX3_mayPot_0 : cX3_mayPot.data.toList.drop 0 = dktX3_mayPot_0 := by decide +kernel
theorem dX3_mayPot_0 : decode cX3_mayPot 0 = .ok (.aload_n 0, 1) := dk_42 (dk_at dksX3_mayPot_0 0 rfl rfl)
theorem dX3_mayPot_1 : decode cX3_mayPot 1 = .ok (.getfield 9, 3) := dk_180 0 9 (dk_at dksX3_mayPot_0 1 rfl rfl)
theorem dX3_mayPot_4 : decode cX3_mayPot 4 = .ok (.iconst 2, 1) := dk_5 (dk_at dksX3_mayPot_0 4 rfl rfl)
theorem dX3_mayPot_5 : decode cX3_mayPot 5 = .ok (.iaload, 1) := dk_46 (dk_at dksX3_mayPot_0 5 rfl rfl)
theorem dX3_mayPot_6 : decode cX3_mayPot 6 = .ok (.bipush 16, 2) := dk_16 16 (dk_at dksX3_mayPot_0 6 rfl rfl)
theorem dX3_mayPot_8 : decode cX3_mayPot 8 = .ok (.if_icmp .ne 14, 3) := dk_160 0 14 (dk_at dksX3_mayPot_0 8 rfl rfl)
theorem dX3_mayPot_11 : decode cX3_mayPot 11 = .ok (.aload_n 0, 1) := dk_42 (dk_at dksX3_mayPot_0 11 rfl rfl)
theorem dX3_mayPot_12 : decode cX3_mayPot 12 = .ok (.bipush 11, 2) := dk_16 11 (dk_at dksX3_mayPot_0 12 rfl rfl)
theorem dX3_mayPot_14 : decode cX3_mayPot 14 = .ok (.bipush 16, 2) := dk_16 16 (dk_at dksX3_mayPot_0 14 rfl rfl)
theorem dX3_mayPot_16 : decode cX3_mayPot 16 = .ok (.invokevirtual 64, 3) := dk_182 0 64 (dk_at dksX3_mayPot_0 16 rfl rfl)
theorem dX3_mayPot_19 : decode cX3_mayPot 19 = .ok (.goto 4, 3) := dk_167 0 4 (dk_at dksX3_mayPot_0 19 rfl rfl)
theorem dX3_mayPot_22 : decode cX3_mayPot 22 = .ok (.iconst 0, 1) := dk_3 (dk_at dksX3_mayPot_0 22 rfl rfl)
theorem dX3_mayPot_23 : decode cX3_mayPot 23 = .ok (.ireturn, 1) := dk_172 (dk_at dksX3_mayPot_0 23 rfl rfl)
abbrev cX3_comes : ByteArray := prog_32_method_18_code
def yX3_comes : MethodName := ⟨RX3, "comes", "(III)V"⟩
def dkwX3_comes_5 : List UInt8 := [180, 0, 9, 5, 92, 46, 4, 96, 79, 177]
abbrev dktX3_comes_5 : List UInt8 := dkwX3_comes_5 ++ []
def dkwX3_comes_4 : List UInt8 := [180, 0, 9, 21, 4, 16, 8, 96, 2, 79, 42, 180, 0, 9, 21, 4, 16, 10, 96, 2, 79, 42]
abbrev dktX3_comes_4 : List UInt8 := dkwX3_comes_4 ++ dktX3_comes_5
def dkwX3_comes_3 : List UInt8 := [180, 0, 9, 21, 4, 16, 6, 96, 2, 79, 42, 180, 0, 9, 21, 4, 16, 7, 96, 2, 79, 42]
abbrev dktX3_comes_3 : List UInt8 := dkwX3_comes_3 ++ dktX3_comes_4
def dkwX3_comes_2 : List UInt8 := [27, 79, 42, 180, 0, 9, 21, 4, 5, 96, 28, 79, 42, 180, 0, 9, 21, 4, 6, 96, 29, 79, 42]
abbrev dktX3_comes_2 : List UInt8 := dkwX3_comes_2 ++ dktX3_comes_3
def dkwX3_comes_1 : List UInt8 := [180, 0, 9, 21, 4, 21, 5, 96, 3, 79, 132, 5, 1, 167, 255, 235, 42, 180, 0, 9, 21, 4, 4, 96]
abbrev dktX3_comes_1 : List UInt8 := dkwX3_comes_1 ++ dktX3_comes_2
def dkwX3_comes_0 : List UInt8 := [42, 180, 0, 9, 5, 46, 184, 0, 72, 54, 4, 3, 54, 5, 21, 5, 16, 13, 162, 0, 20, 42]
abbrev dktX3_comes_0 : List UInt8 := dkwX3_comes_0 ++ dktX3_comes_1
theorem dksX3_comes_0 : cX3_comes.data.toList.drop 0 = dktX3_comes_0 := by decide +kernel
theorem dksX3_comes_1 : cX3_comes.data.toList.drop 22 = dktX3_comes_1 := dk_seg dksX3_comes_0 22 rfl rfl
theorem dksX3_comes_2 : cX3_comes.data.toList.drop 46 = dktX3_comes_2 := dk_seg dksX3_comes_1 24 rfl rfl
theorem dksX3_comes_3 : cX3_comes.data.toList.drop 69 = dktX3_comes_3 := dk_seg dksX3_comes_2 23 rfl rfl
theorem dksX3_comes_4 : cX3_comes.data.toList.drop 91 = dktX3_comes_4 := dk_seg dksX3_comes_3 22 rfl rfl
theorem dksX3_comes_5 : cX3_comes.data.toList.drop 113 = dktX3_comes_5 := dk_seg dksX3_comes_4 22 rfl rfl
theorem dX3_comes_0 : decode cX3_comes 0 = .ok (.aload_n 0, 1) := dk_42 (dk_at dksX3_comes_0 0 rfl rfl)
theorem dX3_comes_1 : decode cX3_comes 1 = .ok (.getfield 9, 3) := dk_180 0 9 (dk_at dksX3_comes_0 1 rfl rfl)
theorem dX3_comes_4 : decode cX3_comes 4 = .ok (.iconst 2, 1) := dk_5 (dk_at dksX3_comes_0 4 rfl rfl)
theorem dX3_comes_5 : decode cX3_comes 5 = .ok (.iaload, 1) := dk_46 (dk_at dksX3_comes_0 5 rfl rfl)
theorem dX3_comes_6 : decode cX3_comes 6 = .ok (.invokestatic 72, 3) := dk_184 0 72 (dk_at dksX3_comes_0 6 rfl rfl)
theorem dX3_comes_9 : decode cX3_comes 9 = .ok (.istore 4, 2) := dk_54 4 (dk_at dksX3_comes_0 9 rfl rfl)
theorem dX3_comes_11 : decode cX3_comes 11 = .ok (.iconst 0, 1) := dk_3 (dk_at dksX3_comes_0 11 rfl rfl)
theorem dX3_comes_12 : decode cX3_comes 12 = .ok (.istore 5, 2) := dk_54 5 (dk_at dksX3_comes_0 12 rfl rfl)
theorem dX3_comes_14 : decode cX3_comes 14 = .ok (.iload 5, 2) := dk_21 5 (dk_at dksX3_comes_0 14 rfl rfl)
theorem dX3_comes_16 : decode cX3_comes 16 = .ok (.bipush 13, 2) := dk_16 13 (dk_at dksX3_comes_0 16 rfl rfl)
theorem dX3_comes_18 : decode cX3_comes 18 = .ok (.if_icmp .ge 20, 3) := dk_162 0 20 (dk_at dksX3_comes_0 18 rfl rfl)
theorem dX3_comes_21 : decode cX3_comes 21 = .ok (.aload_n 0, 1) := dk_42 (dk_at dksX3_comes_0 21 rfl rfl)
theorem dX3_comes_22 : decode cX3_comes 22 = .ok (.getfield 9, 3) := dk_180 0 9 (dk_at dksX3_comes_1 0 rfl rfl)
theorem dX3_comes_25 : decode cX3_comes 25 = .ok (.iload 4, 2) := dk_21 4 (dk_at dksX3_comes_1 3 rfl rfl)
theorem dX3_comes_27 : decode cX3_comes 27 = .ok (.iload 5, 2) := dk_21 5 (dk_at dksX3_comes_1 5 rfl rfl)
theorem dX3_comes_29 : decode cX3_comes 29 = .ok (.iadd, 1) := dk_96 (dk_at dksX3_comes_1 7 rfl rfl)
theorem dX3_comes_30 : decode cX3_comes 30 = .ok (.iconst 0, 1) := dk_3 (dk_at dksX3_comes_1 8 rfl rfl)
theorem dX3_comes_31 : decode cX3_comes 31 = .ok (.iastore, 1) := dk_79 (dk_at dksX3_comes_1 9 rfl rfl)
theorem dX3_comes_32 : decode cX3_comes 32 = .ok (.iinc 5 1, 3) := dk_132 5 1 (dk_at dksX3_comes_1 10 rfl rfl)
theorem dX3_comes_35 : decode cX3_comes 35 = .ok (.goto (-21), 3) := dk_167 255 235 (dk_at dksX3_comes_1 13 rfl rfl)
theorem dX3_comes_38 : decode cX3_comes 38 = .ok (.aload_n 0, 1) := dk_42 (dk_at dksX3_comes_1 16 rfl rfl)
theorem dX3_comes_39 : decode cX3_comes 39 = .ok (.getfield 9, 3) := dk_180 0 9 (dk_at dksX3_comes_1 17 rfl rfl)
theorem dX3_comes_42 : decode cX3_comes 42 = .ok (.iload 4, 2) := dk_21 4 (dk_at dksX3_comes_1 20 rfl rfl)
theorem dX3_comes_44 : decode cX3_comes 44 = .ok (.iconst 1, 1) := dk_4 (dk_at dksX3_comes_1 22 rfl rfl)
theorem dX3_comes_45 : decode cX3_comes 45 = .ok (.iadd, 1) := dk_96 (dk_at dksX3_comes_1 23 rfl rfl)
theorem dX3_comes_46 : decode cX3_comes 46 = .ok (.iload_n 1, 1) := dk_27 (dk_at dksX3_comes_2 0 rfl rfl)
theorem dX3_comes_47 : decode cX3_comes 47 = .ok (.iastore, 1) := dk_79 (dk_at dksX3_comes_2 1 rfl rfl)
theorem dX3_comes_48 : decode cX3_comes 48 = .ok (.aload_n 0, 1) := dk_42 (dk_at dksX3_comes_2 2 rfl rfl)
theorem dX3_comes_49 : decode cX3_comes 49 = .ok (.getfield 9, 3) := dk_180 0 9 (dk_at dksX3_comes_2 3 rfl rfl)
theorem dX3_comes_52 : decode cX3_comes 52 = .ok (.iload 4, 2) := dk_21 4 (dk_at dksX3_comes_2 6 rfl rfl)
theorem dX3_comes_54 : decode cX3_comes 54 = .ok (.iconst 2, 1) := dk_5 (dk_at dksX3_comes_2 8 rfl rfl)
theorem dX3_comes_55 : decode cX3_comes 55 = .ok (.iadd, 1) := dk_96 (dk_at dksX3_comes_2 9 rfl rfl)
theorem dX3_comes_56 : decode cX3_comes 56 = .ok (.iload_n 2, 1) := dk_28 (dk_at dksX3_comes_2 10 rfl rfl)
theorem dX3_comes_57 : decode cX3_comes 57 = .ok (.iastore, 1) := dk_79 (dk_at dksX3_comes_2 11 rfl rfl)
theorem dX3_comes_58 : decode cX3_comes 58 = .ok (.aload_n 0, 1) := dk_42 (dk_at dksX3_comes_2 12 rfl rfl)
theorem dX3_comes_59 : decode cX3_comes 59 = .ok (.getfield 9, 3) := dk_180 0 9 (dk_at dksX3_comes_2 13 rfl rfl)
theorem dX3_comes_62 : decode cX3_comes 62 = .ok (.iload 4, 2) := dk_21 4 (dk_at dksX3_comes_2 16 rfl rfl)
theorem dX3_comes_64 : decode cX3_comes 64 = .ok (.iconst 3, 1) := dk_6 (dk_at dksX3_comes_2 18 rfl rfl)
theorem dX3_comes_65 : decode cX3_comes 65 = .ok (.iadd, 1) := dk_96 (dk_at dksX3_comes_2 19 rfl rfl)
theorem dX3_comes_66 : decode cX3_comes 66 = .ok (.iload_n 3, 1) := dk_29 (dk_at dksX3_comes_2 20 rfl rfl)
theorem dX3_comes_67 : decode cX3_comes 67 = .ok (.iastore, 1) := dk_79 (dk_at dksX3_comes_2 21 rfl rfl)
theorem dX3_comes_68 : decode cX3_comes 68 = .ok (.aload_n 0, 1) := dk_42 (dk_at dksX3_comes_2 22 rfl rfl)
theorem dX3_comes_69 : decode cX3_comes 69 = .ok (.getfield 9, 3) := dk_180 0 9 (dk_at dksX3_comes_3 0 rfl rfl)
theorem dX3_comes_72 : decode cX3_comes 72 = .ok (.iload 4, 2) := dk_21 4 (dk_at dksX3_comes_3 3 rfl rfl)
theorem dX3_comes_74 : decode cX3_comes 74 = .ok (.bipush 6, 2) := dk_16 6 (dk_at dksX3_comes_3 5 rfl rfl)
theorem dX3_comes_76 : decode cX3_comes 76 = .ok (.iadd, 1) := dk_96 (dk_at dksX3_comes_3 7 rfl rfl)
theorem dX3_comes_77 : decode cX3_comes 77 = .ok (.iconst (-1), 1) := dk_2 (dk_at dksX3_comes_3 8 rfl rfl)
theorem dX3_comes_78 : decode cX3_comes 78 = .ok (.iastore, 1) := dk_79 (dk_at dksX3_comes_3 9 rfl rfl)
theorem dX3_comes_79 : decode cX3_comes 79 = .ok (.aload_n 0, 1) := dk_42 (dk_at dksX3_comes_3 10 rfl rfl)
theorem dX3_comes_80 : decode cX3_comes 80 = .ok (.getfield 9, 3) := dk_180 0 9 (dk_at dksX3_comes_3 11 rfl rfl)
theorem dX3_comes_83 : decode cX3_comes 83 = .ok (.iload 4, 2) := dk_21 4 (dk_at dksX3_comes_3 14 rfl rfl)
theorem dX3_comes_85 : decode cX3_comes 85 = .ok (.bipush 7, 2) := dk_16 7 (dk_at dksX3_comes_3 16 rfl rfl)
theorem dX3_comes_87 : decode cX3_comes 87 = .ok (.iadd, 1) := dk_96 (dk_at dksX3_comes_3 18 rfl rfl)
theorem dX3_comes_88 : decode cX3_comes 88 = .ok (.iconst (-1), 1) := dk_2 (dk_at dksX3_comes_3 19 rfl rfl)
theorem dX3_comes_89 : decode cX3_comes 89 = .ok (.iastore, 1) := dk_79 (dk_at dksX3_comes_3 20 rfl rfl)
theorem dX3_comes_90 : decode cX3_comes 90 = .ok (.aload_n 0, 1) := dk_42 (dk_at dksX3_comes_3 21 rfl rfl)
theorem dX3_comes_91 : decode cX3_comes 91 = .ok (.getfield 9, 3) := dk_180 0 9 (dk_at dksX3_comes_4 0 rfl rfl)
theorem dX3_comes_94 : decode cX3_comes 94 = .ok (.iload 4, 2) := dk_21 4 (dk_at dksX3_comes_4 3 rfl rfl)
theorem dX3_comes_96 : decode cX3_comes 96 = .ok (.bipush 8, 2) := dk_16 8 (dk_at dksX3_comes_4 5 rfl rfl)
theorem dX3_comes_98 : decode cX3_comes 98 = .ok (.iadd, 1) := dk_96 (dk_at dksX3_comes_4 7 rfl rfl)
theorem dX3_comes_99 : decode cX3_comes 99 = .ok (.iconst (-1), 1) := dk_2 (dk_at dksX3_comes_4 8 rfl rfl)
theorem dX3_comes_100 : decode cX3_comes 100 = .ok (.iastore, 1) := dk_79 (dk_at dksX3_comes_4 9 rfl rfl)
theorem dX3_comes_101 : decode cX3_comes 101 = .ok (.aload_n 0, 1) := dk_42 (dk_at dksX3_comes_4 10 rfl rfl)
theorem dX3_comes_102 : decode cX3_comes 102 = .ok (.getfield 9, 3) := dk_180 0 9 (dk_at dksX3_comes_4 11 rfl rfl)
theorem dX3_comes_105 : decode cX3_comes 105 = .ok (.iload 4, 2) := dk_21 4 (dk_at dksX3_comes_4 14 rfl rfl)
theorem dX3_comes_107 : decode cX3_comes 107 = .ok (.bipush 10, 2) := dk_16 10 (dk_at dksX3_comes_4 16 rfl rfl)
theorem dX3_comes_109 : decode cX3_comes 109 = .ok (.iadd, 1) := dk_96 (dk_at dksX3_comes_4 18 rfl rfl)
theorem dX3_comes_110 : decode cX3_comes 110 = .ok (.iconst (-1), 1) := dk_2 (dk_at dksX3_comes_4 19 rfl rfl)
theorem dX3_comes_111 : decode cX3_comes 111 = .ok (.iastore, 1) := dk_79 (dk_at dksX3_comes_4 20 rfl rfl)
theorem dX3_comes_112 : decode cX3_comes 112 = .ok (.aload_n 0, 1) := dk_42 (dk_at dksX3_comes_4 21 rfl rfl)
theorem dX3_comes_113 : decode cX3_comes 113 = .ok (.getfield 9, 3) := dk_180 0 9 (dk_at dksX3_comes_5 0 rfl rfl)
theorem dX3_comes_116 : decode cX3_comes 116 = .ok (.iconst 2, 1) := dk_5 (dk_at dksX3_comes_5 3 rfl rfl)
theorem dX3_comes_117 : decode cX3_comes 117 = .ok (.dup2, 1) := dk_92 (dk_at dksX3_comes_5 4 rfl rfl)
theorem dX3_comes_118 : decode cX3_comes 118 = .ok (.iaload, 1) := dk_46 (dk_at dksX3_comes_5 5 rfl rfl)
theorem dX3_comes_119 : decode cX3_comes 119 = .ok (.iconst 1, 1) := dk_4 (dk_at dksX3_comes_5 6 rfl rfl)
theorem dX3_comes_120 : decode cX3_comes 120 = .ok (.iadd, 1) := dk_96 (dk_at dksX3_comes_5 7 rfl rfl)
theorem dX3_comes_121 : decode cX3_comes 121 = .ok (.iastore, 1) := dk_79 (dk_at dksX3_comes_5 8 rfl rfl)
theorem dX3_comes_122 : decode cX3_comes 122 = .ok (.return_, 1) := dk_177 (dk_at dksX3_comes_5 9 rfl rfl)
abbrev cX3_at : ByteArray := prog_32_method_6_code
def yX3_at : MethodName := ⟨RX3, "at", "(I)I"⟩
def dkwX3_at_0 : List UInt8 := [16, 50, 16, 13, 26, 104, 96, 172]
abbrev dktX3_at_0 : List UInt8 := dkwX3_at_0 ++ []
theorem dksX3_at_0 : cX3_at.data.toList.drop 0 = dktX3_at_0 := by decide +kernel
theorem dX3_at_0 : decode cX3_at 0 = .ok (.bipush 50, 2) := dk_16 50 (dk_at dksX3_at_0 0 rfl rfl)
theorem dX3_at_2 : decode cX3_at 2 = .ok (.bipush 13, 2) := dk_16 13 (dk_at dksX3_at_0 2 rfl rfl)
theorem dX3_at_4 : decode cX3_at 4 = .ok (.iload_n 0, 1) := dk_26 (dk_at dksX3_at_0 4 rfl rfl)
theorem dX3_at_5 : decode cX3_at 5 = .ok (.imul, 1) := dk_104 (dk_at dksX3_at_0 5 rfl rfl)
theorem dX3_at_6 : decode cX3_at 6 = .ok (.iadd, 1) := dk_96 (dk_at dksX3_at_0 6 rfl rfl)
theorem dX3_at_7 : decode cX3_at 7 = .ok (.ireturn, 1) := dk_172 (dk_at dksX3_at_0 7 rfl rfl)
abbrev cX3_of : ByteArray := prog_32_method_27_code
def yX3_of : MethodName := ⟨RX3, "of", "(II)I"⟩
def dkwX3_of_2 : List UInt8 := [153, 0, 7, 4, 167, 0, 4, 3, 172]
abbrev dktX3_of_2 : List UInt8 := dkwX3_of_2 ++ []
def dkwX3_of_1 : List UInt8 := [16, 11, 162, 0, 17, 42, 180, 0, 9, 27, 184, 0, 72, 28, 96, 46, 167, 0, 16, 42, 27, 182, 0, 96]
abbrev dktX3_of_1 : List UInt8 := dkwX3_of_1 ++ dktX3_of_2
def dkwX3_of_0 : List UInt8 := [42, 27, 182, 0, 92, 154, 0, 5, 2, 172, 28, 3, 16, 11, 184, 0, 51, 154, 0, 6, 16, 254, 172, 28]
abbrev dktX3_of_0 : List UInt8 := dkwX3_of_0 ++ dktX3_of_1
theorem dksX3_of_0 : cX3_of.data.toList.drop 0 = dktX3_of_0 := by decide +kernel
theorem dksX3_of_1 : cX3_of.data.toList.drop 24 = dktX3_of_1 := dk_seg dksX3_of_0 24 rfl rfl
theorem dksX3_of_2 : cX3_of.data.toList.drop 48 = dktX3_of_2 := dk_seg dksX3_of_1 24 rfl rfl
theorem dX3_of_0 : decode cX3_of 0 = .ok (.aload_n 0, 1) := dk_42 (dk_at dksX3_of_0 0 rfl rfl)
theorem dX3_of_1 : decode cX3_of 1 = .ok (.iload_n 1, 1) := dk_27 (dk_at dksX3_of_0 1 rfl rfl)
theorem dX3_of_2 : decode cX3_of 2 = .ok (.invokevirtual 92, 3) := dk_182 0 92 (dk_at dksX3_of_0 2 rfl rfl)
theorem dX3_of_5 : decode cX3_of 5 = .ok (.ifCond .ne 5, 3) := dk_154 0 5 (dk_at dksX3_of_0 5 rfl rfl)
theorem dX3_of_8 : decode cX3_of 8 = .ok (.iconst (-1), 1) := dk_2 (dk_at dksX3_of_0 8 rfl rfl)
theorem dX3_of_9 : decode cX3_of 9 = .ok (.ireturn, 1) := dk_172 (dk_at dksX3_of_0 9 rfl rfl)
theorem dX3_of_10 : decode cX3_of 10 = .ok (.iload_n 2, 1) := dk_28 (dk_at dksX3_of_0 10 rfl rfl)
theorem dX3_of_11 : decode cX3_of 11 = .ok (.iconst 0, 1) := dk_3 (dk_at dksX3_of_0 11 rfl rfl)
theorem dX3_of_12 : decode cX3_of 12 = .ok (.bipush 11, 2) := dk_16 11 (dk_at dksX3_of_0 12 rfl rfl)
theorem dX3_of_14 : decode cX3_of 14 = .ok (.invokestatic 51, 3) := dk_184 0 51 (dk_at dksX3_of_0 14 rfl rfl)
theorem dX3_of_17 : decode cX3_of 17 = .ok (.ifCond .ne 6, 3) := dk_154 0 6 (dk_at dksX3_of_0 17 rfl rfl)
theorem dX3_of_20 : decode cX3_of 20 = .ok (.bipush (-2), 2) := dk_16 254 (dk_at dksX3_of_0 20 rfl rfl)
theorem dX3_of_22 : decode cX3_of 22 = .ok (.ireturn, 1) := dk_172 (dk_at dksX3_of_0 22 rfl rfl)
theorem dX3_of_23 : decode cX3_of 23 = .ok (.iload_n 2, 1) := dk_28 (dk_at dksX3_of_0 23 rfl rfl)
theorem dX3_of_24 : decode cX3_of 24 = .ok (.bipush 11, 2) := dk_16 11 (dk_at dksX3_of_1 0 rfl rfl)
theorem dX3_of_26 : decode cX3_of 26 = .ok (.if_icmp .ge 17, 3) := dk_162 0 17 (dk_at dksX3_of_1 2 rfl rfl)
theorem dX3_of_29 : decode cX3_of 29 = .ok (.aload_n 0, 1) := dk_42 (dk_at dksX3_of_1 5 rfl rfl)
theorem dX3_of_30 : decode cX3_of 30 = .ok (.getfield 9, 3) := dk_180 0 9 (dk_at dksX3_of_1 6 rfl rfl)
theorem dX3_of_33 : decode cX3_of 33 = .ok (.iload_n 1, 1) := dk_27 (dk_at dksX3_of_1 9 rfl rfl)
theorem dX3_of_34 : decode cX3_of 34 = .ok (.invokestatic 72, 3) := dk_184 0 72 (dk_at dksX3_of_1 10 rfl rfl)
theorem dX3_of_37 : decode cX3_of 37 = .ok (.iload_n 2, 1) := dk_28 (dk_at dksX3_of_1 13 rfl rfl)
theorem dX3_of_38 : decode cX3_of 38 = .ok (.iadd, 1) := dk_96 (dk_at dksX3_of_1 14 rfl rfl)
theorem dX3_of_39 : decode cX3_of 39 = .ok (.iaload, 1) := dk_46 (dk_at dksX3_of_1 15 rfl rfl)
theorem dX3_of_40 : decode cX3_of 40 = .ok (.goto 16, 3) := dk_167 0 16 (dk_at dksX3_of_1 16 rfl rfl)
theorem dX3_of_43 : decode cX3_of 43 = .ok (.aload_n 0, 1) := dk_42 (dk_at dksX3_of_1 19 rfl rfl)
theorem dX3_of_44 : decode cX3_of 44 = .ok (.iload_n 1, 1) := dk_27 (dk_at dksX3_of_1 20 rfl rfl)
theorem dX3_of_45 : decode cX3_of 45 = .ok (.invokevirtual 96, 3) := dk_182 0 96 (dk_at dksX3_of_1 21 rfl rfl)
theorem dX3_of_48 : decode cX3_of 48 = .ok (.ifCond .eq 7, 3) := dk_153 0 7 (dk_at dksX3_of_2 0 rfl rfl)
theorem dX3_of_51 : decode cX3_of 51 = .ok (.iconst 1, 1) := dk_4 (dk_at dksX3_of_2 3 rfl rfl)
theorem dX3_of_52 : decode cX3_of 52 = .ok (.goto 4, 3) := dk_167 0 4 (dk_at dksX3_of_2 4 rfl rfl)
theorem dX3_of_55 : decode cX3_of 55 = .ok (.iconst 0, 1) := dk_3 (dk_at dksX3_of_2 7 rfl rfl)
theorem dX3_of_56 : decode cX3_of 56 = .ok (.ireturn, 1) := dk_172 (dk_at dksX3_of_2 8 rfl rfl)
abbrev cX3_isPot : ByteArray := prog_32_method_7_code
def yX3_isPot : MethodName := ⟨RX3, "isPot", "(I)Z"⟩
def dkwX3_isPot_0 : List UInt8 := [27, 3, 42, 180, 0, 9, 5, 46, 4, 100, 184, 0, 51, 172]
abbrev dktX3_isPot_0 : List UInt8 := dkwX3_isPot_0 ++ []
theorem dksX3_isPot_0 : cX3_isPot.data.toList.drop 0 = dktX3_isPot_0 := by decide +kernel
theorem dX3_isPot_0 : decode cX3_isPot 0 = .ok (.iload_n 1, 1) := dk_27 (dk_at dksX3_isPot_0 0 rfl rfl)
theorem dX3_isPot_1 : decode cX3_isPot 1 = .ok (.iconst 0, 1) := dk_3 (dk_at dksX3_isPot_0 1 rfl rfl)
theorem dX3_isPot_2 : decode cX3_isPot 2 = .ok (.aload_n 0, 1) := dk_42 (dk_at dksX3_isPot_0 2 rfl rfl)
theorem dX3_isPot_3 : decode cX3_isPot 3 = .ok (.getfield 9, 3) := dk_180 0 9 (dk_at dksX3_isPot_0 3 rfl rfl)
theorem dX3_isPot_6 : decode cX3_isPot 6 = .ok (.iconst 2, 1) := dk_5 (dk_at dksX3_isPot_0 6 rfl rfl)
theorem dX3_isPot_7 : decode cX3_isPot 7 = .ok (.iaload, 1) := dk_46 (dk_at dksX3_isPot_0 7 rfl rfl)
theorem dX3_isPot_8 : decode cX3_isPot 8 = .ok (.iconst 1, 1) := dk_4 (dk_at dksX3_isPot_0 8 rfl rfl)
theorem dX3_isPot_9 : decode cX3_isPot 9 = .ok (.isub, 1) := dk_100 (dk_at dksX3_isPot_0 9 rfl rfl)
theorem dX3_isPot_10 : decode cX3_isPot 10 = .ok (.invokestatic 51, 3) := dk_184 0 51 (dk_at dksX3_isPot_0 10 rfl rfl)
theorem dX3_isPot_13 : decode cX3_isPot 13 = .ok (.ireturn, 1) := dk_172 (dk_at dksX3_isPot_0 13 rfl rfl)
abbrev cX3_isWhole : ByteArray := prog_32_method_26_code
def yX3_isWhole : MethodName := ⟨RX3, "isWhole", "(I)Z"⟩
def dkwX3_isWhole_2 : List UInt8 := [167, 0, 4, 3, 172]
abbrev dktX3_isWhole_2 : List UInt8 := dkwX3_isWhole_2 ++ []
def dkwX3_isWhole_1 : List UInt8 := [7, 96, 46, 154, 0, 23, 42, 180, 0, 9, 27, 184, 0, 72, 3, 96, 46, 16, 7, 159, 0, 7, 4]
abbrev dktX3_isWhole_1 : List UInt8 := dkwX3_isWhole_1 ++ dktX3_isWhole_2
def dkwX3_isWhole_0 : List UInt8 := [42, 180, 0, 9, 27, 184, 0, 72, 16, 12, 96, 46, 4, 160, 0, 37, 42, 180, 0, 9, 27, 184, 0, 72]
abbrev dktX3_isWhole_0 : List UInt8 := dkwX3_isWhole_0 ++ dktX3_isWhole_1
theorem dksX3_isWhole_0 : cX3_isWhole.data.toList.drop 0 = dktX3_isWhole_0 := by decide +kernel
theorem dksX3_isWhole_1 : cX3_isWhole.data.toList.drop 24 = dktX3_isWhole_1 := dk_seg dksX3_isWhole_0 24 rfl rfl
theorem dksX3_isWhole_2 : cX3_isWhole.data.toList.drop 47 = dktX3_isWhole_2 := dk_seg dksX3_isWhole_1 23 rfl rfl
theorem dX3_isWhole_0 : decode cX3_isWhole 0 = .ok (.aload_n 0, 1) := dk_42 (dk_at dksX3_isWhole_0 0 rfl rfl)
theorem dX3_isWhole_1 : decode cX3_isWhole 1 = .ok (.getfield 9, 3) := dk_180 0 9 (dk_at dksX3_isWhole_0 1 rfl rfl)
theorem dX3_isWhole_4 : decode cX3_isWhole 4 = .ok (.iload_n 1, 1) := dk_27 (dk_at dksX3_isWhole_0 4 rfl rfl)
theorem dX3_isWhole_5 : decode cX3_isWhole 5 = .ok (.invokestatic 72, 3) := dk_184 0 72 (dk_at dksX3_isWhole_0 5 rfl rfl)
theorem dX3_isWhole_8 : decode cX3_isWhole 8 = .ok (.bipush 12, 2) := dk_16 12 (dk_at dksX3_isWhole_0 8 rfl rfl)
theorem dX3_isWhole_10 : decode cX3_isWhole 10 = .ok (.iadd, 1) := dk_96 (dk_at dksX3_isWhole_0 10 rfl rfl)
theorem dX3_isWhole_11 : decode cX3_isWhole 11 = .ok (.iaload, 1) := dk_46 (dk_at dksX3_isWhole_0 11 rfl rfl)
theorem dX3_isWhole_12 : decode cX3_isWhole 12 = .ok (.iconst 1, 1) := dk_4 (dk_at dksX3_isWhole_0 12 rfl rfl)
theorem dX3_isWhole_13 : decode cX3_isWhole 13 = .ok (.if_icmp .ne 37, 3) := dk_160 0 37 (dk_at dksX3_isWhole_0 13 rfl rfl)
theorem dX3_isWhole_16 : decode cX3_isWhole 16 = .ok (.aload_n 0, 1) := dk_42 (dk_at dksX3_isWhole_0 16 rfl rfl)
theorem dX3_isWhole_17 : decode cX3_isWhole 17 = .ok (.getfield 9, 3) := dk_180 0 9 (dk_at dksX3_isWhole_0 17 rfl rfl)
theorem dX3_isWhole_20 : decode cX3_isWhole 20 = .ok (.iload_n 1, 1) := dk_27 (dk_at dksX3_isWhole_0 20 rfl rfl)
theorem dX3_isWhole_21 : decode cX3_isWhole 21 = .ok (.invokestatic 72, 3) := dk_184 0 72 (dk_at dksX3_isWhole_0 21 rfl rfl)
theorem dX3_isWhole_24 : decode cX3_isWhole 24 = .ok (.iconst 4, 1) := dk_7 (dk_at dksX3_isWhole_1 0 rfl rfl)
theorem dX3_isWhole_25 : decode cX3_isWhole 25 = .ok (.iadd, 1) := dk_96 (dk_at dksX3_isWhole_1 1 rfl rfl)
theorem dX3_isWhole_26 : decode cX3_isWhole 26 = .ok (.iaload, 1) := dk_46 (dk_at dksX3_isWhole_1 2 rfl rfl)
theorem dX3_isWhole_27 : decode cX3_isWhole 27 = .ok (.ifCond .ne 23, 3) := dk_154 0 23 (dk_at dksX3_isWhole_1 3 rfl rfl)
theorem dX3_isWhole_30 : decode cX3_isWhole 30 = .ok (.aload_n 0, 1) := dk_42 (dk_at dksX3_isWhole_1 6 rfl rfl)
theorem dX3_isWhole_31 : decode cX3_isWhole 31 = .ok (.getfield 9, 3) := dk_180 0 9 (dk_at dksX3_isWhole_1 7 rfl rfl)
theorem dX3_isWhole_34 : decode cX3_isWhole 34 = .ok (.iload_n 1, 1) := dk_27 (dk_at dksX3_isWhole_1 10 rfl rfl)
theorem dX3_isWhole_35 : decode cX3_isWhole 35 = .ok (.invokestatic 72, 3) := dk_184 0 72 (dk_at dksX3_isWhole_1 11 rfl rfl)
theorem dX3_isWhole_38 : decode cX3_isWhole 38 = .ok (.iconst 0, 1) := dk_3 (dk_at dksX3_isWhole_1 14 rfl rfl)
theorem dX3_isWhole_39 : decode cX3_isWhole 39 = .ok (.iadd, 1) := dk_96 (dk_at dksX3_isWhole_1 15 rfl rfl)
theorem dX3_isWhole_40 : decode cX3_isWhole 40 = .ok (.iaload, 1) := dk_46 (dk_at dksX3_isWhole_1 16 rfl rfl)
theorem dX3_isWhole_41 : decode cX3_isWhole 41 = .ok (.bipush 7, 2) := dk_16 7 (dk_at dksX3_isWhole_1 17 rfl rfl)
theorem dX3_isWhole_43 : decode cX3_isWhole 43 = .ok (.if_icmp .eq 7, 3) := dk_159 0 7 (dk_at dksX3_isWhole_1 19 rfl rfl)
theorem dX3_isWhole_46 : decode cX3_isWhole 46 = .ok (.iconst 1, 1) := dk_4 (dk_at dksX3_isWhole_1 22 rfl rfl)
theorem dX3_isWhole_47 : decode cX3_isWhole 47 = .ok (.goto 4, 3) := dk_167 0 4 (dk_at dksX3_isWhole_2 0 rfl rfl)
theorem dX3_isWhole_50 : decode cX3_isWhole 50 = .ok (.iconst 0, 1) := dk_3 (dk_at dksX3_isWhole_2 3 rfl rfl)
theorem dX3_isWhole_51 : decode cX3_isWhole 51 = .ok (.ireturn, 1) := dk_172 (dk_at dksX3_isWhole_2 4 rfl rfl)
abbrev cX3_moisture : ByteArray := prog_32_method_29_code
def yX3_moisture : MethodName := ⟨RX3, "moisture", "(I)F"⟩
def dkwX3_moisture_0 : List UInt8 := [42, 27, 182, 0, 92, 153, 0, 11, 42, 27, 182, 0, 105, 167, 0, 5, 18, 108, 174]
abbrev dktX3_moisture_0 : List UInt8 := dkwX3_moisture_0 ++ []
theorem dksX3_moisture_0 : cX3_moisture.data.toList.drop 0 = dktX3_moisture_0 := by decide +kernel
theorem dX3_moisture_0 : decode cX3_moisture 0 = .ok (.aload_n 0, 1) := dk_42 (dk_at dksX3_moisture_0 0 rfl rfl)
theorem dX3_moisture_1 : decode cX3_moisture 1 = .ok (.iload_n 1, 1) := dk_27 (dk_at dksX3_moisture_0 1 rfl rfl)
theorem dX3_moisture_2 : decode cX3_moisture 2 = .ok (.invokevirtual 92, 3) := dk_182 0 92 (dk_at dksX3_moisture_0 2 rfl rfl)
theorem dX3_moisture_5 : decode cX3_moisture 5 = .ok (.ifCond .eq 11, 3) := dk_153 0 11 (dk_at dksX3_moisture_0 5 rfl rfl)
theorem dX3_moisture_8 : decode cX3_moisture 8 = .ok (.aload_n 0, 1) := dk_42 (dk_at dksX3_moisture_0 8 rfl rfl)
theorem dX3_moisture_9 : decode cX3_moisture 9 = .ok (.iload_n 1, 1) := dk_27 (dk_at dksX3_moisture_0 9 rfl rfl)
theorem dX3_moisture_10 : decode cX3_moisture 10 = .ok (.invokevirtual 105, 3) := dk_182 0 105 (dk_at dksX3_moisture_0 10 rfl rfl)
theorem dX3_moisture_13 : decode cX3_moisture 13 = .ok (.goto 5, 3) := dk_167 0 5 (dk_at dksX3_moisture_0 13 rfl rfl)
theorem dX3_moisture_16 : decode cX3_moisture 16 = .ok (.ldc 108, 2) := dk_18 108 (dk_at dksX3_moisture_0 16 rfl rfl)
theorem dX3_moisture_18 : decode cX3_moisture 18 = .ok (.freturn, 1) := dk_174 (dk_at dksX3_moisture_0 18 rfl rfl)
abbrev cX3_moistureOf : ByteArray := prog_32_method_28_code
def yX3_moistureOf : MethodName := ⟨RX3, "moistureOf", "(I)F"⟩
def dkwX3_moistureOf_0 : List UInt8 := [42, 180, 0, 9, 27, 184, 0, 72, 16, 11, 96, 46, 184, 0, 99, 174]
abbrev dktX3_moistureOf_0 : List UInt8 := dkwX3_moistureOf_0 ++ []
theorem dksX3_moistureOf_0 : cX3_moistureOf.data.toList.drop 0 = dktX3_moistureOf_0 := by decide +kernel
theorem dX3_moistureOf_0 : decode cX3_moistureOf 0 = .ok (.aload_n 0, 1) := dk_42 (dk_at dksX3_moistureOf_0 0 rfl rfl)
theorem dX3_moistureOf_1 : decode cX3_moistureOf 1 = .ok (.getfield 9, 3) := dk_180 0 9 (dk_at dksX3_moistureOf_0 1 rfl rfl)
theorem dX3_moistureOf_4 : decode cX3_moistureOf 4 = .ok (.iload_n 1, 1) := dk_27 (dk_at dksX3_moistureOf_0 4 rfl rfl)
theorem dX3_moistureOf_5 : decode cX3_moistureOf 5 = .ok (.invokestatic 72, 3) := dk_184 0 72 (dk_at dksX3_moistureOf_0 5 rfl rfl)
theorem dX3_moistureOf_8 : decode cX3_moistureOf 8 = .ok (.bipush 11, 2) := dk_16 11 (dk_at dksX3_moistureOf_0 8 rfl rfl)
theorem dX3_moistureOf_10 : decode cX3_moistureOf 10 = .ok (.iadd, 1) := dk_96 (dk_at dksX3_moistureOf_0 10 rfl rfl)
theorem dX3_moistureOf_11 : decode cX3_moistureOf 11 = .ok (.iaload, 1) := dk_46 (dk_at dksX3_moistureOf_0 11 rfl rfl)
theorem dX3_moistureOf_12 : decode cX3_moistureOf 12 = .ok (.invokestatic 99, 3) := dk_184 0 99 (dk_at dksX3_moistureOf_0 12 rfl rfl)
theorem dX3_moistureOf_15 : decode cX3_moistureOf 15 = .ok (.freturn, 1) := dk_174 (dk_at dksX3_moistureOf_0 15 rfl rfl)
abbrev cX3_moistureAgain : ByteArray := prog_32_method_31_code
def yX3_moistureAgain : MethodName := ⟨RX3, "moistureAgain", "(I)F"⟩
def dkwX3_moistureAgain_5 : List UInt8 := [180, 0, 9, 27, 184, 0, 72, 6, 96, 46, 184, 0, 110, 102, 69, 132, 3, 1, 167, 255, 157, 36, 174]
abbrev dktX3_moistureAgain_5 : List UInt8 := dkwX3_moistureAgain_5 ++ []
def dkwX3_moistureAgain_4 : List UInt8 := [5, 108, 167, 0, 13, 42, 180, 0, 9, 17, 1, 50, 29, 96, 46, 54, 4, 36, 36, 21, 4, 42]
abbrev dktX3_moistureAgain_4 : List UInt8 := dkwX3_moistureAgain_4 ++ dktX3_moistureAgain_5
def dkwX3_moistureAgain_3 : List UInt8 := [29, 96, 46, 16, 16, 27, 96, 122, 4, 126, 4, 160, 0, 18, 42, 180, 0, 9, 17, 1, 50, 29, 96, 46]
abbrev dktX3_moistureAgain_3 : List UInt8 := dkwX3_moistureAgain_3 ++ dktX3_moistureAgain_4
def dkwX3_moistureAgain_2 : List UInt8 := [180, 0, 9, 17, 2, 195, 29, 96, 46, 27, 122, 4, 126, 4, 160, 0, 71, 42, 180, 0, 9, 17, 2, 195]
abbrev dktX3_moistureAgain_2 : List UInt8 := dkwX3_moistureAgain_2 ++ dktX3_moistureAgain_3
def dkwX3_moistureAgain_1 : List UInt8 := [160, 0, 7, 12, 167, 0, 4, 11, 69, 4, 62, 29, 42, 180, 0, 9, 3, 46, 163, 0, 95, 42]
abbrev dktX3_moistureAgain_1 : List UInt8 := dkwX3_moistureAgain_1 ++ dktX3_moistureAgain_2
def dkwX3_moistureAgain_0 : List UInt8 := [42, 27, 182, 0, 92, 154, 0, 6, 18, 108, 174, 42, 180, 0, 9, 27, 184, 0, 72, 16, 12, 96, 46, 4]
abbrev dktX3_moistureAgain_0 : List UInt8 := dkwX3_moistureAgain_0 ++ dktX3_moistureAgain_1
theorem dksX3_moistureAgain_0 : cX3_moistureAgain.data.toList.drop 0 = dktX3_moistureAgain_0 := by decide +kernel
theorem dksX3_moistureAgain_1 : cX3_moistureAgain.data.toList.drop 24 = dktX3_moistureAgain_1 := dk_seg dksX3_moistureAgain_0 24 rfl rfl
theorem dksX3_moistureAgain_2 : cX3_moistureAgain.data.toList.drop 46 = dktX3_moistureAgain_2 := dk_seg dksX3_moistureAgain_1 22 rfl rfl
theorem dksX3_moistureAgain_3 : cX3_moistureAgain.data.toList.drop 70 = dktX3_moistureAgain_3 := dk_seg dksX3_moistureAgain_2 24 rfl rfl
theorem dksX3_moistureAgain_4 : cX3_moistureAgain.data.toList.drop 94 = dktX3_moistureAgain_4 := dk_seg dksX3_moistureAgain_3 24 rfl rfl
theorem dksX3_moistureAgain_5 : cX3_moistureAgain.data.toList.drop 116 = dktX3_moistureAgain_5 := dk_seg dksX3_moistureAgain_4 22 rfl rfl
theorem dX3_moistureAgain_0 : decode cX3_moistureAgain 0 = .ok (.aload_n 0, 1) := dk_42 (dk_at dksX3_moistureAgain_0 0 rfl rfl)
theorem dX3_moistureAgain_1 : decode cX3_moistureAgain 1 = .ok (.iload_n 1, 1) := dk_27 (dk_at dksX3_moistureAgain_0 1 rfl rfl)
theorem dX3_moistureAgain_2 : decode cX3_moistureAgain 2 = .ok (.invokevirtual 92, 3) := dk_182 0 92 (dk_at dksX3_moistureAgain_0 2 rfl rfl)
theorem dX3_moistureAgain_5 : decode cX3_moistureAgain 5 = .ok (.ifCond .ne 6, 3) := dk_154 0 6 (dk_at dksX3_moistureAgain_0 5 rfl rfl)
theorem dX3_moistureAgain_8 : decode cX3_moistureAgain 8 = .ok (.ldc 108, 2) := dk_18 108 (dk_at dksX3_moistureAgain_0 8 rfl rfl)
theorem dX3_moistureAgain_10 : decode cX3_moistureAgain 10 = .ok (.freturn, 1) := dk_174 (dk_at dksX3_moistureAgain_0 10 rfl rfl)
theorem dX3_moistureAgain_11 : decode cX3_moistureAgain 11 = .ok (.aload_n 0, 1) := dk_42 (dk_at dksX3_moistureAgain_0 11 rfl rfl)
theorem dX3_moistureAgain_12 : decode cX3_moistureAgain 12 = .ok (.getfield 9, 3) := dk_180 0 9 (dk_at dksX3_moistureAgain_0 12 rfl rfl)
theorem dX3_moistureAgain_15 : decode cX3_moistureAgain 15 = .ok (.iload_n 1, 1) := dk_27 (dk_at dksX3_moistureAgain_0 15 rfl rfl)
theorem dX3_moistureAgain_16 : decode cX3_moistureAgain 16 = .ok (.invokestatic 72, 3) := dk_184 0 72 (dk_at dksX3_moistureAgain_0 16 rfl rfl)
theorem dX3_moistureAgain_19 : decode cX3_moistureAgain 19 = .ok (.bipush 12, 2) := dk_16 12 (dk_at dksX3_moistureAgain_0 19 rfl rfl)
theorem dX3_moistureAgain_21 : decode cX3_moistureAgain 21 = .ok (.iadd, 1) := dk_96 (dk_at dksX3_moistureAgain_0 21 rfl rfl)
theorem dX3_moistureAgain_22 : decode cX3_moistureAgain 22 = .ok (.iaload, 1) := dk_46 (dk_at dksX3_moistureAgain_0 22 rfl rfl)
theorem dX3_moistureAgain_23 : decode cX3_moistureAgain 23 = .ok (.iconst 1, 1) := dk_4 (dk_at dksX3_moistureAgain_0 23 rfl rfl)
theorem dX3_moistureAgain_24 : decode cX3_moistureAgain 24 = .ok (.if_icmp .ne 7, 3) := dk_160 0 7 (dk_at dksX3_moistureAgain_1 0 rfl rfl)
theorem dX3_moistureAgain_27 : decode cX3_moistureAgain 27 = .ok (.fconst 1, 1) := dk_12 (dk_at dksX3_moistureAgain_1 3 rfl rfl)
theorem dX3_moistureAgain_28 : decode cX3_moistureAgain 28 = .ok (.goto 4, 3) := dk_167 0 4 (dk_at dksX3_moistureAgain_1 4 rfl rfl)
theorem dX3_moistureAgain_31 : decode cX3_moistureAgain 31 = .ok (.fconst 0, 1) := dk_11 (dk_at dksX3_moistureAgain_1 7 rfl rfl)
theorem dX3_moistureAgain_32 : decode cX3_moistureAgain 32 = .ok (.fstore_n 2, 1) := dk_69 (dk_at dksX3_moistureAgain_1 8 rfl rfl)
theorem dX3_moistureAgain_33 : decode cX3_moistureAgain 33 = .ok (.iconst 1, 1) := dk_4 (dk_at dksX3_moistureAgain_1 9 rfl rfl)
theorem dX3_moistureAgain_34 : decode cX3_moistureAgain 34 = .ok (.istore_n 3, 1) := dk_62 (dk_at dksX3_moistureAgain_1 10 rfl rfl)
theorem dX3_moistureAgain_35 : decode cX3_moistureAgain 35 = .ok (.iload_n 3, 1) := dk_29 (dk_at dksX3_moistureAgain_1 11 rfl rfl)
theorem dX3_moistureAgain_36 : decode cX3_moistureAgain 36 = .ok (.aload_n 0, 1) := dk_42 (dk_at dksX3_moistureAgain_1 12 rfl rfl)
theorem dX3_moistureAgain_37 : decode cX3_moistureAgain 37 = .ok (.getfield 9, 3) := dk_180 0 9 (dk_at dksX3_moistureAgain_1 13 rfl rfl)
theorem dX3_moistureAgain_40 : decode cX3_moistureAgain 40 = .ok (.iconst 0, 1) := dk_3 (dk_at dksX3_moistureAgain_1 16 rfl rfl)
theorem dX3_moistureAgain_41 : decode cX3_moistureAgain 41 = .ok (.iaload, 1) := dk_46 (dk_at dksX3_moistureAgain_1 17 rfl rfl)
theorem dX3_moistureAgain_42 : decode cX3_moistureAgain 42 = .ok (.if_icmp .gt 95, 3) := dk_163 0 95 (dk_at dksX3_moistureAgain_1 18 rfl rfl)
theorem dX3_moistureAgain_45 : decode cX3_moistureAgain 45 = .ok (.aload_n 0, 1) := dk_42 (dk_at dksX3_moistureAgain_1 21 rfl rfl)
theorem dX3_moistureAgain_46 : decode cX3_moistureAgain 46 = .ok (.getfield 9, 3) := dk_180 0 9 (dk_at dksX3_moistureAgain_2 0 rfl rfl)
theorem dX3_moistureAgain_49 : decode cX3_moistureAgain 49 = .ok (.sipush 707, 3) := dk_17 2 195 (dk_at dksX3_moistureAgain_2 3 rfl rfl)
theorem dX3_moistureAgain_52 : decode cX3_moistureAgain 52 = .ok (.iload_n 3, 1) := dk_29 (dk_at dksX3_moistureAgain_2 6 rfl rfl)
theorem dX3_moistureAgain_53 : decode cX3_moistureAgain 53 = .ok (.iadd, 1) := dk_96 (dk_at dksX3_moistureAgain_2 7 rfl rfl)
theorem dX3_moistureAgain_54 : decode cX3_moistureAgain 54 = .ok (.iaload, 1) := dk_46 (dk_at dksX3_moistureAgain_2 8 rfl rfl)
theorem dX3_moistureAgain_55 : decode cX3_moistureAgain 55 = .ok (.iload_n 1, 1) := dk_27 (dk_at dksX3_moistureAgain_2 9 rfl rfl)
theorem dX3_moistureAgain_56 : decode cX3_moistureAgain 56 = .ok (.ishr, 1) := dk_122 (dk_at dksX3_moistureAgain_2 10 rfl rfl)
theorem dX3_moistureAgain_57 : decode cX3_moistureAgain 57 = .ok (.iconst 1, 1) := dk_4 (dk_at dksX3_moistureAgain_2 11 rfl rfl)
theorem dX3_moistureAgain_58 : decode cX3_moistureAgain 58 = .ok (.iand, 1) := dk_126 (dk_at dksX3_moistureAgain_2 12 rfl rfl)
theorem dX3_moistureAgain_59 : decode cX3_moistureAgain 59 = .ok (.iconst 1, 1) := dk_4 (dk_at dksX3_moistureAgain_2 13 rfl rfl)
theorem dX3_moistureAgain_60 : decode cX3_moistureAgain 60 = .ok (.if_icmp .ne 71, 3) := dk_160 0 71 (dk_at dksX3_moistureAgain_2 14 rfl rfl)
theorem dX3_moistureAgain_63 : decode cX3_moistureAgain 63 = .ok (.aload_n 0, 1) := dk_42 (dk_at dksX3_moistureAgain_2 17 rfl rfl)
theorem dX3_moistureAgain_64 : decode cX3_moistureAgain 64 = .ok (.getfield 9, 3) := dk_180 0 9 (dk_at dksX3_moistureAgain_2 18 rfl rfl)
theorem dX3_moistureAgain_67 : decode cX3_moistureAgain 67 = .ok (.sipush 707, 3) := dk_17 2 195 (dk_at dksX3_moistureAgain_2 21 rfl rfl)
theorem dX3_moistureAgain_70 : decode cX3_moistureAgain 70 = .ok (.iload_n 3, 1) := dk_29 (dk_at dksX3_moistureAgain_3 0 rfl rfl)
theorem dX3_moistureAgain_71 : decode cX3_moistureAgain 71 = .ok (.iadd, 1) := dk_96 (dk_at dksX3_moistureAgain_3 1 rfl rfl)
theorem dX3_moistureAgain_72 : decode cX3_moistureAgain 72 = .ok (.iaload, 1) := dk_46 (dk_at dksX3_moistureAgain_3 2 rfl rfl)
theorem dX3_moistureAgain_73 : decode cX3_moistureAgain 73 = .ok (.bipush 16, 2) := dk_16 16 (dk_at dksX3_moistureAgain_3 3 rfl rfl)
theorem dX3_moistureAgain_75 : decode cX3_moistureAgain 75 = .ok (.iload_n 1, 1) := dk_27 (dk_at dksX3_moistureAgain_3 5 rfl rfl)
theorem dX3_moistureAgain_76 : decode cX3_moistureAgain 76 = .ok (.iadd, 1) := dk_96 (dk_at dksX3_moistureAgain_3 6 rfl rfl)
theorem dX3_moistureAgain_77 : decode cX3_moistureAgain 77 = .ok (.ishr, 1) := dk_122 (dk_at dksX3_moistureAgain_3 7 rfl rfl)
theorem dX3_moistureAgain_78 : decode cX3_moistureAgain 78 = .ok (.iconst 1, 1) := dk_4 (dk_at dksX3_moistureAgain_3 8 rfl rfl)
theorem dX3_moistureAgain_79 : decode cX3_moistureAgain 79 = .ok (.iand, 1) := dk_126 (dk_at dksX3_moistureAgain_3 9 rfl rfl)
theorem dX3_moistureAgain_80 : decode cX3_moistureAgain 80 = .ok (.iconst 1, 1) := dk_4 (dk_at dksX3_moistureAgain_3 10 rfl rfl)
theorem dX3_moistureAgain_81 : decode cX3_moistureAgain 81 = .ok (.if_icmp .ne 18, 3) := dk_160 0 18 (dk_at dksX3_moistureAgain_3 11 rfl rfl)
theorem dX3_moistureAgain_84 : decode cX3_moistureAgain 84 = .ok (.aload_n 0, 1) := dk_42 (dk_at dksX3_moistureAgain_3 14 rfl rfl)
theorem dX3_moistureAgain_85 : decode cX3_moistureAgain 85 = .ok (.getfield 9, 3) := dk_180 0 9 (dk_at dksX3_moistureAgain_3 15 rfl rfl)
theorem dX3_moistureAgain_88 : decode cX3_moistureAgain 88 = .ok (.sipush 306, 3) := dk_17 1 50 (dk_at dksX3_moistureAgain_3 18 rfl rfl)
theorem dX3_moistureAgain_91 : decode cX3_moistureAgain 91 = .ok (.iload_n 3, 1) := dk_29 (dk_at dksX3_moistureAgain_3 21 rfl rfl)
theorem dX3_moistureAgain_92 : decode cX3_moistureAgain 92 = .ok (.iadd, 1) := dk_96 (dk_at dksX3_moistureAgain_3 22 rfl rfl)
theorem dX3_moistureAgain_93 : decode cX3_moistureAgain 93 = .ok (.iaload, 1) := dk_46 (dk_at dksX3_moistureAgain_3 23 rfl rfl)
theorem dX3_moistureAgain_94 : decode cX3_moistureAgain 94 = .ok (.iconst 2, 1) := dk_5 (dk_at dksX3_moistureAgain_4 0 rfl rfl)
theorem dX3_moistureAgain_95 : decode cX3_moistureAgain 95 = .ok (.idiv, 1) := dk_108 (dk_at dksX3_moistureAgain_4 1 rfl rfl)
theorem dX3_moistureAgain_96 : decode cX3_moistureAgain 96 = .ok (.goto 13, 3) := dk_167 0 13 (dk_at dksX3_moistureAgain_4 2 rfl rfl)
theorem dX3_moistureAgain_99 : decode cX3_moistureAgain 99 = .ok (.aload_n 0, 1) := dk_42 (dk_at dksX3_moistureAgain_4 5 rfl rfl)
theorem dX3_moistureAgain_100 : decode cX3_moistureAgain 100 = .ok (.getfield 9, 3) := dk_180 0 9 (dk_at dksX3_moistureAgain_4 6 rfl rfl)
theorem dX3_moistureAgain_103 : decode cX3_moistureAgain 103 = .ok (.sipush 306, 3) := dk_17 1 50 (dk_at dksX3_moistureAgain_4 9 rfl rfl)
theorem dX3_moistureAgain_106 : decode cX3_moistureAgain 106 = .ok (.iload_n 3, 1) := dk_29 (dk_at dksX3_moistureAgain_4 12 rfl rfl)
theorem dX3_moistureAgain_107 : decode cX3_moistureAgain 107 = .ok (.iadd, 1) := dk_96 (dk_at dksX3_moistureAgain_4 13 rfl rfl)
theorem dX3_moistureAgain_108 : decode cX3_moistureAgain 108 = .ok (.iaload, 1) := dk_46 (dk_at dksX3_moistureAgain_4 14 rfl rfl)
theorem dX3_moistureAgain_109 : decode cX3_moistureAgain 109 = .ok (.istore 4, 2) := dk_54 4 (dk_at dksX3_moistureAgain_4 15 rfl rfl)
theorem dX3_moistureAgain_111 : decode cX3_moistureAgain 111 = .ok (.fload_n 2, 1) := dk_36 (dk_at dksX3_moistureAgain_4 17 rfl rfl)
theorem dX3_moistureAgain_112 : decode cX3_moistureAgain 112 = .ok (.fload_n 2, 1) := dk_36 (dk_at dksX3_moistureAgain_4 18 rfl rfl)
theorem dX3_moistureAgain_113 : decode cX3_moistureAgain 113 = .ok (.iload 4, 2) := dk_21 4 (dk_at dksX3_moistureAgain_4 19 rfl rfl)
theorem dX3_moistureAgain_115 : decode cX3_moistureAgain 115 = .ok (.aload_n 0, 1) := dk_42 (dk_at dksX3_moistureAgain_4 21 rfl rfl)
theorem dX3_moistureAgain_116 : decode cX3_moistureAgain 116 = .ok (.getfield 9, 3) := dk_180 0 9 (dk_at dksX3_moistureAgain_5 0 rfl rfl)
theorem dX3_moistureAgain_119 : decode cX3_moistureAgain 119 = .ok (.iload_n 1, 1) := dk_27 (dk_at dksX3_moistureAgain_5 3 rfl rfl)
theorem dX3_moistureAgain_120 : decode cX3_moistureAgain 120 = .ok (.invokestatic 72, 3) := dk_184 0 72 (dk_at dksX3_moistureAgain_5 4 rfl rfl)
theorem dX3_moistureAgain_123 : decode cX3_moistureAgain 123 = .ok (.iconst 3, 1) := dk_6 (dk_at dksX3_moistureAgain_5 7 rfl rfl)
theorem dX3_moistureAgain_124 : decode cX3_moistureAgain 124 = .ok (.iadd, 1) := dk_96 (dk_at dksX3_moistureAgain_5 8 rfl rfl)
theorem dX3_moistureAgain_125 : decode cX3_moistureAgain 125 = .ok (.iaload, 1) := dk_46 (dk_at dksX3_moistureAgain_5 9 rfl rfl)
theorem dX3_moistureAgain_126 : decode cX3_moistureAgain 126 = .ok (.invokestatic 110, 3) := dk_184 0 110 (dk_at dksX3_moistureAgain_5 10 rfl rfl)
theorem dX3_moistureAgain_129 : decode cX3_moistureAgain 129 = .ok (.fsub, 1) := dk_102 (dk_at dksX3_moistureAgain_5 13 rfl rfl)
theorem dX3_moistureAgain_130 : decode cX3_moistureAgain 130 = .ok (.fstore_n 2, 1) := dk_69 (dk_at dksX3_moistureAgain_5 14 rfl rfl)
theorem dX3_moistureAgain_131 : decode cX3_moistureAgain 131 = .ok (.iinc 3 1, 3) := dk_132 3 1 (dk_at dksX3_moistureAgain_5 15 rfl rfl)
theorem dX3_moistureAgain_134 : decode cX3_moistureAgain 134 = .ok (.goto (-99), 3) := dk_167 255 157 (dk_at dksX3_moistureAgain_5 18 rfl rfl)
theorem dX3_moistureAgain_137 : decode cX3_moistureAgain 137 = .ok (.fload_n 2, 1) := dk_36 (dk_at dksX3_moistureAgain_5 21 rfl rfl)
theorem dX3_moistureAgain_138 : decode cX3_moistureAgain 138 = .ok (.freturn, 1) := dk_174 (dk_at dksX3_moistureAgain_5 22 rfl rfl)
abbrev cX3_loss : ByteArray := prog_32_method_30_code
def yX3_loss : MethodName := ⟨RX3, "loss", "(FII)F"⟩
def dkwX3_loss_0 : List UInt8 := [34, 27, 16, 11, 28, 100, 104, 134, 106, 18, 109, 110, 174]
abbrev dktX3_loss_0 : List UInt8 := dkwX3_loss_0 ++ []
theorem dksX3_loss_0 : cX3_loss.data.toList.drop 0 = dktX3_loss_0 := by decide +kernel
theorem dX3_loss_0 : decode cX3_loss 0 = .ok (.fload_n 0, 1) := dk_34 (dk_at dksX3_loss_0 0 rfl rfl)
theorem dX3_loss_1 : decode cX3_loss 1 = .ok (.iload_n 1, 1) := dk_27 (dk_at dksX3_loss_0 1 rfl rfl)
theorem dX3_loss_2 : decode cX3_loss 2 = .ok (.bipush 11, 2) := dk_16 11 (dk_at dksX3_loss_0 2 rfl rfl)
theorem dX3_loss_4 : decode cX3_loss 4 = .ok (.iload_n 2, 1) := dk_28 (dk_at dksX3_loss_0 4 rfl rfl)
theorem dX3_loss_5 : decode cX3_loss 5 = .ok (.isub, 1) := dk_100 (dk_at dksX3_loss_0 5 rfl rfl)
theorem dX3_loss_6 : decode cX3_loss 6 = .ok (.imul, 1) := dk_104 (dk_at dksX3_loss_0 6 rfl rfl)
theorem dX3_loss_7 : decode cX3_loss 7 = .ok (.i2f, 1) := dk_134 (dk_at dksX3_loss_0 7 rfl rfl)
theorem dX3_loss_8 : decode cX3_loss 8 = .ok (.fmul, 1) := dk_106 (dk_at dksX3_loss_0 8 rfl rfl)
theorem dX3_loss_9 : decode cX3_loss 9 = .ok (.ldc 109, 2) := dk_18 109 (dk_at dksX3_loss_0 9 rfl rfl)
theorem dX3_loss_11 : decode cX3_loss 11 = .ok (.fdiv, 1) := dk_110 (dk_at dksX3_loss_0 11 rfl rfl)
theorem dX3_loss_12 : decode cX3_loss 12 = .ok (.freturn, 1) := dk_174 (dk_at dksX3_loss_0 12 rfl rfl)
abbrev cX3_cover : ByteArray := prog_32_method_32_code
def yX3_cover : MethodName := ⟨RX3, "cover", "(IZ)I"⟩
def dkwX3_cover_2 : List UInt8 := [8, 96, 28, 153, 0, 7, 4, 167, 0, 4, 3, 79, 29, 172]
abbrev dktX3_cover_2 : List UInt8 := dkwX3_cover_2 ++ []
def dkwX3_cover_1 : List UInt8 := [42, 182, 0, 61, 42, 180, 0, 9, 27, 184, 0, 72, 8, 96, 46, 62, 42, 180, 0, 9, 27, 184, 0, 72]
abbrev dktX3_cover_1 : List UInt8 := dkwX3_cover_1 ++ dktX3_cover_2
def dkwX3_cover_0 : List UInt8 := [42, 27, 182, 0, 92, 154, 0, 5, 2, 172, 42, 27, 5, 182, 0, 76, 153, 0, 8, 42, 182, 0, 68, 172]
abbrev dktX3_cover_0 : List UInt8 := dkwX3_cover_0 ++ dktX3_cover_1
theorem dksX3_cover_0 : cX3_cover.data.toList.drop 0 = dktX3_cover_0 := by decide +kernel
theorem dksX3_cover_1 : cX3_cover.data.toList.drop 24 = dktX3_cover_1 := dk_seg dksX3_cover_0 24 rfl rfl
theorem dksX3_cover_2 : cX3_cover.data.toList.drop 48 = dktX3_cover_2 := dk_seg dksX3_cover_1 24 rfl rfl
theorem dX3_cover_0 : decode cX3_cover 0 = .ok (.aload_n 0, 1) := dk_42 (dk_at dksX3_cover_0 0 rfl rfl)
theorem dX3_cover_1 : decode cX3_cover 1 = .ok (.iload_n 1, 1) := dk_27 (dk_at dksX3_cover_0 1 rfl rfl)
theorem dX3_cover_2 : decode cX3_cover 2 = .ok (.invokevirtual 92, 3) := dk_182 0 92 (dk_at dksX3_cover_0 2 rfl rfl)
theorem dX3_cover_5 : decode cX3_cover 5 = .ok (.ifCond .ne 5, 3) := dk_154 0 5 (dk_at dksX3_cover_0 5 rfl rfl)
theorem dX3_cover_8 : decode cX3_cover 8 = .ok (.iconst (-1), 1) := dk_2 (dk_at dksX3_cover_0 8 rfl rfl)
theorem dX3_cover_9 : decode cX3_cover 9 = .ok (.ireturn, 1) := dk_172 (dk_at dksX3_cover_0 9 rfl rfl)
theorem dX3_cover_10 : decode cX3_cover 10 = .ok (.aload_n 0, 1) := dk_42 (dk_at dksX3_cover_0 10 rfl rfl)
theorem dX3_cover_11 : decode cX3_cover 11 = .ok (.iload_n 1, 1) := dk_27 (dk_at dksX3_cover_0 11 rfl rfl)
theorem dX3_cover_12 : decode cX3_cover 12 = .ok (.iconst 2, 1) := dk_5 (dk_at dksX3_cover_0 12 rfl rfl)
theorem dX3_cover_13 : decode cX3_cover 13 = .ok (.invokevirtual 76, 3) := dk_182 0 76 (dk_at dksX3_cover_0 13 rfl rfl)
theorem dX3_cover_16 : decode cX3_cover 16 = .ok (.ifCond .eq 8, 3) := dk_153 0 8 (dk_at dksX3_cover_0 16 rfl rfl)
theorem dX3_cover_19 : decode cX3_cover 19 = .ok (.aload_n 0, 1) := dk_42 (dk_at dksX3_cover_0 19 rfl rfl)
theorem dX3_cover_20 : decode cX3_cover 20 = .ok (.invokevirtual 68, 3) := dk_182 0 68 (dk_at dksX3_cover_0 20 rfl rfl)
theorem dX3_cover_23 : decode cX3_cover 23 = .ok (.ireturn, 1) := dk_172 (dk_at dksX3_cover_0 23 rfl rfl)
theorem dX3_cover_24 : decode cX3_cover 24 = .ok (.aload_n 0, 1) := dk_42 (dk_at dksX3_cover_1 0 rfl rfl)
theorem dX3_cover_25 : decode cX3_cover 25 = .ok (.invokevirtual 61, 3) := dk_182 0 61 (dk_at dksX3_cover_1 1 rfl rfl)
theorem dX3_cover_28 : decode cX3_cover 28 = .ok (.aload_n 0, 1) := dk_42 (dk_at dksX3_cover_1 4 rfl rfl)
theorem dX3_cover_29 : decode cX3_cover 29 = .ok (.getfield 9, 3) := dk_180 0 9 (dk_at dksX3_cover_1 5 rfl rfl)
theorem dX3_cover_32 : decode cX3_cover 32 = .ok (.iload_n 1, 1) := dk_27 (dk_at dksX3_cover_1 8 rfl rfl)
theorem dX3_cover_33 : decode cX3_cover 33 = .ok (.invokestatic 72, 3) := dk_184 0 72 (dk_at dksX3_cover_1 9 rfl rfl)
theorem dX3_cover_36 : decode cX3_cover 36 = .ok (.iconst 5, 1) := dk_8 (dk_at dksX3_cover_1 12 rfl rfl)
theorem dX3_cover_37 : decode cX3_cover 37 = .ok (.iadd, 1) := dk_96 (dk_at dksX3_cover_1 13 rfl rfl)
theorem dX3_cover_38 : decode cX3_cover 38 = .ok (.iaload, 1) := dk_46 (dk_at dksX3_cover_1 14 rfl rfl)
theorem dX3_cover_39 : decode cX3_cover 39 = .ok (.istore_n 3, 1) := dk_62 (dk_at dksX3_cover_1 15 rfl rfl)
theorem dX3_cover_40 : decode cX3_cover 40 = .ok (.aload_n 0, 1) := dk_42 (dk_at dksX3_cover_1 16 rfl rfl)
theorem dX3_cover_41 : decode cX3_cover 41 = .ok (.getfield 9, 3) := dk_180 0 9 (dk_at dksX3_cover_1 17 rfl rfl)
theorem dX3_cover_44 : decode cX3_cover 44 = .ok (.iload_n 1, 1) := dk_27 (dk_at dksX3_cover_1 20 rfl rfl)
theorem dX3_cover_45 : decode cX3_cover 45 = .ok (.invokestatic 72, 3) := dk_184 0 72 (dk_at dksX3_cover_1 21 rfl rfl)
theorem dX3_cover_48 : decode cX3_cover 48 = .ok (.iconst 5, 1) := dk_8 (dk_at dksX3_cover_2 0 rfl rfl)
theorem dX3_cover_49 : decode cX3_cover 49 = .ok (.iadd, 1) := dk_96 (dk_at dksX3_cover_2 1 rfl rfl)
theorem dX3_cover_50 : decode cX3_cover 50 = .ok (.iload_n 2, 1) := dk_28 (dk_at dksX3_cover_2 2 rfl rfl)
theorem dX3_cover_51 : decode cX3_cover 51 = .ok (.ifCond .eq 7, 3) := dk_153 0 7 (dk_at dksX3_cover_2 3 rfl rfl)
theorem dX3_cover_54 : decode cX3_cover 54 = .ok (.iconst 1, 1) := dk_4 (dk_at dksX3_cover_2 6 rfl rfl)
theorem dX3_cover_55 : decode cX3_cover 55 = .ok (.goto 4, 3) := dk_167 0 4 (dk_at dksX3_cover_2 7 rfl rfl)
theorem dX3_cover_58 : decode cX3_cover 58 = .ok (.iconst 0, 1) := dk_3 (dk_at dksX3_cover_2 10 rfl rfl)
theorem dX3_cover_59 : decode cX3_cover 59 = .ok (.iastore, 1) := dk_79 (dk_at dksX3_cover_2 11 rfl rfl)
theorem dX3_cover_60 : decode cX3_cover 60 = .ok (.iload_n 3, 1) := dk_29 (dk_at dksX3_cover_2 12 rfl rfl)
theorem dX3_cover_61 : decode cX3_cover 61 = .ok (.ireturn, 1) := dk_172 (dk_at dksX3_cover_2 13 rfl rfl)
abbrev cX3_mayBeIn : ByteArray := prog_32_method_19_code
def yX3_mayBeIn : MethodName := ⟨RX3, "mayBeIn", "(II)I"⟩
def dkwX3_mayBeIn_1 : List UInt8 := [180, 0, 9, 27, 184, 0, 72, 3, 96, 46, 182, 0, 64, 172]
abbrev dktX3_mayBeIn_1 : List UInt8 := dkwX3_mayBeIn_1 ++ []
def dkwX3_mayBeIn_0 : List UInt8 := [42, 180, 0, 9, 27, 184, 0, 72, 3, 96, 46, 28, 160, 0, 7, 3, 167, 0, 20, 42, 16, 13, 42]
abbrev dktX3_mayBeIn_0 : List UInt8 := dkwX3_mayBeIn_0 ++ dktX3_mayBeIn_1
theorem dksX3_mayBeIn_0 : cX3_mayBeIn.data.toList.drop 0 = dktX3_mayBeIn_0 := by decide +kernel
theorem dksX3_mayBeIn_1 : cX3_mayBeIn.data.toList.drop 23 = dktX3_mayBeIn_1 := dk_seg dksX3_mayBeIn_0 23 rfl rfl
theorem dX3_mayBeIn_0 : decode cX3_mayBeIn 0 = .ok (.aload_n 0, 1) := dk_42 (dk_at dksX3_mayBeIn_0 0 rfl rfl)
theorem dX3_mayBeIn_1 : decode cX3_mayBeIn 1 = .ok (.getfield 9, 3) := dk_180 0 9 (dk_at dksX3_mayBeIn_0 1 rfl rfl)
theorem dX3_mayBeIn_4 : decode cX3_mayBeIn 4 = .ok (.iload_n 1, 1) := dk_27 (dk_at dksX3_mayBeIn_0 4 rfl rfl)
theorem dX3_mayBeIn_5 : decode cX3_mayBeIn 5 = .ok (.invokestatic 72, 3) := dk_184 0 72 (dk_at dksX3_mayBeIn_0 5 rfl rfl)
theorem dX3_mayBeIn_8 : decode cX3_mayBeIn 8 = .ok (.iconst 0, 1) := dk_3 (dk_at dksX3_mayBeIn_0 8 rfl rfl)
theorem dX3_mayBeIn_9 : decode cX3_mayBeIn 9 = .ok (.iadd, 1) := dk_96 (dk_at dksX3_mayBeIn_0 9 rfl rfl)
theorem dX3_mayBeIn_10 : decode cX3_mayBeIn 10 = .ok (.iaload, 1) := dk_46 (dk_at dksX3_mayBeIn_0 10 rfl rfl)
theorem dX3_mayBeIn_11 : decode cX3_mayBeIn 11 = .ok (.iload_n 2, 1) := dk_28 (dk_at dksX3_mayBeIn_0 11 rfl rfl)
theorem dX3_mayBeIn_12 : decode cX3_mayBeIn 12 = .ok (.if_icmp .ne 7, 3) := dk_160 0 7 (dk_at dksX3_mayBeIn_0 12 rfl rfl)
theorem dX3_mayBeIn_15 : decode cX3_mayBeIn 15 = .ok (.iconst 0, 1) := dk_3 (dk_at dksX3_mayBeIn_0 15 rfl rfl)
theorem dX3_mayBeIn_16 : decode cX3_mayBeIn 16 = .ok (.goto 20, 3) := dk_167 0 20 (dk_at dksX3_mayBeIn_0 16 rfl rfl)
theorem dX3_mayBeIn_19 : decode cX3_mayBeIn 19 = .ok (.aload_n 0, 1) := dk_42 (dk_at dksX3_mayBeIn_0 19 rfl rfl)
theorem dX3_mayBeIn_20 : decode cX3_mayBeIn 20 = .ok (.bipush 13, 2) := dk_16 13 (dk_at dksX3_mayBeIn_0 20 rfl rfl)
theorem dX3_mayBeIn_22 : decode cX3_mayBeIn 22 = .ok (.aload_n 0, 1) := dk_42 (dk_at dksX3_mayBeIn_0 22 rfl rfl)
theorem dX3_mayBeIn_23 : decode cX3_mayBeIn 23 = .ok (.getfield 9, 3) := dk_180 0 9 (dk_at dksX3_mayBeIn_1 0 rfl rfl)
theorem dX3_mayBeIn_26 : decode cX3_mayBeIn 26 = .ok (.iload_n 1, 1) := dk_27 (dk_at dksX3_mayBeIn_1 3 rfl rfl)
theorem dX3_mayBeIn_27 : decode cX3_mayBeIn 27 = .ok (.invokestatic 72, 3) := dk_184 0 72 (dk_at dksX3_mayBeIn_1 4 rfl rfl)
theorem dX3_mayBeIn_30 : decode cX3_mayBeIn 30 = .ok (.iconst 0, 1) := dk_3 (dk_at dksX3_mayBeIn_1 7 rfl rfl)
theorem dX3_mayBeIn_31 : decode cX3_mayBeIn 31 = .ok (.iadd, 1) := dk_96 (dk_at dksX3_mayBeIn_1 8 rfl rfl)
theorem dX3_mayBeIn_32 : decode cX3_mayBeIn 32 = .ok (.iaload, 1) := dk_46 (dk_at dksX3_mayBeIn_1 9 rfl rfl)
theorem dX3_mayBeIn_33 : decode cX3_mayBeIn 33 = .ok (.invokevirtual 64, 3) := dk_182 0 64 (dk_at dksX3_mayBeIn_1 10 rfl rfl)
theorem dX3_mayBeIn_36 : decode cX3_mayBeIn 36 = .ok (.ireturn, 1) := dk_172 (dk_at dksX3_mayBeIn_1 13 rfl rfl)
abbrev cX3_glaze : ByteArray := prog_32_method_34_code
def yX3_glaze : MethodName := ⟨RX3, "glaze", "(III)I"⟩
def dkwX3_glaze_2 : List UInt8 := [182, 0, 61, 42, 27, 28, 29, 182, 0, 114, 42, 27, 182, 0, 117, 172]
abbrev dktX3_glaze_2 : List UInt8 := dkwX3_glaze_2 ++ []
def dkwX3_glaze_1 : List UInt8 := [184, 0, 51, 154, 0, 6, 16, 254, 172, 42, 27, 6, 182, 0, 76, 153, 0, 8, 42, 182, 0, 68, 172, 42]
abbrev dktX3_glaze_1 : List UInt8 := dkwX3_glaze_1 ++ dktX3_glaze_2
def dkwX3_glaze_0 : List UInt8 := [42, 27, 182, 0, 92, 154, 0, 5, 2, 172, 28, 3, 6, 184, 0, 51, 153, 0, 12, 29, 4, 6]
abbrev dktX3_glaze_0 : List UInt8 := dkwX3_glaze_0 ++ dktX3_glaze_1
theorem dksX3_glaze_0 : cX3_glaze.data.toList.drop 0 = dktX3_glaze_0 := by decide +kernel
theorem dksX3_glaze_1 : cX3_glaze.data.toList.drop 22 = dktX3_glaze_1 := dk_seg dksX3_glaze_0 22 rfl rfl
theorem dksX3_glaze_2 : cX3_glaze.data.toList.drop 46 = dktX3_glaze_2 := dk_seg dksX3_glaze_1 24 rfl rfl
theorem dX3_glaze_0 : decode cX3_glaze 0 = .ok (.aload_n 0, 1) := dk_42 (dk_at dksX3_glaze_0 0 rfl rfl)
theorem dX3_glaze_1 : decode cX3_glaze 1 = .ok (.iload_n 1, 1) := dk_27 (dk_at dksX3_glaze_0 1 rfl rfl)
theorem dX3_glaze_2 : decode cX3_glaze 2 = .ok (.invokevirtual 92, 3) := dk_182 0 92 (dk_at dksX3_glaze_0 2 rfl rfl)
theorem dX3_glaze_5 : decode cX3_glaze 5 = .ok (.ifCond .ne 5, 3) := dk_154 0 5 (dk_at dksX3_glaze_0 5 rfl rfl)
theorem dX3_glaze_8 : decode cX3_glaze 8 = .ok (.iconst (-1), 1) := dk_2 (dk_at dksX3_glaze_0 8 rfl rfl)
theorem dX3_glaze_9 : decode cX3_glaze 9 = .ok (.ireturn, 1) := dk_172 (dk_at dksX3_glaze_0 9 rfl rfl)
theorem dX3_glaze_10 : decode cX3_glaze 10 = .ok (.iload_n 2, 1) := dk_28 (dk_at dksX3_glaze_0 10 rfl rfl)
theorem dX3_glaze_11 : decode cX3_glaze 11 = .ok (.iconst 0, 1) := dk_3 (dk_at dksX3_glaze_0 11 rfl rfl)
theorem dX3_glaze_12 : decode cX3_glaze 12 = .ok (.iconst 3, 1) := dk_6 (dk_at dksX3_glaze_0 12 rfl rfl)
theorem dX3_glaze_13 : decode cX3_glaze 13 = .ok (.invokestatic 51, 3) := dk_184 0 51 (dk_at dksX3_glaze_0 13 rfl rfl)
theorem dX3_glaze_16 : decode cX3_glaze 16 = .ok (.ifCond .eq 12, 3) := dk_153 0 12 (dk_at dksX3_glaze_0 16 rfl rfl)
theorem dX3_glaze_19 : decode cX3_glaze 19 = .ok (.iload_n 3, 1) := dk_29 (dk_at dksX3_glaze_0 19 rfl rfl)
theorem dX3_glaze_20 : decode cX3_glaze 20 = .ok (.iconst 1, 1) := dk_4 (dk_at dksX3_glaze_0 20 rfl rfl)
theorem dX3_glaze_21 : decode cX3_glaze 21 = .ok (.iconst 3, 1) := dk_6 (dk_at dksX3_glaze_0 21 rfl rfl)
theorem dX3_glaze_22 : decode cX3_glaze 22 = .ok (.invokestatic 51, 3) := dk_184 0 51 (dk_at dksX3_glaze_1 0 rfl rfl)
theorem dX3_glaze_25 : decode cX3_glaze 25 = .ok (.ifCond .ne 6, 3) := dk_154 0 6 (dk_at dksX3_glaze_1 3 rfl rfl)
theorem dX3_glaze_28 : decode cX3_glaze 28 = .ok (.bipush (-2), 2) := dk_16 254 (dk_at dksX3_glaze_1 6 rfl rfl)
theorem dX3_glaze_30 : decode cX3_glaze 30 = .ok (.ireturn, 1) := dk_172 (dk_at dksX3_glaze_1 8 rfl rfl)
theorem dX3_glaze_31 : decode cX3_glaze 31 = .ok (.aload_n 0, 1) := dk_42 (dk_at dksX3_glaze_1 9 rfl rfl)
theorem dX3_glaze_32 : decode cX3_glaze 32 = .ok (.iload_n 1, 1) := dk_27 (dk_at dksX3_glaze_1 10 rfl rfl)
theorem dX3_glaze_33 : decode cX3_glaze 33 = .ok (.iconst 3, 1) := dk_6 (dk_at dksX3_glaze_1 11 rfl rfl)
theorem dX3_glaze_34 : decode cX3_glaze 34 = .ok (.invokevirtual 76, 3) := dk_182 0 76 (dk_at dksX3_glaze_1 12 rfl rfl)
theorem dX3_glaze_37 : decode cX3_glaze 37 = .ok (.ifCond .eq 8, 3) := dk_153 0 8 (dk_at dksX3_glaze_1 15 rfl rfl)
theorem dX3_glaze_40 : decode cX3_glaze 40 = .ok (.aload_n 0, 1) := dk_42 (dk_at dksX3_glaze_1 18 rfl rfl)
theorem dX3_glaze_41 : decode cX3_glaze 41 = .ok (.invokevirtual 68, 3) := dk_182 0 68 (dk_at dksX3_glaze_1 19 rfl rfl)
theorem dX3_glaze_44 : decode cX3_glaze 44 = .ok (.ireturn, 1) := dk_172 (dk_at dksX3_glaze_1 22 rfl rfl)
theorem dX3_glaze_45 : decode cX3_glaze 45 = .ok (.aload_n 0, 1) := dk_42 (dk_at dksX3_glaze_1 23 rfl rfl)
theorem dX3_glaze_46 : decode cX3_glaze 46 = .ok (.invokevirtual 61, 3) := dk_182 0 61 (dk_at dksX3_glaze_2 0 rfl rfl)
theorem dX3_glaze_49 : decode cX3_glaze 49 = .ok (.aload_n 0, 1) := dk_42 (dk_at dksX3_glaze_2 3 rfl rfl)
theorem dX3_glaze_50 : decode cX3_glaze 50 = .ok (.iload_n 1, 1) := dk_27 (dk_at dksX3_glaze_2 4 rfl rfl)
theorem dX3_glaze_51 : decode cX3_glaze 51 = .ok (.iload_n 2, 1) := dk_28 (dk_at dksX3_glaze_2 5 rfl rfl)
theorem dX3_glaze_52 : decode cX3_glaze 52 = .ok (.iload_n 3, 1) := dk_29 (dk_at dksX3_glaze_2 6 rfl rfl)
theorem dX3_glaze_53 : decode cX3_glaze 53 = .ok (.invokevirtual 114, 3) := dk_182 0 114 (dk_at dksX3_glaze_2 7 rfl rfl)
theorem dX3_glaze_56 : decode cX3_glaze 56 = .ok (.aload_n 0, 1) := dk_42 (dk_at dksX3_glaze_2 10 rfl rfl)
theorem dX3_glaze_57 : decode cX3_glaze 57 = .ok (.iload_n 1, 1) := dk_27 (dk_at dksX3_glaze_2 11 rfl rfl)
theorem dX3_glaze_58 : decode cX3_glaze 58 = .ok (.invokevirtual 117, 3) := dk_182 0 117 (dk_at dksX3_glaze_2 12 rfl rfl)
theorem dX3_glaze_61 : decode cX3_glaze 61 = .ok (.ireturn, 1) := dk_172 (dk_at dksX3_glaze_2 15 rfl rfl)
abbrev cX3_glazes : ByteArray := prog_32_method_35_code
def yX3_glazes : MethodName := ⟨RX3, "glazes", "(III)V"⟩
def dkwX3_glazes_1 : List UInt8 := [79, 42, 180, 0, 9, 27, 184, 0, 72, 16, 7, 96, 29, 79, 177]
abbrev dktX3_glazes_1 : List UInt8 := dkwX3_glazes_1 ++ []
def dkwX3_glazes_0 : List UInt8 := [42, 180, 0, 9, 27, 184, 0, 72, 3, 96, 7, 79, 42, 180, 0, 9, 27, 184, 0, 72, 16, 6, 96, 28]
abbrev dktX3_glazes_0 : List UInt8 := dkwX3_glazes_0 ++ dktX3_glazes_1
theorem dksX3_glazes_0 : cX3_glazes.data.toList.drop 0 = dktX3_glazes_0 := by decide +kernel
theorem dksX3_glazes_1 : cX3_glazes.data.toList.drop 24 = dktX3_glazes_1 := dk_seg dksX3_glazes_0 24 rfl rfl
theorem dX3_glazes_0 : decode cX3_glazes 0 = .ok (.aload_n 0, 1) := dk_42 (dk_at dksX3_glazes_0 0 rfl rfl)
theorem dX3_glazes_1 : decode cX3_glazes 1 = .ok (.getfield 9, 3) := dk_180 0 9 (dk_at dksX3_glazes_0 1 rfl rfl)
theorem dX3_glazes_4 : decode cX3_glazes 4 = .ok (.iload_n 1, 1) := dk_27 (dk_at dksX3_glazes_0 4 rfl rfl)
theorem dX3_glazes_5 : decode cX3_glazes 5 = .ok (.invokestatic 72, 3) := dk_184 0 72 (dk_at dksX3_glazes_0 5 rfl rfl)
theorem dX3_glazes_8 : decode cX3_glazes 8 = .ok (.iconst 0, 1) := dk_3 (dk_at dksX3_glazes_0 8 rfl rfl)
theorem dX3_glazes_9 : decode cX3_glazes 9 = .ok (.iadd, 1) := dk_96 (dk_at dksX3_glazes_0 9 rfl rfl)
theorem dX3_glazes_10 : decode cX3_glazes 10 = .ok (.iconst 4, 1) := dk_7 (dk_at dksX3_glazes_0 10 rfl rfl)
theorem dX3_glazes_11 : decode cX3_glazes 11 = .ok (.iastore, 1) := dk_79 (dk_at dksX3_glazes_0 11 rfl rfl)
theorem dX3_glazes_12 : decode cX3_glazes 12 = .ok (.aload_n 0, 1) := dk_42 (dk_at dksX3_glazes_0 12 rfl rfl)
theorem dX3_glazes_13 : decode cX3_glazes 13 = .ok (.getfield 9, 3) := dk_180 0 9 (dk_at dksX3_glazes_0 13 rfl rfl)
theorem dX3_glazes_16 : decode cX3_glazes 16 = .ok (.iload_n 1, 1) := dk_27 (dk_at dksX3_glazes_0 16 rfl rfl)
theorem dX3_glazes_17 : decode cX3_glazes 17 = .ok (.invokestatic 72, 3) := dk_184 0 72 (dk_at dksX3_glazes_0 17 rfl rfl)
theorem dX3_glazes_20 : decode cX3_glazes 20 = .ok (.bipush 6, 2) := dk_16 6 (dk_at dksX3_glazes_0 20 rfl rfl)
theorem dX3_glazes_22 : decode cX3_glazes 22 = .ok (.iadd, 1) := dk_96 (dk_at dksX3_glazes_0 22 rfl rfl)
theorem dX3_glazes_23 : decode cX3_glazes 23 = .ok (.iload_n 2, 1) := dk_28 (dk_at dksX3_glazes_0 23 rfl rfl)
theorem dX3_glazes_24 : decode cX3_glazes 24 = .ok (.iastore, 1) := dk_79 (dk_at dksX3_glazes_1 0 rfl rfl)
theorem dX3_glazes_25 : decode cX3_glazes 25 = .ok (.aload_n 0, 1) := dk_42 (dk_at dksX3_glazes_1 1 rfl rfl)
theorem dX3_glazes_26 : decode cX3_glazes 26 = .ok (.getfield 9, 3) := dk_180 0 9 (dk_at dksX3_glazes_1 2 rfl rfl)
theorem dX3_glazes_29 : decode cX3_glazes 29 = .ok (.iload_n 1, 1) := dk_27 (dk_at dksX3_glazes_1 5 rfl rfl)
theorem dX3_glazes_30 : decode cX3_glazes 30 = .ok (.invokestatic 72, 3) := dk_184 0 72 (dk_at dksX3_glazes_1 6 rfl rfl)
theorem dX3_glazes_33 : decode cX3_glazes 33 = .ok (.bipush 7, 2) := dk_16 7 (dk_at dksX3_glazes_1 9 rfl rfl)
theorem dX3_glazes_35 : decode cX3_glazes 35 = .ok (.iadd, 1) := dk_96 (dk_at dksX3_glazes_1 11 rfl rfl)
theorem dX3_glazes_36 : decode cX3_glazes 36 = .ok (.iload_n 3, 1) := dk_29 (dk_at dksX3_glazes_1 12 rfl rfl)
theorem dX3_glazes_37 : decode cX3_glazes 37 = .ok (.iastore, 1) := dk_79 (dk_at dksX3_glazes_1 13 rfl rfl)
theorem dX3_glazes_38 : decode cX3_glazes 38 = .ok (.return_, 1) := dk_177 (dk_at dksX3_glazes_1 14 rfl rfl)
abbrev cX3_reach : ByteArray := prog_32_method_33_code
def yX3_reach : MethodName := ⟨RX3, "reach", "(I)I"⟩
def dkwX3_reach_1 : List UInt8 := [16, 6, 96, 46, 96, 46, 104, 134, 42, 180, 0, 9, 28, 5, 96, 46, 134, 110, 139, 172]
abbrev dktX3_reach_1 : List UInt8 := dkwX3_reach_1 ++ []
def dkwX3_reach_0 : List UInt8 := [27, 184, 0, 72, 61, 42, 180, 0, 9, 28, 16, 7, 96, 46, 42, 180, 0, 9, 7, 42, 180, 0, 9, 28]
abbrev dktX3_reach_0 : List UInt8 := dkwX3_reach_0 ++ dktX3_reach_1
theorem dksX3_reach_0 : cX3_reach.data.toList.drop 0 = dktX3_reach_0 := by decide +kernel
theorem dksX3_reach_1 : cX3_reach.data.toList.drop 24 = dktX3_reach_1 := dk_seg dksX3_reach_0 24 rfl rfl
theorem dX3_reach_0 : decode cX3_reach 0 = .ok (.iload_n 1, 1) := dk_27 (dk_at dksX3_reach_0 0 rfl rfl)
theorem dX3_reach_1 : decode cX3_reach 1 = .ok (.invokestatic 72, 3) := dk_184 0 72 (dk_at dksX3_reach_0 1 rfl rfl)
theorem dX3_reach_4 : decode cX3_reach 4 = .ok (.istore_n 2, 1) := dk_61 (dk_at dksX3_reach_0 4 rfl rfl)
theorem dX3_reach_5 : decode cX3_reach 5 = .ok (.aload_n 0, 1) := dk_42 (dk_at dksX3_reach_0 5 rfl rfl)
theorem dX3_reach_6 : decode cX3_reach 6 = .ok (.getfield 9, 3) := dk_180 0 9 (dk_at dksX3_reach_0 6 rfl rfl)
theorem dX3_reach_9 : decode cX3_reach 9 = .ok (.iload_n 2, 1) := dk_28 (dk_at dksX3_reach_0 9 rfl rfl)
theorem dX3_reach_10 : decode cX3_reach 10 = .ok (.bipush 7, 2) := dk_16 7 (dk_at dksX3_reach_0 10 rfl rfl)
theorem dX3_reach_12 : decode cX3_reach 12 = .ok (.iadd, 1) := dk_96 (dk_at dksX3_reach_0 12 rfl rfl)
theorem dX3_reach_13 : decode cX3_reach 13 = .ok (.iaload, 1) := dk_46 (dk_at dksX3_reach_0 13 rfl rfl)
theorem dX3_reach_14 : decode cX3_reach 14 = .ok (.aload_n 0, 1) := dk_42 (dk_at dksX3_reach_0 14 rfl rfl)
theorem dX3_reach_15 : decode cX3_reach 15 = .ok (.getfield 9, 3) := dk_180 0 9 (dk_at dksX3_reach_0 15 rfl rfl)
theorem dX3_reach_18 : decode cX3_reach 18 = .ok (.iconst 4, 1) := dk_7 (dk_at dksX3_reach_0 18 rfl rfl)
theorem dX3_reach_19 : decode cX3_reach 19 = .ok (.aload_n 0, 1) := dk_42 (dk_at dksX3_reach_0 19 rfl rfl)
theorem dX3_reach_20 : decode cX3_reach 20 = .ok (.getfield 9, 3) := dk_180 0 9 (dk_at dksX3_reach_0 20 rfl rfl)
theorem dX3_reach_23 : decode cX3_reach 23 = .ok (.iload_n 2, 1) := dk_28 (dk_at dksX3_reach_0 23 rfl rfl)
theorem dX3_reach_24 : decode cX3_reach 24 = .ok (.bipush 6, 2) := dk_16 6 (dk_at dksX3_reach_1 0 rfl rfl)
theorem dX3_reach_26 : decode cX3_reach 26 = .ok (.iadd, 1) := dk_96 (dk_at dksX3_reach_1 2 rfl rfl)
theorem dX3_reach_27 : decode cX3_reach 27 = .ok (.iaload, 1) := dk_46 (dk_at dksX3_reach_1 3 rfl rfl)
theorem dX3_reach_28 : decode cX3_reach 28 = .ok (.iadd, 1) := dk_96 (dk_at dksX3_reach_1 4 rfl rfl)
theorem dX3_reach_29 : decode cX3_reach 29 = .ok (.iaload, 1) := dk_46 (dk_at dksX3_reach_1 5 rfl rfl)
theorem dX3_reach_30 : decode cX3_reach 30 = .ok (.imul, 1) := dk_104 (dk_at dksX3_reach_1 6 rfl rfl)
theorem dX3_reach_31 : decode cX3_reach 31 = .ok (.i2f, 1) := dk_134 (dk_at dksX3_reach_1 7 rfl rfl)
theorem dX3_reach_32 : decode cX3_reach 32 = .ok (.aload_n 0, 1) := dk_42 (dk_at dksX3_reach_1 8 rfl rfl)
theorem dX3_reach_33 : decode cX3_reach 33 = .ok (.getfield 9, 3) := dk_180 0 9 (dk_at dksX3_reach_1 9 rfl rfl)
theorem dX3_reach_36 : decode cX3_reach 36 = .ok (.iload_n 2, 1) := dk_28 (dk_at dksX3_reach_1 12 rfl rfl)
theorem dX3_reach_37 : decode cX3_reach 37 = .ok (.iconst 2, 1) := dk_5 (dk_at dksX3_reach_1 13 rfl rfl)
theorem dX3_reach_38 : decode cX3_reach 38 = .ok (.iadd, 1) := dk_96 (dk_at dksX3_reach_1 14 rfl rfl)
theorem dX3_reach_39 : decode cX3_reach 39 = .ok (.iaload, 1) := dk_46 (dk_at dksX3_reach_1 15 rfl rfl)
theorem dX3_reach_40 : decode cX3_reach 40 = .ok (.i2f, 1) := dk_134 (dk_at dksX3_reach_1 16 rfl rfl)
theorem dX3_reach_41 : decode cX3_reach 41 = .ok (.fdiv, 1) := dk_110 (dk_at dksX3_reach_1 17 rfl rfl)
theorem dX3_reach_42 : decode cX3_reach 42 = .ok (.f2i, 1) := dk_139 (dk_at dksX3_reach_1 18 rfl rfl)
theorem dX3_reach_43 : decode cX3_reach 43 = .ok (.ireturn, 1) := dk_172 (dk_at dksX3_reach_1 19 rfl rfl)
abbrev cX3_place : ByteArray := prog_32_method_37_code
def yX3_place : MethodName := ⟨RX3, "place", "(II)I"⟩
def dkwX3_place_2 : List UInt8 := [182, 0, 79, 172]
abbrev dktX3_place_2 : List UInt8 := dkwX3_place_2 ++ []
def dkwX3_place_1 : List UInt8 := [182, 0, 120, 153, 0, 8, 42, 182, 0, 68, 172, 42, 182, 0, 61, 42, 27, 28, 182, 0, 123, 42]
abbrev dktX3_place_1 : List UInt8 := dkwX3_place_1 ++ dktX3_place_2
def dkwX3_place_0 : List UInt8 := [42, 27, 182, 0, 92, 153, 0, 13, 28, 3, 16, 7, 184, 0, 51, 154, 0, 5, 2, 172, 42, 27, 28]
abbrev dktX3_place_0 : List UInt8 := dkwX3_place_0 ++ dktX3_place_1
theorem dksX3_place_0 : cX3_place.data.toList.drop 0 = dktX3_place_0 := by decide +kernel
theorem dksX3_place_1 : cX3_place.data.toList.drop 23 = dktX3_place_1 := dk_seg dksX3_place_0 23 rfl rfl
theorem dksX3_place_2 : cX3_place.data.toList.drop 45 = dktX3_place_2 := dk_seg dksX3_place_1 22 rfl rfl
theorem dX3_place_0 : decode cX3_place 0 = .ok (.aload_n 0, 1) := dk_42 (dk_at dksX3_place_0 0 rfl rfl)
theorem dX3_place_1 : decode cX3_place 1 = .ok (.iload_n 1, 1) := dk_27 (dk_at dksX3_place_0 1 rfl rfl)
theorem dX3_place_2 : decode cX3_place 2 = .ok (.invokevirtual 92, 3) := dk_182 0 92 (dk_at dksX3_place_0 2 rfl rfl)
theorem dX3_place_5 : decode cX3_place 5 = .ok (.ifCond .eq 13, 3) := dk_153 0 13 (dk_at dksX3_place_0 5 rfl rfl)
theorem dX3_place_8 : decode cX3_place 8 = .ok (.iload_n 2, 1) := dk_28 (dk_at dksX3_place_0 8 rfl rfl)
theorem dX3_place_9 : decode cX3_place 9 = .ok (.iconst 0, 1) := dk_3 (dk_at dksX3_place_0 9 rfl rfl)
theorem dX3_place_10 : decode cX3_place 10 = .ok (.bipush 7, 2) := dk_16 7 (dk_at dksX3_place_0 10 rfl rfl)
theorem dX3_place_12 : decode cX3_place 12 = .ok (.invokestatic 51, 3) := dk_184 0 51 (dk_at dksX3_place_0 12 rfl rfl)
theorem dX3_place_15 : decode cX3_place 15 = .ok (.ifCond .ne 5, 3) := dk_154 0 5 (dk_at dksX3_place_0 15 rfl rfl)
theorem dX3_place_18 : decode cX3_place 18 = .ok (.iconst (-1), 1) := dk_2 (dk_at dksX3_place_0 18 rfl rfl)
theorem dX3_place_19 : decode cX3_place 19 = .ok (.ireturn, 1) := dk_172 (dk_at dksX3_place_0 19 rfl rfl)
theorem dX3_place_20 : decode cX3_place 20 = .ok (.aload_n 0, 1) := dk_42 (dk_at dksX3_place_0 20 rfl rfl)
theorem dX3_place_21 : decode cX3_place 21 = .ok (.iload_n 1, 1) := dk_27 (dk_at dksX3_place_0 21 rfl rfl)
theorem dX3_place_22 : decode cX3_place 22 = .ok (.iload_n 2, 1) := dk_28 (dk_at dksX3_place_0 22 rfl rfl)
theorem dX3_place_23 : decode cX3_place 23 = .ok (.invokevirtual 120, 3) := dk_182 0 120 (dk_at dksX3_place_1 0 rfl rfl)
theorem dX3_place_26 : decode cX3_place 26 = .ok (.ifCond .eq 8, 3) := dk_153 0 8 (dk_at dksX3_place_1 3 rfl rfl)
theorem dX3_place_29 : decode cX3_place 29 = .ok (.aload_n 0, 1) := dk_42 (dk_at dksX3_place_1 6 rfl rfl)
theorem dX3_place_30 : decode cX3_place 30 = .ok (.invokevirtual 68, 3) := dk_182 0 68 (dk_at dksX3_place_1 7 rfl rfl)
theorem dX3_place_33 : decode cX3_place 33 = .ok (.ireturn, 1) := dk_172 (dk_at dksX3_place_1 10 rfl rfl)
theorem dX3_place_34 : decode cX3_place 34 = .ok (.aload_n 0, 1) := dk_42 (dk_at dksX3_place_1 11 rfl rfl)
theorem dX3_place_35 : decode cX3_place 35 = .ok (.invokevirtual 61, 3) := dk_182 0 61 (dk_at dksX3_place_1 12 rfl rfl)
theorem dX3_place_38 : decode cX3_place 38 = .ok (.aload_n 0, 1) := dk_42 (dk_at dksX3_place_1 15 rfl rfl)
theorem dX3_place_39 : decode cX3_place 39 = .ok (.iload_n 1, 1) := dk_27 (dk_at dksX3_place_1 16 rfl rfl)
theorem dX3_place_40 : decode cX3_place 40 = .ok (.iload_n 2, 1) := dk_28 (dk_at dksX3_place_1 17 rfl rfl)
theorem dX3_place_41 : decode cX3_place 41 = .ok (.invokevirtual 123, 3) := dk_182 0 123 (dk_at dksX3_place_1 18 rfl rfl)
theorem dX3_place_44 : decode cX3_place 44 = .ok (.aload_n 0, 1) := dk_42 (dk_at dksX3_place_1 21 rfl rfl)
theorem dX3_place_45 : decode cX3_place 45 = .ok (.invokevirtual 79, 3) := dk_182 0 79 (dk_at dksX3_place_2 0 rfl rfl)
theorem dX3_place_48 : decode cX3_place 48 = .ok (.ireturn, 1) := dk_172 (dk_at dksX3_place_2 3 rfl rfl)
abbrev cX3_mayPlace : ByteArray := prog_32_method_20_code
def yX3_mayPlace : MethodName := ⟨RX3, "mayPlace", "(II)I"⟩
def dkwX3_mayPlace_4 : List UInt8 := [42, 180, 0, 9, 16, 41, 28, 96, 46, 182, 0, 64, 172]
abbrev dktX3_mayPlace_4 : List UInt8 := dkwX3_mayPlace_4 ++ []
def dkwX3_mayPlace_3 : List UInt8 := [182, 0, 64, 172, 42, 180, 0, 9, 16, 41, 28, 96, 46, 2, 160, 0, 7, 3, 167, 0, 18, 42, 16, 14]
abbrev dktX3_mayPlace_3 : List UInt8 := dkwX3_mayPlace_3 ++ dktX3_mayPlace_4
def dkwX3_mayPlace_2 : List UInt8 := [16, 13, 172, 42, 180, 0, 9, 27, 184, 0, 72, 16, 8, 96, 46, 2, 159, 0, 11, 42, 16, 14, 27]
abbrev dktX3_mayPlace_2 : List UInt8 := dkwX3_mayPlace_2 ++ dktX3_mayPlace_3
def dkwX3_mayPlace_1 : List UInt8 := [160, 0, 23, 42, 180, 0, 32, 5, 16, 20, 79, 42, 180, 0, 32, 6, 27, 79, 42, 5, 181, 0, 55]
abbrev dktX3_mayPlace_1 : List UInt8 := dkwX3_mayPlace_1 ++ dktX3_mayPlace_2
def dkwX3_mayPlace_0 : List UInt8 := [42, 27, 7, 182, 0, 76, 153, 0, 42, 42, 180, 0, 9, 27, 184, 0, 72, 16, 6, 96, 46, 2]
abbrev dktX3_mayPlace_0 : List UInt8 := dkwX3_mayPlace_0 ++ dktX3_mayPlace_1
theorem dksX3_mayPlace_0 : cX3_mayPlace.data.toList.drop 0 = dktX3_mayPlace_0 := by decide +kernel
theorem dksX3_mayPlace_1 : cX3_mayPlace.data.toList.drop 22 = dktX3_mayPlace_1 := dk_seg dksX3_mayPlace_0 22 rfl rfl
theorem dksX3_mayPlace_2 : cX3_mayPlace.data.toList.drop 45 = dktX3_mayPlace_2 := dk_seg dksX3_mayPlace_1 23 rfl rfl
theorem dksX3_mayPlace_3 : cX3_mayPlace.data.toList.drop 68 = dktX3_mayPlace_3 := dk_seg dksX3_mayPlace_2 23 rfl rfl
theorem dksX3_mayPlace_4 : cX3_mayPlace.data.toList.drop 92 = dktX3_mayPlace_4 := dk_seg dksX3_mayPlace_3 24 rfl rfl
theorem dX3_mayPlace_0 : decode cX3_mayPlace 0 = .ok (.aload_n 0, 1) := dk_42 (dk_at dksX3_mayPlace_0 0 rfl rfl)
theorem dX3_mayPlace_1 : decode cX3_mayPlace 1 = .ok (.iload_n 1, 1) := dk_27 (dk_at dksX3_mayPlace_0 1 rfl rfl)
theorem dX3_mayPlace_2 : decode cX3_mayPlace 2 = .ok (.iconst 4, 1) := dk_7 (dk_at dksX3_mayPlace_0 2 rfl rfl)
theorem dX3_mayPlace_3 : decode cX3_mayPlace 3 = .ok (.invokevirtual 76, 3) := dk_182 0 76 (dk_at dksX3_mayPlace_0 3 rfl rfl)
theorem dX3_mayPlace_6 : decode cX3_mayPlace 6 = .ok (.ifCond .eq 42, 3) := dk_153 0 42 (dk_at dksX3_mayPlace_0 6 rfl rfl)
theorem dX3_mayPlace_9 : decode cX3_mayPlace 9 = .ok (.aload_n 0, 1) := dk_42 (dk_at dksX3_mayPlace_0 9 rfl rfl)
theorem dX3_mayPlace_10 : decode cX3_mayPlace 10 = .ok (.getfield 9, 3) := dk_180 0 9 (dk_at dksX3_mayPlace_0 10 rfl rfl)
theorem dX3_mayPlace_13 : decode cX3_mayPlace 13 = .ok (.iload_n 1, 1) := dk_27 (dk_at dksX3_mayPlace_0 13 rfl rfl)
theorem dX3_mayPlace_14 : decode cX3_mayPlace 14 = .ok (.invokestatic 72, 3) := dk_184 0 72 (dk_at dksX3_mayPlace_0 14 rfl rfl)
theorem dX3_mayPlace_17 : decode cX3_mayPlace 17 = .ok (.bipush 6, 2) := dk_16 6 (dk_at dksX3_mayPlace_0 17 rfl rfl)
theorem dX3_mayPlace_19 : decode cX3_mayPlace 19 = .ok (.iadd, 1) := dk_96 (dk_at dksX3_mayPlace_0 19 rfl rfl)
theorem dX3_mayPlace_20 : decode cX3_mayPlace 20 = .ok (.iaload, 1) := dk_46 (dk_at dksX3_mayPlace_0 20 rfl rfl)
theorem dX3_mayPlace_21 : decode cX3_mayPlace 21 = .ok (.iconst (-1), 1) := dk_2 (dk_at dksX3_mayPlace_0 21 rfl rfl)
theorem dX3_mayPlace_22 : decode cX3_mayPlace 22 = .ok (.if_icmp .ne 23, 3) := dk_160 0 23 (dk_at dksX3_mayPlace_1 0 rfl rfl)
theorem dX3_mayPlace_25 : decode cX3_mayPlace 25 = .ok (.aload_n 0, 1) := dk_42 (dk_at dksX3_mayPlace_1 3 rfl rfl)
theorem dX3_mayPlace_26 : decode cX3_mayPlace 26 = .ok (.getfield 32, 3) := dk_180 0 32 (dk_at dksX3_mayPlace_1 4 rfl rfl)
theorem dX3_mayPlace_29 : decode cX3_mayPlace 29 = .ok (.iconst 2, 1) := dk_5 (dk_at dksX3_mayPlace_1 7 rfl rfl)
theorem dX3_mayPlace_30 : decode cX3_mayPlace 30 = .ok (.bipush 20, 2) := dk_16 20 (dk_at dksX3_mayPlace_1 8 rfl rfl)
theorem dX3_mayPlace_32 : decode cX3_mayPlace 32 = .ok (.iastore, 1) := dk_79 (dk_at dksX3_mayPlace_1 10 rfl rfl)
theorem dX3_mayPlace_33 : decode cX3_mayPlace 33 = .ok (.aload_n 0, 1) := dk_42 (dk_at dksX3_mayPlace_1 11 rfl rfl)
theorem dX3_mayPlace_34 : decode cX3_mayPlace 34 = .ok (.getfield 32, 3) := dk_180 0 32 (dk_at dksX3_mayPlace_1 12 rfl rfl)
theorem dX3_mayPlace_37 : decode cX3_mayPlace 37 = .ok (.iconst 3, 1) := dk_6 (dk_at dksX3_mayPlace_1 15 rfl rfl)
theorem dX3_mayPlace_38 : decode cX3_mayPlace 38 = .ok (.iload_n 1, 1) := dk_27 (dk_at dksX3_mayPlace_1 16 rfl rfl)
theorem dX3_mayPlace_39 : decode cX3_mayPlace 39 = .ok (.iastore, 1) := dk_79 (dk_at dksX3_mayPlace_1 17 rfl rfl)
theorem dX3_mayPlace_40 : decode cX3_mayPlace 40 = .ok (.aload_n 0, 1) := dk_42 (dk_at dksX3_mayPlace_1 18 rfl rfl)
theorem dX3_mayPlace_41 : decode cX3_mayPlace 41 = .ok (.iconst 2, 1) := dk_5 (dk_at dksX3_mayPlace_1 19 rfl rfl)
theorem dX3_mayPlace_42 : decode cX3_mayPlace 42 = .ok (.putfield 55, 3) := dk_181 0 55 (dk_at dksX3_mayPlace_1 20 rfl rfl)
theorem dX3_mayPlace_45 : decode cX3_mayPlace 45 = .ok (.bipush 13, 2) := dk_16 13 (dk_at dksX3_mayPlace_2 0 rfl rfl)
theorem dX3_mayPlace_47 : decode cX3_mayPlace 47 = .ok (.ireturn, 1) := dk_172 (dk_at dksX3_mayPlace_2 2 rfl rfl)
theorem dX3_mayPlace_48 : decode cX3_mayPlace 48 = .ok (.aload_n 0, 1) := dk_42 (dk_at dksX3_mayPlace_2 3 rfl rfl)
theorem dX3_mayPlace_49 : decode cX3_mayPlace 49 = .ok (.getfield 9, 3) := dk_180 0 9 (dk_at dksX3_mayPlace_2 4 rfl rfl)
theorem dX3_mayPlace_52 : decode cX3_mayPlace 52 = .ok (.iload_n 1, 1) := dk_27 (dk_at dksX3_mayPlace_2 7 rfl rfl)
theorem dX3_mayPlace_53 : decode cX3_mayPlace 53 = .ok (.invokestatic 72, 3) := dk_184 0 72 (dk_at dksX3_mayPlace_2 8 rfl rfl)
theorem dX3_mayPlace_56 : decode cX3_mayPlace 56 = .ok (.bipush 8, 2) := dk_16 8 (dk_at dksX3_mayPlace_2 11 rfl rfl)
theorem dX3_mayPlace_58 : decode cX3_mayPlace 58 = .ok (.iadd, 1) := dk_96 (dk_at dksX3_mayPlace_2 13 rfl rfl)
theorem dX3_mayPlace_59 : decode cX3_mayPlace 59 = .ok (.iaload, 1) := dk_46 (dk_at dksX3_mayPlace_2 14 rfl rfl)
theorem dX3_mayPlace_60 : decode cX3_mayPlace 60 = .ok (.iconst (-1), 1) := dk_2 (dk_at dksX3_mayPlace_2 15 rfl rfl)
theorem dX3_mayPlace_61 : decode cX3_mayPlace 61 = .ok (.if_icmp .eq 11, 3) := dk_159 0 11 (dk_at dksX3_mayPlace_2 16 rfl rfl)
theorem dX3_mayPlace_64 : decode cX3_mayPlace 64 = .ok (.aload_n 0, 1) := dk_42 (dk_at dksX3_mayPlace_2 19 rfl rfl)
theorem dX3_mayPlace_65 : decode cX3_mayPlace 65 = .ok (.bipush 14, 2) := dk_16 14 (dk_at dksX3_mayPlace_2 20 rfl rfl)
theorem dX3_mayPlace_67 : decode cX3_mayPlace 67 = .ok (.iload_n 1, 1) := dk_27 (dk_at dksX3_mayPlace_2 22 rfl rfl)
theorem dX3_mayPlace_68 : decode cX3_mayPlace 68 = .ok (.invokevirtual 64, 3) := dk_182 0 64 (dk_at dksX3_mayPlace_3 0 rfl rfl)
theorem dX3_mayPlace_71 : decode cX3_mayPlace 71 = .ok (.ireturn, 1) := dk_172 (dk_at dksX3_mayPlace_3 3 rfl rfl)
theorem dX3_mayPlace_72 : decode cX3_mayPlace 72 = .ok (.aload_n 0, 1) := dk_42 (dk_at dksX3_mayPlace_3 4 rfl rfl)
theorem dX3_mayPlace_73 : decode cX3_mayPlace 73 = .ok (.getfield 9, 3) := dk_180 0 9 (dk_at dksX3_mayPlace_3 5 rfl rfl)
theorem dX3_mayPlace_76 : decode cX3_mayPlace 76 = .ok (.bipush 41, 2) := dk_16 41 (dk_at dksX3_mayPlace_3 8 rfl rfl)
theorem dX3_mayPlace_78 : decode cX3_mayPlace 78 = .ok (.iload_n 2, 1) := dk_28 (dk_at dksX3_mayPlace_3 10 rfl rfl)
theorem dX3_mayPlace_79 : decode cX3_mayPlace 79 = .ok (.iadd, 1) := dk_96 (dk_at dksX3_mayPlace_3 11 rfl rfl)
theorem dX3_mayPlace_80 : decode cX3_mayPlace 80 = .ok (.iaload, 1) := dk_46 (dk_at dksX3_mayPlace_3 12 rfl rfl)
theorem dX3_mayPlace_81 : decode cX3_mayPlace 81 = .ok (.iconst (-1), 1) := dk_2 (dk_at dksX3_mayPlace_3 13 rfl rfl)
theorem dX3_mayPlace_82 : decode cX3_mayPlace 82 = .ok (.if_icmp .ne 7, 3) := dk_160 0 7 (dk_at dksX3_mayPlace_3 14 rfl rfl)
theorem dX3_mayPlace_85 : decode cX3_mayPlace 85 = .ok (.iconst 0, 1) := dk_3 (dk_at dksX3_mayPlace_3 17 rfl rfl)
theorem dX3_mayPlace_86 : decode cX3_mayPlace 86 = .ok (.goto 18, 3) := dk_167 0 18 (dk_at dksX3_mayPlace_3 18 rfl rfl)
theorem dX3_mayPlace_89 : decode cX3_mayPlace 89 = .ok (.aload_n 0, 1) := dk_42 (dk_at dksX3_mayPlace_3 21 rfl rfl)
theorem dX3_mayPlace_90 : decode cX3_mayPlace 90 = .ok (.bipush 14, 2) := dk_16 14 (dk_at dksX3_mayPlace_3 22 rfl rfl)
theorem dX3_mayPlace_92 : decode cX3_mayPlace 92 = .ok (.aload_n 0, 1) := dk_42 (dk_at dksX3_mayPlace_4 0 rfl rfl)
theorem dX3_mayPlace_93 : decode cX3_mayPlace 93 = .ok (.getfield 9, 3) := dk_180 0 9 (dk_at dksX3_mayPlace_4 1 rfl rfl)
theorem dX3_mayPlace_96 : decode cX3_mayPlace 96 = .ok (.bipush 41, 2) := dk_16 41 (dk_at dksX3_mayPlace_4 4 rfl rfl)
theorem dX3_mayPlace_98 : decode cX3_mayPlace 98 = .ok (.iload_n 2, 1) := dk_28 (dk_at dksX3_mayPlace_4 6 rfl rfl)
theorem dX3_mayPlace_99 : decode cX3_mayPlace 99 = .ok (.iadd, 1) := dk_96 (dk_at dksX3_mayPlace_4 7 rfl rfl)
theorem dX3_mayPlace_100 : decode cX3_mayPlace 100 = .ok (.iaload, 1) := dk_46 (dk_at dksX3_mayPlace_4 8 rfl rfl)
theorem dX3_mayPlace_101 : decode cX3_mayPlace 101 = .ok (.invokevirtual 64, 3) := dk_182 0 64 (dk_at dksX3_mayPlace_4 9 rfl rfl)
theorem dX3_mayPlace_104 : decode cX3_mayPlace 104 = .ok (.ireturn, 1) := dk_172 (dk_at dksX3_mayPlace_4 12 rfl rfl)
abbrev cX3_puts : ByteArray := prog_32_method_36_code
def yX3_puts : MethodName := ⟨RX3, "puts", "(II)V"⟩
def dkwX3_puts_0 : List UInt8 := [42, 180, 0, 9, 27, 184, 0, 72, 16, 8, 96, 28, 79, 42, 180, 0, 9, 16, 41, 28, 96, 27, 79, 177]
abbrev dktX3_puts_0 : List UInt8 := dkwX3_puts_0 ++ []
theorem dksX3_puts_0 : cX3_puts.data.toList.drop 0 = dktX3_puts_0 := by decide +kernel
theorem dX3_puts_0 : decode cX3_puts 0 = .ok (.aload_n 0, 1) := dk_42 (dk_at dksX3_puts_0 0 rfl rfl)
theorem dX3_puts_1 : decode cX3_puts 1 = .ok (.getfield 9, 3) := dk_180 0 9 (dk_at dksX3_puts_0 1 rfl rfl)
theorem dX3_puts_4 : decode cX3_puts 4 = .ok (.iload_n 1, 1) := dk_27 (dk_at dksX3_puts_0 4 rfl rfl)
theorem dX3_puts_5 : decode cX3_puts 5 = .ok (.invokestatic 72, 3) := dk_184 0 72 (dk_at dksX3_puts_0 5 rfl rfl)
theorem dX3_puts_8 : decode cX3_puts 8 = .ok (.bipush 8, 2) := dk_16 8 (dk_at dksX3_puts_0 8 rfl rfl)
theorem dX3_puts_10 : decode cX3_puts 10 = .ok (.iadd, 1) := dk_96 (dk_at dksX3_puts_0 10 rfl rfl)
theorem dX3_puts_11 : decode cX3_puts 11 = .ok (.iload_n 2, 1) := dk_28 (dk_at dksX3_puts_0 11 rfl rfl)
theorem dX3_puts_12 : decode cX3_puts 12 = .ok (.iastore, 1) := dk_79 (dk_at dksX3_puts_0 12 rfl rfl)
theorem dX3_puts_13 : decode cX3_puts 13 = .ok (.aload_n 0, 1) := dk_42 (dk_at dksX3_puts_0 13 rfl rfl)
theorem dX3_puts_14 : decode cX3_puts 14 = .ok (.getfield 9, 3) := dk_180 0 9 (dk_at dksX3_puts_0 14 rfl rfl)
theorem dX3_puts_17 : decode cX3_puts 17 = .ok (.bipush 41, 2) := dk_16 41 (dk_at dksX3_puts_0 17 rfl rfl)
theorem dX3_puts_19 : decode cX3_puts 19 = .ok (.iload_n 2, 1) := dk_28 (dk_at dksX3_puts_0 19 rfl rfl)
theorem dX3_puts_20 : decode cX3_puts 20 = .ok (.iadd, 1) := dk_96 (dk_at dksX3_puts_0 20 rfl rfl)
theorem dX3_puts_21 : decode cX3_puts 21 = .ok (.iload_n 1, 1) := dk_27 (dk_at dksX3_puts_0 21 rfl rfl)
theorem dX3_puts_22 : decode cX3_puts 22 = .ok (.iastore, 1) := dk_79 (dk_at dksX3_puts_0 22 rfl rfl)
theorem dX3_puts_23 : decode cX3_puts 23 = .ok (.return_, 1) := dk_177 (dk_at dksX3_puts_0 23 rfl rfl)
abbrev cX3_onShelf : ByteArray := prog_32_method_22_code
def yX3_onShelf : MethodName := ⟨RX3, "onShelf", "()I"⟩
def dkwX3_onShelf_1 : List UInt8 := [3, 167, 0, 4, 4, 96, 60, 132, 2, 1, 167, 255, 226, 27, 172]
abbrev dktX3_onShelf_1 : List UInt8 := dkwX3_onShelf_1 ++ []
def dkwX3_onShelf_0 : List UInt8 := [3, 60, 3, 61, 28, 16, 8, 162, 0, 30, 27, 42, 180, 0, 9, 16, 41, 28, 96, 46, 2, 160, 0, 7]
abbrev dktX3_onShelf_0 : List UInt8 := dkwX3_onShelf_0 ++ dktX3_onShelf_1
theorem dksX3_onShelf_0 : cX3_onShelf.data.toList.drop 0 = dktX3_onShelf_0 := by decide +kernel
theorem dksX3_onShelf_1 : cX3_onShelf.data.toList.drop 24 = dktX3_onShelf_1 := dk_seg dksX3_onShelf_0 24 rfl rfl
theorem dX3_onShelf_0 : decode cX3_onShelf 0 = .ok (.iconst 0, 1) := dk_3 (dk_at dksX3_onShelf_0 0 rfl rfl)
theorem dX3_onShelf_1 : decode cX3_onShelf 1 = .ok (.istore_n 1, 1) := dk_60 (dk_at dksX3_onShelf_0 1 rfl rfl)
theorem dX3_onShelf_2 : decode cX3_onShelf 2 = .ok (.iconst 0, 1) := dk_3 (dk_at dksX3_onShelf_0 2 rfl rfl)
theorem dX3_onShelf_3 : decode cX3_onShelf 3 = .ok (.istore_n 2, 1) := dk_61 (dk_at dksX3_onShelf_0 3 rfl rfl)
theorem dX3_onShelf_4 : decode cX3_onShelf 4 = .ok (.iload_n 2, 1) := dk_28 (dk_at dksX3_onShelf_0 4 rfl rfl)
theorem dX3_onShelf_5 : decode cX3_onShelf 5 = .ok (.bipush 8, 2) := dk_16 8 (dk_at dksX3_onShelf_0 5 rfl rfl)
theorem dX3_onShelf_7 : decode cX3_onShelf 7 = .ok (.if_icmp .ge 30, 3) := dk_162 0 30 (dk_at dksX3_onShelf_0 7 rfl rfl)
theorem dX3_onShelf_10 : decode cX3_onShelf 10 = .ok (.iload_n 1, 1) := dk_27 (dk_at dksX3_onShelf_0 10 rfl rfl)
theorem dX3_onShelf_11 : decode cX3_onShelf 11 = .ok (.aload_n 0, 1) := dk_42 (dk_at dksX3_onShelf_0 11 rfl rfl)
theorem dX3_onShelf_12 : decode cX3_onShelf 12 = .ok (.getfield 9, 3) := dk_180 0 9 (dk_at dksX3_onShelf_0 12 rfl rfl)
theorem dX3_onShelf_15 : decode cX3_onShelf 15 = .ok (.bipush 41, 2) := dk_16 41 (dk_at dksX3_onShelf_0 15 rfl rfl)
theorem dX3_onShelf_17 : decode cX3_onShelf 17 = .ok (.iload_n 2, 1) := dk_28 (dk_at dksX3_onShelf_0 17 rfl rfl)
theorem dX3_onShelf_18 : decode cX3_onShelf 18 = .ok (.iadd, 1) := dk_96 (dk_at dksX3_onShelf_0 18 rfl rfl)
theorem dX3_onShelf_19 : decode cX3_onShelf 19 = .ok (.iaload, 1) := dk_46 (dk_at dksX3_onShelf_0 19 rfl rfl)
theorem dX3_onShelf_20 : decode cX3_onShelf 20 = .ok (.iconst (-1), 1) := dk_2 (dk_at dksX3_onShelf_0 20 rfl rfl)
theorem dX3_onShelf_21 : decode cX3_onShelf 21 = .ok (.if_icmp .ne 7, 3) := dk_160 0 7 (dk_at dksX3_onShelf_0 21 rfl rfl)
theorem dX3_onShelf_24 : decode cX3_onShelf 24 = .ok (.iconst 0, 1) := dk_3 (dk_at dksX3_onShelf_1 0 rfl rfl)
theorem dX3_onShelf_25 : decode cX3_onShelf 25 = .ok (.goto 4, 3) := dk_167 0 4 (dk_at dksX3_onShelf_1 1 rfl rfl)
theorem dX3_onShelf_28 : decode cX3_onShelf 28 = .ok (.iconst 1, 1) := dk_4 (dk_at dksX3_onShelf_1 4 rfl rfl)
theorem dX3_onShelf_29 : decode cX3_onShelf 29 = .ok (.iadd, 1) := dk_96 (dk_at dksX3_onShelf_1 5 rfl rfl)
theorem dX3_onShelf_30 : decode cX3_onShelf 30 = .ok (.istore_n 1, 1) := dk_60 (dk_at dksX3_onShelf_1 6 rfl rfl)
theorem dX3_onShelf_31 : decode cX3_onShelf 31 = .ok (.iinc 2 1, 3) := dk_132 2 1 (dk_at dksX3_onShelf_1 7 rfl rfl)
theorem dX3_onShelf_34 : decode cX3_onShelf 34 = .ok (.goto (-30), 3) := dk_167 255 226 (dk_at dksX3_onShelf_1 10 rfl rfl)
theorem dX3_onShelf_37 : decode cX3_onShelf 37 = .ok (.iload_n 1, 1) := dk_27 (dk_at dksX3_onShelf_1 13 rfl rfl)
theorem dX3_onShelf_38 : decode cX3_onShelf 38 = .ok (.ireturn, 1) := dk_172 (dk_at dksX3_onShelf_1 14 rfl rfl)
abbrev cX3_shelf : ByteArray := prog_32_method_38_code
def yX3_shelf : MethodName := ⟨RX3, "shelf", "(I)I"⟩
def dkwX3_shelf_1 : List UInt8 := [160, 0, 8, 16, 250, 167, 0, 12, 42, 180, 0, 9, 16, 41, 27, 96, 46, 172]
abbrev dktX3_shelf_1 : List UInt8 := dkwX3_shelf_1 ++ []
def dkwX3_shelf_0 : List UInt8 := [27, 3, 16, 7, 184, 0, 51, 154, 0, 7, 2, 167, 0, 30, 42, 180, 0, 9, 16, 41, 27, 96, 46, 2]
abbrev dktX3_shelf_0 : List UInt8 := dkwX3_shelf_0 ++ dktX3_shelf_1
theorem dksX3_shelf_0 : cX3_shelf.data.toList.drop 0 = dktX3_shelf_0 := by decide +kernel
theorem dksX3_shelf_1 : cX3_shelf.data.toList.drop 24 = dktX3_shelf_1 := dk_seg dksX3_shelf_0 24 rfl rfl
theorem dX3_shelf_0 : decode cX3_shelf 0 = .ok (.iload_n 1, 1) := dk_27 (dk_at dksX3_shelf_0 0 rfl rfl)
theorem dX3_shelf_1 : decode cX3_shelf 1 = .ok (.iconst 0, 1) := dk_3 (dk_at dksX3_shelf_0 1 rfl rfl)
theorem dX3_shelf_2 : decode cX3_shelf 2 = .ok (.bipush 7, 2) := dk_16 7 (dk_at dksX3_shelf_0 2 rfl rfl)
theorem dX3_shelf_4 : decode cX3_shelf 4 = .ok (.invokestatic 51, 3) := dk_184 0 51 (dk_at dksX3_shelf_0 4 rfl rfl)
theorem dX3_shelf_7 : decode cX3_shelf 7 = .ok (.ifCond .ne 7, 3) := dk_154 0 7 (dk_at dksX3_shelf_0 7 rfl rfl)
theorem dX3_shelf_10 : decode cX3_shelf 10 = .ok (.iconst (-1), 1) := dk_2 (dk_at dksX3_shelf_0 10 rfl rfl)
theorem dX3_shelf_11 : decode cX3_shelf 11 = .ok (.goto 30, 3) := dk_167 0 30 (dk_at dksX3_shelf_0 11 rfl rfl)
theorem dX3_shelf_14 : decode cX3_shelf 14 = .ok (.aload_n 0, 1) := dk_42 (dk_at dksX3_shelf_0 14 rfl rfl)
theorem dX3_shelf_15 : decode cX3_shelf 15 = .ok (.getfield 9, 3) := dk_180 0 9 (dk_at dksX3_shelf_0 15 rfl rfl)
theorem dX3_shelf_18 : decode cX3_shelf 18 = .ok (.bipush 41, 2) := dk_16 41 (dk_at dksX3_shelf_0 18 rfl rfl)
theorem dX3_shelf_20 : decode cX3_shelf 20 = .ok (.iload_n 1, 1) := dk_27 (dk_at dksX3_shelf_0 20 rfl rfl)
theorem dX3_shelf_21 : decode cX3_shelf 21 = .ok (.iadd, 1) := dk_96 (dk_at dksX3_shelf_0 21 rfl rfl)
theorem dX3_shelf_22 : decode cX3_shelf 22 = .ok (.iaload, 1) := dk_46 (dk_at dksX3_shelf_0 22 rfl rfl)
theorem dX3_shelf_23 : decode cX3_shelf 23 = .ok (.iconst (-1), 1) := dk_2 (dk_at dksX3_shelf_0 23 rfl rfl)
theorem dX3_shelf_24 : decode cX3_shelf 24 = .ok (.if_icmp .ne 8, 3) := dk_160 0 8 (dk_at dksX3_shelf_1 0 rfl rfl)
theorem dX3_shelf_27 : decode cX3_shelf 27 = .ok (.bipush (-6), 2) := dk_16 250 (dk_at dksX3_shelf_1 3 rfl rfl)
theorem dX3_shelf_29 : decode cX3_shelf 29 = .ok (.goto 12, 3) := dk_167 0 12 (dk_at dksX3_shelf_1 5 rfl rfl)
theorem dX3_shelf_32 : decode cX3_shelf 32 = .ok (.aload_n 0, 1) := dk_42 (dk_at dksX3_shelf_1 8 rfl rfl)
theorem dX3_shelf_33 : decode cX3_shelf 33 = .ok (.getfield 9, 3) := dk_180 0 9 (dk_at dksX3_shelf_1 9 rfl rfl)
theorem dX3_shelf_36 : decode cX3_shelf 36 = .ok (.bipush 41, 2) := dk_16 41 (dk_at dksX3_shelf_1 12 rfl rfl)
theorem dX3_shelf_38 : decode cX3_shelf 38 = .ok (.iload_n 1, 1) := dk_27 (dk_at dksX3_shelf_1 14 rfl rfl)
theorem dX3_shelf_39 : decode cX3_shelf 39 = .ok (.iadd, 1) := dk_96 (dk_at dksX3_shelf_1 15 rfl rfl)
theorem dX3_shelf_40 : decode cX3_shelf 40 = .ok (.iaload, 1) := dk_46 (dk_at dksX3_shelf_1 16 rfl rfl)
theorem dX3_shelf_41 : decode cX3_shelf 41 = .ok (.ireturn, 1) := dk_172 (dk_at dksX3_shelf_1 17 rfl rfl)
abbrev cX3_kiln : ByteArray := prog_32_method_46_code
def yX3_kiln : MethodName := ⟨RX3, "kiln", "(I)I"⟩
def dkwX3_kiln_1 : List UInt8 := [5, 160, 0, 10, 42, 182, 0, 145, 167, 0, 5, 16, 254, 172]
abbrev dktX3_kiln_1 : List UInt8 := dkwX3_kiln_1 ++ []
def dkwX3_kiln_0 : List UInt8 := [27, 154, 0, 10, 42, 182, 0, 136, 167, 0, 29, 27, 4, 160, 0, 10, 42, 182, 0, 133, 167, 0, 17, 27]
abbrev dktX3_kiln_0 : List UInt8 := dkwX3_kiln_0 ++ dktX3_kiln_1
theorem dksX3_kiln_0 : cX3_kiln.data.toList.drop 0 = dktX3_kiln_0 := by decide +kernel
theorem dksX3_kiln_1 : cX3_kiln.data.toList.drop 24 = dktX3_kiln_1 := dk_seg dksX3_kiln_0 24 rfl rfl
theorem dX3_kiln_0 : decode cX3_kiln 0 = .ok (.iload_n 1, 1) := dk_27 (dk_at dksX3_kiln_0 0 rfl rfl)
theorem dX3_kiln_1 : decode cX3_kiln 1 = .ok (.ifCond .ne 10, 3) := dk_154 0 10 (dk_at dksX3_kiln_0 1 rfl rfl)
theorem dX3_kiln_4 : decode cX3_kiln 4 = .ok (.aload_n 0, 1) := dk_42 (dk_at dksX3_kiln_0 4 rfl rfl)
theorem dX3_kiln_5 : decode cX3_kiln 5 = .ok (.invokevirtual 136, 3) := dk_182 0 136 (dk_at dksX3_kiln_0 5 rfl rfl)
theorem dX3_kiln_8 : decode cX3_kiln 8 = .ok (.goto 29, 3) := dk_167 0 29 (dk_at dksX3_kiln_0 8 rfl rfl)
theorem dX3_kiln_11 : decode cX3_kiln 11 = .ok (.iload_n 1, 1) := dk_27 (dk_at dksX3_kiln_0 11 rfl rfl)
theorem dX3_kiln_12 : decode cX3_kiln 12 = .ok (.iconst 1, 1) := dk_4 (dk_at dksX3_kiln_0 12 rfl rfl)
theorem dX3_kiln_13 : decode cX3_kiln 13 = .ok (.if_icmp .ne 10, 3) := dk_160 0 10 (dk_at dksX3_kiln_0 13 rfl rfl)
theorem dX3_kiln_16 : decode cX3_kiln 16 = .ok (.aload_n 0, 1) := dk_42 (dk_at dksX3_kiln_0 16 rfl rfl)
theorem dX3_kiln_17 : decode cX3_kiln 17 = .ok (.invokevirtual 133, 3) := dk_182 0 133 (dk_at dksX3_kiln_0 17 rfl rfl)
theorem dX3_kiln_20 : decode cX3_kiln 20 = .ok (.goto 17, 3) := dk_167 0 17 (dk_at dksX3_kiln_0 20 rfl rfl)
theorem dX3_kiln_23 : decode cX3_kiln 23 = .ok (.iload_n 1, 1) := dk_27 (dk_at dksX3_kiln_0 23 rfl rfl)
theorem dX3_kiln_24 : decode cX3_kiln 24 = .ok (.iconst 2, 1) := dk_5 (dk_at dksX3_kiln_1 0 rfl rfl)
theorem dX3_kiln_25 : decode cX3_kiln 25 = .ok (.if_icmp .ne 10, 3) := dk_160 0 10 (dk_at dksX3_kiln_1 1 rfl rfl)
theorem dX3_kiln_28 : decode cX3_kiln 28 = .ok (.aload_n 0, 1) := dk_42 (dk_at dksX3_kiln_1 4 rfl rfl)
theorem dX3_kiln_29 : decode cX3_kiln 29 = .ok (.invokevirtual 145, 3) := dk_182 0 145 (dk_at dksX3_kiln_1 5 rfl rfl)
theorem dX3_kiln_32 : decode cX3_kiln 32 = .ok (.goto 5, 3) := dk_167 0 5 (dk_at dksX3_kiln_1 8 rfl rfl)
theorem dX3_kiln_35 : decode cX3_kiln 35 = .ok (.bipush (-2), 2) := dk_16 254 (dk_at dksX3_kiln_1 11 rfl rfl)
theorem dX3_kiln_37 : decode cX3_kiln 37 = .ok (.ireturn, 1) := dk_172 (dk_at dksX3_kiln_1 13 rfl rfl)
abbrev cX3_shelfSet : ByteArray := prog_32_method_41_code
def yX3_shelfSet : MethodName := ⟨RX3, "shelfSet", "()I"⟩
def dkwX3_shelfSet_2 : List UInt8 := [172]
abbrev dktX3_shelfSet_2 : List UInt8 := dkwX3_shelfSet_2 ++ []
def dkwX3_shelfSet_1 : List UInt8 := [3, 167, 0, 14, 4, 42, 180, 0, 9, 16, 41, 28, 96, 46, 120, 128, 60, 132, 2, 1, 167, 255, 216, 27]
abbrev dktX3_shelfSet_1 : List UInt8 := dkwX3_shelfSet_1 ++ dktX3_shelfSet_2
def dkwX3_shelfSet_0 : List UInt8 := [3, 60, 3, 61, 28, 16, 8, 162, 0, 40, 27, 42, 180, 0, 9, 16, 41, 28, 96, 46, 2, 160, 0, 7]
abbrev dktX3_shelfSet_0 : List UInt8 := dkwX3_shelfSet_0 ++ dktX3_shelfSet_1
theorem dksX3_shelfSet_0 : cX3_shelfSet.data.toList.drop 0 = dktX3_shelfSet_0 := by decide +kernel
theorem dksX3_shelfSet_1 : cX3_shelfSet.data.toList.drop 24 = dktX3_shelfSet_1 := dk_seg dksX3_shelfSet_0 24 rfl rfl
theorem dksX3_shelfSet_2 : cX3_shelfSet.data.toList.drop 48 = dktX3_shelfSet_2 := dk_seg dksX3_shelfSet_1 24 rfl rfl
theorem dX3_shelfSet_0 : decode cX3_shelfSet 0 = .ok (.iconst 0, 1) := dk_3 (dk_at dksX3_shelfSet_0 0 rfl rfl)
theorem dX3_shelfSet_1 : decode cX3_shelfSet 1 = .ok (.istore_n 1, 1) := dk_60 (dk_at dksX3_shelfSet_0 1 rfl rfl)
theorem dX3_shelfSet_2 : decode cX3_shelfSet 2 = .ok (.iconst 0, 1) := dk_3 (dk_at dksX3_shelfSet_0 2 rfl rfl)
theorem dX3_shelfSet_3 : decode cX3_shelfSet 3 = .ok (.istore_n 2, 1) := dk_61 (dk_at dksX3_shelfSet_0 3 rfl rfl)
theorem dX3_shelfSet_4 : decode cX3_shelfSet 4 = .ok (.iload_n 2, 1) := dk_28 (dk_at dksX3_shelfSet_0 4 rfl rfl)
theorem dX3_shelfSet_5 : decode cX3_shelfSet 5 = .ok (.bipush 8, 2) := dk_16 8 (dk_at dksX3_shelfSet_0 5 rfl rfl)
theorem dX3_shelfSet_7 : decode cX3_shelfSet 7 = .ok (.if_icmp .ge 40, 3) := dk_162 0 40 (dk_at dksX3_shelfSet_0 7 rfl rfl)
theorem dX3_shelfSet_10 : decode cX3_shelfSet 10 = .ok (.iload_n 1, 1) := dk_27 (dk_at dksX3_shelfSet_0 10 rfl rfl)
theorem dX3_shelfSet_11 : decode cX3_shelfSet 11 = .ok (.aload_n 0, 1) := dk_42 (dk_at dksX3_shelfSet_0 11 rfl rfl)
theorem dX3_shelfSet_12 : decode cX3_shelfSet 12 = .ok (.getfield 9, 3) := dk_180 0 9 (dk_at dksX3_shelfSet_0 12 rfl rfl)
theorem dX3_shelfSet_15 : decode cX3_shelfSet 15 = .ok (.bipush 41, 2) := dk_16 41 (dk_at dksX3_shelfSet_0 15 rfl rfl)
theorem dX3_shelfSet_17 : decode cX3_shelfSet 17 = .ok (.iload_n 2, 1) := dk_28 (dk_at dksX3_shelfSet_0 17 rfl rfl)
theorem dX3_shelfSet_18 : decode cX3_shelfSet 18 = .ok (.iadd, 1) := dk_96 (dk_at dksX3_shelfSet_0 18 rfl rfl)
theorem dX3_shelfSet_19 : decode cX3_shelfSet 19 = .ok (.iaload, 1) := dk_46 (dk_at dksX3_shelfSet_0 19 rfl rfl)
theorem dX3_shelfSet_20 : decode cX3_shelfSet 20 = .ok (.iconst (-1), 1) := dk_2 (dk_at dksX3_shelfSet_0 20 rfl rfl)
theorem dX3_shelfSet_21 : decode cX3_shelfSet 21 = .ok (.if_icmp .ne 7, 3) := dk_160 0 7 (dk_at dksX3_shelfSet_0 21 rfl rfl)
theorem dX3_shelfSet_24 : decode cX3_shelfSet 24 = .ok (.iconst 0, 1) := dk_3 (dk_at dksX3_shelfSet_1 0 rfl rfl)
theorem dX3_shelfSet_25 : decode cX3_shelfSet 25 = .ok (.goto 14, 3) := dk_167 0 14 (dk_at dksX3_shelfSet_1 1 rfl rfl)
theorem dX3_shelfSet_28 : decode cX3_shelfSet 28 = .ok (.iconst 1, 1) := dk_4 (dk_at dksX3_shelfSet_1 4 rfl rfl)
theorem dX3_shelfSet_29 : decode cX3_shelfSet 29 = .ok (.aload_n 0, 1) := dk_42 (dk_at dksX3_shelfSet_1 5 rfl rfl)
theorem dX3_shelfSet_30 : decode cX3_shelfSet 30 = .ok (.getfield 9, 3) := dk_180 0 9 (dk_at dksX3_shelfSet_1 6 rfl rfl)
theorem dX3_shelfSet_33 : decode cX3_shelfSet 33 = .ok (.bipush 41, 2) := dk_16 41 (dk_at dksX3_shelfSet_1 9 rfl rfl)
theorem dX3_shelfSet_35 : decode cX3_shelfSet 35 = .ok (.iload_n 2, 1) := dk_28 (dk_at dksX3_shelfSet_1 11 rfl rfl)
theorem dX3_shelfSet_36 : decode cX3_shelfSet 36 = .ok (.iadd, 1) := dk_96 (dk_at dksX3_shelfSet_1 12 rfl rfl)
theorem dX3_shelfSet_37 : decode cX3_shelfSet 37 = .ok (.iaload, 1) := dk_46 (dk_at dksX3_shelfSet_1 13 rfl rfl)
theorem dX3_shelfSet_38 : decode cX3_shelfSet 38 = .ok (.ishl, 1) := dk_120 (dk_at dksX3_shelfSet_1 14 rfl rfl)
theorem dX3_shelfSet_39 : decode cX3_shelfSet 39 = .ok (.ior, 1) := dk_128 (dk_at dksX3_shelfSet_1 15 rfl rfl)
theorem dX3_shelfSet_40 : decode cX3_shelfSet 40 = .ok (.istore_n 1, 1) := dk_60 (dk_at dksX3_shelfSet_1 16 rfl rfl)
theorem dX3_shelfSet_41 : decode cX3_shelfSet 41 = .ok (.iinc 2 1, 3) := dk_132 2 1 (dk_at dksX3_shelfSet_1 17 rfl rfl)
theorem dX3_shelfSet_44 : decode cX3_shelfSet 44 = .ok (.goto (-40), 3) := dk_167 255 216 (dk_at dksX3_shelfSet_1 20 rfl rfl)
theorem dX3_shelfSet_47 : decode cX3_shelfSet 47 = .ok (.iload_n 1, 1) := dk_27 (dk_at dksX3_shelfSet_1 23 rfl rfl)
theorem dX3_shelfSet_48 : decode cX3_shelfSet 48 = .ok (.ireturn, 1) := dk_172 (dk_at dksX3_shelfSet_2 0 rfl rfl)
abbrev cX3_lostThen : ByteArray := prog_32_method_40_code
def yX3_lostThen : MethodName := ⟨RX3, "lostThen", "()I"⟩
def dkwX3_lostThen_2 : List UInt8 := [167, 255, 214, 27, 172]
abbrev dktX3_lostThen_2 : List UInt8 := dkwX3_lostThen_2 ++ []
def dkwX3_lostThen_1 : List UInt8 := [159, 0, 17, 42, 29, 182, 0, 127, 153, 0, 9, 4, 29, 120, 167, 0, 4, 3, 128, 60, 132, 2, 1]
abbrev dktX3_lostThen_1 : List UInt8 := dkwX3_lostThen_1 ++ dktX3_lostThen_2
def dkwX3_lostThen_0 : List UInt8 := [3, 60, 3, 61, 28, 16, 8, 162, 0, 42, 42, 180, 0, 9, 16, 41, 28, 96, 46, 62, 27, 29, 2]
abbrev dktX3_lostThen_0 : List UInt8 := dkwX3_lostThen_0 ++ dktX3_lostThen_1
theorem dksX3_lostThen_0 : cX3_lostThen.data.toList.drop 0 = dktX3_lostThen_0 := by decide +kernel
theorem dksX3_lostThen_1 : cX3_lostThen.data.toList.drop 23 = dktX3_lostThen_1 := dk_seg dksX3_lostThen_0 23 rfl rfl
theorem dksX3_lostThen_2 : cX3_lostThen.data.toList.drop 46 = dktX3_lostThen_2 := dk_seg dksX3_lostThen_1 23 rfl rfl
theorem dX3_lostThen_0 : decode cX3_lostThen 0 = .ok (.iconst 0, 1) := dk_3 (dk_at dksX3_lostThen_0 0 rfl rfl)
theorem dX3_lostThen_1 : decode cX3_lostThen 1 = .ok (.istore_n 1, 1) := dk_60 (dk_at dksX3_lostThen_0 1 rfl rfl)
theorem dX3_lostThen_2 : decode cX3_lostThen 2 = .ok (.iconst 0, 1) := dk_3 (dk_at dksX3_lostThen_0 2 rfl rfl)
theorem dX3_lostThen_3 : decode cX3_lostThen 3 = .ok (.istore_n 2, 1) := dk_61 (dk_at dksX3_lostThen_0 3 rfl rfl)
theorem dX3_lostThen_4 : decode cX3_lostThen 4 = .ok (.iload_n 2, 1) := dk_28 (dk_at dksX3_lostThen_0 4 rfl rfl)
theorem dX3_lostThen_5 : decode cX3_lostThen 5 = .ok (.bipush 8, 2) := dk_16 8 (dk_at dksX3_lostThen_0 5 rfl rfl)
theorem dX3_lostThen_7 : decode cX3_lostThen 7 = .ok (.if_icmp .ge 42, 3) := dk_162 0 42 (dk_at dksX3_lostThen_0 7 rfl rfl)
theorem dX3_lostThen_10 : decode cX3_lostThen 10 = .ok (.aload_n 0, 1) := dk_42 (dk_at dksX3_lostThen_0 10 rfl rfl)
theorem dX3_lostThen_11 : decode cX3_lostThen 11 = .ok (.getfield 9, 3) := dk_180 0 9 (dk_at dksX3_lostThen_0 11 rfl rfl)
theorem dX3_lostThen_14 : decode cX3_lostThen 14 = .ok (.bipush 41, 2) := dk_16 41 (dk_at dksX3_lostThen_0 14 rfl rfl)
theorem dX3_lostThen_16 : decode cX3_lostThen 16 = .ok (.iload_n 2, 1) := dk_28 (dk_at dksX3_lostThen_0 16 rfl rfl)
theorem dX3_lostThen_17 : decode cX3_lostThen 17 = .ok (.iadd, 1) := dk_96 (dk_at dksX3_lostThen_0 17 rfl rfl)
theorem dX3_lostThen_18 : decode cX3_lostThen 18 = .ok (.iaload, 1) := dk_46 (dk_at dksX3_lostThen_0 18 rfl rfl)
theorem dX3_lostThen_19 : decode cX3_lostThen 19 = .ok (.istore_n 3, 1) := dk_62 (dk_at dksX3_lostThen_0 19 rfl rfl)
theorem dX3_lostThen_20 : decode cX3_lostThen 20 = .ok (.iload_n 1, 1) := dk_27 (dk_at dksX3_lostThen_0 20 rfl rfl)
theorem dX3_lostThen_21 : decode cX3_lostThen 21 = .ok (.iload_n 3, 1) := dk_29 (dk_at dksX3_lostThen_0 21 rfl rfl)
theorem dX3_lostThen_22 : decode cX3_lostThen 22 = .ok (.iconst (-1), 1) := dk_2 (dk_at dksX3_lostThen_0 22 rfl rfl)
theorem dX3_lostThen_23 : decode cX3_lostThen 23 = .ok (.if_icmp .eq 17, 3) := dk_159 0 17 (dk_at dksX3_lostThen_1 0 rfl rfl)
theorem dX3_lostThen_26 : decode cX3_lostThen 26 = .ok (.aload_n 0, 1) := dk_42 (dk_at dksX3_lostThen_1 3 rfl rfl)
theorem dX3_lostThen_27 : decode cX3_lostThen 27 = .ok (.iload_n 3, 1) := dk_29 (dk_at dksX3_lostThen_1 4 rfl rfl)
theorem dX3_lostThen_28 : decode cX3_lostThen 28 = .ok (.invokevirtual 127, 3) := dk_182 0 127 (dk_at dksX3_lostThen_1 5 rfl rfl)
theorem dX3_lostThen_31 : decode cX3_lostThen 31 = .ok (.ifCond .eq 9, 3) := dk_153 0 9 (dk_at dksX3_lostThen_1 8 rfl rfl)
theorem dX3_lostThen_34 : decode cX3_lostThen 34 = .ok (.iconst 1, 1) := dk_4 (dk_at dksX3_lostThen_1 11 rfl rfl)
theorem dX3_lostThen_35 : decode cX3_lostThen 35 = .ok (.iload_n 3, 1) := dk_29 (dk_at dksX3_lostThen_1 12 rfl rfl)
theorem dX3_lostThen_36 : decode cX3_lostThen 36 = .ok (.ishl, 1) := dk_120 (dk_at dksX3_lostThen_1 13 rfl rfl)
theorem dX3_lostThen_37 : decode cX3_lostThen 37 = .ok (.goto 4, 3) := dk_167 0 4 (dk_at dksX3_lostThen_1 14 rfl rfl)
theorem dX3_lostThen_40 : decode cX3_lostThen 40 = .ok (.iconst 0, 1) := dk_3 (dk_at dksX3_lostThen_1 17 rfl rfl)
theorem dX3_lostThen_41 : decode cX3_lostThen 41 = .ok (.ior, 1) := dk_128 (dk_at dksX3_lostThen_1 18 rfl rfl)
theorem dX3_lostThen_42 : decode cX3_lostThen 42 = .ok (.istore_n 1, 1) := dk_60 (dk_at dksX3_lostThen_1 19 rfl rfl)
theorem dX3_lostThen_43 : decode cX3_lostThen 43 = .ok (.iinc 2 1, 3) := dk_132 2 1 (dk_at dksX3_lostThen_1 20 rfl rfl)
theorem dX3_lostThen_46 : decode cX3_lostThen 46 = .ok (.goto (-42), 3) := dk_167 255 214 (dk_at dksX3_lostThen_2 0 rfl rfl)
theorem dX3_lostThen_49 : decode cX3_lostThen 49 = .ok (.iload_n 1, 1) := dk_27 (dk_at dksX3_lostThen_2 3 rfl rfl)
theorem dX3_lostThen_50 : decode cX3_lostThen 50 = .ok (.ireturn, 1) := dk_172 (dk_at dksX3_lostThen_2 4 rfl rfl)
abbrev cX3_isLostThen : ByteArray := prog_32_method_39_code
def yX3_isLostThen : MethodName := ⟨RX3, "isLostThen", "(I)Z"⟩
def dkwX3_isLostThen_5 : List UInt8 := [3, 62, 132, 4, 1, 167, 255, 182, 29, 172]
abbrev dktX3_isLostThen_5 : List UInt8 := dkwX3_isLostThen_5 ++ []
def dkwX3_isLostThen_4 : List UInt8 := [159, 0, 24, 21, 5, 27, 159, 0, 18, 21, 6, 42, 21, 5, 182, 0, 117, 163, 0, 7, 4, 167, 0, 4]
abbrev dktX3_isLostThen_4 : List UInt8 := dkwX3_isLostThen_4 ++ dktX3_isLostThen_5
def dkwX3_isLostThen_3 : List UInt8 := [164, 0, 10, 21, 4, 28, 100, 167, 0, 7, 28, 21, 4, 100, 54, 6, 29, 154, 0, 26, 21, 5, 2]
abbrev dktX3_isLostThen_3 : List UInt8 := dkwX3_isLostThen_3 ++ dktX3_isLostThen_4
def dkwX3_isLostThen_2 : List UInt8 := [54, 4, 21, 4, 16, 8, 162, 0, 73, 42, 180, 0, 9, 16, 41, 21, 4, 96, 46, 54, 5, 21, 4, 28]
abbrev dktX3_isLostThen_2 : List UInt8 := dkwX3_isLostThen_2 ++ dktX3_isLostThen_3
def dkwX3_isLostThen_1 : List UInt8 := [46, 104, 42, 180, 0, 9, 27, 184, 0, 72, 6, 96, 46, 164, 0, 7, 4, 167, 0, 4, 3, 62, 3]
abbrev dktX3_isLostThen_1 : List UInt8 := dkwX3_isLostThen_1 ++ dktX3_isLostThen_2
def dkwX3_isLostThen_0 : List UInt8 := [42, 180, 0, 9, 27, 184, 0, 72, 16, 8, 96, 46, 61, 5, 42, 180, 0, 9, 27, 184, 0, 72, 7, 96]
abbrev dktX3_isLostThen_0 : List UInt8 := dkwX3_isLostThen_0 ++ dktX3_isLostThen_1
theorem dksX3_isLostThen_0 : cX3_isLostThen.data.toList.drop 0 = dktX3_isLostThen_0 := by decide +kernel
theorem dksX3_isLostThen_1 : cX3_isLostThen.data.toList.drop 24 = dktX3_isLostThen_1 := dk_seg dksX3_isLostThen_0 24 rfl rfl
theorem dksX3_isLostThen_2 : cX3_isLostThen.data.toList.drop 47 = dktX3_isLostThen_2 := dk_seg dksX3_isLostThen_1 23 rfl rfl
theorem dksX3_isLostThen_3 : cX3_isLostThen.data.toList.drop 71 = dktX3_isLostThen_3 := dk_seg dksX3_isLostThen_2 24 rfl rfl
theorem dksX3_isLostThen_4 : cX3_isLostThen.data.toList.drop 94 = dktX3_isLostThen_4 := dk_seg dksX3_isLostThen_3 23 rfl rfl
theorem dksX3_isLostThen_5 : cX3_isLostThen.data.toList.drop 118 = dktX3_isLostThen_5 := dk_seg dksX3_isLostThen_4 24 rfl rfl
theorem dX3_isLostThen_0 : decode cX3_isLostThen 0 = .ok (.aload_n 0, 1) := dk_42 (dk_at dksX3_isLostThen_0 0 rfl rfl)
theorem dX3_isLostThen_1 : decode cX3_isLostThen 1 = .ok (.getfield 9, 3) := dk_180 0 9 (dk_at dksX3_isLostThen_0 1 rfl rfl)
theorem dX3_isLostThen_4 : decode cX3_isLostThen 4 = .ok (.iload_n 1, 1) := dk_27 (dk_at dksX3_isLostThen_0 4 rfl rfl)
theorem dX3_isLostThen_5 : decode cX3_isLostThen 5 = .ok (.invokestatic 72, 3) := dk_184 0 72 (dk_at dksX3_isLostThen_0 5 rfl rfl)
theorem dX3_isLostThen_8 : decode cX3_isLostThen 8 = .ok (.bipush 8, 2) := dk_16 8 (dk_at dksX3_isLostThen_0 8 rfl rfl)
theorem dX3_isLostThen_10 : decode cX3_isLostThen 10 = .ok (.iadd, 1) := dk_96 (dk_at dksX3_isLostThen_0 10 rfl rfl)
theorem dX3_isLostThen_11 : decode cX3_isLostThen 11 = .ok (.iaload, 1) := dk_46 (dk_at dksX3_isLostThen_0 11 rfl rfl)
theorem dX3_isLostThen_12 : decode cX3_isLostThen 12 = .ok (.istore_n 2, 1) := dk_61 (dk_at dksX3_isLostThen_0 12 rfl rfl)
theorem dX3_isLostThen_13 : decode cX3_isLostThen 13 = .ok (.iconst 2, 1) := dk_5 (dk_at dksX3_isLostThen_0 13 rfl rfl)
theorem dX3_isLostThen_14 : decode cX3_isLostThen 14 = .ok (.aload_n 0, 1) := dk_42 (dk_at dksX3_isLostThen_0 14 rfl rfl)
theorem dX3_isLostThen_15 : decode cX3_isLostThen 15 = .ok (.getfield 9, 3) := dk_180 0 9 (dk_at dksX3_isLostThen_0 15 rfl rfl)
theorem dX3_isLostThen_18 : decode cX3_isLostThen 18 = .ok (.iload_n 1, 1) := dk_27 (dk_at dksX3_isLostThen_0 18 rfl rfl)
theorem dX3_isLostThen_19 : decode cX3_isLostThen 19 = .ok (.invokestatic 72, 3) := dk_184 0 72 (dk_at dksX3_isLostThen_0 19 rfl rfl)
theorem dX3_isLostThen_22 : decode cX3_isLostThen 22 = .ok (.iconst 4, 1) := dk_7 (dk_at dksX3_isLostThen_0 22 rfl rfl)
theorem dX3_isLostThen_23 : decode cX3_isLostThen 23 = .ok (.iadd, 1) := dk_96 (dk_at dksX3_isLostThen_0 23 rfl rfl)
theorem dX3_isLostThen_24 : decode cX3_isLostThen 24 = .ok (.iaload, 1) := dk_46 (dk_at dksX3_isLostThen_1 0 rfl rfl)
theorem dX3_isLostThen_25 : decode cX3_isLostThen 25 = .ok (.imul, 1) := dk_104 (dk_at dksX3_isLostThen_1 1 rfl rfl)
theorem dX3_isLostThen_26 : decode cX3_isLostThen 26 = .ok (.aload_n 0, 1) := dk_42 (dk_at dksX3_isLostThen_1 2 rfl rfl)
theorem dX3_isLostThen_27 : decode cX3_isLostThen 27 = .ok (.getfield 9, 3) := dk_180 0 9 (dk_at dksX3_isLostThen_1 3 rfl rfl)
theorem dX3_isLostThen_30 : decode cX3_isLostThen 30 = .ok (.iload_n 1, 1) := dk_27 (dk_at dksX3_isLostThen_1 6 rfl rfl)
theorem dX3_isLostThen_31 : decode cX3_isLostThen 31 = .ok (.invokestatic 72, 3) := dk_184 0 72 (dk_at dksX3_isLostThen_1 7 rfl rfl)
theorem dX3_isLostThen_34 : decode cX3_isLostThen 34 = .ok (.iconst 3, 1) := dk_6 (dk_at dksX3_isLostThen_1 10 rfl rfl)
theorem dX3_isLostThen_35 : decode cX3_isLostThen 35 = .ok (.iadd, 1) := dk_96 (dk_at dksX3_isLostThen_1 11 rfl rfl)
theorem dX3_isLostThen_36 : decode cX3_isLostThen 36 = .ok (.iaload, 1) := dk_46 (dk_at dksX3_isLostThen_1 12 rfl rfl)
theorem dX3_isLostThen_37 : decode cX3_isLostThen 37 = .ok (.if_icmp .le 7, 3) := dk_164 0 7 (dk_at dksX3_isLostThen_1 13 rfl rfl)
theorem dX3_isLostThen_40 : decode cX3_isLostThen 40 = .ok (.iconst 1, 1) := dk_4 (dk_at dksX3_isLostThen_1 16 rfl rfl)
theorem dX3_isLostThen_41 : decode cX3_isLostThen 41 = .ok (.goto 4, 3) := dk_167 0 4 (dk_at dksX3_isLostThen_1 17 rfl rfl)
theorem dX3_isLostThen_44 : decode cX3_isLostThen 44 = .ok (.iconst 0, 1) := dk_3 (dk_at dksX3_isLostThen_1 20 rfl rfl)
theorem dX3_isLostThen_45 : decode cX3_isLostThen 45 = .ok (.istore_n 3, 1) := dk_62 (dk_at dksX3_isLostThen_1 21 rfl rfl)
theorem dX3_isLostThen_46 : decode cX3_isLostThen 46 = .ok (.iconst 0, 1) := dk_3 (dk_at dksX3_isLostThen_1 22 rfl rfl)
theorem dX3_isLostThen_47 : decode cX3_isLostThen 47 = .ok (.istore 4, 2) := dk_54 4 (dk_at dksX3_isLostThen_2 0 rfl rfl)
theorem dX3_isLostThen_49 : decode cX3_isLostThen 49 = .ok (.iload 4, 2) := dk_21 4 (dk_at dksX3_isLostThen_2 2 rfl rfl)
theorem dX3_isLostThen_51 : decode cX3_isLostThen 51 = .ok (.bipush 8, 2) := dk_16 8 (dk_at dksX3_isLostThen_2 4 rfl rfl)
theorem dX3_isLostThen_53 : decode cX3_isLostThen 53 = .ok (.if_icmp .ge 73, 3) := dk_162 0 73 (dk_at dksX3_isLostThen_2 6 rfl rfl)
theorem dX3_isLostThen_56 : decode cX3_isLostThen 56 = .ok (.aload_n 0, 1) := dk_42 (dk_at dksX3_isLostThen_2 9 rfl rfl)
theorem dX3_isLostThen_57 : decode cX3_isLostThen 57 = .ok (.getfield 9, 3) := dk_180 0 9 (dk_at dksX3_isLostThen_2 10 rfl rfl)
theorem dX3_isLostThen_60 : decode cX3_isLostThen 60 = .ok (.bipush 41, 2) := dk_16 41 (dk_at dksX3_isLostThen_2 13 rfl rfl)
theorem dX3_isLostThen_62 : decode cX3_isLostThen 62 = .ok (.iload 4, 2) := dk_21 4 (dk_at dksX3_isLostThen_2 15 rfl rfl)
theorem dX3_isLostThen_64 : decode cX3_isLostThen 64 = .ok (.iadd, 1) := dk_96 (dk_at dksX3_isLostThen_2 17 rfl rfl)
theorem dX3_isLostThen_65 : decode cX3_isLostThen 65 = .ok (.iaload, 1) := dk_46 (dk_at dksX3_isLostThen_2 18 rfl rfl)
theorem dX3_isLostThen_66 : decode cX3_isLostThen 66 = .ok (.istore 5, 2) := dk_54 5 (dk_at dksX3_isLostThen_2 19 rfl rfl)
theorem dX3_isLostThen_68 : decode cX3_isLostThen 68 = .ok (.iload 4, 2) := dk_21 4 (dk_at dksX3_isLostThen_2 21 rfl rfl)
theorem dX3_isLostThen_70 : decode cX3_isLostThen 70 = .ok (.iload_n 2, 1) := dk_28 (dk_at dksX3_isLostThen_2 23 rfl rfl)
theorem dX3_isLostThen_71 : decode cX3_isLostThen 71 = .ok (.if_icmp .le 10, 3) := dk_164 0 10 (dk_at dksX3_isLostThen_3 0 rfl rfl)
theorem dX3_isLostThen_74 : decode cX3_isLostThen 74 = .ok (.iload 4, 2) := dk_21 4 (dk_at dksX3_isLostThen_3 3 rfl rfl)
theorem dX3_isLostThen_76 : decode cX3_isLostThen 76 = .ok (.iload_n 2, 1) := dk_28 (dk_at dksX3_isLostThen_3 5 rfl rfl)
theorem dX3_isLostThen_77 : decode cX3_isLostThen 77 = .ok (.isub, 1) := dk_100 (dk_at dksX3_isLostThen_3 6 rfl rfl)
theorem dX3_isLostThen_78 : decode cX3_isLostThen 78 = .ok (.goto 7, 3) := dk_167 0 7 (dk_at dksX3_isLostThen_3 7 rfl rfl)
theorem dX3_isLostThen_81 : decode cX3_isLostThen 81 = .ok (.iload_n 2, 1) := dk_28 (dk_at dksX3_isLostThen_3 10 rfl rfl)
theorem dX3_isLostThen_82 : decode cX3_isLostThen 82 = .ok (.iload 4, 2) := dk_21 4 (dk_at dksX3_isLostThen_3 11 rfl rfl)
theorem dX3_isLostThen_84 : decode cX3_isLostThen 84 = .ok (.isub, 1) := dk_100 (dk_at dksX3_isLostThen_3 13 rfl rfl)
theorem dX3_isLostThen_85 : decode cX3_isLostThen 85 = .ok (.istore 6, 2) := dk_54 6 (dk_at dksX3_isLostThen_3 14 rfl rfl)
theorem dX3_isLostThen_87 : decode cX3_isLostThen 87 = .ok (.iload_n 3, 1) := dk_29 (dk_at dksX3_isLostThen_3 16 rfl rfl)
theorem dX3_isLostThen_88 : decode cX3_isLostThen 88 = .ok (.ifCond .ne 26, 3) := dk_154 0 26 (dk_at dksX3_isLostThen_3 17 rfl rfl)
theorem dX3_isLostThen_91 : decode cX3_isLostThen 91 = .ok (.iload 5, 2) := dk_21 5 (dk_at dksX3_isLostThen_3 20 rfl rfl)
theorem dX3_isLostThen_93 : decode cX3_isLostThen 93 = .ok (.iconst (-1), 1) := dk_2 (dk_at dksX3_isLostThen_3 22 rfl rfl)
theorem dX3_isLostThen_94 : decode cX3_isLostThen 94 = .ok (.if_icmp .eq 24, 3) := dk_159 0 24 (dk_at dksX3_isLostThen_4 0 rfl rfl)
theorem dX3_isLostThen_97 : decode cX3_isLostThen 97 = .ok (.iload 5, 2) := dk_21 5 (dk_at dksX3_isLostThen_4 3 rfl rfl)
theorem dX3_isLostThen_99 : decode cX3_isLostThen 99 = .ok (.iload_n 1, 1) := dk_27 (dk_at dksX3_isLostThen_4 5 rfl rfl)
theorem dX3_isLostThen_100 : decode cX3_isLostThen 100 = .ok (.if_icmp .eq 18, 3) := dk_159 0 18 (dk_at dksX3_isLostThen_4 6 rfl rfl)
theorem dX3_isLostThen_103 : decode cX3_isLostThen 103 = .ok (.iload 6, 2) := dk_21 6 (dk_at dksX3_isLostThen_4 9 rfl rfl)
theorem dX3_isLostThen_105 : decode cX3_isLostThen 105 = .ok (.aload_n 0, 1) := dk_42 (dk_at dksX3_isLostThen_4 11 rfl rfl)
theorem dX3_isLostThen_106 : decode cX3_isLostThen 106 = .ok (.iload 5, 2) := dk_21 5 (dk_at dksX3_isLostThen_4 12 rfl rfl)
theorem dX3_isLostThen_108 : decode cX3_isLostThen 108 = .ok (.invokevirtual 117, 3) := dk_182 0 117 (dk_at dksX3_isLostThen_4 14 rfl rfl)
theorem dX3_isLostThen_111 : decode cX3_isLostThen 111 = .ok (.if_icmp .gt 7, 3) := dk_163 0 7 (dk_at dksX3_isLostThen_4 17 rfl rfl)
theorem dX3_isLostThen_114 : decode cX3_isLostThen 114 = .ok (.iconst 1, 1) := dk_4 (dk_at dksX3_isLostThen_4 20 rfl rfl)
theorem dX3_isLostThen_115 : decode cX3_isLostThen 115 = .ok (.goto 4, 3) := dk_167 0 4 (dk_at dksX3_isLostThen_4 21 rfl rfl)
theorem dX3_isLostThen_118 : decode cX3_isLostThen 118 = .ok (.iconst 0, 1) := dk_3 (dk_at dksX3_isLostThen_5 0 rfl rfl)
theorem dX3_isLostThen_119 : decode cX3_isLostThen 119 = .ok (.istore_n 3, 1) := dk_62 (dk_at dksX3_isLostThen_5 1 rfl rfl)
theorem dX3_isLostThen_120 : decode cX3_isLostThen 120 = .ok (.iinc 4 1, 3) := dk_132 4 1 (dk_at dksX3_isLostThen_5 2 rfl rfl)
theorem dX3_isLostThen_123 : decode cX3_isLostThen 123 = .ok (.goto (-74), 3) := dk_167 255 182 (dk_at dksX3_isLostThen_5 5 rfl rfl)
theorem dX3_isLostThen_126 : decode cX3_isLostThen 126 = .ok (.iload_n 3, 1) := dk_29 (dk_at dksX3_isLostThen_5 8 rfl rfl)
theorem dX3_isLostThen_127 : decode cX3_isLostThen 127 = .ok (.ireturn, 1) := dk_172 (dk_at dksX3_isLostThen_5 9 rfl rfl)
abbrev cX3_soldThen : ByteArray := prog_32_method_45_code
def yX3_soldThen : MethodName := ⟨RX3, "soldThen", "()I"⟩
def dkwX3_soldThen_1 : List UInt8 := [180, 0, 9, 3, 184, 0, 47, 27, 172]
abbrev dktX3_soldThen_1 : List UInt8 := dkwX3_soldThen_1 ++ []
def dkwX3_soldThen_0 : List UInt8 := [42, 180, 0, 9, 3, 42, 180, 0, 19, 3, 184, 0, 47, 42, 182, 0, 142, 60, 42, 180, 0, 19, 3, 42]
abbrev dktX3_soldThen_0 : List UInt8 := dkwX3_soldThen_0 ++ dktX3_soldThen_1
theorem dksX3_soldThen_0 : cX3_soldThen.data.toList.drop 0 = dktX3_soldThen_0 := by decide +kernel
theorem dksX3_soldThen_1 : cX3_soldThen.data.toList.drop 24 = dktX3_soldThen_1 := dk_seg dksX3_soldThen_0 24 rfl rfl
theorem dX3_soldThen_0 : decode cX3_soldThen 0 = .ok (.aload_n 0, 1) := dk_42 (dk_at dksX3_soldThen_0 0 rfl rfl)
theorem dX3_soldThen_1 : decode cX3_soldThen 1 = .ok (.getfield 9, 3) := dk_180 0 9 (dk_at dksX3_soldThen_0 1 rfl rfl)
theorem dX3_soldThen_4 : decode cX3_soldThen 4 = .ok (.iconst 0, 1) := dk_3 (dk_at dksX3_soldThen_0 4 rfl rfl)
theorem dX3_soldThen_5 : decode cX3_soldThen 5 = .ok (.aload_n 0, 1) := dk_42 (dk_at dksX3_soldThen_0 5 rfl rfl)
theorem dX3_soldThen_6 : decode cX3_soldThen 6 = .ok (.getfield 19, 3) := dk_180 0 19 (dk_at dksX3_soldThen_0 6 rfl rfl)
theorem dX3_soldThen_9 : decode cX3_soldThen 9 = .ok (.iconst 0, 1) := dk_3 (dk_at dksX3_soldThen_0 9 rfl rfl)
theorem dX3_soldThen_10 : decode cX3_soldThen 10 = .ok (.invokestatic 47, 3) := dk_184 0 47 (dk_at dksX3_soldThen_0 10 rfl rfl)
theorem dX3_soldThen_13 : decode cX3_soldThen 13 = .ok (.aload_n 0, 1) := dk_42 (dk_at dksX3_soldThen_0 13 rfl rfl)
theorem dX3_soldThen_14 : decode cX3_soldThen 14 = .ok (.invokevirtual 142, 3) := dk_182 0 142 (dk_at dksX3_soldThen_0 14 rfl rfl)
theorem dX3_soldThen_17 : decode cX3_soldThen 17 = .ok (.istore_n 1, 1) := dk_60 (dk_at dksX3_soldThen_0 17 rfl rfl)
theorem dX3_soldThen_18 : decode cX3_soldThen 18 = .ok (.aload_n 0, 1) := dk_42 (dk_at dksX3_soldThen_0 18 rfl rfl)
theorem dX3_soldThen_19 : decode cX3_soldThen 19 = .ok (.getfield 19, 3) := dk_180 0 19 (dk_at dksX3_soldThen_0 19 rfl rfl)
theorem dX3_soldThen_22 : decode cX3_soldThen 22 = .ok (.iconst 0, 1) := dk_3 (dk_at dksX3_soldThen_0 22 rfl rfl)
theorem dX3_soldThen_23 : decode cX3_soldThen 23 = .ok (.aload_n 0, 1) := dk_42 (dk_at dksX3_soldThen_0 23 rfl rfl)
theorem dX3_soldThen_24 : decode cX3_soldThen 24 = .ok (.getfield 9, 3) := dk_180 0 9 (dk_at dksX3_soldThen_1 0 rfl rfl)
theorem dX3_soldThen_27 : decode cX3_soldThen 27 = .ok (.iconst 0, 1) := dk_3 (dk_at dksX3_soldThen_1 3 rfl rfl)
theorem dX3_soldThen_28 : decode cX3_soldThen 28 = .ok (.invokestatic 47, 3) := dk_184 0 47 (dk_at dksX3_soldThen_1 4 rfl rfl)
theorem dX3_soldThen_31 : decode cX3_soldThen 31 = .ok (.iload_n 1, 1) := dk_27 (dk_at dksX3_soldThen_1 7 rfl rfl)
theorem dX3_soldThen_32 : decode cX3_soldThen 32 = .ok (.ireturn, 1) := dk_172 (dk_at dksX3_soldThen_1 8 rfl rfl)
abbrev cX3_fires : ByteArray := prog_32_method_44_code
def yX3_fires : MethodName := ⟨RX3, "fires", "()I"⟩
def dkwX3_fires_10 : List UInt8 := [132, 4, 1, 167, 255, 85, 29, 172]
abbrev dktX3_fires_10 : List UInt8 := dkwX3_fires_10 ++ []
def dkwX3_fires_9 : List UInt8 := [17, 1, 2, 16, 6, 21, 5, 104, 96, 8, 96, 92, 46, 4, 100, 79, 29, 4, 21, 4, 120, 128, 62]
abbrev dktX3_fires_9 : List UInt8 := dkwX3_fires_9 ++ dktX3_fires_10
def dkwX3_fires_8 : List UInt8 := [16, 6, 79, 42, 180, 0, 9, 21, 4, 184, 0, 72, 16, 10, 96, 21, 5, 79, 42, 180, 0, 9]
abbrev dktX3_fires_8 : List UInt8 := dkwX3_fires_8 ++ dktX3_fires_9
def dkwX3_fires_7 : List UInt8 := [167, 0, 4, 2, 54, 5, 21, 5, 2, 159, 0, 59, 42, 180, 0, 9, 21, 4, 184, 0, 72, 3, 96]
abbrev dktX3_fires_7 : List UInt8 := dkwX3_fires_7 ++ dktX3_fires_8
def dkwX3_fires_6 : List UInt8 := [160, 0, 27, 42, 180, 0, 9, 21, 4, 184, 0, 72, 7, 96, 46, 154, 0, 12, 42, 21, 4, 182, 0, 139]
abbrev dktX3_fires_6 : List UInt8 := dkwX3_fires_6 ++ dktX3_fires_7
def dkwX3_fires_5 : List UInt8 := [160, 0, 8, 16, 7, 167, 0, 4, 8, 79, 42, 180, 0, 9, 21, 4, 184, 0, 72, 3, 96, 46, 8]
abbrev dktX3_fires_5 : List UInt8 := dkwX3_fires_5 ++ dktX3_fires_6
def dkwX3_fires_4 : List UInt8 := [16, 8, 96, 2, 79, 42, 180, 0, 9, 21, 4, 184, 0, 72, 3, 96, 27, 21, 4, 122, 4, 126, 4]
abbrev dktX3_fires_4 : List UInt8 := dkwX3_fires_4 ++ dktX3_fires_5
def dkwX3_fires_3 : List UInt8 := [46, 162, 0, 166, 28, 21, 4, 122, 4, 126, 4, 160, 0, 150, 42, 180, 0, 9, 21, 4, 184, 0, 72]
abbrev dktX3_fires_3 : List UInt8 := dkwX3_fires_3 ++ dktX3_fires_4
def dkwX3_fires_2 : List UInt8 := [180, 0, 9, 3, 46, 42, 180, 0, 9, 16, 9, 46, 96, 79, 3, 54, 4, 21, 4, 42, 180, 0, 9, 5]
abbrev dktX3_fires_2 : List UInt8 := dkwX3_fires_2 ++ dktX3_fires_3
def dkwX3_fires_1 : List UInt8 := [180, 0, 9, 16, 41, 21, 4, 96, 2, 79, 132, 4, 1, 167, 255, 235, 42, 180, 0, 9, 16, 49, 42]
abbrev dktX3_fires_1 : List UInt8 := dkwX3_fires_1 ++ dktX3_fires_2
def dkwX3_fires_0 : List UInt8 := [42, 182, 0, 133, 60, 42, 182, 0, 136, 61, 3, 62, 3, 54, 4, 21, 4, 16, 8, 162, 0, 20, 42]
abbrev dktX3_fires_0 : List UInt8 := dkwX3_fires_0 ++ dktX3_fires_1
theorem dksX3_fires_0 : cX3_fires.data.toList.drop 0 = dktX3_fires_0 := by decide +kernel
theorem dksX3_fires_1 : cX3_fires.data.toList.drop 23 = dktX3_fires_1 := dk_seg dksX3_fires_0 23 rfl rfl
theorem dksX3_fires_2 : cX3_fires.data.toList.drop 46 = dktX3_fires_2 := dk_seg dksX3_fires_1 23 rfl rfl
theorem dksX3_fires_3 : cX3_fires.data.toList.drop 70 = dktX3_fires_3 := dk_seg dksX3_fires_2 24 rfl rfl
theorem dksX3_fires_4 : cX3_fires.data.toList.drop 93 = dktX3_fires_4 := dk_seg dksX3_fires_3 23 rfl rfl
theorem dksX3_fires_5 : cX3_fires.data.toList.drop 116 = dktX3_fires_5 := dk_seg dksX3_fires_4 23 rfl rfl
theorem dksX3_fires_6 : cX3_fires.data.toList.drop 139 = dktX3_fires_6 := dk_seg dksX3_fires_5 23 rfl rfl
theorem dksX3_fires_7 : cX3_fires.data.toList.drop 163 = dktX3_fires_7 := dk_seg dksX3_fires_6 24 rfl rfl
theorem dksX3_fires_8 : cX3_fires.data.toList.drop 186 = dktX3_fires_8 := dk_seg dksX3_fires_7 23 rfl rfl
theorem dksX3_fires_9 : cX3_fires.data.toList.drop 208 = dktX3_fires_9 := dk_seg dksX3_fires_8 22 rfl rfl
theorem dksX3_fires_10 : cX3_fires.data.toList.drop 231 = dktX3_fires_10 := dk_seg dksX3_fires_9 23 rfl rfl
theorem dX3_fires_0 : decode cX3_fires 0 = .ok (.aload_n 0, 1) := dk_42 (dk_at dksX3_fires_0 0 rfl rfl)
theorem dX3_fires_1 : decode cX3_fires 1 = .ok (.invokevirtual 133, 3) := dk_182 0 133 (dk_at dksX3_fires_0 1 rfl rfl)
theorem dX3_fires_4 : decode cX3_fires 4 = .ok (.istore_n 1, 1) := dk_60 (dk_at dksX3_fires_0 4 rfl rfl)
theorem dX3_fires_5 : decode cX3_fires 5 = .ok (.aload_n 0, 1) := dk_42 (dk_at dksX3_fires_0 5 rfl rfl)
theorem dX3_fires_6 : decode cX3_fires 6 = .ok (.invokevirtual 136, 3) := dk_182 0 136 (dk_at dksX3_fires_0 6 rfl rfl)
theorem dX3_fires_9 : decode cX3_fires 9 = .ok (.istore_n 2, 1) := dk_61 (dk_at dksX3_fires_0 9 rfl rfl)
theorem dX3_fires_10 : decode cX3_fires 10 = .ok (.iconst 0, 1) := dk_3 (dk_at dksX3_fires_0 10 rfl rfl)
theorem dX3_fires_11 : decode cX3_fires 11 = .ok (.istore_n 3, 1) := dk_62 (dk_at dksX3_fires_0 11 rfl rfl)
theorem dX3_fires_12 : decode cX3_fires 12 = .ok (.iconst 0, 1) := dk_3 (dk_at dksX3_fires_0 12 rfl rfl)
theorem dX3_fires_13 : decode cX3_fires 13 = .ok (.istore 4, 2) := dk_54 4 (dk_at dksX3_fires_0 13 rfl rfl)
theorem dX3_fires_15 : decode cX3_fires 15 = .ok (.iload 4, 2) := dk_21 4 (dk_at dksX3_fires_0 15 rfl rfl)
theorem dX3_fires_17 : decode cX3_fires 17 = .ok (.bipush 8, 2) := dk_16 8 (dk_at dksX3_fires_0 17 rfl rfl)
theorem dX3_fires_19 : decode cX3_fires 19 = .ok (.if_icmp .ge 20, 3) := dk_162 0 20 (dk_at dksX3_fires_0 19 rfl rfl)
theorem dX3_fires_22 : decode cX3_fires 22 = .ok (.aload_n 0, 1) := dk_42 (dk_at dksX3_fires_0 22 rfl rfl)
theorem dX3_fires_23 : decode cX3_fires 23 = .ok (.getfield 9, 3) := dk_180 0 9 (dk_at dksX3_fires_1 0 rfl rfl)
theorem dX3_fires_26 : decode cX3_fires 26 = .ok (.bipush 41, 2) := dk_16 41 (dk_at dksX3_fires_1 3 rfl rfl)
theorem dX3_fires_28 : decode cX3_fires 28 = .ok (.iload 4, 2) := dk_21 4 (dk_at dksX3_fires_1 5 rfl rfl)
theorem dX3_fires_30 : decode cX3_fires 30 = .ok (.iadd, 1) := dk_96 (dk_at dksX3_fires_1 7 rfl rfl)
theorem dX3_fires_31 : decode cX3_fires 31 = .ok (.iconst (-1), 1) := dk_2 (dk_at dksX3_fires_1 8 rfl rfl)
theorem dX3_fires_32 : decode cX3_fires 32 = .ok (.iastore, 1) := dk_79 (dk_at dksX3_fires_1 9 rfl rfl)
theorem dX3_fires_33 : decode cX3_fires 33 = .ok (.iinc 4 1, 3) := dk_132 4 1 (dk_at dksX3_fires_1 10 rfl rfl)
theorem dX3_fires_36 : decode cX3_fires 36 = .ok (.goto (-21), 3) := dk_167 255 235 (dk_at dksX3_fires_1 13 rfl rfl)
theorem dX3_fires_39 : decode cX3_fires 39 = .ok (.aload_n 0, 1) := dk_42 (dk_at dksX3_fires_1 16 rfl rfl)
theorem dX3_fires_40 : decode cX3_fires 40 = .ok (.getfield 9, 3) := dk_180 0 9 (dk_at dksX3_fires_1 17 rfl rfl)
theorem dX3_fires_43 : decode cX3_fires 43 = .ok (.bipush 49, 2) := dk_16 49 (dk_at dksX3_fires_1 20 rfl rfl)
theorem dX3_fires_45 : decode cX3_fires 45 = .ok (.aload_n 0, 1) := dk_42 (dk_at dksX3_fires_1 22 rfl rfl)
theorem dX3_fires_46 : decode cX3_fires 46 = .ok (.getfield 9, 3) := dk_180 0 9 (dk_at dksX3_fires_2 0 rfl rfl)
theorem dX3_fires_49 : decode cX3_fires 49 = .ok (.iconst 0, 1) := dk_3 (dk_at dksX3_fires_2 3 rfl rfl)
theorem dX3_fires_50 : decode cX3_fires 50 = .ok (.iaload, 1) := dk_46 (dk_at dksX3_fires_2 4 rfl rfl)
theorem dX3_fires_51 : decode cX3_fires 51 = .ok (.aload_n 0, 1) := dk_42 (dk_at dksX3_fires_2 5 rfl rfl)
theorem dX3_fires_52 : decode cX3_fires 52 = .ok (.getfield 9, 3) := dk_180 0 9 (dk_at dksX3_fires_2 6 rfl rfl)
theorem dX3_fires_55 : decode cX3_fires 55 = .ok (.bipush 9, 2) := dk_16 9 (dk_at dksX3_fires_2 9 rfl rfl)
theorem dX3_fires_57 : decode cX3_fires 57 = .ok (.iaload, 1) := dk_46 (dk_at dksX3_fires_2 11 rfl rfl)
theorem dX3_fires_58 : decode cX3_fires 58 = .ok (.iadd, 1) := dk_96 (dk_at dksX3_fires_2 12 rfl rfl)
theorem dX3_fires_59 : decode cX3_fires 59 = .ok (.iastore, 1) := dk_79 (dk_at dksX3_fires_2 13 rfl rfl)
theorem dX3_fires_60 : decode cX3_fires 60 = .ok (.iconst 0, 1) := dk_3 (dk_at dksX3_fires_2 14 rfl rfl)
theorem dX3_fires_61 : decode cX3_fires 61 = .ok (.istore 4, 2) := dk_54 4 (dk_at dksX3_fires_2 15 rfl rfl)
theorem dX3_fires_63 : decode cX3_fires 63 = .ok (.iload 4, 2) := dk_21 4 (dk_at dksX3_fires_2 17 rfl rfl)
theorem dX3_fires_65 : decode cX3_fires 65 = .ok (.aload_n 0, 1) := dk_42 (dk_at dksX3_fires_2 19 rfl rfl)
theorem dX3_fires_66 : decode cX3_fires 66 = .ok (.getfield 9, 3) := dk_180 0 9 (dk_at dksX3_fires_2 20 rfl rfl)
theorem dX3_fires_69 : decode cX3_fires 69 = .ok (.iconst 2, 1) := dk_5 (dk_at dksX3_fires_2 23 rfl rfl)
theorem dX3_fires_70 : decode cX3_fires 70 = .ok (.iaload, 1) := dk_46 (dk_at dksX3_fires_3 0 rfl rfl)
theorem dX3_fires_71 : decode cX3_fires 71 = .ok (.if_icmp .ge 166, 3) := dk_162 0 166 (dk_at dksX3_fires_3 1 rfl rfl)
theorem dX3_fires_74 : decode cX3_fires 74 = .ok (.iload_n 2, 1) := dk_28 (dk_at dksX3_fires_3 4 rfl rfl)
theorem dX3_fires_75 : decode cX3_fires 75 = .ok (.iload 4, 2) := dk_21 4 (dk_at dksX3_fires_3 5 rfl rfl)
theorem dX3_fires_77 : decode cX3_fires 77 = .ok (.ishr, 1) := dk_122 (dk_at dksX3_fires_3 7 rfl rfl)
theorem dX3_fires_78 : decode cX3_fires 78 = .ok (.iconst 1, 1) := dk_4 (dk_at dksX3_fires_3 8 rfl rfl)
theorem dX3_fires_79 : decode cX3_fires 79 = .ok (.iand, 1) := dk_126 (dk_at dksX3_fires_3 9 rfl rfl)
theorem dX3_fires_80 : decode cX3_fires 80 = .ok (.iconst 1, 1) := dk_4 (dk_at dksX3_fires_3 10 rfl rfl)
theorem dX3_fires_81 : decode cX3_fires 81 = .ok (.if_icmp .ne 150, 3) := dk_160 0 150 (dk_at dksX3_fires_3 11 rfl rfl)
theorem dX3_fires_84 : decode cX3_fires 84 = .ok (.aload_n 0, 1) := dk_42 (dk_at dksX3_fires_3 14 rfl rfl)
theorem dX3_fires_85 : decode cX3_fires 85 = .ok (.getfield 9, 3) := dk_180 0 9 (dk_at dksX3_fires_3 15 rfl rfl)
theorem dX3_fires_88 : decode cX3_fires 88 = .ok (.iload 4, 2) := dk_21 4 (dk_at dksX3_fires_3 18 rfl rfl)
theorem dX3_fires_90 : decode cX3_fires 90 = .ok (.invokestatic 72, 3) := dk_184 0 72 (dk_at dksX3_fires_3 20 rfl rfl)
theorem dX3_fires_93 : decode cX3_fires 93 = .ok (.bipush 8, 2) := dk_16 8 (dk_at dksX3_fires_4 0 rfl rfl)
theorem dX3_fires_95 : decode cX3_fires 95 = .ok (.iadd, 1) := dk_96 (dk_at dksX3_fires_4 2 rfl rfl)
theorem dX3_fires_96 : decode cX3_fires 96 = .ok (.iconst (-1), 1) := dk_2 (dk_at dksX3_fires_4 3 rfl rfl)
theorem dX3_fires_97 : decode cX3_fires 97 = .ok (.iastore, 1) := dk_79 (dk_at dksX3_fires_4 4 rfl rfl)
theorem dX3_fires_98 : decode cX3_fires 98 = .ok (.aload_n 0, 1) := dk_42 (dk_at dksX3_fires_4 5 rfl rfl)
theorem dX3_fires_99 : decode cX3_fires 99 = .ok (.getfield 9, 3) := dk_180 0 9 (dk_at dksX3_fires_4 6 rfl rfl)
theorem dX3_fires_102 : decode cX3_fires 102 = .ok (.iload 4, 2) := dk_21 4 (dk_at dksX3_fires_4 9 rfl rfl)
theorem dX3_fires_104 : decode cX3_fires 104 = .ok (.invokestatic 72, 3) := dk_184 0 72 (dk_at dksX3_fires_4 11 rfl rfl)
theorem dX3_fires_107 : decode cX3_fires 107 = .ok (.iconst 0, 1) := dk_3 (dk_at dksX3_fires_4 14 rfl rfl)
theorem dX3_fires_108 : decode cX3_fires 108 = .ok (.iadd, 1) := dk_96 (dk_at dksX3_fires_4 15 rfl rfl)
theorem dX3_fires_109 : decode cX3_fires 109 = .ok (.iload_n 1, 1) := dk_27 (dk_at dksX3_fires_4 16 rfl rfl)
theorem dX3_fires_110 : decode cX3_fires 110 = .ok (.iload 4, 2) := dk_21 4 (dk_at dksX3_fires_4 17 rfl rfl)
theorem dX3_fires_112 : decode cX3_fires 112 = .ok (.ishr, 1) := dk_122 (dk_at dksX3_fires_4 19 rfl rfl)
theorem dX3_fires_113 : decode cX3_fires 113 = .ok (.iconst 1, 1) := dk_4 (dk_at dksX3_fires_4 20 rfl rfl)
theorem dX3_fires_114 : decode cX3_fires 114 = .ok (.iand, 1) := dk_126 (dk_at dksX3_fires_4 21 rfl rfl)
theorem dX3_fires_115 : decode cX3_fires 115 = .ok (.iconst 1, 1) := dk_4 (dk_at dksX3_fires_4 22 rfl rfl)
theorem dX3_fires_116 : decode cX3_fires 116 = .ok (.if_icmp .ne 8, 3) := dk_160 0 8 (dk_at dksX3_fires_5 0 rfl rfl)
theorem dX3_fires_119 : decode cX3_fires 119 = .ok (.bipush 7, 2) := dk_16 7 (dk_at dksX3_fires_5 3 rfl rfl)
theorem dX3_fires_121 : decode cX3_fires 121 = .ok (.goto 4, 3) := dk_167 0 4 (dk_at dksX3_fires_5 5 rfl rfl)
theorem dX3_fires_124 : decode cX3_fires 124 = .ok (.iconst 5, 1) := dk_8 (dk_at dksX3_fires_5 8 rfl rfl)
theorem dX3_fires_125 : decode cX3_fires 125 = .ok (.iastore, 1) := dk_79 (dk_at dksX3_fires_5 9 rfl rfl)
theorem dX3_fires_126 : decode cX3_fires 126 = .ok (.aload_n 0, 1) := dk_42 (dk_at dksX3_fires_5 10 rfl rfl)
theorem dX3_fires_127 : decode cX3_fires 127 = .ok (.getfield 9, 3) := dk_180 0 9 (dk_at dksX3_fires_5 11 rfl rfl)
theorem dX3_fires_130 : decode cX3_fires 130 = .ok (.iload 4, 2) := dk_21 4 (dk_at dksX3_fires_5 14 rfl rfl)
theorem dX3_fires_132 : decode cX3_fires 132 = .ok (.invokestatic 72, 3) := dk_184 0 72 (dk_at dksX3_fires_5 16 rfl rfl)
theorem dX3_fires_135 : decode cX3_fires 135 = .ok (.iconst 0, 1) := dk_3 (dk_at dksX3_fires_5 19 rfl rfl)
theorem dX3_fires_136 : decode cX3_fires 136 = .ok (.iadd, 1) := dk_96 (dk_at dksX3_fires_5 20 rfl rfl)
theorem dX3_fires_137 : decode cX3_fires 137 = .ok (.iaload, 1) := dk_46 (dk_at dksX3_fires_5 21 rfl rfl)
theorem dX3_fires_138 : decode cX3_fires 138 = .ok (.iconst 5, 1) := dk_8 (dk_at dksX3_fires_5 22 rfl rfl)
theorem dX3_fires_139 : decode cX3_fires 139 = .ok (.if_icmp .ne 27, 3) := dk_160 0 27 (dk_at dksX3_fires_6 0 rfl rfl)
theorem dX3_fires_142 : decode cX3_fires 142 = .ok (.aload_n 0, 1) := dk_42 (dk_at dksX3_fires_6 3 rfl rfl)
theorem dX3_fires_143 : decode cX3_fires 143 = .ok (.getfield 9, 3) := dk_180 0 9 (dk_at dksX3_fires_6 4 rfl rfl)
theorem dX3_fires_146 : decode cX3_fires 146 = .ok (.iload 4, 2) := dk_21 4 (dk_at dksX3_fires_6 7 rfl rfl)
theorem dX3_fires_148 : decode cX3_fires 148 = .ok (.invokestatic 72, 3) := dk_184 0 72 (dk_at dksX3_fires_6 9 rfl rfl)
theorem dX3_fires_151 : decode cX3_fires 151 = .ok (.iconst 4, 1) := dk_7 (dk_at dksX3_fires_6 12 rfl rfl)
theorem dX3_fires_152 : decode cX3_fires 152 = .ok (.iadd, 1) := dk_96 (dk_at dksX3_fires_6 13 rfl rfl)
theorem dX3_fires_153 : decode cX3_fires 153 = .ok (.iaload, 1) := dk_46 (dk_at dksX3_fires_6 14 rfl rfl)
theorem dX3_fires_154 : decode cX3_fires 154 = .ok (.ifCond .ne 12, 3) := dk_154 0 12 (dk_at dksX3_fires_6 15 rfl rfl)
theorem dX3_fires_157 : decode cX3_fires 157 = .ok (.aload_n 0, 1) := dk_42 (dk_at dksX3_fires_6 18 rfl rfl)
theorem dX3_fires_158 : decode cX3_fires 158 = .ok (.iload 4, 2) := dk_21 4 (dk_at dksX3_fires_6 19 rfl rfl)
theorem dX3_fires_160 : decode cX3_fires 160 = .ok (.invokevirtual 139, 3) := dk_182 0 139 (dk_at dksX3_fires_6 21 rfl rfl)
theorem dX3_fires_163 : decode cX3_fires 163 = .ok (.goto 4, 3) := dk_167 0 4 (dk_at dksX3_fires_7 0 rfl rfl)
theorem dX3_fires_166 : decode cX3_fires 166 = .ok (.iconst (-1), 1) := dk_2 (dk_at dksX3_fires_7 3 rfl rfl)
theorem dX3_fires_167 : decode cX3_fires 167 = .ok (.istore 5, 2) := dk_54 5 (dk_at dksX3_fires_7 4 rfl rfl)
theorem dX3_fires_169 : decode cX3_fires 169 = .ok (.iload 5, 2) := dk_21 5 (dk_at dksX3_fires_7 6 rfl rfl)
theorem dX3_fires_171 : decode cX3_fires 171 = .ok (.iconst (-1), 1) := dk_2 (dk_at dksX3_fires_7 8 rfl rfl)
theorem dX3_fires_172 : decode cX3_fires 172 = .ok (.if_icmp .eq 59, 3) := dk_159 0 59 (dk_at dksX3_fires_7 9 rfl rfl)
theorem dX3_fires_175 : decode cX3_fires 175 = .ok (.aload_n 0, 1) := dk_42 (dk_at dksX3_fires_7 12 rfl rfl)
theorem dX3_fires_176 : decode cX3_fires 176 = .ok (.getfield 9, 3) := dk_180 0 9 (dk_at dksX3_fires_7 13 rfl rfl)
theorem dX3_fires_179 : decode cX3_fires 179 = .ok (.iload 4, 2) := dk_21 4 (dk_at dksX3_fires_7 16 rfl rfl)
theorem dX3_fires_181 : decode cX3_fires 181 = .ok (.invokestatic 72, 3) := dk_184 0 72 (dk_at dksX3_fires_7 18 rfl rfl)
theorem dX3_fires_184 : decode cX3_fires 184 = .ok (.iconst 0, 1) := dk_3 (dk_at dksX3_fires_7 21 rfl rfl)
theorem dX3_fires_185 : decode cX3_fires 185 = .ok (.iadd, 1) := dk_96 (dk_at dksX3_fires_7 22 rfl rfl)
theorem dX3_fires_186 : decode cX3_fires 186 = .ok (.bipush 6, 2) := dk_16 6 (dk_at dksX3_fires_8 0 rfl rfl)
theorem dX3_fires_188 : decode cX3_fires 188 = .ok (.iastore, 1) := dk_79 (dk_at dksX3_fires_8 2 rfl rfl)
theorem dX3_fires_189 : decode cX3_fires 189 = .ok (.aload_n 0, 1) := dk_42 (dk_at dksX3_fires_8 3 rfl rfl)
theorem dX3_fires_190 : decode cX3_fires 190 = .ok (.getfield 9, 3) := dk_180 0 9 (dk_at dksX3_fires_8 4 rfl rfl)
theorem dX3_fires_193 : decode cX3_fires 193 = .ok (.iload 4, 2) := dk_21 4 (dk_at dksX3_fires_8 7 rfl rfl)
theorem dX3_fires_195 : decode cX3_fires 195 = .ok (.invokestatic 72, 3) := dk_184 0 72 (dk_at dksX3_fires_8 9 rfl rfl)
theorem dX3_fires_198 : decode cX3_fires 198 = .ok (.bipush 10, 2) := dk_16 10 (dk_at dksX3_fires_8 12 rfl rfl)
theorem dX3_fires_200 : decode cX3_fires 200 = .ok (.iadd, 1) := dk_96 (dk_at dksX3_fires_8 14 rfl rfl)
theorem dX3_fires_201 : decode cX3_fires 201 = .ok (.iload 5, 2) := dk_21 5 (dk_at dksX3_fires_8 15 rfl rfl)
theorem dX3_fires_203 : decode cX3_fires 203 = .ok (.iastore, 1) := dk_79 (dk_at dksX3_fires_8 17 rfl rfl)
theorem dX3_fires_204 : decode cX3_fires 204 = .ok (.aload_n 0, 1) := dk_42 (dk_at dksX3_fires_8 18 rfl rfl)
theorem dX3_fires_205 : decode cX3_fires 205 = .ok (.getfield 9, 3) := dk_180 0 9 (dk_at dksX3_fires_8 19 rfl rfl)
theorem dX3_fires_208 : decode cX3_fires 208 = .ok (.sipush 258, 3) := dk_17 1 2 (dk_at dksX3_fires_9 0 rfl rfl)
theorem dX3_fires_211 : decode cX3_fires 211 = .ok (.bipush 6, 2) := dk_16 6 (dk_at dksX3_fires_9 3 rfl rfl)
theorem dX3_fires_213 : decode cX3_fires 213 = .ok (.iload 5, 2) := dk_21 5 (dk_at dksX3_fires_9 5 rfl rfl)
theorem dX3_fires_215 : decode cX3_fires 215 = .ok (.imul, 1) := dk_104 (dk_at dksX3_fires_9 7 rfl rfl)
theorem dX3_fires_216 : decode cX3_fires 216 = .ok (.iadd, 1) := dk_96 (dk_at dksX3_fires_9 8 rfl rfl)
theorem dX3_fires_217 : decode cX3_fires 217 = .ok (.iconst 5, 1) := dk_8 (dk_at dksX3_fires_9 9 rfl rfl)
theorem dX3_fires_218 : decode cX3_fires 218 = .ok (.iadd, 1) := dk_96 (dk_at dksX3_fires_9 10 rfl rfl)
theorem dX3_fires_219 : decode cX3_fires 219 = .ok (.dup2, 1) := dk_92 (dk_at dksX3_fires_9 11 rfl rfl)
theorem dX3_fires_220 : decode cX3_fires 220 = .ok (.iaload, 1) := dk_46 (dk_at dksX3_fires_9 12 rfl rfl)
theorem dX3_fires_221 : decode cX3_fires 221 = .ok (.iconst 1, 1) := dk_4 (dk_at dksX3_fires_9 13 rfl rfl)
theorem dX3_fires_222 : decode cX3_fires 222 = .ok (.isub, 1) := dk_100 (dk_at dksX3_fires_9 14 rfl rfl)
theorem dX3_fires_223 : decode cX3_fires 223 = .ok (.iastore, 1) := dk_79 (dk_at dksX3_fires_9 15 rfl rfl)
theorem dX3_fires_224 : decode cX3_fires 224 = .ok (.iload_n 3, 1) := dk_29 (dk_at dksX3_fires_9 16 rfl rfl)
theorem dX3_fires_225 : decode cX3_fires 225 = .ok (.iconst 1, 1) := dk_4 (dk_at dksX3_fires_9 17 rfl rfl)
theorem dX3_fires_226 : decode cX3_fires 226 = .ok (.iload 4, 2) := dk_21 4 (dk_at dksX3_fires_9 18 rfl rfl)
theorem dX3_fires_228 : decode cX3_fires 228 = .ok (.ishl, 1) := dk_120 (dk_at dksX3_fires_9 20 rfl rfl)
theorem dX3_fires_229 : decode cX3_fires 229 = .ok (.ior, 1) := dk_128 (dk_at dksX3_fires_9 21 rfl rfl)
theorem dX3_fires_230 : decode cX3_fires 230 = .ok (.istore_n 3, 1) := dk_62 (dk_at dksX3_fires_9 22 rfl rfl)
theorem dX3_fires_231 : decode cX3_fires 231 = .ok (.iinc 4 1, 3) := dk_132 4 1 (dk_at dksX3_fires_10 0 rfl rfl)
theorem dX3_fires_234 : decode cX3_fires 234 = .ok (.goto (-171), 3) := dk_167 255 85 (dk_at dksX3_fires_10 3 rfl rfl)
theorem dX3_fires_237 : decode cX3_fires 237 = .ok (.iload_n 3, 1) := dk_29 (dk_at dksX3_fires_10 6 rfl rfl)
theorem dX3_fires_238 : decode cX3_fires 238 = .ok (.ireturn, 1) := dk_172 (dk_at dksX3_fires_10 7 rfl rfl)
abbrev cX3_orderFor : ByteArray := prog_32_method_43_code
def yX3_orderFor : MethodName := ⟨RX3, "orderFor", "(I)I"⟩
def dkwX3_orderFor_4 : List UInt8 := [167, 0, 4, 28, 61, 132, 3, 255, 167, 255, 166, 28, 172]
abbrev dktX3_orderFor_4 : List UInt8 := dkwX3_orderFor_4 ++ []
def dkwX3_orderFor_3 : List UInt8 := [184, 0, 72, 5, 96, 46, 163, 0, 7, 4, 167, 0, 4, 3, 54, 4, 21, 4, 153, 0, 7, 29]
abbrev dktX3_orderFor_3 : List UInt8 := dkwX3_orderFor_3 ++ dktX3_orderFor_4
def dkwX3_orderFor_2 : List UInt8 := [160, 0, 36, 42, 180, 0, 9, 17, 1, 2, 16, 6, 29, 104, 96, 4, 96, 46, 42, 180, 0, 9, 27]
abbrev dktX3_orderFor_2 : List UInt8 := dkwX3_orderFor_2 ++ dktX3_orderFor_3
def dkwX3_orderFor_1 : List UInt8 := [180, 0, 9, 17, 1, 2, 16, 6, 29, 104, 96, 46, 42, 180, 0, 9, 27, 184, 0, 72, 16, 6, 96, 46]
abbrev dktX3_orderFor_1 : List UInt8 := dkwX3_orderFor_1 ++ dktX3_orderFor_2
def dkwX3_orderFor_0 : List UInt8 := [2, 61, 42, 180, 0, 9, 6, 46, 4, 100, 62, 29, 155, 0, 92, 42, 29, 182, 0, 130, 153, 0, 64, 42]
abbrev dktX3_orderFor_0 : List UInt8 := dkwX3_orderFor_0 ++ dktX3_orderFor_1
theorem dksX3_orderFor_0 : cX3_orderFor.data.toList.drop 0 = dktX3_orderFor_0 := by decide +kernel
theorem dksX3_orderFor_1 : cX3_orderFor.data.toList.drop 24 = dktX3_orderFor_1 := dk_seg dksX3_orderFor_0 24 rfl rfl
theorem dksX3_orderFor_2 : cX3_orderFor.data.toList.drop 48 = dktX3_orderFor_2 := dk_seg dksX3_orderFor_1 24 rfl rfl
theorem dksX3_orderFor_3 : cX3_orderFor.data.toList.drop 71 = dktX3_orderFor_3 := dk_seg dksX3_orderFor_2 23 rfl rfl
theorem dksX3_orderFor_4 : cX3_orderFor.data.toList.drop 93 = dktX3_orderFor_4 := dk_seg dksX3_orderFor_3 22 rfl rfl
theorem dX3_orderFor_0 : decode cX3_orderFor 0 = .ok (.iconst (-1), 1) := dk_2 (dk_at dksX3_orderFor_0 0 rfl rfl)
theorem dX3_orderFor_1 : decode cX3_orderFor 1 = .ok (.istore_n 2, 1) := dk_61 (dk_at dksX3_orderFor_0 1 rfl rfl)
theorem dX3_orderFor_2 : decode cX3_orderFor 2 = .ok (.aload_n 0, 1) := dk_42 (dk_at dksX3_orderFor_0 2 rfl rfl)
theorem dX3_orderFor_3 : decode cX3_orderFor 3 = .ok (.getfield 9, 3) := dk_180 0 9 (dk_at dksX3_orderFor_0 3 rfl rfl)
theorem dX3_orderFor_6 : decode cX3_orderFor 6 = .ok (.iconst 3, 1) := dk_6 (dk_at dksX3_orderFor_0 6 rfl rfl)
theorem dX3_orderFor_7 : decode cX3_orderFor 7 = .ok (.iaload, 1) := dk_46 (dk_at dksX3_orderFor_0 7 rfl rfl)
theorem dX3_orderFor_8 : decode cX3_orderFor 8 = .ok (.iconst 1, 1) := dk_4 (dk_at dksX3_orderFor_0 8 rfl rfl)
theorem dX3_orderFor_9 : decode cX3_orderFor 9 = .ok (.isub, 1) := dk_100 (dk_at dksX3_orderFor_0 9 rfl rfl)
theorem dX3_orderFor_10 : decode cX3_orderFor 10 = .ok (.istore_n 3, 1) := dk_62 (dk_at dksX3_orderFor_0 10 rfl rfl)
theorem dX3_orderFor_11 : decode cX3_orderFor 11 = .ok (.iload_n 3, 1) := dk_29 (dk_at dksX3_orderFor_0 11 rfl rfl)
theorem dX3_orderFor_12 : decode cX3_orderFor 12 = .ok (.ifCond .lt 92, 3) := dk_155 0 92 (dk_at dksX3_orderFor_0 12 rfl rfl)
theorem dX3_orderFor_15 : decode cX3_orderFor 15 = .ok (.aload_n 0, 1) := dk_42 (dk_at dksX3_orderFor_0 15 rfl rfl)
theorem dX3_orderFor_16 : decode cX3_orderFor 16 = .ok (.iload_n 3, 1) := dk_29 (dk_at dksX3_orderFor_0 16 rfl rfl)
theorem dX3_orderFor_17 : decode cX3_orderFor 17 = .ok (.invokevirtual 130, 3) := dk_182 0 130 (dk_at dksX3_orderFor_0 17 rfl rfl)
theorem dX3_orderFor_20 : decode cX3_orderFor 20 = .ok (.ifCond .eq 64, 3) := dk_153 0 64 (dk_at dksX3_orderFor_0 20 rfl rfl)
theorem dX3_orderFor_23 : decode cX3_orderFor 23 = .ok (.aload_n 0, 1) := dk_42 (dk_at dksX3_orderFor_0 23 rfl rfl)
theorem dX3_orderFor_24 : decode cX3_orderFor 24 = .ok (.getfield 9, 3) := dk_180 0 9 (dk_at dksX3_orderFor_1 0 rfl rfl)
theorem dX3_orderFor_27 : decode cX3_orderFor 27 = .ok (.sipush 258, 3) := dk_17 1 2 (dk_at dksX3_orderFor_1 3 rfl rfl)
theorem dX3_orderFor_30 : decode cX3_orderFor 30 = .ok (.bipush 6, 2) := dk_16 6 (dk_at dksX3_orderFor_1 6 rfl rfl)
theorem dX3_orderFor_32 : decode cX3_orderFor 32 = .ok (.iload_n 3, 1) := dk_29 (dk_at dksX3_orderFor_1 8 rfl rfl)
theorem dX3_orderFor_33 : decode cX3_orderFor 33 = .ok (.imul, 1) := dk_104 (dk_at dksX3_orderFor_1 9 rfl rfl)
theorem dX3_orderFor_34 : decode cX3_orderFor 34 = .ok (.iadd, 1) := dk_96 (dk_at dksX3_orderFor_1 10 rfl rfl)
theorem dX3_orderFor_35 : decode cX3_orderFor 35 = .ok (.iaload, 1) := dk_46 (dk_at dksX3_orderFor_1 11 rfl rfl)
theorem dX3_orderFor_36 : decode cX3_orderFor 36 = .ok (.aload_n 0, 1) := dk_42 (dk_at dksX3_orderFor_1 12 rfl rfl)
theorem dX3_orderFor_37 : decode cX3_orderFor 37 = .ok (.getfield 9, 3) := dk_180 0 9 (dk_at dksX3_orderFor_1 13 rfl rfl)
theorem dX3_orderFor_40 : decode cX3_orderFor 40 = .ok (.iload_n 1, 1) := dk_27 (dk_at dksX3_orderFor_1 16 rfl rfl)
theorem dX3_orderFor_41 : decode cX3_orderFor 41 = .ok (.invokestatic 72, 3) := dk_184 0 72 (dk_at dksX3_orderFor_1 17 rfl rfl)
theorem dX3_orderFor_44 : decode cX3_orderFor 44 = .ok (.bipush 6, 2) := dk_16 6 (dk_at dksX3_orderFor_1 20 rfl rfl)
theorem dX3_orderFor_46 : decode cX3_orderFor 46 = .ok (.iadd, 1) := dk_96 (dk_at dksX3_orderFor_1 22 rfl rfl)
theorem dX3_orderFor_47 : decode cX3_orderFor 47 = .ok (.iaload, 1) := dk_46 (dk_at dksX3_orderFor_1 23 rfl rfl)
theorem dX3_orderFor_48 : decode cX3_orderFor 48 = .ok (.if_icmp .ne 36, 3) := dk_160 0 36 (dk_at dksX3_orderFor_2 0 rfl rfl)
theorem dX3_orderFor_51 : decode cX3_orderFor 51 = .ok (.aload_n 0, 1) := dk_42 (dk_at dksX3_orderFor_2 3 rfl rfl)
theorem dX3_orderFor_52 : decode cX3_orderFor 52 = .ok (.getfield 9, 3) := dk_180 0 9 (dk_at dksX3_orderFor_2 4 rfl rfl)
theorem dX3_orderFor_55 : decode cX3_orderFor 55 = .ok (.sipush 258, 3) := dk_17 1 2 (dk_at dksX3_orderFor_2 7 rfl rfl)
theorem dX3_orderFor_58 : decode cX3_orderFor 58 = .ok (.bipush 6, 2) := dk_16 6 (dk_at dksX3_orderFor_2 10 rfl rfl)
theorem dX3_orderFor_60 : decode cX3_orderFor 60 = .ok (.iload_n 3, 1) := dk_29 (dk_at dksX3_orderFor_2 12 rfl rfl)
theorem dX3_orderFor_61 : decode cX3_orderFor 61 = .ok (.imul, 1) := dk_104 (dk_at dksX3_orderFor_2 13 rfl rfl)
theorem dX3_orderFor_62 : decode cX3_orderFor 62 = .ok (.iadd, 1) := dk_96 (dk_at dksX3_orderFor_2 14 rfl rfl)
theorem dX3_orderFor_63 : decode cX3_orderFor 63 = .ok (.iconst 1, 1) := dk_4 (dk_at dksX3_orderFor_2 15 rfl rfl)
theorem dX3_orderFor_64 : decode cX3_orderFor 64 = .ok (.iadd, 1) := dk_96 (dk_at dksX3_orderFor_2 16 rfl rfl)
theorem dX3_orderFor_65 : decode cX3_orderFor 65 = .ok (.iaload, 1) := dk_46 (dk_at dksX3_orderFor_2 17 rfl rfl)
theorem dX3_orderFor_66 : decode cX3_orderFor 66 = .ok (.aload_n 0, 1) := dk_42 (dk_at dksX3_orderFor_2 18 rfl rfl)
theorem dX3_orderFor_67 : decode cX3_orderFor 67 = .ok (.getfield 9, 3) := dk_180 0 9 (dk_at dksX3_orderFor_2 19 rfl rfl)
theorem dX3_orderFor_70 : decode cX3_orderFor 70 = .ok (.iload_n 1, 1) := dk_27 (dk_at dksX3_orderFor_2 22 rfl rfl)
theorem dX3_orderFor_71 : decode cX3_orderFor 71 = .ok (.invokestatic 72, 3) := dk_184 0 72 (dk_at dksX3_orderFor_3 0 rfl rfl)
theorem dX3_orderFor_74 : decode cX3_orderFor 74 = .ok (.iconst 2, 1) := dk_5 (dk_at dksX3_orderFor_3 3 rfl rfl)
theorem dX3_orderFor_75 : decode cX3_orderFor 75 = .ok (.iadd, 1) := dk_96 (dk_at dksX3_orderFor_3 4 rfl rfl)
theorem dX3_orderFor_76 : decode cX3_orderFor 76 = .ok (.iaload, 1) := dk_46 (dk_at dksX3_orderFor_3 5 rfl rfl)
theorem dX3_orderFor_77 : decode cX3_orderFor 77 = .ok (.if_icmp .gt 7, 3) := dk_163 0 7 (dk_at dksX3_orderFor_3 6 rfl rfl)
theorem dX3_orderFor_80 : decode cX3_orderFor 80 = .ok (.iconst 1, 1) := dk_4 (dk_at dksX3_orderFor_3 9 rfl rfl)
theorem dX3_orderFor_81 : decode cX3_orderFor 81 = .ok (.goto 4, 3) := dk_167 0 4 (dk_at dksX3_orderFor_3 10 rfl rfl)
theorem dX3_orderFor_84 : decode cX3_orderFor 84 = .ok (.iconst 0, 1) := dk_3 (dk_at dksX3_orderFor_3 13 rfl rfl)
theorem dX3_orderFor_85 : decode cX3_orderFor 85 = .ok (.istore 4, 2) := dk_54 4 (dk_at dksX3_orderFor_3 14 rfl rfl)
theorem dX3_orderFor_87 : decode cX3_orderFor 87 = .ok (.iload 4, 2) := dk_21 4 (dk_at dksX3_orderFor_3 16 rfl rfl)
theorem dX3_orderFor_89 : decode cX3_orderFor 89 = .ok (.ifCond .eq 7, 3) := dk_153 0 7 (dk_at dksX3_orderFor_3 18 rfl rfl)
theorem dX3_orderFor_92 : decode cX3_orderFor 92 = .ok (.iload_n 3, 1) := dk_29 (dk_at dksX3_orderFor_3 21 rfl rfl)
theorem dX3_orderFor_93 : decode cX3_orderFor 93 = .ok (.goto 4, 3) := dk_167 0 4 (dk_at dksX3_orderFor_4 0 rfl rfl)
theorem dX3_orderFor_96 : decode cX3_orderFor 96 = .ok (.iload_n 2, 1) := dk_28 (dk_at dksX3_orderFor_4 3 rfl rfl)
theorem dX3_orderFor_97 : decode cX3_orderFor 97 = .ok (.istore_n 2, 1) := dk_61 (dk_at dksX3_orderFor_4 4 rfl rfl)
theorem dX3_orderFor_98 : decode cX3_orderFor 98 = .ok (.iinc 3 (-1), 3) := dk_132 3 255 (dk_at dksX3_orderFor_4 5 rfl rfl)
theorem dX3_orderFor_101 : decode cX3_orderFor 101 = .ok (.goto (-90), 3) := dk_167 255 166 (dk_at dksX3_orderFor_4 8 rfl rfl)
theorem dX3_orderFor_104 : decode cX3_orderFor 104 = .ok (.iload_n 2, 1) := dk_28 (dk_at dksX3_orderFor_4 11 rfl rfl)
theorem dX3_orderFor_105 : decode cX3_orderFor 105 = .ok (.ireturn, 1) := dk_172 (dk_at dksX3_orderFor_4 12 rfl rfl)
abbrev cX3_isGood : ByteArray := prog_32_method_42_code
def yX3_isGood : MethodName := ⟨RX3, "isGood", "(I)Z"⟩
def dkwX3_isGood_1 : List UInt8 := [42, 180, 0, 9, 17, 1, 2, 16, 6, 27, 104, 96, 6, 96, 46, 163, 0, 7, 4, 167, 0, 4, 3, 172]
abbrev dktX3_isGood_1 : List UInt8 := dkwX3_isGood_1 ++ []
def dkwX3_isGood_0 : List UInt8 := [42, 180, 0, 9, 17, 1, 2, 16, 6, 27, 104, 96, 8, 96, 46, 158, 0, 31, 42, 180, 0, 9, 3, 46]
abbrev dktX3_isGood_0 : List UInt8 := dkwX3_isGood_0 ++ dktX3_isGood_1
theorem dksX3_isGood_0 : cX3_isGood.data.toList.drop 0 = dktX3_isGood_0 := by decide +kernel
theorem dksX3_isGood_1 : cX3_isGood.data.toList.drop 24 = dktX3_isGood_1 := dk_seg dksX3_isGood_0 24 rfl rfl
theorem dX3_isGood_0 : decode cX3_isGood 0 = .ok (.aload_n 0, 1) := dk_42 (dk_at dksX3_isGood_0 0 rfl rfl)
theorem dX3_isGood_1 : decode cX3_isGood 1 = .ok (.getfield 9, 3) := dk_180 0 9 (dk_at dksX3_isGood_0 1 rfl rfl)
theorem dX3_isGood_4 : decode cX3_isGood 4 = .ok (.sipush 258, 3) := dk_17 1 2 (dk_at dksX3_isGood_0 4 rfl rfl)
theorem dX3_isGood_7 : decode cX3_isGood 7 = .ok (.bipush 6, 2) := dk_16 6 (dk_at dksX3_isGood_0 7 rfl rfl)
theorem dX3_isGood_9 : decode cX3_isGood 9 = .ok (.iload_n 1, 1) := dk_27 (dk_at dksX3_isGood_0 9 rfl rfl)
theorem dX3_isGood_10 : decode cX3_isGood 10 = .ok (.imul, 1) := dk_104 (dk_at dksX3_isGood_0 10 rfl rfl)
theorem dX3_isGood_11 : decode cX3_isGood 11 = .ok (.iadd, 1) := dk_96 (dk_at dksX3_isGood_0 11 rfl rfl)
theorem dX3_isGood_12 : decode cX3_isGood 12 = .ok (.iconst 5, 1) := dk_8 (dk_at dksX3_isGood_0 12 rfl rfl)
theorem dX3_isGood_13 : decode cX3_isGood 13 = .ok (.iadd, 1) := dk_96 (dk_at dksX3_isGood_0 13 rfl rfl)
theorem dX3_isGood_14 : decode cX3_isGood 14 = .ok (.iaload, 1) := dk_46 (dk_at dksX3_isGood_0 14 rfl rfl)
theorem dX3_isGood_15 : decode cX3_isGood 15 = .ok (.ifCond .le 31, 3) := dk_158 0 31 (dk_at dksX3_isGood_0 15 rfl rfl)
theorem dX3_isGood_18 : decode cX3_isGood 18 = .ok (.aload_n 0, 1) := dk_42 (dk_at dksX3_isGood_0 18 rfl rfl)
theorem dX3_isGood_19 : decode cX3_isGood 19 = .ok (.getfield 9, 3) := dk_180 0 9 (dk_at dksX3_isGood_0 19 rfl rfl)
theorem dX3_isGood_22 : decode cX3_isGood 22 = .ok (.iconst 0, 1) := dk_3 (dk_at dksX3_isGood_0 22 rfl rfl)
theorem dX3_isGood_23 : decode cX3_isGood 23 = .ok (.iaload, 1) := dk_46 (dk_at dksX3_isGood_0 23 rfl rfl)
theorem dX3_isGood_24 : decode cX3_isGood 24 = .ok (.aload_n 0, 1) := dk_42 (dk_at dksX3_isGood_1 0 rfl rfl)
theorem dX3_isGood_25 : decode cX3_isGood 25 = .ok (.getfield 9, 3) := dk_180 0 9 (dk_at dksX3_isGood_1 1 rfl rfl)
theorem dX3_isGood_28 : decode cX3_isGood 28 = .ok (.sipush 258, 3) := dk_17 1 2 (dk_at dksX3_isGood_1 4 rfl rfl)
theorem dX3_isGood_31 : decode cX3_isGood 31 = .ok (.bipush 6, 2) := dk_16 6 (dk_at dksX3_isGood_1 7 rfl rfl)
theorem dX3_isGood_33 : decode cX3_isGood 33 = .ok (.iload_n 1, 1) := dk_27 (dk_at dksX3_isGood_1 9 rfl rfl)
theorem dX3_isGood_34 : decode cX3_isGood 34 = .ok (.imul, 1) := dk_104 (dk_at dksX3_isGood_1 10 rfl rfl)
theorem dX3_isGood_35 : decode cX3_isGood 35 = .ok (.iadd, 1) := dk_96 (dk_at dksX3_isGood_1 11 rfl rfl)
theorem dX3_isGood_36 : decode cX3_isGood 36 = .ok (.iconst 3, 1) := dk_6 (dk_at dksX3_isGood_1 12 rfl rfl)
theorem dX3_isGood_37 : decode cX3_isGood 37 = .ok (.iadd, 1) := dk_96 (dk_at dksX3_isGood_1 13 rfl rfl)
theorem dX3_isGood_38 : decode cX3_isGood 38 = .ok (.iaload, 1) := dk_46 (dk_at dksX3_isGood_1 14 rfl rfl)
theorem dX3_isGood_39 : decode cX3_isGood 39 = .ok (.if_icmp .gt 7, 3) := dk_163 0 7 (dk_at dksX3_isGood_1 15 rfl rfl)
theorem dX3_isGood_42 : decode cX3_isGood 42 = .ok (.iconst 1, 1) := dk_4 (dk_at dksX3_isGood_1 18 rfl rfl)
theorem dX3_isGood_43 : decode cX3_isGood 43 = .ok (.goto 4, 3) := dk_167 0 4 (dk_at dksX3_isGood_1 19 rfl rfl)
theorem dX3_isGood_46 : decode cX3_isGood 46 = .ok (.iconst 0, 1) := dk_3 (dk_at dksX3_isGood_1 22 rfl rfl)
theorem dX3_isGood_47 : decode cX3_isGood 47 = .ok (.ireturn, 1) := dk_172 (dk_at dksX3_isGood_1 23 rfl rfl)
abbrev cX3_fire : ByteArray := prog_32_method_48_code
def yX3_fire : MethodName := ⟨RX3, "fire", "()I"⟩
def dkwX3_fire_0 : List UInt8 := [42, 182, 0, 148, 153, 0, 8, 42, 182, 0, 68, 172, 42, 182, 0, 61, 42, 182, 0, 142, 184, 0, 151, 172]
abbrev dktX3_fire_0 : List UInt8 := dkwX3_fire_0 ++ []
theorem dksX3_fire_0 : cX3_fire.data.toList.drop 0 = dktX3_fire_0 := by decide +kernel
theorem dX3_fire_0 : decode cX3_fire 0 = .ok (.aload_n 0, 1) := dk_42 (dk_at dksX3_fire_0 0 rfl rfl)
theorem dX3_fire_1 : decode cX3_fire 1 = .ok (.invokevirtual 148, 3) := dk_182 0 148 (dk_at dksX3_fire_0 1 rfl rfl)
theorem dX3_fire_4 : decode cX3_fire 4 = .ok (.ifCond .eq 8, 3) := dk_153 0 8 (dk_at dksX3_fire_0 4 rfl rfl)
theorem dX3_fire_7 : decode cX3_fire 7 = .ok (.aload_n 0, 1) := dk_42 (dk_at dksX3_fire_0 7 rfl rfl)
theorem dX3_fire_8 : decode cX3_fire 8 = .ok (.invokevirtual 68, 3) := dk_182 0 68 (dk_at dksX3_fire_0 8 rfl rfl)
theorem dX3_fire_11 : decode cX3_fire 11 = .ok (.ireturn, 1) := dk_172 (dk_at dksX3_fire_0 11 rfl rfl)
theorem dX3_fire_12 : decode cX3_fire 12 = .ok (.aload_n 0, 1) := dk_42 (dk_at dksX3_fire_0 12 rfl rfl)
theorem dX3_fire_13 : decode cX3_fire 13 = .ok (.invokevirtual 61, 3) := dk_182 0 61 (dk_at dksX3_fire_0 13 rfl rfl)
theorem dX3_fire_16 : decode cX3_fire 16 = .ok (.aload_n 0, 1) := dk_42 (dk_at dksX3_fire_0 16 rfl rfl)
theorem dX3_fire_17 : decode cX3_fire 17 = .ok (.invokevirtual 142, 3) := dk_182 0 142 (dk_at dksX3_fire_0 17 rfl rfl)
theorem dX3_fire_20 : decode cX3_fire 20 = .ok (.invokestatic 151, 3) := dk_184 0 151 (dk_at dksX3_fire_0 20 rfl rfl)
theorem dX3_fire_23 : decode cX3_fire 23 = .ok (.ireturn, 1) := dk_172 (dk_at dksX3_fire_0 23 rfl rfl)
abbrev cX3_mayFire : ByteArray := prog_32_method_23_code
def yX3_mayFire : MethodName := ⟨RX3, "mayFire", "()I"⟩
def dkwX3_mayFire_1 : List UInt8 := [42, 16, 16, 42, 182, 0, 82, 182, 0, 64, 167, 0, 4, 3, 172]
abbrev dktX3_mayFire_1 : List UInt8 := dkwX3_mayFire_1 ++ []
def dkwX3_mayFire_0 : List UInt8 := [42, 182, 0, 79, 154, 0, 13, 42, 16, 15, 3, 182, 0, 64, 167, 0, 24, 42, 182, 0, 82, 158, 0, 16]
abbrev dktX3_mayFire_0 : List UInt8 := dkwX3_mayFire_0 ++ dktX3_mayFire_1
theorem dksX3_mayFire_0 : cX3_mayFire.data.toList.drop 0 = dktX3_mayFire_0 := by decide +kernel
theorem dksX3_mayFire_1 : cX3_mayFire.data.toList.drop 24 = dktX3_mayFire_1 := dk_seg dksX3_mayFire_0 24 rfl rfl
theorem dX3_mayFire_0 : decode cX3_mayFire 0 = .ok (.aload_n 0, 1) := dk_42 (dk_at dksX3_mayFire_0 0 rfl rfl)
theorem dX3_mayFire_1 : decode cX3_mayFire 1 = .ok (.invokevirtual 79, 3) := dk_182 0 79 (dk_at dksX3_mayFire_0 1 rfl rfl)
theorem dX3_mayFire_4 : decode cX3_mayFire 4 = .ok (.ifCond .ne 13, 3) := dk_154 0 13 (dk_at dksX3_mayFire_0 4 rfl rfl)
theorem dX3_mayFire_7 : decode cX3_mayFire 7 = .ok (.aload_n 0, 1) := dk_42 (dk_at dksX3_mayFire_0 7 rfl rfl)
theorem dX3_mayFire_8 : decode cX3_mayFire 8 = .ok (.bipush 15, 2) := dk_16 15 (dk_at dksX3_mayFire_0 8 rfl rfl)
theorem dX3_mayFire_10 : decode cX3_mayFire 10 = .ok (.iconst 0, 1) := dk_3 (dk_at dksX3_mayFire_0 10 rfl rfl)
theorem dX3_mayFire_11 : decode cX3_mayFire 11 = .ok (.invokevirtual 64, 3) := dk_182 0 64 (dk_at dksX3_mayFire_0 11 rfl rfl)
theorem dX3_mayFire_14 : decode cX3_mayFire 14 = .ok (.goto 24, 3) := dk_167 0 24 (dk_at dksX3_mayFire_0 14 rfl rfl)
theorem dX3_mayFire_17 : decode cX3_mayFire 17 = .ok (.aload_n 0, 1) := dk_42 (dk_at dksX3_mayFire_0 17 rfl rfl)
theorem dX3_mayFire_18 : decode cX3_mayFire 18 = .ok (.invokevirtual 82, 3) := dk_182 0 82 (dk_at dksX3_mayFire_0 18 rfl rfl)
theorem dX3_mayFire_21 : decode cX3_mayFire 21 = .ok (.ifCond .le 16, 3) := dk_158 0 16 (dk_at dksX3_mayFire_0 21 rfl rfl)
theorem dX3_mayFire_24 : decode cX3_mayFire 24 = .ok (.aload_n 0, 1) := dk_42 (dk_at dksX3_mayFire_1 0 rfl rfl)
theorem dX3_mayFire_25 : decode cX3_mayFire 25 = .ok (.bipush 16, 2) := dk_16 16 (dk_at dksX3_mayFire_1 1 rfl rfl)
theorem dX3_mayFire_27 : decode cX3_mayFire 27 = .ok (.aload_n 0, 1) := dk_42 (dk_at dksX3_mayFire_1 3 rfl rfl)
theorem dX3_mayFire_28 : decode cX3_mayFire 28 = .ok (.invokevirtual 82, 3) := dk_182 0 82 (dk_at dksX3_mayFire_1 4 rfl rfl)
theorem dX3_mayFire_31 : decode cX3_mayFire 31 = .ok (.invokevirtual 64, 3) := dk_182 0 64 (dk_at dksX3_mayFire_1 7 rfl rfl)
theorem dX3_mayFire_34 : decode cX3_mayFire 34 = .ok (.goto 4, 3) := dk_167 0 4 (dk_at dksX3_mayFire_1 10 rfl rfl)
theorem dX3_mayFire_37 : decode cX3_mayFire 37 = .ok (.iconst 0, 1) := dk_3 (dk_at dksX3_mayFire_1 13 rfl rfl)
theorem dX3_mayFire_38 : decode cX3_mayFire 38 = .ok (.ireturn, 1) := dk_172 (dk_at dksX3_mayFire_1 14 rfl rfl)
abbrev cX3_restLeft : ByteArray := prog_32_method_21_code
def yX3_restLeft : MethodName := ⟨RX3, "restLeft", "()I"⟩
def dkwX3_restLeft_1 : List UInt8 := [180, 0, 9, 3, 46, 100, 167, 0, 4, 3, 172]
abbrev dktX3_restLeft_1 : List UInt8 := dkwX3_restLeft_1 ++ []
def dkwX3_restLeft_0 : List UInt8 := [42, 180, 0, 9, 16, 49, 46, 42, 180, 0, 9, 3, 46, 164, 0, 20, 42, 180, 0, 9, 16, 49, 46, 42]
abbrev dktX3_restLeft_0 : List UInt8 := dkwX3_restLeft_0 ++ dktX3_restLeft_1
theorem dksX3_restLeft_0 : cX3_restLeft.data.toList.drop 0 = dktX3_restLeft_0 := by decide +kernel
theorem dksX3_restLeft_1 : cX3_restLeft.data.toList.drop 24 = dktX3_restLeft_1 := dk_seg dksX3_restLeft_0 24 rfl rfl
theorem dX3_restLeft_0 : decode cX3_restLeft 0 = .ok (.aload_n 0, 1) := dk_42 (dk_at dksX3_restLeft_0 0 rfl rfl)
theorem dX3_restLeft_1 : decode cX3_restLeft 1 = .ok (.getfield 9, 3) := dk_180 0 9 (dk_at dksX3_restLeft_0 1 rfl rfl)
theorem dX3_restLeft_4 : decode cX3_restLeft 4 = .ok (.bipush 49, 2) := dk_16 49 (dk_at dksX3_restLeft_0 4 rfl rfl)
theorem dX3_restLeft_6 : decode cX3_restLeft 6 = .ok (.iaload, 1) := dk_46 (dk_at dksX3_restLeft_0 6 rfl rfl)
theorem dX3_restLeft_7 : decode cX3_restLeft 7 = .ok (.aload_n 0, 1) := dk_42 (dk_at dksX3_restLeft_0 7 rfl rfl)
theorem dX3_restLeft_8 : decode cX3_restLeft 8 = .ok (.getfield 9, 3) := dk_180 0 9 (dk_at dksX3_restLeft_0 8 rfl rfl)
theorem dX3_restLeft_11 : decode cX3_restLeft 11 = .ok (.iconst 0, 1) := dk_3 (dk_at dksX3_restLeft_0 11 rfl rfl)
theorem dX3_restLeft_12 : decode cX3_restLeft 12 = .ok (.iaload, 1) := dk_46 (dk_at dksX3_restLeft_0 12 rfl rfl)
theorem dX3_restLeft_13 : decode cX3_restLeft 13 = .ok (.if_icmp .le 20, 3) := dk_164 0 20 (dk_at dksX3_restLeft_0 13 rfl rfl)
theorem dX3_restLeft_16 : decode cX3_restLeft 16 = .ok (.aload_n 0, 1) := dk_42 (dk_at dksX3_restLeft_0 16 rfl rfl)
theorem dX3_restLeft_17 : decode cX3_restLeft 17 = .ok (.getfield 9, 3) := dk_180 0 9 (dk_at dksX3_restLeft_0 17 rfl rfl)
theorem dX3_restLeft_20 : decode cX3_restLeft 20 = .ok (.bipush 49, 2) := dk_16 49 (dk_at dksX3_restLeft_0 20 rfl rfl)
theorem dX3_restLeft_22 : decode cX3_restLeft 22 = .ok (.iaload, 1) := dk_46 (dk_at dksX3_restLeft_0 22 rfl rfl)
theorem dX3_restLeft_23 : decode cX3_restLeft 23 = .ok (.aload_n 0, 1) := dk_42 (dk_at dksX3_restLeft_0 23 rfl rfl)
theorem dX3_restLeft_24 : decode cX3_restLeft 24 = .ok (.getfield 9, 3) := dk_180 0 9 (dk_at dksX3_restLeft_1 0 rfl rfl)
theorem dX3_restLeft_27 : decode cX3_restLeft 27 = .ok (.iconst 0, 1) := dk_3 (dk_at dksX3_restLeft_1 3 rfl rfl)
theorem dX3_restLeft_28 : decode cX3_restLeft 28 = .ok (.iaload, 1) := dk_46 (dk_at dksX3_restLeft_1 4 rfl rfl)
theorem dX3_restLeft_29 : decode cX3_restLeft 29 = .ok (.isub, 1) := dk_100 (dk_at dksX3_restLeft_1 5 rfl rfl)
theorem dX3_restLeft_30 : decode cX3_restLeft 30 = .ok (.goto 4, 3) := dk_167 0 4 (dk_at dksX3_restLeft_1 6 rfl rfl)
theorem dX3_restLeft_33 : decode cX3_restLeft 33 = .ok (.iconst 0, 1) := dk_3 (dk_at dksX3_restLeft_1 9 rfl rfl)
theorem dX3_restLeft_34 : decode cX3_restLeft 34 = .ok (.ireturn, 1) := dk_172 (dk_at dksX3_restLeft_1 10 rfl rfl)
abbrev cX3_ones : ByteArray := prog_32_method_47_code
def yX3_ones : MethodName := ⟨RX3, "ones", "(I)I"⟩
def dkwX3_ones_1 : List UInt8 := [27, 172]
abbrev dktX3_ones_1 : List UInt8 := dkwX3_ones_1 ++ []
def dkwX3_ones_0 : List UInt8 := [3, 60, 3, 61, 28, 16, 16, 162, 0, 17, 27, 26, 28, 122, 4, 126, 96, 60, 132, 2, 1, 167, 255, 239]
abbrev dktX3_ones_0 : List UInt8 := dkwX3_ones_0 ++ dktX3_ones_1
theorem dksX3_ones_0 : cX3_ones.data.toList.drop 0 = dktX3_ones_0 := by decide +kernel
theorem dksX3_ones_1 : cX3_ones.data.toList.drop 24 = dktX3_ones_1 := dk_seg dksX3_ones_0 24 rfl rfl
theorem dX3_ones_0 : decode cX3_ones 0 = .ok (.iconst 0, 1) := dk_3 (dk_at dksX3_ones_0 0 rfl rfl)
theorem dX3_ones_1 : decode cX3_ones 1 = .ok (.istore_n 1, 1) := dk_60 (dk_at dksX3_ones_0 1 rfl rfl)
theorem dX3_ones_2 : decode cX3_ones 2 = .ok (.iconst 0, 1) := dk_3 (dk_at dksX3_ones_0 2 rfl rfl)
theorem dX3_ones_3 : decode cX3_ones 3 = .ok (.istore_n 2, 1) := dk_61 (dk_at dksX3_ones_0 3 rfl rfl)
theorem dX3_ones_4 : decode cX3_ones 4 = .ok (.iload_n 2, 1) := dk_28 (dk_at dksX3_ones_0 4 rfl rfl)
theorem dX3_ones_5 : decode cX3_ones 5 = .ok (.bipush 16, 2) := dk_16 16 (dk_at dksX3_ones_0 5 rfl rfl)
theorem dX3_ones_7 : decode cX3_ones 7 = .ok (.if_icmp .ge 17, 3) := dk_162 0 17 (dk_at dksX3_ones_0 7 rfl rfl)
theorem dX3_ones_10 : decode cX3_ones 10 = .ok (.iload_n 1, 1) := dk_27 (dk_at dksX3_ones_0 10 rfl rfl)
theorem dX3_ones_11 : decode cX3_ones 11 = .ok (.iload_n 0, 1) := dk_26 (dk_at dksX3_ones_0 11 rfl rfl)
theorem dX3_ones_12 : decode cX3_ones 12 = .ok (.iload_n 2, 1) := dk_28 (dk_at dksX3_ones_0 12 rfl rfl)
theorem dX3_ones_13 : decode cX3_ones 13 = .ok (.ishr, 1) := dk_122 (dk_at dksX3_ones_0 13 rfl rfl)
theorem dX3_ones_14 : decode cX3_ones 14 = .ok (.iconst 1, 1) := dk_4 (dk_at dksX3_ones_0 14 rfl rfl)
theorem dX3_ones_15 : decode cX3_ones 15 = .ok (.iand, 1) := dk_126 (dk_at dksX3_ones_0 15 rfl rfl)
theorem dX3_ones_16 : decode cX3_ones 16 = .ok (.iadd, 1) := dk_96 (dk_at dksX3_ones_0 16 rfl rfl)
theorem dX3_ones_17 : decode cX3_ones 17 = .ok (.istore_n 1, 1) := dk_60 (dk_at dksX3_ones_0 17 rfl rfl)
theorem dX3_ones_18 : decode cX3_ones 18 = .ok (.iinc 2 1, 3) := dk_132 2 1 (dk_at dksX3_ones_0 18 rfl rfl)
theorem dX3_ones_21 : decode cX3_ones 21 = .ok (.goto (-17), 3) := dk_167 255 239 (dk_at dksX3_ones_0 21 rfl rfl)
theorem dX3_ones_24 : decode cX3_ones 24 = .ok (.iload_n 1, 1) := dk_27 (dk_at dksX3_ones_1 0 rfl rfl)
theorem dX3_ones_25 : decode cX3_ones 25 = .ok (.ireturn, 1) := dk_172 (dk_at dksX3_ones_1 1 rfl rfl)
abbrev cX3_order : ByteArray := prog_32_method_49_code
def yX3_order : MethodName := ⟨RX3, "order", "(IIIII)I"⟩
def dkwX3_order_7 : List UInt8 := [6, 92, 46, 4, 96, 79, 42, 180, 0, 9, 6, 46, 4, 100, 172]
abbrev dktX3_order_7 : List UInt8 := dkwX3_order_7 ++ []
def dkwX3_order_6 : List UInt8 := [180, 0, 9, 21, 6, 7, 96, 21, 5, 79, 42, 180, 0, 9, 21, 6, 8, 96, 29, 79, 42, 180, 0, 9]
abbrev dktX3_order_6 : List UInt8 := dkwX3_order_6 ++ dktX3_order_7
def dkwX3_order_5 : List UInt8 := [42, 180, 0, 9, 21, 6, 5, 96, 29, 79, 42, 180, 0, 9, 21, 6, 6, 96, 21, 4, 79, 42]
abbrev dktX3_order_5 : List UInt8 := dkwX3_order_5 ++ dktX3_order_6
def dkwX3_order_4 : List UInt8 := [6, 46, 104, 96, 54, 6, 42, 180, 0, 9, 21, 6, 27, 79, 42, 180, 0, 9, 21, 6, 4, 96, 28, 79]
abbrev dktX3_order_4 : List UInt8 := dkwX3_order_4 ++ dktX3_order_5
def dkwX3_order_3 : List UInt8 := [16, 8, 182, 0, 64, 87, 42, 182, 0, 68, 172, 42, 182, 0, 61, 17, 1, 2, 16, 6, 42, 180, 0, 9]
abbrev dktX3_order_3 : List UInt8 := dkwX3_order_3 ++ dktX3_order_4
def dkwX3_order_2 : List UInt8 := [184, 0, 51, 154, 0, 6, 16, 254, 172, 42, 180, 0, 9, 6, 46, 16, 8, 160, 0, 17, 42, 16, 12]
abbrev dktX3_order_2 : List UInt8 := dkwX3_order_2 ++ dktX3_order_3
def dkwX3_order_1 : List UInt8 := [184, 0, 51, 153, 0, 27, 21, 4, 4, 17, 1, 144, 184, 0, 51, 153, 0, 15, 21, 5, 4, 17, 3, 231]
abbrev dktX3_order_1 : List UInt8 := dkwX3_order_1 ++ dktX3_order_2
def dkwX3_order_0 : List UInt8 := [27, 3, 6, 184, 0, 51, 153, 0, 46, 28, 4, 16, 9, 184, 0, 51, 153, 0, 36, 29, 4, 8]
abbrev dktX3_order_0 : List UInt8 := dkwX3_order_0 ++ dktX3_order_1
theorem dksX3_order_0 : cX3_order.data.toList.drop 0 = dktX3_order_0 := by decide +kernel
theorem dksX3_order_1 : cX3_order.data.toList.drop 22 = dktX3_order_1 := dk_seg dksX3_order_0 22 rfl rfl
theorem dksX3_order_2 : cX3_order.data.toList.drop 46 = dktX3_order_2 := dk_seg dksX3_order_1 24 rfl rfl
theorem dksX3_order_3 : cX3_order.data.toList.drop 69 = dktX3_order_3 := dk_seg dksX3_order_2 23 rfl rfl
theorem dksX3_order_4 : cX3_order.data.toList.drop 93 = dktX3_order_4 := dk_seg dksX3_order_3 24 rfl rfl
theorem dksX3_order_5 : cX3_order.data.toList.drop 117 = dktX3_order_5 := dk_seg dksX3_order_4 24 rfl rfl
theorem dksX3_order_6 : cX3_order.data.toList.drop 139 = dktX3_order_6 := dk_seg dksX3_order_5 22 rfl rfl
theorem dksX3_order_7 : cX3_order.data.toList.drop 163 = dktX3_order_7 := dk_seg dksX3_order_6 24 rfl rfl
theorem dX3_order_0 : decode cX3_order 0 = .ok (.iload_n 1, 1) := dk_27 (dk_at dksX3_order_0 0 rfl rfl)
theorem dX3_order_1 : decode cX3_order 1 = .ok (.iconst 0, 1) := dk_3 (dk_at dksX3_order_0 1 rfl rfl)
theorem dX3_order_2 : decode cX3_order 2 = .ok (.iconst 3, 1) := dk_6 (dk_at dksX3_order_0 2 rfl rfl)
theorem dX3_order_3 : decode cX3_order 3 = .ok (.invokestatic 51, 3) := dk_184 0 51 (dk_at dksX3_order_0 3 rfl rfl)
theorem dX3_order_6 : decode cX3_order 6 = .ok (.ifCond .eq 46, 3) := dk_153 0 46 (dk_at dksX3_order_0 6 rfl rfl)
theorem dX3_order_9 : decode cX3_order 9 = .ok (.iload_n 2, 1) := dk_28 (dk_at dksX3_order_0 9 rfl rfl)
theorem dX3_order_10 : decode cX3_order 10 = .ok (.iconst 1, 1) := dk_4 (dk_at dksX3_order_0 10 rfl rfl)
theorem dX3_order_11 : decode cX3_order 11 = .ok (.bipush 9, 2) := dk_16 9 (dk_at dksX3_order_0 11 rfl rfl)
theorem dX3_order_13 : decode cX3_order 13 = .ok (.invokestatic 51, 3) := dk_184 0 51 (dk_at dksX3_order_0 13 rfl rfl)
theorem dX3_order_16 : decode cX3_order 16 = .ok (.ifCond .eq 36, 3) := dk_153 0 36 (dk_at dksX3_order_0 16 rfl rfl)
theorem dX3_order_19 : decode cX3_order 19 = .ok (.iload_n 3, 1) := dk_29 (dk_at dksX3_order_0 19 rfl rfl)
theorem dX3_order_20 : decode cX3_order 20 = .ok (.iconst 1, 1) := dk_4 (dk_at dksX3_order_0 20 rfl rfl)
theorem dX3_order_21 : decode cX3_order 21 = .ok (.iconst 5, 1) := dk_8 (dk_at dksX3_order_0 21 rfl rfl)
theorem dX3_order_22 : decode cX3_order 22 = .ok (.invokestatic 51, 3) := dk_184 0 51 (dk_at dksX3_order_1 0 rfl rfl)
theorem dX3_order_25 : decode cX3_order 25 = .ok (.ifCond .eq 27, 3) := dk_153 0 27 (dk_at dksX3_order_1 3 rfl rfl)
theorem dX3_order_28 : decode cX3_order 28 = .ok (.iload 4, 2) := dk_21 4 (dk_at dksX3_order_1 6 rfl rfl)
theorem dX3_order_30 : decode cX3_order 30 = .ok (.iconst 1, 1) := dk_4 (dk_at dksX3_order_1 8 rfl rfl)
theorem dX3_order_31 : decode cX3_order 31 = .ok (.sipush 400, 3) := dk_17 1 144 (dk_at dksX3_order_1 9 rfl rfl)
theorem dX3_order_34 : decode cX3_order 34 = .ok (.invokestatic 51, 3) := dk_184 0 51 (dk_at dksX3_order_1 12 rfl rfl)
theorem dX3_order_37 : decode cX3_order 37 = .ok (.ifCond .eq 15, 3) := dk_153 0 15 (dk_at dksX3_order_1 15 rfl rfl)
theorem dX3_order_40 : decode cX3_order 40 = .ok (.iload 5, 2) := dk_21 5 (dk_at dksX3_order_1 18 rfl rfl)
theorem dX3_order_42 : decode cX3_order 42 = .ok (.iconst 1, 1) := dk_4 (dk_at dksX3_order_1 20 rfl rfl)
theorem dX3_order_43 : decode cX3_order 43 = .ok (.sipush 999, 3) := dk_17 3 231 (dk_at dksX3_order_1 21 rfl rfl)
theorem dX3_order_46 : decode cX3_order 46 = .ok (.invokestatic 51, 3) := dk_184 0 51 (dk_at dksX3_order_2 0 rfl rfl)
theorem dX3_order_49 : decode cX3_order 49 = .ok (.ifCond .ne 6, 3) := dk_154 0 6 (dk_at dksX3_order_2 3 rfl rfl)
theorem dX3_order_52 : decode cX3_order 52 = .ok (.bipush (-2), 2) := dk_16 254 (dk_at dksX3_order_2 6 rfl rfl)
theorem dX3_order_54 : decode cX3_order 54 = .ok (.ireturn, 1) := dk_172 (dk_at dksX3_order_2 8 rfl rfl)
theorem dX3_order_55 : decode cX3_order 55 = .ok (.aload_n 0, 1) := dk_42 (dk_at dksX3_order_2 9 rfl rfl)
theorem dX3_order_56 : decode cX3_order 56 = .ok (.getfield 9, 3) := dk_180 0 9 (dk_at dksX3_order_2 10 rfl rfl)
theorem dX3_order_59 : decode cX3_order 59 = .ok (.iconst 3, 1) := dk_6 (dk_at dksX3_order_2 13 rfl rfl)
theorem dX3_order_60 : decode cX3_order 60 = .ok (.iaload, 1) := dk_46 (dk_at dksX3_order_2 14 rfl rfl)
theorem dX3_order_61 : decode cX3_order 61 = .ok (.bipush 8, 2) := dk_16 8 (dk_at dksX3_order_2 15 rfl rfl)
theorem dX3_order_63 : decode cX3_order 63 = .ok (.if_icmp .ne 17, 3) := dk_160 0 17 (dk_at dksX3_order_2 17 rfl rfl)
theorem dX3_order_66 : decode cX3_order 66 = .ok (.aload_n 0, 1) := dk_42 (dk_at dksX3_order_2 20 rfl rfl)
theorem dX3_order_67 : decode cX3_order 67 = .ok (.bipush 12, 2) := dk_16 12 (dk_at dksX3_order_2 21 rfl rfl)
theorem dX3_order_69 : decode cX3_order 69 = .ok (.bipush 8, 2) := dk_16 8 (dk_at dksX3_order_3 0 rfl rfl)
theorem dX3_order_71 : decode cX3_order 71 = .ok (.invokevirtual 64, 3) := dk_182 0 64 (dk_at dksX3_order_3 2 rfl rfl)
theorem dX3_order_74 : decode cX3_order 74 = .ok (.pop, 1) := dk_87 (dk_at dksX3_order_3 5 rfl rfl)
theorem dX3_order_75 : decode cX3_order 75 = .ok (.aload_n 0, 1) := dk_42 (dk_at dksX3_order_3 6 rfl rfl)
theorem dX3_order_76 : decode cX3_order 76 = .ok (.invokevirtual 68, 3) := dk_182 0 68 (dk_at dksX3_order_3 7 rfl rfl)
theorem dX3_order_79 : decode cX3_order 79 = .ok (.ireturn, 1) := dk_172 (dk_at dksX3_order_3 10 rfl rfl)
theorem dX3_order_80 : decode cX3_order 80 = .ok (.aload_n 0, 1) := dk_42 (dk_at dksX3_order_3 11 rfl rfl)
theorem dX3_order_81 : decode cX3_order 81 = .ok (.invokevirtual 61, 3) := dk_182 0 61 (dk_at dksX3_order_3 12 rfl rfl)
theorem dX3_order_84 : decode cX3_order 84 = .ok (.sipush 258, 3) := dk_17 1 2 (dk_at dksX3_order_3 15 rfl rfl)
theorem dX3_order_87 : decode cX3_order 87 = .ok (.bipush 6, 2) := dk_16 6 (dk_at dksX3_order_3 18 rfl rfl)
theorem dX3_order_89 : decode cX3_order 89 = .ok (.aload_n 0, 1) := dk_42 (dk_at dksX3_order_3 20 rfl rfl)
theorem dX3_order_90 : decode cX3_order 90 = .ok (.getfield 9, 3) := dk_180 0 9 (dk_at dksX3_order_3 21 rfl rfl)
theorem dX3_order_93 : decode cX3_order 93 = .ok (.iconst 3, 1) := dk_6 (dk_at dksX3_order_4 0 rfl rfl)
theorem dX3_order_94 : decode cX3_order 94 = .ok (.iaload, 1) := dk_46 (dk_at dksX3_order_4 1 rfl rfl)
theorem dX3_order_95 : decode cX3_order 95 = .ok (.imul, 1) := dk_104 (dk_at dksX3_order_4 2 rfl rfl)
theorem dX3_order_96 : decode cX3_order 96 = .ok (.iadd, 1) := dk_96 (dk_at dksX3_order_4 3 rfl rfl)
theorem dX3_order_97 : decode cX3_order 97 = .ok (.istore 6, 2) := dk_54 6 (dk_at dksX3_order_4 4 rfl rfl)
theorem dX3_order_99 : decode cX3_order 99 = .ok (.aload_n 0, 1) := dk_42 (dk_at dksX3_order_4 6 rfl rfl)
theorem dX3_order_100 : decode cX3_order 100 = .ok (.getfield 9, 3) := dk_180 0 9 (dk_at dksX3_order_4 7 rfl rfl)
theorem dX3_order_103 : decode cX3_order 103 = .ok (.iload 6, 2) := dk_21 6 (dk_at dksX3_order_4 10 rfl rfl)
theorem dX3_order_105 : decode cX3_order 105 = .ok (.iload_n 1, 1) := dk_27 (dk_at dksX3_order_4 12 rfl rfl)
theorem dX3_order_106 : decode cX3_order 106 = .ok (.iastore, 1) := dk_79 (dk_at dksX3_order_4 13 rfl rfl)
theorem dX3_order_107 : decode cX3_order 107 = .ok (.aload_n 0, 1) := dk_42 (dk_at dksX3_order_4 14 rfl rfl)
theorem dX3_order_108 : decode cX3_order 108 = .ok (.getfield 9, 3) := dk_180 0 9 (dk_at dksX3_order_4 15 rfl rfl)
theorem dX3_order_111 : decode cX3_order 111 = .ok (.iload 6, 2) := dk_21 6 (dk_at dksX3_order_4 18 rfl rfl)
theorem dX3_order_113 : decode cX3_order 113 = .ok (.iconst 1, 1) := dk_4 (dk_at dksX3_order_4 20 rfl rfl)
theorem dX3_order_114 : decode cX3_order 114 = .ok (.iadd, 1) := dk_96 (dk_at dksX3_order_4 21 rfl rfl)
theorem dX3_order_115 : decode cX3_order 115 = .ok (.iload_n 2, 1) := dk_28 (dk_at dksX3_order_4 22 rfl rfl)
theorem dX3_order_116 : decode cX3_order 116 = .ok (.iastore, 1) := dk_79 (dk_at dksX3_order_4 23 rfl rfl)
theorem dX3_order_117 : decode cX3_order 117 = .ok (.aload_n 0, 1) := dk_42 (dk_at dksX3_order_5 0 rfl rfl)
theorem dX3_order_118 : decode cX3_order 118 = .ok (.getfield 9, 3) := dk_180 0 9 (dk_at dksX3_order_5 1 rfl rfl)
theorem dX3_order_121 : decode cX3_order 121 = .ok (.iload 6, 2) := dk_21 6 (dk_at dksX3_order_5 4 rfl rfl)
theorem dX3_order_123 : decode cX3_order 123 = .ok (.iconst 2, 1) := dk_5 (dk_at dksX3_order_5 6 rfl rfl)
theorem dX3_order_124 : decode cX3_order 124 = .ok (.iadd, 1) := dk_96 (dk_at dksX3_order_5 7 rfl rfl)
theorem dX3_order_125 : decode cX3_order 125 = .ok (.iload_n 3, 1) := dk_29 (dk_at dksX3_order_5 8 rfl rfl)
theorem dX3_order_126 : decode cX3_order 126 = .ok (.iastore, 1) := dk_79 (dk_at dksX3_order_5 9 rfl rfl)
theorem dX3_order_127 : decode cX3_order 127 = .ok (.aload_n 0, 1) := dk_42 (dk_at dksX3_order_5 10 rfl rfl)
theorem dX3_order_128 : decode cX3_order 128 = .ok (.getfield 9, 3) := dk_180 0 9 (dk_at dksX3_order_5 11 rfl rfl)
theorem dX3_order_131 : decode cX3_order 131 = .ok (.iload 6, 2) := dk_21 6 (dk_at dksX3_order_5 14 rfl rfl)
theorem dX3_order_133 : decode cX3_order 133 = .ok (.iconst 3, 1) := dk_6 (dk_at dksX3_order_5 16 rfl rfl)
theorem dX3_order_134 : decode cX3_order 134 = .ok (.iadd, 1) := dk_96 (dk_at dksX3_order_5 17 rfl rfl)
theorem dX3_order_135 : decode cX3_order 135 = .ok (.iload 4, 2) := dk_21 4 (dk_at dksX3_order_5 18 rfl rfl)
theorem dX3_order_137 : decode cX3_order 137 = .ok (.iastore, 1) := dk_79 (dk_at dksX3_order_5 20 rfl rfl)
theorem dX3_order_138 : decode cX3_order 138 = .ok (.aload_n 0, 1) := dk_42 (dk_at dksX3_order_5 21 rfl rfl)
theorem dX3_order_139 : decode cX3_order 139 = .ok (.getfield 9, 3) := dk_180 0 9 (dk_at dksX3_order_6 0 rfl rfl)
theorem dX3_order_142 : decode cX3_order 142 = .ok (.iload 6, 2) := dk_21 6 (dk_at dksX3_order_6 3 rfl rfl)
theorem dX3_order_144 : decode cX3_order 144 = .ok (.iconst 4, 1) := dk_7 (dk_at dksX3_order_6 5 rfl rfl)
theorem dX3_order_145 : decode cX3_order 145 = .ok (.iadd, 1) := dk_96 (dk_at dksX3_order_6 6 rfl rfl)
theorem dX3_order_146 : decode cX3_order 146 = .ok (.iload 5, 2) := dk_21 5 (dk_at dksX3_order_6 7 rfl rfl)
theorem dX3_order_148 : decode cX3_order 148 = .ok (.iastore, 1) := dk_79 (dk_at dksX3_order_6 9 rfl rfl)
theorem dX3_order_149 : decode cX3_order 149 = .ok (.aload_n 0, 1) := dk_42 (dk_at dksX3_order_6 10 rfl rfl)
theorem dX3_order_150 : decode cX3_order 150 = .ok (.getfield 9, 3) := dk_180 0 9 (dk_at dksX3_order_6 11 rfl rfl)
theorem dX3_order_153 : decode cX3_order 153 = .ok (.iload 6, 2) := dk_21 6 (dk_at dksX3_order_6 14 rfl rfl)
theorem dX3_order_155 : decode cX3_order 155 = .ok (.iconst 5, 1) := dk_8 (dk_at dksX3_order_6 16 rfl rfl)
theorem dX3_order_156 : decode cX3_order 156 = .ok (.iadd, 1) := dk_96 (dk_at dksX3_order_6 17 rfl rfl)
theorem dX3_order_157 : decode cX3_order 157 = .ok (.iload_n 3, 1) := dk_29 (dk_at dksX3_order_6 18 rfl rfl)
theorem dX3_order_158 : decode cX3_order 158 = .ok (.iastore, 1) := dk_79 (dk_at dksX3_order_6 19 rfl rfl)
theorem dX3_order_159 : decode cX3_order 159 = .ok (.aload_n 0, 1) := dk_42 (dk_at dksX3_order_6 20 rfl rfl)
theorem dX3_order_160 : decode cX3_order 160 = .ok (.getfield 9, 3) := dk_180 0 9 (dk_at dksX3_order_6 21 rfl rfl)
theorem dX3_order_163 : decode cX3_order 163 = .ok (.iconst 3, 1) := dk_6 (dk_at dksX3_order_7 0 rfl rfl)
theorem dX3_order_164 : decode cX3_order 164 = .ok (.dup2, 1) := dk_92 (dk_at dksX3_order_7 1 rfl rfl)
theorem dX3_order_165 : decode cX3_order 165 = .ok (.iaload, 1) := dk_46 (dk_at dksX3_order_7 2 rfl rfl)
theorem dX3_order_166 : decode cX3_order 166 = .ok (.iconst 1, 1) := dk_4 (dk_at dksX3_order_7 3 rfl rfl)
theorem dX3_order_167 : decode cX3_order 167 = .ok (.iadd, 1) := dk_96 (dk_at dksX3_order_7 4 rfl rfl)
theorem dX3_order_168 : decode cX3_order 168 = .ok (.iastore, 1) := dk_79 (dk_at dksX3_order_7 5 rfl rfl)
theorem dX3_order_169 : decode cX3_order 169 = .ok (.aload_n 0, 1) := dk_42 (dk_at dksX3_order_7 6 rfl rfl)
theorem dX3_order_170 : decode cX3_order 170 = .ok (.getfield 9, 3) := dk_180 0 9 (dk_at dksX3_order_7 7 rfl rfl)
theorem dX3_order_173 : decode cX3_order 173 = .ok (.iconst 3, 1) := dk_6 (dk_at dksX3_order_7 10 rfl rfl)
theorem dX3_order_174 : decode cX3_order 174 = .ok (.iaload, 1) := dk_46 (dk_at dksX3_order_7 11 rfl rfl)
theorem dX3_order_175 : decode cX3_order 175 = .ok (.iconst 1, 1) := dk_4 (dk_at dksX3_order_7 12 rfl rfl)
theorem dX3_order_176 : decode cX3_order 176 = .ok (.isub, 1) := dk_100 (dk_at dksX3_order_7 13 rfl rfl)
theorem dX3_order_177 : decode cX3_order 177 = .ok (.ireturn, 1) := dk_172 (dk_at dksX3_order_7 14 rfl rfl)
abbrev cX3_ordered : ByteArray := prog_32_method_50_code
def yX3_ordered : MethodName := ⟨RX3, "ordered", "(II)I"⟩
def dkwX3_ordered_2 : List UInt8 := [27, 104, 96, 28, 96, 46, 167, 0, 16, 42, 27, 182, 0, 130, 153, 0, 7, 4, 167, 0, 4, 3, 172]
abbrev dktX3_ordered_2 : List UInt8 := dkwX3_ordered_2 ++ []
def dkwX3_ordered_1 : List UInt8 := [184, 0, 51, 154, 0, 6, 16, 254, 172, 28, 16, 6, 162, 0, 21, 42, 180, 0, 9, 17, 1, 2, 16, 6]
abbrev dktX3_ordered_1 : List UInt8 := dkwX3_ordered_1 ++ dktX3_ordered_2
def dkwX3_ordered_0 : List UInt8 := [27, 3, 42, 180, 0, 9, 6, 46, 4, 100, 184, 0, 51, 154, 0, 5, 2, 172, 28, 3, 16, 6]
abbrev dktX3_ordered_0 : List UInt8 := dkwX3_ordered_0 ++ dktX3_ordered_1
theorem dksX3_ordered_0 : cX3_ordered.data.toList.drop 0 = dktX3_ordered_0 := by decide +kernel
theorem dksX3_ordered_1 : cX3_ordered.data.toList.drop 22 = dktX3_ordered_1 := dk_seg dksX3_ordered_0 22 rfl rfl
theorem dksX3_ordered_2 : cX3_ordered.data.toList.drop 46 = dktX3_ordered_2 := dk_seg dksX3_ordered_1 24 rfl rfl
theorem dX3_ordered_0 : decode cX3_ordered 0 = .ok (.iload_n 1, 1) := dk_27 (dk_at dksX3_ordered_0 0 rfl rfl)
theorem dX3_ordered_1 : decode cX3_ordered 1 = .ok (.iconst 0, 1) := dk_3 (dk_at dksX3_ordered_0 1 rfl rfl)
theorem dX3_ordered_2 : decode cX3_ordered 2 = .ok (.aload_n 0, 1) := dk_42 (dk_at dksX3_ordered_0 2 rfl rfl)
theorem dX3_ordered_3 : decode cX3_ordered 3 = .ok (.getfield 9, 3) := dk_180 0 9 (dk_at dksX3_ordered_0 3 rfl rfl)
theorem dX3_ordered_6 : decode cX3_ordered 6 = .ok (.iconst 3, 1) := dk_6 (dk_at dksX3_ordered_0 6 rfl rfl)
theorem dX3_ordered_7 : decode cX3_ordered 7 = .ok (.iaload, 1) := dk_46 (dk_at dksX3_ordered_0 7 rfl rfl)
theorem dX3_ordered_8 : decode cX3_ordered 8 = .ok (.iconst 1, 1) := dk_4 (dk_at dksX3_ordered_0 8 rfl rfl)
theorem dX3_ordered_9 : decode cX3_ordered 9 = .ok (.isub, 1) := dk_100 (dk_at dksX3_ordered_0 9 rfl rfl)
theorem dX3_ordered_10 : decode cX3_ordered 10 = .ok (.invokestatic 51, 3) := dk_184 0 51 (dk_at dksX3_ordered_0 10 rfl rfl)
theorem dX3_ordered_13 : decode cX3_ordered 13 = .ok (.ifCond .ne 5, 3) := dk_154 0 5 (dk_at dksX3_ordered_0 13 rfl rfl)
theorem dX3_ordered_16 : decode cX3_ordered 16 = .ok (.iconst (-1), 1) := dk_2 (dk_at dksX3_ordered_0 16 rfl rfl)
theorem dX3_ordered_17 : decode cX3_ordered 17 = .ok (.ireturn, 1) := dk_172 (dk_at dksX3_ordered_0 17 rfl rfl)
theorem dX3_ordered_18 : decode cX3_ordered 18 = .ok (.iload_n 2, 1) := dk_28 (dk_at dksX3_ordered_0 18 rfl rfl)
theorem dX3_ordered_19 : decode cX3_ordered 19 = .ok (.iconst 0, 1) := dk_3 (dk_at dksX3_ordered_0 19 rfl rfl)
theorem dX3_ordered_20 : decode cX3_ordered 20 = .ok (.bipush 6, 2) := dk_16 6 (dk_at dksX3_ordered_0 20 rfl rfl)
theorem dX3_ordered_22 : decode cX3_ordered 22 = .ok (.invokestatic 51, 3) := dk_184 0 51 (dk_at dksX3_ordered_1 0 rfl rfl)
theorem dX3_ordered_25 : decode cX3_ordered 25 = .ok (.ifCond .ne 6, 3) := dk_154 0 6 (dk_at dksX3_ordered_1 3 rfl rfl)
theorem dX3_ordered_28 : decode cX3_ordered 28 = .ok (.bipush (-2), 2) := dk_16 254 (dk_at dksX3_ordered_1 6 rfl rfl)
theorem dX3_ordered_30 : decode cX3_ordered 30 = .ok (.ireturn, 1) := dk_172 (dk_at dksX3_ordered_1 8 rfl rfl)
theorem dX3_ordered_31 : decode cX3_ordered 31 = .ok (.iload_n 2, 1) := dk_28 (dk_at dksX3_ordered_1 9 rfl rfl)
theorem dX3_ordered_32 : decode cX3_ordered 32 = .ok (.bipush 6, 2) := dk_16 6 (dk_at dksX3_ordered_1 10 rfl rfl)
theorem dX3_ordered_34 : decode cX3_ordered 34 = .ok (.if_icmp .ge 21, 3) := dk_162 0 21 (dk_at dksX3_ordered_1 12 rfl rfl)
theorem dX3_ordered_37 : decode cX3_ordered 37 = .ok (.aload_n 0, 1) := dk_42 (dk_at dksX3_ordered_1 15 rfl rfl)
theorem dX3_ordered_38 : decode cX3_ordered 38 = .ok (.getfield 9, 3) := dk_180 0 9 (dk_at dksX3_ordered_1 16 rfl rfl)
theorem dX3_ordered_41 : decode cX3_ordered 41 = .ok (.sipush 258, 3) := dk_17 1 2 (dk_at dksX3_ordered_1 19 rfl rfl)
theorem dX3_ordered_44 : decode cX3_ordered 44 = .ok (.bipush 6, 2) := dk_16 6 (dk_at dksX3_ordered_1 22 rfl rfl)
theorem dX3_ordered_46 : decode cX3_ordered 46 = .ok (.iload_n 1, 1) := dk_27 (dk_at dksX3_ordered_2 0 rfl rfl)
theorem dX3_ordered_47 : decode cX3_ordered 47 = .ok (.imul, 1) := dk_104 (dk_at dksX3_ordered_2 1 rfl rfl)
theorem dX3_ordered_48 : decode cX3_ordered 48 = .ok (.iadd, 1) := dk_96 (dk_at dksX3_ordered_2 2 rfl rfl)
theorem dX3_ordered_49 : decode cX3_ordered 49 = .ok (.iload_n 2, 1) := dk_28 (dk_at dksX3_ordered_2 3 rfl rfl)
theorem dX3_ordered_50 : decode cX3_ordered 50 = .ok (.iadd, 1) := dk_96 (dk_at dksX3_ordered_2 4 rfl rfl)
theorem dX3_ordered_51 : decode cX3_ordered 51 = .ok (.iaload, 1) := dk_46 (dk_at dksX3_ordered_2 5 rfl rfl)
theorem dX3_ordered_52 : decode cX3_ordered 52 = .ok (.goto 16, 3) := dk_167 0 16 (dk_at dksX3_ordered_2 6 rfl rfl)
theorem dX3_ordered_55 : decode cX3_ordered 55 = .ok (.aload_n 0, 1) := dk_42 (dk_at dksX3_ordered_2 9 rfl rfl)
theorem dX3_ordered_56 : decode cX3_ordered 56 = .ok (.iload_n 1, 1) := dk_27 (dk_at dksX3_ordered_2 10 rfl rfl)
theorem dX3_ordered_57 : decode cX3_ordered 57 = .ok (.invokevirtual 130, 3) := dk_182 0 130 (dk_at dksX3_ordered_2 11 rfl rfl)
theorem dX3_ordered_60 : decode cX3_ordered 60 = .ok (.ifCond .eq 7, 3) := dk_153 0 7 (dk_at dksX3_ordered_2 14 rfl rfl)
theorem dX3_ordered_63 : decode cX3_ordered 63 = .ok (.iconst 1, 1) := dk_4 (dk_at dksX3_ordered_2 17 rfl rfl)
theorem dX3_ordered_64 : decode cX3_ordered 64 = .ok (.goto 4, 3) := dk_167 0 4 (dk_at dksX3_ordered_2 18 rfl rfl)
theorem dX3_ordered_67 : decode cX3_ordered 67 = .ok (.iconst 0, 1) := dk_3 (dk_at dksX3_ordered_2 21 rfl rfl)
theorem dX3_ordered_68 : decode cX3_ordered 68 = .ok (.ireturn, 1) := dk_172 (dk_at dksX3_ordered_2 22 rfl rfl)
abbrev cX3_pass : ByteArray := prog_32_method_56_code
def yX3_pass : MethodName := ⟨RX3, "pass", "(I)I"⟩
def dkwX3_pass_1 : List UInt8 := [182, 0, 68, 172, 42, 182, 0, 61, 42, 27, 182, 0, 175, 42, 180, 0, 9, 3, 46, 172]
abbrev dktX3_pass_1 : List UInt8 := dkwX3_pass_1 ++ []
def dkwX3_pass_0 : List UInt8 := [27, 4, 16, 48, 184, 0, 51, 154, 0, 6, 16, 254, 172, 42, 27, 182, 0, 172, 153, 0, 8, 42]
abbrev dktX3_pass_0 : List UInt8 := dkwX3_pass_0 ++ dktX3_pass_1
theorem dksX3_pass_0 : cX3_pass.data.toList.drop 0 = dktX3_pass_0 := by decide +kernel
theorem dksX3_pass_1 : cX3_pass.data.toList.drop 22 = dktX3_pass_1 := dk_seg dksX3_pass_0 22 rfl rfl
theorem dX3_pass_0 : decode cX3_pass 0 = .ok (.iload_n 1, 1) := dk_27 (dk_at dksX3_pass_0 0 rfl rfl)
theorem dX3_pass_1 : decode cX3_pass 1 = .ok (.iconst 1, 1) := dk_4 (dk_at dksX3_pass_0 1 rfl rfl)
theorem dX3_pass_2 : decode cX3_pass 2 = .ok (.bipush 48, 2) := dk_16 48 (dk_at dksX3_pass_0 2 rfl rfl)
theorem dX3_pass_4 : decode cX3_pass 4 = .ok (.invokestatic 51, 3) := dk_184 0 51 (dk_at dksX3_pass_0 4 rfl rfl)
theorem dX3_pass_7 : decode cX3_pass 7 = .ok (.ifCond .ne 6, 3) := dk_154 0 6 (dk_at dksX3_pass_0 7 rfl rfl)
theorem dX3_pass_10 : decode cX3_pass 10 = .ok (.bipush (-2), 2) := dk_16 254 (dk_at dksX3_pass_0 10 rfl rfl)
theorem dX3_pass_12 : decode cX3_pass 12 = .ok (.ireturn, 1) := dk_172 (dk_at dksX3_pass_0 12 rfl rfl)
theorem dX3_pass_13 : decode cX3_pass 13 = .ok (.aload_n 0, 1) := dk_42 (dk_at dksX3_pass_0 13 rfl rfl)
theorem dX3_pass_14 : decode cX3_pass 14 = .ok (.iload_n 1, 1) := dk_27 (dk_at dksX3_pass_0 14 rfl rfl)
theorem dX3_pass_15 : decode cX3_pass 15 = .ok (.invokevirtual 172, 3) := dk_182 0 172 (dk_at dksX3_pass_0 15 rfl rfl)
theorem dX3_pass_18 : decode cX3_pass 18 = .ok (.ifCond .eq 8, 3) := dk_153 0 8 (dk_at dksX3_pass_0 18 rfl rfl)
theorem dX3_pass_21 : decode cX3_pass 21 = .ok (.aload_n 0, 1) := dk_42 (dk_at dksX3_pass_0 21 rfl rfl)
theorem dX3_pass_22 : decode cX3_pass 22 = .ok (.invokevirtual 68, 3) := dk_182 0 68 (dk_at dksX3_pass_1 0 rfl rfl)
theorem dX3_pass_25 : decode cX3_pass 25 = .ok (.ireturn, 1) := dk_172 (dk_at dksX3_pass_1 3 rfl rfl)
theorem dX3_pass_26 : decode cX3_pass 26 = .ok (.aload_n 0, 1) := dk_42 (dk_at dksX3_pass_1 4 rfl rfl)
theorem dX3_pass_27 : decode cX3_pass 27 = .ok (.invokevirtual 61, 3) := dk_182 0 61 (dk_at dksX3_pass_1 5 rfl rfl)
theorem dX3_pass_30 : decode cX3_pass 30 = .ok (.aload_n 0, 1) := dk_42 (dk_at dksX3_pass_1 8 rfl rfl)
theorem dX3_pass_31 : decode cX3_pass 31 = .ok (.iload_n 1, 1) := dk_27 (dk_at dksX3_pass_1 9 rfl rfl)
theorem dX3_pass_32 : decode cX3_pass 32 = .ok (.invokevirtual 175, 3) := dk_182 0 175 (dk_at dksX3_pass_1 10 rfl rfl)
theorem dX3_pass_35 : decode cX3_pass 35 = .ok (.aload_n 0, 1) := dk_42 (dk_at dksX3_pass_1 13 rfl rfl)
theorem dX3_pass_36 : decode cX3_pass 36 = .ok (.getfield 9, 3) := dk_180 0 9 (dk_at dksX3_pass_1 14 rfl rfl)
theorem dX3_pass_39 : decode cX3_pass 39 = .ok (.iconst 0, 1) := dk_3 (dk_at dksX3_pass_1 17 rfl rfl)
theorem dX3_pass_40 : decode cX3_pass 40 = .ok (.iaload, 1) := dk_46 (dk_at dksX3_pass_1 18 rfl rfl)
theorem dX3_pass_41 : decode cX3_pass 41 = .ok (.ireturn, 1) := dk_172 (dk_at dksX3_pass_1 19 rfl rfl)
abbrev cX3_mayPass : ByteArray := prog_32_method_24_code
def yX3_mayPass : MethodName := ⟨RX3, "mayPass", "(I)I"⟩
def dkwX3_mayPass_1 : List UInt8 := [96, 182, 0, 64, 167, 0, 4, 3, 172]
abbrev dktX3_mayPass_1 : List UInt8 := dkwX3_mayPass_1 ++ []
def dkwX3_mayPass_0 : List UInt8 := [42, 180, 0, 9, 3, 46, 27, 96, 17, 1, 144, 164, 0, 20, 42, 16, 17, 42, 180, 0, 9, 3, 46, 27]
abbrev dktX3_mayPass_0 : List UInt8 := dkwX3_mayPass_0 ++ dktX3_mayPass_1
theorem dksX3_mayPass_0 : cX3_mayPass.data.toList.drop 0 = dktX3_mayPass_0 := by decide +kernel
theorem dksX3_mayPass_1 : cX3_mayPass.data.toList.drop 24 = dktX3_mayPass_1 := dk_seg dksX3_mayPass_0 24 rfl rfl
theorem dX3_mayPass_0 : decode cX3_mayPass 0 = .ok (.aload_n 0, 1) := dk_42 (dk_at dksX3_mayPass_0 0 rfl rfl)
theorem dX3_mayPass_1 : decode cX3_mayPass 1 = .ok (.getfield 9, 3) := dk_180 0 9 (dk_at dksX3_mayPass_0 1 rfl rfl)
theorem dX3_mayPass_4 : decode cX3_mayPass 4 = .ok (.iconst 0, 1) := dk_3 (dk_at dksX3_mayPass_0 4 rfl rfl)
theorem dX3_mayPass_5 : decode cX3_mayPass 5 = .ok (.iaload, 1) := dk_46 (dk_at dksX3_mayPass_0 5 rfl rfl)
theorem dX3_mayPass_6 : decode cX3_mayPass 6 = .ok (.iload_n 1, 1) := dk_27 (dk_at dksX3_mayPass_0 6 rfl rfl)
theorem dX3_mayPass_7 : decode cX3_mayPass 7 = .ok (.iadd, 1) := dk_96 (dk_at dksX3_mayPass_0 7 rfl rfl)
theorem dX3_mayPass_8 : decode cX3_mayPass 8 = .ok (.sipush 400, 3) := dk_17 1 144 (dk_at dksX3_mayPass_0 8 rfl rfl)
theorem dX3_mayPass_11 : decode cX3_mayPass 11 = .ok (.if_icmp .le 20, 3) := dk_164 0 20 (dk_at dksX3_mayPass_0 11 rfl rfl)
theorem dX3_mayPass_14 : decode cX3_mayPass 14 = .ok (.aload_n 0, 1) := dk_42 (dk_at dksX3_mayPass_0 14 rfl rfl)
theorem dX3_mayPass_15 : decode cX3_mayPass 15 = .ok (.bipush 17, 2) := dk_16 17 (dk_at dksX3_mayPass_0 15 rfl rfl)
theorem dX3_mayPass_17 : decode cX3_mayPass 17 = .ok (.aload_n 0, 1) := dk_42 (dk_at dksX3_mayPass_0 17 rfl rfl)
theorem dX3_mayPass_18 : decode cX3_mayPass 18 = .ok (.getfield 9, 3) := dk_180 0 9 (dk_at dksX3_mayPass_0 18 rfl rfl)
theorem dX3_mayPass_21 : decode cX3_mayPass 21 = .ok (.iconst 0, 1) := dk_3 (dk_at dksX3_mayPass_0 21 rfl rfl)
theorem dX3_mayPass_22 : decode cX3_mayPass 22 = .ok (.iaload, 1) := dk_46 (dk_at dksX3_mayPass_0 22 rfl rfl)
theorem dX3_mayPass_23 : decode cX3_mayPass 23 = .ok (.iload_n 1, 1) := dk_27 (dk_at dksX3_mayPass_0 23 rfl rfl)
theorem dX3_mayPass_24 : decode cX3_mayPass 24 = .ok (.iadd, 1) := dk_96 (dk_at dksX3_mayPass_1 0 rfl rfl)
theorem dX3_mayPass_25 : decode cX3_mayPass 25 = .ok (.invokevirtual 64, 3) := dk_182 0 64 (dk_at dksX3_mayPass_1 1 rfl rfl)
theorem dX3_mayPass_28 : decode cX3_mayPass 28 = .ok (.goto 4, 3) := dk_167 0 4 (dk_at dksX3_mayPass_1 4 rfl rfl)
theorem dX3_mayPass_31 : decode cX3_mayPass 31 = .ok (.iconst 0, 1) := dk_3 (dk_at dksX3_mayPass_1 7 rfl rfl)
theorem dX3_mayPass_32 : decode cX3_mayPass 32 = .ok (.ireturn, 1) := dk_172 (dk_at dksX3_mayPass_1 8 rfl rfl)
abbrev cX3_hours : ByteArray := prog_32_method_55_code
def yX3_hours : MethodName := ⟨RX3, "hours", "(I)V"⟩
def dkwX3_hours_0 : List UInt8 := [3, 61, 28, 27, 162, 0, 13, 42, 182, 0, 169, 132, 2, 1, 167, 255, 244, 177]
abbrev dktX3_hours_0 : List UInt8 := dkwX3_hours_0 ++ []
theorem dksX3_hours_0 : cX3_hours.data.toList.drop 0 = dktX3_hours_0 := by decide +kernel
theorem dX3_hours_0 : decode cX3_hours 0 = .ok (.iconst 0, 1) := dk_3 (dk_at dksX3_hours_0 0 rfl rfl)
theorem dX3_hours_1 : decode cX3_hours 1 = .ok (.istore_n 2, 1) := dk_61 (dk_at dksX3_hours_0 1 rfl rfl)
theorem dX3_hours_2 : decode cX3_hours 2 = .ok (.iload_n 2, 1) := dk_28 (dk_at dksX3_hours_0 2 rfl rfl)
theorem dX3_hours_3 : decode cX3_hours 3 = .ok (.iload_n 1, 1) := dk_27 (dk_at dksX3_hours_0 3 rfl rfl)
theorem dX3_hours_4 : decode cX3_hours 4 = .ok (.if_icmp .ge 13, 3) := dk_162 0 13 (dk_at dksX3_hours_0 4 rfl rfl)
theorem dX3_hours_7 : decode cX3_hours 7 = .ok (.aload_n 0, 1) := dk_42 (dk_at dksX3_hours_0 7 rfl rfl)
theorem dX3_hours_8 : decode cX3_hours 8 = .ok (.invokevirtual 169, 3) := dk_182 0 169 (dk_at dksX3_hours_0 8 rfl rfl)
theorem dX3_hours_11 : decode cX3_hours 11 = .ok (.iinc 2 1, 3) := dk_132 2 1 (dk_at dksX3_hours_0 11 rfl rfl)
theorem dX3_hours_14 : decode cX3_hours 14 = .ok (.goto (-12), 3) := dk_167 255 244 (dk_at dksX3_hours_0 14 rfl rfl)
theorem dX3_hours_17 : decode cX3_hours 17 = .ok (.return_, 1) := dk_177 (dk_at dksX3_hours_0 17 rfl rfl)
abbrev cX3_hour : ByteArray := prog_32_method_54_code
def yX3_hour : MethodName := ⟨RX3, "hour", "()V"⟩
def dkwX3_hour_8 : List UInt8 := [159, 0, 8, 42, 27, 182, 0, 166, 177]
abbrev dktX3_hour_8 : List UInt8 := dkwX3_hour_8 ++ []
def dkwX3_hour_7 : List UInt8 := [2, 79, 42, 180, 0, 9, 16, 38, 46, 2, 160, 0, 10, 42, 182, 0, 163, 167, 0, 4, 2, 60, 27, 2]
abbrev dktX3_hour_7 : List UInt8 := dkwX3_hour_7 ++ dktX3_hour_8
def dkwX3_hour_6 : List UInt8 := [180, 0, 9, 27, 16, 12, 96, 4, 79, 42, 180, 0, 9, 27, 8, 96, 3, 79, 42, 180, 0, 9, 16, 38]
abbrev dktX3_hour_6 : List UInt8 := dkwX3_hour_6 ++ dktX3_hour_7
def dkwX3_hour_5 : List UInt8 := [60, 42, 180, 0, 9, 27, 3, 96, 5, 79, 42, 180, 0, 9, 27, 16, 11, 96, 12, 184, 0, 154, 79, 42]
abbrev dktX3_hour_5 : List UInt8 := dkwX3_hour_5 ++ dktX3_hour_6
def dkwX3_hour_4 : List UInt8 := [46, 4, 100, 79, 42, 180, 0, 9, 16, 39, 46, 154, 0, 63, 42, 180, 0, 9, 16, 38, 46, 184, 0, 72]
abbrev dktX3_hour_4 : List UInt8 := dkwX3_hour_4 ++ dktX3_hour_5
def dkwX3_hour_3 : List UInt8 := [132, 1, 1, 167, 255, 223, 42, 180, 0, 9, 16, 38, 46, 2, 159, 0, 84, 42, 180, 0, 9, 16, 39, 92]
abbrev dktX3_hour_3 : List UInt8 := dkwX3_hour_3 ++ dktX3_hour_4
def dkwX3_hour_2 : List UInt8 := [162, 0, 29, 42, 180, 0, 9, 27, 184, 0, 72, 3, 96, 46, 5, 160, 0, 8, 42, 27, 182, 0, 159]
abbrev dktX3_hour_2 : List UInt8 := dkwX3_hour_2 ++ dktX3_hour_3
def dkwX3_hour_1 : List UInt8 := [180, 0, 9, 17, 2, 195, 42, 180, 0, 9, 3, 46, 96, 3, 79, 3, 60, 27, 42, 180, 0, 9, 5, 46]
abbrev dktX3_hour_1 : List UInt8 := dkwX3_hour_1 ++ dktX3_hour_2
def dkwX3_hour_0 : List UInt8 := [42, 180, 0, 9, 3, 92, 46, 4, 96, 79, 42, 180, 0, 9, 3, 46, 17, 1, 144, 163, 0, 19, 42]
abbrev dktX3_hour_0 : List UInt8 := dkwX3_hour_0 ++ dktX3_hour_1
theorem dksX3_hour_0 : cX3_hour.data.toList.drop 0 = dktX3_hour_0 := by decide +kernel
theorem dksX3_hour_1 : cX3_hour.data.toList.drop 23 = dktX3_hour_1 := dk_seg dksX3_hour_0 23 rfl rfl
theorem dksX3_hour_2 : cX3_hour.data.toList.drop 47 = dktX3_hour_2 := dk_seg dksX3_hour_1 24 rfl rfl
theorem dksX3_hour_3 : cX3_hour.data.toList.drop 70 = dktX3_hour_3 := dk_seg dksX3_hour_2 23 rfl rfl
theorem dksX3_hour_4 : cX3_hour.data.toList.drop 94 = dktX3_hour_4 := dk_seg dksX3_hour_3 24 rfl rfl
theorem dksX3_hour_5 : cX3_hour.data.toList.drop 118 = dktX3_hour_5 := dk_seg dksX3_hour_4 24 rfl rfl
theorem dksX3_hour_6 : cX3_hour.data.toList.drop 142 = dktX3_hour_6 := dk_seg dksX3_hour_5 24 rfl rfl
theorem dksX3_hour_7 : cX3_hour.data.toList.drop 166 = dktX3_hour_7 := dk_seg dksX3_hour_6 24 rfl rfl
theorem dksX3_hour_8 : cX3_hour.data.toList.drop 190 = dktX3_hour_8 := dk_seg dksX3_hour_7 24 rfl rfl
theorem dX3_hour_0 : decode cX3_hour 0 = .ok (.aload_n 0, 1) := dk_42 (dk_at dksX3_hour_0 0 rfl rfl)
theorem dX3_hour_1 : decode cX3_hour 1 = .ok (.getfield 9, 3) := dk_180 0 9 (dk_at dksX3_hour_0 1 rfl rfl)
theorem dX3_hour_4 : decode cX3_hour 4 = .ok (.iconst 0, 1) := dk_3 (dk_at dksX3_hour_0 4 rfl rfl)
theorem dX3_hour_5 : decode cX3_hour 5 = .ok (.dup2, 1) := dk_92 (dk_at dksX3_hour_0 5 rfl rfl)
theorem dX3_hour_6 : decode cX3_hour 6 = .ok (.iaload, 1) := dk_46 (dk_at dksX3_hour_0 6 rfl rfl)
theorem dX3_hour_7 : decode cX3_hour 7 = .ok (.iconst 1, 1) := dk_4 (dk_at dksX3_hour_0 7 rfl rfl)
theorem dX3_hour_8 : decode cX3_hour 8 = .ok (.iadd, 1) := dk_96 (dk_at dksX3_hour_0 8 rfl rfl)
theorem dX3_hour_9 : decode cX3_hour 9 = .ok (.iastore, 1) := dk_79 (dk_at dksX3_hour_0 9 rfl rfl)
theorem dX3_hour_10 : decode cX3_hour 10 = .ok (.aload_n 0, 1) := dk_42 (dk_at dksX3_hour_0 10 rfl rfl)
theorem dX3_hour_11 : decode cX3_hour 11 = .ok (.getfield 9, 3) := dk_180 0 9 (dk_at dksX3_hour_0 11 rfl rfl)
theorem dX3_hour_14 : decode cX3_hour 14 = .ok (.iconst 0, 1) := dk_3 (dk_at dksX3_hour_0 14 rfl rfl)
theorem dX3_hour_15 : decode cX3_hour 15 = .ok (.iaload, 1) := dk_46 (dk_at dksX3_hour_0 15 rfl rfl)
theorem dX3_hour_16 : decode cX3_hour 16 = .ok (.sipush 400, 3) := dk_17 1 144 (dk_at dksX3_hour_0 16 rfl rfl)
theorem dX3_hour_19 : decode cX3_hour 19 = .ok (.if_icmp .gt 19, 3) := dk_163 0 19 (dk_at dksX3_hour_0 19 rfl rfl)
theorem dX3_hour_22 : decode cX3_hour 22 = .ok (.aload_n 0, 1) := dk_42 (dk_at dksX3_hour_0 22 rfl rfl)
theorem dX3_hour_23 : decode cX3_hour 23 = .ok (.getfield 9, 3) := dk_180 0 9 (dk_at dksX3_hour_1 0 rfl rfl)
theorem dX3_hour_26 : decode cX3_hour 26 = .ok (.sipush 707, 3) := dk_17 2 195 (dk_at dksX3_hour_1 3 rfl rfl)
theorem dX3_hour_29 : decode cX3_hour 29 = .ok (.aload_n 0, 1) := dk_42 (dk_at dksX3_hour_1 6 rfl rfl)
theorem dX3_hour_30 : decode cX3_hour 30 = .ok (.getfield 9, 3) := dk_180 0 9 (dk_at dksX3_hour_1 7 rfl rfl)
theorem dX3_hour_33 : decode cX3_hour 33 = .ok (.iconst 0, 1) := dk_3 (dk_at dksX3_hour_1 10 rfl rfl)
theorem dX3_hour_34 : decode cX3_hour 34 = .ok (.iaload, 1) := dk_46 (dk_at dksX3_hour_1 11 rfl rfl)
theorem dX3_hour_35 : decode cX3_hour 35 = .ok (.iadd, 1) := dk_96 (dk_at dksX3_hour_1 12 rfl rfl)
theorem dX3_hour_36 : decode cX3_hour 36 = .ok (.iconst 0, 1) := dk_3 (dk_at dksX3_hour_1 13 rfl rfl)
theorem dX3_hour_37 : decode cX3_hour 37 = .ok (.iastore, 1) := dk_79 (dk_at dksX3_hour_1 14 rfl rfl)
theorem dX3_hour_38 : decode cX3_hour 38 = .ok (.iconst 0, 1) := dk_3 (dk_at dksX3_hour_1 15 rfl rfl)
theorem dX3_hour_39 : decode cX3_hour 39 = .ok (.istore_n 1, 1) := dk_60 (dk_at dksX3_hour_1 16 rfl rfl)
theorem dX3_hour_40 : decode cX3_hour 40 = .ok (.iload_n 1, 1) := dk_27 (dk_at dksX3_hour_1 17 rfl rfl)
theorem dX3_hour_41 : decode cX3_hour 41 = .ok (.aload_n 0, 1) := dk_42 (dk_at dksX3_hour_1 18 rfl rfl)
theorem dX3_hour_42 : decode cX3_hour 42 = .ok (.getfield 9, 3) := dk_180 0 9 (dk_at dksX3_hour_1 19 rfl rfl)
theorem dX3_hour_45 : decode cX3_hour 45 = .ok (.iconst 2, 1) := dk_5 (dk_at dksX3_hour_1 22 rfl rfl)
theorem dX3_hour_46 : decode cX3_hour 46 = .ok (.iaload, 1) := dk_46 (dk_at dksX3_hour_1 23 rfl rfl)
theorem dX3_hour_47 : decode cX3_hour 47 = .ok (.if_icmp .ge 29, 3) := dk_162 0 29 (dk_at dksX3_hour_2 0 rfl rfl)
theorem dX3_hour_50 : decode cX3_hour 50 = .ok (.aload_n 0, 1) := dk_42 (dk_at dksX3_hour_2 3 rfl rfl)
theorem dX3_hour_51 : decode cX3_hour 51 = .ok (.getfield 9, 3) := dk_180 0 9 (dk_at dksX3_hour_2 4 rfl rfl)
theorem dX3_hour_54 : decode cX3_hour 54 = .ok (.iload_n 1, 1) := dk_27 (dk_at dksX3_hour_2 7 rfl rfl)
theorem dX3_hour_55 : decode cX3_hour 55 = .ok (.invokestatic 72, 3) := dk_184 0 72 (dk_at dksX3_hour_2 8 rfl rfl)
theorem dX3_hour_58 : decode cX3_hour 58 = .ok (.iconst 0, 1) := dk_3 (dk_at dksX3_hour_2 11 rfl rfl)
theorem dX3_hour_59 : decode cX3_hour 59 = .ok (.iadd, 1) := dk_96 (dk_at dksX3_hour_2 12 rfl rfl)
theorem dX3_hour_60 : decode cX3_hour 60 = .ok (.iaload, 1) := dk_46 (dk_at dksX3_hour_2 13 rfl rfl)
theorem dX3_hour_61 : decode cX3_hour 61 = .ok (.iconst 2, 1) := dk_5 (dk_at dksX3_hour_2 14 rfl rfl)
theorem dX3_hour_62 : decode cX3_hour 62 = .ok (.if_icmp .ne 8, 3) := dk_160 0 8 (dk_at dksX3_hour_2 15 rfl rfl)
theorem dX3_hour_65 : decode cX3_hour 65 = .ok (.aload_n 0, 1) := dk_42 (dk_at dksX3_hour_2 18 rfl rfl)
theorem dX3_hour_66 : decode cX3_hour 66 = .ok (.iload_n 1, 1) := dk_27 (dk_at dksX3_hour_2 19 rfl rfl)
theorem dX3_hour_67 : decode cX3_hour 67 = .ok (.invokevirtual 159, 3) := dk_182 0 159 (dk_at dksX3_hour_2 20 rfl rfl)
theorem dX3_hour_70 : decode cX3_hour 70 = .ok (.iinc 1 1, 3) := dk_132 1 1 (dk_at dksX3_hour_3 0 rfl rfl)
theorem dX3_hour_73 : decode cX3_hour 73 = .ok (.goto (-33), 3) := dk_167 255 223 (dk_at dksX3_hour_3 3 rfl rfl)
theorem dX3_hour_76 : decode cX3_hour 76 = .ok (.aload_n 0, 1) := dk_42 (dk_at dksX3_hour_3 6 rfl rfl)
theorem dX3_hour_77 : decode cX3_hour 77 = .ok (.getfield 9, 3) := dk_180 0 9 (dk_at dksX3_hour_3 7 rfl rfl)
theorem dX3_hour_80 : decode cX3_hour 80 = .ok (.bipush 38, 2) := dk_16 38 (dk_at dksX3_hour_3 10 rfl rfl)
theorem dX3_hour_82 : decode cX3_hour 82 = .ok (.iaload, 1) := dk_46 (dk_at dksX3_hour_3 12 rfl rfl)
theorem dX3_hour_83 : decode cX3_hour 83 = .ok (.iconst (-1), 1) := dk_2 (dk_at dksX3_hour_3 13 rfl rfl)
theorem dX3_hour_84 : decode cX3_hour 84 = .ok (.if_icmp .eq 84, 3) := dk_159 0 84 (dk_at dksX3_hour_3 14 rfl rfl)
theorem dX3_hour_87 : decode cX3_hour 87 = .ok (.aload_n 0, 1) := dk_42 (dk_at dksX3_hour_3 17 rfl rfl)
theorem dX3_hour_88 : decode cX3_hour 88 = .ok (.getfield 9, 3) := dk_180 0 9 (dk_at dksX3_hour_3 18 rfl rfl)
theorem dX3_hour_91 : decode cX3_hour 91 = .ok (.bipush 39, 2) := dk_16 39 (dk_at dksX3_hour_3 21 rfl rfl)
theorem dX3_hour_93 : decode cX3_hour 93 = .ok (.dup2, 1) := dk_92 (dk_at dksX3_hour_3 23 rfl rfl)
theorem dX3_hour_94 : decode cX3_hour 94 = .ok (.iaload, 1) := dk_46 (dk_at dksX3_hour_4 0 rfl rfl)
theorem dX3_hour_95 : decode cX3_hour 95 = .ok (.iconst 1, 1) := dk_4 (dk_at dksX3_hour_4 1 rfl rfl)
theorem dX3_hour_96 : decode cX3_hour 96 = .ok (.isub, 1) := dk_100 (dk_at dksX3_hour_4 2 rfl rfl)
theorem dX3_hour_97 : decode cX3_hour 97 = .ok (.iastore, 1) := dk_79 (dk_at dksX3_hour_4 3 rfl rfl)
theorem dX3_hour_98 : decode cX3_hour 98 = .ok (.aload_n 0, 1) := dk_42 (dk_at dksX3_hour_4 4 rfl rfl)
theorem dX3_hour_99 : decode cX3_hour 99 = .ok (.getfield 9, 3) := dk_180 0 9 (dk_at dksX3_hour_4 5 rfl rfl)
theorem dX3_hour_102 : decode cX3_hour 102 = .ok (.bipush 39, 2) := dk_16 39 (dk_at dksX3_hour_4 8 rfl rfl)
theorem dX3_hour_104 : decode cX3_hour 104 = .ok (.iaload, 1) := dk_46 (dk_at dksX3_hour_4 10 rfl rfl)
theorem dX3_hour_105 : decode cX3_hour 105 = .ok (.ifCond .ne 63, 3) := dk_154 0 63 (dk_at dksX3_hour_4 11 rfl rfl)
theorem dX3_hour_108 : decode cX3_hour 108 = .ok (.aload_n 0, 1) := dk_42 (dk_at dksX3_hour_4 14 rfl rfl)
theorem dX3_hour_109 : decode cX3_hour 109 = .ok (.getfield 9, 3) := dk_180 0 9 (dk_at dksX3_hour_4 15 rfl rfl)
theorem dX3_hour_112 : decode cX3_hour 112 = .ok (.bipush 38, 2) := dk_16 38 (dk_at dksX3_hour_4 18 rfl rfl)
theorem dX3_hour_114 : decode cX3_hour 114 = .ok (.iaload, 1) := dk_46 (dk_at dksX3_hour_4 20 rfl rfl)
theorem dX3_hour_115 : decode cX3_hour 115 = .ok (.invokestatic 72, 3) := dk_184 0 72 (dk_at dksX3_hour_4 21 rfl rfl)
theorem dX3_hour_118 : decode cX3_hour 118 = .ok (.istore_n 1, 1) := dk_60 (dk_at dksX3_hour_5 0 rfl rfl)
theorem dX3_hour_119 : decode cX3_hour 119 = .ok (.aload_n 0, 1) := dk_42 (dk_at dksX3_hour_5 1 rfl rfl)
theorem dX3_hour_120 : decode cX3_hour 120 = .ok (.getfield 9, 3) := dk_180 0 9 (dk_at dksX3_hour_5 2 rfl rfl)
theorem dX3_hour_123 : decode cX3_hour 123 = .ok (.iload_n 1, 1) := dk_27 (dk_at dksX3_hour_5 5 rfl rfl)
theorem dX3_hour_124 : decode cX3_hour 124 = .ok (.iconst 0, 1) := dk_3 (dk_at dksX3_hour_5 6 rfl rfl)
theorem dX3_hour_125 : decode cX3_hour 125 = .ok (.iadd, 1) := dk_96 (dk_at dksX3_hour_5 7 rfl rfl)
theorem dX3_hour_126 : decode cX3_hour 126 = .ok (.iconst 2, 1) := dk_5 (dk_at dksX3_hour_5 8 rfl rfl)
theorem dX3_hour_127 : decode cX3_hour 127 = .ok (.iastore, 1) := dk_79 (dk_at dksX3_hour_5 9 rfl rfl)
theorem dX3_hour_128 : decode cX3_hour 128 = .ok (.aload_n 0, 1) := dk_42 (dk_at dksX3_hour_5 10 rfl rfl)
theorem dX3_hour_129 : decode cX3_hour 129 = .ok (.getfield 9, 3) := dk_180 0 9 (dk_at dksX3_hour_5 11 rfl rfl)
theorem dX3_hour_132 : decode cX3_hour 132 = .ok (.iload_n 1, 1) := dk_27 (dk_at dksX3_hour_5 14 rfl rfl)
theorem dX3_hour_133 : decode cX3_hour 133 = .ok (.bipush 11, 2) := dk_16 11 (dk_at dksX3_hour_5 15 rfl rfl)
theorem dX3_hour_135 : decode cX3_hour 135 = .ok (.iadd, 1) := dk_96 (dk_at dksX3_hour_5 17 rfl rfl)
theorem dX3_hour_136 : decode cX3_hour 136 = .ok (.fconst 1, 1) := dk_12 (dk_at dksX3_hour_5 18 rfl rfl)
theorem dX3_hour_137 : decode cX3_hour 137 = .ok (.invokestatic 154, 3) := dk_184 0 154 (dk_at dksX3_hour_5 19 rfl rfl)
theorem dX3_hour_140 : decode cX3_hour 140 = .ok (.iastore, 1) := dk_79 (dk_at dksX3_hour_5 22 rfl rfl)
theorem dX3_hour_141 : decode cX3_hour 141 = .ok (.aload_n 0, 1) := dk_42 (dk_at dksX3_hour_5 23 rfl rfl)
theorem dX3_hour_142 : decode cX3_hour 142 = .ok (.getfield 9, 3) := dk_180 0 9 (dk_at dksX3_hour_6 0 rfl rfl)
theorem dX3_hour_145 : decode cX3_hour 145 = .ok (.iload_n 1, 1) := dk_27 (dk_at dksX3_hour_6 3 rfl rfl)
theorem dX3_hour_146 : decode cX3_hour 146 = .ok (.bipush 12, 2) := dk_16 12 (dk_at dksX3_hour_6 4 rfl rfl)
theorem dX3_hour_148 : decode cX3_hour 148 = .ok (.iadd, 1) := dk_96 (dk_at dksX3_hour_6 6 rfl rfl)
theorem dX3_hour_149 : decode cX3_hour 149 = .ok (.iconst 1, 1) := dk_4 (dk_at dksX3_hour_6 7 rfl rfl)
theorem dX3_hour_150 : decode cX3_hour 150 = .ok (.iastore, 1) := dk_79 (dk_at dksX3_hour_6 8 rfl rfl)
theorem dX3_hour_151 : decode cX3_hour 151 = .ok (.aload_n 0, 1) := dk_42 (dk_at dksX3_hour_6 9 rfl rfl)
theorem dX3_hour_152 : decode cX3_hour 152 = .ok (.getfield 9, 3) := dk_180 0 9 (dk_at dksX3_hour_6 10 rfl rfl)
theorem dX3_hour_155 : decode cX3_hour 155 = .ok (.iload_n 1, 1) := dk_27 (dk_at dksX3_hour_6 13 rfl rfl)
theorem dX3_hour_156 : decode cX3_hour 156 = .ok (.iconst 5, 1) := dk_8 (dk_at dksX3_hour_6 14 rfl rfl)
theorem dX3_hour_157 : decode cX3_hour 157 = .ok (.iadd, 1) := dk_96 (dk_at dksX3_hour_6 15 rfl rfl)
theorem dX3_hour_158 : decode cX3_hour 158 = .ok (.iconst 0, 1) := dk_3 (dk_at dksX3_hour_6 16 rfl rfl)
theorem dX3_hour_159 : decode cX3_hour 159 = .ok (.iastore, 1) := dk_79 (dk_at dksX3_hour_6 17 rfl rfl)
theorem dX3_hour_160 : decode cX3_hour 160 = .ok (.aload_n 0, 1) := dk_42 (dk_at dksX3_hour_6 18 rfl rfl)
theorem dX3_hour_161 : decode cX3_hour 161 = .ok (.getfield 9, 3) := dk_180 0 9 (dk_at dksX3_hour_6 19 rfl rfl)
theorem dX3_hour_164 : decode cX3_hour 164 = .ok (.bipush 38, 2) := dk_16 38 (dk_at dksX3_hour_6 22 rfl rfl)
theorem dX3_hour_166 : decode cX3_hour 166 = .ok (.iconst (-1), 1) := dk_2 (dk_at dksX3_hour_7 0 rfl rfl)
theorem dX3_hour_167 : decode cX3_hour 167 = .ok (.iastore, 1) := dk_79 (dk_at dksX3_hour_7 1 rfl rfl)
theorem dX3_hour_168 : decode cX3_hour 168 = .ok (.aload_n 0, 1) := dk_42 (dk_at dksX3_hour_7 2 rfl rfl)
theorem dX3_hour_169 : decode cX3_hour 169 = .ok (.getfield 9, 3) := dk_180 0 9 (dk_at dksX3_hour_7 3 rfl rfl)
theorem dX3_hour_172 : decode cX3_hour 172 = .ok (.bipush 38, 2) := dk_16 38 (dk_at dksX3_hour_7 6 rfl rfl)
theorem dX3_hour_174 : decode cX3_hour 174 = .ok (.iaload, 1) := dk_46 (dk_at dksX3_hour_7 8 rfl rfl)
theorem dX3_hour_175 : decode cX3_hour 175 = .ok (.iconst (-1), 1) := dk_2 (dk_at dksX3_hour_7 9 rfl rfl)
theorem dX3_hour_176 : decode cX3_hour 176 = .ok (.if_icmp .ne 10, 3) := dk_160 0 10 (dk_at dksX3_hour_7 10 rfl rfl)
theorem dX3_hour_179 : decode cX3_hour 179 = .ok (.aload_n 0, 1) := dk_42 (dk_at dksX3_hour_7 13 rfl rfl)
theorem dX3_hour_180 : decode cX3_hour 180 = .ok (.invokevirtual 163, 3) := dk_182 0 163 (dk_at dksX3_hour_7 14 rfl rfl)
theorem dX3_hour_183 : decode cX3_hour 183 = .ok (.goto 4, 3) := dk_167 0 4 (dk_at dksX3_hour_7 17 rfl rfl)
theorem dX3_hour_186 : decode cX3_hour 186 = .ok (.iconst (-1), 1) := dk_2 (dk_at dksX3_hour_7 20 rfl rfl)
theorem dX3_hour_187 : decode cX3_hour 187 = .ok (.istore_n 1, 1) := dk_60 (dk_at dksX3_hour_7 21 rfl rfl)
theorem dX3_hour_188 : decode cX3_hour 188 = .ok (.iload_n 1, 1) := dk_27 (dk_at dksX3_hour_7 22 rfl rfl)
theorem dX3_hour_189 : decode cX3_hour 189 = .ok (.iconst (-1), 1) := dk_2 (dk_at dksX3_hour_7 23 rfl rfl)
theorem dX3_hour_190 : decode cX3_hour 190 = .ok (.if_icmp .eq 8, 3) := dk_159 0 8 (dk_at dksX3_hour_8 0 rfl rfl)
theorem dX3_hour_193 : decode cX3_hour 193 = .ok (.aload_n 0, 1) := dk_42 (dk_at dksX3_hour_8 3 rfl rfl)
theorem dX3_hour_194 : decode cX3_hour 194 = .ok (.iload_n 1, 1) := dk_27 (dk_at dksX3_hour_8 4 rfl rfl)
theorem dX3_hour_195 : decode cX3_hour 195 = .ok (.invokevirtual 166, 3) := dk_182 0 166 (dk_at dksX3_hour_8 5 rfl rfl)
theorem dX3_hour_198 : decode cX3_hour 198 = .ok (.return_, 1) := dk_177 (dk_at dksX3_hour_8 8 rfl rfl)
abbrev cX3_dries : ByteArray := prog_32_method_51_code
def yX3_dries : MethodName := ⟨RX3, "dries", "(I)V"⟩
def dkwX3_dries_10 : List UInt8 := [28, 3, 96, 6, 79, 177]
abbrev dktX3_dries_10 : List UInt8 := dkwX3_dries_10 ++ []
def dkwX3_dries_9 : List UInt8 := [180, 0, 9, 28, 3, 96, 16, 7, 79, 167, 0, 20, 23, 4, 18, 158, 150, 156, 0, 12, 42, 180, 0, 9]
abbrev dktX3_dries_9 : List UInt8 := dkwX3_dries_9 ++ dktX3_dries_10
def dkwX3_dries_8 : List UInt8 := [180, 0, 9, 28, 7, 96, 92, 46, 4, 96, 79, 42, 180, 0, 9, 28, 7, 96, 46, 6, 160, 0, 16, 42]
abbrev dktX3_dries_8 : List UInt8 := dkwX3_dries_8 ++ dktX3_dries_9
def dkwX3_dries_7 : List UInt8 := [139, 42, 180, 0, 9, 16, 8, 46, 16, 10, 42, 180, 0, 9, 28, 6, 96, 46, 104, 96, 164, 0, 15, 42]
abbrev dktX3_dries_7 : List UInt8 := dkwX3_dries_7 ++ dktX3_dries_8
def dkwX3_dries_6 : List UInt8 := [4, 27, 120, 42, 180, 0, 9, 28, 8, 96, 46, 16, 16, 27, 96, 120, 128, 128, 79, 23, 5, 18, 109, 106]
abbrev dktX3_dries_6 : List UInt8 := dkwX3_dries_6 ++ dktX3_dries_7
def dkwX3_dries_5 : List UInt8 := [180, 0, 9, 3, 46, 96, 29, 79, 42, 180, 0, 9, 17, 2, 195, 42, 180, 0, 9, 3, 46, 96, 92, 46]
abbrev dktX3_dries_5 : List UInt8 := dkwX3_dries_5 ++ dktX3_dries_6
def dkwX3_dries_4 : List UInt8 := [4, 96, 79, 42, 180, 0, 9, 3, 46, 17, 1, 144, 163, 0, 54, 42, 180, 0, 9, 17, 1, 50, 42]
abbrev dktX3_dries_4 : List UInt8 := dkwX3_dries_4 ++ dktX3_dries_5
def dkwX3_dries_3 : List UInt8 := [42, 180, 0, 9, 28, 16, 11, 96, 23, 4, 184, 0, 154, 79, 42, 180, 0, 9, 28, 16, 9, 96, 92, 46]
abbrev dktX3_dries_3 : List UInt8 := dkwX3_dries_3 ++ dktX3_dries_4
def dkwX3_dries_2 : List UInt8 := [167, 0, 4, 29, 42, 180, 0, 9, 28, 6, 96, 46, 184, 0, 110, 56, 5, 23, 4, 23, 5, 102, 56, 4]
abbrev dktX3_dries_2 : List UInt8 := dkwX3_dries_2 ++ dktX3_dries_3
def dkwX3_dries_1 : List UInt8 := [27, 182, 0, 105, 56, 4, 23, 4, 42, 180, 0, 9, 28, 8, 96, 46, 4, 160, 0, 9, 29, 5, 108]
abbrev dktX3_dries_1 : List UInt8 := dkwX3_dries_1 ++ dktX3_dries_2
def dkwX3_dries_0 : List UInt8 := [27, 184, 0, 72, 61, 42, 180, 0, 9, 16, 10, 42, 180, 0, 9, 3, 46, 16, 24, 112, 96, 46, 62, 42]
abbrev dktX3_dries_0 : List UInt8 := dkwX3_dries_0 ++ dktX3_dries_1
theorem dksX3_dries_0 : cX3_dries.data.toList.drop 0 = dktX3_dries_0 := by decide +kernel
theorem dksX3_dries_1 : cX3_dries.data.toList.drop 24 = dktX3_dries_1 := dk_seg dksX3_dries_0 24 rfl rfl
theorem dksX3_dries_2 : cX3_dries.data.toList.drop 47 = dktX3_dries_2 := dk_seg dksX3_dries_1 23 rfl rfl
theorem dksX3_dries_3 : cX3_dries.data.toList.drop 71 = dktX3_dries_3 := dk_seg dksX3_dries_2 24 rfl rfl
theorem dksX3_dries_4 : cX3_dries.data.toList.drop 95 = dktX3_dries_4 := dk_seg dksX3_dries_3 24 rfl rfl
theorem dksX3_dries_5 : cX3_dries.data.toList.drop 118 = dktX3_dries_5 := dk_seg dksX3_dries_4 23 rfl rfl
theorem dksX3_dries_6 : cX3_dries.data.toList.drop 142 = dktX3_dries_6 := dk_seg dksX3_dries_5 24 rfl rfl
theorem dksX3_dries_7 : cX3_dries.data.toList.drop 166 = dktX3_dries_7 := dk_seg dksX3_dries_6 24 rfl rfl
theorem dksX3_dries_8 : cX3_dries.data.toList.drop 190 = dktX3_dries_8 := dk_seg dksX3_dries_7 24 rfl rfl
theorem dksX3_dries_9 : cX3_dries.data.toList.drop 214 = dktX3_dries_9 := dk_seg dksX3_dries_8 24 rfl rfl
theorem dksX3_dries_10 : cX3_dries.data.toList.drop 238 = dktX3_dries_10 := dk_seg dksX3_dries_9 24 rfl rfl
theorem dX3_dries_0 : decode cX3_dries 0 = .ok (.iload_n 1, 1) := dk_27 (dk_at dksX3_dries_0 0 rfl rfl)
theorem dX3_dries_1 : decode cX3_dries 1 = .ok (.invokestatic 72, 3) := dk_184 0 72 (dk_at dksX3_dries_0 1 rfl rfl)
theorem dX3_dries_4 : decode cX3_dries 4 = .ok (.istore_n 2, 1) := dk_61 (dk_at dksX3_dries_0 4 rfl rfl)
theorem dX3_dries_5 : decode cX3_dries 5 = .ok (.aload_n 0, 1) := dk_42 (dk_at dksX3_dries_0 5 rfl rfl)
theorem dX3_dries_6 : decode cX3_dries 6 = .ok (.getfield 9, 3) := dk_180 0 9 (dk_at dksX3_dries_0 6 rfl rfl)
theorem dX3_dries_9 : decode cX3_dries 9 = .ok (.bipush 10, 2) := dk_16 10 (dk_at dksX3_dries_0 9 rfl rfl)
theorem dX3_dries_11 : decode cX3_dries 11 = .ok (.aload_n 0, 1) := dk_42 (dk_at dksX3_dries_0 11 rfl rfl)
theorem dX3_dries_12 : decode cX3_dries 12 = .ok (.getfield 9, 3) := dk_180 0 9 (dk_at dksX3_dries_0 12 rfl rfl)
theorem dX3_dries_15 : decode cX3_dries 15 = .ok (.iconst 0, 1) := dk_3 (dk_at dksX3_dries_0 15 rfl rfl)
theorem dX3_dries_16 : decode cX3_dries 16 = .ok (.iaload, 1) := dk_46 (dk_at dksX3_dries_0 16 rfl rfl)
theorem dX3_dries_17 : decode cX3_dries 17 = .ok (.bipush 24, 2) := dk_16 24 (dk_at dksX3_dries_0 17 rfl rfl)
theorem dX3_dries_19 : decode cX3_dries 19 = .ok (.irem, 1) := dk_112 (dk_at dksX3_dries_0 19 rfl rfl)
theorem dX3_dries_20 : decode cX3_dries 20 = .ok (.iadd, 1) := dk_96 (dk_at dksX3_dries_0 20 rfl rfl)
theorem dX3_dries_21 : decode cX3_dries 21 = .ok (.iaload, 1) := dk_46 (dk_at dksX3_dries_0 21 rfl rfl)
theorem dX3_dries_22 : decode cX3_dries 22 = .ok (.istore_n 3, 1) := dk_62 (dk_at dksX3_dries_0 22 rfl rfl)
theorem dX3_dries_23 : decode cX3_dries 23 = .ok (.aload_n 0, 1) := dk_42 (dk_at dksX3_dries_0 23 rfl rfl)
theorem dX3_dries_24 : decode cX3_dries 24 = .ok (.iload_n 1, 1) := dk_27 (dk_at dksX3_dries_1 0 rfl rfl)
theorem dX3_dries_25 : decode cX3_dries 25 = .ok (.invokevirtual 105, 3) := dk_182 0 105 (dk_at dksX3_dries_1 1 rfl rfl)
theorem dX3_dries_28 : decode cX3_dries 28 = .ok (.fstore 4, 2) := dk_56 4 (dk_at dksX3_dries_1 4 rfl rfl)
theorem dX3_dries_30 : decode cX3_dries 30 = .ok (.fload 4, 2) := dk_23 4 (dk_at dksX3_dries_1 6 rfl rfl)
theorem dX3_dries_32 : decode cX3_dries 32 = .ok (.aload_n 0, 1) := dk_42 (dk_at dksX3_dries_1 8 rfl rfl)
theorem dX3_dries_33 : decode cX3_dries 33 = .ok (.getfield 9, 3) := dk_180 0 9 (dk_at dksX3_dries_1 9 rfl rfl)
theorem dX3_dries_36 : decode cX3_dries 36 = .ok (.iload_n 2, 1) := dk_28 (dk_at dksX3_dries_1 12 rfl rfl)
theorem dX3_dries_37 : decode cX3_dries 37 = .ok (.iconst 5, 1) := dk_8 (dk_at dksX3_dries_1 13 rfl rfl)
theorem dX3_dries_38 : decode cX3_dries 38 = .ok (.iadd, 1) := dk_96 (dk_at dksX3_dries_1 14 rfl rfl)
theorem dX3_dries_39 : decode cX3_dries 39 = .ok (.iaload, 1) := dk_46 (dk_at dksX3_dries_1 15 rfl rfl)
theorem dX3_dries_40 : decode cX3_dries 40 = .ok (.iconst 1, 1) := dk_4 (dk_at dksX3_dries_1 16 rfl rfl)
theorem dX3_dries_41 : decode cX3_dries 41 = .ok (.if_icmp .ne 9, 3) := dk_160 0 9 (dk_at dksX3_dries_1 17 rfl rfl)
theorem dX3_dries_44 : decode cX3_dries 44 = .ok (.iload_n 3, 1) := dk_29 (dk_at dksX3_dries_1 20 rfl rfl)
theorem dX3_dries_45 : decode cX3_dries 45 = .ok (.iconst 2, 1) := dk_5 (dk_at dksX3_dries_1 21 rfl rfl)
theorem dX3_dries_46 : decode cX3_dries 46 = .ok (.idiv, 1) := dk_108 (dk_at dksX3_dries_1 22 rfl rfl)
theorem dX3_dries_47 : decode cX3_dries 47 = .ok (.goto 4, 3) := dk_167 0 4 (dk_at dksX3_dries_2 0 rfl rfl)
theorem dX3_dries_50 : decode cX3_dries 50 = .ok (.iload_n 3, 1) := dk_29 (dk_at dksX3_dries_2 3 rfl rfl)
theorem dX3_dries_51 : decode cX3_dries 51 = .ok (.aload_n 0, 1) := dk_42 (dk_at dksX3_dries_2 4 rfl rfl)
theorem dX3_dries_52 : decode cX3_dries 52 = .ok (.getfield 9, 3) := dk_180 0 9 (dk_at dksX3_dries_2 5 rfl rfl)
theorem dX3_dries_55 : decode cX3_dries 55 = .ok (.iload_n 2, 1) := dk_28 (dk_at dksX3_dries_2 8 rfl rfl)
theorem dX3_dries_56 : decode cX3_dries 56 = .ok (.iconst 3, 1) := dk_6 (dk_at dksX3_dries_2 9 rfl rfl)
theorem dX3_dries_57 : decode cX3_dries 57 = .ok (.iadd, 1) := dk_96 (dk_at dksX3_dries_2 10 rfl rfl)
theorem dX3_dries_58 : decode cX3_dries 58 = .ok (.iaload, 1) := dk_46 (dk_at dksX3_dries_2 11 rfl rfl)
theorem dX3_dries_59 : decode cX3_dries 59 = .ok (.invokestatic 110, 3) := dk_184 0 110 (dk_at dksX3_dries_2 12 rfl rfl)
theorem dX3_dries_62 : decode cX3_dries 62 = .ok (.fstore 5, 2) := dk_56 5 (dk_at dksX3_dries_2 15 rfl rfl)
theorem dX3_dries_64 : decode cX3_dries 64 = .ok (.fload 4, 2) := dk_23 4 (dk_at dksX3_dries_2 17 rfl rfl)
theorem dX3_dries_66 : decode cX3_dries 66 = .ok (.fload 5, 2) := dk_23 5 (dk_at dksX3_dries_2 19 rfl rfl)
theorem dX3_dries_68 : decode cX3_dries 68 = .ok (.fsub, 1) := dk_102 (dk_at dksX3_dries_2 21 rfl rfl)
theorem dX3_dries_69 : decode cX3_dries 69 = .ok (.fstore 4, 2) := dk_56 4 (dk_at dksX3_dries_2 22 rfl rfl)
theorem dX3_dries_71 : decode cX3_dries 71 = .ok (.aload_n 0, 1) := dk_42 (dk_at dksX3_dries_3 0 rfl rfl)
theorem dX3_dries_72 : decode cX3_dries 72 = .ok (.getfield 9, 3) := dk_180 0 9 (dk_at dksX3_dries_3 1 rfl rfl)
theorem dX3_dries_75 : decode cX3_dries 75 = .ok (.iload_n 2, 1) := dk_28 (dk_at dksX3_dries_3 4 rfl rfl)
theorem dX3_dries_76 : decode cX3_dries 76 = .ok (.bipush 11, 2) := dk_16 11 (dk_at dksX3_dries_3 5 rfl rfl)
theorem dX3_dries_78 : decode cX3_dries 78 = .ok (.iadd, 1) := dk_96 (dk_at dksX3_dries_3 7 rfl rfl)
theorem dX3_dries_79 : decode cX3_dries 79 = .ok (.fload 4, 2) := dk_23 4 (dk_at dksX3_dries_3 8 rfl rfl)
theorem dX3_dries_81 : decode cX3_dries 81 = .ok (.invokestatic 154, 3) := dk_184 0 154 (dk_at dksX3_dries_3 10 rfl rfl)
theorem dX3_dries_84 : decode cX3_dries 84 = .ok (.iastore, 1) := dk_79 (dk_at dksX3_dries_3 13 rfl rfl)
theorem dX3_dries_85 : decode cX3_dries 85 = .ok (.aload_n 0, 1) := dk_42 (dk_at dksX3_dries_3 14 rfl rfl)
theorem dX3_dries_86 : decode cX3_dries 86 = .ok (.getfield 9, 3) := dk_180 0 9 (dk_at dksX3_dries_3 15 rfl rfl)
theorem dX3_dries_89 : decode cX3_dries 89 = .ok (.iload_n 2, 1) := dk_28 (dk_at dksX3_dries_3 18 rfl rfl)
theorem dX3_dries_90 : decode cX3_dries 90 = .ok (.bipush 9, 2) := dk_16 9 (dk_at dksX3_dries_3 19 rfl rfl)
theorem dX3_dries_92 : decode cX3_dries 92 = .ok (.iadd, 1) := dk_96 (dk_at dksX3_dries_3 21 rfl rfl)
theorem dX3_dries_93 : decode cX3_dries 93 = .ok (.dup2, 1) := dk_92 (dk_at dksX3_dries_3 22 rfl rfl)
theorem dX3_dries_94 : decode cX3_dries 94 = .ok (.iaload, 1) := dk_46 (dk_at dksX3_dries_3 23 rfl rfl)
theorem dX3_dries_95 : decode cX3_dries 95 = .ok (.iconst 1, 1) := dk_4 (dk_at dksX3_dries_4 0 rfl rfl)
theorem dX3_dries_96 : decode cX3_dries 96 = .ok (.iadd, 1) := dk_96 (dk_at dksX3_dries_4 1 rfl rfl)
theorem dX3_dries_97 : decode cX3_dries 97 = .ok (.iastore, 1) := dk_79 (dk_at dksX3_dries_4 2 rfl rfl)
theorem dX3_dries_98 : decode cX3_dries 98 = .ok (.aload_n 0, 1) := dk_42 (dk_at dksX3_dries_4 3 rfl rfl)
theorem dX3_dries_99 : decode cX3_dries 99 = .ok (.getfield 9, 3) := dk_180 0 9 (dk_at dksX3_dries_4 4 rfl rfl)
theorem dX3_dries_102 : decode cX3_dries 102 = .ok (.iconst 0, 1) := dk_3 (dk_at dksX3_dries_4 7 rfl rfl)
theorem dX3_dries_103 : decode cX3_dries 103 = .ok (.iaload, 1) := dk_46 (dk_at dksX3_dries_4 8 rfl rfl)
theorem dX3_dries_104 : decode cX3_dries 104 = .ok (.sipush 400, 3) := dk_17 1 144 (dk_at dksX3_dries_4 9 rfl rfl)
theorem dX3_dries_107 : decode cX3_dries 107 = .ok (.if_icmp .gt 54, 3) := dk_163 0 54 (dk_at dksX3_dries_4 12 rfl rfl)
theorem dX3_dries_110 : decode cX3_dries 110 = .ok (.aload_n 0, 1) := dk_42 (dk_at dksX3_dries_4 15 rfl rfl)
theorem dX3_dries_111 : decode cX3_dries 111 = .ok (.getfield 9, 3) := dk_180 0 9 (dk_at dksX3_dries_4 16 rfl rfl)
theorem dX3_dries_114 : decode cX3_dries 114 = .ok (.sipush 306, 3) := dk_17 1 50 (dk_at dksX3_dries_4 19 rfl rfl)
theorem dX3_dries_117 : decode cX3_dries 117 = .ok (.aload_n 0, 1) := dk_42 (dk_at dksX3_dries_4 22 rfl rfl)
theorem dX3_dries_118 : decode cX3_dries 118 = .ok (.getfield 9, 3) := dk_180 0 9 (dk_at dksX3_dries_5 0 rfl rfl)
theorem dX3_dries_121 : decode cX3_dries 121 = .ok (.iconst 0, 1) := dk_3 (dk_at dksX3_dries_5 3 rfl rfl)
theorem dX3_dries_122 : decode cX3_dries 122 = .ok (.iaload, 1) := dk_46 (dk_at dksX3_dries_5 4 rfl rfl)
theorem dX3_dries_123 : decode cX3_dries 123 = .ok (.iadd, 1) := dk_96 (dk_at dksX3_dries_5 5 rfl rfl)
theorem dX3_dries_124 : decode cX3_dries 124 = .ok (.iload_n 3, 1) := dk_29 (dk_at dksX3_dries_5 6 rfl rfl)
theorem dX3_dries_125 : decode cX3_dries 125 = .ok (.iastore, 1) := dk_79 (dk_at dksX3_dries_5 7 rfl rfl)
theorem dX3_dries_126 : decode cX3_dries 126 = .ok (.aload_n 0, 1) := dk_42 (dk_at dksX3_dries_5 8 rfl rfl)
theorem dX3_dries_127 : decode cX3_dries 127 = .ok (.getfield 9, 3) := dk_180 0 9 (dk_at dksX3_dries_5 9 rfl rfl)
theorem dX3_dries_130 : decode cX3_dries 130 = .ok (.sipush 707, 3) := dk_17 2 195 (dk_at dksX3_dries_5 12 rfl rfl)
theorem dX3_dries_133 : decode cX3_dries 133 = .ok (.aload_n 0, 1) := dk_42 (dk_at dksX3_dries_5 15 rfl rfl)
theorem dX3_dries_134 : decode cX3_dries 134 = .ok (.getfield 9, 3) := dk_180 0 9 (dk_at dksX3_dries_5 16 rfl rfl)
theorem dX3_dries_137 : decode cX3_dries 137 = .ok (.iconst 0, 1) := dk_3 (dk_at dksX3_dries_5 19 rfl rfl)
theorem dX3_dries_138 : decode cX3_dries 138 = .ok (.iaload, 1) := dk_46 (dk_at dksX3_dries_5 20 rfl rfl)
theorem dX3_dries_139 : decode cX3_dries 139 = .ok (.iadd, 1) := dk_96 (dk_at dksX3_dries_5 21 rfl rfl)
theorem dX3_dries_140 : decode cX3_dries 140 = .ok (.dup2, 1) := dk_92 (dk_at dksX3_dries_5 22 rfl rfl)
theorem dX3_dries_141 : decode cX3_dries 141 = .ok (.iaload, 1) := dk_46 (dk_at dksX3_dries_5 23 rfl rfl)
theorem dX3_dries_142 : decode cX3_dries 142 = .ok (.iconst 1, 1) := dk_4 (dk_at dksX3_dries_6 0 rfl rfl)
theorem dX3_dries_143 : decode cX3_dries 143 = .ok (.iload_n 1, 1) := dk_27 (dk_at dksX3_dries_6 1 rfl rfl)
theorem dX3_dries_144 : decode cX3_dries 144 = .ok (.ishl, 1) := dk_120 (dk_at dksX3_dries_6 2 rfl rfl)
theorem dX3_dries_145 : decode cX3_dries 145 = .ok (.aload_n 0, 1) := dk_42 (dk_at dksX3_dries_6 3 rfl rfl)
theorem dX3_dries_146 : decode cX3_dries 146 = .ok (.getfield 9, 3) := dk_180 0 9 (dk_at dksX3_dries_6 4 rfl rfl)
theorem dX3_dries_149 : decode cX3_dries 149 = .ok (.iload_n 2, 1) := dk_28 (dk_at dksX3_dries_6 7 rfl rfl)
theorem dX3_dries_150 : decode cX3_dries 150 = .ok (.iconst 5, 1) := dk_8 (dk_at dksX3_dries_6 8 rfl rfl)
theorem dX3_dries_151 : decode cX3_dries 151 = .ok (.iadd, 1) := dk_96 (dk_at dksX3_dries_6 9 rfl rfl)
theorem dX3_dries_152 : decode cX3_dries 152 = .ok (.iaload, 1) := dk_46 (dk_at dksX3_dries_6 10 rfl rfl)
theorem dX3_dries_153 : decode cX3_dries 153 = .ok (.bipush 16, 2) := dk_16 16 (dk_at dksX3_dries_6 11 rfl rfl)
theorem dX3_dries_155 : decode cX3_dries 155 = .ok (.iload_n 1, 1) := dk_27 (dk_at dksX3_dries_6 13 rfl rfl)
theorem dX3_dries_156 : decode cX3_dries 156 = .ok (.iadd, 1) := dk_96 (dk_at dksX3_dries_6 14 rfl rfl)
theorem dX3_dries_157 : decode cX3_dries 157 = .ok (.ishl, 1) := dk_120 (dk_at dksX3_dries_6 15 rfl rfl)
theorem dX3_dries_158 : decode cX3_dries 158 = .ok (.ior, 1) := dk_128 (dk_at dksX3_dries_6 16 rfl rfl)
theorem dX3_dries_159 : decode cX3_dries 159 = .ok (.ior, 1) := dk_128 (dk_at dksX3_dries_6 17 rfl rfl)
theorem dX3_dries_160 : decode cX3_dries 160 = .ok (.iastore, 1) := dk_79 (dk_at dksX3_dries_6 18 rfl rfl)
theorem dX3_dries_161 : decode cX3_dries 161 = .ok (.fload 5, 2) := dk_23 5 (dk_at dksX3_dries_6 19 rfl rfl)
theorem dX3_dries_163 : decode cX3_dries 163 = .ok (.ldc 109, 2) := dk_18 109 (dk_at dksX3_dries_6 21 rfl rfl)
theorem dX3_dries_165 : decode cX3_dries 165 = .ok (.fmul, 1) := dk_106 (dk_at dksX3_dries_6 23 rfl rfl)
theorem dX3_dries_166 : decode cX3_dries 166 = .ok (.f2i, 1) := dk_139 (dk_at dksX3_dries_7 0 rfl rfl)
theorem dX3_dries_167 : decode cX3_dries 167 = .ok (.aload_n 0, 1) := dk_42 (dk_at dksX3_dries_7 1 rfl rfl)
theorem dX3_dries_168 : decode cX3_dries 168 = .ok (.getfield 9, 3) := dk_180 0 9 (dk_at dksX3_dries_7 2 rfl rfl)
theorem dX3_dries_171 : decode cX3_dries 171 = .ok (.bipush 8, 2) := dk_16 8 (dk_at dksX3_dries_7 5 rfl rfl)
theorem dX3_dries_173 : decode cX3_dries 173 = .ok (.iaload, 1) := dk_46 (dk_at dksX3_dries_7 7 rfl rfl)
theorem dX3_dries_174 : decode cX3_dries 174 = .ok (.bipush 10, 2) := dk_16 10 (dk_at dksX3_dries_7 8 rfl rfl)
theorem dX3_dries_176 : decode cX3_dries 176 = .ok (.aload_n 0, 1) := dk_42 (dk_at dksX3_dries_7 10 rfl rfl)
theorem dX3_dries_177 : decode cX3_dries 177 = .ok (.getfield 9, 3) := dk_180 0 9 (dk_at dksX3_dries_7 11 rfl rfl)
theorem dX3_dries_180 : decode cX3_dries 180 = .ok (.iload_n 2, 1) := dk_28 (dk_at dksX3_dries_7 14 rfl rfl)
theorem dX3_dries_181 : decode cX3_dries 181 = .ok (.iconst 3, 1) := dk_6 (dk_at dksX3_dries_7 15 rfl rfl)
theorem dX3_dries_182 : decode cX3_dries 182 = .ok (.iadd, 1) := dk_96 (dk_at dksX3_dries_7 16 rfl rfl)
theorem dX3_dries_183 : decode cX3_dries 183 = .ok (.iaload, 1) := dk_46 (dk_at dksX3_dries_7 17 rfl rfl)
theorem dX3_dries_184 : decode cX3_dries 184 = .ok (.imul, 1) := dk_104 (dk_at dksX3_dries_7 18 rfl rfl)
theorem dX3_dries_185 : decode cX3_dries 185 = .ok (.iadd, 1) := dk_96 (dk_at dksX3_dries_7 19 rfl rfl)
theorem dX3_dries_186 : decode cX3_dries 186 = .ok (.if_icmp .le 15, 3) := dk_164 0 15 (dk_at dksX3_dries_7 20 rfl rfl)
theorem dX3_dries_189 : decode cX3_dries 189 = .ok (.aload_n 0, 1) := dk_42 (dk_at dksX3_dries_7 23 rfl rfl)
theorem dX3_dries_190 : decode cX3_dries 190 = .ok (.getfield 9, 3) := dk_180 0 9 (dk_at dksX3_dries_8 0 rfl rfl)
theorem dX3_dries_193 : decode cX3_dries 193 = .ok (.iload_n 2, 1) := dk_28 (dk_at dksX3_dries_8 3 rfl rfl)
theorem dX3_dries_194 : decode cX3_dries 194 = .ok (.iconst 4, 1) := dk_7 (dk_at dksX3_dries_8 4 rfl rfl)
theorem dX3_dries_195 : decode cX3_dries 195 = .ok (.iadd, 1) := dk_96 (dk_at dksX3_dries_8 5 rfl rfl)
theorem dX3_dries_196 : decode cX3_dries 196 = .ok (.dup2, 1) := dk_92 (dk_at dksX3_dries_8 6 rfl rfl)
theorem dX3_dries_197 : decode cX3_dries 197 = .ok (.iaload, 1) := dk_46 (dk_at dksX3_dries_8 7 rfl rfl)
theorem dX3_dries_198 : decode cX3_dries 198 = .ok (.iconst 1, 1) := dk_4 (dk_at dksX3_dries_8 8 rfl rfl)
theorem dX3_dries_199 : decode cX3_dries 199 = .ok (.iadd, 1) := dk_96 (dk_at dksX3_dries_8 9 rfl rfl)
theorem dX3_dries_200 : decode cX3_dries 200 = .ok (.iastore, 1) := dk_79 (dk_at dksX3_dries_8 10 rfl rfl)
theorem dX3_dries_201 : decode cX3_dries 201 = .ok (.aload_n 0, 1) := dk_42 (dk_at dksX3_dries_8 11 rfl rfl)
theorem dX3_dries_202 : decode cX3_dries 202 = .ok (.getfield 9, 3) := dk_180 0 9 (dk_at dksX3_dries_8 12 rfl rfl)
theorem dX3_dries_205 : decode cX3_dries 205 = .ok (.iload_n 2, 1) := dk_28 (dk_at dksX3_dries_8 15 rfl rfl)
theorem dX3_dries_206 : decode cX3_dries 206 = .ok (.iconst 4, 1) := dk_7 (dk_at dksX3_dries_8 16 rfl rfl)
theorem dX3_dries_207 : decode cX3_dries 207 = .ok (.iadd, 1) := dk_96 (dk_at dksX3_dries_8 17 rfl rfl)
theorem dX3_dries_208 : decode cX3_dries 208 = .ok (.iaload, 1) := dk_46 (dk_at dksX3_dries_8 18 rfl rfl)
theorem dX3_dries_209 : decode cX3_dries 209 = .ok (.iconst 3, 1) := dk_6 (dk_at dksX3_dries_8 19 rfl rfl)
theorem dX3_dries_210 : decode cX3_dries 210 = .ok (.if_icmp .ne 16, 3) := dk_160 0 16 (dk_at dksX3_dries_8 20 rfl rfl)
theorem dX3_dries_213 : decode cX3_dries 213 = .ok (.aload_n 0, 1) := dk_42 (dk_at dksX3_dries_8 23 rfl rfl)
theorem dX3_dries_214 : decode cX3_dries 214 = .ok (.getfield 9, 3) := dk_180 0 9 (dk_at dksX3_dries_9 0 rfl rfl)
theorem dX3_dries_217 : decode cX3_dries 217 = .ok (.iload_n 2, 1) := dk_28 (dk_at dksX3_dries_9 3 rfl rfl)
theorem dX3_dries_218 : decode cX3_dries 218 = .ok (.iconst 0, 1) := dk_3 (dk_at dksX3_dries_9 4 rfl rfl)
theorem dX3_dries_219 : decode cX3_dries 219 = .ok (.iadd, 1) := dk_96 (dk_at dksX3_dries_9 5 rfl rfl)
theorem dX3_dries_220 : decode cX3_dries 220 = .ok (.bipush 7, 2) := dk_16 7 (dk_at dksX3_dries_9 6 rfl rfl)
theorem dX3_dries_222 : decode cX3_dries 222 = .ok (.iastore, 1) := dk_79 (dk_at dksX3_dries_9 8 rfl rfl)
theorem dX3_dries_223 : decode cX3_dries 223 = .ok (.goto 20, 3) := dk_167 0 20 (dk_at dksX3_dries_9 9 rfl rfl)
theorem dX3_dries_226 : decode cX3_dries 226 = .ok (.fload 4, 2) := dk_23 4 (dk_at dksX3_dries_9 12 rfl rfl)
theorem dX3_dries_228 : decode cX3_dries 228 = .ok (.ldc 158, 2) := dk_18 158 (dk_at dksX3_dries_9 14 rfl rfl)
theorem dX3_dries_230 : decode cX3_dries 230 = .ok (.fcmp .g, 1) := dk_150 (dk_at dksX3_dries_9 16 rfl rfl)
theorem dX3_dries_231 : decode cX3_dries 231 = .ok (.ifCond .ge 12, 3) := dk_156 0 12 (dk_at dksX3_dries_9 17 rfl rfl)
theorem dX3_dries_234 : decode cX3_dries 234 = .ok (.aload_n 0, 1) := dk_42 (dk_at dksX3_dries_9 20 rfl rfl)
theorem dX3_dries_235 : decode cX3_dries 235 = .ok (.getfield 9, 3) := dk_180 0 9 (dk_at dksX3_dries_9 21 rfl rfl)
theorem dX3_dries_238 : decode cX3_dries 238 = .ok (.iload_n 2, 1) := dk_28 (dk_at dksX3_dries_10 0 rfl rfl)
theorem dX3_dries_239 : decode cX3_dries 239 = .ok (.iconst 0, 1) := dk_3 (dk_at dksX3_dries_10 1 rfl rfl)
theorem dX3_dries_240 : decode cX3_dries 240 = .ok (.iadd, 1) := dk_96 (dk_at dksX3_dries_10 2 rfl rfl)
theorem dX3_dries_241 : decode cX3_dries 241 = .ok (.iconst 3, 1) := dk_6 (dk_at dksX3_dries_10 3 rfl rfl)
theorem dX3_dries_242 : decode cX3_dries 242 = .ok (.iastore, 1) := dk_79 (dk_at dksX3_dries_10 4 rfl rfl)
theorem dX3_dries_243 : decode cX3_dries 243 = .ok (.return_, 1) := dk_177 (dk_at dksX3_dries_10 5 rfl rfl)
abbrev cX3_nextOfRow : ByteArray := prog_32_method_52_code
def yX3_nextOfRow : MethodName := ⟨RX3, "nextOfRow", "()I"⟩
def dkwX3_nextOfRow_3 : List UInt8 := [160, 0, 7, 27, 167, 0, 4, 28, 172]
abbrev dktX3_nextOfRow_3 : List UInt8 := dkwX3_nextOfRow_3 ++ []
def dkwX3_nextOfRow_2 : List UInt8 := [180, 0, 9, 16, 40, 46, 159, 0, 7, 29, 167, 0, 4, 28, 61, 132, 3, 255, 167, 255, 206, 28, 2]
abbrev dktX3_nextOfRow_2 : List UInt8 := dkwX3_nextOfRow_2 ++ dktX3_nextOfRow_3
def dkwX3_nextOfRow_1 : List UInt8 := [184, 0, 72, 3, 96, 46, 154, 0, 32, 29, 60, 42, 180, 0, 9, 29, 184, 0, 72, 4, 96, 46, 42]
abbrev dktX3_nextOfRow_1 : List UInt8 := dkwX3_nextOfRow_1 ++ dktX3_nextOfRow_2
def dkwX3_nextOfRow_0 : List UInt8 := [2, 60, 2, 61, 42, 180, 0, 9, 5, 46, 4, 100, 62, 29, 155, 0, 52, 42, 180, 0, 9, 29]
abbrev dktX3_nextOfRow_0 : List UInt8 := dkwX3_nextOfRow_0 ++ dktX3_nextOfRow_1
theorem dksX3_nextOfRow_0 : cX3_nextOfRow.data.toList.drop 0 = dktX3_nextOfRow_0 := by decide +kernel
theorem dksX3_nextOfRow_1 : cX3_nextOfRow.data.toList.drop 22 = dktX3_nextOfRow_1 := dk_seg dksX3_nextOfRow_0 22 rfl rfl
theorem dksX3_nextOfRow_2 : cX3_nextOfRow.data.toList.drop 45 = dktX3_nextOfRow_2 := dk_seg dksX3_nextOfRow_1 23 rfl rfl
theorem dksX3_nextOfRow_3 : cX3_nextOfRow.data.toList.drop 68 = dktX3_nextOfRow_3 := dk_seg dksX3_nextOfRow_2 23 rfl rfl
theorem dX3_nextOfRow_0 : decode cX3_nextOfRow 0 = .ok (.iconst (-1), 1) := dk_2 (dk_at dksX3_nextOfRow_0 0 rfl rfl)
theorem dX3_nextOfRow_1 : decode cX3_nextOfRow 1 = .ok (.istore_n 1, 1) := dk_60 (dk_at dksX3_nextOfRow_0 1 rfl rfl)
theorem dX3_nextOfRow_2 : decode cX3_nextOfRow 2 = .ok (.iconst (-1), 1) := dk_2 (dk_at dksX3_nextOfRow_0 2 rfl rfl)
theorem dX3_nextOfRow_3 : decode cX3_nextOfRow 3 = .ok (.istore_n 2, 1) := dk_61 (dk_at dksX3_nextOfRow_0 3 rfl rfl)
theorem dX3_nextOfRow_4 : decode cX3_nextOfRow 4 = .ok (.aload_n 0, 1) := dk_42 (dk_at dksX3_nextOfRow_0 4 rfl rfl)
theorem dX3_nextOfRow_5 : decode cX3_nextOfRow 5 = .ok (.getfield 9, 3) := dk_180 0 9 (dk_at dksX3_nextOfRow_0 5 rfl rfl)
theorem dX3_nextOfRow_8 : decode cX3_nextOfRow 8 = .ok (.iconst 2, 1) := dk_5 (dk_at dksX3_nextOfRow_0 8 rfl rfl)
theorem dX3_nextOfRow_9 : decode cX3_nextOfRow 9 = .ok (.iaload, 1) := dk_46 (dk_at dksX3_nextOfRow_0 9 rfl rfl)
theorem dX3_nextOfRow_10 : decode cX3_nextOfRow 10 = .ok (.iconst 1, 1) := dk_4 (dk_at dksX3_nextOfRow_0 10 rfl rfl)
theorem dX3_nextOfRow_11 : decode cX3_nextOfRow 11 = .ok (.isub, 1) := dk_100 (dk_at dksX3_nextOfRow_0 11 rfl rfl)
theorem dX3_nextOfRow_12 : decode cX3_nextOfRow 12 = .ok (.istore_n 3, 1) := dk_62 (dk_at dksX3_nextOfRow_0 12 rfl rfl)
theorem dX3_nextOfRow_13 : decode cX3_nextOfRow 13 = .ok (.iload_n 3, 1) := dk_29 (dk_at dksX3_nextOfRow_0 13 rfl rfl)
theorem dX3_nextOfRow_14 : decode cX3_nextOfRow 14 = .ok (.ifCond .lt 52, 3) := dk_155 0 52 (dk_at dksX3_nextOfRow_0 14 rfl rfl)
theorem dX3_nextOfRow_17 : decode cX3_nextOfRow 17 = .ok (.aload_n 0, 1) := dk_42 (dk_at dksX3_nextOfRow_0 17 rfl rfl)
theorem dX3_nextOfRow_18 : decode cX3_nextOfRow 18 = .ok (.getfield 9, 3) := dk_180 0 9 (dk_at dksX3_nextOfRow_0 18 rfl rfl)
theorem dX3_nextOfRow_21 : decode cX3_nextOfRow 21 = .ok (.iload_n 3, 1) := dk_29 (dk_at dksX3_nextOfRow_0 21 rfl rfl)
theorem dX3_nextOfRow_22 : decode cX3_nextOfRow 22 = .ok (.invokestatic 72, 3) := dk_184 0 72 (dk_at dksX3_nextOfRow_1 0 rfl rfl)
theorem dX3_nextOfRow_25 : decode cX3_nextOfRow 25 = .ok (.iconst 0, 1) := dk_3 (dk_at dksX3_nextOfRow_1 3 rfl rfl)
theorem dX3_nextOfRow_26 : decode cX3_nextOfRow 26 = .ok (.iadd, 1) := dk_96 (dk_at dksX3_nextOfRow_1 4 rfl rfl)
theorem dX3_nextOfRow_27 : decode cX3_nextOfRow 27 = .ok (.iaload, 1) := dk_46 (dk_at dksX3_nextOfRow_1 5 rfl rfl)
theorem dX3_nextOfRow_28 : decode cX3_nextOfRow 28 = .ok (.ifCond .ne 32, 3) := dk_154 0 32 (dk_at dksX3_nextOfRow_1 6 rfl rfl)
theorem dX3_nextOfRow_31 : decode cX3_nextOfRow 31 = .ok (.iload_n 3, 1) := dk_29 (dk_at dksX3_nextOfRow_1 9 rfl rfl)
theorem dX3_nextOfRow_32 : decode cX3_nextOfRow 32 = .ok (.istore_n 1, 1) := dk_60 (dk_at dksX3_nextOfRow_1 10 rfl rfl)
theorem dX3_nextOfRow_33 : decode cX3_nextOfRow 33 = .ok (.aload_n 0, 1) := dk_42 (dk_at dksX3_nextOfRow_1 11 rfl rfl)
theorem dX3_nextOfRow_34 : decode cX3_nextOfRow 34 = .ok (.getfield 9, 3) := dk_180 0 9 (dk_at dksX3_nextOfRow_1 12 rfl rfl)
theorem dX3_nextOfRow_37 : decode cX3_nextOfRow 37 = .ok (.iload_n 3, 1) := dk_29 (dk_at dksX3_nextOfRow_1 15 rfl rfl)
theorem dX3_nextOfRow_38 : decode cX3_nextOfRow 38 = .ok (.invokestatic 72, 3) := dk_184 0 72 (dk_at dksX3_nextOfRow_1 16 rfl rfl)
theorem dX3_nextOfRow_41 : decode cX3_nextOfRow 41 = .ok (.iconst 1, 1) := dk_4 (dk_at dksX3_nextOfRow_1 19 rfl rfl)
theorem dX3_nextOfRow_42 : decode cX3_nextOfRow 42 = .ok (.iadd, 1) := dk_96 (dk_at dksX3_nextOfRow_1 20 rfl rfl)
theorem dX3_nextOfRow_43 : decode cX3_nextOfRow 43 = .ok (.iaload, 1) := dk_46 (dk_at dksX3_nextOfRow_1 21 rfl rfl)
theorem dX3_nextOfRow_44 : decode cX3_nextOfRow 44 = .ok (.aload_n 0, 1) := dk_42 (dk_at dksX3_nextOfRow_1 22 rfl rfl)
theorem dX3_nextOfRow_45 : decode cX3_nextOfRow 45 = .ok (.getfield 9, 3) := dk_180 0 9 (dk_at dksX3_nextOfRow_2 0 rfl rfl)
theorem dX3_nextOfRow_48 : decode cX3_nextOfRow 48 = .ok (.bipush 40, 2) := dk_16 40 (dk_at dksX3_nextOfRow_2 3 rfl rfl)
theorem dX3_nextOfRow_50 : decode cX3_nextOfRow 50 = .ok (.iaload, 1) := dk_46 (dk_at dksX3_nextOfRow_2 5 rfl rfl)
theorem dX3_nextOfRow_51 : decode cX3_nextOfRow 51 = .ok (.if_icmp .eq 7, 3) := dk_159 0 7 (dk_at dksX3_nextOfRow_2 6 rfl rfl)
theorem dX3_nextOfRow_54 : decode cX3_nextOfRow 54 = .ok (.iload_n 3, 1) := dk_29 (dk_at dksX3_nextOfRow_2 9 rfl rfl)
theorem dX3_nextOfRow_55 : decode cX3_nextOfRow 55 = .ok (.goto 4, 3) := dk_167 0 4 (dk_at dksX3_nextOfRow_2 10 rfl rfl)
theorem dX3_nextOfRow_58 : decode cX3_nextOfRow 58 = .ok (.iload_n 2, 1) := dk_28 (dk_at dksX3_nextOfRow_2 13 rfl rfl)
theorem dX3_nextOfRow_59 : decode cX3_nextOfRow 59 = .ok (.istore_n 2, 1) := dk_61 (dk_at dksX3_nextOfRow_2 14 rfl rfl)
theorem dX3_nextOfRow_60 : decode cX3_nextOfRow 60 = .ok (.iinc 3 (-1), 3) := dk_132 3 255 (dk_at dksX3_nextOfRow_2 15 rfl rfl)
theorem dX3_nextOfRow_63 : decode cX3_nextOfRow 63 = .ok (.goto (-50), 3) := dk_167 255 206 (dk_at dksX3_nextOfRow_2 18 rfl rfl)
theorem dX3_nextOfRow_66 : decode cX3_nextOfRow 66 = .ok (.iload_n 2, 1) := dk_28 (dk_at dksX3_nextOfRow_2 21 rfl rfl)
theorem dX3_nextOfRow_67 : decode cX3_nextOfRow 67 = .ok (.iconst (-1), 1) := dk_2 (dk_at dksX3_nextOfRow_2 22 rfl rfl)
theorem dX3_nextOfRow_68 : decode cX3_nextOfRow 68 = .ok (.if_icmp .ne 7, 3) := dk_160 0 7 (dk_at dksX3_nextOfRow_3 0 rfl rfl)
theorem dX3_nextOfRow_71 : decode cX3_nextOfRow 71 = .ok (.iload_n 1, 1) := dk_27 (dk_at dksX3_nextOfRow_3 3 rfl rfl)
theorem dX3_nextOfRow_72 : decode cX3_nextOfRow 72 = .ok (.goto 4, 3) := dk_167 0 4 (dk_at dksX3_nextOfRow_3 4 rfl rfl)
theorem dX3_nextOfRow_75 : decode cX3_nextOfRow 75 = .ok (.iload_n 2, 1) := dk_28 (dk_at dksX3_nextOfRow_3 7 rfl rfl)
theorem dX3_nextOfRow_76 : decode cX3_nextOfRow 76 = .ok (.ireturn, 1) := dk_172 (dk_at dksX3_nextOfRow_3 8 rfl rfl)
abbrev cX3_takes : ByteArray := prog_32_method_53_code
def yX3_takes : MethodName := ⟨RX3, "takes", "(I)V"⟩
def dkwX3_takes_3 : List UInt8 := [16, 40, 28, 79, 177]
abbrev dktX3_takes_3 : List UInt8 := dkwX3_takes_3 ++ []
def dkwX3_takes_2 : List UInt8 := [96, 46, 16, 6, 104, 42, 180, 0, 9, 16, 34, 28, 96, 46, 5, 96, 108, 96, 79, 42, 180, 0, 9]
abbrev dktX3_takes_2 : List UInt8 := dkwX3_takes_2 ++ dktX3_takes_3
def dkwX3_takes_1 : List UInt8 := [42, 180, 0, 9, 16, 38, 27, 79, 42, 180, 0, 9, 16, 39, 4, 42, 180, 0, 9, 27, 184, 0, 72, 5]
abbrev dktX3_takes_1 : List UInt8 := dkwX3_takes_1 ++ dktX3_takes_2
def dkwX3_takes_0 : List UInt8 := [42, 180, 0, 9, 27, 184, 0, 72, 4, 96, 46, 61, 42, 180, 0, 9, 27, 184, 0, 72, 3, 96, 4, 79]
abbrev dktX3_takes_0 : List UInt8 := dkwX3_takes_0 ++ dktX3_takes_1
theorem dksX3_takes_0 : cX3_takes.data.toList.drop 0 = dktX3_takes_0 := by decide +kernel
theorem dksX3_takes_1 : cX3_takes.data.toList.drop 24 = dktX3_takes_1 := dk_seg dksX3_takes_0 24 rfl rfl
theorem dksX3_takes_2 : cX3_takes.data.toList.drop 48 = dktX3_takes_2 := dk_seg dksX3_takes_1 24 rfl rfl
theorem dksX3_takes_3 : cX3_takes.data.toList.drop 71 = dktX3_takes_3 := dk_seg dksX3_takes_2 23 rfl rfl
theorem dX3_takes_0 : decode cX3_takes 0 = .ok (.aload_n 0, 1) := dk_42 (dk_at dksX3_takes_0 0 rfl rfl)
theorem dX3_takes_1 : decode cX3_takes 1 = .ok (.getfield 9, 3) := dk_180 0 9 (dk_at dksX3_takes_0 1 rfl rfl)
theorem dX3_takes_4 : decode cX3_takes 4 = .ok (.iload_n 1, 1) := dk_27 (dk_at dksX3_takes_0 4 rfl rfl)
theorem dX3_takes_5 : decode cX3_takes 5 = .ok (.invokestatic 72, 3) := dk_184 0 72 (dk_at dksX3_takes_0 5 rfl rfl)
theorem dX3_takes_8 : decode cX3_takes 8 = .ok (.iconst 1, 1) := dk_4 (dk_at dksX3_takes_0 8 rfl rfl)
theorem dX3_takes_9 : decode cX3_takes 9 = .ok (.iadd, 1) := dk_96 (dk_at dksX3_takes_0 9 rfl rfl)
theorem dX3_takes_10 : decode cX3_takes 10 = .ok (.iaload, 1) := dk_46 (dk_at dksX3_takes_0 10 rfl rfl)
theorem dX3_takes_11 : decode cX3_takes 11 = .ok (.istore_n 2, 1) := dk_61 (dk_at dksX3_takes_0 11 rfl rfl)
theorem dX3_takes_12 : decode cX3_takes 12 = .ok (.aload_n 0, 1) := dk_42 (dk_at dksX3_takes_0 12 rfl rfl)
theorem dX3_takes_13 : decode cX3_takes 13 = .ok (.getfield 9, 3) := dk_180 0 9 (dk_at dksX3_takes_0 13 rfl rfl)
theorem dX3_takes_16 : decode cX3_takes 16 = .ok (.iload_n 1, 1) := dk_27 (dk_at dksX3_takes_0 16 rfl rfl)
theorem dX3_takes_17 : decode cX3_takes 17 = .ok (.invokestatic 72, 3) := dk_184 0 72 (dk_at dksX3_takes_0 17 rfl rfl)
theorem dX3_takes_20 : decode cX3_takes 20 = .ok (.iconst 0, 1) := dk_3 (dk_at dksX3_takes_0 20 rfl rfl)
theorem dX3_takes_21 : decode cX3_takes 21 = .ok (.iadd, 1) := dk_96 (dk_at dksX3_takes_0 21 rfl rfl)
theorem dX3_takes_22 : decode cX3_takes 22 = .ok (.iconst 1, 1) := dk_4 (dk_at dksX3_takes_0 22 rfl rfl)
theorem dX3_takes_23 : decode cX3_takes 23 = .ok (.iastore, 1) := dk_79 (dk_at dksX3_takes_0 23 rfl rfl)
theorem dX3_takes_24 : decode cX3_takes 24 = .ok (.aload_n 0, 1) := dk_42 (dk_at dksX3_takes_1 0 rfl rfl)
theorem dX3_takes_25 : decode cX3_takes 25 = .ok (.getfield 9, 3) := dk_180 0 9 (dk_at dksX3_takes_1 1 rfl rfl)
theorem dX3_takes_28 : decode cX3_takes 28 = .ok (.bipush 38, 2) := dk_16 38 (dk_at dksX3_takes_1 4 rfl rfl)
theorem dX3_takes_30 : decode cX3_takes 30 = .ok (.iload_n 1, 1) := dk_27 (dk_at dksX3_takes_1 6 rfl rfl)
theorem dX3_takes_31 : decode cX3_takes 31 = .ok (.iastore, 1) := dk_79 (dk_at dksX3_takes_1 7 rfl rfl)
theorem dX3_takes_32 : decode cX3_takes 32 = .ok (.aload_n 0, 1) := dk_42 (dk_at dksX3_takes_1 8 rfl rfl)
theorem dX3_takes_33 : decode cX3_takes 33 = .ok (.getfield 9, 3) := dk_180 0 9 (dk_at dksX3_takes_1 9 rfl rfl)
theorem dX3_takes_36 : decode cX3_takes 36 = .ok (.bipush 39, 2) := dk_16 39 (dk_at dksX3_takes_1 12 rfl rfl)
theorem dX3_takes_38 : decode cX3_takes 38 = .ok (.iconst 1, 1) := dk_4 (dk_at dksX3_takes_1 14 rfl rfl)
theorem dX3_takes_39 : decode cX3_takes 39 = .ok (.aload_n 0, 1) := dk_42 (dk_at dksX3_takes_1 15 rfl rfl)
theorem dX3_takes_40 : decode cX3_takes 40 = .ok (.getfield 9, 3) := dk_180 0 9 (dk_at dksX3_takes_1 16 rfl rfl)
theorem dX3_takes_43 : decode cX3_takes 43 = .ok (.iload_n 1, 1) := dk_27 (dk_at dksX3_takes_1 19 rfl rfl)
theorem dX3_takes_44 : decode cX3_takes 44 = .ok (.invokestatic 72, 3) := dk_184 0 72 (dk_at dksX3_takes_1 20 rfl rfl)
theorem dX3_takes_47 : decode cX3_takes 47 = .ok (.iconst 2, 1) := dk_5 (dk_at dksX3_takes_1 23 rfl rfl)
theorem dX3_takes_48 : decode cX3_takes 48 = .ok (.iadd, 1) := dk_96 (dk_at dksX3_takes_2 0 rfl rfl)
theorem dX3_takes_49 : decode cX3_takes 49 = .ok (.iaload, 1) := dk_46 (dk_at dksX3_takes_2 1 rfl rfl)
theorem dX3_takes_50 : decode cX3_takes 50 = .ok (.bipush 6, 2) := dk_16 6 (dk_at dksX3_takes_2 2 rfl rfl)
theorem dX3_takes_52 : decode cX3_takes 52 = .ok (.imul, 1) := dk_104 (dk_at dksX3_takes_2 4 rfl rfl)
theorem dX3_takes_53 : decode cX3_takes 53 = .ok (.aload_n 0, 1) := dk_42 (dk_at dksX3_takes_2 5 rfl rfl)
theorem dX3_takes_54 : decode cX3_takes 54 = .ok (.getfield 9, 3) := dk_180 0 9 (dk_at dksX3_takes_2 6 rfl rfl)
theorem dX3_takes_57 : decode cX3_takes 57 = .ok (.bipush 34, 2) := dk_16 34 (dk_at dksX3_takes_2 9 rfl rfl)
theorem dX3_takes_59 : decode cX3_takes 59 = .ok (.iload_n 2, 1) := dk_28 (dk_at dksX3_takes_2 11 rfl rfl)
theorem dX3_takes_60 : decode cX3_takes 60 = .ok (.iadd, 1) := dk_96 (dk_at dksX3_takes_2 12 rfl rfl)
theorem dX3_takes_61 : decode cX3_takes 61 = .ok (.iaload, 1) := dk_46 (dk_at dksX3_takes_2 13 rfl rfl)
theorem dX3_takes_62 : decode cX3_takes 62 = .ok (.iconst 2, 1) := dk_5 (dk_at dksX3_takes_2 14 rfl rfl)
theorem dX3_takes_63 : decode cX3_takes 63 = .ok (.iadd, 1) := dk_96 (dk_at dksX3_takes_2 15 rfl rfl)
theorem dX3_takes_64 : decode cX3_takes 64 = .ok (.idiv, 1) := dk_108 (dk_at dksX3_takes_2 16 rfl rfl)
theorem dX3_takes_65 : decode cX3_takes 65 = .ok (.iadd, 1) := dk_96 (dk_at dksX3_takes_2 17 rfl rfl)
theorem dX3_takes_66 : decode cX3_takes 66 = .ok (.iastore, 1) := dk_79 (dk_at dksX3_takes_2 18 rfl rfl)
theorem dX3_takes_67 : decode cX3_takes 67 = .ok (.aload_n 0, 1) := dk_42 (dk_at dksX3_takes_2 19 rfl rfl)
theorem dX3_takes_68 : decode cX3_takes 68 = .ok (.getfield 9, 3) := dk_180 0 9 (dk_at dksX3_takes_2 20 rfl rfl)
theorem dX3_takes_71 : decode cX3_takes 71 = .ok (.bipush 40, 2) := dk_16 40 (dk_at dksX3_takes_3 0 rfl rfl)
theorem dX3_takes_73 : decode cX3_takes 73 = .ok (.iload_n 2, 1) := dk_28 (dk_at dksX3_takes_3 2 rfl rfl)
theorem dX3_takes_74 : decode cX3_takes 74 = .ok (.iastore, 1) := dk_79 (dk_at dksX3_takes_3 3 rfl rfl)
theorem dX3_takes_75 : decode cX3_takes 75 = .ok (.return_, 1) := dk_177 (dk_at dksX3_takes_3 4 rfl rfl)
abbrev cX3_wheel : ByteArray := prog_32_method_58_code
def yX3_wheel : MethodName := ⟨RX3, "wheel", "(I)I"⟩
def dkwX3_wheel_3 : List UInt8 := [180, 0, 9, 16, 39, 46, 172, 42, 3, 182, 0, 178, 172, 42, 180, 0, 9, 16, 40, 46, 172, 16, 254, 172]
abbrev dktX3_wheel_3 : List UInt8 := dkwX3_wheel_3 ++ []
def dkwX3_wheel_2 : List UInt8 := [42, 180, 0, 9, 16, 38, 46, 172, 42, 180, 0, 9, 16, 38, 46, 2, 160, 0, 7, 3, 167, 0, 10, 42]
abbrev dktX3_wheel_2 : List UInt8 := dkwX3_wheel_2 ++ dktX3_wheel_3
def dkwX3_wheel_1 : List UInt8 := [170, 0, 0, 0, 0, 0, 76, 0, 0, 0, 0, 0, 0, 0, 3, 0, 0, 0, 31, 0, 0, 0, 39, 0, 0, 0, 62, 0, 0, 0, 68]
abbrev dktX3_wheel_1 : List UInt8 := dkwX3_wheel_1 ++ dktX3_wheel_2
def dkwX3_wheel_0 : List UInt8 := [27]
abbrev dktX3_wheel_0 : List UInt8 := dkwX3_wheel_0 ++ dktX3_wheel_1
theorem dksX3_wheel_0 : cX3_wheel.data.toList.drop 0 = dktX3_wheel_0 := by decide +kernel
theorem dksX3_wheel_1 : cX3_wheel.data.toList.drop 1 = dktX3_wheel_1 := dk_seg dksX3_wheel_0 1 rfl rfl
theorem dksX3_wheel_2 : cX3_wheel.data.toList.drop 32 = dktX3_wheel_2 := dk_seg dksX3_wheel_1 31 rfl rfl
theorem dksX3_wheel_3 : cX3_wheel.data.toList.drop 56 = dktX3_wheel_3 := dk_seg dksX3_wheel_2 24 rfl rfl
theorem dX3_wheel_0 : decode cX3_wheel 0 = .ok (.iload_n 1, 1) := dk_27 (dk_at dksX3_wheel_0 0 rfl rfl)
theorem dX3_wheel_1 : decode cX3_wheel 1 = .ok (.tableswitch 76 0 3 #[31, 39, 62, 68], 31) := by decide +kernel
theorem dX3_wheel_32 : decode cX3_wheel 32 = .ok (.aload_n 0, 1) := dk_42 (dk_at dksX3_wheel_2 0 rfl rfl)
theorem dX3_wheel_33 : decode cX3_wheel 33 = .ok (.getfield 9, 3) := dk_180 0 9 (dk_at dksX3_wheel_2 1 rfl rfl)
theorem dX3_wheel_36 : decode cX3_wheel 36 = .ok (.bipush 38, 2) := dk_16 38 (dk_at dksX3_wheel_2 4 rfl rfl)
theorem dX3_wheel_38 : decode cX3_wheel 38 = .ok (.iaload, 1) := dk_46 (dk_at dksX3_wheel_2 6 rfl rfl)
theorem dX3_wheel_39 : decode cX3_wheel 39 = .ok (.ireturn, 1) := dk_172 (dk_at dksX3_wheel_2 7 rfl rfl)
theorem dX3_wheel_40 : decode cX3_wheel 40 = .ok (.aload_n 0, 1) := dk_42 (dk_at dksX3_wheel_2 8 rfl rfl)
theorem dX3_wheel_41 : decode cX3_wheel 41 = .ok (.getfield 9, 3) := dk_180 0 9 (dk_at dksX3_wheel_2 9 rfl rfl)
theorem dX3_wheel_44 : decode cX3_wheel 44 = .ok (.bipush 38, 2) := dk_16 38 (dk_at dksX3_wheel_2 12 rfl rfl)
theorem dX3_wheel_46 : decode cX3_wheel 46 = .ok (.iaload, 1) := dk_46 (dk_at dksX3_wheel_2 14 rfl rfl)
theorem dX3_wheel_47 : decode cX3_wheel 47 = .ok (.iconst (-1), 1) := dk_2 (dk_at dksX3_wheel_2 15 rfl rfl)
theorem dX3_wheel_48 : decode cX3_wheel 48 = .ok (.if_icmp .ne 7, 3) := dk_160 0 7 (dk_at dksX3_wheel_2 16 rfl rfl)
theorem dX3_wheel_51 : decode cX3_wheel 51 = .ok (.iconst 0, 1) := dk_3 (dk_at dksX3_wheel_2 19 rfl rfl)
theorem dX3_wheel_52 : decode cX3_wheel 52 = .ok (.goto 10, 3) := dk_167 0 10 (dk_at dksX3_wheel_2 20 rfl rfl)
theorem dX3_wheel_55 : decode cX3_wheel 55 = .ok (.aload_n 0, 1) := dk_42 (dk_at dksX3_wheel_2 23 rfl rfl)
theorem dX3_wheel_56 : decode cX3_wheel 56 = .ok (.getfield 9, 3) := dk_180 0 9 (dk_at dksX3_wheel_3 0 rfl rfl)
theorem dX3_wheel_59 : decode cX3_wheel 59 = .ok (.bipush 39, 2) := dk_16 39 (dk_at dksX3_wheel_3 3 rfl rfl)
theorem dX3_wheel_61 : decode cX3_wheel 61 = .ok (.iaload, 1) := dk_46 (dk_at dksX3_wheel_3 5 rfl rfl)
theorem dX3_wheel_62 : decode cX3_wheel 62 = .ok (.ireturn, 1) := dk_172 (dk_at dksX3_wheel_3 6 rfl rfl)
theorem dX3_wheel_63 : decode cX3_wheel 63 = .ok (.aload_n 0, 1) := dk_42 (dk_at dksX3_wheel_3 7 rfl rfl)
theorem dX3_wheel_64 : decode cX3_wheel 64 = .ok (.iconst 0, 1) := dk_3 (dk_at dksX3_wheel_3 8 rfl rfl)
theorem dX3_wheel_65 : decode cX3_wheel 65 = .ok (.invokevirtual 178, 3) := dk_182 0 178 (dk_at dksX3_wheel_3 9 rfl rfl)
theorem dX3_wheel_68 : decode cX3_wheel 68 = .ok (.ireturn, 1) := dk_172 (dk_at dksX3_wheel_3 12 rfl rfl)
theorem dX3_wheel_69 : decode cX3_wheel 69 = .ok (.aload_n 0, 1) := dk_42 (dk_at dksX3_wheel_3 13 rfl rfl)
theorem dX3_wheel_70 : decode cX3_wheel 70 = .ok (.getfield 9, 3) := dk_180 0 9 (dk_at dksX3_wheel_3 14 rfl rfl)
theorem dX3_wheel_73 : decode cX3_wheel 73 = .ok (.bipush 40, 2) := dk_16 40 (dk_at dksX3_wheel_3 17 rfl rfl)
theorem dX3_wheel_75 : decode cX3_wheel 75 = .ok (.iaload, 1) := dk_46 (dk_at dksX3_wheel_3 19 rfl rfl)
theorem dX3_wheel_76 : decode cX3_wheel 76 = .ok (.ireturn, 1) := dk_172 (dk_at dksX3_wheel_3 20 rfl rfl)
theorem dX3_wheel_77 : decode cX3_wheel 77 = .ok (.bipush (-2), 2) := dk_16 254 (dk_at dksX3_wheel_3 21 rfl rfl)
theorem dX3_wheel_79 : decode cX3_wheel 79 = .ok (.ireturn, 1) := dk_172 (dk_at dksX3_wheel_3 23 rfl rfl)
abbrev cX3_inState : ByteArray := prog_32_method_57_code
def yX3_inState : MethodName := ⟨RX3, "inState", "(I)I"⟩
def dkwX3_inState_1 : List UInt8 := [96, 46, 27, 160, 0, 7, 4, 167, 0, 4, 3, 96, 61, 132, 3, 1, 167, 255, 220, 28, 172]
abbrev dktX3_inState_1 : List UInt8 := dkwX3_inState_1 ++ []
def dkwX3_inState_0 : List UInt8 := [3, 61, 3, 62, 29, 42, 180, 0, 9, 5, 46, 162, 0, 32, 28, 42, 180, 0, 9, 29, 184, 0, 72, 3]
abbrev dktX3_inState_0 : List UInt8 := dkwX3_inState_0 ++ dktX3_inState_1
theorem dksX3_inState_0 : cX3_inState.data.toList.drop 0 = dktX3_inState_0 := by decide +kernel
theorem dksX3_inState_1 : cX3_inState.data.toList.drop 24 = dktX3_inState_1 := dk_seg dksX3_inState_0 24 rfl rfl
theorem dX3_inState_0 : decode cX3_inState 0 = .ok (.iconst 0, 1) := dk_3 (dk_at dksX3_inState_0 0 rfl rfl)
theorem dX3_inState_1 : decode cX3_inState 1 = .ok (.istore_n 2, 1) := dk_61 (dk_at dksX3_inState_0 1 rfl rfl)
theorem dX3_inState_2 : decode cX3_inState 2 = .ok (.iconst 0, 1) := dk_3 (dk_at dksX3_inState_0 2 rfl rfl)
theorem dX3_inState_3 : decode cX3_inState 3 = .ok (.istore_n 3, 1) := dk_62 (dk_at dksX3_inState_0 3 rfl rfl)
theorem dX3_inState_4 : decode cX3_inState 4 = .ok (.iload_n 3, 1) := dk_29 (dk_at dksX3_inState_0 4 rfl rfl)
theorem dX3_inState_5 : decode cX3_inState 5 = .ok (.aload_n 0, 1) := dk_42 (dk_at dksX3_inState_0 5 rfl rfl)
theorem dX3_inState_6 : decode cX3_inState 6 = .ok (.getfield 9, 3) := dk_180 0 9 (dk_at dksX3_inState_0 6 rfl rfl)
theorem dX3_inState_9 : decode cX3_inState 9 = .ok (.iconst 2, 1) := dk_5 (dk_at dksX3_inState_0 9 rfl rfl)
theorem dX3_inState_10 : decode cX3_inState 10 = .ok (.iaload, 1) := dk_46 (dk_at dksX3_inState_0 10 rfl rfl)
theorem dX3_inState_11 : decode cX3_inState 11 = .ok (.if_icmp .ge 32, 3) := dk_162 0 32 (dk_at dksX3_inState_0 11 rfl rfl)
theorem dX3_inState_14 : decode cX3_inState 14 = .ok (.iload_n 2, 1) := dk_28 (dk_at dksX3_inState_0 14 rfl rfl)
theorem dX3_inState_15 : decode cX3_inState 15 = .ok (.aload_n 0, 1) := dk_42 (dk_at dksX3_inState_0 15 rfl rfl)
theorem dX3_inState_16 : decode cX3_inState 16 = .ok (.getfield 9, 3) := dk_180 0 9 (dk_at dksX3_inState_0 16 rfl rfl)
theorem dX3_inState_19 : decode cX3_inState 19 = .ok (.iload_n 3, 1) := dk_29 (dk_at dksX3_inState_0 19 rfl rfl)
theorem dX3_inState_20 : decode cX3_inState 20 = .ok (.invokestatic 72, 3) := dk_184 0 72 (dk_at dksX3_inState_0 20 rfl rfl)
theorem dX3_inState_23 : decode cX3_inState 23 = .ok (.iconst 0, 1) := dk_3 (dk_at dksX3_inState_0 23 rfl rfl)
theorem dX3_inState_24 : decode cX3_inState 24 = .ok (.iadd, 1) := dk_96 (dk_at dksX3_inState_1 0 rfl rfl)
theorem dX3_inState_25 : decode cX3_inState 25 = .ok (.iaload, 1) := dk_46 (dk_at dksX3_inState_1 1 rfl rfl)
theorem dX3_inState_26 : decode cX3_inState 26 = .ok (.iload_n 1, 1) := dk_27 (dk_at dksX3_inState_1 2 rfl rfl)
theorem dX3_inState_27 : decode cX3_inState 27 = .ok (.if_icmp .ne 7, 3) := dk_160 0 7 (dk_at dksX3_inState_1 3 rfl rfl)
theorem dX3_inState_30 : decode cX3_inState 30 = .ok (.iconst 1, 1) := dk_4 (dk_at dksX3_inState_1 6 rfl rfl)
theorem dX3_inState_31 : decode cX3_inState 31 = .ok (.goto 4, 3) := dk_167 0 4 (dk_at dksX3_inState_1 7 rfl rfl)
theorem dX3_inState_34 : decode cX3_inState 34 = .ok (.iconst 0, 1) := dk_3 (dk_at dksX3_inState_1 10 rfl rfl)
theorem dX3_inState_35 : decode cX3_inState 35 = .ok (.iadd, 1) := dk_96 (dk_at dksX3_inState_1 11 rfl rfl)
theorem dX3_inState_36 : decode cX3_inState 36 = .ok (.istore_n 2, 1) := dk_61 (dk_at dksX3_inState_1 12 rfl rfl)
theorem dX3_inState_37 : decode cX3_inState 37 = .ok (.iinc 3 1, 3) := dk_132 3 1 (dk_at dksX3_inState_1 13 rfl rfl)
theorem dX3_inState_40 : decode cX3_inState 40 = .ok (.goto (-36), 3) := dk_167 255 220 (dk_at dksX3_inState_1 16 rfl rfl)
theorem dX3_inState_43 : decode cX3_inState 43 = .ok (.iload_n 2, 1) := dk_28 (dk_at dksX3_inState_1 19 rfl rfl)
theorem dX3_inState_44 : decode cX3_inState 44 = .ok (.ireturn, 1) := dk_172 (dk_at dksX3_inState_1 20 rfl rfl)
abbrev cX3_waiting : ByteArray := prog_32_method_59_code
def yX3_waiting : MethodName := ⟨RX3, "waiting", "(I)I"⟩
def dkwX3_waiting_1 : List UInt8 := [46, 154, 0, 13, 28, 27, 160, 0, 5, 29, 172, 132, 2, 1, 132, 3, 1, 167, 255, 219, 2, 172]
abbrev dktX3_waiting_1 : List UInt8 := dkwX3_waiting_1 ++ []
def dkwX3_waiting_0 : List UInt8 := [3, 61, 3, 62, 29, 42, 180, 0, 9, 5, 46, 162, 0, 33, 42, 180, 0, 9, 29, 184, 0, 72, 3, 96]
abbrev dktX3_waiting_0 : List UInt8 := dkwX3_waiting_0 ++ dktX3_waiting_1
theorem dksX3_waiting_0 : cX3_waiting.data.toList.drop 0 = dktX3_waiting_0 := by decide +kernel
theorem dksX3_waiting_1 : cX3_waiting.data.toList.drop 24 = dktX3_waiting_1 := dk_seg dksX3_waiting_0 24 rfl rfl
theorem dX3_waiting_0 : decode cX3_waiting 0 = .ok (.iconst 0, 1) := dk_3 (dk_at dksX3_waiting_0 0 rfl rfl)
theorem dX3_waiting_1 : decode cX3_waiting 1 = .ok (.istore_n 2, 1) := dk_61 (dk_at dksX3_waiting_0 1 rfl rfl)
theorem dX3_waiting_2 : decode cX3_waiting 2 = .ok (.iconst 0, 1) := dk_3 (dk_at dksX3_waiting_0 2 rfl rfl)
theorem dX3_waiting_3 : decode cX3_waiting 3 = .ok (.istore_n 3, 1) := dk_62 (dk_at dksX3_waiting_0 3 rfl rfl)
theorem dX3_waiting_4 : decode cX3_waiting 4 = .ok (.iload_n 3, 1) := dk_29 (dk_at dksX3_waiting_0 4 rfl rfl)
theorem dX3_waiting_5 : decode cX3_waiting 5 = .ok (.aload_n 0, 1) := dk_42 (dk_at dksX3_waiting_0 5 rfl rfl)
theorem dX3_waiting_6 : decode cX3_waiting 6 = .ok (.getfield 9, 3) := dk_180 0 9 (dk_at dksX3_waiting_0 6 rfl rfl)
theorem dX3_waiting_9 : decode cX3_waiting 9 = .ok (.iconst 2, 1) := dk_5 (dk_at dksX3_waiting_0 9 rfl rfl)
theorem dX3_waiting_10 : decode cX3_waiting 10 = .ok (.iaload, 1) := dk_46 (dk_at dksX3_waiting_0 10 rfl rfl)
theorem dX3_waiting_11 : decode cX3_waiting 11 = .ok (.if_icmp .ge 33, 3) := dk_162 0 33 (dk_at dksX3_waiting_0 11 rfl rfl)
theorem dX3_waiting_14 : decode cX3_waiting 14 = .ok (.aload_n 0, 1) := dk_42 (dk_at dksX3_waiting_0 14 rfl rfl)
theorem dX3_waiting_15 : decode cX3_waiting 15 = .ok (.getfield 9, 3) := dk_180 0 9 (dk_at dksX3_waiting_0 15 rfl rfl)
theorem dX3_waiting_18 : decode cX3_waiting 18 = .ok (.iload_n 3, 1) := dk_29 (dk_at dksX3_waiting_0 18 rfl rfl)
theorem dX3_waiting_19 : decode cX3_waiting 19 = .ok (.invokestatic 72, 3) := dk_184 0 72 (dk_at dksX3_waiting_0 19 rfl rfl)
theorem dX3_waiting_22 : decode cX3_waiting 22 = .ok (.iconst 0, 1) := dk_3 (dk_at dksX3_waiting_0 22 rfl rfl)
theorem dX3_waiting_23 : decode cX3_waiting 23 = .ok (.iadd, 1) := dk_96 (dk_at dksX3_waiting_0 23 rfl rfl)
theorem dX3_waiting_24 : decode cX3_waiting 24 = .ok (.iaload, 1) := dk_46 (dk_at dksX3_waiting_1 0 rfl rfl)
theorem dX3_waiting_25 : decode cX3_waiting 25 = .ok (.ifCond .ne 13, 3) := dk_154 0 13 (dk_at dksX3_waiting_1 1 rfl rfl)
theorem dX3_waiting_28 : decode cX3_waiting 28 = .ok (.iload_n 2, 1) := dk_28 (dk_at dksX3_waiting_1 4 rfl rfl)
theorem dX3_waiting_29 : decode cX3_waiting 29 = .ok (.iload_n 1, 1) := dk_27 (dk_at dksX3_waiting_1 5 rfl rfl)
theorem dX3_waiting_30 : decode cX3_waiting 30 = .ok (.if_icmp .ne 5, 3) := dk_160 0 5 (dk_at dksX3_waiting_1 6 rfl rfl)
theorem dX3_waiting_33 : decode cX3_waiting 33 = .ok (.iload_n 3, 1) := dk_29 (dk_at dksX3_waiting_1 9 rfl rfl)
theorem dX3_waiting_34 : decode cX3_waiting 34 = .ok (.ireturn, 1) := dk_172 (dk_at dksX3_waiting_1 10 rfl rfl)
theorem dX3_waiting_35 : decode cX3_waiting 35 = .ok (.iinc 2 1, 3) := dk_132 2 1 (dk_at dksX3_waiting_1 11 rfl rfl)
theorem dX3_waiting_38 : decode cX3_waiting 38 = .ok (.iinc 3 1, 3) := dk_132 3 1 (dk_at dksX3_waiting_1 14 rfl rfl)
theorem dX3_waiting_41 : decode cX3_waiting 41 = .ok (.goto (-37), 3) := dk_167 255 219 (dk_at dksX3_waiting_1 17 rfl rfl)
theorem dX3_waiting_44 : decode cX3_waiting 44 = .ok (.iconst (-1), 1) := dk_2 (dk_at dksX3_waiting_1 20 rfl rfl)
theorem dX3_waiting_45 : decode cX3_waiting 45 = .ok (.ireturn, 1) := dk_172 (dk_at dksX3_waiting_1 21 rfl rfl)
abbrev cX3_ahead : ByteArray := prog_32_method_61_code
def yX3_ahead : MethodName := ⟨RX3, "ahead", "(II)I"⟩
def dkwX3_ahead_5 : List UInt8 := [3, 42, 180, 0, 9, 3, 184, 0, 47, 29, 172]
abbrev dktX3_ahead_5 : List UInt8 := dkwX3_ahead_5 ++ []
def dkwX3_ahead_4 : List UInt8 := [182, 0, 187, 153, 0, 8, 21, 4, 167, 0, 5, 16, 250, 62, 132, 4, 1, 167, 255, 189, 42, 180, 0, 19]
abbrev dktX3_ahead_4 : List UInt8 := dkwX3_ahead_4 ++ dktX3_ahead_5
def dkwX3_ahead_3 : List UInt8 := [42, 42, 180, 0, 9, 27, 184, 0, 72, 7, 96, 46, 181, 0, 184, 42, 182, 0, 169, 42, 27, 28]
abbrev dktX3_ahead_3 : List UInt8 := dkwX3_ahead_3 ++ dktX3_ahead_4
def dkwX3_ahead_2 : List UInt8 := [163, 0, 66, 29, 16, 250, 160, 0, 60, 42, 42, 180, 0, 9, 27, 184, 0, 72, 3, 96, 46, 181, 0, 181]
abbrev dktX3_ahead_2 : List UInt8 := dkwX3_ahead_2 ++ dktX3_ahead_3
def dkwX3_ahead_1 : List UInt8 := [180, 0, 9, 3, 42, 180, 0, 19, 3, 184, 0, 47, 16, 250, 62, 4, 54, 4, 21, 4, 16, 99]
abbrev dktX3_ahead_1 : List UInt8 := dkwX3_ahead_1 ++ dktX3_ahead_2
def dkwX3_ahead_0 : List UInt8 := [42, 27, 182, 0, 92, 154, 0, 5, 2, 172, 28, 3, 6, 184, 0, 51, 154, 0, 6, 16, 254, 172, 42]
abbrev dktX3_ahead_0 : List UInt8 := dkwX3_ahead_0 ++ dktX3_ahead_1
theorem dksX3_ahead_0 : cX3_ahead.data.toList.drop 0 = dktX3_ahead_0 := by decide +kernel
theorem dksX3_ahead_1 : cX3_ahead.data.toList.drop 23 = dktX3_ahead_1 := dk_seg dksX3_ahead_0 23 rfl rfl
theorem dksX3_ahead_2 : cX3_ahead.data.toList.drop 45 = dktX3_ahead_2 := dk_seg dksX3_ahead_1 22 rfl rfl
theorem dksX3_ahead_3 : cX3_ahead.data.toList.drop 69 = dktX3_ahead_3 := dk_seg dksX3_ahead_2 24 rfl rfl
theorem dksX3_ahead_4 : cX3_ahead.data.toList.drop 91 = dktX3_ahead_4 := dk_seg dksX3_ahead_3 22 rfl rfl
theorem dksX3_ahead_5 : cX3_ahead.data.toList.drop 115 = dktX3_ahead_5 := dk_seg dksX3_ahead_4 24 rfl rfl
theorem dX3_ahead_0 : decode cX3_ahead 0 = .ok (.aload_n 0, 1) := dk_42 (dk_at dksX3_ahead_0 0 rfl rfl)
theorem dX3_ahead_1 : decode cX3_ahead 1 = .ok (.iload_n 1, 1) := dk_27 (dk_at dksX3_ahead_0 1 rfl rfl)
theorem dX3_ahead_2 : decode cX3_ahead 2 = .ok (.invokevirtual 92, 3) := dk_182 0 92 (dk_at dksX3_ahead_0 2 rfl rfl)
theorem dX3_ahead_5 : decode cX3_ahead 5 = .ok (.ifCond .ne 5, 3) := dk_154 0 5 (dk_at dksX3_ahead_0 5 rfl rfl)
theorem dX3_ahead_8 : decode cX3_ahead 8 = .ok (.iconst (-1), 1) := dk_2 (dk_at dksX3_ahead_0 8 rfl rfl)
theorem dX3_ahead_9 : decode cX3_ahead 9 = .ok (.ireturn, 1) := dk_172 (dk_at dksX3_ahead_0 9 rfl rfl)
theorem dX3_ahead_10 : decode cX3_ahead 10 = .ok (.iload_n 2, 1) := dk_28 (dk_at dksX3_ahead_0 10 rfl rfl)
theorem dX3_ahead_11 : decode cX3_ahead 11 = .ok (.iconst 0, 1) := dk_3 (dk_at dksX3_ahead_0 11 rfl rfl)
theorem dX3_ahead_12 : decode cX3_ahead 12 = .ok (.iconst 3, 1) := dk_6 (dk_at dksX3_ahead_0 12 rfl rfl)
theorem dX3_ahead_13 : decode cX3_ahead 13 = .ok (.invokestatic 51, 3) := dk_184 0 51 (dk_at dksX3_ahead_0 13 rfl rfl)
theorem dX3_ahead_16 : decode cX3_ahead 16 = .ok (.ifCond .ne 6, 3) := dk_154 0 6 (dk_at dksX3_ahead_0 16 rfl rfl)
theorem dX3_ahead_19 : decode cX3_ahead 19 = .ok (.bipush (-2), 2) := dk_16 254 (dk_at dksX3_ahead_0 19 rfl rfl)
theorem dX3_ahead_21 : decode cX3_ahead 21 = .ok (.ireturn, 1) := dk_172 (dk_at dksX3_ahead_0 21 rfl rfl)
theorem dX3_ahead_22 : decode cX3_ahead 22 = .ok (.aload_n 0, 1) := dk_42 (dk_at dksX3_ahead_0 22 rfl rfl)
theorem dX3_ahead_23 : decode cX3_ahead 23 = .ok (.getfield 9, 3) := dk_180 0 9 (dk_at dksX3_ahead_1 0 rfl rfl)
theorem dX3_ahead_26 : decode cX3_ahead 26 = .ok (.iconst 0, 1) := dk_3 (dk_at dksX3_ahead_1 3 rfl rfl)
theorem dX3_ahead_27 : decode cX3_ahead 27 = .ok (.aload_n 0, 1) := dk_42 (dk_at dksX3_ahead_1 4 rfl rfl)
theorem dX3_ahead_28 : decode cX3_ahead 28 = .ok (.getfield 19, 3) := dk_180 0 19 (dk_at dksX3_ahead_1 5 rfl rfl)
theorem dX3_ahead_31 : decode cX3_ahead 31 = .ok (.iconst 0, 1) := dk_3 (dk_at dksX3_ahead_1 8 rfl rfl)
theorem dX3_ahead_32 : decode cX3_ahead 32 = .ok (.invokestatic 47, 3) := dk_184 0 47 (dk_at dksX3_ahead_1 9 rfl rfl)
theorem dX3_ahead_35 : decode cX3_ahead 35 = .ok (.bipush (-6), 2) := dk_16 250 (dk_at dksX3_ahead_1 12 rfl rfl)
theorem dX3_ahead_37 : decode cX3_ahead 37 = .ok (.istore_n 3, 1) := dk_62 (dk_at dksX3_ahead_1 14 rfl rfl)
theorem dX3_ahead_38 : decode cX3_ahead 38 = .ok (.iconst 1, 1) := dk_4 (dk_at dksX3_ahead_1 15 rfl rfl)
theorem dX3_ahead_39 : decode cX3_ahead 39 = .ok (.istore 4, 2) := dk_54 4 (dk_at dksX3_ahead_1 16 rfl rfl)
theorem dX3_ahead_41 : decode cX3_ahead 41 = .ok (.iload 4, 2) := dk_21 4 (dk_at dksX3_ahead_1 18 rfl rfl)
theorem dX3_ahead_43 : decode cX3_ahead 43 = .ok (.bipush 99, 2) := dk_16 99 (dk_at dksX3_ahead_1 20 rfl rfl)
theorem dX3_ahead_45 : decode cX3_ahead 45 = .ok (.if_icmp .gt 66, 3) := dk_163 0 66 (dk_at dksX3_ahead_2 0 rfl rfl)
theorem dX3_ahead_48 : decode cX3_ahead 48 = .ok (.iload_n 3, 1) := dk_29 (dk_at dksX3_ahead_2 3 rfl rfl)
theorem dX3_ahead_49 : decode cX3_ahead 49 = .ok (.bipush (-6), 2) := dk_16 250 (dk_at dksX3_ahead_2 4 rfl rfl)
theorem dX3_ahead_51 : decode cX3_ahead 51 = .ok (.if_icmp .ne 60, 3) := dk_160 0 60 (dk_at dksX3_ahead_2 6 rfl rfl)
theorem dX3_ahead_54 : decode cX3_ahead 54 = .ok (.aload_n 0, 1) := dk_42 (dk_at dksX3_ahead_2 9 rfl rfl)
theorem dX3_ahead_55 : decode cX3_ahead 55 = .ok (.aload_n 0, 1) := dk_42 (dk_at dksX3_ahead_2 10 rfl rfl)
theorem dX3_ahead_56 : decode cX3_ahead 56 = .ok (.getfield 9, 3) := dk_180 0 9 (dk_at dksX3_ahead_2 11 rfl rfl)
theorem dX3_ahead_59 : decode cX3_ahead 59 = .ok (.iload_n 1, 1) := dk_27 (dk_at dksX3_ahead_2 14 rfl rfl)
theorem dX3_ahead_60 : decode cX3_ahead 60 = .ok (.invokestatic 72, 3) := dk_184 0 72 (dk_at dksX3_ahead_2 15 rfl rfl)
theorem dX3_ahead_63 : decode cX3_ahead 63 = .ok (.iconst 0, 1) := dk_3 (dk_at dksX3_ahead_2 18 rfl rfl)
theorem dX3_ahead_64 : decode cX3_ahead 64 = .ok (.iadd, 1) := dk_96 (dk_at dksX3_ahead_2 19 rfl rfl)
theorem dX3_ahead_65 : decode cX3_ahead 65 = .ok (.iaload, 1) := dk_46 (dk_at dksX3_ahead_2 20 rfl rfl)
theorem dX3_ahead_66 : decode cX3_ahead 66 = .ok (.putfield 181, 3) := dk_181 0 181 (dk_at dksX3_ahead_2 21 rfl rfl)
theorem dX3_ahead_69 : decode cX3_ahead 69 = .ok (.aload_n 0, 1) := dk_42 (dk_at dksX3_ahead_3 0 rfl rfl)
theorem dX3_ahead_70 : decode cX3_ahead 70 = .ok (.aload_n 0, 1) := dk_42 (dk_at dksX3_ahead_3 1 rfl rfl)
theorem dX3_ahead_71 : decode cX3_ahead 71 = .ok (.getfield 9, 3) := dk_180 0 9 (dk_at dksX3_ahead_3 2 rfl rfl)
theorem dX3_ahead_74 : decode cX3_ahead 74 = .ok (.iload_n 1, 1) := dk_27 (dk_at dksX3_ahead_3 5 rfl rfl)
theorem dX3_ahead_75 : decode cX3_ahead 75 = .ok (.invokestatic 72, 3) := dk_184 0 72 (dk_at dksX3_ahead_3 6 rfl rfl)
theorem dX3_ahead_78 : decode cX3_ahead 78 = .ok (.iconst 4, 1) := dk_7 (dk_at dksX3_ahead_3 9 rfl rfl)
theorem dX3_ahead_79 : decode cX3_ahead 79 = .ok (.iadd, 1) := dk_96 (dk_at dksX3_ahead_3 10 rfl rfl)
theorem dX3_ahead_80 : decode cX3_ahead 80 = .ok (.iaload, 1) := dk_46 (dk_at dksX3_ahead_3 11 rfl rfl)
theorem dX3_ahead_81 : decode cX3_ahead 81 = .ok (.putfield 184, 3) := dk_181 0 184 (dk_at dksX3_ahead_3 12 rfl rfl)
theorem dX3_ahead_84 : decode cX3_ahead 84 = .ok (.aload_n 0, 1) := dk_42 (dk_at dksX3_ahead_3 15 rfl rfl)
theorem dX3_ahead_85 : decode cX3_ahead 85 = .ok (.invokevirtual 169, 3) := dk_182 0 169 (dk_at dksX3_ahead_3 16 rfl rfl)
theorem dX3_ahead_88 : decode cX3_ahead 88 = .ok (.aload_n 0, 1) := dk_42 (dk_at dksX3_ahead_3 19 rfl rfl)
theorem dX3_ahead_89 : decode cX3_ahead 89 = .ok (.iload_n 1, 1) := dk_27 (dk_at dksX3_ahead_3 20 rfl rfl)
theorem dX3_ahead_90 : decode cX3_ahead 90 = .ok (.iload_n 2, 1) := dk_28 (dk_at dksX3_ahead_3 21 rfl rfl)
theorem dX3_ahead_91 : decode cX3_ahead 91 = .ok (.invokevirtual 187, 3) := dk_182 0 187 (dk_at dksX3_ahead_4 0 rfl rfl)
theorem dX3_ahead_94 : decode cX3_ahead 94 = .ok (.ifCond .eq 8, 3) := dk_153 0 8 (dk_at dksX3_ahead_4 3 rfl rfl)
theorem dX3_ahead_97 : decode cX3_ahead 97 = .ok (.iload 4, 2) := dk_21 4 (dk_at dksX3_ahead_4 6 rfl rfl)
theorem dX3_ahead_99 : decode cX3_ahead 99 = .ok (.goto 5, 3) := dk_167 0 5 (dk_at dksX3_ahead_4 8 rfl rfl)
theorem dX3_ahead_102 : decode cX3_ahead 102 = .ok (.bipush (-6), 2) := dk_16 250 (dk_at dksX3_ahead_4 11 rfl rfl)
theorem dX3_ahead_104 : decode cX3_ahead 104 = .ok (.istore_n 3, 1) := dk_62 (dk_at dksX3_ahead_4 13 rfl rfl)
theorem dX3_ahead_105 : decode cX3_ahead 105 = .ok (.iinc 4 1, 3) := dk_132 4 1 (dk_at dksX3_ahead_4 14 rfl rfl)
theorem dX3_ahead_108 : decode cX3_ahead 108 = .ok (.goto (-67), 3) := dk_167 255 189 (dk_at dksX3_ahead_4 17 rfl rfl)
theorem dX3_ahead_111 : decode cX3_ahead 111 = .ok (.aload_n 0, 1) := dk_42 (dk_at dksX3_ahead_4 20 rfl rfl)
theorem dX3_ahead_112 : decode cX3_ahead 112 = .ok (.getfield 19, 3) := dk_180 0 19 (dk_at dksX3_ahead_4 21 rfl rfl)
theorem dX3_ahead_115 : decode cX3_ahead 115 = .ok (.iconst 0, 1) := dk_3 (dk_at dksX3_ahead_5 0 rfl rfl)
theorem dX3_ahead_116 : decode cX3_ahead 116 = .ok (.aload_n 0, 1) := dk_42 (dk_at dksX3_ahead_5 1 rfl rfl)
theorem dX3_ahead_117 : decode cX3_ahead 117 = .ok (.getfield 9, 3) := dk_180 0 9 (dk_at dksX3_ahead_5 2 rfl rfl)
theorem dX3_ahead_120 : decode cX3_ahead 120 = .ok (.iconst 0, 1) := dk_3 (dk_at dksX3_ahead_5 5 rfl rfl)
theorem dX3_ahead_121 : decode cX3_ahead 121 = .ok (.invokestatic 47, 3) := dk_184 0 47 (dk_at dksX3_ahead_5 6 rfl rfl)
theorem dX3_ahead_124 : decode cX3_ahead 124 = .ok (.iload_n 3, 1) := dk_29 (dk_at dksX3_ahead_5 9 rfl rfl)
theorem dX3_ahead_125 : decode cX3_ahead 125 = .ok (.ireturn, 1) := dk_172 (dk_at dksX3_ahead_5 10 rfl rfl)
abbrev cX3_becomes : ByteArray := prog_32_method_60_code
def yX3_becomes : MethodName := ⟨RX3, "becomes", "(II)Z"⟩
def dkwX3_becomes_5 : List UInt8 := [160, 0, 7, 4, 167, 0, 4, 3, 172]
abbrev dktX3_becomes_5 : List UInt8 := dkwX3_becomes_5 ++ []
def dkwX3_becomes_4 : List UInt8 := [46, 42, 180, 0, 184, 164, 0, 7, 4, 167, 0, 4, 3, 172, 42, 180, 0, 181, 5, 160, 0, 12, 29, 6]
abbrev dktX3_becomes_4 : List UInt8 := dkwX3_becomes_4 ++ dktX3_becomes_5
def dkwX3_becomes_3 : List UInt8 := [160, 0, 12, 29, 5, 160, 0, 7, 4, 167, 0, 4, 3, 172, 42, 180, 0, 9, 27, 184, 0, 72, 7, 96]
abbrev dktX3_becomes_3 : List UInt8 := dkwX3_becomes_3 ++ dktX3_becomes_4
def dkwX3_becomes_2 : List UInt8 := [42, 180, 0, 181, 154, 0, 12, 29, 4, 160, 0, 7, 4, 167, 0, 4, 3, 172, 42, 180, 0, 181, 4]
abbrev dktX3_becomes_2 : List UInt8 := dkwX3_becomes_2 ++ dktX3_becomes_3
def dkwX3_becomes_1 : List UInt8 := [170, 0, 0, 0, 0, 0, 88, 0, 0, 0, 0, 0, 0, 0, 2, 0, 0, 0, 27, 0, 0, 0, 45, 0, 0, 0, 64]
abbrev dktX3_becomes_1 : List UInt8 := dkwX3_becomes_1 ++ dktX3_becomes_2
def dkwX3_becomes_0 : List UInt8 := [42, 180, 0, 9, 27, 184, 0, 72, 3, 96, 46, 62, 28]
abbrev dktX3_becomes_0 : List UInt8 := dkwX3_becomes_0 ++ dktX3_becomes_1
theorem dksX3_becomes_0 : cX3_becomes.data.toList.drop 0 = dktX3_becomes_0 := by decide +kernel
theorem dksX3_becomes_1 : cX3_becomes.data.toList.drop 13 = dktX3_becomes_1 := dk_seg dksX3_becomes_0 13 rfl rfl
theorem dksX3_becomes_2 : cX3_becomes.data.toList.drop 40 = dktX3_becomes_2 := dk_seg dksX3_becomes_1 27 rfl rfl
theorem dksX3_becomes_3 : cX3_becomes.data.toList.drop 63 = dktX3_becomes_3 := dk_seg dksX3_becomes_2 23 rfl rfl
theorem dksX3_becomes_4 : cX3_becomes.data.toList.drop 87 = dktX3_becomes_4 := dk_seg dksX3_becomes_3 24 rfl rfl
theorem dksX3_becomes_5 : cX3_becomes.data.toList.drop 111 = dktX3_becomes_5 := dk_seg dksX3_becomes_4 24 rfl rfl
theorem dX3_becomes_0 : decode cX3_becomes 0 = .ok (.aload_n 0, 1) := dk_42 (dk_at dksX3_becomes_0 0 rfl rfl)
theorem dX3_becomes_1 : decode cX3_becomes 1 = .ok (.getfield 9, 3) := dk_180 0 9 (dk_at dksX3_becomes_0 1 rfl rfl)
theorem dX3_becomes_4 : decode cX3_becomes 4 = .ok (.iload_n 1, 1) := dk_27 (dk_at dksX3_becomes_0 4 rfl rfl)
theorem dX3_becomes_5 : decode cX3_becomes 5 = .ok (.invokestatic 72, 3) := dk_184 0 72 (dk_at dksX3_becomes_0 5 rfl rfl)
theorem dX3_becomes_8 : decode cX3_becomes 8 = .ok (.iconst 0, 1) := dk_3 (dk_at dksX3_becomes_0 8 rfl rfl)
theorem dX3_becomes_9 : decode cX3_becomes 9 = .ok (.iadd, 1) := dk_96 (dk_at dksX3_becomes_0 9 rfl rfl)
theorem dX3_becomes_10 : decode cX3_becomes 10 = .ok (.iaload, 1) := dk_46 (dk_at dksX3_becomes_0 10 rfl rfl)
theorem dX3_becomes_11 : decode cX3_becomes 11 = .ok (.istore_n 3, 1) := dk_62 (dk_at dksX3_becomes_0 11 rfl rfl)
theorem dX3_becomes_12 : decode cX3_becomes 12 = .ok (.iload_n 2, 1) := dk_28 (dk_at dksX3_becomes_0 12 rfl rfl)
theorem dX3_becomes_13 : decode cX3_becomes 13 = .ok (.tableswitch 88 0 2 #[27, 45, 64], 27) := by decide +kernel
theorem dX3_becomes_40 : decode cX3_becomes 40 = .ok (.aload_n 0, 1) := dk_42 (dk_at dksX3_becomes_2 0 rfl rfl)
theorem dX3_becomes_41 : decode cX3_becomes 41 = .ok (.getfield 181, 3) := dk_180 0 181 (dk_at dksX3_becomes_2 1 rfl rfl)
theorem dX3_becomes_44 : decode cX3_becomes 44 = .ok (.ifCond .ne 12, 3) := dk_154 0 12 (dk_at dksX3_becomes_2 4 rfl rfl)
theorem dX3_becomes_47 : decode cX3_becomes 47 = .ok (.iload_n 3, 1) := dk_29 (dk_at dksX3_becomes_2 7 rfl rfl)
theorem dX3_becomes_48 : decode cX3_becomes 48 = .ok (.iconst 1, 1) := dk_4 (dk_at dksX3_becomes_2 8 rfl rfl)
theorem dX3_becomes_49 : decode cX3_becomes 49 = .ok (.if_icmp .ne 7, 3) := dk_160 0 7 (dk_at dksX3_becomes_2 9 rfl rfl)
theorem dX3_becomes_52 : decode cX3_becomes 52 = .ok (.iconst 1, 1) := dk_4 (dk_at dksX3_becomes_2 12 rfl rfl)
theorem dX3_becomes_53 : decode cX3_becomes 53 = .ok (.goto 4, 3) := dk_167 0 4 (dk_at dksX3_becomes_2 13 rfl rfl)
theorem dX3_becomes_56 : decode cX3_becomes 56 = .ok (.iconst 0, 1) := dk_3 (dk_at dksX3_becomes_2 16 rfl rfl)
theorem dX3_becomes_57 : decode cX3_becomes 57 = .ok (.ireturn, 1) := dk_172 (dk_at dksX3_becomes_2 17 rfl rfl)
theorem dX3_becomes_58 : decode cX3_becomes 58 = .ok (.aload_n 0, 1) := dk_42 (dk_at dksX3_becomes_2 18 rfl rfl)
theorem dX3_becomes_59 : decode cX3_becomes 59 = .ok (.getfield 181, 3) := dk_180 0 181 (dk_at dksX3_becomes_2 19 rfl rfl)
theorem dX3_becomes_62 : decode cX3_becomes 62 = .ok (.iconst 1, 1) := dk_4 (dk_at dksX3_becomes_2 22 rfl rfl)
theorem dX3_becomes_63 : decode cX3_becomes 63 = .ok (.if_icmp .ne 12, 3) := dk_160 0 12 (dk_at dksX3_becomes_3 0 rfl rfl)
theorem dX3_becomes_66 : decode cX3_becomes 66 = .ok (.iload_n 3, 1) := dk_29 (dk_at dksX3_becomes_3 3 rfl rfl)
theorem dX3_becomes_67 : decode cX3_becomes 67 = .ok (.iconst 2, 1) := dk_5 (dk_at dksX3_becomes_3 4 rfl rfl)
theorem dX3_becomes_68 : decode cX3_becomes 68 = .ok (.if_icmp .ne 7, 3) := dk_160 0 7 (dk_at dksX3_becomes_3 5 rfl rfl)
theorem dX3_becomes_71 : decode cX3_becomes 71 = .ok (.iconst 1, 1) := dk_4 (dk_at dksX3_becomes_3 8 rfl rfl)
theorem dX3_becomes_72 : decode cX3_becomes 72 = .ok (.goto 4, 3) := dk_167 0 4 (dk_at dksX3_becomes_3 9 rfl rfl)
theorem dX3_becomes_75 : decode cX3_becomes 75 = .ok (.iconst 0, 1) := dk_3 (dk_at dksX3_becomes_3 12 rfl rfl)
theorem dX3_becomes_76 : decode cX3_becomes 76 = .ok (.ireturn, 1) := dk_172 (dk_at dksX3_becomes_3 13 rfl rfl)
theorem dX3_becomes_77 : decode cX3_becomes 77 = .ok (.aload_n 0, 1) := dk_42 (dk_at dksX3_becomes_3 14 rfl rfl)
theorem dX3_becomes_78 : decode cX3_becomes 78 = .ok (.getfield 9, 3) := dk_180 0 9 (dk_at dksX3_becomes_3 15 rfl rfl)
theorem dX3_becomes_81 : decode cX3_becomes 81 = .ok (.iload_n 1, 1) := dk_27 (dk_at dksX3_becomes_3 18 rfl rfl)
theorem dX3_becomes_82 : decode cX3_becomes 82 = .ok (.invokestatic 72, 3) := dk_184 0 72 (dk_at dksX3_becomes_3 19 rfl rfl)
theorem dX3_becomes_85 : decode cX3_becomes 85 = .ok (.iconst 4, 1) := dk_7 (dk_at dksX3_becomes_3 22 rfl rfl)
theorem dX3_becomes_86 : decode cX3_becomes 86 = .ok (.iadd, 1) := dk_96 (dk_at dksX3_becomes_3 23 rfl rfl)
theorem dX3_becomes_87 : decode cX3_becomes 87 = .ok (.iaload, 1) := dk_46 (dk_at dksX3_becomes_4 0 rfl rfl)
theorem dX3_becomes_88 : decode cX3_becomes 88 = .ok (.aload_n 0, 1) := dk_42 (dk_at dksX3_becomes_4 1 rfl rfl)
theorem dX3_becomes_89 : decode cX3_becomes 89 = .ok (.getfield 184, 3) := dk_180 0 184 (dk_at dksX3_becomes_4 2 rfl rfl)
theorem dX3_becomes_92 : decode cX3_becomes 92 = .ok (.if_icmp .le 7, 3) := dk_164 0 7 (dk_at dksX3_becomes_4 5 rfl rfl)
theorem dX3_becomes_95 : decode cX3_becomes 95 = .ok (.iconst 1, 1) := dk_4 (dk_at dksX3_becomes_4 8 rfl rfl)
theorem dX3_becomes_96 : decode cX3_becomes 96 = .ok (.goto 4, 3) := dk_167 0 4 (dk_at dksX3_becomes_4 9 rfl rfl)
theorem dX3_becomes_99 : decode cX3_becomes 99 = .ok (.iconst 0, 1) := dk_3 (dk_at dksX3_becomes_4 12 rfl rfl)
theorem dX3_becomes_100 : decode cX3_becomes 100 = .ok (.ireturn, 1) := dk_172 (dk_at dksX3_becomes_4 13 rfl rfl)
theorem dX3_becomes_101 : decode cX3_becomes 101 = .ok (.aload_n 0, 1) := dk_42 (dk_at dksX3_becomes_4 14 rfl rfl)
theorem dX3_becomes_102 : decode cX3_becomes 102 = .ok (.getfield 181, 3) := dk_180 0 181 (dk_at dksX3_becomes_4 15 rfl rfl)
theorem dX3_becomes_105 : decode cX3_becomes 105 = .ok (.iconst 2, 1) := dk_5 (dk_at dksX3_becomes_4 18 rfl rfl)
theorem dX3_becomes_106 : decode cX3_becomes 106 = .ok (.if_icmp .ne 12, 3) := dk_160 0 12 (dk_at dksX3_becomes_4 19 rfl rfl)
theorem dX3_becomes_109 : decode cX3_becomes 109 = .ok (.iload_n 3, 1) := dk_29 (dk_at dksX3_becomes_4 22 rfl rfl)
theorem dX3_becomes_110 : decode cX3_becomes 110 = .ok (.iconst 3, 1) := dk_6 (dk_at dksX3_becomes_4 23 rfl rfl)
theorem dX3_becomes_111 : decode cX3_becomes 111 = .ok (.if_icmp .ne 7, 3) := dk_160 0 7 (dk_at dksX3_becomes_5 0 rfl rfl)
theorem dX3_becomes_114 : decode cX3_becomes 114 = .ok (.iconst 1, 1) := dk_4 (dk_at dksX3_becomes_5 3 rfl rfl)
theorem dX3_becomes_115 : decode cX3_becomes 115 = .ok (.goto 4, 3) := dk_167 0 4 (dk_at dksX3_becomes_5 4 rfl rfl)
theorem dX3_becomes_118 : decode cX3_becomes 118 = .ok (.iconst 0, 1) := dk_3 (dk_at dksX3_becomes_5 7 rfl rfl)
theorem dX3_becomes_119 : decode cX3_becomes 119 = .ok (.ireturn, 1) := dk_172 (dk_at dksX3_becomes_5 8 rfl rfl)
abbrev cX3_meanMoisture : ByteArray := prog_32_method_62_code
def yX3_meanMoisture : MethodName := ⟨RX3, "meanMoisture", "()D"⟩
def dkwX3_meanMoisture_2 : List UInt8 := [132, 4, 1, 167, 255, 213, 29, 154, 0, 7, 14, 167, 0, 7, 39, 29, 135, 111, 175]
abbrev dktX3_meanMoisture_2 : List UInt8 := dkwX3_meanMoisture_2 ++ []
def dkwX3_meanMoisture_1 : List UInt8 := [184, 0, 72, 3, 96, 46, 5, 160, 0, 16, 39, 42, 21, 4, 182, 0, 105, 141, 99, 72, 132, 3, 1]
abbrev dktX3_meanMoisture_1 : List UInt8 := dkwX3_meanMoisture_1 ++ dktX3_meanMoisture_2
def dkwX3_meanMoisture_0 : List UInt8 := [14, 72, 3, 62, 3, 54, 4, 21, 4, 42, 180, 0, 9, 5, 46, 162, 0, 38, 42, 180, 0, 9, 21, 4]
abbrev dktX3_meanMoisture_0 : List UInt8 := dkwX3_meanMoisture_0 ++ dktX3_meanMoisture_1
theorem dksX3_meanMoisture_0 : cX3_meanMoisture.data.toList.drop 0 = dktX3_meanMoisture_0 := by decide +kernel
theorem dksX3_meanMoisture_1 : cX3_meanMoisture.data.toList.drop 24 = dktX3_meanMoisture_1 := dk_seg dksX3_meanMoisture_0 24 rfl rfl
theorem dksX3_meanMoisture_2 : cX3_meanMoisture.data.toList.drop 47 = dktX3_meanMoisture_2 := dk_seg dksX3_meanMoisture_1 23 rfl rfl
theorem dX3_meanMoisture_0 : decode cX3_meanMoisture 0 = .ok (.dconst 0, 1) := dk_14 (dk_at dksX3_meanMoisture_0 0 rfl rfl)
theorem dX3_meanMoisture_1 : decode cX3_meanMoisture 1 = .ok (.dstore_n 1, 1) := dk_72 (dk_at dksX3_meanMoisture_0 1 rfl rfl)
theorem dX3_meanMoisture_2 : decode cX3_meanMoisture 2 = .ok (.iconst 0, 1) := dk_3 (dk_at dksX3_meanMoisture_0 2 rfl rfl)
theorem dX3_meanMoisture_3 : decode cX3_meanMoisture 3 = .ok (.istore_n 3, 1) := dk_62 (dk_at dksX3_meanMoisture_0 3 rfl rfl)
theorem dX3_meanMoisture_4 : decode cX3_meanMoisture 4 = .ok (.iconst 0, 1) := dk_3 (dk_at dksX3_meanMoisture_0 4 rfl rfl)
theorem dX3_meanMoisture_5 : decode cX3_meanMoisture 5 = .ok (.istore 4, 2) := dk_54 4 (dk_at dksX3_meanMoisture_0 5 rfl rfl)
theorem dX3_meanMoisture_7 : decode cX3_meanMoisture 7 = .ok (.iload 4, 2) := dk_21 4 (dk_at dksX3_meanMoisture_0 7 rfl rfl)
theorem dX3_meanMoisture_9 : decode cX3_meanMoisture 9 = .ok (.aload_n 0, 1) := dk_42 (dk_at dksX3_meanMoisture_0 9 rfl rfl)
theorem dX3_meanMoisture_10 : decode cX3_meanMoisture 10 = .ok (.getfield 9, 3) := dk_180 0 9 (dk_at dksX3_meanMoisture_0 10 rfl rfl)
theorem dX3_meanMoisture_13 : decode cX3_meanMoisture 13 = .ok (.iconst 2, 1) := dk_5 (dk_at dksX3_meanMoisture_0 13 rfl rfl)
theorem dX3_meanMoisture_14 : decode cX3_meanMoisture 14 = .ok (.iaload, 1) := dk_46 (dk_at dksX3_meanMoisture_0 14 rfl rfl)
theorem dX3_meanMoisture_15 : decode cX3_meanMoisture 15 = .ok (.if_icmp .ge 38, 3) := dk_162 0 38 (dk_at dksX3_meanMoisture_0 15 rfl rfl)
theorem dX3_meanMoisture_18 : decode cX3_meanMoisture 18 = .ok (.aload_n 0, 1) := dk_42 (dk_at dksX3_meanMoisture_0 18 rfl rfl)
theorem dX3_meanMoisture_19 : decode cX3_meanMoisture 19 = .ok (.getfield 9, 3) := dk_180 0 9 (dk_at dksX3_meanMoisture_0 19 rfl rfl)
theorem dX3_meanMoisture_22 : decode cX3_meanMoisture 22 = .ok (.iload 4, 2) := dk_21 4 (dk_at dksX3_meanMoisture_0 22 rfl rfl)
theorem dX3_meanMoisture_24 : decode cX3_meanMoisture 24 = .ok (.invokestatic 72, 3) := dk_184 0 72 (dk_at dksX3_meanMoisture_1 0 rfl rfl)
theorem dX3_meanMoisture_27 : decode cX3_meanMoisture 27 = .ok (.iconst 0, 1) := dk_3 (dk_at dksX3_meanMoisture_1 3 rfl rfl)
theorem dX3_meanMoisture_28 : decode cX3_meanMoisture 28 = .ok (.iadd, 1) := dk_96 (dk_at dksX3_meanMoisture_1 4 rfl rfl)
theorem dX3_meanMoisture_29 : decode cX3_meanMoisture 29 = .ok (.iaload, 1) := dk_46 (dk_at dksX3_meanMoisture_1 5 rfl rfl)
theorem dX3_meanMoisture_30 : decode cX3_meanMoisture 30 = .ok (.iconst 2, 1) := dk_5 (dk_at dksX3_meanMoisture_1 6 rfl rfl)
theorem dX3_meanMoisture_31 : decode cX3_meanMoisture 31 = .ok (.if_icmp .ne 16, 3) := dk_160 0 16 (dk_at dksX3_meanMoisture_1 7 rfl rfl)
theorem dX3_meanMoisture_34 : decode cX3_meanMoisture 34 = .ok (.dload_n 1, 1) := dk_39 (dk_at dksX3_meanMoisture_1 10 rfl rfl)
theorem dX3_meanMoisture_35 : decode cX3_meanMoisture 35 = .ok (.aload_n 0, 1) := dk_42 (dk_at dksX3_meanMoisture_1 11 rfl rfl)
theorem dX3_meanMoisture_36 : decode cX3_meanMoisture 36 = .ok (.iload 4, 2) := dk_21 4 (dk_at dksX3_meanMoisture_1 12 rfl rfl)
theorem dX3_meanMoisture_38 : decode cX3_meanMoisture 38 = .ok (.invokevirtual 105, 3) := dk_182 0 105 (dk_at dksX3_meanMoisture_1 14 rfl rfl)
theorem dX3_meanMoisture_41 : decode cX3_meanMoisture 41 = .ok (.f2d, 1) := dk_141 (dk_at dksX3_meanMoisture_1 17 rfl rfl)
theorem dX3_meanMoisture_42 : decode cX3_meanMoisture 42 = .ok (.dadd, 1) := dk_99 (dk_at dksX3_meanMoisture_1 18 rfl rfl)
theorem dX3_meanMoisture_43 : decode cX3_meanMoisture 43 = .ok (.dstore_n 1, 1) := dk_72 (dk_at dksX3_meanMoisture_1 19 rfl rfl)
theorem dX3_meanMoisture_44 : decode cX3_meanMoisture 44 = .ok (.iinc 3 1, 3) := dk_132 3 1 (dk_at dksX3_meanMoisture_1 20 rfl rfl)
theorem dX3_meanMoisture_47 : decode cX3_meanMoisture 47 = .ok (.iinc 4 1, 3) := dk_132 4 1 (dk_at dksX3_meanMoisture_2 0 rfl rfl)
theorem dX3_meanMoisture_50 : decode cX3_meanMoisture 50 = .ok (.goto (-43), 3) := dk_167 255 213 (dk_at dksX3_meanMoisture_2 3 rfl rfl)
theorem dX3_meanMoisture_53 : decode cX3_meanMoisture 53 = .ok (.iload_n 3, 1) := dk_29 (dk_at dksX3_meanMoisture_2 6 rfl rfl)
theorem dX3_meanMoisture_54 : decode cX3_meanMoisture 54 = .ok (.ifCond .ne 7, 3) := dk_154 0 7 (dk_at dksX3_meanMoisture_2 7 rfl rfl)
theorem dX3_meanMoisture_57 : decode cX3_meanMoisture 57 = .ok (.dconst 0, 1) := dk_14 (dk_at dksX3_meanMoisture_2 10 rfl rfl)
theorem dX3_meanMoisture_58 : decode cX3_meanMoisture 58 = .ok (.goto 7, 3) := dk_167 0 7 (dk_at dksX3_meanMoisture_2 11 rfl rfl)
theorem dX3_meanMoisture_61 : decode cX3_meanMoisture 61 = .ok (.dload_n 1, 1) := dk_39 (dk_at dksX3_meanMoisture_2 14 rfl rfl)
theorem dX3_meanMoisture_62 : decode cX3_meanMoisture 62 = .ok (.iload_n 3, 1) := dk_29 (dk_at dksX3_meanMoisture_2 15 rfl rfl)
theorem dX3_meanMoisture_63 : decode cX3_meanMoisture 63 = .ok (.i2d, 1) := dk_135 (dk_at dksX3_meanMoisture_2 16 rfl rfl)
theorem dX3_meanMoisture_64 : decode cX3_meanMoisture 64 = .ok (.ddiv, 1) := dk_111 (dk_at dksX3_meanMoisture_2 17 rfl rfl)
theorem dX3_meanMoisture_65 : decode cX3_meanMoisture 65 = .ok (.dreturn, 1) := dk_175 (dk_at dksX3_meanMoisture_2 18 rfl rfl)
abbrev cX3_wholeShare : ByteArray := prog_32_method_63_code
def yX3_wholeShare : MethodName := ⟨RX3, "wholeShare", "()F"⟩
def dkwX3_wholeShare_2 : List UInt8 := [61, 132, 3, 1, 167, 255, 212, 28, 154, 0, 7, 11, 167, 0, 8, 27, 134, 28, 134, 110, 174]
abbrev dktX3_wholeShare_2 : List UInt8 := dkwX3_wholeShare_2 ++ []
def dkwX3_wholeShare_1 : List UInt8 := [153, 0, 7, 4, 167, 0, 4, 3, 96, 60, 28, 42, 180, 0, 9, 29, 184, 0, 72, 16, 12, 96, 46, 96]
abbrev dktX3_wholeShare_1 : List UInt8 := dkwX3_wholeShare_1 ++ dktX3_wholeShare_2
def dkwX3_wholeShare_0 : List UInt8 := [3, 60, 3, 61, 3, 62, 29, 42, 180, 0, 9, 5, 46, 162, 0, 40, 27, 42, 29, 182, 0, 96]
abbrev dktX3_wholeShare_0 : List UInt8 := dkwX3_wholeShare_0 ++ dktX3_wholeShare_1
theorem dksX3_wholeShare_0 : cX3_wholeShare.data.toList.drop 0 = dktX3_wholeShare_0 := by decide +kernel
theorem dksX3_wholeShare_1 : cX3_wholeShare.data.toList.drop 22 = dktX3_wholeShare_1 := dk_seg dksX3_wholeShare_0 22 rfl rfl
theorem dksX3_wholeShare_2 : cX3_wholeShare.data.toList.drop 46 = dktX3_wholeShare_2 := dk_seg dksX3_wholeShare_1 24 rfl rfl
theorem dX3_wholeShare_0 : decode cX3_wholeShare 0 = .ok (.iconst 0, 1) := dk_3 (dk_at dksX3_wholeShare_0 0 rfl rfl)
theorem dX3_wholeShare_1 : decode cX3_wholeShare 1 = .ok (.istore_n 1, 1) := dk_60 (dk_at dksX3_wholeShare_0 1 rfl rfl)
theorem dX3_wholeShare_2 : decode cX3_wholeShare 2 = .ok (.iconst 0, 1) := dk_3 (dk_at dksX3_wholeShare_0 2 rfl rfl)
theorem dX3_wholeShare_3 : decode cX3_wholeShare 3 = .ok (.istore_n 2, 1) := dk_61 (dk_at dksX3_wholeShare_0 3 rfl rfl)
theorem dX3_wholeShare_4 : decode cX3_wholeShare 4 = .ok (.iconst 0, 1) := dk_3 (dk_at dksX3_wholeShare_0 4 rfl rfl)
theorem dX3_wholeShare_5 : decode cX3_wholeShare 5 = .ok (.istore_n 3, 1) := dk_62 (dk_at dksX3_wholeShare_0 5 rfl rfl)
theorem dX3_wholeShare_6 : decode cX3_wholeShare 6 = .ok (.iload_n 3, 1) := dk_29 (dk_at dksX3_wholeShare_0 6 rfl rfl)
theorem dX3_wholeShare_7 : decode cX3_wholeShare 7 = .ok (.aload_n 0, 1) := dk_42 (dk_at dksX3_wholeShare_0 7 rfl rfl)
theorem dX3_wholeShare_8 : decode cX3_wholeShare 8 = .ok (.getfield 9, 3) := dk_180 0 9 (dk_at dksX3_wholeShare_0 8 rfl rfl)
theorem dX3_wholeShare_11 : decode cX3_wholeShare 11 = .ok (.iconst 2, 1) := dk_5 (dk_at dksX3_wholeShare_0 11 rfl rfl)
theorem dX3_wholeShare_12 : decode cX3_wholeShare 12 = .ok (.iaload, 1) := dk_46 (dk_at dksX3_wholeShare_0 12 rfl rfl)
theorem dX3_wholeShare_13 : decode cX3_wholeShare 13 = .ok (.if_icmp .ge 40, 3) := dk_162 0 40 (dk_at dksX3_wholeShare_0 13 rfl rfl)
theorem dX3_wholeShare_16 : decode cX3_wholeShare 16 = .ok (.iload_n 1, 1) := dk_27 (dk_at dksX3_wholeShare_0 16 rfl rfl)
theorem dX3_wholeShare_17 : decode cX3_wholeShare 17 = .ok (.aload_n 0, 1) := dk_42 (dk_at dksX3_wholeShare_0 17 rfl rfl)
theorem dX3_wholeShare_18 : decode cX3_wholeShare 18 = .ok (.iload_n 3, 1) := dk_29 (dk_at dksX3_wholeShare_0 18 rfl rfl)
theorem dX3_wholeShare_19 : decode cX3_wholeShare 19 = .ok (.invokevirtual 96, 3) := dk_182 0 96 (dk_at dksX3_wholeShare_0 19 rfl rfl)
theorem dX3_wholeShare_22 : decode cX3_wholeShare 22 = .ok (.ifCond .eq 7, 3) := dk_153 0 7 (dk_at dksX3_wholeShare_1 0 rfl rfl)
theorem dX3_wholeShare_25 : decode cX3_wholeShare 25 = .ok (.iconst 1, 1) := dk_4 (dk_at dksX3_wholeShare_1 3 rfl rfl)
theorem dX3_wholeShare_26 : decode cX3_wholeShare 26 = .ok (.goto 4, 3) := dk_167 0 4 (dk_at dksX3_wholeShare_1 4 rfl rfl)
theorem dX3_wholeShare_29 : decode cX3_wholeShare 29 = .ok (.iconst 0, 1) := dk_3 (dk_at dksX3_wholeShare_1 7 rfl rfl)
theorem dX3_wholeShare_30 : decode cX3_wholeShare 30 = .ok (.iadd, 1) := dk_96 (dk_at dksX3_wholeShare_1 8 rfl rfl)
theorem dX3_wholeShare_31 : decode cX3_wholeShare 31 = .ok (.istore_n 1, 1) := dk_60 (dk_at dksX3_wholeShare_1 9 rfl rfl)
theorem dX3_wholeShare_32 : decode cX3_wholeShare 32 = .ok (.iload_n 2, 1) := dk_28 (dk_at dksX3_wholeShare_1 10 rfl rfl)
theorem dX3_wholeShare_33 : decode cX3_wholeShare 33 = .ok (.aload_n 0, 1) := dk_42 (dk_at dksX3_wholeShare_1 11 rfl rfl)
theorem dX3_wholeShare_34 : decode cX3_wholeShare 34 = .ok (.getfield 9, 3) := dk_180 0 9 (dk_at dksX3_wholeShare_1 12 rfl rfl)
theorem dX3_wholeShare_37 : decode cX3_wholeShare 37 = .ok (.iload_n 3, 1) := dk_29 (dk_at dksX3_wholeShare_1 15 rfl rfl)
theorem dX3_wholeShare_38 : decode cX3_wholeShare 38 = .ok (.invokestatic 72, 3) := dk_184 0 72 (dk_at dksX3_wholeShare_1 16 rfl rfl)
theorem dX3_wholeShare_41 : decode cX3_wholeShare 41 = .ok (.bipush 12, 2) := dk_16 12 (dk_at dksX3_wholeShare_1 19 rfl rfl)
theorem dX3_wholeShare_43 : decode cX3_wholeShare 43 = .ok (.iadd, 1) := dk_96 (dk_at dksX3_wholeShare_1 21 rfl rfl)
theorem dX3_wholeShare_44 : decode cX3_wholeShare 44 = .ok (.iaload, 1) := dk_46 (dk_at dksX3_wholeShare_1 22 rfl rfl)
theorem dX3_wholeShare_45 : decode cX3_wholeShare 45 = .ok (.iadd, 1) := dk_96 (dk_at dksX3_wholeShare_1 23 rfl rfl)
theorem dX3_wholeShare_46 : decode cX3_wholeShare 46 = .ok (.istore_n 2, 1) := dk_61 (dk_at dksX3_wholeShare_2 0 rfl rfl)
theorem dX3_wholeShare_47 : decode cX3_wholeShare 47 = .ok (.iinc 3 1, 3) := dk_132 3 1 (dk_at dksX3_wholeShare_2 1 rfl rfl)
theorem dX3_wholeShare_50 : decode cX3_wholeShare 50 = .ok (.goto (-44), 3) := dk_167 255 212 (dk_at dksX3_wholeShare_2 4 rfl rfl)
theorem dX3_wholeShare_53 : decode cX3_wholeShare 53 = .ok (.iload_n 2, 1) := dk_28 (dk_at dksX3_wholeShare_2 7 rfl rfl)
theorem dX3_wholeShare_54 : decode cX3_wholeShare 54 = .ok (.ifCond .ne 7, 3) := dk_154 0 7 (dk_at dksX3_wholeShare_2 8 rfl rfl)
theorem dX3_wholeShare_57 : decode cX3_wholeShare 57 = .ok (.fconst 0, 1) := dk_11 (dk_at dksX3_wholeShare_2 11 rfl rfl)
theorem dX3_wholeShare_58 : decode cX3_wholeShare 58 = .ok (.goto 8, 3) := dk_167 0 8 (dk_at dksX3_wholeShare_2 12 rfl rfl)
theorem dX3_wholeShare_61 : decode cX3_wholeShare 61 = .ok (.iload_n 1, 1) := dk_27 (dk_at dksX3_wholeShare_2 15 rfl rfl)
theorem dX3_wholeShare_62 : decode cX3_wholeShare 62 = .ok (.i2f, 1) := dk_134 (dk_at dksX3_wholeShare_2 16 rfl rfl)
theorem dX3_wholeShare_63 : decode cX3_wholeShare 63 = .ok (.iload_n 2, 1) := dk_28 (dk_at dksX3_wholeShare_2 17 rfl rfl)
theorem dX3_wholeShare_64 : decode cX3_wholeShare 64 = .ok (.i2f, 1) := dk_134 (dk_at dksX3_wholeShare_2 18 rfl rfl)
theorem dX3_wholeShare_65 : decode cX3_wholeShare 65 = .ok (.fdiv, 1) := dk_110 (dk_at dksX3_wholeShare_2 19 rfl rfl)
theorem dX3_wholeShare_66 : decode cX3_wholeShare 66 = .ok (.freturn, 1) := dk_174 (dk_at dksX3_wholeShare_2 20 rfl rfl)
abbrev cX3_account : ByteArray := prog_32_method_67_code
def yX3_account : MethodName := ⟨RX3, "account", "(I)I"⟩
def dkwX3_account_4 : List UInt8 := [42, 182, 0, 197, 172, 42, 182, 0, 82, 172, 42, 180, 0, 200, 172, 42, 180, 0, 44, 172, 16, 254, 172]
abbrev dktX3_account_4 : List UInt8 := dkwX3_account_4 ++ []
def dkwX3_account_3 : List UInt8 := [42, 180, 0, 9, 27, 46, 172, 42, 182, 0, 191, 172, 42, 180, 0, 9, 6, 46, 172, 42, 182, 0, 194, 172]
abbrev dktX3_account_3 : List UInt8 := dkwX3_account_3 ++ dktX3_account_4
def dkwX3_account_2 : List UInt8 := [170, 0, 0, 0, 0, 130, 0, 0, 0, 0, 0, 0, 0, 17, 0, 0, 0, 86, 0, 0, 0, 86, 0, 0, 0, 86, 0, 0, 0, 130, 0, 0, 0, 130, 0, 0, 0, 130, 0, 0, 0, 130, 0, 0, 0, 130, 0, 0, 0, 130, 0, 0, 0, 130, 0, 0, 0, 130, 0, 0, 0, 93, 0, 0, 0, 98, 0, 0, 0, 105, 0, 0, 0, 110, 0, 0, 0, 115, 0, 0, 0, 120, 0, 0, 0, 125]
abbrev dktX3_account_2 : List UInt8 := dkwX3_account_2 ++ dktX3_account_3
def dkwX3_account_1 : List UInt8 := [184, 0, 51, 153, 0, 15, 42, 180, 0, 9, 7, 27, 96, 16, 18, 100, 46, 172, 27]
abbrev dktX3_account_1 : List UInt8 := dkwX3_account_1 ++ dktX3_account_2
def dkwX3_account_0 : List UInt8 := [27, 6, 16, 10, 184, 0, 51, 153, 0, 11, 42, 27, 6, 100, 182, 0, 178, 172, 27, 16, 18, 16, 23]
abbrev dktX3_account_0 : List UInt8 := dkwX3_account_0 ++ dktX3_account_1
theorem dksX3_account_0 : cX3_account.data.toList.drop 0 = dktX3_account_0 := by decide +kernel
theorem dksX3_account_1 : cX3_account.data.toList.drop 23 = dktX3_account_1 := dk_seg dksX3_account_0 23 rfl rfl
theorem dksX3_account_2 : cX3_account.data.toList.drop 42 = dktX3_account_2 := dk_seg dksX3_account_1 19 rfl rfl
theorem dksX3_account_3 : cX3_account.data.toList.drop 128 = dktX3_account_3 := dk_seg dksX3_account_2 86 rfl rfl
theorem dksX3_account_4 : cX3_account.data.toList.drop 152 = dktX3_account_4 := dk_seg dksX3_account_3 24 rfl rfl
theorem dX3_account_0 : decode cX3_account 0 = .ok (.iload_n 1, 1) := dk_27 (dk_at dksX3_account_0 0 rfl rfl)
theorem dX3_account_1 : decode cX3_account 1 = .ok (.iconst 3, 1) := dk_6 (dk_at dksX3_account_0 1 rfl rfl)
theorem dX3_account_2 : decode cX3_account 2 = .ok (.bipush 10, 2) := dk_16 10 (dk_at dksX3_account_0 2 rfl rfl)
theorem dX3_account_4 : decode cX3_account 4 = .ok (.invokestatic 51, 3) := dk_184 0 51 (dk_at dksX3_account_0 4 rfl rfl)
theorem dX3_account_7 : decode cX3_account 7 = .ok (.ifCond .eq 11, 3) := dk_153 0 11 (dk_at dksX3_account_0 7 rfl rfl)
theorem dX3_account_10 : decode cX3_account 10 = .ok (.aload_n 0, 1) := dk_42 (dk_at dksX3_account_0 10 rfl rfl)
theorem dX3_account_11 : decode cX3_account 11 = .ok (.iload_n 1, 1) := dk_27 (dk_at dksX3_account_0 11 rfl rfl)
theorem dX3_account_12 : decode cX3_account 12 = .ok (.iconst 3, 1) := dk_6 (dk_at dksX3_account_0 12 rfl rfl)
theorem dX3_account_13 : decode cX3_account 13 = .ok (.isub, 1) := dk_100 (dk_at dksX3_account_0 13 rfl rfl)
theorem dX3_account_14 : decode cX3_account 14 = .ok (.invokevirtual 178, 3) := dk_182 0 178 (dk_at dksX3_account_0 14 rfl rfl)
theorem dX3_account_17 : decode cX3_account 17 = .ok (.ireturn, 1) := dk_172 (dk_at dksX3_account_0 17 rfl rfl)
theorem dX3_account_18 : decode cX3_account 18 = .ok (.iload_n 1, 1) := dk_27 (dk_at dksX3_account_0 18 rfl rfl)
theorem dX3_account_19 : decode cX3_account 19 = .ok (.bipush 18, 2) := dk_16 18 (dk_at dksX3_account_0 19 rfl rfl)
theorem dX3_account_21 : decode cX3_account 21 = .ok (.bipush 23, 2) := dk_16 23 (dk_at dksX3_account_0 21 rfl rfl)
theorem dX3_account_23 : decode cX3_account 23 = .ok (.invokestatic 51, 3) := dk_184 0 51 (dk_at dksX3_account_1 0 rfl rfl)
theorem dX3_account_26 : decode cX3_account 26 = .ok (.ifCond .eq 15, 3) := dk_153 0 15 (dk_at dksX3_account_1 3 rfl rfl)
theorem dX3_account_29 : decode cX3_account 29 = .ok (.aload_n 0, 1) := dk_42 (dk_at dksX3_account_1 6 rfl rfl)
theorem dX3_account_30 : decode cX3_account 30 = .ok (.getfield 9, 3) := dk_180 0 9 (dk_at dksX3_account_1 7 rfl rfl)
theorem dX3_account_33 : decode cX3_account 33 = .ok (.iconst 4, 1) := dk_7 (dk_at dksX3_account_1 10 rfl rfl)
theorem dX3_account_34 : decode cX3_account 34 = .ok (.iload_n 1, 1) := dk_27 (dk_at dksX3_account_1 11 rfl rfl)
theorem dX3_account_35 : decode cX3_account 35 = .ok (.iadd, 1) := dk_96 (dk_at dksX3_account_1 12 rfl rfl)
theorem dX3_account_36 : decode cX3_account 36 = .ok (.bipush 18, 2) := dk_16 18 (dk_at dksX3_account_1 13 rfl rfl)
theorem dX3_account_38 : decode cX3_account 38 = .ok (.isub, 1) := dk_100 (dk_at dksX3_account_1 15 rfl rfl)
theorem dX3_account_39 : decode cX3_account 39 = .ok (.iaload, 1) := dk_46 (dk_at dksX3_account_1 16 rfl rfl)
theorem dX3_account_40 : decode cX3_account 40 = .ok (.ireturn, 1) := dk_172 (dk_at dksX3_account_1 17 rfl rfl)
theorem dX3_account_41 : decode cX3_account 41 = .ok (.iload_n 1, 1) := dk_27 (dk_at dksX3_account_1 18 rfl rfl)
theorem dX3_account_42 : decode cX3_account 42 = .ok (.tableswitch 130 0 17 #[86, 86, 86, 130, 130, 130, 130, 130, 130, 130, 130, 93, 98, 105, 110, 115, 120, 125], 86) := by decide +kernel
theorem dX3_account_128 : decode cX3_account 128 = .ok (.aload_n 0, 1) := dk_42 (dk_at dksX3_account_3 0 rfl rfl)
theorem dX3_account_129 : decode cX3_account 129 = .ok (.getfield 9, 3) := dk_180 0 9 (dk_at dksX3_account_3 1 rfl rfl)
theorem dX3_account_132 : decode cX3_account 132 = .ok (.iload_n 1, 1) := dk_27 (dk_at dksX3_account_3 4 rfl rfl)
theorem dX3_account_133 : decode cX3_account 133 = .ok (.iaload, 1) := dk_46 (dk_at dksX3_account_3 5 rfl rfl)
theorem dX3_account_134 : decode cX3_account 134 = .ok (.ireturn, 1) := dk_172 (dk_at dksX3_account_3 6 rfl rfl)
theorem dX3_account_135 : decode cX3_account 135 = .ok (.aload_n 0, 1) := dk_42 (dk_at dksX3_account_3 7 rfl rfl)
theorem dX3_account_136 : decode cX3_account 136 = .ok (.invokevirtual 191, 3) := dk_182 0 191 (dk_at dksX3_account_3 8 rfl rfl)
theorem dX3_account_139 : decode cX3_account 139 = .ok (.ireturn, 1) := dk_172 (dk_at dksX3_account_3 11 rfl rfl)
theorem dX3_account_140 : decode cX3_account 140 = .ok (.aload_n 0, 1) := dk_42 (dk_at dksX3_account_3 12 rfl rfl)
theorem dX3_account_141 : decode cX3_account 141 = .ok (.getfield 9, 3) := dk_180 0 9 (dk_at dksX3_account_3 13 rfl rfl)
theorem dX3_account_144 : decode cX3_account 144 = .ok (.iconst 3, 1) := dk_6 (dk_at dksX3_account_3 16 rfl rfl)
theorem dX3_account_145 : decode cX3_account 145 = .ok (.iaload, 1) := dk_46 (dk_at dksX3_account_3 17 rfl rfl)
theorem dX3_account_146 : decode cX3_account 146 = .ok (.ireturn, 1) := dk_172 (dk_at dksX3_account_3 18 rfl rfl)
theorem dX3_account_147 : decode cX3_account 147 = .ok (.aload_n 0, 1) := dk_42 (dk_at dksX3_account_3 19 rfl rfl)
theorem dX3_account_148 : decode cX3_account 148 = .ok (.invokevirtual 194, 3) := dk_182 0 194 (dk_at dksX3_account_3 20 rfl rfl)
theorem dX3_account_151 : decode cX3_account 151 = .ok (.ireturn, 1) := dk_172 (dk_at dksX3_account_3 23 rfl rfl)
theorem dX3_account_152 : decode cX3_account 152 = .ok (.aload_n 0, 1) := dk_42 (dk_at dksX3_account_4 0 rfl rfl)
theorem dX3_account_153 : decode cX3_account 153 = .ok (.invokevirtual 197, 3) := dk_182 0 197 (dk_at dksX3_account_4 1 rfl rfl)
theorem dX3_account_156 : decode cX3_account 156 = .ok (.ireturn, 1) := dk_172 (dk_at dksX3_account_4 4 rfl rfl)
theorem dX3_account_157 : decode cX3_account 157 = .ok (.aload_n 0, 1) := dk_42 (dk_at dksX3_account_4 5 rfl rfl)
theorem dX3_account_158 : decode cX3_account 158 = .ok (.invokevirtual 82, 3) := dk_182 0 82 (dk_at dksX3_account_4 6 rfl rfl)
theorem dX3_account_161 : decode cX3_account 161 = .ok (.ireturn, 1) := dk_172 (dk_at dksX3_account_4 9 rfl rfl)
theorem dX3_account_162 : decode cX3_account 162 = .ok (.aload_n 0, 1) := dk_42 (dk_at dksX3_account_4 10 rfl rfl)
theorem dX3_account_163 : decode cX3_account 163 = .ok (.getfield 200, 3) := dk_180 0 200 (dk_at dksX3_account_4 11 rfl rfl)
theorem dX3_account_166 : decode cX3_account 166 = .ok (.ireturn, 1) := dk_172 (dk_at dksX3_account_4 14 rfl rfl)
theorem dX3_account_167 : decode cX3_account 167 = .ok (.aload_n 0, 1) := dk_42 (dk_at dksX3_account_4 15 rfl rfl)
theorem dX3_account_168 : decode cX3_account 168 = .ok (.getfield 44, 3) := dk_180 0 44 (dk_at dksX3_account_4 16 rfl rfl)
theorem dX3_account_171 : decode cX3_account 171 = .ok (.ireturn, 1) := dk_172 (dk_at dksX3_account_4 19 rfl rfl)
theorem dX3_account_172 : decode cX3_account 172 = .ok (.bipush (-2), 2) := dk_16 254 (dk_at dksX3_account_4 20 rfl rfl)
theorem dX3_account_174 : decode cX3_account 174 = .ok (.ireturn, 1) := dk_172 (dk_at dksX3_account_4 22 rfl rfl)
abbrev cX3_allCracks : ByteArray := prog_32_method_64_code
def yX3_allCracks : MethodName := ⟨RX3, "allCracks", "()I"⟩
def dkwX3_allCracks_1 : List UInt8 := [96, 46, 96, 60, 132, 2, 1, 167, 255, 229, 27, 172]
abbrev dktX3_allCracks_1 : List UInt8 := dkwX3_allCracks_1 ++ []
def dkwX3_allCracks_0 : List UInt8 := [3, 60, 3, 61, 28, 42, 180, 0, 9, 5, 46, 162, 0, 23, 27, 42, 180, 0, 9, 28, 184, 0, 72, 7]
abbrev dktX3_allCracks_0 : List UInt8 := dkwX3_allCracks_0 ++ dktX3_allCracks_1
theorem dksX3_allCracks_0 : cX3_allCracks.data.toList.drop 0 = dktX3_allCracks_0 := by decide +kernel
theorem dksX3_allCracks_1 : cX3_allCracks.data.toList.drop 24 = dktX3_allCracks_1 := dk_seg dksX3_allCracks_0 24 rfl rfl
theorem dX3_allCracks_0 : decode cX3_allCracks 0 = .ok (.iconst 0, 1) := dk_3 (dk_at dksX3_allCracks_0 0 rfl rfl)
theorem dX3_allCracks_1 : decode cX3_allCracks 1 = .ok (.istore_n 1, 1) := dk_60 (dk_at dksX3_allCracks_0 1 rfl rfl)
theorem dX3_allCracks_2 : decode cX3_allCracks 2 = .ok (.iconst 0, 1) := dk_3 (dk_at dksX3_allCracks_0 2 rfl rfl)
theorem dX3_allCracks_3 : decode cX3_allCracks 3 = .ok (.istore_n 2, 1) := dk_61 (dk_at dksX3_allCracks_0 3 rfl rfl)
theorem dX3_allCracks_4 : decode cX3_allCracks 4 = .ok (.iload_n 2, 1) := dk_28 (dk_at dksX3_allCracks_0 4 rfl rfl)
theorem dX3_allCracks_5 : decode cX3_allCracks 5 = .ok (.aload_n 0, 1) := dk_42 (dk_at dksX3_allCracks_0 5 rfl rfl)
theorem dX3_allCracks_6 : decode cX3_allCracks 6 = .ok (.getfield 9, 3) := dk_180 0 9 (dk_at dksX3_allCracks_0 6 rfl rfl)
theorem dX3_allCracks_9 : decode cX3_allCracks 9 = .ok (.iconst 2, 1) := dk_5 (dk_at dksX3_allCracks_0 9 rfl rfl)
theorem dX3_allCracks_10 : decode cX3_allCracks 10 = .ok (.iaload, 1) := dk_46 (dk_at dksX3_allCracks_0 10 rfl rfl)
theorem dX3_allCracks_11 : decode cX3_allCracks 11 = .ok (.if_icmp .ge 23, 3) := dk_162 0 23 (dk_at dksX3_allCracks_0 11 rfl rfl)
theorem dX3_allCracks_14 : decode cX3_allCracks 14 = .ok (.iload_n 1, 1) := dk_27 (dk_at dksX3_allCracks_0 14 rfl rfl)
theorem dX3_allCracks_15 : decode cX3_allCracks 15 = .ok (.aload_n 0, 1) := dk_42 (dk_at dksX3_allCracks_0 15 rfl rfl)
theorem dX3_allCracks_16 : decode cX3_allCracks 16 = .ok (.getfield 9, 3) := dk_180 0 9 (dk_at dksX3_allCracks_0 16 rfl rfl)
theorem dX3_allCracks_19 : decode cX3_allCracks 19 = .ok (.iload_n 2, 1) := dk_28 (dk_at dksX3_allCracks_0 19 rfl rfl)
theorem dX3_allCracks_20 : decode cX3_allCracks 20 = .ok (.invokestatic 72, 3) := dk_184 0 72 (dk_at dksX3_allCracks_0 20 rfl rfl)
theorem dX3_allCracks_23 : decode cX3_allCracks 23 = .ok (.iconst 4, 1) := dk_7 (dk_at dksX3_allCracks_0 23 rfl rfl)
theorem dX3_allCracks_24 : decode cX3_allCracks 24 = .ok (.iadd, 1) := dk_96 (dk_at dksX3_allCracks_1 0 rfl rfl)
theorem dX3_allCracks_25 : decode cX3_allCracks 25 = .ok (.iaload, 1) := dk_46 (dk_at dksX3_allCracks_1 1 rfl rfl)
theorem dX3_allCracks_26 : decode cX3_allCracks 26 = .ok (.iadd, 1) := dk_96 (dk_at dksX3_allCracks_1 2 rfl rfl)
theorem dX3_allCracks_27 : decode cX3_allCracks 27 = .ok (.istore_n 1, 1) := dk_60 (dk_at dksX3_allCracks_1 3 rfl rfl)
theorem dX3_allCracks_28 : decode cX3_allCracks 28 = .ok (.iinc 2 1, 3) := dk_132 2 1 (dk_at dksX3_allCracks_1 4 rfl rfl)
theorem dX3_allCracks_31 : decode cX3_allCracks 31 = .ok (.goto (-27), 3) := dk_167 255 229 (dk_at dksX3_allCracks_1 7 rfl rfl)
theorem dX3_allCracks_34 : decode cX3_allCracks 34 = .ok (.iload_n 1, 1) := dk_27 (dk_at dksX3_allCracks_1 10 rfl rfl)
theorem dX3_allCracks_35 : decode cX3_allCracks 35 = .ok (.ireturn, 1) := dk_172 (dk_at dksX3_allCracks_1 11 rfl rfl)
abbrev cX3_goodOrders : ByteArray := prog_32_method_65_code
def yX3_goodOrders : MethodName := ⟨RX3, "goodOrders", "()I"⟩
def dkwX3_goodOrders_1 : List UInt8 := [167, 0, 4, 3, 96, 60, 132, 2, 1, 167, 255, 227, 27, 172]
abbrev dktX3_goodOrders_1 : List UInt8 := dkwX3_goodOrders_1 ++ []
def dkwX3_goodOrders_0 : List UInt8 := [3, 60, 3, 61, 28, 42, 180, 0, 9, 6, 46, 162, 0, 25, 27, 42, 28, 182, 0, 130, 153, 0, 7, 4]
abbrev dktX3_goodOrders_0 : List UInt8 := dkwX3_goodOrders_0 ++ dktX3_goodOrders_1
theorem dksX3_goodOrders_0 : cX3_goodOrders.data.toList.drop 0 = dktX3_goodOrders_0 := by decide +kernel
theorem dksX3_goodOrders_1 : cX3_goodOrders.data.toList.drop 24 = dktX3_goodOrders_1 := dk_seg dksX3_goodOrders_0 24 rfl rfl
theorem dX3_goodOrders_0 : decode cX3_goodOrders 0 = .ok (.iconst 0, 1) := dk_3 (dk_at dksX3_goodOrders_0 0 rfl rfl)
theorem dX3_goodOrders_1 : decode cX3_goodOrders 1 = .ok (.istore_n 1, 1) := dk_60 (dk_at dksX3_goodOrders_0 1 rfl rfl)
theorem dX3_goodOrders_2 : decode cX3_goodOrders 2 = .ok (.iconst 0, 1) := dk_3 (dk_at dksX3_goodOrders_0 2 rfl rfl)
theorem dX3_goodOrders_3 : decode cX3_goodOrders 3 = .ok (.istore_n 2, 1) := dk_61 (dk_at dksX3_goodOrders_0 3 rfl rfl)
theorem dX3_goodOrders_4 : decode cX3_goodOrders 4 = .ok (.iload_n 2, 1) := dk_28 (dk_at dksX3_goodOrders_0 4 rfl rfl)
theorem dX3_goodOrders_5 : decode cX3_goodOrders 5 = .ok (.aload_n 0, 1) := dk_42 (dk_at dksX3_goodOrders_0 5 rfl rfl)
theorem dX3_goodOrders_6 : decode cX3_goodOrders 6 = .ok (.getfield 9, 3) := dk_180 0 9 (dk_at dksX3_goodOrders_0 6 rfl rfl)
theorem dX3_goodOrders_9 : decode cX3_goodOrders 9 = .ok (.iconst 3, 1) := dk_6 (dk_at dksX3_goodOrders_0 9 rfl rfl)
theorem dX3_goodOrders_10 : decode cX3_goodOrders 10 = .ok (.iaload, 1) := dk_46 (dk_at dksX3_goodOrders_0 10 rfl rfl)
theorem dX3_goodOrders_11 : decode cX3_goodOrders 11 = .ok (.if_icmp .ge 25, 3) := dk_162 0 25 (dk_at dksX3_goodOrders_0 11 rfl rfl)
theorem dX3_goodOrders_14 : decode cX3_goodOrders 14 = .ok (.iload_n 1, 1) := dk_27 (dk_at dksX3_goodOrders_0 14 rfl rfl)
theorem dX3_goodOrders_15 : decode cX3_goodOrders 15 = .ok (.aload_n 0, 1) := dk_42 (dk_at dksX3_goodOrders_0 15 rfl rfl)
theorem dX3_goodOrders_16 : decode cX3_goodOrders 16 = .ok (.iload_n 2, 1) := dk_28 (dk_at dksX3_goodOrders_0 16 rfl rfl)
theorem dX3_goodOrders_17 : decode cX3_goodOrders 17 = .ok (.invokevirtual 130, 3) := dk_182 0 130 (dk_at dksX3_goodOrders_0 17 rfl rfl)
theorem dX3_goodOrders_20 : decode cX3_goodOrders 20 = .ok (.ifCond .eq 7, 3) := dk_153 0 7 (dk_at dksX3_goodOrders_0 20 rfl rfl)
theorem dX3_goodOrders_23 : decode cX3_goodOrders 23 = .ok (.iconst 1, 1) := dk_4 (dk_at dksX3_goodOrders_0 23 rfl rfl)
theorem dX3_goodOrders_24 : decode cX3_goodOrders 24 = .ok (.goto 4, 3) := dk_167 0 4 (dk_at dksX3_goodOrders_1 0 rfl rfl)
theorem dX3_goodOrders_27 : decode cX3_goodOrders 27 = .ok (.iconst 0, 1) := dk_3 (dk_at dksX3_goodOrders_1 3 rfl rfl)
theorem dX3_goodOrders_28 : decode cX3_goodOrders 28 = .ok (.iadd, 1) := dk_96 (dk_at dksX3_goodOrders_1 4 rfl rfl)
theorem dX3_goodOrders_29 : decode cX3_goodOrders 29 = .ok (.istore_n 1, 1) := dk_60 (dk_at dksX3_goodOrders_1 5 rfl rfl)
theorem dX3_goodOrders_30 : decode cX3_goodOrders 30 = .ok (.iinc 2 1, 3) := dk_132 2 1 (dk_at dksX3_goodOrders_1 6 rfl rfl)
theorem dX3_goodOrders_33 : decode cX3_goodOrders 33 = .ok (.goto (-29), 3) := dk_167 255 227 (dk_at dksX3_goodOrders_1 9 rfl rfl)
theorem dX3_goodOrders_36 : decode cX3_goodOrders 36 = .ok (.iload_n 1, 1) := dk_27 (dk_at dksX3_goodOrders_1 12 rfl rfl)
theorem dX3_goodOrders_37 : decode cX3_goodOrders 37 = .ok (.ireturn, 1) := dk_172 (dk_at dksX3_goodOrders_1 13 rfl rfl)
abbrev cX3_prices : ByteArray := prog_32_method_66_code
def yX3_prices : MethodName := ⟨RX3, "prices", "()I"⟩
def dkwX3_prices_2 : List UInt8 := [16, 10, 96, 46, 104, 96, 7, 96, 46, 167, 0, 4, 3, 96, 60, 132, 2, 1, 167, 255, 194, 27, 172]
abbrev dktX3_prices_2 : List UInt8 := dkwX3_prices_2 ++ []
def dkwX3_prices_1 : List UInt8 := [96, 46, 16, 6, 160, 0, 32, 42, 180, 0, 9, 17, 1, 2, 16, 6, 42, 180, 0, 9, 28, 184, 0, 72]
abbrev dktX3_prices_1 : List UInt8 := dkwX3_prices_1 ++ dktX3_prices_2
def dkwX3_prices_0 : List UInt8 := [3, 60, 3, 61, 28, 42, 180, 0, 9, 5, 46, 162, 0, 58, 27, 42, 180, 0, 9, 28, 184, 0, 72, 3]
abbrev dktX3_prices_0 : List UInt8 := dkwX3_prices_0 ++ dktX3_prices_1
theorem dksX3_prices_0 : cX3_prices.data.toList.drop 0 = dktX3_prices_0 := by decide +kernel
theorem dksX3_prices_1 : cX3_prices.data.toList.drop 24 = dktX3_prices_1 := dk_seg dksX3_prices_0 24 rfl rfl
theorem dksX3_prices_2 : cX3_prices.data.toList.drop 48 = dktX3_prices_2 := dk_seg dksX3_prices_1 24 rfl rfl
theorem dX3_prices_0 : decode cX3_prices 0 = .ok (.iconst 0, 1) := dk_3 (dk_at dksX3_prices_0 0 rfl rfl)
theorem dX3_prices_1 : decode cX3_prices 1 = .ok (.istore_n 1, 1) := dk_60 (dk_at dksX3_prices_0 1 rfl rfl)
theorem dX3_prices_2 : decode cX3_prices 2 = .ok (.iconst 0, 1) := dk_3 (dk_at dksX3_prices_0 2 rfl rfl)
theorem dX3_prices_3 : decode cX3_prices 3 = .ok (.istore_n 2, 1) := dk_61 (dk_at dksX3_prices_0 3 rfl rfl)
theorem dX3_prices_4 : decode cX3_prices 4 = .ok (.iload_n 2, 1) := dk_28 (dk_at dksX3_prices_0 4 rfl rfl)
theorem dX3_prices_5 : decode cX3_prices 5 = .ok (.aload_n 0, 1) := dk_42 (dk_at dksX3_prices_0 5 rfl rfl)
theorem dX3_prices_6 : decode cX3_prices 6 = .ok (.getfield 9, 3) := dk_180 0 9 (dk_at dksX3_prices_0 6 rfl rfl)
theorem dX3_prices_9 : decode cX3_prices 9 = .ok (.iconst 2, 1) := dk_5 (dk_at dksX3_prices_0 9 rfl rfl)
theorem dX3_prices_10 : decode cX3_prices 10 = .ok (.iaload, 1) := dk_46 (dk_at dksX3_prices_0 10 rfl rfl)
theorem dX3_prices_11 : decode cX3_prices 11 = .ok (.if_icmp .ge 58, 3) := dk_162 0 58 (dk_at dksX3_prices_0 11 rfl rfl)
theorem dX3_prices_14 : decode cX3_prices 14 = .ok (.iload_n 1, 1) := dk_27 (dk_at dksX3_prices_0 14 rfl rfl)
theorem dX3_prices_15 : decode cX3_prices 15 = .ok (.aload_n 0, 1) := dk_42 (dk_at dksX3_prices_0 15 rfl rfl)
theorem dX3_prices_16 : decode cX3_prices 16 = .ok (.getfield 9, 3) := dk_180 0 9 (dk_at dksX3_prices_0 16 rfl rfl)
theorem dX3_prices_19 : decode cX3_prices 19 = .ok (.iload_n 2, 1) := dk_28 (dk_at dksX3_prices_0 19 rfl rfl)
theorem dX3_prices_20 : decode cX3_prices 20 = .ok (.invokestatic 72, 3) := dk_184 0 72 (dk_at dksX3_prices_0 20 rfl rfl)
theorem dX3_prices_23 : decode cX3_prices 23 = .ok (.iconst 0, 1) := dk_3 (dk_at dksX3_prices_0 23 rfl rfl)
theorem dX3_prices_24 : decode cX3_prices 24 = .ok (.iadd, 1) := dk_96 (dk_at dksX3_prices_1 0 rfl rfl)
theorem dX3_prices_25 : decode cX3_prices 25 = .ok (.iaload, 1) := dk_46 (dk_at dksX3_prices_1 1 rfl rfl)
theorem dX3_prices_26 : decode cX3_prices 26 = .ok (.bipush 6, 2) := dk_16 6 (dk_at dksX3_prices_1 2 rfl rfl)
theorem dX3_prices_28 : decode cX3_prices 28 = .ok (.if_icmp .ne 32, 3) := dk_160 0 32 (dk_at dksX3_prices_1 4 rfl rfl)
theorem dX3_prices_31 : decode cX3_prices 31 = .ok (.aload_n 0, 1) := dk_42 (dk_at dksX3_prices_1 7 rfl rfl)
theorem dX3_prices_32 : decode cX3_prices 32 = .ok (.getfield 9, 3) := dk_180 0 9 (dk_at dksX3_prices_1 8 rfl rfl)
theorem dX3_prices_35 : decode cX3_prices 35 = .ok (.sipush 258, 3) := dk_17 1 2 (dk_at dksX3_prices_1 11 rfl rfl)
theorem dX3_prices_38 : decode cX3_prices 38 = .ok (.bipush 6, 2) := dk_16 6 (dk_at dksX3_prices_1 14 rfl rfl)
theorem dX3_prices_40 : decode cX3_prices 40 = .ok (.aload_n 0, 1) := dk_42 (dk_at dksX3_prices_1 16 rfl rfl)
theorem dX3_prices_41 : decode cX3_prices 41 = .ok (.getfield 9, 3) := dk_180 0 9 (dk_at dksX3_prices_1 17 rfl rfl)
theorem dX3_prices_44 : decode cX3_prices 44 = .ok (.iload_n 2, 1) := dk_28 (dk_at dksX3_prices_1 20 rfl rfl)
theorem dX3_prices_45 : decode cX3_prices 45 = .ok (.invokestatic 72, 3) := dk_184 0 72 (dk_at dksX3_prices_1 21 rfl rfl)
theorem dX3_prices_48 : decode cX3_prices 48 = .ok (.bipush 10, 2) := dk_16 10 (dk_at dksX3_prices_2 0 rfl rfl)
theorem dX3_prices_50 : decode cX3_prices 50 = .ok (.iadd, 1) := dk_96 (dk_at dksX3_prices_2 2 rfl rfl)
theorem dX3_prices_51 : decode cX3_prices 51 = .ok (.iaload, 1) := dk_46 (dk_at dksX3_prices_2 3 rfl rfl)
theorem dX3_prices_52 : decode cX3_prices 52 = .ok (.imul, 1) := dk_104 (dk_at dksX3_prices_2 4 rfl rfl)
theorem dX3_prices_53 : decode cX3_prices 53 = .ok (.iadd, 1) := dk_96 (dk_at dksX3_prices_2 5 rfl rfl)
theorem dX3_prices_54 : decode cX3_prices 54 = .ok (.iconst 4, 1) := dk_7 (dk_at dksX3_prices_2 6 rfl rfl)
theorem dX3_prices_55 : decode cX3_prices 55 = .ok (.iadd, 1) := dk_96 (dk_at dksX3_prices_2 7 rfl rfl)
theorem dX3_prices_56 : decode cX3_prices 56 = .ok (.iaload, 1) := dk_46 (dk_at dksX3_prices_2 8 rfl rfl)
theorem dX3_prices_57 : decode cX3_prices 57 = .ok (.goto 4, 3) := dk_167 0 4 (dk_at dksX3_prices_2 9 rfl rfl)
theorem dX3_prices_60 : decode cX3_prices 60 = .ok (.iconst 0, 1) := dk_3 (dk_at dksX3_prices_2 12 rfl rfl)
theorem dX3_prices_61 : decode cX3_prices 61 = .ok (.iadd, 1) := dk_96 (dk_at dksX3_prices_2 13 rfl rfl)
theorem dX3_prices_62 : decode cX3_prices 62 = .ok (.istore_n 1, 1) := dk_60 (dk_at dksX3_prices_2 14 rfl rfl)
theorem dX3_prices_63 : decode cX3_prices 63 = .ok (.iinc 2 1, 3) := dk_132 2 1 (dk_at dksX3_prices_2 15 rfl rfl)
theorem dX3_prices_66 : decode cX3_prices 66 = .ok (.goto (-62), 3) := dk_167 255 194 (dk_at dksX3_prices_2 18 rfl rfl)
theorem dX3_prices_69 : decode cX3_prices 69 = .ok (.iload_n 1, 1) := dk_27 (dk_at dksX3_prices_2 21 rfl rfl)
theorem dX3_prices_70 : decode cX3_prices 70 = .ok (.ireturn, 1) := dk_172 (dk_at dksX3_prices_2 22 rfl rfl)
abbrev cX3_append : ByteArray := prog_32_method_68_code
def yX3_append : MethodName := ⟨RX3, "append", "(C)I"⟩
def dkwX3_append_2 : List UInt8 := [180, 0, 200, 172]
abbrev dktX3_append_2 : List UInt8 := dkwX3_append_2 ++ []
def dkwX3_append_1 : List UInt8 := [16, 252, 172, 42, 180, 0, 22, 42, 180, 0, 200, 27, 79, 42, 89, 180, 0, 200, 4, 96, 181, 0, 200, 42]
abbrev dktX3_append_1 : List UInt8 := dkwX3_append_1 ++ dktX3_append_2
def dkwX3_append_0 : List UInt8 := [27, 16, 32, 16, 126, 184, 0, 51, 154, 0, 6, 16, 254, 172, 42, 180, 0, 200, 16, 60, 160, 0, 6]
abbrev dktX3_append_0 : List UInt8 := dkwX3_append_0 ++ dktX3_append_1
theorem dksX3_append_0 : cX3_append.data.toList.drop 0 = dktX3_append_0 := by decide +kernel
theorem dksX3_append_1 : cX3_append.data.toList.drop 23 = dktX3_append_1 := dk_seg dksX3_append_0 23 rfl rfl
theorem dksX3_append_2 : cX3_append.data.toList.drop 47 = dktX3_append_2 := dk_seg dksX3_append_1 24 rfl rfl
theorem dX3_append_0 : decode cX3_append 0 = .ok (.iload_n 1, 1) := dk_27 (dk_at dksX3_append_0 0 rfl rfl)
theorem dX3_append_1 : decode cX3_append 1 = .ok (.bipush 32, 2) := dk_16 32 (dk_at dksX3_append_0 1 rfl rfl)
theorem dX3_append_3 : decode cX3_append 3 = .ok (.bipush 126, 2) := dk_16 126 (dk_at dksX3_append_0 3 rfl rfl)
theorem dX3_append_5 : decode cX3_append 5 = .ok (.invokestatic 51, 3) := dk_184 0 51 (dk_at dksX3_append_0 5 rfl rfl)
theorem dX3_append_8 : decode cX3_append 8 = .ok (.ifCond .ne 6, 3) := dk_154 0 6 (dk_at dksX3_append_0 8 rfl rfl)
theorem dX3_append_11 : decode cX3_append 11 = .ok (.bipush (-2), 2) := dk_16 254 (dk_at dksX3_append_0 11 rfl rfl)
theorem dX3_append_13 : decode cX3_append 13 = .ok (.ireturn, 1) := dk_172 (dk_at dksX3_append_0 13 rfl rfl)
theorem dX3_append_14 : decode cX3_append 14 = .ok (.aload_n 0, 1) := dk_42 (dk_at dksX3_append_0 14 rfl rfl)
theorem dX3_append_15 : decode cX3_append 15 = .ok (.getfield 200, 3) := dk_180 0 200 (dk_at dksX3_append_0 15 rfl rfl)
theorem dX3_append_18 : decode cX3_append 18 = .ok (.bipush 60, 2) := dk_16 60 (dk_at dksX3_append_0 18 rfl rfl)
theorem dX3_append_20 : decode cX3_append 20 = .ok (.if_icmp .ne 6, 3) := dk_160 0 6 (dk_at dksX3_append_0 20 rfl rfl)
theorem dX3_append_23 : decode cX3_append 23 = .ok (.bipush (-4), 2) := dk_16 252 (dk_at dksX3_append_1 0 rfl rfl)
theorem dX3_append_25 : decode cX3_append 25 = .ok (.ireturn, 1) := dk_172 (dk_at dksX3_append_1 2 rfl rfl)
theorem dX3_append_26 : decode cX3_append 26 = .ok (.aload_n 0, 1) := dk_42 (dk_at dksX3_append_1 3 rfl rfl)
theorem dX3_append_27 : decode cX3_append 27 = .ok (.getfield 22, 3) := dk_180 0 22 (dk_at dksX3_append_1 4 rfl rfl)
theorem dX3_append_30 : decode cX3_append 30 = .ok (.aload_n 0, 1) := dk_42 (dk_at dksX3_append_1 7 rfl rfl)
theorem dX3_append_31 : decode cX3_append 31 = .ok (.getfield 200, 3) := dk_180 0 200 (dk_at dksX3_append_1 8 rfl rfl)
theorem dX3_append_34 : decode cX3_append 34 = .ok (.iload_n 1, 1) := dk_27 (dk_at dksX3_append_1 11 rfl rfl)
theorem dX3_append_35 : decode cX3_append 35 = .ok (.iastore, 1) := dk_79 (dk_at dksX3_append_1 12 rfl rfl)
theorem dX3_append_36 : decode cX3_append 36 = .ok (.aload_n 0, 1) := dk_42 (dk_at dksX3_append_1 13 rfl rfl)
theorem dX3_append_37 : decode cX3_append 37 = .ok (.dup, 1) := dk_89 (dk_at dksX3_append_1 14 rfl rfl)
theorem dX3_append_38 : decode cX3_append 38 = .ok (.getfield 200, 3) := dk_180 0 200 (dk_at dksX3_append_1 15 rfl rfl)
theorem dX3_append_41 : decode cX3_append 41 = .ok (.iconst 1, 1) := dk_4 (dk_at dksX3_append_1 18 rfl rfl)
theorem dX3_append_42 : decode cX3_append 42 = .ok (.iadd, 1) := dk_96 (dk_at dksX3_append_1 19 rfl rfl)
theorem dX3_append_43 : decode cX3_append 43 = .ok (.putfield 200, 3) := dk_181 0 200 (dk_at dksX3_append_1 20 rfl rfl)
theorem dX3_append_46 : decode cX3_append 46 = .ok (.aload_n 0, 1) := dk_42 (dk_at dksX3_append_1 23 rfl rfl)
theorem dX3_append_47 : decode cX3_append 47 = .ok (.getfield 200, 3) := dk_180 0 200 (dk_at dksX3_append_2 0 rfl rfl)
theorem dX3_append_50 : decode cX3_append 50 = .ok (.ireturn, 1) := dk_172 (dk_at dksX3_append_2 3 rfl rfl)
abbrev cX3_read : ByteArray := prog_32_method_77_code
def yX3_read : MethodName := ⟨RX3, "read", "()I"⟩
def dkwX3_read_5 : List UInt8 := [184, 0, 47, 42, 182, 0, 61, 42, 180, 0, 19, 3, 42, 180, 0, 9, 3, 184, 0, 47, 27, 172]
abbrev dktX3_read_5 : List UInt8 := dkwX3_read_5 ++ []
def dkwX3_read_4 : List UInt8 := [180, 0, 9, 3, 42, 180, 0, 19, 3, 184, 0, 47, 42, 180, 0, 38, 3, 42, 180, 0, 9, 3]
abbrev dktX3_read_4 : List UInt8 := dkwX3_read_4 ++ dktX3_read_5
def dkwX3_read_3 : List UInt8 := [184, 0, 47, 42, 28, 182, 0, 234, 172, 42, 7, 28, 104, 182, 0, 237, 132, 2, 1, 167, 255, 212, 42]
abbrev dktX3_read_3 : List UInt8 := dkwX3_read_3 ++ dktX3_read_4
def dkwX3_read_2 : List UInt8 := [162, 0, 45, 42, 7, 28, 104, 182, 0, 231, 153, 0, 22, 42, 180, 0, 38, 3, 42, 180, 0, 9, 3]
abbrev dktX3_read_2 : List UInt8 := dkwX3_read_2 ++ dktX3_read_3
def dkwX3_read_1 : List UInt8 := [181, 0, 25, 16, 254, 172, 42, 180, 0, 9, 3, 42, 180, 0, 38, 3, 184, 0, 47, 3, 61, 28, 27]
abbrev dktX3_read_1 : List UInt8 := dkwX3_read_1 ++ dktX3_read_2
def dkwX3_read_0 : List UInt8 := [42, 182, 0, 228, 60, 42, 3, 181, 0, 200, 42, 180, 0, 206, 153, 0, 14, 42, 42, 180, 0, 203]
abbrev dktX3_read_0 : List UInt8 := dkwX3_read_0 ++ dktX3_read_1
theorem dksX3_read_0 : cX3_read.data.toList.drop 0 = dktX3_read_0 := by decide +kernel
theorem dksX3_read_1 : cX3_read.data.toList.drop 22 = dktX3_read_1 := dk_seg dksX3_read_0 22 rfl rfl
theorem dksX3_read_2 : cX3_read.data.toList.drop 45 = dktX3_read_2 := dk_seg dksX3_read_1 23 rfl rfl
theorem dksX3_read_3 : cX3_read.data.toList.drop 68 = dktX3_read_3 := dk_seg dksX3_read_2 23 rfl rfl
theorem dksX3_read_4 : cX3_read.data.toList.drop 91 = dktX3_read_4 := dk_seg dksX3_read_3 23 rfl rfl
theorem dksX3_read_5 : cX3_read.data.toList.drop 113 = dktX3_read_5 := dk_seg dksX3_read_4 22 rfl rfl
theorem dX3_read_0 : decode cX3_read 0 = .ok (.aload_n 0, 1) := dk_42 (dk_at dksX3_read_0 0 rfl rfl)
theorem dX3_read_1 : decode cX3_read 1 = .ok (.invokevirtual 228, 3) := dk_182 0 228 (dk_at dksX3_read_0 1 rfl rfl)
theorem dX3_read_4 : decode cX3_read 4 = .ok (.istore_n 1, 1) := dk_60 (dk_at dksX3_read_0 4 rfl rfl)
theorem dX3_read_5 : decode cX3_read 5 = .ok (.aload_n 0, 1) := dk_42 (dk_at dksX3_read_0 5 rfl rfl)
theorem dX3_read_6 : decode cX3_read 6 = .ok (.iconst 0, 1) := dk_3 (dk_at dksX3_read_0 6 rfl rfl)
theorem dX3_read_7 : decode cX3_read 7 = .ok (.putfield 200, 3) := dk_181 0 200 (dk_at dksX3_read_0 7 rfl rfl)
theorem dX3_read_10 : decode cX3_read 10 = .ok (.aload_n 0, 1) := dk_42 (dk_at dksX3_read_0 10 rfl rfl)
theorem dX3_read_11 : decode cX3_read 11 = .ok (.getfield 206, 3) := dk_180 0 206 (dk_at dksX3_read_0 11 rfl rfl)
theorem dX3_read_14 : decode cX3_read 14 = .ok (.ifCond .eq 14, 3) := dk_153 0 14 (dk_at dksX3_read_0 14 rfl rfl)
theorem dX3_read_17 : decode cX3_read 17 = .ok (.aload_n 0, 1) := dk_42 (dk_at dksX3_read_0 17 rfl rfl)
theorem dX3_read_18 : decode cX3_read 18 = .ok (.aload_n 0, 1) := dk_42 (dk_at dksX3_read_0 18 rfl rfl)
theorem dX3_read_19 : decode cX3_read 19 = .ok (.getfield 203, 3) := dk_180 0 203 (dk_at dksX3_read_0 19 rfl rfl)
theorem dX3_read_22 : decode cX3_read 22 = .ok (.putfield 25, 3) := dk_181 0 25 (dk_at dksX3_read_1 0 rfl rfl)
theorem dX3_read_25 : decode cX3_read 25 = .ok (.bipush (-2), 2) := dk_16 254 (dk_at dksX3_read_1 3 rfl rfl)
theorem dX3_read_27 : decode cX3_read 27 = .ok (.ireturn, 1) := dk_172 (dk_at dksX3_read_1 5 rfl rfl)
theorem dX3_read_28 : decode cX3_read 28 = .ok (.aload_n 0, 1) := dk_42 (dk_at dksX3_read_1 6 rfl rfl)
theorem dX3_read_29 : decode cX3_read 29 = .ok (.getfield 9, 3) := dk_180 0 9 (dk_at dksX3_read_1 7 rfl rfl)
theorem dX3_read_32 : decode cX3_read 32 = .ok (.iconst 0, 1) := dk_3 (dk_at dksX3_read_1 10 rfl rfl)
theorem dX3_read_33 : decode cX3_read 33 = .ok (.aload_n 0, 1) := dk_42 (dk_at dksX3_read_1 11 rfl rfl)
theorem dX3_read_34 : decode cX3_read 34 = .ok (.getfield 38, 3) := dk_180 0 38 (dk_at dksX3_read_1 12 rfl rfl)
theorem dX3_read_37 : decode cX3_read 37 = .ok (.iconst 0, 1) := dk_3 (dk_at dksX3_read_1 15 rfl rfl)
theorem dX3_read_38 : decode cX3_read 38 = .ok (.invokestatic 47, 3) := dk_184 0 47 (dk_at dksX3_read_1 16 rfl rfl)
theorem dX3_read_41 : decode cX3_read 41 = .ok (.iconst 0, 1) := dk_3 (dk_at dksX3_read_1 19 rfl rfl)
theorem dX3_read_42 : decode cX3_read 42 = .ok (.istore_n 2, 1) := dk_61 (dk_at dksX3_read_1 20 rfl rfl)
theorem dX3_read_43 : decode cX3_read 43 = .ok (.iload_n 2, 1) := dk_28 (dk_at dksX3_read_1 21 rfl rfl)
theorem dX3_read_44 : decode cX3_read 44 = .ok (.iload_n 1, 1) := dk_27 (dk_at dksX3_read_1 22 rfl rfl)
theorem dX3_read_45 : decode cX3_read 45 = .ok (.if_icmp .ge 45, 3) := dk_162 0 45 (dk_at dksX3_read_2 0 rfl rfl)
theorem dX3_read_48 : decode cX3_read 48 = .ok (.aload_n 0, 1) := dk_42 (dk_at dksX3_read_2 3 rfl rfl)
theorem dX3_read_49 : decode cX3_read 49 = .ok (.iconst 4, 1) := dk_7 (dk_at dksX3_read_2 4 rfl rfl)
theorem dX3_read_50 : decode cX3_read 50 = .ok (.iload_n 2, 1) := dk_28 (dk_at dksX3_read_2 5 rfl rfl)
theorem dX3_read_51 : decode cX3_read 51 = .ok (.imul, 1) := dk_104 (dk_at dksX3_read_2 6 rfl rfl)
theorem dX3_read_52 : decode cX3_read 52 = .ok (.invokevirtual 231, 3) := dk_182 0 231 (dk_at dksX3_read_2 7 rfl rfl)
theorem dX3_read_55 : decode cX3_read 55 = .ok (.ifCond .eq 22, 3) := dk_153 0 22 (dk_at dksX3_read_2 10 rfl rfl)
theorem dX3_read_58 : decode cX3_read 58 = .ok (.aload_n 0, 1) := dk_42 (dk_at dksX3_read_2 13 rfl rfl)
theorem dX3_read_59 : decode cX3_read 59 = .ok (.getfield 38, 3) := dk_180 0 38 (dk_at dksX3_read_2 14 rfl rfl)
theorem dX3_read_62 : decode cX3_read 62 = .ok (.iconst 0, 1) := dk_3 (dk_at dksX3_read_2 17 rfl rfl)
theorem dX3_read_63 : decode cX3_read 63 = .ok (.aload_n 0, 1) := dk_42 (dk_at dksX3_read_2 18 rfl rfl)
theorem dX3_read_64 : decode cX3_read 64 = .ok (.getfield 9, 3) := dk_180 0 9 (dk_at dksX3_read_2 19 rfl rfl)
theorem dX3_read_67 : decode cX3_read 67 = .ok (.iconst 0, 1) := dk_3 (dk_at dksX3_read_2 22 rfl rfl)
theorem dX3_read_68 : decode cX3_read 68 = .ok (.invokestatic 47, 3) := dk_184 0 47 (dk_at dksX3_read_3 0 rfl rfl)
theorem dX3_read_71 : decode cX3_read 71 = .ok (.aload_n 0, 1) := dk_42 (dk_at dksX3_read_3 3 rfl rfl)
theorem dX3_read_72 : decode cX3_read 72 = .ok (.iload_n 2, 1) := dk_28 (dk_at dksX3_read_3 4 rfl rfl)
theorem dX3_read_73 : decode cX3_read 73 = .ok (.invokevirtual 234, 3) := dk_182 0 234 (dk_at dksX3_read_3 5 rfl rfl)
theorem dX3_read_76 : decode cX3_read 76 = .ok (.ireturn, 1) := dk_172 (dk_at dksX3_read_3 8 rfl rfl)
theorem dX3_read_77 : decode cX3_read 77 = .ok (.aload_n 0, 1) := dk_42 (dk_at dksX3_read_3 9 rfl rfl)
theorem dX3_read_78 : decode cX3_read 78 = .ok (.iconst 4, 1) := dk_7 (dk_at dksX3_read_3 10 rfl rfl)
theorem dX3_read_79 : decode cX3_read 79 = .ok (.iload_n 2, 1) := dk_28 (dk_at dksX3_read_3 11 rfl rfl)
theorem dX3_read_80 : decode cX3_read 80 = .ok (.imul, 1) := dk_104 (dk_at dksX3_read_3 12 rfl rfl)
theorem dX3_read_81 : decode cX3_read 81 = .ok (.invokevirtual 237, 3) := dk_182 0 237 (dk_at dksX3_read_3 13 rfl rfl)
theorem dX3_read_84 : decode cX3_read 84 = .ok (.iinc 2 1, 3) := dk_132 2 1 (dk_at dksX3_read_3 16 rfl rfl)
theorem dX3_read_87 : decode cX3_read 87 = .ok (.goto (-44), 3) := dk_167 255 212 (dk_at dksX3_read_3 19 rfl rfl)
theorem dX3_read_90 : decode cX3_read 90 = .ok (.aload_n 0, 1) := dk_42 (dk_at dksX3_read_3 22 rfl rfl)
theorem dX3_read_91 : decode cX3_read 91 = .ok (.getfield 9, 3) := dk_180 0 9 (dk_at dksX3_read_4 0 rfl rfl)
theorem dX3_read_94 : decode cX3_read 94 = .ok (.iconst 0, 1) := dk_3 (dk_at dksX3_read_4 3 rfl rfl)
theorem dX3_read_95 : decode cX3_read 95 = .ok (.aload_n 0, 1) := dk_42 (dk_at dksX3_read_4 4 rfl rfl)
theorem dX3_read_96 : decode cX3_read 96 = .ok (.getfield 19, 3) := dk_180 0 19 (dk_at dksX3_read_4 5 rfl rfl)
theorem dX3_read_99 : decode cX3_read 99 = .ok (.iconst 0, 1) := dk_3 (dk_at dksX3_read_4 8 rfl rfl)
theorem dX3_read_100 : decode cX3_read 100 = .ok (.invokestatic 47, 3) := dk_184 0 47 (dk_at dksX3_read_4 9 rfl rfl)
theorem dX3_read_103 : decode cX3_read 103 = .ok (.aload_n 0, 1) := dk_42 (dk_at dksX3_read_4 12 rfl rfl)
theorem dX3_read_104 : decode cX3_read 104 = .ok (.getfield 38, 3) := dk_180 0 38 (dk_at dksX3_read_4 13 rfl rfl)
theorem dX3_read_107 : decode cX3_read 107 = .ok (.iconst 0, 1) := dk_3 (dk_at dksX3_read_4 16 rfl rfl)
theorem dX3_read_108 : decode cX3_read 108 = .ok (.aload_n 0, 1) := dk_42 (dk_at dksX3_read_4 17 rfl rfl)
theorem dX3_read_109 : decode cX3_read 109 = .ok (.getfield 9, 3) := dk_180 0 9 (dk_at dksX3_read_4 18 rfl rfl)
theorem dX3_read_112 : decode cX3_read 112 = .ok (.iconst 0, 1) := dk_3 (dk_at dksX3_read_4 21 rfl rfl)
theorem dX3_read_113 : decode cX3_read 113 = .ok (.invokestatic 47, 3) := dk_184 0 47 (dk_at dksX3_read_5 0 rfl rfl)
theorem dX3_read_116 : decode cX3_read 116 = .ok (.aload_n 0, 1) := dk_42 (dk_at dksX3_read_5 3 rfl rfl)
theorem dX3_read_117 : decode cX3_read 117 = .ok (.invokevirtual 61, 3) := dk_182 0 61 (dk_at dksX3_read_5 4 rfl rfl)
theorem dX3_read_120 : decode cX3_read 120 = .ok (.aload_n 0, 1) := dk_42 (dk_at dksX3_read_5 7 rfl rfl)
theorem dX3_read_121 : decode cX3_read 121 = .ok (.getfield 19, 3) := dk_180 0 19 (dk_at dksX3_read_5 8 rfl rfl)
theorem dX3_read_124 : decode cX3_read 124 = .ok (.iconst 0, 1) := dk_3 (dk_at dksX3_read_5 11 rfl rfl)
theorem dX3_read_125 : decode cX3_read 125 = .ok (.aload_n 0, 1) := dk_42 (dk_at dksX3_read_5 12 rfl rfl)
theorem dX3_read_126 : decode cX3_read 126 = .ok (.getfield 9, 3) := dk_180 0 9 (dk_at dksX3_read_5 13 rfl rfl)
theorem dX3_read_129 : decode cX3_read 129 = .ok (.iconst 0, 1) := dk_3 (dk_at dksX3_read_5 16 rfl rfl)
theorem dX3_read_130 : decode cX3_read 130 = .ok (.invokestatic 47, 3) := dk_184 0 47 (dk_at dksX3_read_5 17 rfl rfl)
theorem dX3_read_133 : decode cX3_read 133 = .ok (.iload_n 1, 1) := dk_27 (dk_at dksX3_read_5 20 rfl rfl)
theorem dX3_read_134 : decode cX3_read 134 = .ok (.ireturn, 1) := dk_172 (dk_at dksX3_read_5 21 rfl rfl)
abbrev cX3_readsText : ByteArray := prog_32_method_76_code
def yX3_readsText : MethodName := ⟨RX3, "readsText", "()I"⟩
def dkwX3_readsText_4 : List UInt8 := [167, 0, 4, 3, 181, 0, 206, 27, 172]
abbrev dktX3_readsText_4 : List UInt8 := dkwX3_readsText_4 ++ []
def dkwX3_readsText_3 : List UInt8 := [167, 255, 202, 42, 42, 180, 0, 206, 154, 0, 14, 42, 180, 0, 203, 42, 180, 0, 200, 162, 0, 7, 4]
abbrev dktX3_readsText_3 : List UInt8 := dkwX3_readsText_3 ++ dktX3_readsText_4
def dkwX3_readsText_2 : List UInt8 := [167, 0, 4, 3, 61, 42, 89, 180, 0, 203, 28, 153, 0, 7, 4, 167, 0, 4, 3, 96, 181, 0, 203]
abbrev dktX3_readsText_2 : List UInt8 := dkwX3_readsText_2 ++ dktX3_readsText_3
def dkwX3_readsText_1 : List UInt8 := [182, 0, 225, 132, 1, 1, 42, 180, 0, 206, 154, 0, 16, 42, 182, 0, 210, 16, 59, 160, 0, 7, 4]
abbrev dktX3_readsText_1 : List UInt8 := dkwX3_readsText_1 ++ dktX3_readsText_2
def dkwX3_readsText_0 : List UInt8 := [42, 3, 181, 0, 203, 42, 3, 181, 0, 206, 3, 60, 4, 61, 28, 153, 0, 56, 42, 7, 27, 104]
abbrev dktX3_readsText_0 : List UInt8 := dkwX3_readsText_0 ++ dktX3_readsText_1
theorem dksX3_readsText_0 : cX3_readsText.data.toList.drop 0 = dktX3_readsText_0 := by decide +kernel
theorem dksX3_readsText_1 : cX3_readsText.data.toList.drop 22 = dktX3_readsText_1 := dk_seg dksX3_readsText_0 22 rfl rfl
theorem dksX3_readsText_2 : cX3_readsText.data.toList.drop 45 = dktX3_readsText_2 := dk_seg dksX3_readsText_1 23 rfl rfl
theorem dksX3_readsText_3 : cX3_readsText.data.toList.drop 68 = dktX3_readsText_3 := dk_seg dksX3_readsText_2 23 rfl rfl
theorem dksX3_readsText_4 : cX3_readsText.data.toList.drop 91 = dktX3_readsText_4 := dk_seg dksX3_readsText_3 23 rfl rfl
theorem dX3_readsText_0 : decode cX3_readsText 0 = .ok (.aload_n 0, 1) := dk_42 (dk_at dksX3_readsText_0 0 rfl rfl)
theorem dX3_readsText_1 : decode cX3_readsText 1 = .ok (.iconst 0, 1) := dk_3 (dk_at dksX3_readsText_0 1 rfl rfl)
theorem dX3_readsText_2 : decode cX3_readsText 2 = .ok (.putfield 203, 3) := dk_181 0 203 (dk_at dksX3_readsText_0 2 rfl rfl)
theorem dX3_readsText_5 : decode cX3_readsText 5 = .ok (.aload_n 0, 1) := dk_42 (dk_at dksX3_readsText_0 5 rfl rfl)
theorem dX3_readsText_6 : decode cX3_readsText 6 = .ok (.iconst 0, 1) := dk_3 (dk_at dksX3_readsText_0 6 rfl rfl)
theorem dX3_readsText_7 : decode cX3_readsText 7 = .ok (.putfield 206, 3) := dk_181 0 206 (dk_at dksX3_readsText_0 7 rfl rfl)
theorem dX3_readsText_10 : decode cX3_readsText 10 = .ok (.iconst 0, 1) := dk_3 (dk_at dksX3_readsText_0 10 rfl rfl)
theorem dX3_readsText_11 : decode cX3_readsText 11 = .ok (.istore_n 1, 1) := dk_60 (dk_at dksX3_readsText_0 11 rfl rfl)
theorem dX3_readsText_12 : decode cX3_readsText 12 = .ok (.iconst 1, 1) := dk_4 (dk_at dksX3_readsText_0 12 rfl rfl)
theorem dX3_readsText_13 : decode cX3_readsText 13 = .ok (.istore_n 2, 1) := dk_61 (dk_at dksX3_readsText_0 13 rfl rfl)
theorem dX3_readsText_14 : decode cX3_readsText 14 = .ok (.iload_n 2, 1) := dk_28 (dk_at dksX3_readsText_0 14 rfl rfl)
theorem dX3_readsText_15 : decode cX3_readsText 15 = .ok (.ifCond .eq 56, 3) := dk_153 0 56 (dk_at dksX3_readsText_0 15 rfl rfl)
theorem dX3_readsText_18 : decode cX3_readsText 18 = .ok (.aload_n 0, 1) := dk_42 (dk_at dksX3_readsText_0 18 rfl rfl)
theorem dX3_readsText_19 : decode cX3_readsText 19 = .ok (.iconst 4, 1) := dk_7 (dk_at dksX3_readsText_0 19 rfl rfl)
theorem dX3_readsText_20 : decode cX3_readsText 20 = .ok (.iload_n 1, 1) := dk_27 (dk_at dksX3_readsText_0 20 rfl rfl)
theorem dX3_readsText_21 : decode cX3_readsText 21 = .ok (.imul, 1) := dk_104 (dk_at dksX3_readsText_0 21 rfl rfl)
theorem dX3_readsText_22 : decode cX3_readsText 22 = .ok (.invokevirtual 225, 3) := dk_182 0 225 (dk_at dksX3_readsText_1 0 rfl rfl)
theorem dX3_readsText_25 : decode cX3_readsText 25 = .ok (.iinc 1 1, 3) := dk_132 1 1 (dk_at dksX3_readsText_1 3 rfl rfl)
theorem dX3_readsText_28 : decode cX3_readsText 28 = .ok (.aload_n 0, 1) := dk_42 (dk_at dksX3_readsText_1 6 rfl rfl)
theorem dX3_readsText_29 : decode cX3_readsText 29 = .ok (.getfield 206, 3) := dk_180 0 206 (dk_at dksX3_readsText_1 7 rfl rfl)
theorem dX3_readsText_32 : decode cX3_readsText 32 = .ok (.ifCond .ne 16, 3) := dk_154 0 16 (dk_at dksX3_readsText_1 10 rfl rfl)
theorem dX3_readsText_35 : decode cX3_readsText 35 = .ok (.aload_n 0, 1) := dk_42 (dk_at dksX3_readsText_1 13 rfl rfl)
theorem dX3_readsText_36 : decode cX3_readsText 36 = .ok (.invokevirtual 210, 3) := dk_182 0 210 (dk_at dksX3_readsText_1 14 rfl rfl)
theorem dX3_readsText_39 : decode cX3_readsText 39 = .ok (.bipush 59, 2) := dk_16 59 (dk_at dksX3_readsText_1 17 rfl rfl)
theorem dX3_readsText_41 : decode cX3_readsText 41 = .ok (.if_icmp .ne 7, 3) := dk_160 0 7 (dk_at dksX3_readsText_1 19 rfl rfl)
theorem dX3_readsText_44 : decode cX3_readsText 44 = .ok (.iconst 1, 1) := dk_4 (dk_at dksX3_readsText_1 22 rfl rfl)
theorem dX3_readsText_45 : decode cX3_readsText 45 = .ok (.goto 4, 3) := dk_167 0 4 (dk_at dksX3_readsText_2 0 rfl rfl)
theorem dX3_readsText_48 : decode cX3_readsText 48 = .ok (.iconst 0, 1) := dk_3 (dk_at dksX3_readsText_2 3 rfl rfl)
theorem dX3_readsText_49 : decode cX3_readsText 49 = .ok (.istore_n 2, 1) := dk_61 (dk_at dksX3_readsText_2 4 rfl rfl)
theorem dX3_readsText_50 : decode cX3_readsText 50 = .ok (.aload_n 0, 1) := dk_42 (dk_at dksX3_readsText_2 5 rfl rfl)
theorem dX3_readsText_51 : decode cX3_readsText 51 = .ok (.dup, 1) := dk_89 (dk_at dksX3_readsText_2 6 rfl rfl)
theorem dX3_readsText_52 : decode cX3_readsText 52 = .ok (.getfield 203, 3) := dk_180 0 203 (dk_at dksX3_readsText_2 7 rfl rfl)
theorem dX3_readsText_55 : decode cX3_readsText 55 = .ok (.iload_n 2, 1) := dk_28 (dk_at dksX3_readsText_2 10 rfl rfl)
theorem dX3_readsText_56 : decode cX3_readsText 56 = .ok (.ifCond .eq 7, 3) := dk_153 0 7 (dk_at dksX3_readsText_2 11 rfl rfl)
theorem dX3_readsText_59 : decode cX3_readsText 59 = .ok (.iconst 1, 1) := dk_4 (dk_at dksX3_readsText_2 14 rfl rfl)
theorem dX3_readsText_60 : decode cX3_readsText 60 = .ok (.goto 4, 3) := dk_167 0 4 (dk_at dksX3_readsText_2 15 rfl rfl)
theorem dX3_readsText_63 : decode cX3_readsText 63 = .ok (.iconst 0, 1) := dk_3 (dk_at dksX3_readsText_2 18 rfl rfl)
theorem dX3_readsText_64 : decode cX3_readsText 64 = .ok (.iadd, 1) := dk_96 (dk_at dksX3_readsText_2 19 rfl rfl)
theorem dX3_readsText_65 : decode cX3_readsText 65 = .ok (.putfield 203, 3) := dk_181 0 203 (dk_at dksX3_readsText_2 20 rfl rfl)
theorem dX3_readsText_68 : decode cX3_readsText 68 = .ok (.goto (-54), 3) := dk_167 255 202 (dk_at dksX3_readsText_3 0 rfl rfl)
theorem dX3_readsText_71 : decode cX3_readsText 71 = .ok (.aload_n 0, 1) := dk_42 (dk_at dksX3_readsText_3 3 rfl rfl)
theorem dX3_readsText_72 : decode cX3_readsText 72 = .ok (.aload_n 0, 1) := dk_42 (dk_at dksX3_readsText_3 4 rfl rfl)
theorem dX3_readsText_73 : decode cX3_readsText 73 = .ok (.getfield 206, 3) := dk_180 0 206 (dk_at dksX3_readsText_3 5 rfl rfl)
theorem dX3_readsText_76 : decode cX3_readsText 76 = .ok (.ifCond .ne 14, 3) := dk_154 0 14 (dk_at dksX3_readsText_3 8 rfl rfl)
theorem dX3_readsText_79 : decode cX3_readsText 79 = .ok (.aload_n 0, 1) := dk_42 (dk_at dksX3_readsText_3 11 rfl rfl)
theorem dX3_readsText_80 : decode cX3_readsText 80 = .ok (.getfield 203, 3) := dk_180 0 203 (dk_at dksX3_readsText_3 12 rfl rfl)
theorem dX3_readsText_83 : decode cX3_readsText 83 = .ok (.aload_n 0, 1) := dk_42 (dk_at dksX3_readsText_3 15 rfl rfl)
theorem dX3_readsText_84 : decode cX3_readsText 84 = .ok (.getfield 200, 3) := dk_180 0 200 (dk_at dksX3_readsText_3 16 rfl rfl)
theorem dX3_readsText_87 : decode cX3_readsText 87 = .ok (.if_icmp .ge 7, 3) := dk_162 0 7 (dk_at dksX3_readsText_3 19 rfl rfl)
theorem dX3_readsText_90 : decode cX3_readsText 90 = .ok (.iconst 1, 1) := dk_4 (dk_at dksX3_readsText_3 22 rfl rfl)
theorem dX3_readsText_91 : decode cX3_readsText 91 = .ok (.goto 4, 3) := dk_167 0 4 (dk_at dksX3_readsText_4 0 rfl rfl)
theorem dX3_readsText_94 : decode cX3_readsText 94 = .ok (.iconst 0, 1) := dk_3 (dk_at dksX3_readsText_4 3 rfl rfl)
theorem dX3_readsText_95 : decode cX3_readsText 95 = .ok (.putfield 206, 3) := dk_181 0 206 (dk_at dksX3_readsText_4 4 rfl rfl)
theorem dX3_readsText_98 : decode cX3_readsText 98 = .ok (.iload_n 1, 1) := dk_27 (dk_at dksX3_readsText_4 7 rfl rfl)
theorem dX3_readsText_99 : decode cX3_readsText 99 = .ok (.ireturn, 1) := dk_172 (dk_at dksX3_readsText_4 8 rfl rfl)
abbrev cX3_readsCommand : ByteArray := prog_32_method_72_code
def yX3_readsCommand : MethodName := ⟨RX3, "readsCommand", "(I)V"⟩
def dkwX3_readsCommand_12 : List UInt8 := [180, 0, 35, 27, 6, 96, 42, 182, 0, 213, 79, 177]
abbrev dktX3_readsCommand_12 : List UInt8 := dkwX3_readsCommand_12 ++ []
def dkwX3_readsCommand_11 : List UInt8 := [182, 0, 213, 79, 42, 28, 16, 112, 160, 0, 8, 16, 47, 167, 0, 5, 16, 42, 182, 0, 216, 42]
abbrev dktX3_readsCommand_11 : List UInt8 := dkwX3_readsCommand_11 ++ dktX3_readsCommand_12
def dkwX3_readsCommand_10 : List UInt8 := [16, 112, 160, 0, 8, 16, 58, 167, 0, 5, 16, 61, 182, 0, 216, 42, 180, 0, 35, 27, 5, 96, 42]
abbrev dktX3_readsCommand_10 : List UInt8 := dkwX3_readsCommand_10 ++ dktX3_readsCommand_11
def dkwX3_readsCommand_9 : List UInt8 := [96, 42, 182, 0, 213, 79, 167, 0, 73, 28, 16, 112, 159, 0, 9, 28, 16, 103, 160, 0, 61, 42, 28]
abbrev dktX3_readsCommand_9 : List UInt8 := dkwX3_readsCommand_9 ++ dktX3_readsCommand_10
def dkwX3_readsCommand_8 : List UInt8 := [181, 0, 203, 167, 0, 100, 28, 16, 107, 160, 0, 24, 42, 16, 64, 182, 0, 216, 42, 180, 0, 35, 27, 5]
abbrev dktX3_readsCommand_8 : List UInt8 := dkwX3_readsCommand_8 ++ dktX3_readsCommand_9
def dkwX3_readsCommand_7 : List UInt8 := [167, 0, 4, 3, 79, 42, 89, 180, 0, 203, 42, 180, 0, 206, 153, 0, 7, 3, 167, 0, 4, 4, 96]
abbrev dktX3_readsCommand_7 : List UInt8 := dkwX3_readsCommand_7 ++ dktX3_readsCommand_8
def dkwX3_readsCommand_6 : List UInt8 := [167, 0, 4, 3, 181, 0, 206, 42, 180, 0, 35, 27, 5, 96, 42, 182, 0, 210, 16, 43, 160, 0, 7, 4]
abbrev dktX3_readsCommand_6 : List UInt8 := dkwX3_readsCommand_6 ++ dktX3_readsCommand_7
def dkwX3_readsCommand_5 : List UInt8 := [154, 0, 21, 42, 182, 0, 210, 16, 43, 159, 0, 16, 42, 182, 0, 210, 16, 45, 159, 0, 7, 4]
abbrev dktX3_readsCommand_5 : List UInt8 := dkwX3_readsCommand_5 ++ dktX3_readsCommand_6
def dkwX3_readsCommand_4 : List UInt8 := [160, 0, 7, 3, 167, 0, 7, 42, 182, 0, 213, 79, 28, 16, 99, 160, 0, 83, 42, 42, 180, 0, 206]
abbrev dktX3_readsCommand_4 : List UInt8 := dkwX3_readsCommand_4 ++ dktX3_readsCommand_5
def dkwX3_readsCommand_3 : List UInt8 := [4, 96, 181, 0, 203, 42, 180, 0, 35, 27, 28, 79, 42, 180, 0, 35, 27, 4, 96, 28, 16, 102]
abbrev dktX3_readsCommand_3 : List UInt8 := dkwX3_readsCommand_3 ++ dktX3_readsCommand_4
def dkwX3_readsCommand_2 : List UInt8 := [159, 0, 7, 4, 167, 0, 4, 3, 181, 0, 206, 42, 180, 0, 206, 153, 0, 4, 177, 42, 89, 180, 0, 203]
abbrev dktX3_readsCommand_2 : List UInt8 := dkwX3_readsCommand_2 ++ dktX3_readsCommand_3
def dkwX3_readsCommand_1 : List UInt8 := [159, 0, 31, 28, 16, 99, 159, 0, 25, 28, 16, 103, 159, 0, 19, 28, 16, 107, 159, 0, 13, 28, 16, 102]
abbrev dktX3_readsCommand_1 : List UInt8 := dkwX3_readsCommand_1 ++ dktX3_readsCommand_2
def dkwX3_readsCommand_0 : List UInt8 := [42, 182, 0, 210, 61, 42, 42, 180, 0, 206, 154, 0, 39, 28, 16, 112, 159, 0, 37, 28, 16, 104]
abbrev dktX3_readsCommand_0 : List UInt8 := dkwX3_readsCommand_0 ++ dktX3_readsCommand_1
theorem dksX3_readsCommand_0 : cX3_readsCommand.data.toList.drop 0 = dktX3_readsCommand_0 := by decide +kernel
theorem dksX3_readsCommand_1 : cX3_readsCommand.data.toList.drop 22 = dktX3_readsCommand_1 := dk_seg dksX3_readsCommand_0 22 rfl rfl
theorem dksX3_readsCommand_2 : cX3_readsCommand.data.toList.drop 46 = dktX3_readsCommand_2 := dk_seg dksX3_readsCommand_1 24 rfl rfl
theorem dksX3_readsCommand_3 : cX3_readsCommand.data.toList.drop 70 = dktX3_readsCommand_3 := dk_seg dksX3_readsCommand_2 24 rfl rfl
theorem dksX3_readsCommand_4 : cX3_readsCommand.data.toList.drop 92 = dktX3_readsCommand_4 := dk_seg dksX3_readsCommand_3 22 rfl rfl
theorem dksX3_readsCommand_5 : cX3_readsCommand.data.toList.drop 115 = dktX3_readsCommand_5 := dk_seg dksX3_readsCommand_4 23 rfl rfl
theorem dksX3_readsCommand_6 : cX3_readsCommand.data.toList.drop 137 = dktX3_readsCommand_6 := dk_seg dksX3_readsCommand_5 22 rfl rfl
theorem dksX3_readsCommand_7 : cX3_readsCommand.data.toList.drop 161 = dktX3_readsCommand_7 := dk_seg dksX3_readsCommand_6 24 rfl rfl
theorem dksX3_readsCommand_8 : cX3_readsCommand.data.toList.drop 184 = dktX3_readsCommand_8 := dk_seg dksX3_readsCommand_7 23 rfl rfl
theorem dksX3_readsCommand_9 : cX3_readsCommand.data.toList.drop 208 = dktX3_readsCommand_9 := dk_seg dksX3_readsCommand_8 24 rfl rfl
theorem dksX3_readsCommand_10 : cX3_readsCommand.data.toList.drop 231 = dktX3_readsCommand_10 := dk_seg dksX3_readsCommand_9 23 rfl rfl
theorem dksX3_readsCommand_11 : cX3_readsCommand.data.toList.drop 254 = dktX3_readsCommand_11 := dk_seg dksX3_readsCommand_10 23 rfl rfl
theorem dksX3_readsCommand_12 : cX3_readsCommand.data.toList.drop 276 = dktX3_readsCommand_12 := dk_seg dksX3_readsCommand_11 22 rfl rfl
theorem dX3_readsCommand_0 : decode cX3_readsCommand 0 = .ok (.aload_n 0, 1) := dk_42 (dk_at dksX3_readsCommand_0 0 rfl rfl)
theorem dX3_readsCommand_1 : decode cX3_readsCommand 1 = .ok (.invokevirtual 210, 3) := dk_182 0 210 (dk_at dksX3_readsCommand_0 1 rfl rfl)
theorem dX3_readsCommand_4 : decode cX3_readsCommand 4 = .ok (.istore_n 2, 1) := dk_61 (dk_at dksX3_readsCommand_0 4 rfl rfl)
theorem dX3_readsCommand_5 : decode cX3_readsCommand 5 = .ok (.aload_n 0, 1) := dk_42 (dk_at dksX3_readsCommand_0 5 rfl rfl)
theorem dX3_readsCommand_6 : decode cX3_readsCommand 6 = .ok (.aload_n 0, 1) := dk_42 (dk_at dksX3_readsCommand_0 6 rfl rfl)
theorem dX3_readsCommand_7 : decode cX3_readsCommand 7 = .ok (.getfield 206, 3) := dk_180 0 206 (dk_at dksX3_readsCommand_0 7 rfl rfl)
theorem dX3_readsCommand_10 : decode cX3_readsCommand 10 = .ok (.ifCond .ne 39, 3) := dk_154 0 39 (dk_at dksX3_readsCommand_0 10 rfl rfl)
theorem dX3_readsCommand_13 : decode cX3_readsCommand 13 = .ok (.iload_n 2, 1) := dk_28 (dk_at dksX3_readsCommand_0 13 rfl rfl)
theorem dX3_readsCommand_14 : decode cX3_readsCommand 14 = .ok (.bipush 112, 2) := dk_16 112 (dk_at dksX3_readsCommand_0 14 rfl rfl)
theorem dX3_readsCommand_16 : decode cX3_readsCommand 16 = .ok (.if_icmp .eq 37, 3) := dk_159 0 37 (dk_at dksX3_readsCommand_0 16 rfl rfl)
theorem dX3_readsCommand_19 : decode cX3_readsCommand 19 = .ok (.iload_n 2, 1) := dk_28 (dk_at dksX3_readsCommand_0 19 rfl rfl)
theorem dX3_readsCommand_20 : decode cX3_readsCommand 20 = .ok (.bipush 104, 2) := dk_16 104 (dk_at dksX3_readsCommand_0 20 rfl rfl)
theorem dX3_readsCommand_22 : decode cX3_readsCommand 22 = .ok (.if_icmp .eq 31, 3) := dk_159 0 31 (dk_at dksX3_readsCommand_1 0 rfl rfl)
theorem dX3_readsCommand_25 : decode cX3_readsCommand 25 = .ok (.iload_n 2, 1) := dk_28 (dk_at dksX3_readsCommand_1 3 rfl rfl)
theorem dX3_readsCommand_26 : decode cX3_readsCommand 26 = .ok (.bipush 99, 2) := dk_16 99 (dk_at dksX3_readsCommand_1 4 rfl rfl)
theorem dX3_readsCommand_28 : decode cX3_readsCommand 28 = .ok (.if_icmp .eq 25, 3) := dk_159 0 25 (dk_at dksX3_readsCommand_1 6 rfl rfl)
theorem dX3_readsCommand_31 : decode cX3_readsCommand 31 = .ok (.iload_n 2, 1) := dk_28 (dk_at dksX3_readsCommand_1 9 rfl rfl)
theorem dX3_readsCommand_32 : decode cX3_readsCommand 32 = .ok (.bipush 103, 2) := dk_16 103 (dk_at dksX3_readsCommand_1 10 rfl rfl)
theorem dX3_readsCommand_34 : decode cX3_readsCommand 34 = .ok (.if_icmp .eq 19, 3) := dk_159 0 19 (dk_at dksX3_readsCommand_1 12 rfl rfl)
theorem dX3_readsCommand_37 : decode cX3_readsCommand 37 = .ok (.iload_n 2, 1) := dk_28 (dk_at dksX3_readsCommand_1 15 rfl rfl)
theorem dX3_readsCommand_38 : decode cX3_readsCommand 38 = .ok (.bipush 107, 2) := dk_16 107 (dk_at dksX3_readsCommand_1 16 rfl rfl)
theorem dX3_readsCommand_40 : decode cX3_readsCommand 40 = .ok (.if_icmp .eq 13, 3) := dk_159 0 13 (dk_at dksX3_readsCommand_1 18 rfl rfl)
theorem dX3_readsCommand_43 : decode cX3_readsCommand 43 = .ok (.iload_n 2, 1) := dk_28 (dk_at dksX3_readsCommand_1 21 rfl rfl)
theorem dX3_readsCommand_44 : decode cX3_readsCommand 44 = .ok (.bipush 102, 2) := dk_16 102 (dk_at dksX3_readsCommand_1 22 rfl rfl)
theorem dX3_readsCommand_46 : decode cX3_readsCommand 46 = .ok (.if_icmp .eq 7, 3) := dk_159 0 7 (dk_at dksX3_readsCommand_2 0 rfl rfl)
theorem dX3_readsCommand_49 : decode cX3_readsCommand 49 = .ok (.iconst 1, 1) := dk_4 (dk_at dksX3_readsCommand_2 3 rfl rfl)
theorem dX3_readsCommand_50 : decode cX3_readsCommand 50 = .ok (.goto 4, 3) := dk_167 0 4 (dk_at dksX3_readsCommand_2 4 rfl rfl)
theorem dX3_readsCommand_53 : decode cX3_readsCommand 53 = .ok (.iconst 0, 1) := dk_3 (dk_at dksX3_readsCommand_2 7 rfl rfl)
theorem dX3_readsCommand_54 : decode cX3_readsCommand 54 = .ok (.putfield 206, 3) := dk_181 0 206 (dk_at dksX3_readsCommand_2 8 rfl rfl)
theorem dX3_readsCommand_57 : decode cX3_readsCommand 57 = .ok (.aload_n 0, 1) := dk_42 (dk_at dksX3_readsCommand_2 11 rfl rfl)
theorem dX3_readsCommand_58 : decode cX3_readsCommand 58 = .ok (.getfield 206, 3) := dk_180 0 206 (dk_at dksX3_readsCommand_2 12 rfl rfl)
theorem dX3_readsCommand_61 : decode cX3_readsCommand 61 = .ok (.ifCond .eq 4, 3) := dk_153 0 4 (dk_at dksX3_readsCommand_2 15 rfl rfl)
theorem dX3_readsCommand_64 : decode cX3_readsCommand 64 = .ok (.return_, 1) := dk_177 (dk_at dksX3_readsCommand_2 18 rfl rfl)
theorem dX3_readsCommand_65 : decode cX3_readsCommand 65 = .ok (.aload_n 0, 1) := dk_42 (dk_at dksX3_readsCommand_2 19 rfl rfl)
theorem dX3_readsCommand_66 : decode cX3_readsCommand 66 = .ok (.dup, 1) := dk_89 (dk_at dksX3_readsCommand_2 20 rfl rfl)
theorem dX3_readsCommand_67 : decode cX3_readsCommand 67 = .ok (.getfield 203, 3) := dk_180 0 203 (dk_at dksX3_readsCommand_2 21 rfl rfl)
theorem dX3_readsCommand_70 : decode cX3_readsCommand 70 = .ok (.iconst 1, 1) := dk_4 (dk_at dksX3_readsCommand_3 0 rfl rfl)
theorem dX3_readsCommand_71 : decode cX3_readsCommand 71 = .ok (.iadd, 1) := dk_96 (dk_at dksX3_readsCommand_3 1 rfl rfl)
theorem dX3_readsCommand_72 : decode cX3_readsCommand 72 = .ok (.putfield 203, 3) := dk_181 0 203 (dk_at dksX3_readsCommand_3 2 rfl rfl)
theorem dX3_readsCommand_75 : decode cX3_readsCommand 75 = .ok (.aload_n 0, 1) := dk_42 (dk_at dksX3_readsCommand_3 5 rfl rfl)
theorem dX3_readsCommand_76 : decode cX3_readsCommand 76 = .ok (.getfield 35, 3) := dk_180 0 35 (dk_at dksX3_readsCommand_3 6 rfl rfl)
theorem dX3_readsCommand_79 : decode cX3_readsCommand 79 = .ok (.iload_n 1, 1) := dk_27 (dk_at dksX3_readsCommand_3 9 rfl rfl)
theorem dX3_readsCommand_80 : decode cX3_readsCommand 80 = .ok (.iload_n 2, 1) := dk_28 (dk_at dksX3_readsCommand_3 10 rfl rfl)
theorem dX3_readsCommand_81 : decode cX3_readsCommand 81 = .ok (.iastore, 1) := dk_79 (dk_at dksX3_readsCommand_3 11 rfl rfl)
theorem dX3_readsCommand_82 : decode cX3_readsCommand 82 = .ok (.aload_n 0, 1) := dk_42 (dk_at dksX3_readsCommand_3 12 rfl rfl)
theorem dX3_readsCommand_83 : decode cX3_readsCommand 83 = .ok (.getfield 35, 3) := dk_180 0 35 (dk_at dksX3_readsCommand_3 13 rfl rfl)
theorem dX3_readsCommand_86 : decode cX3_readsCommand 86 = .ok (.iload_n 1, 1) := dk_27 (dk_at dksX3_readsCommand_3 16 rfl rfl)
theorem dX3_readsCommand_87 : decode cX3_readsCommand 87 = .ok (.iconst 1, 1) := dk_4 (dk_at dksX3_readsCommand_3 17 rfl rfl)
theorem dX3_readsCommand_88 : decode cX3_readsCommand 88 = .ok (.iadd, 1) := dk_96 (dk_at dksX3_readsCommand_3 18 rfl rfl)
theorem dX3_readsCommand_89 : decode cX3_readsCommand 89 = .ok (.iload_n 2, 1) := dk_28 (dk_at dksX3_readsCommand_3 19 rfl rfl)
theorem dX3_readsCommand_90 : decode cX3_readsCommand 90 = .ok (.bipush 102, 2) := dk_16 102 (dk_at dksX3_readsCommand_3 20 rfl rfl)
theorem dX3_readsCommand_92 : decode cX3_readsCommand 92 = .ok (.if_icmp .ne 7, 3) := dk_160 0 7 (dk_at dksX3_readsCommand_4 0 rfl rfl)
theorem dX3_readsCommand_95 : decode cX3_readsCommand 95 = .ok (.iconst 0, 1) := dk_3 (dk_at dksX3_readsCommand_4 3 rfl rfl)
theorem dX3_readsCommand_96 : decode cX3_readsCommand 96 = .ok (.goto 7, 3) := dk_167 0 7 (dk_at dksX3_readsCommand_4 4 rfl rfl)
theorem dX3_readsCommand_99 : decode cX3_readsCommand 99 = .ok (.aload_n 0, 1) := dk_42 (dk_at dksX3_readsCommand_4 7 rfl rfl)
theorem dX3_readsCommand_100 : decode cX3_readsCommand 100 = .ok (.invokevirtual 213, 3) := dk_182 0 213 (dk_at dksX3_readsCommand_4 8 rfl rfl)
theorem dX3_readsCommand_103 : decode cX3_readsCommand 103 = .ok (.iastore, 1) := dk_79 (dk_at dksX3_readsCommand_4 11 rfl rfl)
theorem dX3_readsCommand_104 : decode cX3_readsCommand 104 = .ok (.iload_n 2, 1) := dk_28 (dk_at dksX3_readsCommand_4 12 rfl rfl)
theorem dX3_readsCommand_105 : decode cX3_readsCommand 105 = .ok (.bipush 99, 2) := dk_16 99 (dk_at dksX3_readsCommand_4 13 rfl rfl)
theorem dX3_readsCommand_107 : decode cX3_readsCommand 107 = .ok (.if_icmp .ne 83, 3) := dk_160 0 83 (dk_at dksX3_readsCommand_4 15 rfl rfl)
theorem dX3_readsCommand_110 : decode cX3_readsCommand 110 = .ok (.aload_n 0, 1) := dk_42 (dk_at dksX3_readsCommand_4 18 rfl rfl)
theorem dX3_readsCommand_111 : decode cX3_readsCommand 111 = .ok (.aload_n 0, 1) := dk_42 (dk_at dksX3_readsCommand_4 19 rfl rfl)
theorem dX3_readsCommand_112 : decode cX3_readsCommand 112 = .ok (.getfield 206, 3) := dk_180 0 206 (dk_at dksX3_readsCommand_4 20 rfl rfl)
theorem dX3_readsCommand_115 : decode cX3_readsCommand 115 = .ok (.ifCond .ne 21, 3) := dk_154 0 21 (dk_at dksX3_readsCommand_5 0 rfl rfl)
theorem dX3_readsCommand_118 : decode cX3_readsCommand 118 = .ok (.aload_n 0, 1) := dk_42 (dk_at dksX3_readsCommand_5 3 rfl rfl)
theorem dX3_readsCommand_119 : decode cX3_readsCommand 119 = .ok (.invokevirtual 210, 3) := dk_182 0 210 (dk_at dksX3_readsCommand_5 4 rfl rfl)
theorem dX3_readsCommand_122 : decode cX3_readsCommand 122 = .ok (.bipush 43, 2) := dk_16 43 (dk_at dksX3_readsCommand_5 7 rfl rfl)
theorem dX3_readsCommand_124 : decode cX3_readsCommand 124 = .ok (.if_icmp .eq 16, 3) := dk_159 0 16 (dk_at dksX3_readsCommand_5 9 rfl rfl)
theorem dX3_readsCommand_127 : decode cX3_readsCommand 127 = .ok (.aload_n 0, 1) := dk_42 (dk_at dksX3_readsCommand_5 12 rfl rfl)
theorem dX3_readsCommand_128 : decode cX3_readsCommand 128 = .ok (.invokevirtual 210, 3) := dk_182 0 210 (dk_at dksX3_readsCommand_5 13 rfl rfl)
theorem dX3_readsCommand_131 : decode cX3_readsCommand 131 = .ok (.bipush 45, 2) := dk_16 45 (dk_at dksX3_readsCommand_5 16 rfl rfl)
theorem dX3_readsCommand_133 : decode cX3_readsCommand 133 = .ok (.if_icmp .eq 7, 3) := dk_159 0 7 (dk_at dksX3_readsCommand_5 18 rfl rfl)
theorem dX3_readsCommand_136 : decode cX3_readsCommand 136 = .ok (.iconst 1, 1) := dk_4 (dk_at dksX3_readsCommand_5 21 rfl rfl)
theorem dX3_readsCommand_137 : decode cX3_readsCommand 137 = .ok (.goto 4, 3) := dk_167 0 4 (dk_at dksX3_readsCommand_6 0 rfl rfl)
theorem dX3_readsCommand_140 : decode cX3_readsCommand 140 = .ok (.iconst 0, 1) := dk_3 (dk_at dksX3_readsCommand_6 3 rfl rfl)
theorem dX3_readsCommand_141 : decode cX3_readsCommand 141 = .ok (.putfield 206, 3) := dk_181 0 206 (dk_at dksX3_readsCommand_6 4 rfl rfl)
theorem dX3_readsCommand_144 : decode cX3_readsCommand 144 = .ok (.aload_n 0, 1) := dk_42 (dk_at dksX3_readsCommand_6 7 rfl rfl)
theorem dX3_readsCommand_145 : decode cX3_readsCommand 145 = .ok (.getfield 35, 3) := dk_180 0 35 (dk_at dksX3_readsCommand_6 8 rfl rfl)
theorem dX3_readsCommand_148 : decode cX3_readsCommand 148 = .ok (.iload_n 1, 1) := dk_27 (dk_at dksX3_readsCommand_6 11 rfl rfl)
theorem dX3_readsCommand_149 : decode cX3_readsCommand 149 = .ok (.iconst 2, 1) := dk_5 (dk_at dksX3_readsCommand_6 12 rfl rfl)
theorem dX3_readsCommand_150 : decode cX3_readsCommand 150 = .ok (.iadd, 1) := dk_96 (dk_at dksX3_readsCommand_6 13 rfl rfl)
theorem dX3_readsCommand_151 : decode cX3_readsCommand 151 = .ok (.aload_n 0, 1) := dk_42 (dk_at dksX3_readsCommand_6 14 rfl rfl)
theorem dX3_readsCommand_152 : decode cX3_readsCommand 152 = .ok (.invokevirtual 210, 3) := dk_182 0 210 (dk_at dksX3_readsCommand_6 15 rfl rfl)
theorem dX3_readsCommand_155 : decode cX3_readsCommand 155 = .ok (.bipush 43, 2) := dk_16 43 (dk_at dksX3_readsCommand_6 18 rfl rfl)
theorem dX3_readsCommand_157 : decode cX3_readsCommand 157 = .ok (.if_icmp .ne 7, 3) := dk_160 0 7 (dk_at dksX3_readsCommand_6 20 rfl rfl)
theorem dX3_readsCommand_160 : decode cX3_readsCommand 160 = .ok (.iconst 1, 1) := dk_4 (dk_at dksX3_readsCommand_6 23 rfl rfl)
theorem dX3_readsCommand_161 : decode cX3_readsCommand 161 = .ok (.goto 4, 3) := dk_167 0 4 (dk_at dksX3_readsCommand_7 0 rfl rfl)
theorem dX3_readsCommand_164 : decode cX3_readsCommand 164 = .ok (.iconst 0, 1) := dk_3 (dk_at dksX3_readsCommand_7 3 rfl rfl)
theorem dX3_readsCommand_165 : decode cX3_readsCommand 165 = .ok (.iastore, 1) := dk_79 (dk_at dksX3_readsCommand_7 4 rfl rfl)
theorem dX3_readsCommand_166 : decode cX3_readsCommand 166 = .ok (.aload_n 0, 1) := dk_42 (dk_at dksX3_readsCommand_7 5 rfl rfl)
theorem dX3_readsCommand_167 : decode cX3_readsCommand 167 = .ok (.dup, 1) := dk_89 (dk_at dksX3_readsCommand_7 6 rfl rfl)
theorem dX3_readsCommand_168 : decode cX3_readsCommand 168 = .ok (.getfield 203, 3) := dk_180 0 203 (dk_at dksX3_readsCommand_7 7 rfl rfl)
theorem dX3_readsCommand_171 : decode cX3_readsCommand 171 = .ok (.aload_n 0, 1) := dk_42 (dk_at dksX3_readsCommand_7 10 rfl rfl)
theorem dX3_readsCommand_172 : decode cX3_readsCommand 172 = .ok (.getfield 206, 3) := dk_180 0 206 (dk_at dksX3_readsCommand_7 11 rfl rfl)
theorem dX3_readsCommand_175 : decode cX3_readsCommand 175 = .ok (.ifCond .eq 7, 3) := dk_153 0 7 (dk_at dksX3_readsCommand_7 14 rfl rfl)
theorem dX3_readsCommand_178 : decode cX3_readsCommand 178 = .ok (.iconst 0, 1) := dk_3 (dk_at dksX3_readsCommand_7 17 rfl rfl)
theorem dX3_readsCommand_179 : decode cX3_readsCommand 179 = .ok (.goto 4, 3) := dk_167 0 4 (dk_at dksX3_readsCommand_7 18 rfl rfl)
theorem dX3_readsCommand_182 : decode cX3_readsCommand 182 = .ok (.iconst 1, 1) := dk_4 (dk_at dksX3_readsCommand_7 21 rfl rfl)
theorem dX3_readsCommand_183 : decode cX3_readsCommand 183 = .ok (.iadd, 1) := dk_96 (dk_at dksX3_readsCommand_7 22 rfl rfl)
theorem dX3_readsCommand_184 : decode cX3_readsCommand 184 = .ok (.putfield 203, 3) := dk_181 0 203 (dk_at dksX3_readsCommand_8 0 rfl rfl)
theorem dX3_readsCommand_187 : decode cX3_readsCommand 187 = .ok (.goto 100, 3) := dk_167 0 100 (dk_at dksX3_readsCommand_8 3 rfl rfl)
theorem dX3_readsCommand_190 : decode cX3_readsCommand 190 = .ok (.iload_n 2, 1) := dk_28 (dk_at dksX3_readsCommand_8 6 rfl rfl)
theorem dX3_readsCommand_191 : decode cX3_readsCommand 191 = .ok (.bipush 107, 2) := dk_16 107 (dk_at dksX3_readsCommand_8 7 rfl rfl)
theorem dX3_readsCommand_193 : decode cX3_readsCommand 193 = .ok (.if_icmp .ne 24, 3) := dk_160 0 24 (dk_at dksX3_readsCommand_8 9 rfl rfl)
theorem dX3_readsCommand_196 : decode cX3_readsCommand 196 = .ok (.aload_n 0, 1) := dk_42 (dk_at dksX3_readsCommand_8 12 rfl rfl)
theorem dX3_readsCommand_197 : decode cX3_readsCommand 197 = .ok (.bipush 64, 2) := dk_16 64 (dk_at dksX3_readsCommand_8 13 rfl rfl)
theorem dX3_readsCommand_199 : decode cX3_readsCommand 199 = .ok (.invokevirtual 216, 3) := dk_182 0 216 (dk_at dksX3_readsCommand_8 15 rfl rfl)
theorem dX3_readsCommand_202 : decode cX3_readsCommand 202 = .ok (.aload_n 0, 1) := dk_42 (dk_at dksX3_readsCommand_8 18 rfl rfl)
theorem dX3_readsCommand_203 : decode cX3_readsCommand 203 = .ok (.getfield 35, 3) := dk_180 0 35 (dk_at dksX3_readsCommand_8 19 rfl rfl)
theorem dX3_readsCommand_206 : decode cX3_readsCommand 206 = .ok (.iload_n 1, 1) := dk_27 (dk_at dksX3_readsCommand_8 22 rfl rfl)
theorem dX3_readsCommand_207 : decode cX3_readsCommand 207 = .ok (.iconst 2, 1) := dk_5 (dk_at dksX3_readsCommand_8 23 rfl rfl)
theorem dX3_readsCommand_208 : decode cX3_readsCommand 208 = .ok (.iadd, 1) := dk_96 (dk_at dksX3_readsCommand_9 0 rfl rfl)
theorem dX3_readsCommand_209 : decode cX3_readsCommand 209 = .ok (.aload_n 0, 1) := dk_42 (dk_at dksX3_readsCommand_9 1 rfl rfl)
theorem dX3_readsCommand_210 : decode cX3_readsCommand 210 = .ok (.invokevirtual 213, 3) := dk_182 0 213 (dk_at dksX3_readsCommand_9 2 rfl rfl)
theorem dX3_readsCommand_213 : decode cX3_readsCommand 213 = .ok (.iastore, 1) := dk_79 (dk_at dksX3_readsCommand_9 5 rfl rfl)
theorem dX3_readsCommand_214 : decode cX3_readsCommand 214 = .ok (.goto 73, 3) := dk_167 0 73 (dk_at dksX3_readsCommand_9 6 rfl rfl)
theorem dX3_readsCommand_217 : decode cX3_readsCommand 217 = .ok (.iload_n 2, 1) := dk_28 (dk_at dksX3_readsCommand_9 9 rfl rfl)
theorem dX3_readsCommand_218 : decode cX3_readsCommand 218 = .ok (.bipush 112, 2) := dk_16 112 (dk_at dksX3_readsCommand_9 10 rfl rfl)
theorem dX3_readsCommand_220 : decode cX3_readsCommand 220 = .ok (.if_icmp .eq 9, 3) := dk_159 0 9 (dk_at dksX3_readsCommand_9 12 rfl rfl)
theorem dX3_readsCommand_223 : decode cX3_readsCommand 223 = .ok (.iload_n 2, 1) := dk_28 (dk_at dksX3_readsCommand_9 15 rfl rfl)
theorem dX3_readsCommand_224 : decode cX3_readsCommand 224 = .ok (.bipush 103, 2) := dk_16 103 (dk_at dksX3_readsCommand_9 16 rfl rfl)
theorem dX3_readsCommand_226 : decode cX3_readsCommand 226 = .ok (.if_icmp .ne 61, 3) := dk_160 0 61 (dk_at dksX3_readsCommand_9 18 rfl rfl)
theorem dX3_readsCommand_229 : decode cX3_readsCommand 229 = .ok (.aload_n 0, 1) := dk_42 (dk_at dksX3_readsCommand_9 21 rfl rfl)
theorem dX3_readsCommand_230 : decode cX3_readsCommand 230 = .ok (.iload_n 2, 1) := dk_28 (dk_at dksX3_readsCommand_9 22 rfl rfl)
theorem dX3_readsCommand_231 : decode cX3_readsCommand 231 = .ok (.bipush 112, 2) := dk_16 112 (dk_at dksX3_readsCommand_10 0 rfl rfl)
theorem dX3_readsCommand_233 : decode cX3_readsCommand 233 = .ok (.if_icmp .ne 8, 3) := dk_160 0 8 (dk_at dksX3_readsCommand_10 2 rfl rfl)
theorem dX3_readsCommand_236 : decode cX3_readsCommand 236 = .ok (.bipush 58, 2) := dk_16 58 (dk_at dksX3_readsCommand_10 5 rfl rfl)
theorem dX3_readsCommand_238 : decode cX3_readsCommand 238 = .ok (.goto 5, 3) := dk_167 0 5 (dk_at dksX3_readsCommand_10 7 rfl rfl)
theorem dX3_readsCommand_241 : decode cX3_readsCommand 241 = .ok (.bipush 61, 2) := dk_16 61 (dk_at dksX3_readsCommand_10 10 rfl rfl)
theorem dX3_readsCommand_243 : decode cX3_readsCommand 243 = .ok (.invokevirtual 216, 3) := dk_182 0 216 (dk_at dksX3_readsCommand_10 12 rfl rfl)
theorem dX3_readsCommand_246 : decode cX3_readsCommand 246 = .ok (.aload_n 0, 1) := dk_42 (dk_at dksX3_readsCommand_10 15 rfl rfl)
theorem dX3_readsCommand_247 : decode cX3_readsCommand 247 = .ok (.getfield 35, 3) := dk_180 0 35 (dk_at dksX3_readsCommand_10 16 rfl rfl)
theorem dX3_readsCommand_250 : decode cX3_readsCommand 250 = .ok (.iload_n 1, 1) := dk_27 (dk_at dksX3_readsCommand_10 19 rfl rfl)
theorem dX3_readsCommand_251 : decode cX3_readsCommand 251 = .ok (.iconst 2, 1) := dk_5 (dk_at dksX3_readsCommand_10 20 rfl rfl)
theorem dX3_readsCommand_252 : decode cX3_readsCommand 252 = .ok (.iadd, 1) := dk_96 (dk_at dksX3_readsCommand_10 21 rfl rfl)
theorem dX3_readsCommand_253 : decode cX3_readsCommand 253 = .ok (.aload_n 0, 1) := dk_42 (dk_at dksX3_readsCommand_10 22 rfl rfl)
theorem dX3_readsCommand_254 : decode cX3_readsCommand 254 = .ok (.invokevirtual 213, 3) := dk_182 0 213 (dk_at dksX3_readsCommand_11 0 rfl rfl)
theorem dX3_readsCommand_257 : decode cX3_readsCommand 257 = .ok (.iastore, 1) := dk_79 (dk_at dksX3_readsCommand_11 3 rfl rfl)
theorem dX3_readsCommand_258 : decode cX3_readsCommand 258 = .ok (.aload_n 0, 1) := dk_42 (dk_at dksX3_readsCommand_11 4 rfl rfl)
theorem dX3_readsCommand_259 : decode cX3_readsCommand 259 = .ok (.iload_n 2, 1) := dk_28 (dk_at dksX3_readsCommand_11 5 rfl rfl)
theorem dX3_readsCommand_260 : decode cX3_readsCommand 260 = .ok (.bipush 112, 2) := dk_16 112 (dk_at dksX3_readsCommand_11 6 rfl rfl)
theorem dX3_readsCommand_262 : decode cX3_readsCommand 262 = .ok (.if_icmp .ne 8, 3) := dk_160 0 8 (dk_at dksX3_readsCommand_11 8 rfl rfl)
theorem dX3_readsCommand_265 : decode cX3_readsCommand 265 = .ok (.bipush 47, 2) := dk_16 47 (dk_at dksX3_readsCommand_11 11 rfl rfl)
theorem dX3_readsCommand_267 : decode cX3_readsCommand 267 = .ok (.goto 5, 3) := dk_167 0 5 (dk_at dksX3_readsCommand_11 13 rfl rfl)
theorem dX3_readsCommand_270 : decode cX3_readsCommand 270 = .ok (.bipush 42, 2) := dk_16 42 (dk_at dksX3_readsCommand_11 16 rfl rfl)
theorem dX3_readsCommand_272 : decode cX3_readsCommand 272 = .ok (.invokevirtual 216, 3) := dk_182 0 216 (dk_at dksX3_readsCommand_11 18 rfl rfl)
theorem dX3_readsCommand_275 : decode cX3_readsCommand 275 = .ok (.aload_n 0, 1) := dk_42 (dk_at dksX3_readsCommand_11 21 rfl rfl)
theorem dX3_readsCommand_276 : decode cX3_readsCommand 276 = .ok (.getfield 35, 3) := dk_180 0 35 (dk_at dksX3_readsCommand_12 0 rfl rfl)
theorem dX3_readsCommand_279 : decode cX3_readsCommand 279 = .ok (.iload_n 1, 1) := dk_27 (dk_at dksX3_readsCommand_12 3 rfl rfl)
theorem dX3_readsCommand_280 : decode cX3_readsCommand 280 = .ok (.iconst 3, 1) := dk_6 (dk_at dksX3_readsCommand_12 4 rfl rfl)
theorem dX3_readsCommand_281 : decode cX3_readsCommand 281 = .ok (.iadd, 1) := dk_96 (dk_at dksX3_readsCommand_12 5 rfl rfl)
theorem dX3_readsCommand_282 : decode cX3_readsCommand 282 = .ok (.aload_n 0, 1) := dk_42 (dk_at dksX3_readsCommand_12 6 rfl rfl)
theorem dX3_readsCommand_283 : decode cX3_readsCommand 283 = .ok (.invokevirtual 213, 3) := dk_182 0 213 (dk_at dksX3_readsCommand_12 7 rfl rfl)
theorem dX3_readsCommand_286 : decode cX3_readsCommand 286 = .ok (.iastore, 1) := dk_79 (dk_at dksX3_readsCommand_12 10 rfl rfl)
theorem dX3_readsCommand_287 : decode cX3_readsCommand 287 = .ok (.return_, 1) := dk_177 (dk_at dksX3_readsCommand_12 11 rfl rfl)
abbrev cX3_here : ByteArray := prog_32_method_69_code
def yX3_here : MethodName := ⟨RX3, "here", "()I"⟩
def dkwX3_here_1 : List UInt8 := [172]
abbrev dktX3_here_1 : List UInt8 := dkwX3_here_1 ++ []
def dkwX3_here_0 : List UInt8 := [42, 180, 0, 203, 42, 180, 0, 200, 162, 0, 15, 42, 180, 0, 22, 42, 180, 0, 203, 46, 167, 0, 4, 2]
abbrev dktX3_here_0 : List UInt8 := dkwX3_here_0 ++ dktX3_here_1
theorem dksX3_here_0 : cX3_here.data.toList.drop 0 = dktX3_here_0 := by decide +kernel
theorem dksX3_here_1 : cX3_here.data.toList.drop 24 = dktX3_here_1 := dk_seg dksX3_here_0 24 rfl rfl
theorem dX3_here_0 : decode cX3_here 0 = .ok (.aload_n 0, 1) := dk_42 (dk_at dksX3_here_0 0 rfl rfl)
theorem dX3_here_1 : decode cX3_here 1 = .ok (.getfield 203, 3) := dk_180 0 203 (dk_at dksX3_here_0 1 rfl rfl)
theorem dX3_here_4 : decode cX3_here 4 = .ok (.aload_n 0, 1) := dk_42 (dk_at dksX3_here_0 4 rfl rfl)
theorem dX3_here_5 : decode cX3_here 5 = .ok (.getfield 200, 3) := dk_180 0 200 (dk_at dksX3_here_0 5 rfl rfl)
theorem dX3_here_8 : decode cX3_here 8 = .ok (.if_icmp .ge 15, 3) := dk_162 0 15 (dk_at dksX3_here_0 8 rfl rfl)
theorem dX3_here_11 : decode cX3_here 11 = .ok (.aload_n 0, 1) := dk_42 (dk_at dksX3_here_0 11 rfl rfl)
theorem dX3_here_12 : decode cX3_here 12 = .ok (.getfield 22, 3) := dk_180 0 22 (dk_at dksX3_here_0 12 rfl rfl)
theorem dX3_here_15 : decode cX3_here 15 = .ok (.aload_n 0, 1) := dk_42 (dk_at dksX3_here_0 15 rfl rfl)
theorem dX3_here_16 : decode cX3_here 16 = .ok (.getfield 203, 3) := dk_180 0 203 (dk_at dksX3_here_0 16 rfl rfl)
theorem dX3_here_19 : decode cX3_here 19 = .ok (.iaload, 1) := dk_46 (dk_at dksX3_here_0 19 rfl rfl)
theorem dX3_here_20 : decode cX3_here 20 = .ok (.goto 4, 3) := dk_167 0 4 (dk_at dksX3_here_0 20 rfl rfl)
theorem dX3_here_23 : decode cX3_here 23 = .ok (.iconst (-1), 1) := dk_2 (dk_at dksX3_here_0 23 rfl rfl)
theorem dX3_here_24 : decode cX3_here 24 = .ok (.ireturn, 1) := dk_172 (dk_at dksX3_here_1 0 rfl rfl)
abbrev cX3_number : ByteArray := prog_32_method_71_code
def yX3_number : MethodName := ⟨RX3, "number", "()I"⟩
def dkwX3_number_4 : List UInt8 := [42, 182, 0, 210, 96, 16, 48, 100, 60, 42, 89, 180, 0, 203, 4, 96, 181, 0, 203, 27, 172]
abbrev dktX3_number_4 : List UInt8 := dkwX3_number_4 ++ []
def dkwX3_number_3 : List UInt8 := [180, 0, 206, 154, 0, 40, 42, 182, 0, 210, 16, 48, 16, 57, 184, 0, 51, 153, 0, 26, 16, 10, 27, 104]
abbrev dktX3_number_3 : List UInt8 := dkwX3_number_3 ++ dktX3_number_4
def dkwX3_number_2 : List UInt8 := [100, 60, 42, 89, 180, 0, 203, 42, 180, 0, 206, 153, 0, 7, 3, 167, 0, 4, 4, 96, 181, 0, 203, 42]
abbrev dktX3_number_2 : List UInt8 := dkwX3_number_2 ++ dktX3_number_3
def dkwX3_number_1 : List UInt8 := [167, 0, 4, 3, 181, 0, 206, 42, 180, 0, 206, 153, 0, 7, 3, 167, 0, 10, 42, 182, 0, 210, 16, 48]
abbrev dktX3_number_1 : List UInt8 := dkwX3_number_1 ++ dktX3_number_2
def dkwX3_number_0 : List UInt8 := [42, 42, 180, 0, 206, 154, 0, 17, 42, 182, 0, 210, 16, 48, 16, 57, 184, 0, 51, 154, 0, 7, 4]
abbrev dktX3_number_0 : List UInt8 := dkwX3_number_0 ++ dktX3_number_1
theorem dksX3_number_0 : cX3_number.data.toList.drop 0 = dktX3_number_0 := by decide +kernel
theorem dksX3_number_1 : cX3_number.data.toList.drop 23 = dktX3_number_1 := dk_seg dksX3_number_0 23 rfl rfl
theorem dksX3_number_2 : cX3_number.data.toList.drop 47 = dktX3_number_2 := dk_seg dksX3_number_1 24 rfl rfl
theorem dksX3_number_3 : cX3_number.data.toList.drop 71 = dktX3_number_3 := dk_seg dksX3_number_2 24 rfl rfl
theorem dksX3_number_4 : cX3_number.data.toList.drop 95 = dktX3_number_4 := dk_seg dksX3_number_3 24 rfl rfl
theorem dX3_number_0 : decode cX3_number 0 = .ok (.aload_n 0, 1) := dk_42 (dk_at dksX3_number_0 0 rfl rfl)
theorem dX3_number_1 : decode cX3_number 1 = .ok (.aload_n 0, 1) := dk_42 (dk_at dksX3_number_0 1 rfl rfl)
theorem dX3_number_2 : decode cX3_number 2 = .ok (.getfield 206, 3) := dk_180 0 206 (dk_at dksX3_number_0 2 rfl rfl)
theorem dX3_number_5 : decode cX3_number 5 = .ok (.ifCond .ne 17, 3) := dk_154 0 17 (dk_at dksX3_number_0 5 rfl rfl)
theorem dX3_number_8 : decode cX3_number 8 = .ok (.aload_n 0, 1) := dk_42 (dk_at dksX3_number_0 8 rfl rfl)
theorem dX3_number_9 : decode cX3_number 9 = .ok (.invokevirtual 210, 3) := dk_182 0 210 (dk_at dksX3_number_0 9 rfl rfl)
theorem dX3_number_12 : decode cX3_number 12 = .ok (.bipush 48, 2) := dk_16 48 (dk_at dksX3_number_0 12 rfl rfl)
theorem dX3_number_14 : decode cX3_number 14 = .ok (.bipush 57, 2) := dk_16 57 (dk_at dksX3_number_0 14 rfl rfl)
theorem dX3_number_16 : decode cX3_number 16 = .ok (.invokestatic 51, 3) := dk_184 0 51 (dk_at dksX3_number_0 16 rfl rfl)
theorem dX3_number_19 : decode cX3_number 19 = .ok (.ifCond .ne 7, 3) := dk_154 0 7 (dk_at dksX3_number_0 19 rfl rfl)
theorem dX3_number_22 : decode cX3_number 22 = .ok (.iconst 1, 1) := dk_4 (dk_at dksX3_number_0 22 rfl rfl)
theorem dX3_number_23 : decode cX3_number 23 = .ok (.goto 4, 3) := dk_167 0 4 (dk_at dksX3_number_1 0 rfl rfl)
theorem dX3_number_26 : decode cX3_number 26 = .ok (.iconst 0, 1) := dk_3 (dk_at dksX3_number_1 3 rfl rfl)
theorem dX3_number_27 : decode cX3_number 27 = .ok (.putfield 206, 3) := dk_181 0 206 (dk_at dksX3_number_1 4 rfl rfl)
theorem dX3_number_30 : decode cX3_number 30 = .ok (.aload_n 0, 1) := dk_42 (dk_at dksX3_number_1 7 rfl rfl)
theorem dX3_number_31 : decode cX3_number 31 = .ok (.getfield 206, 3) := dk_180 0 206 (dk_at dksX3_number_1 8 rfl rfl)
theorem dX3_number_34 : decode cX3_number 34 = .ok (.ifCond .eq 7, 3) := dk_153 0 7 (dk_at dksX3_number_1 11 rfl rfl)
theorem dX3_number_37 : decode cX3_number 37 = .ok (.iconst 0, 1) := dk_3 (dk_at dksX3_number_1 14 rfl rfl)
theorem dX3_number_38 : decode cX3_number 38 = .ok (.goto 10, 3) := dk_167 0 10 (dk_at dksX3_number_1 15 rfl rfl)
theorem dX3_number_41 : decode cX3_number 41 = .ok (.aload_n 0, 1) := dk_42 (dk_at dksX3_number_1 18 rfl rfl)
theorem dX3_number_42 : decode cX3_number 42 = .ok (.invokevirtual 210, 3) := dk_182 0 210 (dk_at dksX3_number_1 19 rfl rfl)
theorem dX3_number_45 : decode cX3_number 45 = .ok (.bipush 48, 2) := dk_16 48 (dk_at dksX3_number_1 22 rfl rfl)
theorem dX3_number_47 : decode cX3_number 47 = .ok (.isub, 1) := dk_100 (dk_at dksX3_number_2 0 rfl rfl)
theorem dX3_number_48 : decode cX3_number 48 = .ok (.istore_n 1, 1) := dk_60 (dk_at dksX3_number_2 1 rfl rfl)
theorem dX3_number_49 : decode cX3_number 49 = .ok (.aload_n 0, 1) := dk_42 (dk_at dksX3_number_2 2 rfl rfl)
theorem dX3_number_50 : decode cX3_number 50 = .ok (.dup, 1) := dk_89 (dk_at dksX3_number_2 3 rfl rfl)
theorem dX3_number_51 : decode cX3_number 51 = .ok (.getfield 203, 3) := dk_180 0 203 (dk_at dksX3_number_2 4 rfl rfl)
theorem dX3_number_54 : decode cX3_number 54 = .ok (.aload_n 0, 1) := dk_42 (dk_at dksX3_number_2 7 rfl rfl)
theorem dX3_number_55 : decode cX3_number 55 = .ok (.getfield 206, 3) := dk_180 0 206 (dk_at dksX3_number_2 8 rfl rfl)
theorem dX3_number_58 : decode cX3_number 58 = .ok (.ifCond .eq 7, 3) := dk_153 0 7 (dk_at dksX3_number_2 11 rfl rfl)
theorem dX3_number_61 : decode cX3_number 61 = .ok (.iconst 0, 1) := dk_3 (dk_at dksX3_number_2 14 rfl rfl)
theorem dX3_number_62 : decode cX3_number 62 = .ok (.goto 4, 3) := dk_167 0 4 (dk_at dksX3_number_2 15 rfl rfl)
theorem dX3_number_65 : decode cX3_number 65 = .ok (.iconst 1, 1) := dk_4 (dk_at dksX3_number_2 18 rfl rfl)
theorem dX3_number_66 : decode cX3_number 66 = .ok (.iadd, 1) := dk_96 (dk_at dksX3_number_2 19 rfl rfl)
theorem dX3_number_67 : decode cX3_number 67 = .ok (.putfield 203, 3) := dk_181 0 203 (dk_at dksX3_number_2 20 rfl rfl)
theorem dX3_number_70 : decode cX3_number 70 = .ok (.aload_n 0, 1) := dk_42 (dk_at dksX3_number_2 23 rfl rfl)
theorem dX3_number_71 : decode cX3_number 71 = .ok (.getfield 206, 3) := dk_180 0 206 (dk_at dksX3_number_3 0 rfl rfl)
theorem dX3_number_74 : decode cX3_number 74 = .ok (.ifCond .ne 40, 3) := dk_154 0 40 (dk_at dksX3_number_3 3 rfl rfl)
theorem dX3_number_77 : decode cX3_number 77 = .ok (.aload_n 0, 1) := dk_42 (dk_at dksX3_number_3 6 rfl rfl)
theorem dX3_number_78 : decode cX3_number 78 = .ok (.invokevirtual 210, 3) := dk_182 0 210 (dk_at dksX3_number_3 7 rfl rfl)
theorem dX3_number_81 : decode cX3_number 81 = .ok (.bipush 48, 2) := dk_16 48 (dk_at dksX3_number_3 10 rfl rfl)
theorem dX3_number_83 : decode cX3_number 83 = .ok (.bipush 57, 2) := dk_16 57 (dk_at dksX3_number_3 12 rfl rfl)
theorem dX3_number_85 : decode cX3_number 85 = .ok (.invokestatic 51, 3) := dk_184 0 51 (dk_at dksX3_number_3 14 rfl rfl)
theorem dX3_number_88 : decode cX3_number 88 = .ok (.ifCond .eq 26, 3) := dk_153 0 26 (dk_at dksX3_number_3 17 rfl rfl)
theorem dX3_number_91 : decode cX3_number 91 = .ok (.bipush 10, 2) := dk_16 10 (dk_at dksX3_number_3 20 rfl rfl)
theorem dX3_number_93 : decode cX3_number 93 = .ok (.iload_n 1, 1) := dk_27 (dk_at dksX3_number_3 22 rfl rfl)
theorem dX3_number_94 : decode cX3_number 94 = .ok (.imul, 1) := dk_104 (dk_at dksX3_number_3 23 rfl rfl)
theorem dX3_number_95 : decode cX3_number 95 = .ok (.aload_n 0, 1) := dk_42 (dk_at dksX3_number_4 0 rfl rfl)
theorem dX3_number_96 : decode cX3_number 96 = .ok (.invokevirtual 210, 3) := dk_182 0 210 (dk_at dksX3_number_4 1 rfl rfl)
theorem dX3_number_99 : decode cX3_number 99 = .ok (.iadd, 1) := dk_96 (dk_at dksX3_number_4 4 rfl rfl)
theorem dX3_number_100 : decode cX3_number 100 = .ok (.bipush 48, 2) := dk_16 48 (dk_at dksX3_number_4 5 rfl rfl)
theorem dX3_number_102 : decode cX3_number 102 = .ok (.isub, 1) := dk_100 (dk_at dksX3_number_4 7 rfl rfl)
theorem dX3_number_103 : decode cX3_number 103 = .ok (.istore_n 1, 1) := dk_60 (dk_at dksX3_number_4 8 rfl rfl)
theorem dX3_number_104 : decode cX3_number 104 = .ok (.aload_n 0, 1) := dk_42 (dk_at dksX3_number_4 9 rfl rfl)
theorem dX3_number_105 : decode cX3_number 105 = .ok (.dup, 1) := dk_89 (dk_at dksX3_number_4 10 rfl rfl)
theorem dX3_number_106 : decode cX3_number 106 = .ok (.getfield 203, 3) := dk_180 0 203 (dk_at dksX3_number_4 11 rfl rfl)
theorem dX3_number_109 : decode cX3_number 109 = .ok (.iconst 1, 1) := dk_4 (dk_at dksX3_number_4 14 rfl rfl)
theorem dX3_number_110 : decode cX3_number 110 = .ok (.iadd, 1) := dk_96 (dk_at dksX3_number_4 15 rfl rfl)
theorem dX3_number_111 : decode cX3_number 111 = .ok (.putfield 203, 3) := dk_181 0 203 (dk_at dksX3_number_4 16 rfl rfl)
theorem dX3_number_114 : decode cX3_number 114 = .ok (.iload_n 1, 1) := dk_27 (dk_at dksX3_number_4 19 rfl rfl)
theorem dX3_number_115 : decode cX3_number 115 = .ok (.ireturn, 1) := dk_172 (dk_at dksX3_number_4 20 rfl rfl)
abbrev cX3_wants : ByteArray := prog_32_method_70_code
def yX3_wants : MethodName := ⟨RX3, "wants", "(I)V"⟩
def dkwX3_wants_1 : List UInt8 := [42, 89, 180, 0, 203, 42, 180, 0, 206, 153, 0, 7, 3, 167, 0, 4, 4, 96, 181, 0, 203, 177]
abbrev dktX3_wants_1 : List UInt8 := dkwX3_wants_1 ++ []
def dkwX3_wants_0 : List UInt8 := [42, 42, 180, 0, 206, 154, 0, 11, 42, 182, 0, 210, 27, 159, 0, 7, 4, 167, 0, 4, 3, 181, 0, 206]
abbrev dktX3_wants_0 : List UInt8 := dkwX3_wants_0 ++ dktX3_wants_1
theorem dksX3_wants_0 : cX3_wants.data.toList.drop 0 = dktX3_wants_0 := by decide +kernel
theorem dksX3_wants_1 : cX3_wants.data.toList.drop 24 = dktX3_wants_1 := dk_seg dksX3_wants_0 24 rfl rfl
theorem dX3_wants_0 : decode cX3_wants 0 = .ok (.aload_n 0, 1) := dk_42 (dk_at dksX3_wants_0 0 rfl rfl)
theorem dX3_wants_1 : decode cX3_wants 1 = .ok (.aload_n 0, 1) := dk_42 (dk_at dksX3_wants_0 1 rfl rfl)
theorem dX3_wants_2 : decode cX3_wants 2 = .ok (.getfield 206, 3) := dk_180 0 206 (dk_at dksX3_wants_0 2 rfl rfl)
theorem dX3_wants_5 : decode cX3_wants 5 = .ok (.ifCond .ne 11, 3) := dk_154 0 11 (dk_at dksX3_wants_0 5 rfl rfl)
theorem dX3_wants_8 : decode cX3_wants 8 = .ok (.aload_n 0, 1) := dk_42 (dk_at dksX3_wants_0 8 rfl rfl)
theorem dX3_wants_9 : decode cX3_wants 9 = .ok (.invokevirtual 210, 3) := dk_182 0 210 (dk_at dksX3_wants_0 9 rfl rfl)
theorem dX3_wants_12 : decode cX3_wants 12 = .ok (.iload_n 1, 1) := dk_27 (dk_at dksX3_wants_0 12 rfl rfl)
theorem dX3_wants_13 : decode cX3_wants 13 = .ok (.if_icmp .eq 7, 3) := dk_159 0 7 (dk_at dksX3_wants_0 13 rfl rfl)
theorem dX3_wants_16 : decode cX3_wants 16 = .ok (.iconst 1, 1) := dk_4 (dk_at dksX3_wants_0 16 rfl rfl)
theorem dX3_wants_17 : decode cX3_wants 17 = .ok (.goto 4, 3) := dk_167 0 4 (dk_at dksX3_wants_0 17 rfl rfl)
theorem dX3_wants_20 : decode cX3_wants 20 = .ok (.iconst 0, 1) := dk_3 (dk_at dksX3_wants_0 20 rfl rfl)
theorem dX3_wants_21 : decode cX3_wants 21 = .ok (.putfield 206, 3) := dk_181 0 206 (dk_at dksX3_wants_0 21 rfl rfl)
theorem dX3_wants_24 : decode cX3_wants 24 = .ok (.aload_n 0, 1) := dk_42 (dk_at dksX3_wants_1 0 rfl rfl)
theorem dX3_wants_25 : decode cX3_wants 25 = .ok (.dup, 1) := dk_89 (dk_at dksX3_wants_1 1 rfl rfl)
theorem dX3_wants_26 : decode cX3_wants 26 = .ok (.getfield 203, 3) := dk_180 0 203 (dk_at dksX3_wants_1 2 rfl rfl)
theorem dX3_wants_29 : decode cX3_wants 29 = .ok (.aload_n 0, 1) := dk_42 (dk_at dksX3_wants_1 5 rfl rfl)
theorem dX3_wants_30 : decode cX3_wants 30 = .ok (.getfield 206, 3) := dk_180 0 206 (dk_at dksX3_wants_1 6 rfl rfl)
theorem dX3_wants_33 : decode cX3_wants 33 = .ok (.ifCond .eq 7, 3) := dk_153 0 7 (dk_at dksX3_wants_1 9 rfl rfl)
theorem dX3_wants_36 : decode cX3_wants 36 = .ok (.iconst 0, 1) := dk_3 (dk_at dksX3_wants_1 12 rfl rfl)
theorem dX3_wants_37 : decode cX3_wants 37 = .ok (.goto 4, 3) := dk_167 0 4 (dk_at dksX3_wants_1 13 rfl rfl)
theorem dX3_wants_40 : decode cX3_wants 40 = .ok (.iconst 1, 1) := dk_4 (dk_at dksX3_wants_1 16 rfl rfl)
theorem dX3_wants_41 : decode cX3_wants 41 = .ok (.iadd, 1) := dk_96 (dk_at dksX3_wants_1 17 rfl rfl)
theorem dX3_wants_42 : decode cX3_wants 42 = .ok (.putfield 203, 3) := dk_181 0 203 (dk_at dksX3_wants_1 18 rfl rfl)
theorem dX3_wants_45 : decode cX3_wants 45 = .ok (.return_, 1) := dk_177 (dk_at dksX3_wants_1 21 rfl rfl)
abbrev cX3_mayDo : ByteArray := prog_32_method_74_code
def yX3_mayDo : MethodName := ⟨RX3, "mayDo", "(I)I"⟩
def dkwX3_mayDo_4 : List UInt8 := [172, 42, 28, 42, 180, 0, 35, 27, 5, 96, 46, 182, 0, 120, 172, 42, 182, 0, 148, 172]
abbrev dktX3_mayDo_4 : List UInt8 := dkwX3_mayDo_4 ++ []
def dkwX3_mayDo_3 : List UInt8 := [42, 182, 0, 85, 172, 42, 28, 182, 0, 172, 172, 42, 28, 5, 182, 0, 76, 172, 42, 28, 6, 182, 0, 76]
abbrev dktX3_mayDo_3 : List UInt8 := dkwX3_mayDo_3 ++ dktX3_mayDo_4
def dkwX3_mayDo_2 : List UInt8 := [170, 0, 0, 0, 0, 0, 0, 111, 0, 0, 0, 99, 0, 0, 0, 112, 0, 0, 0, 83, 0, 0, 0, 111, 0, 0, 0, 111, 0, 0, 0, 111, 0, 0, 0, 90, 0, 0, 0, 77, 0, 0, 0, 111, 0, 0, 0, 111, 0, 0, 0, 97, 0, 0, 0, 111, 0, 0, 0, 111, 0, 0, 0, 111, 0, 0, 0, 111, 0, 0, 0, 72]
abbrev dktX3_mayDo_2 : List UInt8 := dkwX3_mayDo_2 ++ dktX3_mayDo_3
def dkwX3_mayDo_1 : List UInt8 := [180, 0, 35, 27, 4, 96, 46, 61, 42, 180, 0, 35, 27, 46]
abbrev dktX3_mayDo_1 : List UInt8 := dkwX3_mayDo_1 ++ dktX3_mayDo_2
def dkwX3_mayDo_0 : List UInt8 := [42, 27, 182, 0, 219, 2, 159, 0, 15, 42, 16, 19, 42, 27, 182, 0, 219, 182, 0, 64, 172, 42]
abbrev dktX3_mayDo_0 : List UInt8 := dkwX3_mayDo_0 ++ dktX3_mayDo_1
theorem dksX3_mayDo_0 : cX3_mayDo.data.toList.drop 0 = dktX3_mayDo_0 := by decide +kernel
theorem dksX3_mayDo_1 : cX3_mayDo.data.toList.drop 22 = dktX3_mayDo_1 := dk_seg dksX3_mayDo_0 22 rfl rfl
theorem dksX3_mayDo_2 : cX3_mayDo.data.toList.drop 36 = dktX3_mayDo_2 := dk_seg dksX3_mayDo_1 14 rfl rfl
theorem dksX3_mayDo_3 : cX3_mayDo.data.toList.drop 108 = dktX3_mayDo_3 := dk_seg dksX3_mayDo_2 72 rfl rfl
theorem dksX3_mayDo_4 : cX3_mayDo.data.toList.drop 132 = dktX3_mayDo_4 := dk_seg dksX3_mayDo_3 24 rfl rfl
theorem dX3_mayDo_0 : decode cX3_mayDo 0 = .ok (.aload_n 0, 1) := dk_42 (dk_at dksX3_mayDo_0 0 rfl rfl)
theorem dX3_mayDo_1 : decode cX3_mayDo 1 = .ok (.iload_n 1, 1) := dk_27 (dk_at dksX3_mayDo_0 1 rfl rfl)
theorem dX3_mayDo_2 : decode cX3_mayDo 2 = .ok (.invokevirtual 219, 3) := dk_182 0 219 (dk_at dksX3_mayDo_0 2 rfl rfl)
theorem dX3_mayDo_5 : decode cX3_mayDo 5 = .ok (.iconst (-1), 1) := dk_2 (dk_at dksX3_mayDo_0 5 rfl rfl)
theorem dX3_mayDo_6 : decode cX3_mayDo 6 = .ok (.if_icmp .eq 15, 3) := dk_159 0 15 (dk_at dksX3_mayDo_0 6 rfl rfl)
theorem dX3_mayDo_9 : decode cX3_mayDo 9 = .ok (.aload_n 0, 1) := dk_42 (dk_at dksX3_mayDo_0 9 rfl rfl)
theorem dX3_mayDo_10 : decode cX3_mayDo 10 = .ok (.bipush 19, 2) := dk_16 19 (dk_at dksX3_mayDo_0 10 rfl rfl)
theorem dX3_mayDo_12 : decode cX3_mayDo 12 = .ok (.aload_n 0, 1) := dk_42 (dk_at dksX3_mayDo_0 12 rfl rfl)
theorem dX3_mayDo_13 : decode cX3_mayDo 13 = .ok (.iload_n 1, 1) := dk_27 (dk_at dksX3_mayDo_0 13 rfl rfl)
theorem dX3_mayDo_14 : decode cX3_mayDo 14 = .ok (.invokevirtual 219, 3) := dk_182 0 219 (dk_at dksX3_mayDo_0 14 rfl rfl)
theorem dX3_mayDo_17 : decode cX3_mayDo 17 = .ok (.invokevirtual 64, 3) := dk_182 0 64 (dk_at dksX3_mayDo_0 17 rfl rfl)
theorem dX3_mayDo_20 : decode cX3_mayDo 20 = .ok (.ireturn, 1) := dk_172 (dk_at dksX3_mayDo_0 20 rfl rfl)
theorem dX3_mayDo_21 : decode cX3_mayDo 21 = .ok (.aload_n 0, 1) := dk_42 (dk_at dksX3_mayDo_0 21 rfl rfl)
theorem dX3_mayDo_22 : decode cX3_mayDo 22 = .ok (.getfield 35, 3) := dk_180 0 35 (dk_at dksX3_mayDo_1 0 rfl rfl)
theorem dX3_mayDo_25 : decode cX3_mayDo 25 = .ok (.iload_n 1, 1) := dk_27 (dk_at dksX3_mayDo_1 3 rfl rfl)
theorem dX3_mayDo_26 : decode cX3_mayDo 26 = .ok (.iconst 1, 1) := dk_4 (dk_at dksX3_mayDo_1 4 rfl rfl)
theorem dX3_mayDo_27 : decode cX3_mayDo 27 = .ok (.iadd, 1) := dk_96 (dk_at dksX3_mayDo_1 5 rfl rfl)
theorem dX3_mayDo_28 : decode cX3_mayDo 28 = .ok (.iaload, 1) := dk_46 (dk_at dksX3_mayDo_1 6 rfl rfl)
theorem dX3_mayDo_29 : decode cX3_mayDo 29 = .ok (.istore_n 2, 1) := dk_61 (dk_at dksX3_mayDo_1 7 rfl rfl)
theorem dX3_mayDo_30 : decode cX3_mayDo 30 = .ok (.aload_n 0, 1) := dk_42 (dk_at dksX3_mayDo_1 8 rfl rfl)
theorem dX3_mayDo_31 : decode cX3_mayDo 31 = .ok (.getfield 35, 3) := dk_180 0 35 (dk_at dksX3_mayDo_1 9 rfl rfl)
theorem dX3_mayDo_34 : decode cX3_mayDo 34 = .ok (.iload_n 1, 1) := dk_27 (dk_at dksX3_mayDo_1 12 rfl rfl)
theorem dX3_mayDo_35 : decode cX3_mayDo 35 = .ok (.iaload, 1) := dk_46 (dk_at dksX3_mayDo_1 13 rfl rfl)
theorem dX3_mayDo_36 : decode cX3_mayDo 36 = .ok (.tableswitch 111 99 112 #[83, 111, 111, 111, 90, 77, 111, 111, 97, 111, 111, 111, 111, 72], 72) := by decide +kernel
theorem dX3_mayDo_108 : decode cX3_mayDo 108 = .ok (.aload_n 0, 1) := dk_42 (dk_at dksX3_mayDo_3 0 rfl rfl)
theorem dX3_mayDo_109 : decode cX3_mayDo 109 = .ok (.invokevirtual 85, 3) := dk_182 0 85 (dk_at dksX3_mayDo_3 1 rfl rfl)
theorem dX3_mayDo_112 : decode cX3_mayDo 112 = .ok (.ireturn, 1) := dk_172 (dk_at dksX3_mayDo_3 4 rfl rfl)
theorem dX3_mayDo_113 : decode cX3_mayDo 113 = .ok (.aload_n 0, 1) := dk_42 (dk_at dksX3_mayDo_3 5 rfl rfl)
theorem dX3_mayDo_114 : decode cX3_mayDo 114 = .ok (.iload_n 2, 1) := dk_28 (dk_at dksX3_mayDo_3 6 rfl rfl)
theorem dX3_mayDo_115 : decode cX3_mayDo 115 = .ok (.invokevirtual 172, 3) := dk_182 0 172 (dk_at dksX3_mayDo_3 7 rfl rfl)
theorem dX3_mayDo_118 : decode cX3_mayDo 118 = .ok (.ireturn, 1) := dk_172 (dk_at dksX3_mayDo_3 10 rfl rfl)
theorem dX3_mayDo_119 : decode cX3_mayDo 119 = .ok (.aload_n 0, 1) := dk_42 (dk_at dksX3_mayDo_3 11 rfl rfl)
theorem dX3_mayDo_120 : decode cX3_mayDo 120 = .ok (.iload_n 2, 1) := dk_28 (dk_at dksX3_mayDo_3 12 rfl rfl)
theorem dX3_mayDo_121 : decode cX3_mayDo 121 = .ok (.iconst 2, 1) := dk_5 (dk_at dksX3_mayDo_3 13 rfl rfl)
theorem dX3_mayDo_122 : decode cX3_mayDo 122 = .ok (.invokevirtual 76, 3) := dk_182 0 76 (dk_at dksX3_mayDo_3 14 rfl rfl)
theorem dX3_mayDo_125 : decode cX3_mayDo 125 = .ok (.ireturn, 1) := dk_172 (dk_at dksX3_mayDo_3 17 rfl rfl)
theorem dX3_mayDo_126 : decode cX3_mayDo 126 = .ok (.aload_n 0, 1) := dk_42 (dk_at dksX3_mayDo_3 18 rfl rfl)
theorem dX3_mayDo_127 : decode cX3_mayDo 127 = .ok (.iload_n 2, 1) := dk_28 (dk_at dksX3_mayDo_3 19 rfl rfl)
theorem dX3_mayDo_128 : decode cX3_mayDo 128 = .ok (.iconst 3, 1) := dk_6 (dk_at dksX3_mayDo_3 20 rfl rfl)
theorem dX3_mayDo_129 : decode cX3_mayDo 129 = .ok (.invokevirtual 76, 3) := dk_182 0 76 (dk_at dksX3_mayDo_3 21 rfl rfl)
theorem dX3_mayDo_132 : decode cX3_mayDo 132 = .ok (.ireturn, 1) := dk_172 (dk_at dksX3_mayDo_4 0 rfl rfl)
theorem dX3_mayDo_133 : decode cX3_mayDo 133 = .ok (.aload_n 0, 1) := dk_42 (dk_at dksX3_mayDo_4 1 rfl rfl)
theorem dX3_mayDo_134 : decode cX3_mayDo 134 = .ok (.iload_n 2, 1) := dk_28 (dk_at dksX3_mayDo_4 2 rfl rfl)
theorem dX3_mayDo_135 : decode cX3_mayDo 135 = .ok (.aload_n 0, 1) := dk_42 (dk_at dksX3_mayDo_4 3 rfl rfl)
theorem dX3_mayDo_136 : decode cX3_mayDo 136 = .ok (.getfield 35, 3) := dk_180 0 35 (dk_at dksX3_mayDo_4 4 rfl rfl)
theorem dX3_mayDo_139 : decode cX3_mayDo 139 = .ok (.iload_n 1, 1) := dk_27 (dk_at dksX3_mayDo_4 7 rfl rfl)
theorem dX3_mayDo_140 : decode cX3_mayDo 140 = .ok (.iconst 2, 1) := dk_5 (dk_at dksX3_mayDo_4 8 rfl rfl)
theorem dX3_mayDo_141 : decode cX3_mayDo 141 = .ok (.iadd, 1) := dk_96 (dk_at dksX3_mayDo_4 9 rfl rfl)
theorem dX3_mayDo_142 : decode cX3_mayDo 142 = .ok (.iaload, 1) := dk_46 (dk_at dksX3_mayDo_4 10 rfl rfl)
theorem dX3_mayDo_143 : decode cX3_mayDo 143 = .ok (.invokevirtual 120, 3) := dk_182 0 120 (dk_at dksX3_mayDo_4 11 rfl rfl)
theorem dX3_mayDo_146 : decode cX3_mayDo 146 = .ok (.ireturn, 1) := dk_172 (dk_at dksX3_mayDo_4 14 rfl rfl)
theorem dX3_mayDo_147 : decode cX3_mayDo 147 = .ok (.aload_n 0, 1) := dk_42 (dk_at dksX3_mayDo_4 15 rfl rfl)
theorem dX3_mayDo_148 : decode cX3_mayDo 148 = .ok (.invokevirtual 148, 3) := dk_182 0 148 (dk_at dksX3_mayDo_4 16 rfl rfl)
theorem dX3_mayDo_151 : decode cX3_mayDo 151 = .ok (.ireturn, 1) := dk_172 (dk_at dksX3_mayDo_4 19 rfl rfl)
abbrev cX3_wrongNumber : ByteArray := prog_32_method_73_code
def yX3_wrongNumber : MethodName := ⟨RX3, "wrongNumber", "(I)I"⟩
def dkwX3_wrongNumber_9 : List UInt8 := [153, 0, 7, 2, 167, 0, 4, 4, 172, 2, 172]
abbrev dktX3_wrongNumber_9 : List UInt8 := dkwX3_wrongNumber_9 ++ []
def dkwX3_wrongNumber_8 : List UInt8 := [167, 0, 4, 2, 172, 42, 28, 182, 0, 92, 154, 0, 7, 3, 167, 0, 18, 29, 3, 16, 7, 184, 0, 51]
abbrev dktX3_wrongNumber_8 : List UInt8 := dkwX3_wrongNumber_8 ++ dktX3_wrongNumber_9
def dkwX3_wrongNumber_7 : List UInt8 := [29, 3, 6, 184, 0, 51, 154, 0, 7, 4, 167, 0, 18, 21, 4, 4, 6, 184, 0, 51, 154, 0, 7, 5]
abbrev dktX3_wrongNumber_7 : List UInt8 := dkwX3_wrongNumber_7 ++ dktX3_wrongNumber_8
def dkwX3_wrongNumber_6 : List UInt8 := [182, 0, 92, 153, 0, 7, 2, 167, 0, 4, 3, 172, 42, 28, 182, 0, 92, 154, 0, 7, 3, 167, 0, 31]
abbrev dktX3_wrongNumber_6 : List UInt8 := dkwX3_wrongNumber_6 ++ dktX3_wrongNumber_7
def dkwX3_wrongNumber_5 : List UInt8 := [167, 0, 4, 2, 172, 28, 4, 16, 48, 184, 0, 51, 153, 0, 7, 2, 167, 0, 4, 3, 172, 42, 28]
abbrev dktX3_wrongNumber_5 : List UInt8 := dkwX3_wrongNumber_5 ++ dktX3_wrongNumber_6
def dkwX3_wrongNumber_4 : List UInt8 := [184, 0, 51, 154, 0, 7, 4, 167, 0, 19, 21, 4, 4, 16, 9, 184, 0, 51, 154, 0, 7, 5]
abbrev dktX3_wrongNumber_4 : List UInt8 := dkwX3_wrongNumber_4 ++ dktX3_wrongNumber_5
def dkwX3_wrongNumber_3 : List UInt8 := [28, 3, 42, 180, 0, 9, 4, 46, 4, 100, 184, 0, 51, 154, 0, 7, 3, 167, 0, 33, 29, 4, 16, 9]
abbrev dktX3_wrongNumber_3 : List UInt8 := dkwX3_wrongNumber_3 ++ dktX3_wrongNumber_4
def dkwX3_wrongNumber_2 : List UInt8 := [170, 0, 0, 0, 0, 220, 0, 0, 0, 99, 0, 0, 0, 112, 0, 0, 0, 137, 0, 0, 0, 220, 0, 0, 0, 220, 0, 0, 0, 220, 0, 0, 0, 151, 0, 0, 0, 121, 0, 0, 0, 220, 0, 0, 0, 220, 0, 0, 0, 192, 0, 0, 0, 220, 0, 0, 0, 220, 0, 0, 0, 220, 0, 0, 0, 220, 0, 0, 0, 70]
abbrev dktX3_wrongNumber_2 : List UInt8 := dkwX3_wrongNumber_2 ++ dktX3_wrongNumber_3
def dkwX3_wrongNumber_1 : List UInt8 := [96, 46, 54, 4, 42, 180, 0, 35, 27, 46]
abbrev dktX3_wrongNumber_1 : List UInt8 := dkwX3_wrongNumber_1 ++ dktX3_wrongNumber_2
def dkwX3_wrongNumber_0 : List UInt8 := [42, 180, 0, 35, 27, 4, 96, 46, 61, 42, 180, 0, 35, 27, 5, 96, 46, 62, 42, 180, 0, 35, 27, 6]
abbrev dktX3_wrongNumber_0 : List UInt8 := dkwX3_wrongNumber_0 ++ dktX3_wrongNumber_1
theorem dksX3_wrongNumber_0 : cX3_wrongNumber.data.toList.drop 0 = dktX3_wrongNumber_0 := by decide +kernel
theorem dksX3_wrongNumber_1 : cX3_wrongNumber.data.toList.drop 24 = dktX3_wrongNumber_1 := dk_seg dksX3_wrongNumber_0 24 rfl rfl
theorem dksX3_wrongNumber_2 : cX3_wrongNumber.data.toList.drop 34 = dktX3_wrongNumber_2 := dk_seg dksX3_wrongNumber_1 10 rfl rfl
theorem dksX3_wrongNumber_3 : cX3_wrongNumber.data.toList.drop 104 = dktX3_wrongNumber_3 := dk_seg dksX3_wrongNumber_2 70 rfl rfl
theorem dksX3_wrongNumber_4 : cX3_wrongNumber.data.toList.drop 128 = dktX3_wrongNumber_4 := dk_seg dksX3_wrongNumber_3 24 rfl rfl
theorem dksX3_wrongNumber_5 : cX3_wrongNumber.data.toList.drop 150 = dktX3_wrongNumber_5 := dk_seg dksX3_wrongNumber_4 22 rfl rfl
theorem dksX3_wrongNumber_6 : cX3_wrongNumber.data.toList.drop 173 = dktX3_wrongNumber_6 := dk_seg dksX3_wrongNumber_5 23 rfl rfl
theorem dksX3_wrongNumber_7 : cX3_wrongNumber.data.toList.drop 197 = dktX3_wrongNumber_7 := dk_seg dksX3_wrongNumber_6 24 rfl rfl
theorem dksX3_wrongNumber_8 : cX3_wrongNumber.data.toList.drop 221 = dktX3_wrongNumber_8 := dk_seg dksX3_wrongNumber_7 24 rfl rfl
theorem dksX3_wrongNumber_9 : cX3_wrongNumber.data.toList.drop 245 = dktX3_wrongNumber_9 := dk_seg dksX3_wrongNumber_8 24 rfl rfl
theorem dX3_wrongNumber_0 : decode cX3_wrongNumber 0 = .ok (.aload_n 0, 1) := dk_42 (dk_at dksX3_wrongNumber_0 0 rfl rfl)
theorem dX3_wrongNumber_1 : decode cX3_wrongNumber 1 = .ok (.getfield 35, 3) := dk_180 0 35 (dk_at dksX3_wrongNumber_0 1 rfl rfl)
theorem dX3_wrongNumber_4 : decode cX3_wrongNumber 4 = .ok (.iload_n 1, 1) := dk_27 (dk_at dksX3_wrongNumber_0 4 rfl rfl)
theorem dX3_wrongNumber_5 : decode cX3_wrongNumber 5 = .ok (.iconst 1, 1) := dk_4 (dk_at dksX3_wrongNumber_0 5 rfl rfl)
theorem dX3_wrongNumber_6 : decode cX3_wrongNumber 6 = .ok (.iadd, 1) := dk_96 (dk_at dksX3_wrongNumber_0 6 rfl rfl)
theorem dX3_wrongNumber_7 : decode cX3_wrongNumber 7 = .ok (.iaload, 1) := dk_46 (dk_at dksX3_wrongNumber_0 7 rfl rfl)
theorem dX3_wrongNumber_8 : decode cX3_wrongNumber 8 = .ok (.istore_n 2, 1) := dk_61 (dk_at dksX3_wrongNumber_0 8 rfl rfl)
theorem dX3_wrongNumber_9 : decode cX3_wrongNumber 9 = .ok (.aload_n 0, 1) := dk_42 (dk_at dksX3_wrongNumber_0 9 rfl rfl)
theorem dX3_wrongNumber_10 : decode cX3_wrongNumber 10 = .ok (.getfield 35, 3) := dk_180 0 35 (dk_at dksX3_wrongNumber_0 10 rfl rfl)
theorem dX3_wrongNumber_13 : decode cX3_wrongNumber 13 = .ok (.iload_n 1, 1) := dk_27 (dk_at dksX3_wrongNumber_0 13 rfl rfl)
theorem dX3_wrongNumber_14 : decode cX3_wrongNumber 14 = .ok (.iconst 2, 1) := dk_5 (dk_at dksX3_wrongNumber_0 14 rfl rfl)
theorem dX3_wrongNumber_15 : decode cX3_wrongNumber 15 = .ok (.iadd, 1) := dk_96 (dk_at dksX3_wrongNumber_0 15 rfl rfl)
theorem dX3_wrongNumber_16 : decode cX3_wrongNumber 16 = .ok (.iaload, 1) := dk_46 (dk_at dksX3_wrongNumber_0 16 rfl rfl)
theorem dX3_wrongNumber_17 : decode cX3_wrongNumber 17 = .ok (.istore_n 3, 1) := dk_62 (dk_at dksX3_wrongNumber_0 17 rfl rfl)
theorem dX3_wrongNumber_18 : decode cX3_wrongNumber 18 = .ok (.aload_n 0, 1) := dk_42 (dk_at dksX3_wrongNumber_0 18 rfl rfl)
theorem dX3_wrongNumber_19 : decode cX3_wrongNumber 19 = .ok (.getfield 35, 3) := dk_180 0 35 (dk_at dksX3_wrongNumber_0 19 rfl rfl)
theorem dX3_wrongNumber_22 : decode cX3_wrongNumber 22 = .ok (.iload_n 1, 1) := dk_27 (dk_at dksX3_wrongNumber_0 22 rfl rfl)
theorem dX3_wrongNumber_23 : decode cX3_wrongNumber 23 = .ok (.iconst 3, 1) := dk_6 (dk_at dksX3_wrongNumber_0 23 rfl rfl)
theorem dX3_wrongNumber_24 : decode cX3_wrongNumber 24 = .ok (.iadd, 1) := dk_96 (dk_at dksX3_wrongNumber_1 0 rfl rfl)
theorem dX3_wrongNumber_25 : decode cX3_wrongNumber 25 = .ok (.iaload, 1) := dk_46 (dk_at dksX3_wrongNumber_1 1 rfl rfl)
theorem dX3_wrongNumber_26 : decode cX3_wrongNumber 26 = .ok (.istore 4, 2) := dk_54 4 (dk_at dksX3_wrongNumber_1 2 rfl rfl)
theorem dX3_wrongNumber_28 : decode cX3_wrongNumber 28 = .ok (.aload_n 0, 1) := dk_42 (dk_at dksX3_wrongNumber_1 4 rfl rfl)
theorem dX3_wrongNumber_29 : decode cX3_wrongNumber 29 = .ok (.getfield 35, 3) := dk_180 0 35 (dk_at dksX3_wrongNumber_1 5 rfl rfl)
theorem dX3_wrongNumber_32 : decode cX3_wrongNumber 32 = .ok (.iload_n 1, 1) := dk_27 (dk_at dksX3_wrongNumber_1 8 rfl rfl)
theorem dX3_wrongNumber_33 : decode cX3_wrongNumber 33 = .ok (.iaload, 1) := dk_46 (dk_at dksX3_wrongNumber_1 9 rfl rfl)
theorem dX3_wrongNumber_34 : decode cX3_wrongNumber 34 = .ok (.tableswitch 220 99 112 #[137, 220, 220, 220, 151, 121, 220, 220, 192, 220, 220, 220, 220, 70], 70) := by decide +kernel
theorem dX3_wrongNumber_104 : decode cX3_wrongNumber 104 = .ok (.iload_n 2, 1) := dk_28 (dk_at dksX3_wrongNumber_3 0 rfl rfl)
theorem dX3_wrongNumber_105 : decode cX3_wrongNumber 105 = .ok (.iconst 0, 1) := dk_3 (dk_at dksX3_wrongNumber_3 1 rfl rfl)
theorem dX3_wrongNumber_106 : decode cX3_wrongNumber 106 = .ok (.aload_n 0, 1) := dk_42 (dk_at dksX3_wrongNumber_3 2 rfl rfl)
theorem dX3_wrongNumber_107 : decode cX3_wrongNumber 107 = .ok (.getfield 9, 3) := dk_180 0 9 (dk_at dksX3_wrongNumber_3 3 rfl rfl)
theorem dX3_wrongNumber_110 : decode cX3_wrongNumber 110 = .ok (.iconst 1, 1) := dk_4 (dk_at dksX3_wrongNumber_3 6 rfl rfl)
theorem dX3_wrongNumber_111 : decode cX3_wrongNumber 111 = .ok (.iaload, 1) := dk_46 (dk_at dksX3_wrongNumber_3 7 rfl rfl)
theorem dX3_wrongNumber_112 : decode cX3_wrongNumber 112 = .ok (.iconst 1, 1) := dk_4 (dk_at dksX3_wrongNumber_3 8 rfl rfl)
theorem dX3_wrongNumber_113 : decode cX3_wrongNumber 113 = .ok (.isub, 1) := dk_100 (dk_at dksX3_wrongNumber_3 9 rfl rfl)
theorem dX3_wrongNumber_114 : decode cX3_wrongNumber 114 = .ok (.invokestatic 51, 3) := dk_184 0 51 (dk_at dksX3_wrongNumber_3 10 rfl rfl)
theorem dX3_wrongNumber_117 : decode cX3_wrongNumber 117 = .ok (.ifCond .ne 7, 3) := dk_154 0 7 (dk_at dksX3_wrongNumber_3 13 rfl rfl)
theorem dX3_wrongNumber_120 : decode cX3_wrongNumber 120 = .ok (.iconst 0, 1) := dk_3 (dk_at dksX3_wrongNumber_3 16 rfl rfl)
theorem dX3_wrongNumber_121 : decode cX3_wrongNumber 121 = .ok (.goto 33, 3) := dk_167 0 33 (dk_at dksX3_wrongNumber_3 17 rfl rfl)
theorem dX3_wrongNumber_124 : decode cX3_wrongNumber 124 = .ok (.iload_n 3, 1) := dk_29 (dk_at dksX3_wrongNumber_3 20 rfl rfl)
theorem dX3_wrongNumber_125 : decode cX3_wrongNumber 125 = .ok (.iconst 1, 1) := dk_4 (dk_at dksX3_wrongNumber_3 21 rfl rfl)
theorem dX3_wrongNumber_126 : decode cX3_wrongNumber 126 = .ok (.bipush 9, 2) := dk_16 9 (dk_at dksX3_wrongNumber_3 22 rfl rfl)
theorem dX3_wrongNumber_128 : decode cX3_wrongNumber 128 = .ok (.invokestatic 51, 3) := dk_184 0 51 (dk_at dksX3_wrongNumber_4 0 rfl rfl)
theorem dX3_wrongNumber_131 : decode cX3_wrongNumber 131 = .ok (.ifCond .ne 7, 3) := dk_154 0 7 (dk_at dksX3_wrongNumber_4 3 rfl rfl)
theorem dX3_wrongNumber_134 : decode cX3_wrongNumber 134 = .ok (.iconst 1, 1) := dk_4 (dk_at dksX3_wrongNumber_4 6 rfl rfl)
theorem dX3_wrongNumber_135 : decode cX3_wrongNumber 135 = .ok (.goto 19, 3) := dk_167 0 19 (dk_at dksX3_wrongNumber_4 7 rfl rfl)
theorem dX3_wrongNumber_138 : decode cX3_wrongNumber 138 = .ok (.iload 4, 2) := dk_21 4 (dk_at dksX3_wrongNumber_4 10 rfl rfl)
theorem dX3_wrongNumber_140 : decode cX3_wrongNumber 140 = .ok (.iconst 1, 1) := dk_4 (dk_at dksX3_wrongNumber_4 12 rfl rfl)
theorem dX3_wrongNumber_141 : decode cX3_wrongNumber 141 = .ok (.bipush 9, 2) := dk_16 9 (dk_at dksX3_wrongNumber_4 13 rfl rfl)
theorem dX3_wrongNumber_143 : decode cX3_wrongNumber 143 = .ok (.invokestatic 51, 3) := dk_184 0 51 (dk_at dksX3_wrongNumber_4 15 rfl rfl)
theorem dX3_wrongNumber_146 : decode cX3_wrongNumber 146 = .ok (.ifCond .ne 7, 3) := dk_154 0 7 (dk_at dksX3_wrongNumber_4 18 rfl rfl)
theorem dX3_wrongNumber_149 : decode cX3_wrongNumber 149 = .ok (.iconst 2, 1) := dk_5 (dk_at dksX3_wrongNumber_4 21 rfl rfl)
theorem dX3_wrongNumber_150 : decode cX3_wrongNumber 150 = .ok (.goto 4, 3) := dk_167 0 4 (dk_at dksX3_wrongNumber_5 0 rfl rfl)
theorem dX3_wrongNumber_153 : decode cX3_wrongNumber 153 = .ok (.iconst (-1), 1) := dk_2 (dk_at dksX3_wrongNumber_5 3 rfl rfl)
theorem dX3_wrongNumber_154 : decode cX3_wrongNumber 154 = .ok (.ireturn, 1) := dk_172 (dk_at dksX3_wrongNumber_5 4 rfl rfl)
theorem dX3_wrongNumber_155 : decode cX3_wrongNumber 155 = .ok (.iload_n 2, 1) := dk_28 (dk_at dksX3_wrongNumber_5 5 rfl rfl)
theorem dX3_wrongNumber_156 : decode cX3_wrongNumber 156 = .ok (.iconst 1, 1) := dk_4 (dk_at dksX3_wrongNumber_5 6 rfl rfl)
theorem dX3_wrongNumber_157 : decode cX3_wrongNumber 157 = .ok (.bipush 48, 2) := dk_16 48 (dk_at dksX3_wrongNumber_5 7 rfl rfl)
theorem dX3_wrongNumber_159 : decode cX3_wrongNumber 159 = .ok (.invokestatic 51, 3) := dk_184 0 51 (dk_at dksX3_wrongNumber_5 9 rfl rfl)
theorem dX3_wrongNumber_162 : decode cX3_wrongNumber 162 = .ok (.ifCond .eq 7, 3) := dk_153 0 7 (dk_at dksX3_wrongNumber_5 12 rfl rfl)
theorem dX3_wrongNumber_165 : decode cX3_wrongNumber 165 = .ok (.iconst (-1), 1) := dk_2 (dk_at dksX3_wrongNumber_5 15 rfl rfl)
theorem dX3_wrongNumber_166 : decode cX3_wrongNumber 166 = .ok (.goto 4, 3) := dk_167 0 4 (dk_at dksX3_wrongNumber_5 16 rfl rfl)
theorem dX3_wrongNumber_169 : decode cX3_wrongNumber 169 = .ok (.iconst 0, 1) := dk_3 (dk_at dksX3_wrongNumber_5 19 rfl rfl)
theorem dX3_wrongNumber_170 : decode cX3_wrongNumber 170 = .ok (.ireturn, 1) := dk_172 (dk_at dksX3_wrongNumber_5 20 rfl rfl)
theorem dX3_wrongNumber_171 : decode cX3_wrongNumber 171 = .ok (.aload_n 0, 1) := dk_42 (dk_at dksX3_wrongNumber_5 21 rfl rfl)
theorem dX3_wrongNumber_172 : decode cX3_wrongNumber 172 = .ok (.iload_n 2, 1) := dk_28 (dk_at dksX3_wrongNumber_5 22 rfl rfl)
theorem dX3_wrongNumber_173 : decode cX3_wrongNumber 173 = .ok (.invokevirtual 92, 3) := dk_182 0 92 (dk_at dksX3_wrongNumber_6 0 rfl rfl)
theorem dX3_wrongNumber_176 : decode cX3_wrongNumber 176 = .ok (.ifCond .eq 7, 3) := dk_153 0 7 (dk_at dksX3_wrongNumber_6 3 rfl rfl)
theorem dX3_wrongNumber_179 : decode cX3_wrongNumber 179 = .ok (.iconst (-1), 1) := dk_2 (dk_at dksX3_wrongNumber_6 6 rfl rfl)
theorem dX3_wrongNumber_180 : decode cX3_wrongNumber 180 = .ok (.goto 4, 3) := dk_167 0 4 (dk_at dksX3_wrongNumber_6 7 rfl rfl)
theorem dX3_wrongNumber_183 : decode cX3_wrongNumber 183 = .ok (.iconst 0, 1) := dk_3 (dk_at dksX3_wrongNumber_6 10 rfl rfl)
theorem dX3_wrongNumber_184 : decode cX3_wrongNumber 184 = .ok (.ireturn, 1) := dk_172 (dk_at dksX3_wrongNumber_6 11 rfl rfl)
theorem dX3_wrongNumber_185 : decode cX3_wrongNumber 185 = .ok (.aload_n 0, 1) := dk_42 (dk_at dksX3_wrongNumber_6 12 rfl rfl)
theorem dX3_wrongNumber_186 : decode cX3_wrongNumber 186 = .ok (.iload_n 2, 1) := dk_28 (dk_at dksX3_wrongNumber_6 13 rfl rfl)
theorem dX3_wrongNumber_187 : decode cX3_wrongNumber 187 = .ok (.invokevirtual 92, 3) := dk_182 0 92 (dk_at dksX3_wrongNumber_6 14 rfl rfl)
theorem dX3_wrongNumber_190 : decode cX3_wrongNumber 190 = .ok (.ifCond .ne 7, 3) := dk_154 0 7 (dk_at dksX3_wrongNumber_6 17 rfl rfl)
theorem dX3_wrongNumber_193 : decode cX3_wrongNumber 193 = .ok (.iconst 0, 1) := dk_3 (dk_at dksX3_wrongNumber_6 20 rfl rfl)
theorem dX3_wrongNumber_194 : decode cX3_wrongNumber 194 = .ok (.goto 31, 3) := dk_167 0 31 (dk_at dksX3_wrongNumber_6 21 rfl rfl)
theorem dX3_wrongNumber_197 : decode cX3_wrongNumber 197 = .ok (.iload_n 3, 1) := dk_29 (dk_at dksX3_wrongNumber_7 0 rfl rfl)
theorem dX3_wrongNumber_198 : decode cX3_wrongNumber 198 = .ok (.iconst 0, 1) := dk_3 (dk_at dksX3_wrongNumber_7 1 rfl rfl)
theorem dX3_wrongNumber_199 : decode cX3_wrongNumber 199 = .ok (.iconst 3, 1) := dk_6 (dk_at dksX3_wrongNumber_7 2 rfl rfl)
theorem dX3_wrongNumber_200 : decode cX3_wrongNumber 200 = .ok (.invokestatic 51, 3) := dk_184 0 51 (dk_at dksX3_wrongNumber_7 3 rfl rfl)
theorem dX3_wrongNumber_203 : decode cX3_wrongNumber 203 = .ok (.ifCond .ne 7, 3) := dk_154 0 7 (dk_at dksX3_wrongNumber_7 6 rfl rfl)
theorem dX3_wrongNumber_206 : decode cX3_wrongNumber 206 = .ok (.iconst 1, 1) := dk_4 (dk_at dksX3_wrongNumber_7 9 rfl rfl)
theorem dX3_wrongNumber_207 : decode cX3_wrongNumber 207 = .ok (.goto 18, 3) := dk_167 0 18 (dk_at dksX3_wrongNumber_7 10 rfl rfl)
theorem dX3_wrongNumber_210 : decode cX3_wrongNumber 210 = .ok (.iload 4, 2) := dk_21 4 (dk_at dksX3_wrongNumber_7 13 rfl rfl)
theorem dX3_wrongNumber_212 : decode cX3_wrongNumber 212 = .ok (.iconst 1, 1) := dk_4 (dk_at dksX3_wrongNumber_7 15 rfl rfl)
theorem dX3_wrongNumber_213 : decode cX3_wrongNumber 213 = .ok (.iconst 3, 1) := dk_6 (dk_at dksX3_wrongNumber_7 16 rfl rfl)
theorem dX3_wrongNumber_214 : decode cX3_wrongNumber 214 = .ok (.invokestatic 51, 3) := dk_184 0 51 (dk_at dksX3_wrongNumber_7 17 rfl rfl)
theorem dX3_wrongNumber_217 : decode cX3_wrongNumber 217 = .ok (.ifCond .ne 7, 3) := dk_154 0 7 (dk_at dksX3_wrongNumber_7 20 rfl rfl)
theorem dX3_wrongNumber_220 : decode cX3_wrongNumber 220 = .ok (.iconst 2, 1) := dk_5 (dk_at dksX3_wrongNumber_7 23 rfl rfl)
theorem dX3_wrongNumber_221 : decode cX3_wrongNumber 221 = .ok (.goto 4, 3) := dk_167 0 4 (dk_at dksX3_wrongNumber_8 0 rfl rfl)
theorem dX3_wrongNumber_224 : decode cX3_wrongNumber 224 = .ok (.iconst (-1), 1) := dk_2 (dk_at dksX3_wrongNumber_8 3 rfl rfl)
theorem dX3_wrongNumber_225 : decode cX3_wrongNumber 225 = .ok (.ireturn, 1) := dk_172 (dk_at dksX3_wrongNumber_8 4 rfl rfl)
theorem dX3_wrongNumber_226 : decode cX3_wrongNumber 226 = .ok (.aload_n 0, 1) := dk_42 (dk_at dksX3_wrongNumber_8 5 rfl rfl)
theorem dX3_wrongNumber_227 : decode cX3_wrongNumber 227 = .ok (.iload_n 2, 1) := dk_28 (dk_at dksX3_wrongNumber_8 6 rfl rfl)
theorem dX3_wrongNumber_228 : decode cX3_wrongNumber 228 = .ok (.invokevirtual 92, 3) := dk_182 0 92 (dk_at dksX3_wrongNumber_8 7 rfl rfl)
theorem dX3_wrongNumber_231 : decode cX3_wrongNumber 231 = .ok (.ifCond .ne 7, 3) := dk_154 0 7 (dk_at dksX3_wrongNumber_8 10 rfl rfl)
theorem dX3_wrongNumber_234 : decode cX3_wrongNumber 234 = .ok (.iconst 0, 1) := dk_3 (dk_at dksX3_wrongNumber_8 13 rfl rfl)
theorem dX3_wrongNumber_235 : decode cX3_wrongNumber 235 = .ok (.goto 18, 3) := dk_167 0 18 (dk_at dksX3_wrongNumber_8 14 rfl rfl)
theorem dX3_wrongNumber_238 : decode cX3_wrongNumber 238 = .ok (.iload_n 3, 1) := dk_29 (dk_at dksX3_wrongNumber_8 17 rfl rfl)
theorem dX3_wrongNumber_239 : decode cX3_wrongNumber 239 = .ok (.iconst 0, 1) := dk_3 (dk_at dksX3_wrongNumber_8 18 rfl rfl)
theorem dX3_wrongNumber_240 : decode cX3_wrongNumber 240 = .ok (.bipush 7, 2) := dk_16 7 (dk_at dksX3_wrongNumber_8 19 rfl rfl)
theorem dX3_wrongNumber_242 : decode cX3_wrongNumber 242 = .ok (.invokestatic 51, 3) := dk_184 0 51 (dk_at dksX3_wrongNumber_8 21 rfl rfl)
theorem dX3_wrongNumber_245 : decode cX3_wrongNumber 245 = .ok (.ifCond .eq 7, 3) := dk_153 0 7 (dk_at dksX3_wrongNumber_9 0 rfl rfl)
theorem dX3_wrongNumber_248 : decode cX3_wrongNumber 248 = .ok (.iconst (-1), 1) := dk_2 (dk_at dksX3_wrongNumber_9 3 rfl rfl)
theorem dX3_wrongNumber_249 : decode cX3_wrongNumber 249 = .ok (.goto 4, 3) := dk_167 0 4 (dk_at dksX3_wrongNumber_9 4 rfl rfl)
theorem dX3_wrongNumber_252 : decode cX3_wrongNumber 252 = .ok (.iconst 1, 1) := dk_4 (dk_at dksX3_wrongNumber_9 7 rfl rfl)
theorem dX3_wrongNumber_253 : decode cX3_wrongNumber 253 = .ok (.ireturn, 1) := dk_172 (dk_at dksX3_wrongNumber_9 8 rfl rfl)
theorem dX3_wrongNumber_254 : decode cX3_wrongNumber 254 = .ok (.iconst (-1), 1) := dk_2 (dk_at dksX3_wrongNumber_9 9 rfl rfl)
theorem dX3_wrongNumber_255 : decode cX3_wrongNumber 255 = .ok (.ireturn, 1) := dk_172 (dk_at dksX3_wrongNumber_9 10 rfl rfl)
abbrev cX3_refusedAt : ByteArray := prog_32_method_10_code
def yX3_refusedAt : MethodName := ⟨RX3, "refusedAt", "(I)I"⟩
def dkwX3_refusedAt_2 : List UInt8 := [180, 0, 32, 28, 46, 79, 132, 2, 1, 167, 255, 229, 16, 251, 172]
abbrev dktX3_refusedAt_2 : List UInt8 := dkwX3_refusedAt_2 ++ []
def dkwX3_refusedAt_1 : List UInt8 := [181, 0, 58, 3, 61, 28, 5, 42, 180, 0, 55, 104, 162, 0, 23, 42, 180, 0, 29, 5, 28, 96, 42]
abbrev dktX3_refusedAt_1 : List UInt8 := dkwX3_refusedAt_1 ++ dktX3_refusedAt_2
def dkwX3_refusedAt_0 : List UInt8 := [42, 180, 0, 29, 3, 16, 18, 79, 42, 180, 0, 29, 4, 27, 79, 42, 4, 42, 180, 0, 55, 96]
abbrev dktX3_refusedAt_0 : List UInt8 := dkwX3_refusedAt_0 ++ dktX3_refusedAt_1
theorem dksX3_refusedAt_0 : cX3_refusedAt.data.toList.drop 0 = dktX3_refusedAt_0 := by decide +kernel
theorem dksX3_refusedAt_1 : cX3_refusedAt.data.toList.drop 22 = dktX3_refusedAt_1 := dk_seg dksX3_refusedAt_0 22 rfl rfl
theorem dksX3_refusedAt_2 : cX3_refusedAt.data.toList.drop 45 = dktX3_refusedAt_2 := dk_seg dksX3_refusedAt_1 23 rfl rfl
theorem dX3_refusedAt_0 : decode cX3_refusedAt 0 = .ok (.aload_n 0, 1) := dk_42 (dk_at dksX3_refusedAt_0 0 rfl rfl)
theorem dX3_refusedAt_1 : decode cX3_refusedAt 1 = .ok (.getfield 29, 3) := dk_180 0 29 (dk_at dksX3_refusedAt_0 1 rfl rfl)
theorem dX3_refusedAt_4 : decode cX3_refusedAt 4 = .ok (.iconst 0, 1) := dk_3 (dk_at dksX3_refusedAt_0 4 rfl rfl)
theorem dX3_refusedAt_5 : decode cX3_refusedAt 5 = .ok (.bipush 18, 2) := dk_16 18 (dk_at dksX3_refusedAt_0 5 rfl rfl)
theorem dX3_refusedAt_7 : decode cX3_refusedAt 7 = .ok (.iastore, 1) := dk_79 (dk_at dksX3_refusedAt_0 7 rfl rfl)
theorem dX3_refusedAt_8 : decode cX3_refusedAt 8 = .ok (.aload_n 0, 1) := dk_42 (dk_at dksX3_refusedAt_0 8 rfl rfl)
theorem dX3_refusedAt_9 : decode cX3_refusedAt 9 = .ok (.getfield 29, 3) := dk_180 0 29 (dk_at dksX3_refusedAt_0 9 rfl rfl)
theorem dX3_refusedAt_12 : decode cX3_refusedAt 12 = .ok (.iconst 1, 1) := dk_4 (dk_at dksX3_refusedAt_0 12 rfl rfl)
theorem dX3_refusedAt_13 : decode cX3_refusedAt 13 = .ok (.iload_n 1, 1) := dk_27 (dk_at dksX3_refusedAt_0 13 rfl rfl)
theorem dX3_refusedAt_14 : decode cX3_refusedAt 14 = .ok (.iastore, 1) := dk_79 (dk_at dksX3_refusedAt_0 14 rfl rfl)
theorem dX3_refusedAt_15 : decode cX3_refusedAt 15 = .ok (.aload_n 0, 1) := dk_42 (dk_at dksX3_refusedAt_0 15 rfl rfl)
theorem dX3_refusedAt_16 : decode cX3_refusedAt 16 = .ok (.iconst 1, 1) := dk_4 (dk_at dksX3_refusedAt_0 16 rfl rfl)
theorem dX3_refusedAt_17 : decode cX3_refusedAt 17 = .ok (.aload_n 0, 1) := dk_42 (dk_at dksX3_refusedAt_0 17 rfl rfl)
theorem dX3_refusedAt_18 : decode cX3_refusedAt 18 = .ok (.getfield 55, 3) := dk_180 0 55 (dk_at dksX3_refusedAt_0 18 rfl rfl)
theorem dX3_refusedAt_21 : decode cX3_refusedAt 21 = .ok (.iadd, 1) := dk_96 (dk_at dksX3_refusedAt_0 21 rfl rfl)
theorem dX3_refusedAt_22 : decode cX3_refusedAt 22 = .ok (.putfield 58, 3) := dk_181 0 58 (dk_at dksX3_refusedAt_1 0 rfl rfl)
theorem dX3_refusedAt_25 : decode cX3_refusedAt 25 = .ok (.iconst 0, 1) := dk_3 (dk_at dksX3_refusedAt_1 3 rfl rfl)
theorem dX3_refusedAt_26 : decode cX3_refusedAt 26 = .ok (.istore_n 2, 1) := dk_61 (dk_at dksX3_refusedAt_1 4 rfl rfl)
theorem dX3_refusedAt_27 : decode cX3_refusedAt 27 = .ok (.iload_n 2, 1) := dk_28 (dk_at dksX3_refusedAt_1 5 rfl rfl)
theorem dX3_refusedAt_28 : decode cX3_refusedAt 28 = .ok (.iconst 2, 1) := dk_5 (dk_at dksX3_refusedAt_1 6 rfl rfl)
theorem dX3_refusedAt_29 : decode cX3_refusedAt 29 = .ok (.aload_n 0, 1) := dk_42 (dk_at dksX3_refusedAt_1 7 rfl rfl)
theorem dX3_refusedAt_30 : decode cX3_refusedAt 30 = .ok (.getfield 55, 3) := dk_180 0 55 (dk_at dksX3_refusedAt_1 8 rfl rfl)
theorem dX3_refusedAt_33 : decode cX3_refusedAt 33 = .ok (.imul, 1) := dk_104 (dk_at dksX3_refusedAt_1 11 rfl rfl)
theorem dX3_refusedAt_34 : decode cX3_refusedAt 34 = .ok (.if_icmp .ge 23, 3) := dk_162 0 23 (dk_at dksX3_refusedAt_1 12 rfl rfl)
theorem dX3_refusedAt_37 : decode cX3_refusedAt 37 = .ok (.aload_n 0, 1) := dk_42 (dk_at dksX3_refusedAt_1 15 rfl rfl)
theorem dX3_refusedAt_38 : decode cX3_refusedAt 38 = .ok (.getfield 29, 3) := dk_180 0 29 (dk_at dksX3_refusedAt_1 16 rfl rfl)
theorem dX3_refusedAt_41 : decode cX3_refusedAt 41 = .ok (.iconst 2, 1) := dk_5 (dk_at dksX3_refusedAt_1 19 rfl rfl)
theorem dX3_refusedAt_42 : decode cX3_refusedAt 42 = .ok (.iload_n 2, 1) := dk_28 (dk_at dksX3_refusedAt_1 20 rfl rfl)
theorem dX3_refusedAt_43 : decode cX3_refusedAt 43 = .ok (.iadd, 1) := dk_96 (dk_at dksX3_refusedAt_1 21 rfl rfl)
theorem dX3_refusedAt_44 : decode cX3_refusedAt 44 = .ok (.aload_n 0, 1) := dk_42 (dk_at dksX3_refusedAt_1 22 rfl rfl)
theorem dX3_refusedAt_45 : decode cX3_refusedAt 45 = .ok (.getfield 32, 3) := dk_180 0 32 (dk_at dksX3_refusedAt_2 0 rfl rfl)
theorem dX3_refusedAt_48 : decode cX3_refusedAt 48 = .ok (.iload_n 2, 1) := dk_28 (dk_at dksX3_refusedAt_2 3 rfl rfl)
theorem dX3_refusedAt_49 : decode cX3_refusedAt 49 = .ok (.iaload, 1) := dk_46 (dk_at dksX3_refusedAt_2 4 rfl rfl)
theorem dX3_refusedAt_50 : decode cX3_refusedAt 50 = .ok (.iastore, 1) := dk_79 (dk_at dksX3_refusedAt_2 5 rfl rfl)
theorem dX3_refusedAt_51 : decode cX3_refusedAt 51 = .ok (.iinc 2 1, 3) := dk_132 2 1 (dk_at dksX3_refusedAt_2 6 rfl rfl)
theorem dX3_refusedAt_54 : decode cX3_refusedAt 54 = .ok (.goto (-27), 3) := dk_167 255 229 (dk_at dksX3_refusedAt_2 9 rfl rfl)
theorem dX3_refusedAt_57 : decode cX3_refusedAt 57 = .ok (.bipush (-5), 2) := dk_16 251 (dk_at dksX3_refusedAt_2 12 rfl rfl)
theorem dX3_refusedAt_59 : decode cX3_refusedAt 59 = .ok (.ireturn, 1) := dk_172 (dk_at dksX3_refusedAt_2 14 rfl rfl)
abbrev cX3_does : ByteArray := prog_32_method_75_code
def yX3_does : MethodName := ⟨RX3, "does", "(I)V"⟩
def dkwX3_does_5 : List UInt8 := [182, 0, 142, 181, 0, 222, 177]
abbrev dktX3_does_5 : List UInt8 := dkwX3_does_5 ++ []
def dkwX3_does_4 : List UInt8 := [180, 0, 35, 27, 6, 96, 46, 182, 0, 114, 167, 0, 20, 42, 28, 29, 182, 0, 123, 167, 0, 11, 42, 42]
abbrev dktX3_does_4 : List UInt8 := dkwX3_does_4 ++ dktX3_does_5
def dkwX3_does_3 : List UInt8 := [167, 0, 52, 42, 180, 0, 9, 28, 184, 0, 72, 8, 96, 29, 79, 167, 0, 37, 42, 28, 29, 42]
abbrev dktX3_does_3 : List UInt8 := dkwX3_does_3 ++ dktX3_does_4
def dkwX3_does_2 : List UInt8 := [42, 28, 29, 42, 180, 0, 35, 27, 6, 96, 46, 182, 0, 88, 167, 0, 60, 42, 28, 182, 0, 175]
abbrev dktX3_does_2 : List UInt8 := dkwX3_does_2 ++ dktX3_does_3
def dkwX3_does_1 : List UInt8 := [170, 0, 0, 0, 0, 0, 0, 138, 0, 0, 0, 99, 0, 0, 0, 112, 0, 0, 0, 97, 0, 0, 0, 138, 0, 0, 0, 138, 0, 0, 0, 138, 0, 0, 0, 112, 0, 0, 0, 89, 0, 0, 0, 138, 0, 0, 0, 138, 0, 0, 0, 129, 0, 0, 0, 138, 0, 0, 0, 138, 0, 0, 0, 138, 0, 0, 0, 138, 0, 0, 0, 72]
abbrev dktX3_does_1 : List UInt8 := dkwX3_does_1 ++ dktX3_does_2
def dkwX3_does_0 : List UInt8 := [42, 180, 0, 35, 27, 4, 96, 46, 61, 42, 180, 0, 35, 27, 5, 96, 46, 62, 42, 180, 0, 35, 27, 46]
abbrev dktX3_does_0 : List UInt8 := dkwX3_does_0 ++ dktX3_does_1
theorem dksX3_does_0 : cX3_does.data.toList.drop 0 = dktX3_does_0 := by decide +kernel
theorem dksX3_does_1 : cX3_does.data.toList.drop 24 = dktX3_does_1 := dk_seg dksX3_does_0 24 rfl rfl
theorem dksX3_does_2 : cX3_does.data.toList.drop 96 = dktX3_does_2 := dk_seg dksX3_does_1 72 rfl rfl
theorem dksX3_does_3 : cX3_does.data.toList.drop 118 = dktX3_does_3 := dk_seg dksX3_does_2 22 rfl rfl
theorem dksX3_does_4 : cX3_does.data.toList.drop 140 = dktX3_does_4 := dk_seg dksX3_does_3 22 rfl rfl
theorem dksX3_does_5 : cX3_does.data.toList.drop 164 = dktX3_does_5 := dk_seg dksX3_does_4 24 rfl rfl
theorem dX3_does_0 : decode cX3_does 0 = .ok (.aload_n 0, 1) := dk_42 (dk_at dksX3_does_0 0 rfl rfl)
theorem dX3_does_1 : decode cX3_does 1 = .ok (.getfield 35, 3) := dk_180 0 35 (dk_at dksX3_does_0 1 rfl rfl)
theorem dX3_does_4 : decode cX3_does 4 = .ok (.iload_n 1, 1) := dk_27 (dk_at dksX3_does_0 4 rfl rfl)
theorem dX3_does_5 : decode cX3_does 5 = .ok (.iconst 1, 1) := dk_4 (dk_at dksX3_does_0 5 rfl rfl)
theorem dX3_does_6 : decode cX3_does 6 = .ok (.iadd, 1) := dk_96 (dk_at dksX3_does_0 6 rfl rfl)
theorem dX3_does_7 : decode cX3_does 7 = .ok (.iaload, 1) := dk_46 (dk_at dksX3_does_0 7 rfl rfl)
theorem dX3_does_8 : decode cX3_does 8 = .ok (.istore_n 2, 1) := dk_61 (dk_at dksX3_does_0 8 rfl rfl)
theorem dX3_does_9 : decode cX3_does 9 = .ok (.aload_n 0, 1) := dk_42 (dk_at dksX3_does_0 9 rfl rfl)
theorem dX3_does_10 : decode cX3_does 10 = .ok (.getfield 35, 3) := dk_180 0 35 (dk_at dksX3_does_0 10 rfl rfl)
theorem dX3_does_13 : decode cX3_does 13 = .ok (.iload_n 1, 1) := dk_27 (dk_at dksX3_does_0 13 rfl rfl)
theorem dX3_does_14 : decode cX3_does 14 = .ok (.iconst 2, 1) := dk_5 (dk_at dksX3_does_0 14 rfl rfl)
theorem dX3_does_15 : decode cX3_does 15 = .ok (.iadd, 1) := dk_96 (dk_at dksX3_does_0 15 rfl rfl)
theorem dX3_does_16 : decode cX3_does 16 = .ok (.iaload, 1) := dk_46 (dk_at dksX3_does_0 16 rfl rfl)
theorem dX3_does_17 : decode cX3_does 17 = .ok (.istore_n 3, 1) := dk_62 (dk_at dksX3_does_0 17 rfl rfl)
theorem dX3_does_18 : decode cX3_does 18 = .ok (.aload_n 0, 1) := dk_42 (dk_at dksX3_does_0 18 rfl rfl)
theorem dX3_does_19 : decode cX3_does 19 = .ok (.getfield 35, 3) := dk_180 0 35 (dk_at dksX3_does_0 19 rfl rfl)
theorem dX3_does_22 : decode cX3_does 22 = .ok (.iload_n 1, 1) := dk_27 (dk_at dksX3_does_0 22 rfl rfl)
theorem dX3_does_23 : decode cX3_does 23 = .ok (.iaload, 1) := dk_46 (dk_at dksX3_does_0 23 rfl rfl)
theorem dX3_does_24 : decode cX3_does 24 = .ok (.tableswitch 138 99 112 #[97, 138, 138, 138, 112, 89, 138, 138, 129, 138, 138, 138, 138, 72], 72) := by decide +kernel
theorem dX3_does_96 : decode cX3_does 96 = .ok (.aload_n 0, 1) := dk_42 (dk_at dksX3_does_2 0 rfl rfl)
theorem dX3_does_97 : decode cX3_does 97 = .ok (.iload_n 2, 1) := dk_28 (dk_at dksX3_does_2 1 rfl rfl)
theorem dX3_does_98 : decode cX3_does 98 = .ok (.iload_n 3, 1) := dk_29 (dk_at dksX3_does_2 2 rfl rfl)
theorem dX3_does_99 : decode cX3_does 99 = .ok (.aload_n 0, 1) := dk_42 (dk_at dksX3_does_2 3 rfl rfl)
theorem dX3_does_100 : decode cX3_does 100 = .ok (.getfield 35, 3) := dk_180 0 35 (dk_at dksX3_does_2 4 rfl rfl)
theorem dX3_does_103 : decode cX3_does 103 = .ok (.iload_n 1, 1) := dk_27 (dk_at dksX3_does_2 7 rfl rfl)
theorem dX3_does_104 : decode cX3_does 104 = .ok (.iconst 3, 1) := dk_6 (dk_at dksX3_does_2 8 rfl rfl)
theorem dX3_does_105 : decode cX3_does 105 = .ok (.iadd, 1) := dk_96 (dk_at dksX3_does_2 9 rfl rfl)
theorem dX3_does_106 : decode cX3_does 106 = .ok (.iaload, 1) := dk_46 (dk_at dksX3_does_2 10 rfl rfl)
theorem dX3_does_107 : decode cX3_does 107 = .ok (.invokevirtual 88, 3) := dk_182 0 88 (dk_at dksX3_does_2 11 rfl rfl)
theorem dX3_does_110 : decode cX3_does 110 = .ok (.goto 60, 3) := dk_167 0 60 (dk_at dksX3_does_2 14 rfl rfl)
theorem dX3_does_113 : decode cX3_does 113 = .ok (.aload_n 0, 1) := dk_42 (dk_at dksX3_does_2 17 rfl rfl)
theorem dX3_does_114 : decode cX3_does 114 = .ok (.iload_n 2, 1) := dk_28 (dk_at dksX3_does_2 18 rfl rfl)
theorem dX3_does_115 : decode cX3_does 115 = .ok (.invokevirtual 175, 3) := dk_182 0 175 (dk_at dksX3_does_2 19 rfl rfl)
theorem dX3_does_118 : decode cX3_does 118 = .ok (.goto 52, 3) := dk_167 0 52 (dk_at dksX3_does_3 0 rfl rfl)
theorem dX3_does_121 : decode cX3_does 121 = .ok (.aload_n 0, 1) := dk_42 (dk_at dksX3_does_3 3 rfl rfl)
theorem dX3_does_122 : decode cX3_does 122 = .ok (.getfield 9, 3) := dk_180 0 9 (dk_at dksX3_does_3 4 rfl rfl)
theorem dX3_does_125 : decode cX3_does 125 = .ok (.iload_n 2, 1) := dk_28 (dk_at dksX3_does_3 7 rfl rfl)
theorem dX3_does_126 : decode cX3_does 126 = .ok (.invokestatic 72, 3) := dk_184 0 72 (dk_at dksX3_does_3 8 rfl rfl)
theorem dX3_does_129 : decode cX3_does 129 = .ok (.iconst 5, 1) := dk_8 (dk_at dksX3_does_3 11 rfl rfl)
theorem dX3_does_130 : decode cX3_does 130 = .ok (.iadd, 1) := dk_96 (dk_at dksX3_does_3 12 rfl rfl)
theorem dX3_does_131 : decode cX3_does 131 = .ok (.iload_n 3, 1) := dk_29 (dk_at dksX3_does_3 13 rfl rfl)
theorem dX3_does_132 : decode cX3_does 132 = .ok (.iastore, 1) := dk_79 (dk_at dksX3_does_3 14 rfl rfl)
theorem dX3_does_133 : decode cX3_does 133 = .ok (.goto 37, 3) := dk_167 0 37 (dk_at dksX3_does_3 15 rfl rfl)
theorem dX3_does_136 : decode cX3_does 136 = .ok (.aload_n 0, 1) := dk_42 (dk_at dksX3_does_3 18 rfl rfl)
theorem dX3_does_137 : decode cX3_does 137 = .ok (.iload_n 2, 1) := dk_28 (dk_at dksX3_does_3 19 rfl rfl)
theorem dX3_does_138 : decode cX3_does 138 = .ok (.iload_n 3, 1) := dk_29 (dk_at dksX3_does_3 20 rfl rfl)
theorem dX3_does_139 : decode cX3_does 139 = .ok (.aload_n 0, 1) := dk_42 (dk_at dksX3_does_3 21 rfl rfl)
theorem dX3_does_140 : decode cX3_does 140 = .ok (.getfield 35, 3) := dk_180 0 35 (dk_at dksX3_does_4 0 rfl rfl)
theorem dX3_does_143 : decode cX3_does 143 = .ok (.iload_n 1, 1) := dk_27 (dk_at dksX3_does_4 3 rfl rfl)
theorem dX3_does_144 : decode cX3_does 144 = .ok (.iconst 3, 1) := dk_6 (dk_at dksX3_does_4 4 rfl rfl)
theorem dX3_does_145 : decode cX3_does 145 = .ok (.iadd, 1) := dk_96 (dk_at dksX3_does_4 5 rfl rfl)
theorem dX3_does_146 : decode cX3_does 146 = .ok (.iaload, 1) := dk_46 (dk_at dksX3_does_4 6 rfl rfl)
theorem dX3_does_147 : decode cX3_does 147 = .ok (.invokevirtual 114, 3) := dk_182 0 114 (dk_at dksX3_does_4 7 rfl rfl)
theorem dX3_does_150 : decode cX3_does 150 = .ok (.goto 20, 3) := dk_167 0 20 (dk_at dksX3_does_4 10 rfl rfl)
theorem dX3_does_153 : decode cX3_does 153 = .ok (.aload_n 0, 1) := dk_42 (dk_at dksX3_does_4 13 rfl rfl)
theorem dX3_does_154 : decode cX3_does 154 = .ok (.iload_n 2, 1) := dk_28 (dk_at dksX3_does_4 14 rfl rfl)
theorem dX3_does_155 : decode cX3_does 155 = .ok (.iload_n 3, 1) := dk_29 (dk_at dksX3_does_4 15 rfl rfl)
theorem dX3_does_156 : decode cX3_does 156 = .ok (.invokevirtual 123, 3) := dk_182 0 123 (dk_at dksX3_does_4 16 rfl rfl)
theorem dX3_does_159 : decode cX3_does 159 = .ok (.goto 11, 3) := dk_167 0 11 (dk_at dksX3_does_4 19 rfl rfl)
theorem dX3_does_162 : decode cX3_does 162 = .ok (.aload_n 0, 1) := dk_42 (dk_at dksX3_does_4 22 rfl rfl)
theorem dX3_does_163 : decode cX3_does 163 = .ok (.aload_n 0, 1) := dk_42 (dk_at dksX3_does_4 23 rfl rfl)
theorem dX3_does_164 : decode cX3_does 164 = .ok (.invokevirtual 142, 3) := dk_182 0 142 (dk_at dksX3_does_5 0 rfl rfl)
theorem dX3_does_167 : decode cX3_does 167 = .ok (.putfield 222, 3) := dk_181 0 222 (dk_at dksX3_does_5 3 rfl rfl)
theorem dX3_does_170 : decode cX3_does 170 = .ok (.return_, 1) := dk_177 (dk_at dksX3_does_5 6 rfl rfl)
abbrev cX3_fault : ByteArray := prog_32_method_78_code
def yX3_fault : MethodName := ⟨RX3, "fault", "()I"⟩
def dkwX3_fault_0 : List UInt8 := [42, 180, 0, 25, 2, 160, 0, 8, 16, 253, 167, 0, 7, 42, 180, 0, 25, 172]
abbrev dktX3_fault_0 : List UInt8 := dkwX3_fault_0 ++ []
theorem dksX3_fault_0 : cX3_fault.data.toList.drop 0 = dktX3_fault_0 := by decide +kernel
theorem dX3_fault_0 : decode cX3_fault 0 = .ok (.aload_n 0, 1) := dk_42 (dk_at dksX3_fault_0 0 rfl rfl)
theorem dX3_fault_1 : decode cX3_fault 1 = .ok (.getfield 25, 3) := dk_180 0 25 (dk_at dksX3_fault_0 1 rfl rfl)
theorem dX3_fault_4 : decode cX3_fault 4 = .ok (.iconst (-1), 1) := dk_2 (dk_at dksX3_fault_0 4 rfl rfl)
theorem dX3_fault_5 : decode cX3_fault 5 = .ok (.if_icmp .ne 8, 3) := dk_160 0 8 (dk_at dksX3_fault_0 5 rfl rfl)
theorem dX3_fault_8 : decode cX3_fault 8 = .ok (.bipush (-3), 2) := dk_16 253 (dk_at dksX3_fault_0 8 rfl rfl)
theorem dX3_fault_10 : decode cX3_fault 10 = .ok (.goto 7, 3) := dk_167 0 7 (dk_at dksX3_fault_0 10 rfl rfl)
theorem dX3_fault_13 : decode cX3_fault 13 = .ok (.aload_n 0, 1) := dk_42 (dk_at dksX3_fault_0 13 rfl rfl)
theorem dX3_fault_14 : decode cX3_fault 14 = .ok (.getfield 25, 3) := dk_180 0 25 (dk_at dksX3_fault_0 14 rfl rfl)
theorem dX3_fault_17 : decode cX3_fault 17 = .ok (.ireturn, 1) := dk_172 (dk_at dksX3_fault_0 17 rfl rfl)
abbrev cX3_undo : ByteArray := prog_32_method_79_code
def yX3_undo : MethodName := ⟨RX3, "undo", "()I"⟩
def dkwX3_undo_1 : List UInt8 := [42, 180, 0, 44, 17, 4, 84, 104, 42, 180, 0, 9, 3, 184, 0, 47, 42, 180, 0, 44, 172]
abbrev dktX3_undo_1 : List UInt8 := dkwX3_undo_1 ++ []
def dkwX3_undo_0 : List UInt8 := [42, 180, 0, 44, 154, 0, 6, 16, 253, 172, 42, 89, 180, 0, 44, 4, 100, 181, 0, 44, 42, 180, 0, 13]
abbrev dktX3_undo_0 : List UInt8 := dkwX3_undo_0 ++ dktX3_undo_1
theorem dksX3_undo_0 : cX3_undo.data.toList.drop 0 = dktX3_undo_0 := by decide +kernel
theorem dksX3_undo_1 : cX3_undo.data.toList.drop 24 = dktX3_undo_1 := dk_seg dksX3_undo_0 24 rfl rfl
theorem dX3_undo_0 : decode cX3_undo 0 = .ok (.aload_n 0, 1) := dk_42 (dk_at dksX3_undo_0 0 rfl rfl)
theorem dX3_undo_1 : decode cX3_undo 1 = .ok (.getfield 44, 3) := dk_180 0 44 (dk_at dksX3_undo_0 1 rfl rfl)
theorem dX3_undo_4 : decode cX3_undo 4 = .ok (.ifCond .ne 6, 3) := dk_154 0 6 (dk_at dksX3_undo_0 4 rfl rfl)
theorem dX3_undo_7 : decode cX3_undo 7 = .ok (.bipush (-3), 2) := dk_16 253 (dk_at dksX3_undo_0 7 rfl rfl)
theorem dX3_undo_9 : decode cX3_undo 9 = .ok (.ireturn, 1) := dk_172 (dk_at dksX3_undo_0 9 rfl rfl)
theorem dX3_undo_10 : decode cX3_undo 10 = .ok (.aload_n 0, 1) := dk_42 (dk_at dksX3_undo_0 10 rfl rfl)
theorem dX3_undo_11 : decode cX3_undo 11 = .ok (.dup, 1) := dk_89 (dk_at dksX3_undo_0 11 rfl rfl)
theorem dX3_undo_12 : decode cX3_undo 12 = .ok (.getfield 44, 3) := dk_180 0 44 (dk_at dksX3_undo_0 12 rfl rfl)
theorem dX3_undo_15 : decode cX3_undo 15 = .ok (.iconst 1, 1) := dk_4 (dk_at dksX3_undo_0 15 rfl rfl)
theorem dX3_undo_16 : decode cX3_undo 16 = .ok (.isub, 1) := dk_100 (dk_at dksX3_undo_0 16 rfl rfl)
theorem dX3_undo_17 : decode cX3_undo 17 = .ok (.putfield 44, 3) := dk_181 0 44 (dk_at dksX3_undo_0 17 rfl rfl)
theorem dX3_undo_20 : decode cX3_undo 20 = .ok (.aload_n 0, 1) := dk_42 (dk_at dksX3_undo_0 20 rfl rfl)
theorem dX3_undo_21 : decode cX3_undo 21 = .ok (.getfield 13, 3) := dk_180 0 13 (dk_at dksX3_undo_0 21 rfl rfl)
theorem dX3_undo_24 : decode cX3_undo 24 = .ok (.aload_n 0, 1) := dk_42 (dk_at dksX3_undo_1 0 rfl rfl)
theorem dX3_undo_25 : decode cX3_undo 25 = .ok (.getfield 44, 3) := dk_180 0 44 (dk_at dksX3_undo_1 1 rfl rfl)
theorem dX3_undo_28 : decode cX3_undo 28 = .ok (.sipush 1108, 3) := dk_17 4 84 (dk_at dksX3_undo_1 4 rfl rfl)
theorem dX3_undo_31 : decode cX3_undo 31 = .ok (.imul, 1) := dk_104 (dk_at dksX3_undo_1 7 rfl rfl)
theorem dX3_undo_32 : decode cX3_undo 32 = .ok (.aload_n 0, 1) := dk_42 (dk_at dksX3_undo_1 8 rfl rfl)
theorem dX3_undo_33 : decode cX3_undo 33 = .ok (.getfield 9, 3) := dk_180 0 9 (dk_at dksX3_undo_1 9 rfl rfl)
theorem dX3_undo_36 : decode cX3_undo 36 = .ok (.iconst 0, 1) := dk_3 (dk_at dksX3_undo_1 12 rfl rfl)
theorem dX3_undo_37 : decode cX3_undo 37 = .ok (.invokestatic 47, 3) := dk_184 0 47 (dk_at dksX3_undo_1 13 rfl rfl)
theorem dX3_undo_40 : decode cX3_undo 40 = .ok (.aload_n 0, 1) := dk_42 (dk_at dksX3_undo_1 16 rfl rfl)
theorem dX3_undo_41 : decode cX3_undo 41 = .ok (.getfield 44, 3) := dk_180 0 44 (dk_at dksX3_undo_1 17 rfl rfl)
theorem dX3_undo_44 : decode cX3_undo 44 = .ok (.ireturn, 1) := dk_172 (dk_at dksX3_undo_1 20 rfl rfl)
abbrev cX3_save : ByteArray := prog_32_method_80_code
def yX3_save : MethodName := ⟨RX3, "save", "()I"⟩
def dkwX3_save_1 : List UInt8 := [172]
abbrev dktX3_save_1 : List UInt8 := dkwX3_save_1 ++ []
def dkwX3_save_0 : List UInt8 := [42, 180, 0, 9, 3, 42, 180, 0, 16, 3, 184, 0, 47, 42, 4, 181, 0, 240, 42, 180, 0, 9, 5, 46]
abbrev dktX3_save_0 : List UInt8 := dkwX3_save_0 ++ dktX3_save_1
theorem dksX3_save_0 : cX3_save.data.toList.drop 0 = dktX3_save_0 := by decide +kernel
theorem dksX3_save_1 : cX3_save.data.toList.drop 24 = dktX3_save_1 := dk_seg dksX3_save_0 24 rfl rfl
theorem dX3_save_0 : decode cX3_save 0 = .ok (.aload_n 0, 1) := dk_42 (dk_at dksX3_save_0 0 rfl rfl)
theorem dX3_save_1 : decode cX3_save 1 = .ok (.getfield 9, 3) := dk_180 0 9 (dk_at dksX3_save_0 1 rfl rfl)
theorem dX3_save_4 : decode cX3_save 4 = .ok (.iconst 0, 1) := dk_3 (dk_at dksX3_save_0 4 rfl rfl)
theorem dX3_save_5 : decode cX3_save 5 = .ok (.aload_n 0, 1) := dk_42 (dk_at dksX3_save_0 5 rfl rfl)
theorem dX3_save_6 : decode cX3_save 6 = .ok (.getfield 16, 3) := dk_180 0 16 (dk_at dksX3_save_0 6 rfl rfl)
theorem dX3_save_9 : decode cX3_save 9 = .ok (.iconst 0, 1) := dk_3 (dk_at dksX3_save_0 9 rfl rfl)
theorem dX3_save_10 : decode cX3_save 10 = .ok (.invokestatic 47, 3) := dk_184 0 47 (dk_at dksX3_save_0 10 rfl rfl)
theorem dX3_save_13 : decode cX3_save 13 = .ok (.aload_n 0, 1) := dk_42 (dk_at dksX3_save_0 13 rfl rfl)
theorem dX3_save_14 : decode cX3_save 14 = .ok (.iconst 1, 1) := dk_4 (dk_at dksX3_save_0 14 rfl rfl)
theorem dX3_save_15 : decode cX3_save 15 = .ok (.putfield 240, 3) := dk_181 0 240 (dk_at dksX3_save_0 15 rfl rfl)
theorem dX3_save_18 : decode cX3_save 18 = .ok (.aload_n 0, 1) := dk_42 (dk_at dksX3_save_0 18 rfl rfl)
theorem dX3_save_19 : decode cX3_save 19 = .ok (.getfield 9, 3) := dk_180 0 9 (dk_at dksX3_save_0 19 rfl rfl)
theorem dX3_save_22 : decode cX3_save 22 = .ok (.iconst 2, 1) := dk_5 (dk_at dksX3_save_0 22 rfl rfl)
theorem dX3_save_23 : decode cX3_save 23 = .ok (.iaload, 1) := dk_46 (dk_at dksX3_save_0 23 rfl rfl)
theorem dX3_save_24 : decode cX3_save 24 = .ok (.ireturn, 1) := dk_172 (dk_at dksX3_save_1 0 rfl rfl)
abbrev cX3_restore : ByteArray := prog_32_method_81_code
def yX3_restore : MethodName := ⟨RX3, "restore", "()I"⟩
def dkwX3_restore_1 : List UInt8 := [3, 181, 0, 44, 42, 180, 0, 9, 5, 46, 172]
abbrev dktX3_restore_1 : List UInt8 := dkwX3_restore_1 ++ []
def dkwX3_restore_0 : List UInt8 := [42, 180, 0, 240, 154, 0, 6, 16, 253, 172, 42, 180, 0, 16, 3, 42, 180, 0, 9, 3, 184, 0, 47, 42]
abbrev dktX3_restore_0 : List UInt8 := dkwX3_restore_0 ++ dktX3_restore_1
theorem dksX3_restore_0 : cX3_restore.data.toList.drop 0 = dktX3_restore_0 := by decide +kernel
theorem dksX3_restore_1 : cX3_restore.data.toList.drop 24 = dktX3_restore_1 := dk_seg dksX3_restore_0 24 rfl rfl
theorem dX3_restore_0 : decode cX3_restore 0 = .ok (.aload_n 0, 1) := dk_42 (dk_at dksX3_restore_0 0 rfl rfl)
theorem dX3_restore_1 : decode cX3_restore 1 = .ok (.getfield 240, 3) := dk_180 0 240 (dk_at dksX3_restore_0 1 rfl rfl)
theorem dX3_restore_4 : decode cX3_restore 4 = .ok (.ifCond .ne 6, 3) := dk_154 0 6 (dk_at dksX3_restore_0 4 rfl rfl)
theorem dX3_restore_7 : decode cX3_restore 7 = .ok (.bipush (-3), 2) := dk_16 253 (dk_at dksX3_restore_0 7 rfl rfl)
theorem dX3_restore_9 : decode cX3_restore 9 = .ok (.ireturn, 1) := dk_172 (dk_at dksX3_restore_0 9 rfl rfl)
theorem dX3_restore_10 : decode cX3_restore 10 = .ok (.aload_n 0, 1) := dk_42 (dk_at dksX3_restore_0 10 rfl rfl)
theorem dX3_restore_11 : decode cX3_restore 11 = .ok (.getfield 16, 3) := dk_180 0 16 (dk_at dksX3_restore_0 11 rfl rfl)
theorem dX3_restore_14 : decode cX3_restore 14 = .ok (.iconst 0, 1) := dk_3 (dk_at dksX3_restore_0 14 rfl rfl)
theorem dX3_restore_15 : decode cX3_restore 15 = .ok (.aload_n 0, 1) := dk_42 (dk_at dksX3_restore_0 15 rfl rfl)
theorem dX3_restore_16 : decode cX3_restore 16 = .ok (.getfield 9, 3) := dk_180 0 9 (dk_at dksX3_restore_0 16 rfl rfl)
theorem dX3_restore_19 : decode cX3_restore 19 = .ok (.iconst 0, 1) := dk_3 (dk_at dksX3_restore_0 19 rfl rfl)
theorem dX3_restore_20 : decode cX3_restore 20 = .ok (.invokestatic 47, 3) := dk_184 0 47 (dk_at dksX3_restore_0 20 rfl rfl)
theorem dX3_restore_23 : decode cX3_restore 23 = .ok (.aload_n 0, 1) := dk_42 (dk_at dksX3_restore_0 23 rfl rfl)
theorem dX3_restore_24 : decode cX3_restore 24 = .ok (.iconst 0, 1) := dk_3 (dk_at dksX3_restore_1 0 rfl rfl)
theorem dX3_restore_25 : decode cX3_restore 25 = .ok (.putfield 44, 3) := dk_181 0 44 (dk_at dksX3_restore_1 1 rfl rfl)
theorem dX3_restore_28 : decode cX3_restore 28 = .ok (.aload_n 0, 1) := dk_42 (dk_at dksX3_restore_1 4 rfl rfl)
theorem dX3_restore_29 : decode cX3_restore 29 = .ok (.getfield 9, 3) := dk_180 0 9 (dk_at dksX3_restore_1 5 rfl rfl)
theorem dX3_restore_32 : decode cX3_restore 32 = .ok (.iconst 2, 1) := dk_5 (dk_at dksX3_restore_1 8 rfl rfl)
theorem dX3_restore_33 : decode cX3_restore 33 = .ok (.iaload, 1) := dk_46 (dk_at dksX3_restore_1 9 rfl rfl)
theorem dX3_restore_34 : decode cX3_restore 34 = .ok (.ireturn, 1) := dk_172 (dk_at dksX3_restore_1 10 rfl rfl)
theorem q93 : (Jvm.Cond.initialized "TurningWheelModel") ∈ lw_all := lw_g (lw_at lw_m1 10 rfl) rfl
theorem q571 : (Jvm.Cond.selects "TurningWheelModel" ({ cls := "java/lang/Object", name := "getClass", desc := "()Ljava/lang/Class;" } : Jvm.MethodName) ({ cls := "java/lang/Object", name := "getClass", desc := "()Ljava/lang/Class;" } : Jvm.MethodName)) ∈ lw_all := lw_g (lw_at lw_m3 8 rfl) rfl
theorem q2612 : (Jvm.Cond.instantiable "TurningWheelModel" (20 : Nat)) ∈ lw_all := lw_g (lw_at lw_m11 129 rfl) rfl
theorem q2614 : (Jvm.Cond.instanceMethod ({ cls := "TurningWheelModel", name := "<init>", desc := "()V" } : Jvm.MethodName)) ∈ lw_all := lw_g (lw_at lw_m11 131 rfl) rfl
theorem q2615 : (Jvm.Cond.code ({ cls := "TurningWheelModel", name := "<init>", desc := "()V" } : Jvm.MethodName) prog_32_method_1_code (1 : Nat) (Option.none : Option Jvm.ClassFile.FieldType)) ∈ lw_all := lw_g (lw_at lw_m11 132 rfl) rfl
theorem q2616 : (Jvm.Cond.methodLink "TurningWheelModel" (1 : Nat) ({ cls := "java/lang/Object", name := "<init>", desc := "()V" } : Jvm.MethodName)) ∈ lw_all := lw_g (lw_at lw_m11 133 rfl) rfl
theorem q2617 : (Jvm.Cond.methodLink "TurningWheelModel" (41 : Nat) ({ cls := "TurningWheelModel", name := "begins", desc := "()V" } : Jvm.MethodName)) ∈ lw_all := lw_g (lw_at lw_m11 134 rfl) rfl
theorem q2618 : (Jvm.Cond.privateMethod ({ cls := "TurningWheelModel", name := "begins", desc := "()V" } : Jvm.MethodName)) ∈ lw_tbl := lw_at lw_m11 135 rfl
theorem q2619 : (Jvm.Cond.instanceMethod ({ cls := "TurningWheelModel", name := "begins", desc := "()V" } : Jvm.MethodName)) ∈ lw_all := lw_g (lw_at lw_m11 136 rfl) rfl
theorem q2620 : (Jvm.Cond.code ({ cls := "TurningWheelModel", name := "begins", desc := "()V" } : Jvm.MethodName) prog_32_method_4_code (2 : Nat) (Option.none : Option Jvm.ClassFile.FieldType)) ∈ lw_all := lw_g (lw_at lw_m11 137 rfl) rfl
theorem q2621 : (Jvm.Cond.fieldLink "TurningWheelModel" (9 : Nat) "TurningWheelModel" "g" "[I") ∈ lw_all := lw_g (lw_at lw_m11 138 rfl) rfl
theorem q2622 : (Jvm.Cond.fieldLink "TurningWheelModel" (13 : Nat) "TurningWheelModel" "history" "[I") ∈ lw_all := lw_g (lw_at lw_m11 139 rfl) rfl
theorem q2623 : (Jvm.Cond.fieldLink "TurningWheelModel" (44 : Nat) "TurningWheelModel" "changes" "I") ∈ lw_all := lw_g (lw_at lw_m11 140 rfl) rfl
theorem q2624 : (Jvm.Cond.fieldLink "TurningWheelModel" (16 : Nat) "TurningWheelModel" "saved" "[I") ∈ lw_all := lw_g (lw_at lw_m11 141 rfl) rfl
theorem q2625 : (Jvm.Cond.fieldLink "TurningWheelModel" (240 : Nat) "TurningWheelModel" "hasSaved" "Z") ∈ lw_all := lw_g (lw_at lw_m11 142 rfl) rfl
theorem q2626 : (Jvm.Cond.fieldLink "TurningWheelModel" (19 : Nat) "TurningWheelModel" "aside" "[I") ∈ lw_all := lw_g (lw_at lw_m11 143 rfl) rfl
theorem q2627 : (Jvm.Cond.fieldLink "TurningWheelModel" (22 : Nat) "TurningWheelModel" "input" "[I") ∈ lw_all := lw_g (lw_at lw_m11 144 rfl) rfl
theorem q2628 : (Jvm.Cond.fieldLink "TurningWheelModel" (200 : Nat) "TurningWheelModel" "fed" "I") ∈ lw_all := lw_g (lw_at lw_m11 145 rfl) rfl
theorem q2629 : (Jvm.Cond.fieldLink "TurningWheelModel" (25 : Nat) "TurningWheelModel" "faultAt" "I") ∈ lw_all := lw_g (lw_at lw_m11 146 rfl) rfl
theorem q2630 : (Jvm.Cond.fieldLink "TurningWheelModel" (29 : Nat) "TurningWheelModel" "why" "[I") ∈ lw_all := lw_g (lw_at lw_m11 147 rfl) rfl
theorem q2631 : (Jvm.Cond.fieldLink "TurningWheelModel" (58 : Nat) "TurningWheelModel" "whys" "I") ∈ lw_all := lw_g (lw_at lw_m11 148 rfl) rfl
theorem q2632 : (Jvm.Cond.fieldLink "TurningWheelModel" (32 : Nat) "TurningWheelModel" "now" "[I") ∈ lw_all := lw_g (lw_at lw_m11 149 rfl) rfl
theorem q2633 : (Jvm.Cond.fieldLink "TurningWheelModel" (55 : Nat) "TurningWheelModel" "nows" "I") ∈ lw_all := lw_g (lw_at lw_m11 150 rfl) rfl
theorem q2634 : (Jvm.Cond.fieldLink "TurningWheelModel" (184 : Nat) "TurningWheelModel" "cracksThen" "I") ∈ lw_all := lw_g (lw_at lw_m11 151 rfl) rfl
theorem q2635 : (Jvm.Cond.fieldLink "TurningWheelModel" (181 : Nat) "TurningWheelModel" "stateThen" "I") ∈ lw_all := lw_g (lw_at lw_m11 152 rfl) rfl
theorem q2636 : (Jvm.Cond.fieldLink "TurningWheelModel" (203 : Nat) "TurningWheelModel" "place" "I") ∈ lw_all := lw_g (lw_at lw_m11 153 rfl) rfl
theorem q2637 : (Jvm.Cond.fieldLink "TurningWheelModel" (206 : Nat) "TurningWheelModel" "isWrong" "Z") ∈ lw_all := lw_g (lw_at lw_m11 154 rfl) rfl
theorem q2638 : (Jvm.Cond.fieldLink "TurningWheelModel" (35 : Nat) "TurningWheelModel" "told" "[I") ∈ lw_all := lw_g (lw_at lw_m11 155 rfl) rfl
theorem q2639 : (Jvm.Cond.fieldLink "TurningWheelModel" (222 : Nat) "TurningWheelModel" "soldNow" "I") ∈ lw_all := lw_g (lw_at lw_m11 156 rfl) rfl
theorem q2640 : (Jvm.Cond.fieldLink "TurningWheelModel" (38 : Nat) "TurningWheelModel" "before" "[I") ∈ lw_all := lw_g (lw_at lw_m11 157 rfl) rfl
theorem q2641 : (Jvm.Cond.laysFinal "TurningWheelModel" "TurningWheelModel" "g" "[I") ∈ lw_all := lw_g (lw_at lw_m11 158 rfl) rfl
theorem q2642 : (Jvm.Cond.soleField "TurningWheelModel" "g") ∈ lw_all := lw_g (lw_at lw_m11 159 rfl) rfl
theorem q2643 : (Jvm.Cond.laysFinal "TurningWheelModel" "TurningWheelModel" "history" "[I") ∈ lw_all := lw_g (lw_at lw_m11 160 rfl) rfl
theorem q2644 : (Jvm.Cond.soleField "TurningWheelModel" "history") ∈ lw_all := lw_g (lw_at lw_m11 161 rfl) rfl
theorem q2645 : (Jvm.Cond.lays "TurningWheelModel" "TurningWheelModel" "changes" "I") ∈ lw_all := lw_g (lw_at lw_m11 162 rfl) rfl
theorem q2646 : (Jvm.Cond.soleField "TurningWheelModel" "changes") ∈ lw_all := lw_g (lw_at lw_m11 163 rfl) rfl
theorem q2647 : (Jvm.Cond.laysFinal "TurningWheelModel" "TurningWheelModel" "saved" "[I") ∈ lw_all := lw_g (lw_at lw_m11 164 rfl) rfl
theorem q2648 : (Jvm.Cond.soleField "TurningWheelModel" "saved") ∈ lw_all := lw_g (lw_at lw_m11 165 rfl) rfl
theorem q2649 : (Jvm.Cond.lays "TurningWheelModel" "TurningWheelModel" "hasSaved" "Z") ∈ lw_all := lw_g (lw_at lw_m11 166 rfl) rfl
theorem q2650 : (Jvm.Cond.soleField "TurningWheelModel" "hasSaved") ∈ lw_all := lw_g (lw_at lw_m11 167 rfl) rfl
theorem q2651 : (Jvm.Cond.laysFinal "TurningWheelModel" "TurningWheelModel" "aside" "[I") ∈ lw_all := lw_g (lw_at lw_m11 168 rfl) rfl
theorem q2652 : (Jvm.Cond.soleField "TurningWheelModel" "aside") ∈ lw_all := lw_g (lw_at lw_m11 169 rfl) rfl
theorem q2653 : (Jvm.Cond.laysFinal "TurningWheelModel" "TurningWheelModel" "input" "[I") ∈ lw_all := lw_g (lw_at lw_m11 170 rfl) rfl
theorem q2654 : (Jvm.Cond.soleField "TurningWheelModel" "input") ∈ lw_all := lw_g (lw_at lw_m11 171 rfl) rfl
theorem q2655 : (Jvm.Cond.lays "TurningWheelModel" "TurningWheelModel" "fed" "I") ∈ lw_all := lw_g (lw_at lw_m11 172 rfl) rfl
theorem q2656 : (Jvm.Cond.soleField "TurningWheelModel" "fed") ∈ lw_all := lw_g (lw_at lw_m11 173 rfl) rfl
theorem q2657 : (Jvm.Cond.lays "TurningWheelModel" "TurningWheelModel" "faultAt" "I") ∈ lw_all := lw_g (lw_at lw_m11 174 rfl) rfl
theorem q2658 : (Jvm.Cond.soleField "TurningWheelModel" "faultAt") ∈ lw_all := lw_g (lw_at lw_m11 175 rfl) rfl
theorem q2659 : (Jvm.Cond.laysFinal "TurningWheelModel" "TurningWheelModel" "why" "[I") ∈ lw_all := lw_g (lw_at lw_m11 176 rfl) rfl
theorem q2660 : (Jvm.Cond.soleField "TurningWheelModel" "why") ∈ lw_all := lw_g (lw_at lw_m11 177 rfl) rfl
theorem q2661 : (Jvm.Cond.lays "TurningWheelModel" "TurningWheelModel" "whys" "I") ∈ lw_all := lw_g (lw_at lw_m11 178 rfl) rfl
theorem q2662 : (Jvm.Cond.soleField "TurningWheelModel" "whys") ∈ lw_all := lw_g (lw_at lw_m11 179 rfl) rfl
theorem q2663 : (Jvm.Cond.laysFinal "TurningWheelModel" "TurningWheelModel" "now" "[I") ∈ lw_all := lw_g (lw_at lw_m11 180 rfl) rfl
theorem q2664 : (Jvm.Cond.soleField "TurningWheelModel" "now") ∈ lw_all := lw_g (lw_at lw_m11 181 rfl) rfl
theorem q2665 : (Jvm.Cond.lays "TurningWheelModel" "TurningWheelModel" "nows" "I") ∈ lw_all := lw_g (lw_at lw_m11 182 rfl) rfl
theorem q2666 : (Jvm.Cond.soleField "TurningWheelModel" "nows") ∈ lw_all := lw_g (lw_at lw_m11 183 rfl) rfl
theorem q2667 : (Jvm.Cond.lays "TurningWheelModel" "TurningWheelModel" "cracksThen" "I") ∈ lw_all := lw_g (lw_at lw_m11 184 rfl) rfl
theorem q2668 : (Jvm.Cond.soleField "TurningWheelModel" "cracksThen") ∈ lw_all := lw_g (lw_at lw_m11 185 rfl) rfl
theorem q2669 : (Jvm.Cond.lays "TurningWheelModel" "TurningWheelModel" "stateThen" "I") ∈ lw_all := lw_g (lw_at lw_m11 186 rfl) rfl
theorem q2670 : (Jvm.Cond.soleField "TurningWheelModel" "stateThen") ∈ lw_all := lw_g (lw_at lw_m11 187 rfl) rfl
theorem q2671 : (Jvm.Cond.lays "TurningWheelModel" "TurningWheelModel" "place" "I") ∈ lw_all := lw_g (lw_at lw_m11 188 rfl) rfl
theorem q2672 : (Jvm.Cond.soleField "TurningWheelModel" "place") ∈ lw_all := lw_g (lw_at lw_m11 189 rfl) rfl
theorem q2673 : (Jvm.Cond.lays "TurningWheelModel" "TurningWheelModel" "isWrong" "Z") ∈ lw_all := lw_g (lw_at lw_m11 190 rfl) rfl
theorem q2674 : (Jvm.Cond.soleField "TurningWheelModel" "isWrong") ∈ lw_all := lw_g (lw_at lw_m11 191 rfl) rfl
theorem q2675 : (Jvm.Cond.laysFinal "TurningWheelModel" "TurningWheelModel" "told" "[I") ∈ lw_all := lw_g (lw_at lw_m11 192 rfl) rfl
theorem q2676 : (Jvm.Cond.soleField "TurningWheelModel" "told") ∈ lw_all := lw_g (lw_at lw_m11 193 rfl) rfl
theorem q2677 : (Jvm.Cond.lays "TurningWheelModel" "TurningWheelModel" "soldNow" "I") ∈ lw_all := lw_g (lw_at lw_m11 194 rfl) rfl
theorem q2678 : (Jvm.Cond.soleField "TurningWheelModel" "soldNow") ∈ lw_all := lw_g (lw_at lw_m11 195 rfl) rfl
theorem q2679 : (Jvm.Cond.laysFinal "TurningWheelModel" "TurningWheelModel" "before" "[I") ∈ lw_all := lw_g (lw_at lw_m11 196 rfl) rfl
theorem q2680 : (Jvm.Cond.soleField "TurningWheelModel" "before") ∈ lw_all := lw_g (lw_at lw_m11 197 rfl) rfl
theorem q2681 : (Jvm.Cond.superclass "TurningWheelModel" "java/lang/Object") ∈ lw_all := lw_g (lw_at lw_m11 198 rfl) rfl
theorem q2683 : (Jvm.Cond.instanceMethod ({ cls := "TurningWheelModel", name := "reason", desc := "(IZ)I" } : Jvm.MethodName)) ∈ lw_all := lw_g (lw_at lw_m11 200 rfl) rfl
theorem q2684 : (Jvm.Cond.selects "TurningWheelModel" ({ cls := "TurningWheelModel", name := "reason", desc := "(IZ)I" } : Jvm.MethodName) ({ cls := "TurningWheelModel", name := "reason", desc := "(IZ)I" } : Jvm.MethodName)) ∈ lw_all := lw_g (lw_at lw_m11 201 rfl) rfl
theorem q2685 : (Jvm.Cond.code ({ cls := "TurningWheelModel", name := "reason", desc := "(IZ)I" } : Jvm.MethodName) prog_32_method_11_code (3 : Nat) (Option.some Jvm.ClassFile.FieldType.int)) ∈ lw_all := lw_g (lw_at lw_m11 202 rfl) rfl
theorem q2686 : (Jvm.Cond.methodLink "TurningWheelModel" (51 : Nat) ({ cls := "TurningWheelModel", name := "in", desc := "(III)Z" } : Jvm.MethodName)) ∈ lw_all := lw_g (lw_at lw_m11 203 rfl) rfl
theorem q2687 : (Jvm.Cond.static ({ cls := "TurningWheelModel", name := "in", desc := "(III)Z" } : Jvm.MethodName)) ∈ lw_all := lw_g (lw_at lw_m11 204 rfl) rfl
theorem q2688 : (Jvm.Cond.code ({ cls := "TurningWheelModel", name := "in", desc := "(III)Z" } : Jvm.MethodName) prog_32_method_2_code (3 : Nat) (Option.some Jvm.ClassFile.FieldType.boolean)) ∈ lw_all := lw_g (lw_at lw_m11 205 rfl) rfl
theorem q2690 : (Jvm.Cond.instanceMethod ({ cls := "TurningWheelModel", name := "clear", desc := "()I" } : Jvm.MethodName)) ∈ lw_all := lw_g (lw_at lw_m11 207 rfl) rfl
theorem q2691 : (Jvm.Cond.selects "TurningWheelModel" ({ cls := "TurningWheelModel", name := "clear", desc := "()I" } : Jvm.MethodName) ({ cls := "TurningWheelModel", name := "clear", desc := "()I" } : Jvm.MethodName)) ∈ lw_all := lw_g (lw_at lw_m11 208 rfl) rfl
theorem q2692 : (Jvm.Cond.code ({ cls := "TurningWheelModel", name := "clear", desc := "()I" } : Jvm.MethodName) prog_32_method_12_code (2 : Nat) (Option.some Jvm.ClassFile.FieldType.int)) ∈ lw_all := lw_g (lw_at lw_m11 209 rfl) rfl
theorem q2694 : (Jvm.Cond.instanceMethod ({ cls := "TurningWheelModel", name := "set", desc := "(II)I" } : Jvm.MethodName)) ∈ lw_all := lw_g (lw_at lw_m11 211 rfl) rfl
theorem q2695 : (Jvm.Cond.selects "TurningWheelModel" ({ cls := "TurningWheelModel", name := "set", desc := "(II)I" } : Jvm.MethodName) ({ cls := "TurningWheelModel", name := "set", desc := "(II)I" } : Jvm.MethodName)) ∈ lw_all := lw_g (lw_at lw_m11 212 rfl) rfl
theorem q2696 : (Jvm.Cond.code ({ cls := "TurningWheelModel", name := "set", desc := "(II)I" } : Jvm.MethodName) prog_32_method_13_code (4 : Nat) (Option.some Jvm.ClassFile.FieldType.int)) ∈ lw_all := lw_g (lw_at lw_m11 213 rfl) rfl
theorem q2697 : (Jvm.Cond.methodLink "TurningWheelModel" (61 : Nat) ({ cls := "TurningWheelModel", name := "remembers", desc := "()V" } : Jvm.MethodName)) ∈ lw_all := lw_g (lw_at lw_m11 214 rfl) rfl
theorem q2698 : (Jvm.Cond.privateMethod ({ cls := "TurningWheelModel", name := "remembers", desc := "()V" } : Jvm.MethodName)) ∈ lw_tbl := lw_at lw_m11 215 rfl
theorem q2699 : (Jvm.Cond.instanceMethod ({ cls := "TurningWheelModel", name := "remembers", desc := "()V" } : Jvm.MethodName)) ∈ lw_all := lw_g (lw_at lw_m11 216 rfl) rfl
theorem q2700 : (Jvm.Cond.code ({ cls := "TurningWheelModel", name := "remembers", desc := "()V" } : Jvm.MethodName) prog_32_method_5_code (2 : Nat) (Option.none : Option Jvm.ClassFile.FieldType)) ∈ lw_all := lw_g (lw_at lw_m11 217 rfl) rfl
theorem q2701 : (Jvm.Cond.methodLink "TurningWheelModel" (47 : Nat) ({ cls := "TurningWheelModel", name := "copy", desc := "([II[II)V" } : Jvm.MethodName)) ∈ lw_all := lw_g (lw_at lw_m11 218 rfl) rfl
theorem q2702 : (Jvm.Cond.static ({ cls := "TurningWheelModel", name := "copy", desc := "([II[II)V" } : Jvm.MethodName)) ∈ lw_all := lw_g (lw_at lw_m11 219 rfl) rfl
theorem q2703 : (Jvm.Cond.code ({ cls := "TurningWheelModel", name := "copy", desc := "([II[II)V" } : Jvm.MethodName) prog_32_method_3_code (5 : Nat) (Option.none : Option Jvm.ClassFile.FieldType)) ∈ lw_all := lw_g (lw_at lw_m11 220 rfl) rfl
theorem q2705 : (Jvm.Cond.instanceMethod ({ cls := "TurningWheelModel", name := "dryness", desc := "(II)I" } : Jvm.MethodName)) ∈ lw_all := lw_g (lw_at lw_m11 222 rfl) rfl
theorem q2706 : (Jvm.Cond.selects "TurningWheelModel" ({ cls := "TurningWheelModel", name := "dryness", desc := "(II)I" } : Jvm.MethodName) ({ cls := "TurningWheelModel", name := "dryness", desc := "(II)I" } : Jvm.MethodName)) ∈ lw_all := lw_g (lw_at lw_m11 223 rfl) rfl
theorem q2707 : (Jvm.Cond.code ({ cls := "TurningWheelModel", name := "dryness", desc := "(II)I" } : Jvm.MethodName) prog_32_method_14_code (4 : Nat) (Option.some Jvm.ClassFile.FieldType.int)) ∈ lw_all := lw_g (lw_at lw_m11 224 rfl) rfl
theorem q2709 : (Jvm.Cond.instanceMethod ({ cls := "TurningWheelModel", name := "air", desc := "(I)I" } : Jvm.MethodName)) ∈ lw_all := lw_g (lw_at lw_m11 226 rfl) rfl
theorem q2710 : (Jvm.Cond.selects "TurningWheelModel" ({ cls := "TurningWheelModel", name := "air", desc := "(I)I" } : Jvm.MethodName) ({ cls := "TurningWheelModel", name := "air", desc := "(I)I" } : Jvm.MethodName)) ∈ lw_all := lw_g (lw_at lw_m11 227 rfl) rfl
theorem q2711 : (Jvm.Cond.code ({ cls := "TurningWheelModel", name := "air", desc := "(I)I" } : Jvm.MethodName) prog_32_method_15_code (2 : Nat) (Option.some Jvm.ClassFile.FieldType.int)) ∈ lw_all := lw_g (lw_at lw_m11 228 rfl) rfl
theorem q2713 : (Jvm.Cond.instanceMethod ({ cls := "TurningWheelModel", name := "potter", desc := "(I)I" } : Jvm.MethodName)) ∈ lw_all := lw_g (lw_at lw_m11 230 rfl) rfl
theorem q2714 : (Jvm.Cond.selects "TurningWheelModel" ({ cls := "TurningWheelModel", name := "potter", desc := "(I)I" } : Jvm.MethodName) ({ cls := "TurningWheelModel", name := "potter", desc := "(I)I" } : Jvm.MethodName)) ∈ lw_all := lw_g (lw_at lw_m11 231 rfl) rfl
theorem q2715 : (Jvm.Cond.code ({ cls := "TurningWheelModel", name := "potter", desc := "(I)I" } : Jvm.MethodName) prog_32_method_16_code (2 : Nat) (Option.some Jvm.ClassFile.FieldType.int)) ∈ lw_all := lw_g (lw_at lw_m11 232 rfl) rfl
theorem q2716 : (Jvm.Cond.methodLink "TurningWheelModel" (64 : Nat) ({ cls := "TurningWheelModel", name := "noted", desc := "(II)I" } : Jvm.MethodName)) ∈ lw_all := lw_g (lw_at lw_m11 233 rfl) rfl
theorem q2717 : (Jvm.Cond.privateMethod ({ cls := "TurningWheelModel", name := "noted", desc := "(II)I" } : Jvm.MethodName)) ∈ lw_tbl := lw_at lw_m11 234 rfl
theorem q2718 : (Jvm.Cond.instanceMethod ({ cls := "TurningWheelModel", name := "noted", desc := "(II)I" } : Jvm.MethodName)) ∈ lw_all := lw_g (lw_at lw_m11 235 rfl) rfl
theorem q2719 : (Jvm.Cond.code ({ cls := "TurningWheelModel", name := "noted", desc := "(II)I" } : Jvm.MethodName) prog_32_method_8_code (3 : Nat) (Option.some Jvm.ClassFile.FieldType.int)) ∈ lw_all := lw_g (lw_at lw_m11 236 rfl) rfl
theorem q2720 : (Jvm.Cond.methodLink "TurningWheelModel" (68 : Nat) ({ cls := "TurningWheelModel", name := "refused", desc := "()I" } : Jvm.MethodName)) ∈ lw_all := lw_g (lw_at lw_m11 237 rfl) rfl
theorem q2721 : (Jvm.Cond.privateMethod ({ cls := "TurningWheelModel", name := "refused", desc := "()I" } : Jvm.MethodName)) ∈ lw_tbl := lw_at lw_m11 238 rfl
theorem q2722 : (Jvm.Cond.instanceMethod ({ cls := "TurningWheelModel", name := "refused", desc := "()I" } : Jvm.MethodName)) ∈ lw_all := lw_g (lw_at lw_m11 239 rfl) rfl
theorem q2723 : (Jvm.Cond.code ({ cls := "TurningWheelModel", name := "refused", desc := "()I" } : Jvm.MethodName) prog_32_method_9_code (2 : Nat) (Option.some Jvm.ClassFile.FieldType.int)) ∈ lw_all := lw_g (lw_at lw_m12 0 rfl) rfl
theorem q2725 : (Jvm.Cond.instanceMethod ({ cls := "TurningWheelModel", name := "pot", desc := "(III)I" } : Jvm.MethodName)) ∈ lw_all := lw_g (lw_at lw_m12 2 rfl) rfl
theorem q2726 : (Jvm.Cond.selects "TurningWheelModel" ({ cls := "TurningWheelModel", name := "pot", desc := "(III)I" } : Jvm.MethodName) ({ cls := "TurningWheelModel", name := "pot", desc := "(III)I" } : Jvm.MethodName)) ∈ lw_all := lw_g (lw_at lw_m12 3 rfl) rfl
theorem q2727 : (Jvm.Cond.code ({ cls := "TurningWheelModel", name := "pot", desc := "(III)I" } : Jvm.MethodName) prog_32_method_25_code (4 : Nat) (Option.some Jvm.ClassFile.FieldType.int)) ∈ lw_all := lw_g (lw_at lw_m12 4 rfl) rfl
theorem q2728 : (Jvm.Cond.methodLink "TurningWheelModel" (85 : Nat) ({ cls := "TurningWheelModel", name := "mayPot", desc := "()I" } : Jvm.MethodName)) ∈ lw_all := lw_g (lw_at lw_m12 5 rfl) rfl
theorem q2729 : (Jvm.Cond.privateMethod ({ cls := "TurningWheelModel", name := "mayPot", desc := "()I" } : Jvm.MethodName)) ∈ lw_tbl := lw_at lw_m12 6 rfl
theorem q2730 : (Jvm.Cond.instanceMethod ({ cls := "TurningWheelModel", name := "mayPot", desc := "()I" } : Jvm.MethodName)) ∈ lw_all := lw_g (lw_at lw_m12 7 rfl) rfl
theorem q2731 : (Jvm.Cond.code ({ cls := "TurningWheelModel", name := "mayPot", desc := "()I" } : Jvm.MethodName) prog_32_method_17_code (1 : Nat) (Option.some Jvm.ClassFile.FieldType.int)) ∈ lw_all := lw_g (lw_at lw_m12 8 rfl) rfl
theorem q2732 : (Jvm.Cond.methodLink "TurningWheelModel" (88 : Nat) ({ cls := "TurningWheelModel", name := "comes", desc := "(III)V" } : Jvm.MethodName)) ∈ lw_all := lw_g (lw_at lw_m12 9 rfl) rfl
theorem q2733 : (Jvm.Cond.privateMethod ({ cls := "TurningWheelModel", name := "comes", desc := "(III)V" } : Jvm.MethodName)) ∈ lw_tbl := lw_at lw_m12 10 rfl
theorem q2734 : (Jvm.Cond.instanceMethod ({ cls := "TurningWheelModel", name := "comes", desc := "(III)V" } : Jvm.MethodName)) ∈ lw_all := lw_g (lw_at lw_m12 11 rfl) rfl
theorem q2735 : (Jvm.Cond.code ({ cls := "TurningWheelModel", name := "comes", desc := "(III)V" } : Jvm.MethodName) prog_32_method_18_code (6 : Nat) (Option.none : Option Jvm.ClassFile.FieldType)) ∈ lw_all := lw_g (lw_at lw_m12 12 rfl) rfl
theorem q2736 : (Jvm.Cond.methodLink "TurningWheelModel" (72 : Nat) ({ cls := "TurningWheelModel", name := "at", desc := "(I)I" } : Jvm.MethodName)) ∈ lw_all := lw_g (lw_at lw_m12 13 rfl) rfl
theorem q2737 : (Jvm.Cond.static ({ cls := "TurningWheelModel", name := "at", desc := "(I)I" } : Jvm.MethodName)) ∈ lw_all := lw_g (lw_at lw_m12 14 rfl) rfl
theorem q2738 : (Jvm.Cond.code ({ cls := "TurningWheelModel", name := "at", desc := "(I)I" } : Jvm.MethodName) prog_32_method_6_code (1 : Nat) (Option.some Jvm.ClassFile.FieldType.int)) ∈ lw_all := lw_g (lw_at lw_m12 15 rfl) rfl
theorem q2740 : (Jvm.Cond.instanceMethod ({ cls := "TurningWheelModel", name := "of", desc := "(II)I" } : Jvm.MethodName)) ∈ lw_all := lw_g (lw_at lw_m12 17 rfl) rfl
theorem q2741 : (Jvm.Cond.selects "TurningWheelModel" ({ cls := "TurningWheelModel", name := "of", desc := "(II)I" } : Jvm.MethodName) ({ cls := "TurningWheelModel", name := "of", desc := "(II)I" } : Jvm.MethodName)) ∈ lw_all := lw_g (lw_at lw_m12 18 rfl) rfl
theorem q2742 : (Jvm.Cond.code ({ cls := "TurningWheelModel", name := "of", desc := "(II)I" } : Jvm.MethodName) prog_32_method_27_code (3 : Nat) (Option.some Jvm.ClassFile.FieldType.int)) ∈ lw_all := lw_g (lw_at lw_m12 19 rfl) rfl
theorem q2743 : (Jvm.Cond.methodLink "TurningWheelModel" (92 : Nat) ({ cls := "TurningWheelModel", name := "isPot", desc := "(I)Z" } : Jvm.MethodName)) ∈ lw_all := lw_g (lw_at lw_m12 20 rfl) rfl
theorem q2744 : (Jvm.Cond.privateMethod ({ cls := "TurningWheelModel", name := "isPot", desc := "(I)Z" } : Jvm.MethodName)) ∈ lw_tbl := lw_at lw_m12 21 rfl
theorem q2745 : (Jvm.Cond.instanceMethod ({ cls := "TurningWheelModel", name := "isPot", desc := "(I)Z" } : Jvm.MethodName)) ∈ lw_all := lw_g (lw_at lw_m12 22 rfl) rfl
theorem q2746 : (Jvm.Cond.code ({ cls := "TurningWheelModel", name := "isPot", desc := "(I)Z" } : Jvm.MethodName) prog_32_method_7_code (2 : Nat) (Option.some Jvm.ClassFile.FieldType.boolean)) ∈ lw_all := lw_g (lw_at lw_m12 23 rfl) rfl
theorem q2747 : (Jvm.Cond.methodLink "TurningWheelModel" (96 : Nat) ({ cls := "TurningWheelModel", name := "isWhole", desc := "(I)Z" } : Jvm.MethodName)) ∈ lw_all := lw_g (lw_at lw_m12 24 rfl) rfl
theorem q2748 : (Jvm.Cond.privateMethod ({ cls := "TurningWheelModel", name := "isWhole", desc := "(I)Z" } : Jvm.MethodName)) ∈ lw_tbl := lw_at lw_m12 25 rfl
theorem q2749 : (Jvm.Cond.instanceMethod ({ cls := "TurningWheelModel", name := "isWhole", desc := "(I)Z" } : Jvm.MethodName)) ∈ lw_all := lw_g (lw_at lw_m12 26 rfl) rfl
theorem q2750 : (Jvm.Cond.code ({ cls := "TurningWheelModel", name := "isWhole", desc := "(I)Z" } : Jvm.MethodName) prog_32_method_26_code (2 : Nat) (Option.some Jvm.ClassFile.FieldType.boolean)) ∈ lw_all := lw_g (lw_at lw_m12 27 rfl) rfl
theorem q2752 : (Jvm.Cond.instanceMethod ({ cls := "TurningWheelModel", name := "moisture", desc := "(I)F" } : Jvm.MethodName)) ∈ lw_all := lw_g (lw_at lw_m12 29 rfl) rfl
theorem q2753 : (Jvm.Cond.selects "TurningWheelModel" ({ cls := "TurningWheelModel", name := "moisture", desc := "(I)F" } : Jvm.MethodName) ({ cls := "TurningWheelModel", name := "moisture", desc := "(I)F" } : Jvm.MethodName)) ∈ lw_all := lw_g (lw_at lw_m12 30 rfl) rfl
theorem q2754 : (Jvm.Cond.code ({ cls := "TurningWheelModel", name := "moisture", desc := "(I)F" } : Jvm.MethodName) prog_32_method_29_code (2 : Nat) (Option.some Jvm.ClassFile.FieldType.float)) ∈ lw_all := lw_g (lw_at lw_m12 31 rfl) rfl
theorem q2755 : (Jvm.Cond.methodLink "TurningWheelModel" (105 : Nat) ({ cls := "TurningWheelModel", name := "moistureOf", desc := "(I)F" } : Jvm.MethodName)) ∈ lw_all := lw_g (lw_at lw_m12 32 rfl) rfl
theorem q2756 : (Jvm.Cond.privateMethod ({ cls := "TurningWheelModel", name := "moistureOf", desc := "(I)F" } : Jvm.MethodName)) ∈ lw_tbl := lw_at lw_m12 33 rfl
theorem q2757 : (Jvm.Cond.instanceMethod ({ cls := "TurningWheelModel", name := "moistureOf", desc := "(I)F" } : Jvm.MethodName)) ∈ lw_all := lw_g (lw_at lw_m12 34 rfl) rfl
theorem q2758 : (Jvm.Cond.code ({ cls := "TurningWheelModel", name := "moistureOf", desc := "(I)F" } : Jvm.MethodName) prog_32_method_28_code (2 : Nat) (Option.some Jvm.ClassFile.FieldType.float)) ∈ lw_all := lw_g (lw_at lw_m12 35 rfl) rfl
theorem q2759 : (Jvm.Cond.methodLink "TurningWheelModel" (99 : Nat) ({ cls := "java/lang/Float", name := "intBitsToFloat", desc := "(I)F" } : Jvm.MethodName)) ∈ lw_all := lw_g (lw_at lw_m12 36 rfl) rfl
theorem q2762 : (Jvm.Cond.constantFloat "TurningWheelModel" (108 : Nat) (3212836864 : UInt32)) ∈ lw_all := lw_g (lw_at lw_m12 39 rfl) rfl
theorem q2764 : (Jvm.Cond.instanceMethod ({ cls := "TurningWheelModel", name := "moistureAgain", desc := "(I)F" } : Jvm.MethodName)) ∈ lw_all := lw_g (lw_at lw_m12 41 rfl) rfl
theorem q2765 : (Jvm.Cond.selects "TurningWheelModel" ({ cls := "TurningWheelModel", name := "moistureAgain", desc := "(I)F" } : Jvm.MethodName) ({ cls := "TurningWheelModel", name := "moistureAgain", desc := "(I)F" } : Jvm.MethodName)) ∈ lw_all := lw_g (lw_at lw_m12 42 rfl) rfl
theorem q2766 : (Jvm.Cond.code ({ cls := "TurningWheelModel", name := "moistureAgain", desc := "(I)F" } : Jvm.MethodName) prog_32_method_31_code (5 : Nat) (Option.some Jvm.ClassFile.FieldType.float)) ∈ lw_all := lw_g (lw_at lw_m12 43 rfl) rfl
theorem q2767 : (Jvm.Cond.methodLink "TurningWheelModel" (110 : Nat) ({ cls := "TurningWheelModel", name := "loss", desc := "(FII)F" } : Jvm.MethodName)) ∈ lw_all := lw_g (lw_at lw_m12 44 rfl) rfl
theorem q2768 : (Jvm.Cond.static ({ cls := "TurningWheelModel", name := "loss", desc := "(FII)F" } : Jvm.MethodName)) ∈ lw_all := lw_g (lw_at lw_m12 45 rfl) rfl
theorem q2769 : (Jvm.Cond.code ({ cls := "TurningWheelModel", name := "loss", desc := "(FII)F" } : Jvm.MethodName) prog_32_method_30_code (3 : Nat) (Option.some Jvm.ClassFile.FieldType.float)) ∈ lw_all := lw_g (lw_at lw_m12 46 rfl) rfl
theorem q2770 : (Jvm.Cond.constantFloat "TurningWheelModel" (109 : Nat) (1148846080 : UInt32)) ∈ lw_all := lw_g (lw_at lw_m12 47 rfl) rfl
theorem q2772 : (Jvm.Cond.instanceMethod ({ cls := "TurningWheelModel", name := "cover", desc := "(IZ)I" } : Jvm.MethodName)) ∈ lw_all := lw_g (lw_at lw_m12 49 rfl) rfl
theorem q2773 : (Jvm.Cond.selects "TurningWheelModel" ({ cls := "TurningWheelModel", name := "cover", desc := "(IZ)I" } : Jvm.MethodName) ({ cls := "TurningWheelModel", name := "cover", desc := "(IZ)I" } : Jvm.MethodName)) ∈ lw_all := lw_g (lw_at lw_m12 50 rfl) rfl
theorem q2774 : (Jvm.Cond.code ({ cls := "TurningWheelModel", name := "cover", desc := "(IZ)I" } : Jvm.MethodName) prog_32_method_32_code (4 : Nat) (Option.some Jvm.ClassFile.FieldType.int)) ∈ lw_all := lw_g (lw_at lw_m12 51 rfl) rfl
theorem q2775 : (Jvm.Cond.methodLink "TurningWheelModel" (76 : Nat) ({ cls := "TurningWheelModel", name := "mayBeIn", desc := "(II)I" } : Jvm.MethodName)) ∈ lw_all := lw_g (lw_at lw_m12 52 rfl) rfl
theorem q2776 : (Jvm.Cond.privateMethod ({ cls := "TurningWheelModel", name := "mayBeIn", desc := "(II)I" } : Jvm.MethodName)) ∈ lw_tbl := lw_at lw_m12 53 rfl
theorem q2777 : (Jvm.Cond.instanceMethod ({ cls := "TurningWheelModel", name := "mayBeIn", desc := "(II)I" } : Jvm.MethodName)) ∈ lw_all := lw_g (lw_at lw_m12 54 rfl) rfl
theorem q2778 : (Jvm.Cond.code ({ cls := "TurningWheelModel", name := "mayBeIn", desc := "(II)I" } : Jvm.MethodName) prog_32_method_19_code (3 : Nat) (Option.some Jvm.ClassFile.FieldType.int)) ∈ lw_all := lw_g (lw_at lw_m12 55 rfl) rfl
theorem q2780 : (Jvm.Cond.instanceMethod ({ cls := "TurningWheelModel", name := "glaze", desc := "(III)I" } : Jvm.MethodName)) ∈ lw_all := lw_g (lw_at lw_m12 57 rfl) rfl
theorem q2781 : (Jvm.Cond.selects "TurningWheelModel" ({ cls := "TurningWheelModel", name := "glaze", desc := "(III)I" } : Jvm.MethodName) ({ cls := "TurningWheelModel", name := "glaze", desc := "(III)I" } : Jvm.MethodName)) ∈ lw_all := lw_g (lw_at lw_m12 58 rfl) rfl
theorem q2782 : (Jvm.Cond.code ({ cls := "TurningWheelModel", name := "glaze", desc := "(III)I" } : Jvm.MethodName) prog_32_method_34_code (4 : Nat) (Option.some Jvm.ClassFile.FieldType.int)) ∈ lw_all := lw_g (lw_at lw_m12 59 rfl) rfl
theorem q2783 : (Jvm.Cond.methodLink "TurningWheelModel" (114 : Nat) ({ cls := "TurningWheelModel", name := "glazes", desc := "(III)V" } : Jvm.MethodName)) ∈ lw_all := lw_g (lw_at lw_m12 60 rfl) rfl
theorem q2784 : (Jvm.Cond.privateMethod ({ cls := "TurningWheelModel", name := "glazes", desc := "(III)V" } : Jvm.MethodName)) ∈ lw_tbl := lw_at lw_m12 61 rfl
theorem q2785 : (Jvm.Cond.instanceMethod ({ cls := "TurningWheelModel", name := "glazes", desc := "(III)V" } : Jvm.MethodName)) ∈ lw_all := lw_g (lw_at lw_m12 62 rfl) rfl
theorem q2786 : (Jvm.Cond.code ({ cls := "TurningWheelModel", name := "glazes", desc := "(III)V" } : Jvm.MethodName) prog_32_method_35_code (4 : Nat) (Option.none : Option Jvm.ClassFile.FieldType)) ∈ lw_all := lw_g (lw_at lw_m12 63 rfl) rfl
theorem q2787 : (Jvm.Cond.methodLink "TurningWheelModel" (117 : Nat) ({ cls := "TurningWheelModel", name := "reach", desc := "(I)I" } : Jvm.MethodName)) ∈ lw_all := lw_g (lw_at lw_m12 64 rfl) rfl
theorem q2788 : (Jvm.Cond.privateMethod ({ cls := "TurningWheelModel", name := "reach", desc := "(I)I" } : Jvm.MethodName)) ∈ lw_tbl := lw_at lw_m12 65 rfl
theorem q2789 : (Jvm.Cond.instanceMethod ({ cls := "TurningWheelModel", name := "reach", desc := "(I)I" } : Jvm.MethodName)) ∈ lw_all := lw_g (lw_at lw_m12 66 rfl) rfl
theorem q2790 : (Jvm.Cond.code ({ cls := "TurningWheelModel", name := "reach", desc := "(I)I" } : Jvm.MethodName) prog_32_method_33_code (3 : Nat) (Option.some Jvm.ClassFile.FieldType.int)) ∈ lw_all := lw_g (lw_at lw_m12 67 rfl) rfl
theorem q2792 : (Jvm.Cond.instanceMethod ({ cls := "TurningWheelModel", name := "place", desc := "(II)I" } : Jvm.MethodName)) ∈ lw_all := lw_g (lw_at lw_m12 69 rfl) rfl
theorem q2793 : (Jvm.Cond.selects "TurningWheelModel" ({ cls := "TurningWheelModel", name := "place", desc := "(II)I" } : Jvm.MethodName) ({ cls := "TurningWheelModel", name := "place", desc := "(II)I" } : Jvm.MethodName)) ∈ lw_all := lw_g (lw_at lw_m12 70 rfl) rfl
theorem q2794 : (Jvm.Cond.code ({ cls := "TurningWheelModel", name := "place", desc := "(II)I" } : Jvm.MethodName) prog_32_method_37_code (3 : Nat) (Option.some Jvm.ClassFile.FieldType.int)) ∈ lw_all := lw_g (lw_at lw_m12 71 rfl) rfl
theorem q2795 : (Jvm.Cond.methodLink "TurningWheelModel" (120 : Nat) ({ cls := "TurningWheelModel", name := "mayPlace", desc := "(II)I" } : Jvm.MethodName)) ∈ lw_all := lw_g (lw_at lw_m12 72 rfl) rfl
theorem q2796 : (Jvm.Cond.privateMethod ({ cls := "TurningWheelModel", name := "mayPlace", desc := "(II)I" } : Jvm.MethodName)) ∈ lw_tbl := lw_at lw_m12 73 rfl
theorem q2797 : (Jvm.Cond.instanceMethod ({ cls := "TurningWheelModel", name := "mayPlace", desc := "(II)I" } : Jvm.MethodName)) ∈ lw_all := lw_g (lw_at lw_m12 74 rfl) rfl
theorem q2798 : (Jvm.Cond.code ({ cls := "TurningWheelModel", name := "mayPlace", desc := "(II)I" } : Jvm.MethodName) prog_32_method_20_code (3 : Nat) (Option.some Jvm.ClassFile.FieldType.int)) ∈ lw_all := lw_g (lw_at lw_m12 75 rfl) rfl
theorem q2799 : (Jvm.Cond.methodLink "TurningWheelModel" (123 : Nat) ({ cls := "TurningWheelModel", name := "puts", desc := "(II)V" } : Jvm.MethodName)) ∈ lw_all := lw_g (lw_at lw_m12 76 rfl) rfl
theorem q2800 : (Jvm.Cond.privateMethod ({ cls := "TurningWheelModel", name := "puts", desc := "(II)V" } : Jvm.MethodName)) ∈ lw_tbl := lw_at lw_m12 77 rfl
theorem q2801 : (Jvm.Cond.instanceMethod ({ cls := "TurningWheelModel", name := "puts", desc := "(II)V" } : Jvm.MethodName)) ∈ lw_all := lw_g (lw_at lw_m12 78 rfl) rfl
theorem q2802 : (Jvm.Cond.code ({ cls := "TurningWheelModel", name := "puts", desc := "(II)V" } : Jvm.MethodName) prog_32_method_36_code (3 : Nat) (Option.none : Option Jvm.ClassFile.FieldType)) ∈ lw_all := lw_g (lw_at lw_m12 79 rfl) rfl
theorem q2803 : (Jvm.Cond.methodLink "TurningWheelModel" (79 : Nat) ({ cls := "TurningWheelModel", name := "onShelf", desc := "()I" } : Jvm.MethodName)) ∈ lw_all := lw_g (lw_at lw_m12 80 rfl) rfl
theorem q2804 : (Jvm.Cond.privateMethod ({ cls := "TurningWheelModel", name := "onShelf", desc := "()I" } : Jvm.MethodName)) ∈ lw_tbl := lw_at lw_m12 81 rfl
theorem q2805 : (Jvm.Cond.instanceMethod ({ cls := "TurningWheelModel", name := "onShelf", desc := "()I" } : Jvm.MethodName)) ∈ lw_all := lw_g (lw_at lw_m12 82 rfl) rfl
theorem q2806 : (Jvm.Cond.code ({ cls := "TurningWheelModel", name := "onShelf", desc := "()I" } : Jvm.MethodName) prog_32_method_22_code (3 : Nat) (Option.some Jvm.ClassFile.FieldType.int)) ∈ lw_all := lw_g (lw_at lw_m12 83 rfl) rfl
theorem q2808 : (Jvm.Cond.instanceMethod ({ cls := "TurningWheelModel", name := "shelf", desc := "(I)I" } : Jvm.MethodName)) ∈ lw_all := lw_g (lw_at lw_m12 85 rfl) rfl
theorem q2809 : (Jvm.Cond.selects "TurningWheelModel" ({ cls := "TurningWheelModel", name := "shelf", desc := "(I)I" } : Jvm.MethodName) ({ cls := "TurningWheelModel", name := "shelf", desc := "(I)I" } : Jvm.MethodName)) ∈ lw_all := lw_g (lw_at lw_m12 86 rfl) rfl
theorem q2810 : (Jvm.Cond.code ({ cls := "TurningWheelModel", name := "shelf", desc := "(I)I" } : Jvm.MethodName) prog_32_method_38_code (2 : Nat) (Option.some Jvm.ClassFile.FieldType.int)) ∈ lw_all := lw_g (lw_at lw_m12 87 rfl) rfl
theorem q2812 : (Jvm.Cond.instanceMethod ({ cls := "TurningWheelModel", name := "kiln", desc := "(I)I" } : Jvm.MethodName)) ∈ lw_all := lw_g (lw_at lw_m12 89 rfl) rfl
theorem q2813 : (Jvm.Cond.selects "TurningWheelModel" ({ cls := "TurningWheelModel", name := "kiln", desc := "(I)I" } : Jvm.MethodName) ({ cls := "TurningWheelModel", name := "kiln", desc := "(I)I" } : Jvm.MethodName)) ∈ lw_all := lw_g (lw_at lw_m12 90 rfl) rfl
theorem q2814 : (Jvm.Cond.code ({ cls := "TurningWheelModel", name := "kiln", desc := "(I)I" } : Jvm.MethodName) prog_32_method_46_code (2 : Nat) (Option.some Jvm.ClassFile.FieldType.int)) ∈ lw_all := lw_g (lw_at lw_m12 91 rfl) rfl
theorem q2815 : (Jvm.Cond.methodLink "TurningWheelModel" (136 : Nat) ({ cls := "TurningWheelModel", name := "shelfSet", desc := "()I" } : Jvm.MethodName)) ∈ lw_all := lw_g (lw_at lw_m12 92 rfl) rfl
theorem q2816 : (Jvm.Cond.privateMethod ({ cls := "TurningWheelModel", name := "shelfSet", desc := "()I" } : Jvm.MethodName)) ∈ lw_tbl := lw_at lw_m12 93 rfl
theorem q2817 : (Jvm.Cond.instanceMethod ({ cls := "TurningWheelModel", name := "shelfSet", desc := "()I" } : Jvm.MethodName)) ∈ lw_all := lw_g (lw_at lw_m12 94 rfl) rfl
theorem q2818 : (Jvm.Cond.code ({ cls := "TurningWheelModel", name := "shelfSet", desc := "()I" } : Jvm.MethodName) prog_32_method_41_code (3 : Nat) (Option.some Jvm.ClassFile.FieldType.int)) ∈ lw_all := lw_g (lw_at lw_m12 95 rfl) rfl
theorem q2819 : (Jvm.Cond.methodLink "TurningWheelModel" (133 : Nat) ({ cls := "TurningWheelModel", name := "lostThen", desc := "()I" } : Jvm.MethodName)) ∈ lw_all := lw_g (lw_at lw_m12 96 rfl) rfl
theorem q2820 : (Jvm.Cond.privateMethod ({ cls := "TurningWheelModel", name := "lostThen", desc := "()I" } : Jvm.MethodName)) ∈ lw_tbl := lw_at lw_m12 97 rfl
theorem q2821 : (Jvm.Cond.instanceMethod ({ cls := "TurningWheelModel", name := "lostThen", desc := "()I" } : Jvm.MethodName)) ∈ lw_all := lw_g (lw_at lw_m12 98 rfl) rfl
theorem q2822 : (Jvm.Cond.code ({ cls := "TurningWheelModel", name := "lostThen", desc := "()I" } : Jvm.MethodName) prog_32_method_40_code (4 : Nat) (Option.some Jvm.ClassFile.FieldType.int)) ∈ lw_all := lw_g (lw_at lw_m12 99 rfl) rfl
theorem q2823 : (Jvm.Cond.methodLink "TurningWheelModel" (127 : Nat) ({ cls := "TurningWheelModel", name := "isLostThen", desc := "(I)Z" } : Jvm.MethodName)) ∈ lw_all := lw_g (lw_at lw_m12 100 rfl) rfl
theorem q2824 : (Jvm.Cond.privateMethod ({ cls := "TurningWheelModel", name := "isLostThen", desc := "(I)Z" } : Jvm.MethodName)) ∈ lw_tbl := lw_at lw_m12 101 rfl
theorem q2825 : (Jvm.Cond.instanceMethod ({ cls := "TurningWheelModel", name := "isLostThen", desc := "(I)Z" } : Jvm.MethodName)) ∈ lw_all := lw_g (lw_at lw_m12 102 rfl) rfl
theorem q2826 : (Jvm.Cond.code ({ cls := "TurningWheelModel", name := "isLostThen", desc := "(I)Z" } : Jvm.MethodName) prog_32_method_39_code (7 : Nat) (Option.some Jvm.ClassFile.FieldType.boolean)) ∈ lw_all := lw_g (lw_at lw_m12 103 rfl) rfl
theorem q2827 : (Jvm.Cond.methodLink "TurningWheelModel" (145 : Nat) ({ cls := "TurningWheelModel", name := "soldThen", desc := "()I" } : Jvm.MethodName)) ∈ lw_all := lw_g (lw_at lw_m12 104 rfl) rfl
theorem q2828 : (Jvm.Cond.privateMethod ({ cls := "TurningWheelModel", name := "soldThen", desc := "()I" } : Jvm.MethodName)) ∈ lw_tbl := lw_at lw_m12 105 rfl
theorem q2829 : (Jvm.Cond.instanceMethod ({ cls := "TurningWheelModel", name := "soldThen", desc := "()I" } : Jvm.MethodName)) ∈ lw_all := lw_g (lw_at lw_m12 106 rfl) rfl
theorem q2830 : (Jvm.Cond.code ({ cls := "TurningWheelModel", name := "soldThen", desc := "()I" } : Jvm.MethodName) prog_32_method_45_code (2 : Nat) (Option.some Jvm.ClassFile.FieldType.int)) ∈ lw_all := lw_g (lw_at lw_m12 107 rfl) rfl
theorem q2831 : (Jvm.Cond.methodLink "TurningWheelModel" (142 : Nat) ({ cls := "TurningWheelModel", name := "fires", desc := "()I" } : Jvm.MethodName)) ∈ lw_all := lw_g (lw_at lw_m12 108 rfl) rfl
theorem q2832 : (Jvm.Cond.privateMethod ({ cls := "TurningWheelModel", name := "fires", desc := "()I" } : Jvm.MethodName)) ∈ lw_tbl := lw_at lw_m12 109 rfl
theorem q2833 : (Jvm.Cond.instanceMethod ({ cls := "TurningWheelModel", name := "fires", desc := "()I" } : Jvm.MethodName)) ∈ lw_all := lw_g (lw_at lw_m12 110 rfl) rfl
theorem q2834 : (Jvm.Cond.code ({ cls := "TurningWheelModel", name := "fires", desc := "()I" } : Jvm.MethodName) prog_32_method_44_code (6 : Nat) (Option.some Jvm.ClassFile.FieldType.int)) ∈ lw_all := lw_g (lw_at lw_m12 111 rfl) rfl
theorem q2835 : (Jvm.Cond.methodLink "TurningWheelModel" (139 : Nat) ({ cls := "TurningWheelModel", name := "orderFor", desc := "(I)I" } : Jvm.MethodName)) ∈ lw_all := lw_g (lw_at lw_m12 112 rfl) rfl
theorem q2836 : (Jvm.Cond.privateMethod ({ cls := "TurningWheelModel", name := "orderFor", desc := "(I)I" } : Jvm.MethodName)) ∈ lw_tbl := lw_at lw_m12 113 rfl
theorem q2837 : (Jvm.Cond.instanceMethod ({ cls := "TurningWheelModel", name := "orderFor", desc := "(I)I" } : Jvm.MethodName)) ∈ lw_all := lw_g (lw_at lw_m12 114 rfl) rfl
theorem q2838 : (Jvm.Cond.code ({ cls := "TurningWheelModel", name := "orderFor", desc := "(I)I" } : Jvm.MethodName) prog_32_method_43_code (5 : Nat) (Option.some Jvm.ClassFile.FieldType.int)) ∈ lw_all := lw_g (lw_at lw_m12 115 rfl) rfl
theorem q2839 : (Jvm.Cond.methodLink "TurningWheelModel" (130 : Nat) ({ cls := "TurningWheelModel", name := "isGood", desc := "(I)Z" } : Jvm.MethodName)) ∈ lw_all := lw_g (lw_at lw_m12 116 rfl) rfl
theorem q2840 : (Jvm.Cond.privateMethod ({ cls := "TurningWheelModel", name := "isGood", desc := "(I)Z" } : Jvm.MethodName)) ∈ lw_tbl := lw_at lw_m12 117 rfl
theorem q2841 : (Jvm.Cond.instanceMethod ({ cls := "TurningWheelModel", name := "isGood", desc := "(I)Z" } : Jvm.MethodName)) ∈ lw_all := lw_g (lw_at lw_m12 118 rfl) rfl
theorem q2842 : (Jvm.Cond.code ({ cls := "TurningWheelModel", name := "isGood", desc := "(I)Z" } : Jvm.MethodName) prog_32_method_42_code (2 : Nat) (Option.some Jvm.ClassFile.FieldType.boolean)) ∈ lw_all := lw_g (lw_at lw_m12 119 rfl) rfl
theorem q2844 : (Jvm.Cond.instanceMethod ({ cls := "TurningWheelModel", name := "fire", desc := "()I" } : Jvm.MethodName)) ∈ lw_all := lw_g (lw_at lw_m12 121 rfl) rfl
theorem q2845 : (Jvm.Cond.selects "TurningWheelModel" ({ cls := "TurningWheelModel", name := "fire", desc := "()I" } : Jvm.MethodName) ({ cls := "TurningWheelModel", name := "fire", desc := "()I" } : Jvm.MethodName)) ∈ lw_all := lw_g (lw_at lw_m12 122 rfl) rfl
theorem q2846 : (Jvm.Cond.code ({ cls := "TurningWheelModel", name := "fire", desc := "()I" } : Jvm.MethodName) prog_32_method_48_code (1 : Nat) (Option.some Jvm.ClassFile.FieldType.int)) ∈ lw_all := lw_g (lw_at lw_m12 123 rfl) rfl
theorem q2847 : (Jvm.Cond.methodLink "TurningWheelModel" (148 : Nat) ({ cls := "TurningWheelModel", name := "mayFire", desc := "()I" } : Jvm.MethodName)) ∈ lw_all := lw_g (lw_at lw_m12 124 rfl) rfl
theorem q2848 : (Jvm.Cond.privateMethod ({ cls := "TurningWheelModel", name := "mayFire", desc := "()I" } : Jvm.MethodName)) ∈ lw_tbl := lw_at lw_m12 125 rfl
theorem q2849 : (Jvm.Cond.instanceMethod ({ cls := "TurningWheelModel", name := "mayFire", desc := "()I" } : Jvm.MethodName)) ∈ lw_all := lw_g (lw_at lw_m12 126 rfl) rfl
theorem q2850 : (Jvm.Cond.code ({ cls := "TurningWheelModel", name := "mayFire", desc := "()I" } : Jvm.MethodName) prog_32_method_23_code (1 : Nat) (Option.some Jvm.ClassFile.FieldType.int)) ∈ lw_all := lw_g (lw_at lw_m12 127 rfl) rfl
theorem q2851 : (Jvm.Cond.methodLink "TurningWheelModel" (82 : Nat) ({ cls := "TurningWheelModel", name := "restLeft", desc := "()I" } : Jvm.MethodName)) ∈ lw_all := lw_g (lw_at lw_m12 128 rfl) rfl
theorem q2852 : (Jvm.Cond.privateMethod ({ cls := "TurningWheelModel", name := "restLeft", desc := "()I" } : Jvm.MethodName)) ∈ lw_tbl := lw_at lw_m12 129 rfl
theorem q2853 : (Jvm.Cond.instanceMethod ({ cls := "TurningWheelModel", name := "restLeft", desc := "()I" } : Jvm.MethodName)) ∈ lw_all := lw_g (lw_at lw_m12 130 rfl) rfl
theorem q2854 : (Jvm.Cond.code ({ cls := "TurningWheelModel", name := "restLeft", desc := "()I" } : Jvm.MethodName) prog_32_method_21_code (1 : Nat) (Option.some Jvm.ClassFile.FieldType.int)) ∈ lw_all := lw_g (lw_at lw_m12 131 rfl) rfl
theorem q2855 : (Jvm.Cond.methodLink "TurningWheelModel" (151 : Nat) ({ cls := "TurningWheelModel", name := "ones", desc := "(I)I" } : Jvm.MethodName)) ∈ lw_all := lw_g (lw_at lw_m12 132 rfl) rfl
theorem q2856 : (Jvm.Cond.static ({ cls := "TurningWheelModel", name := "ones", desc := "(I)I" } : Jvm.MethodName)) ∈ lw_all := lw_g (lw_at lw_m12 133 rfl) rfl
theorem q2857 : (Jvm.Cond.code ({ cls := "TurningWheelModel", name := "ones", desc := "(I)I" } : Jvm.MethodName) prog_32_method_47_code (3 : Nat) (Option.some Jvm.ClassFile.FieldType.int)) ∈ lw_all := lw_g (lw_at lw_m12 134 rfl) rfl
theorem q2859 : (Jvm.Cond.instanceMethod ({ cls := "TurningWheelModel", name := "order", desc := "(IIIII)I" } : Jvm.MethodName)) ∈ lw_all := lw_g (lw_at lw_m12 136 rfl) rfl
theorem q2860 : (Jvm.Cond.selects "TurningWheelModel" ({ cls := "TurningWheelModel", name := "order", desc := "(IIIII)I" } : Jvm.MethodName) ({ cls := "TurningWheelModel", name := "order", desc := "(IIIII)I" } : Jvm.MethodName)) ∈ lw_all := lw_g (lw_at lw_m12 137 rfl) rfl
theorem q2861 : (Jvm.Cond.code ({ cls := "TurningWheelModel", name := "order", desc := "(IIIII)I" } : Jvm.MethodName) prog_32_method_49_code (7 : Nat) (Option.some Jvm.ClassFile.FieldType.int)) ∈ lw_all := lw_g (lw_at lw_m12 138 rfl) rfl
theorem q2863 : (Jvm.Cond.instanceMethod ({ cls := "TurningWheelModel", name := "ordered", desc := "(II)I" } : Jvm.MethodName)) ∈ lw_all := lw_g (lw_at lw_m12 140 rfl) rfl
theorem q2864 : (Jvm.Cond.selects "TurningWheelModel" ({ cls := "TurningWheelModel", name := "ordered", desc := "(II)I" } : Jvm.MethodName) ({ cls := "TurningWheelModel", name := "ordered", desc := "(II)I" } : Jvm.MethodName)) ∈ lw_all := lw_g (lw_at lw_m12 141 rfl) rfl
theorem q2865 : (Jvm.Cond.code ({ cls := "TurningWheelModel", name := "ordered", desc := "(II)I" } : Jvm.MethodName) prog_32_method_50_code (3 : Nat) (Option.some Jvm.ClassFile.FieldType.int)) ∈ lw_all := lw_g (lw_at lw_m12 142 rfl) rfl
theorem q2867 : (Jvm.Cond.instanceMethod ({ cls := "TurningWheelModel", name := "pass", desc := "(I)I" } : Jvm.MethodName)) ∈ lw_all := lw_g (lw_at lw_m12 144 rfl) rfl
theorem q2868 : (Jvm.Cond.selects "TurningWheelModel" ({ cls := "TurningWheelModel", name := "pass", desc := "(I)I" } : Jvm.MethodName) ({ cls := "TurningWheelModel", name := "pass", desc := "(I)I" } : Jvm.MethodName)) ∈ lw_all := lw_g (lw_at lw_m12 145 rfl) rfl
theorem q2869 : (Jvm.Cond.code ({ cls := "TurningWheelModel", name := "pass", desc := "(I)I" } : Jvm.MethodName) prog_32_method_56_code (2 : Nat) (Option.some Jvm.ClassFile.FieldType.int)) ∈ lw_all := lw_g (lw_at lw_m12 146 rfl) rfl
theorem q2870 : (Jvm.Cond.methodLink "TurningWheelModel" (172 : Nat) ({ cls := "TurningWheelModel", name := "mayPass", desc := "(I)I" } : Jvm.MethodName)) ∈ lw_all := lw_g (lw_at lw_m12 147 rfl) rfl
theorem q2871 : (Jvm.Cond.privateMethod ({ cls := "TurningWheelModel", name := "mayPass", desc := "(I)I" } : Jvm.MethodName)) ∈ lw_tbl := lw_at lw_m12 148 rfl
theorem q2872 : (Jvm.Cond.instanceMethod ({ cls := "TurningWheelModel", name := "mayPass", desc := "(I)I" } : Jvm.MethodName)) ∈ lw_all := lw_g (lw_at lw_m12 149 rfl) rfl
theorem q2873 : (Jvm.Cond.code ({ cls := "TurningWheelModel", name := "mayPass", desc := "(I)I" } : Jvm.MethodName) prog_32_method_24_code (2 : Nat) (Option.some Jvm.ClassFile.FieldType.int)) ∈ lw_all := lw_g (lw_at lw_m12 150 rfl) rfl
theorem q2874 : (Jvm.Cond.methodLink "TurningWheelModel" (175 : Nat) ({ cls := "TurningWheelModel", name := "hours", desc := "(I)V" } : Jvm.MethodName)) ∈ lw_all := lw_g (lw_at lw_m12 151 rfl) rfl
theorem q2875 : (Jvm.Cond.privateMethod ({ cls := "TurningWheelModel", name := "hours", desc := "(I)V" } : Jvm.MethodName)) ∈ lw_tbl := lw_at lw_m12 152 rfl
theorem q2876 : (Jvm.Cond.instanceMethod ({ cls := "TurningWheelModel", name := "hours", desc := "(I)V" } : Jvm.MethodName)) ∈ lw_all := lw_g (lw_at lw_m12 153 rfl) rfl
theorem q2877 : (Jvm.Cond.code ({ cls := "TurningWheelModel", name := "hours", desc := "(I)V" } : Jvm.MethodName) prog_32_method_55_code (3 : Nat) (Option.none : Option Jvm.ClassFile.FieldType)) ∈ lw_all := lw_g (lw_at lw_m12 154 rfl) rfl
theorem q2878 : (Jvm.Cond.methodLink "TurningWheelModel" (169 : Nat) ({ cls := "TurningWheelModel", name := "hour", desc := "()V" } : Jvm.MethodName)) ∈ lw_all := lw_g (lw_at lw_m12 155 rfl) rfl
theorem q2879 : (Jvm.Cond.privateMethod ({ cls := "TurningWheelModel", name := "hour", desc := "()V" } : Jvm.MethodName)) ∈ lw_tbl := lw_at lw_m12 156 rfl
theorem q2880 : (Jvm.Cond.instanceMethod ({ cls := "TurningWheelModel", name := "hour", desc := "()V" } : Jvm.MethodName)) ∈ lw_all := lw_g (lw_at lw_m12 157 rfl) rfl
theorem q2881 : (Jvm.Cond.code ({ cls := "TurningWheelModel", name := "hour", desc := "()V" } : Jvm.MethodName) prog_32_method_54_code (2 : Nat) (Option.none : Option Jvm.ClassFile.FieldType)) ∈ lw_all := lw_g (lw_at lw_m12 158 rfl) rfl
theorem q2882 : (Jvm.Cond.methodLink "TurningWheelModel" (159 : Nat) ({ cls := "TurningWheelModel", name := "dries", desc := "(I)V" } : Jvm.MethodName)) ∈ lw_all := lw_g (lw_at lw_m12 159 rfl) rfl
theorem q2883 : (Jvm.Cond.privateMethod ({ cls := "TurningWheelModel", name := "dries", desc := "(I)V" } : Jvm.MethodName)) ∈ lw_tbl := lw_at lw_m12 160 rfl
theorem q2884 : (Jvm.Cond.instanceMethod ({ cls := "TurningWheelModel", name := "dries", desc := "(I)V" } : Jvm.MethodName)) ∈ lw_all := lw_g (lw_at lw_m12 161 rfl) rfl
theorem q2885 : (Jvm.Cond.code ({ cls := "TurningWheelModel", name := "dries", desc := "(I)V" } : Jvm.MethodName) prog_32_method_51_code (6 : Nat) (Option.none : Option Jvm.ClassFile.FieldType)) ∈ lw_all := lw_g (lw_at lw_m12 162 rfl) rfl
theorem q2886 : (Jvm.Cond.methodLink "TurningWheelModel" (154 : Nat) ({ cls := "java/lang/Float", name := "floatToIntBits", desc := "(F)I" } : Jvm.MethodName)) ∈ lw_all := lw_g (lw_at lw_m12 163 rfl) rfl
theorem q2896 : (Jvm.Cond.constantFloat "TurningWheelModel" (158 : Nat) (1036831949 : UInt32)) ∈ lw_all := lw_g (lw_at lw_m12 173 rfl) rfl
theorem q2897 : (Jvm.Cond.methodLink "TurningWheelModel" (163 : Nat) ({ cls := "TurningWheelModel", name := "nextOfRow", desc := "()I" } : Jvm.MethodName)) ∈ lw_all := lw_g (lw_at lw_m12 174 rfl) rfl
theorem q2898 : (Jvm.Cond.privateMethod ({ cls := "TurningWheelModel", name := "nextOfRow", desc := "()I" } : Jvm.MethodName)) ∈ lw_tbl := lw_at lw_m12 175 rfl
theorem q2899 : (Jvm.Cond.instanceMethod ({ cls := "TurningWheelModel", name := "nextOfRow", desc := "()I" } : Jvm.MethodName)) ∈ lw_all := lw_g (lw_at lw_m12 176 rfl) rfl
theorem q2900 : (Jvm.Cond.code ({ cls := "TurningWheelModel", name := "nextOfRow", desc := "()I" } : Jvm.MethodName) prog_32_method_52_code (4 : Nat) (Option.some Jvm.ClassFile.FieldType.int)) ∈ lw_all := lw_g (lw_at lw_m12 177 rfl) rfl
theorem q2901 : (Jvm.Cond.methodLink "TurningWheelModel" (166 : Nat) ({ cls := "TurningWheelModel", name := "takes", desc := "(I)V" } : Jvm.MethodName)) ∈ lw_all := lw_g (lw_at lw_m12 178 rfl) rfl
theorem q2902 : (Jvm.Cond.privateMethod ({ cls := "TurningWheelModel", name := "takes", desc := "(I)V" } : Jvm.MethodName)) ∈ lw_tbl := lw_at lw_m12 179 rfl
theorem q2903 : (Jvm.Cond.instanceMethod ({ cls := "TurningWheelModel", name := "takes", desc := "(I)V" } : Jvm.MethodName)) ∈ lw_all := lw_g (lw_at lw_m12 180 rfl) rfl
theorem q2904 : (Jvm.Cond.code ({ cls := "TurningWheelModel", name := "takes", desc := "(I)V" } : Jvm.MethodName) prog_32_method_53_code (3 : Nat) (Option.none : Option Jvm.ClassFile.FieldType)) ∈ lw_all := lw_g (lw_at lw_m12 181 rfl) rfl
theorem q2906 : (Jvm.Cond.instanceMethod ({ cls := "TurningWheelModel", name := "wheel", desc := "(I)I" } : Jvm.MethodName)) ∈ lw_all := lw_g (lw_at lw_m12 183 rfl) rfl
theorem q2907 : (Jvm.Cond.selects "TurningWheelModel" ({ cls := "TurningWheelModel", name := "wheel", desc := "(I)I" } : Jvm.MethodName) ({ cls := "TurningWheelModel", name := "wheel", desc := "(I)I" } : Jvm.MethodName)) ∈ lw_all := lw_g (lw_at lw_m12 184 rfl) rfl
theorem q2908 : (Jvm.Cond.code ({ cls := "TurningWheelModel", name := "wheel", desc := "(I)I" } : Jvm.MethodName) prog_32_method_58_code (2 : Nat) (Option.some Jvm.ClassFile.FieldType.int)) ∈ lw_all := lw_g (lw_at lw_m12 185 rfl) rfl
theorem q2909 : (Jvm.Cond.methodLink "TurningWheelModel" (178 : Nat) ({ cls := "TurningWheelModel", name := "inState", desc := "(I)I" } : Jvm.MethodName)) ∈ lw_all := lw_g (lw_at lw_m12 186 rfl) rfl
theorem q2910 : (Jvm.Cond.privateMethod ({ cls := "TurningWheelModel", name := "inState", desc := "(I)I" } : Jvm.MethodName)) ∈ lw_tbl := lw_at lw_m12 187 rfl
theorem q2911 : (Jvm.Cond.instanceMethod ({ cls := "TurningWheelModel", name := "inState", desc := "(I)I" } : Jvm.MethodName)) ∈ lw_all := lw_g (lw_at lw_m12 188 rfl) rfl
theorem q2912 : (Jvm.Cond.code ({ cls := "TurningWheelModel", name := "inState", desc := "(I)I" } : Jvm.MethodName) prog_32_method_57_code (4 : Nat) (Option.some Jvm.ClassFile.FieldType.int)) ∈ lw_all := lw_g (lw_at lw_m12 189 rfl) rfl
theorem q2914 : (Jvm.Cond.instanceMethod ({ cls := "TurningWheelModel", name := "waiting", desc := "(I)I" } : Jvm.MethodName)) ∈ lw_all := lw_g (lw_at lw_m12 191 rfl) rfl
theorem q2915 : (Jvm.Cond.selects "TurningWheelModel" ({ cls := "TurningWheelModel", name := "waiting", desc := "(I)I" } : Jvm.MethodName) ({ cls := "TurningWheelModel", name := "waiting", desc := "(I)I" } : Jvm.MethodName)) ∈ lw_all := lw_g (lw_at lw_m12 192 rfl) rfl
theorem q2916 : (Jvm.Cond.code ({ cls := "TurningWheelModel", name := "waiting", desc := "(I)I" } : Jvm.MethodName) prog_32_method_59_code (4 : Nat) (Option.some Jvm.ClassFile.FieldType.int)) ∈ lw_all := lw_g (lw_at lw_m12 193 rfl) rfl
theorem q2918 : (Jvm.Cond.instanceMethod ({ cls := "TurningWheelModel", name := "ahead", desc := "(II)I" } : Jvm.MethodName)) ∈ lw_all := lw_g (lw_at lw_m12 195 rfl) rfl
theorem q2919 : (Jvm.Cond.selects "TurningWheelModel" ({ cls := "TurningWheelModel", name := "ahead", desc := "(II)I" } : Jvm.MethodName) ({ cls := "TurningWheelModel", name := "ahead", desc := "(II)I" } : Jvm.MethodName)) ∈ lw_all := lw_g (lw_at lw_m12 196 rfl) rfl
theorem q2920 : (Jvm.Cond.code ({ cls := "TurningWheelModel", name := "ahead", desc := "(II)I" } : Jvm.MethodName) prog_32_method_61_code (5 : Nat) (Option.some Jvm.ClassFile.FieldType.int)) ∈ lw_all := lw_g (lw_at lw_m12 197 rfl) rfl
theorem q2921 : (Jvm.Cond.methodLink "TurningWheelModel" (187 : Nat) ({ cls := "TurningWheelModel", name := "becomes", desc := "(II)Z" } : Jvm.MethodName)) ∈ lw_all := lw_g (lw_at lw_m12 198 rfl) rfl
theorem q2922 : (Jvm.Cond.privateMethod ({ cls := "TurningWheelModel", name := "becomes", desc := "(II)Z" } : Jvm.MethodName)) ∈ lw_tbl := lw_at lw_m12 199 rfl
theorem q2923 : (Jvm.Cond.instanceMethod ({ cls := "TurningWheelModel", name := "becomes", desc := "(II)Z" } : Jvm.MethodName)) ∈ lw_all := lw_g (lw_at lw_m12 200 rfl) rfl
theorem q2924 : (Jvm.Cond.code ({ cls := "TurningWheelModel", name := "becomes", desc := "(II)Z" } : Jvm.MethodName) prog_32_method_60_code (4 : Nat) (Option.some Jvm.ClassFile.FieldType.boolean)) ∈ lw_all := lw_g (lw_at lw_m12 201 rfl) rfl
theorem q2926 : (Jvm.Cond.instanceMethod ({ cls := "TurningWheelModel", name := "meanMoisture", desc := "()D" } : Jvm.MethodName)) ∈ lw_all := lw_g (lw_at lw_m12 203 rfl) rfl
theorem q2927 : (Jvm.Cond.selects "TurningWheelModel" ({ cls := "TurningWheelModel", name := "meanMoisture", desc := "()D" } : Jvm.MethodName) ({ cls := "TurningWheelModel", name := "meanMoisture", desc := "()D" } : Jvm.MethodName)) ∈ lw_all := lw_g (lw_at lw_m12 204 rfl) rfl
theorem q2928 : (Jvm.Cond.code ({ cls := "TurningWheelModel", name := "meanMoisture", desc := "()D" } : Jvm.MethodName) prog_32_method_62_code (5 : Nat) (Option.some Jvm.ClassFile.FieldType.double)) ∈ lw_all := lw_g (lw_at lw_m12 205 rfl) rfl
theorem q2930 : (Jvm.Cond.instanceMethod ({ cls := "TurningWheelModel", name := "wholeShare", desc := "()F" } : Jvm.MethodName)) ∈ lw_all := lw_g (lw_at lw_m12 207 rfl) rfl
theorem q2931 : (Jvm.Cond.selects "TurningWheelModel" ({ cls := "TurningWheelModel", name := "wholeShare", desc := "()F" } : Jvm.MethodName) ({ cls := "TurningWheelModel", name := "wholeShare", desc := "()F" } : Jvm.MethodName)) ∈ lw_all := lw_g (lw_at lw_m12 208 rfl) rfl
theorem q2932 : (Jvm.Cond.code ({ cls := "TurningWheelModel", name := "wholeShare", desc := "()F" } : Jvm.MethodName) prog_32_method_63_code (4 : Nat) (Option.some Jvm.ClassFile.FieldType.float)) ∈ lw_all := lw_g (lw_at lw_m12 209 rfl) rfl
theorem q2934 : (Jvm.Cond.instanceMethod ({ cls := "TurningWheelModel", name := "account", desc := "(I)I" } : Jvm.MethodName)) ∈ lw_all := lw_g (lw_at lw_m12 211 rfl) rfl
theorem q2935 : (Jvm.Cond.selects "TurningWheelModel" ({ cls := "TurningWheelModel", name := "account", desc := "(I)I" } : Jvm.MethodName) ({ cls := "TurningWheelModel", name := "account", desc := "(I)I" } : Jvm.MethodName)) ∈ lw_all := lw_g (lw_at lw_m12 212 rfl) rfl
theorem q2936 : (Jvm.Cond.code ({ cls := "TurningWheelModel", name := "account", desc := "(I)I" } : Jvm.MethodName) prog_32_method_67_code (2 : Nat) (Option.some Jvm.ClassFile.FieldType.int)) ∈ lw_all := lw_g (lw_at lw_m12 213 rfl) rfl
theorem q2937 : (Jvm.Cond.methodLink "TurningWheelModel" (191 : Nat) ({ cls := "TurningWheelModel", name := "allCracks", desc := "()I" } : Jvm.MethodName)) ∈ lw_all := lw_g (lw_at lw_m12 214 rfl) rfl
theorem q2938 : (Jvm.Cond.privateMethod ({ cls := "TurningWheelModel", name := "allCracks", desc := "()I" } : Jvm.MethodName)) ∈ lw_tbl := lw_at lw_m12 215 rfl
theorem q2939 : (Jvm.Cond.instanceMethod ({ cls := "TurningWheelModel", name := "allCracks", desc := "()I" } : Jvm.MethodName)) ∈ lw_all := lw_g (lw_at lw_m12 216 rfl) rfl
theorem q2940 : (Jvm.Cond.code ({ cls := "TurningWheelModel", name := "allCracks", desc := "()I" } : Jvm.MethodName) prog_32_method_64_code (3 : Nat) (Option.some Jvm.ClassFile.FieldType.int)) ∈ lw_all := lw_g (lw_at lw_m12 217 rfl) rfl
theorem q2941 : (Jvm.Cond.methodLink "TurningWheelModel" (194 : Nat) ({ cls := "TurningWheelModel", name := "goodOrders", desc := "()I" } : Jvm.MethodName)) ∈ lw_all := lw_g (lw_at lw_m12 218 rfl) rfl
theorem q2942 : (Jvm.Cond.privateMethod ({ cls := "TurningWheelModel", name := "goodOrders", desc := "()I" } : Jvm.MethodName)) ∈ lw_tbl := lw_at lw_m12 219 rfl
theorem q2943 : (Jvm.Cond.instanceMethod ({ cls := "TurningWheelModel", name := "goodOrders", desc := "()I" } : Jvm.MethodName)) ∈ lw_all := lw_g (lw_at lw_m12 220 rfl) rfl
theorem q2944 : (Jvm.Cond.code ({ cls := "TurningWheelModel", name := "goodOrders", desc := "()I" } : Jvm.MethodName) prog_32_method_65_code (3 : Nat) (Option.some Jvm.ClassFile.FieldType.int)) ∈ lw_all := lw_g (lw_at lw_m12 221 rfl) rfl
theorem q2945 : (Jvm.Cond.methodLink "TurningWheelModel" (197 : Nat) ({ cls := "TurningWheelModel", name := "prices", desc := "()I" } : Jvm.MethodName)) ∈ lw_all := lw_g (lw_at lw_m12 222 rfl) rfl
theorem q2946 : (Jvm.Cond.privateMethod ({ cls := "TurningWheelModel", name := "prices", desc := "()I" } : Jvm.MethodName)) ∈ lw_tbl := lw_at lw_m12 223 rfl
theorem q2947 : (Jvm.Cond.instanceMethod ({ cls := "TurningWheelModel", name := "prices", desc := "()I" } : Jvm.MethodName)) ∈ lw_all := lw_g (lw_at lw_m12 224 rfl) rfl
theorem q2948 : (Jvm.Cond.code ({ cls := "TurningWheelModel", name := "prices", desc := "()I" } : Jvm.MethodName) prog_32_method_66_code (3 : Nat) (Option.some Jvm.ClassFile.FieldType.int)) ∈ lw_all := lw_g (lw_at lw_m12 225 rfl) rfl
theorem q2950 : (Jvm.Cond.instanceMethod ({ cls := "TurningWheelModel", name := "append", desc := "(C)I" } : Jvm.MethodName)) ∈ lw_all := lw_g (lw_at lw_m12 227 rfl) rfl
theorem q2951 : (Jvm.Cond.selects "TurningWheelModel" ({ cls := "TurningWheelModel", name := "append", desc := "(C)I" } : Jvm.MethodName) ({ cls := "TurningWheelModel", name := "append", desc := "(C)I" } : Jvm.MethodName)) ∈ lw_all := lw_g (lw_at lw_m12 228 rfl) rfl
theorem q2952 : (Jvm.Cond.code ({ cls := "TurningWheelModel", name := "append", desc := "(C)I" } : Jvm.MethodName) prog_32_method_68_code (2 : Nat) (Option.some Jvm.ClassFile.FieldType.int)) ∈ lw_all := lw_g (lw_at lw_m12 229 rfl) rfl
theorem q2954 : (Jvm.Cond.instanceMethod ({ cls := "TurningWheelModel", name := "read", desc := "()I" } : Jvm.MethodName)) ∈ lw_all := lw_g (lw_at lw_m12 231 rfl) rfl
theorem q2955 : (Jvm.Cond.selects "TurningWheelModel" ({ cls := "TurningWheelModel", name := "read", desc := "()I" } : Jvm.MethodName) ({ cls := "TurningWheelModel", name := "read", desc := "()I" } : Jvm.MethodName)) ∈ lw_all := lw_g (lw_at lw_m12 232 rfl) rfl
theorem q2956 : (Jvm.Cond.code ({ cls := "TurningWheelModel", name := "read", desc := "()I" } : Jvm.MethodName) prog_32_method_77_code (3 : Nat) (Option.some Jvm.ClassFile.FieldType.int)) ∈ lw_all := lw_g (lw_at lw_m12 233 rfl) rfl
theorem q2957 : (Jvm.Cond.methodLink "TurningWheelModel" (228 : Nat) ({ cls := "TurningWheelModel", name := "readsText", desc := "()I" } : Jvm.MethodName)) ∈ lw_all := lw_g (lw_at lw_m12 234 rfl) rfl
theorem q2958 : (Jvm.Cond.privateMethod ({ cls := "TurningWheelModel", name := "readsText", desc := "()I" } : Jvm.MethodName)) ∈ lw_tbl := lw_at lw_m12 235 rfl
theorem q2959 : (Jvm.Cond.instanceMethod ({ cls := "TurningWheelModel", name := "readsText", desc := "()I" } : Jvm.MethodName)) ∈ lw_all := lw_g (lw_at lw_m12 236 rfl) rfl
theorem q2960 : (Jvm.Cond.code ({ cls := "TurningWheelModel", name := "readsText", desc := "()I" } : Jvm.MethodName) prog_32_method_76_code (3 : Nat) (Option.some Jvm.ClassFile.FieldType.int)) ∈ lw_all := lw_g (lw_at lw_m12 237 rfl) rfl
theorem q2961 : (Jvm.Cond.methodLink "TurningWheelModel" (225 : Nat) ({ cls := "TurningWheelModel", name := "readsCommand", desc := "(I)V" } : Jvm.MethodName)) ∈ lw_all := lw_g (lw_at lw_m12 238 rfl) rfl
theorem q2962 : (Jvm.Cond.privateMethod ({ cls := "TurningWheelModel", name := "readsCommand", desc := "(I)V" } : Jvm.MethodName)) ∈ lw_tbl := lw_at lw_m12 239 rfl
theorem q2963 : (Jvm.Cond.instanceMethod ({ cls := "TurningWheelModel", name := "readsCommand", desc := "(I)V" } : Jvm.MethodName)) ∈ lw_all := lw_g (lw_at lw_m13 0 rfl) rfl
theorem q2964 : (Jvm.Cond.code ({ cls := "TurningWheelModel", name := "readsCommand", desc := "(I)V" } : Jvm.MethodName) prog_32_method_72_code (3 : Nat) (Option.none : Option Jvm.ClassFile.FieldType)) ∈ lw_all := lw_g (lw_at lw_m13 1 rfl) rfl
theorem q2965 : (Jvm.Cond.methodLink "TurningWheelModel" (210 : Nat) ({ cls := "TurningWheelModel", name := "here", desc := "()I" } : Jvm.MethodName)) ∈ lw_all := lw_g (lw_at lw_m13 2 rfl) rfl
theorem q2966 : (Jvm.Cond.privateMethod ({ cls := "TurningWheelModel", name := "here", desc := "()I" } : Jvm.MethodName)) ∈ lw_tbl := lw_at lw_m13 3 rfl
theorem q2967 : (Jvm.Cond.instanceMethod ({ cls := "TurningWheelModel", name := "here", desc := "()I" } : Jvm.MethodName)) ∈ lw_all := lw_g (lw_at lw_m13 4 rfl) rfl
theorem q2968 : (Jvm.Cond.code ({ cls := "TurningWheelModel", name := "here", desc := "()I" } : Jvm.MethodName) prog_32_method_69_code (1 : Nat) (Option.some Jvm.ClassFile.FieldType.int)) ∈ lw_all := lw_g (lw_at lw_m13 5 rfl) rfl
theorem q2969 : (Jvm.Cond.methodLink "TurningWheelModel" (213 : Nat) ({ cls := "TurningWheelModel", name := "number", desc := "()I" } : Jvm.MethodName)) ∈ lw_all := lw_g (lw_at lw_m13 6 rfl) rfl
theorem q2970 : (Jvm.Cond.privateMethod ({ cls := "TurningWheelModel", name := "number", desc := "()I" } : Jvm.MethodName)) ∈ lw_tbl := lw_at lw_m13 7 rfl
theorem q2971 : (Jvm.Cond.instanceMethod ({ cls := "TurningWheelModel", name := "number", desc := "()I" } : Jvm.MethodName)) ∈ lw_all := lw_g (lw_at lw_m13 8 rfl) rfl
theorem q2972 : (Jvm.Cond.code ({ cls := "TurningWheelModel", name := "number", desc := "()I" } : Jvm.MethodName) prog_32_method_71_code (2 : Nat) (Option.some Jvm.ClassFile.FieldType.int)) ∈ lw_all := lw_g (lw_at lw_m13 9 rfl) rfl
theorem q2973 : (Jvm.Cond.methodLink "TurningWheelModel" (216 : Nat) ({ cls := "TurningWheelModel", name := "wants", desc := "(I)V" } : Jvm.MethodName)) ∈ lw_all := lw_g (lw_at lw_m13 10 rfl) rfl
theorem q2974 : (Jvm.Cond.privateMethod ({ cls := "TurningWheelModel", name := "wants", desc := "(I)V" } : Jvm.MethodName)) ∈ lw_tbl := lw_at lw_m13 11 rfl
theorem q2975 : (Jvm.Cond.instanceMethod ({ cls := "TurningWheelModel", name := "wants", desc := "(I)V" } : Jvm.MethodName)) ∈ lw_all := lw_g (lw_at lw_m13 12 rfl) rfl
theorem q2976 : (Jvm.Cond.code ({ cls := "TurningWheelModel", name := "wants", desc := "(I)V" } : Jvm.MethodName) prog_32_method_70_code (2 : Nat) (Option.none : Option Jvm.ClassFile.FieldType)) ∈ lw_all := lw_g (lw_at lw_m13 13 rfl) rfl
theorem q2977 : (Jvm.Cond.methodLink "TurningWheelModel" (231 : Nat) ({ cls := "TurningWheelModel", name := "mayDo", desc := "(I)I" } : Jvm.MethodName)) ∈ lw_all := lw_g (lw_at lw_m13 14 rfl) rfl
theorem q2978 : (Jvm.Cond.privateMethod ({ cls := "TurningWheelModel", name := "mayDo", desc := "(I)I" } : Jvm.MethodName)) ∈ lw_tbl := lw_at lw_m13 15 rfl
theorem q2979 : (Jvm.Cond.instanceMethod ({ cls := "TurningWheelModel", name := "mayDo", desc := "(I)I" } : Jvm.MethodName)) ∈ lw_all := lw_g (lw_at lw_m13 16 rfl) rfl
theorem q2980 : (Jvm.Cond.code ({ cls := "TurningWheelModel", name := "mayDo", desc := "(I)I" } : Jvm.MethodName) prog_32_method_74_code (3 : Nat) (Option.some Jvm.ClassFile.FieldType.int)) ∈ lw_all := lw_g (lw_at lw_m13 17 rfl) rfl
theorem q2981 : (Jvm.Cond.methodLink "TurningWheelModel" (219 : Nat) ({ cls := "TurningWheelModel", name := "wrongNumber", desc := "(I)I" } : Jvm.MethodName)) ∈ lw_all := lw_g (lw_at lw_m13 18 rfl) rfl
theorem q2982 : (Jvm.Cond.privateMethod ({ cls := "TurningWheelModel", name := "wrongNumber", desc := "(I)I" } : Jvm.MethodName)) ∈ lw_tbl := lw_at lw_m13 19 rfl
theorem q2983 : (Jvm.Cond.instanceMethod ({ cls := "TurningWheelModel", name := "wrongNumber", desc := "(I)I" } : Jvm.MethodName)) ∈ lw_all := lw_g (lw_at lw_m13 20 rfl) rfl
theorem q2984 : (Jvm.Cond.code ({ cls := "TurningWheelModel", name := "wrongNumber", desc := "(I)I" } : Jvm.MethodName) prog_32_method_73_code (5 : Nat) (Option.some Jvm.ClassFile.FieldType.int)) ∈ lw_all := lw_g (lw_at lw_m13 21 rfl) rfl
theorem q2985 : (Jvm.Cond.methodLink "TurningWheelModel" (234 : Nat) ({ cls := "TurningWheelModel", name := "refusedAt", desc := "(I)I" } : Jvm.MethodName)) ∈ lw_all := lw_g (lw_at lw_m13 22 rfl) rfl
theorem q2986 : (Jvm.Cond.privateMethod ({ cls := "TurningWheelModel", name := "refusedAt", desc := "(I)I" } : Jvm.MethodName)) ∈ lw_tbl := lw_at lw_m13 23 rfl
theorem q2987 : (Jvm.Cond.instanceMethod ({ cls := "TurningWheelModel", name := "refusedAt", desc := "(I)I" } : Jvm.MethodName)) ∈ lw_all := lw_g (lw_at lw_m13 24 rfl) rfl
theorem q2988 : (Jvm.Cond.code ({ cls := "TurningWheelModel", name := "refusedAt", desc := "(I)I" } : Jvm.MethodName) prog_32_method_10_code (3 : Nat) (Option.some Jvm.ClassFile.FieldType.int)) ∈ lw_all := lw_g (lw_at lw_m13 25 rfl) rfl
theorem q2989 : (Jvm.Cond.methodLink "TurningWheelModel" (237 : Nat) ({ cls := "TurningWheelModel", name := "does", desc := "(I)V" } : Jvm.MethodName)) ∈ lw_all := lw_g (lw_at lw_m13 26 rfl) rfl
theorem q2990 : (Jvm.Cond.privateMethod ({ cls := "TurningWheelModel", name := "does", desc := "(I)V" } : Jvm.MethodName)) ∈ lw_tbl := lw_at lw_m13 27 rfl
theorem q2991 : (Jvm.Cond.instanceMethod ({ cls := "TurningWheelModel", name := "does", desc := "(I)V" } : Jvm.MethodName)) ∈ lw_all := lw_g (lw_at lw_m13 28 rfl) rfl
theorem q2992 : (Jvm.Cond.code ({ cls := "TurningWheelModel", name := "does", desc := "(I)V" } : Jvm.MethodName) prog_32_method_75_code (4 : Nat) (Option.none : Option Jvm.ClassFile.FieldType)) ∈ lw_all := lw_g (lw_at lw_m13 29 rfl) rfl
theorem q2994 : (Jvm.Cond.instanceMethod ({ cls := "TurningWheelModel", name := "fault", desc := "()I" } : Jvm.MethodName)) ∈ lw_all := lw_g (lw_at lw_m13 31 rfl) rfl
theorem q2995 : (Jvm.Cond.selects "TurningWheelModel" ({ cls := "TurningWheelModel", name := "fault", desc := "()I" } : Jvm.MethodName) ({ cls := "TurningWheelModel", name := "fault", desc := "()I" } : Jvm.MethodName)) ∈ lw_all := lw_g (lw_at lw_m13 32 rfl) rfl
theorem q2996 : (Jvm.Cond.code ({ cls := "TurningWheelModel", name := "fault", desc := "()I" } : Jvm.MethodName) prog_32_method_78_code (1 : Nat) (Option.some Jvm.ClassFile.FieldType.int)) ∈ lw_all := lw_g (lw_at lw_m13 33 rfl) rfl
theorem q2998 : (Jvm.Cond.instanceMethod ({ cls := "TurningWheelModel", name := "undo", desc := "()I" } : Jvm.MethodName)) ∈ lw_all := lw_g (lw_at lw_m13 35 rfl) rfl
theorem q2999 : (Jvm.Cond.selects "TurningWheelModel" ({ cls := "TurningWheelModel", name := "undo", desc := "()I" } : Jvm.MethodName) ({ cls := "TurningWheelModel", name := "undo", desc := "()I" } : Jvm.MethodName)) ∈ lw_all := lw_g (lw_at lw_m13 36 rfl) rfl
theorem q3000 : (Jvm.Cond.code ({ cls := "TurningWheelModel", name := "undo", desc := "()I" } : Jvm.MethodName) prog_32_method_79_code (1 : Nat) (Option.some Jvm.ClassFile.FieldType.int)) ∈ lw_all := lw_g (lw_at lw_m13 37 rfl) rfl
theorem q3002 : (Jvm.Cond.instanceMethod ({ cls := "TurningWheelModel", name := "save", desc := "()I" } : Jvm.MethodName)) ∈ lw_all := lw_g (lw_at lw_m13 39 rfl) rfl
theorem q3003 : (Jvm.Cond.selects "TurningWheelModel" ({ cls := "TurningWheelModel", name := "save", desc := "()I" } : Jvm.MethodName) ({ cls := "TurningWheelModel", name := "save", desc := "()I" } : Jvm.MethodName)) ∈ lw_all := lw_g (lw_at lw_m13 40 rfl) rfl
theorem q3004 : (Jvm.Cond.code ({ cls := "TurningWheelModel", name := "save", desc := "()I" } : Jvm.MethodName) prog_32_method_80_code (1 : Nat) (Option.some Jvm.ClassFile.FieldType.int)) ∈ lw_all := lw_g (lw_at lw_m13 41 rfl) rfl
theorem q3006 : (Jvm.Cond.instanceMethod ({ cls := "TurningWheelModel", name := "restore", desc := "()I" } : Jvm.MethodName)) ∈ lw_all := lw_g (lw_at lw_m13 43 rfl) rfl
theorem q3007 : (Jvm.Cond.selects "TurningWheelModel" ({ cls := "TurningWheelModel", name := "restore", desc := "()I" } : Jvm.MethodName) ({ cls := "TurningWheelModel", name := "restore", desc := "()I" } : Jvm.MethodName)) ∈ lw_all := lw_g (lw_at lw_m13 44 rfl) rfl
theorem q3008 : (Jvm.Cond.code ({ cls := "TurningWheelModel", name := "restore", desc := "()I" } : Jvm.MethodName) prog_32_method_81_code (1 : Nat) (Option.some Jvm.ClassFile.FieldType.int)) ∈ lw_all := lw_g (lw_at lw_m13 45 rfl) rfl
theorem q3049 : (Jvm.Cond.castable "TurningWheelModel" "java/lang/Object") ∈ lw_tbl := lw_at lw_m13 86 rfl
theorem in_X3 : ∀ w ∈ wsX30, w ∈ lw_all := lw_in wsX30 [2641, 2643, 2645, 2647, 2649, 2651, 2653, 2655, 2657, 2659, 2661, 2663, 2665, 2667, 2669, 2671, 2673, 2675, 2677, 2679] (by decide +kernel) (by decide +kernel)

