/-! TurningWheel -/
set_option maxRecDepth 100000
def RX0 : String := "TurningWheel"
def TX0 : u_T := fun k => match k with
  | 0 => ("TurningWheel", "now", "LTurningWheel$Pottery;", false)
  | 1 => ("TurningWheel", "saved", "LTurningWheel$Pottery;", false)
  | 2 => ("TurningWheel", "before", "Ljava/util/ArrayDeque;", true)
  | 3 => ("TurningWheel", "latest", "LTurningWheel$Refused;", false)
  | 4 => ("TurningWheel", "input", "[C", true)
  | 5 => ("TurningWheel", "fed", "I", false)
  | _ => ("TurningWheel", "faultAt", "I", false)
def tyX0 : Nat → FieldType := fun k => match k with
  | 0 => .object "TurningWheel$Pottery"
  | 1 => .object "TurningWheel$Pottery"
  | 2 => .object "java/util/ArrayDeque"
  | 3 => .object "TurningWheel$Refused"
  | 4 => .array .char
  | 5 => .int
  | _ => .int
abbrev wsX00 : List Cond := u_ws RX0 TX0 7
theorem nmX0 : ∀ a, a < 7 → ∀ b, b < 7 → a ≠ b → (TX0 a).2.1 ≠ (TX0 b).2.1 := by decide +kernel
theorem tyX0_ok : ∀ k, k < 7 → parseFieldDescriptor (TX0 k).2.2.1 = some (tyX0 k) := by decide +kernel
abbrev cX0_init : ByteArray := prog_1_method_4_code
def yX0_init : MethodName := ⟨RX0, "<init>", "()V"⟩
def dkwX0_init_1 : List UInt8 := [181, 0, 25, 42, 16, 60, 188, 5, 181, 0, 29, 42, 2, 181, 0, 33, 177]
abbrev dktX0_init_1 : List UInt8 := dkwX0_init_1 ++ []
def dkwX0_init_0 : List UInt8 := [42, 183, 0, 7, 42, 187, 0, 13, 89, 183, 0, 15, 181, 0, 16, 42, 187, 0, 22, 89, 183, 0, 24]
abbrev dktX0_init_0 : List UInt8 := dkwX0_init_0 ++ dktX0_init_1
theorem dksX0_init_0 : cX0_init.data.toList.drop 0 = dktX0_init_0 := by decide +kernel
theorem dksX0_init_1 : cX0_init.data.toList.drop 23 = dktX0_init_1 := dk_seg dksX0_init_0 23 rfl rfl
theorem dX0_init_0 : decode cX0_init 0 = .ok (.aload_n 0, 1) := dk_42 (dk_at dksX0_init_0 0 rfl rfl)
theorem dX0_init_1 : decode cX0_init 1 = .ok (.invokespecial 7, 3) := dk_183 0 7 (dk_at dksX0_init_0 1 rfl rfl)
theorem dX0_init_4 : decode cX0_init 4 = .ok (.aload_n 0, 1) := dk_42 (dk_at dksX0_init_0 4 rfl rfl)
theorem dX0_init_5 : decode cX0_init 5 = .ok (.new 13, 3) := dk_187 0 13 (dk_at dksX0_init_0 5 rfl rfl)
theorem dX0_init_8 : decode cX0_init 8 = .ok (.dup, 1) := dk_89 (dk_at dksX0_init_0 8 rfl rfl)
theorem dX0_init_9 : decode cX0_init 9 = .ok (.invokespecial 15, 3) := dk_183 0 15 (dk_at dksX0_init_0 9 rfl rfl)
theorem dX0_init_12 : decode cX0_init 12 = .ok (.putfield 16, 3) := dk_181 0 16 (dk_at dksX0_init_0 12 rfl rfl)
theorem dX0_init_15 : decode cX0_init 15 = .ok (.aload_n 0, 1) := dk_42 (dk_at dksX0_init_0 15 rfl rfl)
theorem dX0_init_16 : decode cX0_init 16 = .ok (.new 22, 3) := dk_187 0 22 (dk_at dksX0_init_0 16 rfl rfl)
theorem dX0_init_19 : decode cX0_init 19 = .ok (.dup, 1) := dk_89 (dk_at dksX0_init_0 19 rfl rfl)
theorem dX0_init_20 : decode cX0_init 20 = .ok (.invokespecial 24, 3) := dk_183 0 24 (dk_at dksX0_init_0 20 rfl rfl)
theorem dX0_init_23 : decode cX0_init 23 = .ok (.putfield 25, 3) := dk_181 0 25 (dk_at dksX0_init_1 0 rfl rfl)
theorem dX0_init_26 : decode cX0_init 26 = .ok (.aload_n 0, 1) := dk_42 (dk_at dksX0_init_1 3 rfl rfl)
theorem dX0_init_27 : decode cX0_init 27 = .ok (.bipush 60, 2) := dk_16 60 (dk_at dksX0_init_1 4 rfl rfl)
theorem dX0_init_29 : decode cX0_init 29 = .ok (.newarray .char, 2) := dk_188_5 (dk_at dksX0_init_1 6 rfl rfl)
theorem dX0_init_31 : decode cX0_init 31 = .ok (.putfield 29, 3) := dk_181 0 29 (dk_at dksX0_init_1 8 rfl rfl)
theorem dX0_init_34 : decode cX0_init 34 = .ok (.aload_n 0, 1) := dk_42 (dk_at dksX0_init_1 11 rfl rfl)
theorem dX0_init_35 : decode cX0_init 35 = .ok (.iconst (-1), 1) := dk_2 (dk_at dksX0_init_1 12 rfl rfl)
theorem dX0_init_36 : decode cX0_init 36 = .ok (.putfield 33, 3) := dk_181 0 33 (dk_at dksX0_init_1 13 rfl rfl)
theorem dX0_init_39 : decode cX0_init 39 = .ok (.return_, 1) := dk_177 (dk_at dksX0_init_1 16 rfl rfl)
abbrev cX0_clear : ByteArray := prog_1_method_7_code
def yX0_clear : MethodName := ⟨RX0, "clear", "()I"⟩
def dkwX0_clear_1 : List UInt8 := [180, 0, 25, 182, 0, 60, 27, 172]
abbrev dktX0_clear_1 : List UInt8 := dkwX0_clear_1 ++ []
def dkwX0_clear_0 : List UInt8 := [42, 180, 0, 16, 180, 0, 53, 182, 0, 57, 60, 42, 187, 0, 13, 89, 183, 0, 15, 181, 0, 16, 42]
abbrev dktX0_clear_0 : List UInt8 := dkwX0_clear_0 ++ dktX0_clear_1
theorem dksX0_clear_0 : cX0_clear.data.toList.drop 0 = dktX0_clear_0 := by decide +kernel
theorem dksX0_clear_1 : cX0_clear.data.toList.drop 23 = dktX0_clear_1 := dk_seg dksX0_clear_0 23 rfl rfl
theorem dX0_clear_0 : decode cX0_clear 0 = .ok (.aload_n 0, 1) := dk_42 (dk_at dksX0_clear_0 0 rfl rfl)
theorem dX0_clear_1 : decode cX0_clear 1 = .ok (.getfield 16, 3) := dk_180 0 16 (dk_at dksX0_clear_0 1 rfl rfl)
theorem dX0_clear_4 : decode cX0_clear 4 = .ok (.getfield 53, 3) := dk_180 0 53 (dk_at dksX0_clear_0 4 rfl rfl)
theorem dX0_clear_7 : decode cX0_clear 7 = .ok (.invokevirtual 57, 3) := dk_182 0 57 (dk_at dksX0_clear_0 7 rfl rfl)
theorem dX0_clear_10 : decode cX0_clear 10 = .ok (.istore_n 1, 1) := dk_60 (dk_at dksX0_clear_0 10 rfl rfl)
theorem dX0_clear_11 : decode cX0_clear 11 = .ok (.aload_n 0, 1) := dk_42 (dk_at dksX0_clear_0 11 rfl rfl)
theorem dX0_clear_12 : decode cX0_clear 12 = .ok (.new 13, 3) := dk_187 0 13 (dk_at dksX0_clear_0 12 rfl rfl)
theorem dX0_clear_15 : decode cX0_clear 15 = .ok (.dup, 1) := dk_89 (dk_at dksX0_clear_0 15 rfl rfl)
theorem dX0_clear_16 : decode cX0_clear 16 = .ok (.invokespecial 15, 3) := dk_183 0 15 (dk_at dksX0_clear_0 16 rfl rfl)
theorem dX0_clear_19 : decode cX0_clear 19 = .ok (.putfield 16, 3) := dk_181 0 16 (dk_at dksX0_clear_0 19 rfl rfl)
theorem dX0_clear_22 : decode cX0_clear 22 = .ok (.aload_n 0, 1) := dk_42 (dk_at dksX0_clear_0 22 rfl rfl)
theorem dX0_clear_23 : decode cX0_clear 23 = .ok (.getfield 25, 3) := dk_180 0 25 (dk_at dksX0_clear_1 0 rfl rfl)
theorem dX0_clear_26 : decode cX0_clear 26 = .ok (.invokevirtual 60, 3) := dk_182 0 60 (dk_at dksX0_clear_1 3 rfl rfl)
theorem dX0_clear_29 : decode cX0_clear 29 = .ok (.iload_n 1, 1) := dk_27 (dk_at dksX0_clear_1 6 rfl rfl)
theorem dX0_clear_30 : decode cX0_clear 30 = .ok (.ireturn, 1) := dk_172 (dk_at dksX0_clear_1 7 rfl rfl)
abbrev cX0_set : ByteArray := prog_1_method_9_code
def yX0_set : MethodName := ⟨RX0, "set", "(II)I"⟩
def dkwX0_set_1 : List UInt8 := [187, 0, 71, 89, 42, 27, 28, 183, 0, 73, 182, 0, 76, 172]
abbrev dktX0_set_1 : List UInt8 := dkwX0_set_1 ++ []
def dkwX0_set_0 : List UInt8 := [27, 3, 8, 184, 0, 63, 154, 0, 5, 2, 172, 27, 28, 184, 0, 67, 154, 0, 6, 16, 254, 172]
abbrev dktX0_set_0 : List UInt8 := dkwX0_set_0 ++ dktX0_set_1
theorem dksX0_set_0 : cX0_set.data.toList.drop 0 = dktX0_set_0 := by decide +kernel
theorem dksX0_set_1 : cX0_set.data.toList.drop 22 = dktX0_set_1 := dk_seg dksX0_set_0 22 rfl rfl
theorem dX0_set_0 : decode cX0_set 0 = .ok (.iload_n 1, 1) := dk_27 (dk_at dksX0_set_0 0 rfl rfl)
theorem dX0_set_1 : decode cX0_set 1 = .ok (.iconst 0, 1) := dk_3 (dk_at dksX0_set_0 1 rfl rfl)
theorem dX0_set_2 : decode cX0_set 2 = .ok (.iconst 5, 1) := dk_8 (dk_at dksX0_set_0 2 rfl rfl)
theorem dX0_set_3 : decode cX0_set 3 = .ok (.invokestatic 63, 3) := dk_184 0 63 (dk_at dksX0_set_0 3 rfl rfl)
theorem dX0_set_6 : decode cX0_set 6 = .ok (.ifCond .ne 5, 3) := dk_154 0 5 (dk_at dksX0_set_0 6 rfl rfl)
theorem dX0_set_9 : decode cX0_set 9 = .ok (.iconst (-1), 1) := dk_2 (dk_at dksX0_set_0 9 rfl rfl)
theorem dX0_set_10 : decode cX0_set 10 = .ok (.ireturn, 1) := dk_172 (dk_at dksX0_set_0 10 rfl rfl)
theorem dX0_set_11 : decode cX0_set 11 = .ok (.iload_n 1, 1) := dk_27 (dk_at dksX0_set_0 11 rfl rfl)
theorem dX0_set_12 : decode cX0_set 12 = .ok (.iload_n 2, 1) := dk_28 (dk_at dksX0_set_0 12 rfl rfl)
theorem dX0_set_13 : decode cX0_set 13 = .ok (.invokestatic 67, 3) := dk_184 0 67 (dk_at dksX0_set_0 13 rfl rfl)
theorem dX0_set_16 : decode cX0_set 16 = .ok (.ifCond .ne 6, 3) := dk_154 0 6 (dk_at dksX0_set_0 16 rfl rfl)
theorem dX0_set_19 : decode cX0_set 19 = .ok (.bipush (-2), 2) := dk_16 254 (dk_at dksX0_set_0 19 rfl rfl)
theorem dX0_set_21 : decode cX0_set 21 = .ok (.ireturn, 1) := dk_172 (dk_at dksX0_set_0 21 rfl rfl)
theorem dX0_set_22 : decode cX0_set 22 = .ok (.new 71, 3) := dk_187 0 71 (dk_at dksX0_set_1 0 rfl rfl)
theorem dX0_set_25 : decode cX0_set 25 = .ok (.dup, 1) := dk_89 (dk_at dksX0_set_1 3 rfl rfl)
theorem dX0_set_26 : decode cX0_set 26 = .ok (.aload_n 0, 1) := dk_42 (dk_at dksX0_set_1 4 rfl rfl)
theorem dX0_set_27 : decode cX0_set 27 = .ok (.iload_n 1, 1) := dk_27 (dk_at dksX0_set_1 5 rfl rfl)
theorem dX0_set_28 : decode cX0_set 28 = .ok (.iload_n 2, 1) := dk_28 (dk_at dksX0_set_1 6 rfl rfl)
theorem dX0_set_29 : decode cX0_set 29 = .ok (.invokespecial 73, 3) := dk_183 0 73 (dk_at dksX0_set_1 7 rfl rfl)
theorem dX0_set_32 : decode cX0_set 32 = .ok (.invokevirtual 76, 3) := dk_182 0 76 (dk_at dksX0_set_1 10 rfl rfl)
theorem dX0_set_35 : decode cX0_set 35 = .ok (.ireturn, 1) := dk_172 (dk_at dksX0_set_1 13 rfl rfl)
abbrev cX0_in : ByteArray := prog_1_method_1_code
def yX0_in : MethodName := ⟨RX0, "in", "(III)Z"⟩
def dkwX0_in_0 : List UInt8 := [26, 27, 161, 0, 12, 26, 28, 163, 0, 7, 4, 167, 0, 4, 3, 172]
abbrev dktX0_in_0 : List UInt8 := dkwX0_in_0 ++ []
theorem dksX0_in_0 : cX0_in.data.toList.drop 0 = dktX0_in_0 := by decide +kernel
theorem dX0_in_0 : decode cX0_in 0 = .ok (.iload_n 0, 1) := dk_26 (dk_at dksX0_in_0 0 rfl rfl)
theorem dX0_in_1 : decode cX0_in 1 = .ok (.iload_n 1, 1) := dk_27 (dk_at dksX0_in_0 1 rfl rfl)
theorem dX0_in_2 : decode cX0_in 2 = .ok (.if_icmp .lt 12, 3) := dk_161 0 12 (dk_at dksX0_in_0 2 rfl rfl)
theorem dX0_in_5 : decode cX0_in 5 = .ok (.iload_n 0, 1) := dk_26 (dk_at dksX0_in_0 5 rfl rfl)
theorem dX0_in_6 : decode cX0_in 6 = .ok (.iload_n 2, 1) := dk_28 (dk_at dksX0_in_0 6 rfl rfl)
theorem dX0_in_7 : decode cX0_in 7 = .ok (.if_icmp .gt 7, 3) := dk_163 0 7 (dk_at dksX0_in_0 7 rfl rfl)
theorem dX0_in_10 : decode cX0_in 10 = .ok (.iconst 1, 1) := dk_4 (dk_at dksX0_in_0 10 rfl rfl)
theorem dX0_in_11 : decode cX0_in 11 = .ok (.goto 4, 3) := dk_167 0 4 (dk_at dksX0_in_0 11 rfl rfl)
theorem dX0_in_14 : decode cX0_in 14 = .ok (.iconst 0, 1) := dk_3 (dk_at dksX0_in_0 14 rfl rfl)
theorem dX0_in_15 : decode cX0_in 15 = .ok (.ireturn, 1) := dk_172 (dk_at dksX0_in_0 15 rfl rfl)
abbrev cX0_isSetting : ByteArray := prog_1_method_8_code
def yX0_isSetting : MethodName := ⟨RX0, "isSetting", "(II)Z"⟩
def dkwX0_isSetting_3 : List UInt8 := [184, 0, 63, 172]
abbrev dktX0_isSetting_3 : List UInt8 := dkwX0_isSetting_3 ++ []
def dkwX0_isSetting_2 : List UInt8 := [27, 16, 10, 17, 1, 144, 184, 0, 63, 172, 27, 4, 16, 48, 184, 0, 63, 172, 27, 3, 16, 9]
abbrev dktX0_isSetting_2 : List UInt8 := dkwX0_isSetting_2 ++ dktX0_isSetting_3
def dkwX0_isSetting_1 : List UInt8 := [171, 0, 0, 0, 0, 0, 45, 0, 0, 0, 2, 0, 0, 0, 4, 0, 0, 0, 27, 0, 0, 0, 5, 0, 0, 0, 37]
abbrev dktX0_isSetting_1 : List UInt8 := dkwX0_isSetting_1 ++ dktX0_isSetting_2
def dkwX0_isSetting_0 : List UInt8 := [26]
abbrev dktX0_isSetting_0 : List UInt8 := dkwX0_isSetting_0 ++ dktX0_isSetting_1
theorem dksX0_isSetting_0 : cX0_isSetting.data.toList.drop 0 = dktX0_isSetting_0 := by decide +kernel
theorem dksX0_isSetting_1 : cX0_isSetting.data.toList.drop 1 = dktX0_isSetting_1 := dk_seg dksX0_isSetting_0 1 rfl rfl
theorem dksX0_isSetting_2 : cX0_isSetting.data.toList.drop 28 = dktX0_isSetting_2 := dk_seg dksX0_isSetting_1 27 rfl rfl
theorem dksX0_isSetting_3 : cX0_isSetting.data.toList.drop 50 = dktX0_isSetting_3 := dk_seg dksX0_isSetting_2 22 rfl rfl
theorem dX0_isSetting_0 : decode cX0_isSetting 0 = .ok (.iload_n 0, 1) := dk_26 (dk_at dksX0_isSetting_0 0 rfl rfl)
theorem dX0_isSetting_1 : decode cX0_isSetting 1 = .ok (.lookupswitch 45 #[(4, 27), (5, 37)], 27) := by decide +kernel
theorem dX0_isSetting_28 : decode cX0_isSetting 28 = .ok (.iload_n 1, 1) := dk_27 (dk_at dksX0_isSetting_2 0 rfl rfl)
theorem dX0_isSetting_29 : decode cX0_isSetting 29 = .ok (.bipush 10, 2) := dk_16 10 (dk_at dksX0_isSetting_2 1 rfl rfl)
theorem dX0_isSetting_31 : decode cX0_isSetting 31 = .ok (.sipush 400, 3) := dk_17 1 144 (dk_at dksX0_isSetting_2 3 rfl rfl)
theorem dX0_isSetting_34 : decode cX0_isSetting 34 = .ok (.invokestatic 63, 3) := dk_184 0 63 (dk_at dksX0_isSetting_2 6 rfl rfl)
theorem dX0_isSetting_37 : decode cX0_isSetting 37 = .ok (.ireturn, 1) := dk_172 (dk_at dksX0_isSetting_2 9 rfl rfl)
theorem dX0_isSetting_38 : decode cX0_isSetting 38 = .ok (.iload_n 1, 1) := dk_27 (dk_at dksX0_isSetting_2 10 rfl rfl)
theorem dX0_isSetting_39 : decode cX0_isSetting 39 = .ok (.iconst 1, 1) := dk_4 (dk_at dksX0_isSetting_2 11 rfl rfl)
theorem dX0_isSetting_40 : decode cX0_isSetting 40 = .ok (.bipush 48, 2) := dk_16 48 (dk_at dksX0_isSetting_2 12 rfl rfl)
theorem dX0_isSetting_42 : decode cX0_isSetting 42 = .ok (.invokestatic 63, 3) := dk_184 0 63 (dk_at dksX0_isSetting_2 14 rfl rfl)
theorem dX0_isSetting_45 : decode cX0_isSetting 45 = .ok (.ireturn, 1) := dk_172 (dk_at dksX0_isSetting_2 17 rfl rfl)
theorem dX0_isSetting_46 : decode cX0_isSetting 46 = .ok (.iload_n 1, 1) := dk_27 (dk_at dksX0_isSetting_2 18 rfl rfl)
theorem dX0_isSetting_47 : decode cX0_isSetting 47 = .ok (.iconst 0, 1) := dk_3 (dk_at dksX0_isSetting_2 19 rfl rfl)
theorem dX0_isSetting_48 : decode cX0_isSetting 48 = .ok (.bipush 9, 2) := dk_16 9 (dk_at dksX0_isSetting_2 20 rfl rfl)
theorem dX0_isSetting_50 : decode cX0_isSetting 50 = .ok (.invokestatic 63, 3) := dk_184 0 63 (dk_at dksX0_isSetting_3 0 rfl rfl)
theorem dX0_isSetting_53 : decode cX0_isSetting 53 = .ok (.ireturn, 1) := dk_172 (dk_at dksX0_isSetting_3 3 rfl rfl)
abbrev cX0_bit : ByteArray := prog_1_method_2_code
def yX0_bit : MethodName := ⟨RX0, "bit", "(Z)I"⟩
def dkwX0_bit_0 : List UInt8 := [26, 153, 0, 7, 4, 167, 0, 4, 3, 172]
abbrev dktX0_bit_0 : List UInt8 := dkwX0_bit_0 ++ []
theorem dksX0_bit_0 : cX0_bit.data.toList.drop 0 = dktX0_bit_0 := by decide +kernel
theorem dX0_bit_0 : decode cX0_bit 0 = .ok (.iload_n 0, 1) := dk_26 (dk_at dksX0_bit_0 0 rfl rfl)
theorem dX0_bit_1 : decode cX0_bit 1 = .ok (.ifCond .eq 7, 3) := dk_153 0 7 (dk_at dksX0_bit_0 1 rfl rfl)
theorem dX0_bit_4 : decode cX0_bit 4 = .ok (.iconst 1, 1) := dk_4 (dk_at dksX0_bit_0 4 rfl rfl)
theorem dX0_bit_5 : decode cX0_bit 5 = .ok (.goto 4, 3) := dk_167 0 4 (dk_at dksX0_bit_0 5 rfl rfl)
theorem dX0_bit_8 : decode cX0_bit 8 = .ok (.iconst 0, 1) := dk_3 (dk_at dksX0_bit_0 8 rfl rfl)
theorem dX0_bit_9 : decode cX0_bit 9 = .ok (.ireturn, 1) := dk_172 (dk_at dksX0_bit_0 9 rfl rfl)
abbrev cX0_doesAll : ByteArray := prog_1_method_40_code
def yX0_doesAll : MethodName := ⟨RX0, "doesAll", "(LTurningWheel$Pottery;Ljava/util/List;)I"⟩
def dkwX0_doesAll_4 : List UInt8 := [132, 2, 1, 167, 255, 168, 28, 172]
abbrev dktX0_doesAll_4 : List UInt8 := dkwX0_doesAll_4 ++ []
def dkwX0_doesAll_3 : List UInt8 := [167, 0, 8, 25, 5, 192, 1, 147, 58, 6, 187, 1, 147, 89, 16, 18, 28, 25, 6, 183, 1, 155, 191]
abbrev dktX0_doesAll_3 : List UInt8 := dkwX0_doesAll_3 ++ dktX0_doesAll_4
def dkwX0_doesAll_2 : List UInt8 := [153, 0, 27, 25, 5, 192, 1, 86, 58, 7, 187, 1, 147, 89, 16, 19, 25, 7, 180, 1, 149, 183, 1, 152]
abbrev dktX0_doesAll_2 : List UInt8 := dkwX0_doesAll_2 ++ dktX0_doesAll_3
def dkwX0_doesAll_1 : List UInt8 := [192, 1, 102, 58, 4, 42, 25, 4, 184, 1, 143, 54, 5, 167, 0, 57, 58, 5, 25, 5, 193, 1, 86]
abbrev dktX0_doesAll_1 : List UInt8 := dkwX0_doesAll_1 ++ dktX0_doesAll_2
def dkwX0_doesAll_0 : List UInt8 := [3, 61, 43, 185, 1, 131, 1, 0, 78, 45, 185, 1, 135, 1, 0, 153, 0, 85, 45, 185, 1, 140, 1, 0]
abbrev dktX0_doesAll_0 : List UInt8 := dkwX0_doesAll_0 ++ dktX0_doesAll_1
theorem dksX0_doesAll_0 : cX0_doesAll.data.toList.drop 0 = dktX0_doesAll_0 := by decide +kernel
theorem dksX0_doesAll_1 : cX0_doesAll.data.toList.drop 24 = dktX0_doesAll_1 := dk_seg dksX0_doesAll_0 24 rfl rfl
theorem dksX0_doesAll_2 : cX0_doesAll.data.toList.drop 47 = dktX0_doesAll_2 := dk_seg dksX0_doesAll_1 23 rfl rfl
theorem dksX0_doesAll_3 : cX0_doesAll.data.toList.drop 71 = dktX0_doesAll_3 := dk_seg dksX0_doesAll_2 24 rfl rfl
theorem dksX0_doesAll_4 : cX0_doesAll.data.toList.drop 94 = dktX0_doesAll_4 := dk_seg dksX0_doesAll_3 23 rfl rfl
theorem dX0_doesAll_0 : decode cX0_doesAll 0 = .ok (.iconst 0, 1) := dk_3 (dk_at dksX0_doesAll_0 0 rfl rfl)
theorem dX0_doesAll_1 : decode cX0_doesAll 1 = .ok (.istore_n 2, 1) := dk_61 (dk_at dksX0_doesAll_0 1 rfl rfl)
theorem dX0_doesAll_2 : decode cX0_doesAll 2 = .ok (.aload_n 1, 1) := dk_43 (dk_at dksX0_doesAll_0 2 rfl rfl)
theorem dX0_doesAll_3 : decode cX0_doesAll 3 = .ok (.invokeinterface 387 1, 5) := by decide +kernel
theorem dX0_doesAll_8 : decode cX0_doesAll 8 = .ok (.astore_n 3, 1) := dk_78 (dk_at dksX0_doesAll_0 8 rfl rfl)
theorem dX0_doesAll_9 : decode cX0_doesAll 9 = .ok (.aload_n 3, 1) := dk_45 (dk_at dksX0_doesAll_0 9 rfl rfl)
theorem dX0_doesAll_10 : decode cX0_doesAll 10 = .ok (.invokeinterface 391 1, 5) := by decide +kernel
theorem dX0_doesAll_15 : decode cX0_doesAll 15 = .ok (.ifCond .eq 85, 3) := dk_153 0 85 (dk_at dksX0_doesAll_0 15 rfl rfl)
theorem dX0_doesAll_18 : decode cX0_doesAll 18 = .ok (.aload_n 3, 1) := dk_45 (dk_at dksX0_doesAll_0 18 rfl rfl)
theorem dX0_doesAll_19 : decode cX0_doesAll 19 = .ok (.invokeinterface 396 1, 5) := by decide +kernel
theorem dX0_doesAll_24 : decode cX0_doesAll 24 = .ok (.checkcast 358, 3) := dk_192 1 102 (dk_at dksX0_doesAll_1 0 rfl rfl)
theorem dX0_doesAll_27 : decode cX0_doesAll 27 = .ok (.astore 4, 2) := dk_58 4 (dk_at dksX0_doesAll_1 3 rfl rfl)
theorem dX0_doesAll_29 : decode cX0_doesAll 29 = .ok (.aload_n 0, 1) := dk_42 (dk_at dksX0_doesAll_1 5 rfl rfl)
theorem dX0_doesAll_30 : decode cX0_doesAll 30 = .ok (.aload 4, 2) := dk_25 4 (dk_at dksX0_doesAll_1 6 rfl rfl)
theorem dX0_doesAll_32 : decode cX0_doesAll 32 = .ok (.invokestatic 399, 3) := dk_184 1 143 (dk_at dksX0_doesAll_1 8 rfl rfl)
theorem dX0_doesAll_35 : decode cX0_doesAll 35 = .ok (.istore 5, 2) := dk_54 5 (dk_at dksX0_doesAll_1 11 rfl rfl)
theorem dX0_doesAll_37 : decode cX0_doesAll 37 = .ok (.goto 57, 3) := dk_167 0 57 (dk_at dksX0_doesAll_1 13 rfl rfl)
theorem dX0_doesAll_40 : decode cX0_doesAll 40 = .ok (.astore 5, 2) := dk_58 5 (dk_at dksX0_doesAll_1 16 rfl rfl)
theorem dX0_doesAll_42 : decode cX0_doesAll 42 = .ok (.aload 5, 2) := dk_25 5 (dk_at dksX0_doesAll_1 18 rfl rfl)
theorem dX0_doesAll_44 : decode cX0_doesAll 44 = .ok (.instanceof 342, 3) := dk_193 1 86 (dk_at dksX0_doesAll_1 20 rfl rfl)
theorem dX0_doesAll_47 : decode cX0_doesAll 47 = .ok (.ifCond .eq 27, 3) := dk_153 0 27 (dk_at dksX0_doesAll_2 0 rfl rfl)
theorem dX0_doesAll_50 : decode cX0_doesAll 50 = .ok (.aload 5, 2) := dk_25 5 (dk_at dksX0_doesAll_2 3 rfl rfl)
theorem dX0_doesAll_52 : decode cX0_doesAll 52 = .ok (.checkcast 342, 3) := dk_192 1 86 (dk_at dksX0_doesAll_2 5 rfl rfl)
theorem dX0_doesAll_55 : decode cX0_doesAll 55 = .ok (.astore 7, 2) := dk_58 7 (dk_at dksX0_doesAll_2 8 rfl rfl)
theorem dX0_doesAll_57 : decode cX0_doesAll 57 = .ok (.new 403, 3) := dk_187 1 147 (dk_at dksX0_doesAll_2 10 rfl rfl)
theorem dX0_doesAll_60 : decode cX0_doesAll 60 = .ok (.dup, 1) := dk_89 (dk_at dksX0_doesAll_2 13 rfl rfl)
theorem dX0_doesAll_61 : decode cX0_doesAll 61 = .ok (.bipush 19, 2) := dk_16 19 (dk_at dksX0_doesAll_2 14 rfl rfl)
theorem dX0_doesAll_63 : decode cX0_doesAll 63 = .ok (.aload 7, 2) := dk_25 7 (dk_at dksX0_doesAll_2 16 rfl rfl)
theorem dX0_doesAll_65 : decode cX0_doesAll 65 = .ok (.getfield 405, 3) := dk_180 1 149 (dk_at dksX0_doesAll_2 18 rfl rfl)
theorem dX0_doesAll_68 : decode cX0_doesAll 68 = .ok (.invokespecial 408, 3) := dk_183 1 152 (dk_at dksX0_doesAll_2 21 rfl rfl)
theorem dX0_doesAll_71 : decode cX0_doesAll 71 = .ok (.goto 8, 3) := dk_167 0 8 (dk_at dksX0_doesAll_3 0 rfl rfl)
theorem dX0_doesAll_74 : decode cX0_doesAll 74 = .ok (.aload 5, 2) := dk_25 5 (dk_at dksX0_doesAll_3 3 rfl rfl)
theorem dX0_doesAll_76 : decode cX0_doesAll 76 = .ok (.checkcast 403, 3) := dk_192 1 147 (dk_at dksX0_doesAll_3 5 rfl rfl)
theorem dX0_doesAll_79 : decode cX0_doesAll 79 = .ok (.astore 6, 2) := dk_58 6 (dk_at dksX0_doesAll_3 8 rfl rfl)
theorem dX0_doesAll_81 : decode cX0_doesAll 81 = .ok (.new 403, 3) := dk_187 1 147 (dk_at dksX0_doesAll_3 10 rfl rfl)
theorem dX0_doesAll_84 : decode cX0_doesAll 84 = .ok (.dup, 1) := dk_89 (dk_at dksX0_doesAll_3 13 rfl rfl)
theorem dX0_doesAll_85 : decode cX0_doesAll 85 = .ok (.bipush 18, 2) := dk_16 18 (dk_at dksX0_doesAll_3 14 rfl rfl)
theorem dX0_doesAll_87 : decode cX0_doesAll 87 = .ok (.iload_n 2, 1) := dk_28 (dk_at dksX0_doesAll_3 16 rfl rfl)
theorem dX0_doesAll_88 : decode cX0_doesAll 88 = .ok (.aload 6, 2) := dk_25 6 (dk_at dksX0_doesAll_3 17 rfl rfl)
theorem dX0_doesAll_90 : decode cX0_doesAll 90 = .ok (.invokespecial 411, 3) := dk_183 1 155 (dk_at dksX0_doesAll_3 19 rfl rfl)
theorem dX0_doesAll_93 : decode cX0_doesAll 93 = .ok (.athrow, 1) := dk_191 (dk_at dksX0_doesAll_3 22 rfl rfl)
theorem dX0_doesAll_94 : decode cX0_doesAll 94 = .ok (.iinc 2 1, 3) := dk_132 2 1 (dk_at dksX0_doesAll_4 0 rfl rfl)
theorem dX0_doesAll_97 : decode cX0_doesAll 97 = .ok (.goto (-88), 3) := dk_167 255 168 (dk_at dksX0_doesAll_4 3 rfl rfl)
theorem dX0_doesAll_100 : decode cX0_doesAll 100 = .ok (.iload_n 2, 1) := dk_28 (dk_at dksX0_doesAll_4 6 rfl rfl)
theorem dX0_doesAll_101 : decode cX0_doesAll 101 = .ok (.ireturn, 1) := dk_172 (dk_at dksX0_doesAll_4 7 rfl rfl)
abbrev cX0_does : ByteArray := prog_1_method_39_code
def yX0_does : MethodName := ⟨RX0, "does", "(LTurningWheel$Pottery;LTurningWheel$Command;)I"⟩
def dkwX0_does_6 : List UInt8 := [44, 4, 46, 182, 1, 124, 172, 42, 182, 1, 128, 172]
abbrev dktX0_does_6 : List UInt8 := dkwX0_does_6 ++ []
def dkwX0_does_5 : List UInt8 := [182, 0, 103, 3, 184, 1, 91, 44, 4, 46, 3, 16, 7, 184, 0, 63, 4, 184, 1, 91, 42, 44, 3, 46]
abbrev dktX0_does_5 : List UInt8 := dkwX0_does_5 ++ dktX0_does_6
def dkwX0_does_4 : List UInt8 := [160, 0, 7, 4, 167, 0, 4, 3, 182, 1, 117, 172, 42, 44, 184, 1, 121, 172, 42, 44, 3, 46]
abbrev dktX0_does_4 : List UInt8 := dkwX0_does_4 ++ dktX0_does_5
def dkwX0_does_3 : List UInt8 := [182, 1, 114, 172, 42, 44, 3, 46, 182, 0, 103, 3, 184, 1, 91, 42, 44, 3, 46, 44, 4, 46, 4]
abbrev dktX0_does_3 : List UInt8 := dkwX0_does_3 ++ dktX0_does_4
def dkwX0_does_2 : List UInt8 := [42, 44, 184, 1, 110, 172, 44, 3, 46, 4, 16, 48, 184, 0, 63, 3, 184, 1, 91, 42, 44, 3, 46]
abbrev dktX0_does_2 : List UInt8 := dkwX0_does_2 ++ dktX0_does_3
def dkwX0_does_1 : List UInt8 := [170, 0, 0, 0, 0, 0, 170, 0, 0, 0, 99, 0, 0, 0, 112, 0, 0, 0, 98, 0, 0, 0, 170, 0, 0, 0, 170, 0, 0, 0, 170, 0, 0, 0, 129, 0, 0, 0, 77, 0, 0, 0, 170, 0, 0, 0, 170, 0, 0, 0, 135, 0, 0, 0, 170, 0, 0, 0, 170, 0, 0, 0, 170, 0, 0, 0, 170, 0, 0, 0, 71]
abbrev dktX0_does_1 : List UInt8 := dkwX0_does_1 ++ dktX0_does_2
def dkwX0_does_0 : List UInt8 := [43, 180, 1, 101, 77, 43, 180, 1, 106]
abbrev dktX0_does_0 : List UInt8 := dkwX0_does_0 ++ dktX0_does_1
theorem dksX0_does_0 : cX0_does.data.toList.drop 0 = dktX0_does_0 := by decide +kernel
theorem dksX0_does_1 : cX0_does.data.toList.drop 9 = dktX0_does_1 := dk_seg dksX0_does_0 9 rfl rfl
theorem dksX0_does_2 : cX0_does.data.toList.drop 80 = dktX0_does_2 := dk_seg dksX0_does_1 71 rfl rfl
theorem dksX0_does_3 : cX0_does.data.toList.drop 103 = dktX0_does_3 := dk_seg dksX0_does_2 23 rfl rfl
theorem dksX0_does_4 : cX0_does.data.toList.drop 126 = dktX0_does_4 := dk_seg dksX0_does_3 23 rfl rfl
theorem dksX0_does_5 : cX0_does.data.toList.drop 148 = dktX0_does_5 := dk_seg dksX0_does_4 22 rfl rfl
theorem dksX0_does_6 : cX0_does.data.toList.drop 172 = dktX0_does_6 := dk_seg dksX0_does_5 24 rfl rfl
theorem dX0_does_0 : decode cX0_does 0 = .ok (.aload_n 1, 1) := dk_43 (dk_at dksX0_does_0 0 rfl rfl)
theorem dX0_does_1 : decode cX0_does 1 = .ok (.getfield 357, 3) := dk_180 1 101 (dk_at dksX0_does_0 1 rfl rfl)
theorem dX0_does_4 : decode cX0_does 4 = .ok (.astore_n 2, 1) := dk_77 (dk_at dksX0_does_0 4 rfl rfl)
theorem dX0_does_5 : decode cX0_does 5 = .ok (.aload_n 1, 1) := dk_43 (dk_at dksX0_does_0 5 rfl rfl)
theorem dX0_does_6 : decode cX0_does 6 = .ok (.getfield 362, 3) := dk_180 1 106 (dk_at dksX0_does_0 6 rfl rfl)
theorem dX0_does_9 : decode cX0_does 9 = .ok (.tableswitch 170 99 112 #[98, 170, 170, 170, 129, 77, 170, 170, 135, 170, 170, 170, 170, 71], 71) := by decide +kernel
theorem dX0_does_80 : decode cX0_does 80 = .ok (.aload_n 0, 1) := dk_42 (dk_at dksX0_does_2 0 rfl rfl)
theorem dX0_does_81 : decode cX0_does 81 = .ok (.aload_n 2, 1) := dk_44 (dk_at dksX0_does_2 1 rfl rfl)
theorem dX0_does_82 : decode cX0_does 82 = .ok (.invokestatic 366, 3) := dk_184 1 110 (dk_at dksX0_does_2 2 rfl rfl)
theorem dX0_does_85 : decode cX0_does 85 = .ok (.ireturn, 1) := dk_172 (dk_at dksX0_does_2 5 rfl rfl)
theorem dX0_does_86 : decode cX0_does 86 = .ok (.aload_n 2, 1) := dk_44 (dk_at dksX0_does_2 6 rfl rfl)
theorem dX0_does_87 : decode cX0_does 87 = .ok (.iconst 0, 1) := dk_3 (dk_at dksX0_does_2 7 rfl rfl)
theorem dX0_does_88 : decode cX0_does 88 = .ok (.iaload, 1) := dk_46 (dk_at dksX0_does_2 8 rfl rfl)
theorem dX0_does_89 : decode cX0_does 89 = .ok (.iconst 1, 1) := dk_4 (dk_at dksX0_does_2 9 rfl rfl)
theorem dX0_does_90 : decode cX0_does 90 = .ok (.bipush 48, 2) := dk_16 48 (dk_at dksX0_does_2 10 rfl rfl)
theorem dX0_does_92 : decode cX0_does 92 = .ok (.invokestatic 63, 3) := dk_184 0 63 (dk_at dksX0_does_2 12 rfl rfl)
theorem dX0_does_95 : decode cX0_does 95 = .ok (.iconst 0, 1) := dk_3 (dk_at dksX0_does_2 15 rfl rfl)
theorem dX0_does_96 : decode cX0_does 96 = .ok (.invokestatic 347, 3) := dk_184 1 91 (dk_at dksX0_does_2 16 rfl rfl)
theorem dX0_does_99 : decode cX0_does 99 = .ok (.aload_n 0, 1) := dk_42 (dk_at dksX0_does_2 19 rfl rfl)
theorem dX0_does_100 : decode cX0_does 100 = .ok (.aload_n 2, 1) := dk_44 (dk_at dksX0_does_2 20 rfl rfl)
theorem dX0_does_101 : decode cX0_does 101 = .ok (.iconst 0, 1) := dk_3 (dk_at dksX0_does_2 21 rfl rfl)
theorem dX0_does_102 : decode cX0_does 102 = .ok (.iaload, 1) := dk_46 (dk_at dksX0_does_2 22 rfl rfl)
theorem dX0_does_103 : decode cX0_does 103 = .ok (.invokevirtual 370, 3) := dk_182 1 114 (dk_at dksX0_does_3 0 rfl rfl)
theorem dX0_does_106 : decode cX0_does 106 = .ok (.ireturn, 1) := dk_172 (dk_at dksX0_does_3 3 rfl rfl)
theorem dX0_does_107 : decode cX0_does 107 = .ok (.aload_n 0, 1) := dk_42 (dk_at dksX0_does_3 4 rfl rfl)
theorem dX0_does_108 : decode cX0_does 108 = .ok (.aload_n 2, 1) := dk_44 (dk_at dksX0_does_3 5 rfl rfl)
theorem dX0_does_109 : decode cX0_does 109 = .ok (.iconst 0, 1) := dk_3 (dk_at dksX0_does_3 6 rfl rfl)
theorem dX0_does_110 : decode cX0_does 110 = .ok (.iaload, 1) := dk_46 (dk_at dksX0_does_3 7 rfl rfl)
theorem dX0_does_111 : decode cX0_does 111 = .ok (.invokevirtual 103, 3) := dk_182 0 103 (dk_at dksX0_does_3 8 rfl rfl)
theorem dX0_does_114 : decode cX0_does 114 = .ok (.iconst 0, 1) := dk_3 (dk_at dksX0_does_3 11 rfl rfl)
theorem dX0_does_115 : decode cX0_does 115 = .ok (.invokestatic 347, 3) := dk_184 1 91 (dk_at dksX0_does_3 12 rfl rfl)
theorem dX0_does_118 : decode cX0_does 118 = .ok (.aload_n 0, 1) := dk_42 (dk_at dksX0_does_3 15 rfl rfl)
theorem dX0_does_119 : decode cX0_does 119 = .ok (.aload_n 2, 1) := dk_44 (dk_at dksX0_does_3 16 rfl rfl)
theorem dX0_does_120 : decode cX0_does 120 = .ok (.iconst 0, 1) := dk_3 (dk_at dksX0_does_3 17 rfl rfl)
theorem dX0_does_121 : decode cX0_does 121 = .ok (.iaload, 1) := dk_46 (dk_at dksX0_does_3 18 rfl rfl)
theorem dX0_does_122 : decode cX0_does 122 = .ok (.aload_n 2, 1) := dk_44 (dk_at dksX0_does_3 19 rfl rfl)
theorem dX0_does_123 : decode cX0_does 123 = .ok (.iconst 1, 1) := dk_4 (dk_at dksX0_does_3 20 rfl rfl)
theorem dX0_does_124 : decode cX0_does 124 = .ok (.iaload, 1) := dk_46 (dk_at dksX0_does_3 21 rfl rfl)
theorem dX0_does_125 : decode cX0_does 125 = .ok (.iconst 1, 1) := dk_4 (dk_at dksX0_does_3 22 rfl rfl)
theorem dX0_does_126 : decode cX0_does 126 = .ok (.if_icmp .ne 7, 3) := dk_160 0 7 (dk_at dksX0_does_4 0 rfl rfl)
theorem dX0_does_129 : decode cX0_does 129 = .ok (.iconst 1, 1) := dk_4 (dk_at dksX0_does_4 3 rfl rfl)
theorem dX0_does_130 : decode cX0_does 130 = .ok (.goto 4, 3) := dk_167 0 4 (dk_at dksX0_does_4 4 rfl rfl)
theorem dX0_does_133 : decode cX0_does 133 = .ok (.iconst 0, 1) := dk_3 (dk_at dksX0_does_4 7 rfl rfl)
theorem dX0_does_134 : decode cX0_does 134 = .ok (.invokevirtual 373, 3) := dk_182 1 117 (dk_at dksX0_does_4 8 rfl rfl)
theorem dX0_does_137 : decode cX0_does 137 = .ok (.ireturn, 1) := dk_172 (dk_at dksX0_does_4 11 rfl rfl)
theorem dX0_does_138 : decode cX0_does 138 = .ok (.aload_n 0, 1) := dk_42 (dk_at dksX0_does_4 12 rfl rfl)
theorem dX0_does_139 : decode cX0_does 139 = .ok (.aload_n 2, 1) := dk_44 (dk_at dksX0_does_4 13 rfl rfl)
theorem dX0_does_140 : decode cX0_does 140 = .ok (.invokestatic 377, 3) := dk_184 1 121 (dk_at dksX0_does_4 14 rfl rfl)
theorem dX0_does_143 : decode cX0_does 143 = .ok (.ireturn, 1) := dk_172 (dk_at dksX0_does_4 17 rfl rfl)
theorem dX0_does_144 : decode cX0_does 144 = .ok (.aload_n 0, 1) := dk_42 (dk_at dksX0_does_4 18 rfl rfl)
theorem dX0_does_145 : decode cX0_does 145 = .ok (.aload_n 2, 1) := dk_44 (dk_at dksX0_does_4 19 rfl rfl)
theorem dX0_does_146 : decode cX0_does 146 = .ok (.iconst 0, 1) := dk_3 (dk_at dksX0_does_4 20 rfl rfl)
theorem dX0_does_147 : decode cX0_does 147 = .ok (.iaload, 1) := dk_46 (dk_at dksX0_does_4 21 rfl rfl)
theorem dX0_does_148 : decode cX0_does 148 = .ok (.invokevirtual 103, 3) := dk_182 0 103 (dk_at dksX0_does_5 0 rfl rfl)
theorem dX0_does_151 : decode cX0_does 151 = .ok (.iconst 0, 1) := dk_3 (dk_at dksX0_does_5 3 rfl rfl)
theorem dX0_does_152 : decode cX0_does 152 = .ok (.invokestatic 347, 3) := dk_184 1 91 (dk_at dksX0_does_5 4 rfl rfl)
theorem dX0_does_155 : decode cX0_does 155 = .ok (.aload_n 2, 1) := dk_44 (dk_at dksX0_does_5 7 rfl rfl)
theorem dX0_does_156 : decode cX0_does 156 = .ok (.iconst 1, 1) := dk_4 (dk_at dksX0_does_5 8 rfl rfl)
theorem dX0_does_157 : decode cX0_does 157 = .ok (.iaload, 1) := dk_46 (dk_at dksX0_does_5 9 rfl rfl)
theorem dX0_does_158 : decode cX0_does 158 = .ok (.iconst 0, 1) := dk_3 (dk_at dksX0_does_5 10 rfl rfl)
theorem dX0_does_159 : decode cX0_does 159 = .ok (.bipush 7, 2) := dk_16 7 (dk_at dksX0_does_5 11 rfl rfl)
theorem dX0_does_161 : decode cX0_does 161 = .ok (.invokestatic 63, 3) := dk_184 0 63 (dk_at dksX0_does_5 13 rfl rfl)
theorem dX0_does_164 : decode cX0_does 164 = .ok (.iconst 1, 1) := dk_4 (dk_at dksX0_does_5 16 rfl rfl)
theorem dX0_does_165 : decode cX0_does 165 = .ok (.invokestatic 347, 3) := dk_184 1 91 (dk_at dksX0_does_5 17 rfl rfl)
theorem dX0_does_168 : decode cX0_does 168 = .ok (.aload_n 0, 1) := dk_42 (dk_at dksX0_does_5 20 rfl rfl)
theorem dX0_does_169 : decode cX0_does 169 = .ok (.aload_n 2, 1) := dk_44 (dk_at dksX0_does_5 21 rfl rfl)
theorem dX0_does_170 : decode cX0_does 170 = .ok (.iconst 0, 1) := dk_3 (dk_at dksX0_does_5 22 rfl rfl)
theorem dX0_does_171 : decode cX0_does 171 = .ok (.iaload, 1) := dk_46 (dk_at dksX0_does_5 23 rfl rfl)
theorem dX0_does_172 : decode cX0_does 172 = .ok (.aload_n 2, 1) := dk_44 (dk_at dksX0_does_6 0 rfl rfl)
theorem dX0_does_173 : decode cX0_does 173 = .ok (.iconst 1, 1) := dk_4 (dk_at dksX0_does_6 1 rfl rfl)
theorem dX0_does_174 : decode cX0_does 174 = .ok (.iaload, 1) := dk_46 (dk_at dksX0_does_6 2 rfl rfl)
theorem dX0_does_175 : decode cX0_does 175 = .ok (.invokevirtual 380, 3) := dk_182 1 124 (dk_at dksX0_does_6 3 rfl rfl)
theorem dX0_does_178 : decode cX0_does 178 = .ok (.ireturn, 1) := dk_172 (dk_at dksX0_does_6 6 rfl rfl)
theorem dX0_does_179 : decode cX0_does 179 = .ok (.aload_n 0, 1) := dk_42 (dk_at dksX0_does_6 7 rfl rfl)
theorem dX0_does_180 : decode cX0_does 180 = .ok (.invokevirtual 384, 3) := dk_182 1 128 (dk_at dksX0_does_6 8 rfl rfl)
theorem dX0_does_183 : decode cX0_does 183 = .ok (.ireturn, 1) := dk_172 (dk_at dksX0_does_6 11 rfl rfl)
abbrev cX0_potOf : ByteArray := prog_1_method_37_code
def yX0_potOf : MethodName := ⟨RX0, "potOf", "(LTurningWheel$Pottery;[I)I"⟩
def dkwX0_potOf_2 : List UInt8 := [182, 1, 94, 172]
abbrev dktX0_potOf_2 : List UInt8 := dkwX0_potOf_2 ++ []
def dkwX0_potOf_1 : List UInt8 := [43, 5, 46, 4, 16, 9, 184, 0, 63, 5, 184, 1, 91, 42, 43, 3, 46, 43, 4, 46, 43, 5, 46]
abbrev dktX0_potOf_1 : List UInt8 := dkwX0_potOf_1 ++ dktX0_potOf_2
def dkwX0_potOf_0 : List UInt8 := [42, 43, 3, 46, 182, 0, 93, 3, 184, 1, 91, 43, 4, 46, 4, 16, 9, 184, 0, 63, 4, 184, 1, 91]
abbrev dktX0_potOf_0 : List UInt8 := dkwX0_potOf_0 ++ dktX0_potOf_1
theorem dksX0_potOf_0 : cX0_potOf.data.toList.drop 0 = dktX0_potOf_0 := by decide +kernel
theorem dksX0_potOf_1 : cX0_potOf.data.toList.drop 24 = dktX0_potOf_1 := dk_seg dksX0_potOf_0 24 rfl rfl
theorem dksX0_potOf_2 : cX0_potOf.data.toList.drop 47 = dktX0_potOf_2 := dk_seg dksX0_potOf_1 23 rfl rfl
theorem dX0_potOf_0 : decode cX0_potOf 0 = .ok (.aload_n 0, 1) := dk_42 (dk_at dksX0_potOf_0 0 rfl rfl)
theorem dX0_potOf_1 : decode cX0_potOf 1 = .ok (.aload_n 1, 1) := dk_43 (dk_at dksX0_potOf_0 1 rfl rfl)
theorem dX0_potOf_2 : decode cX0_potOf 2 = .ok (.iconst 0, 1) := dk_3 (dk_at dksX0_potOf_0 2 rfl rfl)
theorem dX0_potOf_3 : decode cX0_potOf 3 = .ok (.iaload, 1) := dk_46 (dk_at dksX0_potOf_0 3 rfl rfl)
theorem dX0_potOf_4 : decode cX0_potOf 4 = .ok (.invokevirtual 93, 3) := dk_182 0 93 (dk_at dksX0_potOf_0 4 rfl rfl)
theorem dX0_potOf_7 : decode cX0_potOf 7 = .ok (.iconst 0, 1) := dk_3 (dk_at dksX0_potOf_0 7 rfl rfl)
theorem dX0_potOf_8 : decode cX0_potOf 8 = .ok (.invokestatic 347, 3) := dk_184 1 91 (dk_at dksX0_potOf_0 8 rfl rfl)
theorem dX0_potOf_11 : decode cX0_potOf 11 = .ok (.aload_n 1, 1) := dk_43 (dk_at dksX0_potOf_0 11 rfl rfl)
theorem dX0_potOf_12 : decode cX0_potOf 12 = .ok (.iconst 1, 1) := dk_4 (dk_at dksX0_potOf_0 12 rfl rfl)
theorem dX0_potOf_13 : decode cX0_potOf 13 = .ok (.iaload, 1) := dk_46 (dk_at dksX0_potOf_0 13 rfl rfl)
theorem dX0_potOf_14 : decode cX0_potOf 14 = .ok (.iconst 1, 1) := dk_4 (dk_at dksX0_potOf_0 14 rfl rfl)
theorem dX0_potOf_15 : decode cX0_potOf 15 = .ok (.bipush 9, 2) := dk_16 9 (dk_at dksX0_potOf_0 15 rfl rfl)
theorem dX0_potOf_17 : decode cX0_potOf 17 = .ok (.invokestatic 63, 3) := dk_184 0 63 (dk_at dksX0_potOf_0 17 rfl rfl)
theorem dX0_potOf_20 : decode cX0_potOf 20 = .ok (.iconst 1, 1) := dk_4 (dk_at dksX0_potOf_0 20 rfl rfl)
theorem dX0_potOf_21 : decode cX0_potOf 21 = .ok (.invokestatic 347, 3) := dk_184 1 91 (dk_at dksX0_potOf_0 21 rfl rfl)
theorem dX0_potOf_24 : decode cX0_potOf 24 = .ok (.aload_n 1, 1) := dk_43 (dk_at dksX0_potOf_1 0 rfl rfl)
theorem dX0_potOf_25 : decode cX0_potOf 25 = .ok (.iconst 2, 1) := dk_5 (dk_at dksX0_potOf_1 1 rfl rfl)
theorem dX0_potOf_26 : decode cX0_potOf 26 = .ok (.iaload, 1) := dk_46 (dk_at dksX0_potOf_1 2 rfl rfl)
theorem dX0_potOf_27 : decode cX0_potOf 27 = .ok (.iconst 1, 1) := dk_4 (dk_at dksX0_potOf_1 3 rfl rfl)
theorem dX0_potOf_28 : decode cX0_potOf 28 = .ok (.bipush 9, 2) := dk_16 9 (dk_at dksX0_potOf_1 4 rfl rfl)
theorem dX0_potOf_30 : decode cX0_potOf 30 = .ok (.invokestatic 63, 3) := dk_184 0 63 (dk_at dksX0_potOf_1 6 rfl rfl)
theorem dX0_potOf_33 : decode cX0_potOf 33 = .ok (.iconst 2, 1) := dk_5 (dk_at dksX0_potOf_1 9 rfl rfl)
theorem dX0_potOf_34 : decode cX0_potOf 34 = .ok (.invokestatic 347, 3) := dk_184 1 91 (dk_at dksX0_potOf_1 10 rfl rfl)
theorem dX0_potOf_37 : decode cX0_potOf 37 = .ok (.aload_n 0, 1) := dk_42 (dk_at dksX0_potOf_1 13 rfl rfl)
theorem dX0_potOf_38 : decode cX0_potOf 38 = .ok (.aload_n 1, 1) := dk_43 (dk_at dksX0_potOf_1 14 rfl rfl)
theorem dX0_potOf_39 : decode cX0_potOf 39 = .ok (.iconst 0, 1) := dk_3 (dk_at dksX0_potOf_1 15 rfl rfl)
theorem dX0_potOf_40 : decode cX0_potOf 40 = .ok (.iaload, 1) := dk_46 (dk_at dksX0_potOf_1 16 rfl rfl)
theorem dX0_potOf_41 : decode cX0_potOf 41 = .ok (.aload_n 1, 1) := dk_43 (dk_at dksX0_potOf_1 17 rfl rfl)
theorem dX0_potOf_42 : decode cX0_potOf 42 = .ok (.iconst 1, 1) := dk_4 (dk_at dksX0_potOf_1 18 rfl rfl)
theorem dX0_potOf_43 : decode cX0_potOf 43 = .ok (.iaload, 1) := dk_46 (dk_at dksX0_potOf_1 19 rfl rfl)
theorem dX0_potOf_44 : decode cX0_potOf 44 = .ok (.aload_n 1, 1) := dk_43 (dk_at dksX0_potOf_1 20 rfl rfl)
theorem dX0_potOf_45 : decode cX0_potOf 45 = .ok (.iconst 2, 1) := dk_5 (dk_at dksX0_potOf_1 21 rfl rfl)
theorem dX0_potOf_46 : decode cX0_potOf 46 = .ok (.iaload, 1) := dk_46 (dk_at dksX0_potOf_1 22 rfl rfl)
theorem dX0_potOf_47 : decode cX0_potOf 47 = .ok (.invokevirtual 350, 3) := dk_182 1 94 (dk_at dksX0_potOf_2 0 rfl rfl)
theorem dX0_potOf_50 : decode cX0_potOf 50 = .ok (.ireturn, 1) := dk_172 (dk_at dksX0_potOf_2 3 rfl rfl)
abbrev cX0_needs : ByteArray := prog_1_method_36_code
def yX0_needs : MethodName := ⟨RX0, "needs", "(ZI)V"⟩
def dkwX0_needs_0 : List UInt8 := [26, 154, 0, 12, 187, 1, 86, 89, 27, 183, 1, 88, 191, 177]
abbrev dktX0_needs_0 : List UInt8 := dkwX0_needs_0 ++ []
theorem dksX0_needs_0 : cX0_needs.data.toList.drop 0 = dktX0_needs_0 := by decide +kernel
theorem dX0_needs_0 : decode cX0_needs 0 = .ok (.iload_n 0, 1) := dk_26 (dk_at dksX0_needs_0 0 rfl rfl)
theorem dX0_needs_1 : decode cX0_needs 1 = .ok (.ifCond .ne 12, 3) := dk_154 0 12 (dk_at dksX0_needs_0 1 rfl rfl)
theorem dX0_needs_4 : decode cX0_needs 4 = .ok (.new 342, 3) := dk_187 1 86 (dk_at dksX0_needs_0 4 rfl rfl)
theorem dX0_needs_7 : decode cX0_needs 7 = .ok (.dup, 1) := dk_89 (dk_at dksX0_needs_0 7 rfl rfl)
theorem dX0_needs_8 : decode cX0_needs 8 = .ok (.iload_n 1, 1) := dk_27 (dk_at dksX0_needs_0 8 rfl rfl)
theorem dX0_needs_9 : decode cX0_needs 9 = .ok (.invokespecial 344, 3) := dk_183 1 88 (dk_at dksX0_needs_0 9 rfl rfl)
theorem dX0_needs_12 : decode cX0_needs 12 = .ok (.athrow, 1) := dk_191 (dk_at dksX0_needs_0 12 rfl rfl)
theorem dX0_needs_13 : decode cX0_needs 13 = .ok (.return_, 1) := dk_177 (dk_at dksX0_needs_0 13 rfl rfl)
abbrev cX0_glazeOf : ByteArray := prog_1_method_38_code
def yX0_glazeOf : MethodName := ⟨RX0, "glazeOf", "(LTurningWheel$Pottery;[I)I"⟩
def dkwX0_glazeOf_2 : List UInt8 := [172]
abbrev dktX0_glazeOf_2 : List UInt8 := dkwX0_glazeOf_2 ++ []
def dkwX0_glazeOf_1 : List UInt8 := [5, 46, 4, 6, 184, 0, 63, 5, 184, 1, 91, 42, 43, 3, 46, 43, 4, 46, 43, 5, 46, 182, 1, 98]
abbrev dktX0_glazeOf_1 : List UInt8 := dkwX0_glazeOf_1 ++ dktX0_glazeOf_2
def dkwX0_glazeOf_0 : List UInt8 := [42, 43, 3, 46, 182, 0, 103, 3, 184, 1, 91, 43, 4, 46, 3, 6, 184, 0, 63, 4, 184, 1, 91, 43]
abbrev dktX0_glazeOf_0 : List UInt8 := dkwX0_glazeOf_0 ++ dktX0_glazeOf_1
theorem dksX0_glazeOf_0 : cX0_glazeOf.data.toList.drop 0 = dktX0_glazeOf_0 := by decide +kernel
theorem dksX0_glazeOf_1 : cX0_glazeOf.data.toList.drop 24 = dktX0_glazeOf_1 := dk_seg dksX0_glazeOf_0 24 rfl rfl
theorem dksX0_glazeOf_2 : cX0_glazeOf.data.toList.drop 48 = dktX0_glazeOf_2 := dk_seg dksX0_glazeOf_1 24 rfl rfl
theorem dX0_glazeOf_0 : decode cX0_glazeOf 0 = .ok (.aload_n 0, 1) := dk_42 (dk_at dksX0_glazeOf_0 0 rfl rfl)
theorem dX0_glazeOf_1 : decode cX0_glazeOf 1 = .ok (.aload_n 1, 1) := dk_43 (dk_at dksX0_glazeOf_0 1 rfl rfl)
theorem dX0_glazeOf_2 : decode cX0_glazeOf 2 = .ok (.iconst 0, 1) := dk_3 (dk_at dksX0_glazeOf_0 2 rfl rfl)
theorem dX0_glazeOf_3 : decode cX0_glazeOf 3 = .ok (.iaload, 1) := dk_46 (dk_at dksX0_glazeOf_0 3 rfl rfl)
theorem dX0_glazeOf_4 : decode cX0_glazeOf 4 = .ok (.invokevirtual 103, 3) := dk_182 0 103 (dk_at dksX0_glazeOf_0 4 rfl rfl)
theorem dX0_glazeOf_7 : decode cX0_glazeOf 7 = .ok (.iconst 0, 1) := dk_3 (dk_at dksX0_glazeOf_0 7 rfl rfl)
theorem dX0_glazeOf_8 : decode cX0_glazeOf 8 = .ok (.invokestatic 347, 3) := dk_184 1 91 (dk_at dksX0_glazeOf_0 8 rfl rfl)
theorem dX0_glazeOf_11 : decode cX0_glazeOf 11 = .ok (.aload_n 1, 1) := dk_43 (dk_at dksX0_glazeOf_0 11 rfl rfl)
theorem dX0_glazeOf_12 : decode cX0_glazeOf 12 = .ok (.iconst 1, 1) := dk_4 (dk_at dksX0_glazeOf_0 12 rfl rfl)
theorem dX0_glazeOf_13 : decode cX0_glazeOf 13 = .ok (.iaload, 1) := dk_46 (dk_at dksX0_glazeOf_0 13 rfl rfl)
theorem dX0_glazeOf_14 : decode cX0_glazeOf 14 = .ok (.iconst 0, 1) := dk_3 (dk_at dksX0_glazeOf_0 14 rfl rfl)
theorem dX0_glazeOf_15 : decode cX0_glazeOf 15 = .ok (.iconst 3, 1) := dk_6 (dk_at dksX0_glazeOf_0 15 rfl rfl)
theorem dX0_glazeOf_16 : decode cX0_glazeOf 16 = .ok (.invokestatic 63, 3) := dk_184 0 63 (dk_at dksX0_glazeOf_0 16 rfl rfl)
theorem dX0_glazeOf_19 : decode cX0_glazeOf 19 = .ok (.iconst 1, 1) := dk_4 (dk_at dksX0_glazeOf_0 19 rfl rfl)
theorem dX0_glazeOf_20 : decode cX0_glazeOf 20 = .ok (.invokestatic 347, 3) := dk_184 1 91 (dk_at dksX0_glazeOf_0 20 rfl rfl)
theorem dX0_glazeOf_23 : decode cX0_glazeOf 23 = .ok (.aload_n 1, 1) := dk_43 (dk_at dksX0_glazeOf_0 23 rfl rfl)
theorem dX0_glazeOf_24 : decode cX0_glazeOf 24 = .ok (.iconst 2, 1) := dk_5 (dk_at dksX0_glazeOf_1 0 rfl rfl)
theorem dX0_glazeOf_25 : decode cX0_glazeOf 25 = .ok (.iaload, 1) := dk_46 (dk_at dksX0_glazeOf_1 1 rfl rfl)
theorem dX0_glazeOf_26 : decode cX0_glazeOf 26 = .ok (.iconst 1, 1) := dk_4 (dk_at dksX0_glazeOf_1 2 rfl rfl)
theorem dX0_glazeOf_27 : decode cX0_glazeOf 27 = .ok (.iconst 3, 1) := dk_6 (dk_at dksX0_glazeOf_1 3 rfl rfl)
theorem dX0_glazeOf_28 : decode cX0_glazeOf 28 = .ok (.invokestatic 63, 3) := dk_184 0 63 (dk_at dksX0_glazeOf_1 4 rfl rfl)
theorem dX0_glazeOf_31 : decode cX0_glazeOf 31 = .ok (.iconst 2, 1) := dk_5 (dk_at dksX0_glazeOf_1 7 rfl rfl)
theorem dX0_glazeOf_32 : decode cX0_glazeOf 32 = .ok (.invokestatic 347, 3) := dk_184 1 91 (dk_at dksX0_glazeOf_1 8 rfl rfl)
theorem dX0_glazeOf_35 : decode cX0_glazeOf 35 = .ok (.aload_n 0, 1) := dk_42 (dk_at dksX0_glazeOf_1 11 rfl rfl)
theorem dX0_glazeOf_36 : decode cX0_glazeOf 36 = .ok (.aload_n 1, 1) := dk_43 (dk_at dksX0_glazeOf_1 12 rfl rfl)
theorem dX0_glazeOf_37 : decode cX0_glazeOf 37 = .ok (.iconst 0, 1) := dk_3 (dk_at dksX0_glazeOf_1 13 rfl rfl)
theorem dX0_glazeOf_38 : decode cX0_glazeOf 38 = .ok (.iaload, 1) := dk_46 (dk_at dksX0_glazeOf_1 14 rfl rfl)
theorem dX0_glazeOf_39 : decode cX0_glazeOf 39 = .ok (.aload_n 1, 1) := dk_43 (dk_at dksX0_glazeOf_1 15 rfl rfl)
theorem dX0_glazeOf_40 : decode cX0_glazeOf 40 = .ok (.iconst 1, 1) := dk_4 (dk_at dksX0_glazeOf_1 16 rfl rfl)
theorem dX0_glazeOf_41 : decode cX0_glazeOf 41 = .ok (.iaload, 1) := dk_46 (dk_at dksX0_glazeOf_1 17 rfl rfl)
theorem dX0_glazeOf_42 : decode cX0_glazeOf 42 = .ok (.aload_n 1, 1) := dk_43 (dk_at dksX0_glazeOf_1 18 rfl rfl)
theorem dX0_glazeOf_43 : decode cX0_glazeOf 43 = .ok (.iconst 2, 1) := dk_5 (dk_at dksX0_glazeOf_1 19 rfl rfl)
theorem dX0_glazeOf_44 : decode cX0_glazeOf 44 = .ok (.iaload, 1) := dk_46 (dk_at dksX0_glazeOf_1 20 rfl rfl)
theorem dX0_glazeOf_45 : decode cX0_glazeOf 45 = .ok (.invokevirtual 354, 3) := dk_182 1 98 (dk_at dksX0_glazeOf_1 21 rfl rfl)
theorem dX0_glazeOf_48 : decode cX0_glazeOf 48 = .ok (.ireturn, 1) := dk_172 (dk_at dksX0_glazeOf_2 0 rfl rfl)
abbrev cX0_keeps : ByteArray := prog_1_method_6_code
def yX0_keeps : MethodName := ⟨RX0, "keeps", "(LTurningWheel$Pottery;)V"⟩
def dkwX0_keeps_1 : List UInt8 := [182, 0, 49, 192, 0, 13, 77, 177]
abbrev dktX0_keeps_1 : List UInt8 := dkwX0_keeps_1 ++ []
def dkwX0_keeps_0 : List UInt8 := [42, 180, 0, 25, 43, 182, 0, 41, 42, 180, 0, 25, 182, 0, 45, 16, 8, 164, 0, 14, 42, 180, 0, 25]
abbrev dktX0_keeps_0 : List UInt8 := dkwX0_keeps_0 ++ dktX0_keeps_1
theorem dksX0_keeps_0 : cX0_keeps.data.toList.drop 0 = dktX0_keeps_0 := by decide +kernel
theorem dksX0_keeps_1 : cX0_keeps.data.toList.drop 24 = dktX0_keeps_1 := dk_seg dksX0_keeps_0 24 rfl rfl
theorem dX0_keeps_0 : decode cX0_keeps 0 = .ok (.aload_n 0, 1) := dk_42 (dk_at dksX0_keeps_0 0 rfl rfl)
theorem dX0_keeps_1 : decode cX0_keeps 1 = .ok (.getfield 25, 3) := dk_180 0 25 (dk_at dksX0_keeps_0 1 rfl rfl)
theorem dX0_keeps_4 : decode cX0_keeps 4 = .ok (.aload_n 1, 1) := dk_43 (dk_at dksX0_keeps_0 4 rfl rfl)
theorem dX0_keeps_5 : decode cX0_keeps 5 = .ok (.invokevirtual 41, 3) := dk_182 0 41 (dk_at dksX0_keeps_0 5 rfl rfl)
theorem dX0_keeps_8 : decode cX0_keeps 8 = .ok (.aload_n 0, 1) := dk_42 (dk_at dksX0_keeps_0 8 rfl rfl)
theorem dX0_keeps_9 : decode cX0_keeps 9 = .ok (.getfield 25, 3) := dk_180 0 25 (dk_at dksX0_keeps_0 9 rfl rfl)
theorem dX0_keeps_12 : decode cX0_keeps 12 = .ok (.invokevirtual 45, 3) := dk_182 0 45 (dk_at dksX0_keeps_0 12 rfl rfl)
theorem dX0_keeps_15 : decode cX0_keeps 15 = .ok (.bipush 8, 2) := dk_16 8 (dk_at dksX0_keeps_0 15 rfl rfl)
theorem dX0_keeps_17 : decode cX0_keeps 17 = .ok (.if_icmp .le 14, 3) := dk_164 0 14 (dk_at dksX0_keeps_0 17 rfl rfl)
theorem dX0_keeps_20 : decode cX0_keeps 20 = .ok (.aload_n 0, 1) := dk_42 (dk_at dksX0_keeps_0 20 rfl rfl)
theorem dX0_keeps_21 : decode cX0_keeps 21 = .ok (.getfield 25, 3) := dk_180 0 25 (dk_at dksX0_keeps_0 21 rfl rfl)
theorem dX0_keeps_24 : decode cX0_keeps 24 = .ok (.invokevirtual 49, 3) := dk_182 0 49 (dk_at dksX0_keeps_1 0 rfl rfl)
theorem dX0_keeps_27 : decode cX0_keeps 27 = .ok (.checkcast 13, 3) := dk_192 0 13 (dk_at dksX0_keeps_1 3 rfl rfl)
theorem dX0_keeps_30 : decode cX0_keeps 30 = .ok (.astore_n 2, 1) := dk_77 (dk_at dksX0_keeps_1 6 rfl rfl)
theorem dX0_keeps_31 : decode cX0_keeps 31 = .ok (.return_, 1) := dk_177 (dk_at dksX0_keeps_1 7 rfl rfl)
abbrev cX0_refuses : ByteArray := prog_1_method_5_code
def yX0_refuses : MethodName := ⟨RX0, "refuses", "(LTurningWheel$Refused;)I"⟩
def dkwX0_refuses_0 : List UInt8 := [42, 43, 181, 0, 37, 16, 251, 172]
abbrev dktX0_refuses_0 : List UInt8 := dkwX0_refuses_0 ++ []
theorem dksX0_refuses_0 : cX0_refuses.data.toList.drop 0 = dktX0_refuses_0 := by decide +kernel
theorem dX0_refuses_0 : decode cX0_refuses 0 = .ok (.aload_n 0, 1) := dk_42 (dk_at dksX0_refuses_0 0 rfl rfl)
theorem dX0_refuses_1 : decode cX0_refuses 1 = .ok (.aload_n 1, 1) := dk_43 (dk_at dksX0_refuses_0 1 rfl rfl)
theorem dX0_refuses_2 : decode cX0_refuses 2 = .ok (.putfield 37, 3) := dk_181 0 37 (dk_at dksX0_refuses_0 2 rfl rfl)
theorem dX0_refuses_5 : decode cX0_refuses 5 = .ok (.bipush (-5), 2) := dk_16 251 (dk_at dksX0_refuses_0 5 rfl rfl)
theorem dX0_refuses_7 : decode cX0_refuses 7 = .ok (.ireturn, 1) := dk_172 (dk_at dksX0_refuses_0 7 rfl rfl)
abbrev cX0_dryness : ByteArray := prog_1_method_10_code
def yX0_dryness : MethodName := ⟨RX0, "dryness", "(II)I"⟩
def dkwX0_dryness_1 : List UInt8 := [172, 187, 0, 79, 89, 42, 27, 28, 183, 0, 81, 182, 0, 82, 172]
abbrev dktX0_dryness_1 : List UInt8 := dkwX0_dryness_1 ++ []
def dkwX0_dryness_0 : List UInt8 := [27, 3, 16, 23, 184, 0, 63, 154, 0, 5, 2, 172, 28, 3, 16, 60, 184, 0, 63, 154, 0, 6, 16, 254]
abbrev dktX0_dryness_0 : List UInt8 := dkwX0_dryness_0 ++ dktX0_dryness_1
theorem dksX0_dryness_0 : cX0_dryness.data.toList.drop 0 = dktX0_dryness_0 := by decide +kernel
theorem dksX0_dryness_1 : cX0_dryness.data.toList.drop 24 = dktX0_dryness_1 := dk_seg dksX0_dryness_0 24 rfl rfl
theorem dX0_dryness_0 : decode cX0_dryness 0 = .ok (.iload_n 1, 1) := dk_27 (dk_at dksX0_dryness_0 0 rfl rfl)
theorem dX0_dryness_1 : decode cX0_dryness 1 = .ok (.iconst 0, 1) := dk_3 (dk_at dksX0_dryness_0 1 rfl rfl)
theorem dX0_dryness_2 : decode cX0_dryness 2 = .ok (.bipush 23, 2) := dk_16 23 (dk_at dksX0_dryness_0 2 rfl rfl)
theorem dX0_dryness_4 : decode cX0_dryness 4 = .ok (.invokestatic 63, 3) := dk_184 0 63 (dk_at dksX0_dryness_0 4 rfl rfl)
theorem dX0_dryness_7 : decode cX0_dryness 7 = .ok (.ifCond .ne 5, 3) := dk_154 0 5 (dk_at dksX0_dryness_0 7 rfl rfl)
theorem dX0_dryness_10 : decode cX0_dryness 10 = .ok (.iconst (-1), 1) := dk_2 (dk_at dksX0_dryness_0 10 rfl rfl)
theorem dX0_dryness_11 : decode cX0_dryness 11 = .ok (.ireturn, 1) := dk_172 (dk_at dksX0_dryness_0 11 rfl rfl)
theorem dX0_dryness_12 : decode cX0_dryness 12 = .ok (.iload_n 2, 1) := dk_28 (dk_at dksX0_dryness_0 12 rfl rfl)
theorem dX0_dryness_13 : decode cX0_dryness 13 = .ok (.iconst 0, 1) := dk_3 (dk_at dksX0_dryness_0 13 rfl rfl)
theorem dX0_dryness_14 : decode cX0_dryness 14 = .ok (.bipush 60, 2) := dk_16 60 (dk_at dksX0_dryness_0 14 rfl rfl)
theorem dX0_dryness_16 : decode cX0_dryness 16 = .ok (.invokestatic 63, 3) := dk_184 0 63 (dk_at dksX0_dryness_0 16 rfl rfl)
theorem dX0_dryness_19 : decode cX0_dryness 19 = .ok (.ifCond .ne 6, 3) := dk_154 0 6 (dk_at dksX0_dryness_0 19 rfl rfl)
theorem dX0_dryness_22 : decode cX0_dryness 22 = .ok (.bipush (-2), 2) := dk_16 254 (dk_at dksX0_dryness_0 22 rfl rfl)
theorem dX0_dryness_24 : decode cX0_dryness 24 = .ok (.ireturn, 1) := dk_172 (dk_at dksX0_dryness_1 0 rfl rfl)
theorem dX0_dryness_25 : decode cX0_dryness 25 = .ok (.new 79, 3) := dk_187 0 79 (dk_at dksX0_dryness_1 1 rfl rfl)
theorem dX0_dryness_28 : decode cX0_dryness 28 = .ok (.dup, 1) := dk_89 (dk_at dksX0_dryness_1 4 rfl rfl)
theorem dX0_dryness_29 : decode cX0_dryness 29 = .ok (.aload_n 0, 1) := dk_42 (dk_at dksX0_dryness_1 5 rfl rfl)
theorem dX0_dryness_30 : decode cX0_dryness 30 = .ok (.iload_n 1, 1) := dk_27 (dk_at dksX0_dryness_1 6 rfl rfl)
theorem dX0_dryness_31 : decode cX0_dryness 31 = .ok (.iload_n 2, 1) := dk_28 (dk_at dksX0_dryness_1 7 rfl rfl)
theorem dX0_dryness_32 : decode cX0_dryness 32 = .ok (.invokespecial 81, 3) := dk_183 0 81 (dk_at dksX0_dryness_1 8 rfl rfl)
theorem dX0_dryness_35 : decode cX0_dryness 35 = .ok (.invokevirtual 82, 3) := dk_182 0 82 (dk_at dksX0_dryness_1 11 rfl rfl)
theorem dX0_dryness_38 : decode cX0_dryness 38 = .ok (.ireturn, 1) := dk_172 (dk_at dksX0_dryness_1 14 rfl rfl)
abbrev cX0_air : ByteArray := prog_1_method_11_code
def yX0_air : MethodName := ⟨RX0, "air", "(I)I"⟩
def dkwX0_air_0 : List UInt8 := [27, 3, 16, 23, 184, 0, 63, 153, 0, 15, 42, 180, 0, 16, 180, 0, 83, 27, 46, 167, 0, 4, 2, 172]
abbrev dktX0_air_0 : List UInt8 := dkwX0_air_0 ++ []
theorem dksX0_air_0 : cX0_air.data.toList.drop 0 = dktX0_air_0 := by decide +kernel
theorem dX0_air_0 : decode cX0_air 0 = .ok (.iload_n 1, 1) := dk_27 (dk_at dksX0_air_0 0 rfl rfl)
theorem dX0_air_1 : decode cX0_air 1 = .ok (.iconst 0, 1) := dk_3 (dk_at dksX0_air_0 1 rfl rfl)
theorem dX0_air_2 : decode cX0_air 2 = .ok (.bipush 23, 2) := dk_16 23 (dk_at dksX0_air_0 2 rfl rfl)
theorem dX0_air_4 : decode cX0_air 4 = .ok (.invokestatic 63, 3) := dk_184 0 63 (dk_at dksX0_air_0 4 rfl rfl)
theorem dX0_air_7 : decode cX0_air 7 = .ok (.ifCond .eq 15, 3) := dk_153 0 15 (dk_at dksX0_air_0 7 rfl rfl)
theorem dX0_air_10 : decode cX0_air 10 = .ok (.aload_n 0, 1) := dk_42 (dk_at dksX0_air_0 10 rfl rfl)
theorem dX0_air_11 : decode cX0_air 11 = .ok (.getfield 16, 3) := dk_180 0 16 (dk_at dksX0_air_0 11 rfl rfl)
theorem dX0_air_14 : decode cX0_air 14 = .ok (.getfield 83, 3) := dk_180 0 83 (dk_at dksX0_air_0 14 rfl rfl)
theorem dX0_air_17 : decode cX0_air 17 = .ok (.iload_n 1, 1) := dk_27 (dk_at dksX0_air_0 17 rfl rfl)
theorem dX0_air_18 : decode cX0_air 18 = .ok (.iaload, 1) := dk_46 (dk_at dksX0_air_0 18 rfl rfl)
theorem dX0_air_19 : decode cX0_air 19 = .ok (.goto 4, 3) := dk_167 0 4 (dk_at dksX0_air_0 19 rfl rfl)
theorem dX0_air_22 : decode cX0_air 22 = .ok (.iconst (-1), 1) := dk_2 (dk_at dksX0_air_0 22 rfl rfl)
theorem dX0_air_23 : decode cX0_air 23 = .ok (.ireturn, 1) := dk_172 (dk_at dksX0_air_0 23 rfl rfl)
abbrev cX0_potter : ByteArray := prog_1_method_12_code
def yX0_potter : MethodName := ⟨RX0, "potter", "(I)I"⟩
def dkwX0_potter_1 : List UInt8 := [182, 0, 92, 172]
abbrev dktX0_potter_1 : List UInt8 := dkwX0_potter_1 ++ []
def dkwX0_potter_0 : List UInt8 := [27, 4, 16, 9, 184, 0, 63, 154, 0, 6, 16, 254, 172, 187, 0, 87, 89, 42, 27, 183, 0, 89]
abbrev dktX0_potter_0 : List UInt8 := dkwX0_potter_0 ++ dktX0_potter_1
theorem dksX0_potter_0 : cX0_potter.data.toList.drop 0 = dktX0_potter_0 := by decide +kernel
theorem dksX0_potter_1 : cX0_potter.data.toList.drop 22 = dktX0_potter_1 := dk_seg dksX0_potter_0 22 rfl rfl
theorem dX0_potter_0 : decode cX0_potter 0 = .ok (.iload_n 1, 1) := dk_27 (dk_at dksX0_potter_0 0 rfl rfl)
theorem dX0_potter_1 : decode cX0_potter 1 = .ok (.iconst 1, 1) := dk_4 (dk_at dksX0_potter_0 1 rfl rfl)
theorem dX0_potter_2 : decode cX0_potter 2 = .ok (.bipush 9, 2) := dk_16 9 (dk_at dksX0_potter_0 2 rfl rfl)
theorem dX0_potter_4 : decode cX0_potter 4 = .ok (.invokestatic 63, 3) := dk_184 0 63 (dk_at dksX0_potter_0 4 rfl rfl)
theorem dX0_potter_7 : decode cX0_potter 7 = .ok (.ifCond .ne 6, 3) := dk_154 0 6 (dk_at dksX0_potter_0 7 rfl rfl)
theorem dX0_potter_10 : decode cX0_potter 10 = .ok (.bipush (-2), 2) := dk_16 254 (dk_at dksX0_potter_0 10 rfl rfl)
theorem dX0_potter_12 : decode cX0_potter 12 = .ok (.ireturn, 1) := dk_172 (dk_at dksX0_potter_0 12 rfl rfl)
theorem dX0_potter_13 : decode cX0_potter 13 = .ok (.new 87, 3) := dk_187 0 87 (dk_at dksX0_potter_0 13 rfl rfl)
theorem dX0_potter_16 : decode cX0_potter 16 = .ok (.dup, 1) := dk_89 (dk_at dksX0_potter_0 16 rfl rfl)
theorem dX0_potter_17 : decode cX0_potter 17 = .ok (.aload_n 0, 1) := dk_42 (dk_at dksX0_potter_0 17 rfl rfl)
theorem dX0_potter_18 : decode cX0_potter 18 = .ok (.iload_n 1, 1) := dk_27 (dk_at dksX0_potter_0 18 rfl rfl)
theorem dX0_potter_19 : decode cX0_potter 19 = .ok (.invokespecial 89, 3) := dk_183 0 89 (dk_at dksX0_potter_0 19 rfl rfl)
theorem dX0_potter_22 : decode cX0_potter 22 = .ok (.invokevirtual 92, 3) := dk_182 0 92 (dk_at dksX0_potter_1 0 rfl rfl)
theorem dX0_potter_25 : decode cX0_potter 25 = .ok (.ireturn, 1) := dk_172 (dk_at dksX0_potter_1 3 rfl rfl)
abbrev cX0_pot : ByteArray := prog_1_method_13_code
def yX0_pot : MethodName := ⟨RX0, "pot", "(III)I"⟩
def dkwX0_pot_2 : List UInt8 := [182, 0, 102, 172]
abbrev dktX0_pot_2 : List UInt8 := dkwX0_pot_2 ++ []
def dkwX0_pot_1 : List UInt8 := [4, 16, 9, 184, 0, 63, 154, 0, 6, 16, 254, 172, 187, 0, 97, 89, 42, 27, 28, 29, 183, 0, 99]
abbrev dktX0_pot_1 : List UInt8 := dkwX0_pot_1 ++ dktX0_pot_2
def dkwX0_pot_0 : List UInt8 := [42, 180, 0, 16, 27, 182, 0, 93, 154, 0, 5, 2, 172, 28, 4, 16, 9, 184, 0, 63, 153, 0, 13, 29]
abbrev dktX0_pot_0 : List UInt8 := dkwX0_pot_0 ++ dktX0_pot_1
theorem dksX0_pot_0 : cX0_pot.data.toList.drop 0 = dktX0_pot_0 := by decide +kernel
theorem dksX0_pot_1 : cX0_pot.data.toList.drop 24 = dktX0_pot_1 := dk_seg dksX0_pot_0 24 rfl rfl
theorem dksX0_pot_2 : cX0_pot.data.toList.drop 47 = dktX0_pot_2 := dk_seg dksX0_pot_1 23 rfl rfl
theorem dX0_pot_0 : decode cX0_pot 0 = .ok (.aload_n 0, 1) := dk_42 (dk_at dksX0_pot_0 0 rfl rfl)
theorem dX0_pot_1 : decode cX0_pot 1 = .ok (.getfield 16, 3) := dk_180 0 16 (dk_at dksX0_pot_0 1 rfl rfl)
theorem dX0_pot_4 : decode cX0_pot 4 = .ok (.iload_n 1, 1) := dk_27 (dk_at dksX0_pot_0 4 rfl rfl)
theorem dX0_pot_5 : decode cX0_pot 5 = .ok (.invokevirtual 93, 3) := dk_182 0 93 (dk_at dksX0_pot_0 5 rfl rfl)
theorem dX0_pot_8 : decode cX0_pot 8 = .ok (.ifCond .ne 5, 3) := dk_154 0 5 (dk_at dksX0_pot_0 8 rfl rfl)
theorem dX0_pot_11 : decode cX0_pot 11 = .ok (.iconst (-1), 1) := dk_2 (dk_at dksX0_pot_0 11 rfl rfl)
theorem dX0_pot_12 : decode cX0_pot 12 = .ok (.ireturn, 1) := dk_172 (dk_at dksX0_pot_0 12 rfl rfl)
theorem dX0_pot_13 : decode cX0_pot 13 = .ok (.iload_n 2, 1) := dk_28 (dk_at dksX0_pot_0 13 rfl rfl)
theorem dX0_pot_14 : decode cX0_pot 14 = .ok (.iconst 1, 1) := dk_4 (dk_at dksX0_pot_0 14 rfl rfl)
theorem dX0_pot_15 : decode cX0_pot 15 = .ok (.bipush 9, 2) := dk_16 9 (dk_at dksX0_pot_0 15 rfl rfl)
theorem dX0_pot_17 : decode cX0_pot 17 = .ok (.invokestatic 63, 3) := dk_184 0 63 (dk_at dksX0_pot_0 17 rfl rfl)
theorem dX0_pot_20 : decode cX0_pot 20 = .ok (.ifCond .eq 13, 3) := dk_153 0 13 (dk_at dksX0_pot_0 20 rfl rfl)
theorem dX0_pot_23 : decode cX0_pot 23 = .ok (.iload_n 3, 1) := dk_29 (dk_at dksX0_pot_0 23 rfl rfl)
theorem dX0_pot_24 : decode cX0_pot 24 = .ok (.iconst 1, 1) := dk_4 (dk_at dksX0_pot_1 0 rfl rfl)
theorem dX0_pot_25 : decode cX0_pot 25 = .ok (.bipush 9, 2) := dk_16 9 (dk_at dksX0_pot_1 1 rfl rfl)
theorem dX0_pot_27 : decode cX0_pot 27 = .ok (.invokestatic 63, 3) := dk_184 0 63 (dk_at dksX0_pot_1 3 rfl rfl)
theorem dX0_pot_30 : decode cX0_pot 30 = .ok (.ifCond .ne 6, 3) := dk_154 0 6 (dk_at dksX0_pot_1 6 rfl rfl)
theorem dX0_pot_33 : decode cX0_pot 33 = .ok (.bipush (-2), 2) := dk_16 254 (dk_at dksX0_pot_1 9 rfl rfl)
theorem dX0_pot_35 : decode cX0_pot 35 = .ok (.ireturn, 1) := dk_172 (dk_at dksX0_pot_1 11 rfl rfl)
theorem dX0_pot_36 : decode cX0_pot 36 = .ok (.new 97, 3) := dk_187 0 97 (dk_at dksX0_pot_1 12 rfl rfl)
theorem dX0_pot_39 : decode cX0_pot 39 = .ok (.dup, 1) := dk_89 (dk_at dksX0_pot_1 15 rfl rfl)
theorem dX0_pot_40 : decode cX0_pot 40 = .ok (.aload_n 0, 1) := dk_42 (dk_at dksX0_pot_1 16 rfl rfl)
theorem dX0_pot_41 : decode cX0_pot 41 = .ok (.iload_n 1, 1) := dk_27 (dk_at dksX0_pot_1 17 rfl rfl)
theorem dX0_pot_42 : decode cX0_pot 42 = .ok (.iload_n 2, 1) := dk_28 (dk_at dksX0_pot_1 18 rfl rfl)
theorem dX0_pot_43 : decode cX0_pot 43 = .ok (.iload_n 3, 1) := dk_29 (dk_at dksX0_pot_1 19 rfl rfl)
theorem dX0_pot_44 : decode cX0_pot 44 = .ok (.invokespecial 99, 3) := dk_183 0 99 (dk_at dksX0_pot_1 20 rfl rfl)
theorem dX0_pot_47 : decode cX0_pot 47 = .ok (.invokevirtual 102, 3) := dk_182 0 102 (dk_at dksX0_pot_2 0 rfl rfl)
theorem dX0_pot_50 : decode cX0_pot 50 = .ok (.ireturn, 1) := dk_172 (dk_at dksX0_pot_2 3 rfl rfl)
abbrev cX0_cover : ByteArray := prog_1_method_14_code
def yX0_cover : MethodName := ⟨RX0, "cover", "(IZ)I"⟩
def dkwX0_cover_1 : List UInt8 := [182, 0, 111, 172]
abbrev dktX0_cover_1 : List UInt8 := dkwX0_cover_1 ++ []
def dkwX0_cover_0 : List UInt8 := [42, 180, 0, 16, 27, 182, 0, 103, 154, 0, 5, 2, 172, 187, 0, 106, 89, 42, 27, 28, 183, 0, 108]
abbrev dktX0_cover_0 : List UInt8 := dkwX0_cover_0 ++ dktX0_cover_1
theorem dksX0_cover_0 : cX0_cover.data.toList.drop 0 = dktX0_cover_0 := by decide +kernel
theorem dksX0_cover_1 : cX0_cover.data.toList.drop 23 = dktX0_cover_1 := dk_seg dksX0_cover_0 23 rfl rfl
theorem dX0_cover_0 : decode cX0_cover 0 = .ok (.aload_n 0, 1) := dk_42 (dk_at dksX0_cover_0 0 rfl rfl)
theorem dX0_cover_1 : decode cX0_cover 1 = .ok (.getfield 16, 3) := dk_180 0 16 (dk_at dksX0_cover_0 1 rfl rfl)
theorem dX0_cover_4 : decode cX0_cover 4 = .ok (.iload_n 1, 1) := dk_27 (dk_at dksX0_cover_0 4 rfl rfl)
theorem dX0_cover_5 : decode cX0_cover 5 = .ok (.invokevirtual 103, 3) := dk_182 0 103 (dk_at dksX0_cover_0 5 rfl rfl)
theorem dX0_cover_8 : decode cX0_cover 8 = .ok (.ifCond .ne 5, 3) := dk_154 0 5 (dk_at dksX0_cover_0 8 rfl rfl)
theorem dX0_cover_11 : decode cX0_cover 11 = .ok (.iconst (-1), 1) := dk_2 (dk_at dksX0_cover_0 11 rfl rfl)
theorem dX0_cover_12 : decode cX0_cover 12 = .ok (.ireturn, 1) := dk_172 (dk_at dksX0_cover_0 12 rfl rfl)
theorem dX0_cover_13 : decode cX0_cover 13 = .ok (.new 106, 3) := dk_187 0 106 (dk_at dksX0_cover_0 13 rfl rfl)
theorem dX0_cover_16 : decode cX0_cover 16 = .ok (.dup, 1) := dk_89 (dk_at dksX0_cover_0 16 rfl rfl)
theorem dX0_cover_17 : decode cX0_cover 17 = .ok (.aload_n 0, 1) := dk_42 (dk_at dksX0_cover_0 17 rfl rfl)
theorem dX0_cover_18 : decode cX0_cover 18 = .ok (.iload_n 1, 1) := dk_27 (dk_at dksX0_cover_0 18 rfl rfl)
theorem dX0_cover_19 : decode cX0_cover 19 = .ok (.iload_n 2, 1) := dk_28 (dk_at dksX0_cover_0 19 rfl rfl)
theorem dX0_cover_20 : decode cX0_cover 20 = .ok (.invokespecial 108, 3) := dk_183 0 108 (dk_at dksX0_cover_0 20 rfl rfl)
theorem dX0_cover_23 : decode cX0_cover 23 = .ok (.invokevirtual 111, 3) := dk_182 0 111 (dk_at dksX0_cover_1 0 rfl rfl)
theorem dX0_cover_26 : decode cX0_cover 26 = .ok (.ireturn, 1) := dk_172 (dk_at dksX0_cover_1 3 rfl rfl)
abbrev cX0_glaze : ByteArray := prog_1_method_15_code
def yX0_glaze : MethodName := ⟨RX0, "glaze", "(III)I"⟩
def dkwX0_glaze_2 : List UInt8 := [172]
abbrev dktX0_glaze_2 : List UInt8 := dkwX0_glaze_2 ++ []
def dkwX0_glaze_1 : List UInt8 := [6, 184, 0, 63, 154, 0, 6, 16, 254, 172, 187, 0, 112, 89, 42, 27, 28, 29, 183, 0, 114, 182, 0, 115]
abbrev dktX0_glaze_1 : List UInt8 := dkwX0_glaze_1 ++ dktX0_glaze_2
def dkwX0_glaze_0 : List UInt8 := [42, 180, 0, 16, 27, 182, 0, 103, 154, 0, 5, 2, 172, 28, 3, 6, 184, 0, 63, 153, 0, 12, 29, 4]
abbrev dktX0_glaze_0 : List UInt8 := dkwX0_glaze_0 ++ dktX0_glaze_1
theorem dksX0_glaze_0 : cX0_glaze.data.toList.drop 0 = dktX0_glaze_0 := by decide +kernel
theorem dksX0_glaze_1 : cX0_glaze.data.toList.drop 24 = dktX0_glaze_1 := dk_seg dksX0_glaze_0 24 rfl rfl
theorem dksX0_glaze_2 : cX0_glaze.data.toList.drop 48 = dktX0_glaze_2 := dk_seg dksX0_glaze_1 24 rfl rfl
theorem dX0_glaze_0 : decode cX0_glaze 0 = .ok (.aload_n 0, 1) := dk_42 (dk_at dksX0_glaze_0 0 rfl rfl)
theorem dX0_glaze_1 : decode cX0_glaze 1 = .ok (.getfield 16, 3) := dk_180 0 16 (dk_at dksX0_glaze_0 1 rfl rfl)
theorem dX0_glaze_4 : decode cX0_glaze 4 = .ok (.iload_n 1, 1) := dk_27 (dk_at dksX0_glaze_0 4 rfl rfl)
theorem dX0_glaze_5 : decode cX0_glaze 5 = .ok (.invokevirtual 103, 3) := dk_182 0 103 (dk_at dksX0_glaze_0 5 rfl rfl)
theorem dX0_glaze_8 : decode cX0_glaze 8 = .ok (.ifCond .ne 5, 3) := dk_154 0 5 (dk_at dksX0_glaze_0 8 rfl rfl)
theorem dX0_glaze_11 : decode cX0_glaze 11 = .ok (.iconst (-1), 1) := dk_2 (dk_at dksX0_glaze_0 11 rfl rfl)
theorem dX0_glaze_12 : decode cX0_glaze 12 = .ok (.ireturn, 1) := dk_172 (dk_at dksX0_glaze_0 12 rfl rfl)
theorem dX0_glaze_13 : decode cX0_glaze 13 = .ok (.iload_n 2, 1) := dk_28 (dk_at dksX0_glaze_0 13 rfl rfl)
theorem dX0_glaze_14 : decode cX0_glaze 14 = .ok (.iconst 0, 1) := dk_3 (dk_at dksX0_glaze_0 14 rfl rfl)
theorem dX0_glaze_15 : decode cX0_glaze 15 = .ok (.iconst 3, 1) := dk_6 (dk_at dksX0_glaze_0 15 rfl rfl)
theorem dX0_glaze_16 : decode cX0_glaze 16 = .ok (.invokestatic 63, 3) := dk_184 0 63 (dk_at dksX0_glaze_0 16 rfl rfl)
theorem dX0_glaze_19 : decode cX0_glaze 19 = .ok (.ifCond .eq 12, 3) := dk_153 0 12 (dk_at dksX0_glaze_0 19 rfl rfl)
theorem dX0_glaze_22 : decode cX0_glaze 22 = .ok (.iload_n 3, 1) := dk_29 (dk_at dksX0_glaze_0 22 rfl rfl)
theorem dX0_glaze_23 : decode cX0_glaze 23 = .ok (.iconst 1, 1) := dk_4 (dk_at dksX0_glaze_0 23 rfl rfl)
theorem dX0_glaze_24 : decode cX0_glaze 24 = .ok (.iconst 3, 1) := dk_6 (dk_at dksX0_glaze_1 0 rfl rfl)
theorem dX0_glaze_25 : decode cX0_glaze 25 = .ok (.invokestatic 63, 3) := dk_184 0 63 (dk_at dksX0_glaze_1 1 rfl rfl)
theorem dX0_glaze_28 : decode cX0_glaze 28 = .ok (.ifCond .ne 6, 3) := dk_154 0 6 (dk_at dksX0_glaze_1 4 rfl rfl)
theorem dX0_glaze_31 : decode cX0_glaze 31 = .ok (.bipush (-2), 2) := dk_16 254 (dk_at dksX0_glaze_1 7 rfl rfl)
theorem dX0_glaze_33 : decode cX0_glaze 33 = .ok (.ireturn, 1) := dk_172 (dk_at dksX0_glaze_1 9 rfl rfl)
theorem dX0_glaze_34 : decode cX0_glaze 34 = .ok (.new 112, 3) := dk_187 0 112 (dk_at dksX0_glaze_1 10 rfl rfl)
theorem dX0_glaze_37 : decode cX0_glaze 37 = .ok (.dup, 1) := dk_89 (dk_at dksX0_glaze_1 13 rfl rfl)
theorem dX0_glaze_38 : decode cX0_glaze 38 = .ok (.aload_n 0, 1) := dk_42 (dk_at dksX0_glaze_1 14 rfl rfl)
theorem dX0_glaze_39 : decode cX0_glaze 39 = .ok (.iload_n 1, 1) := dk_27 (dk_at dksX0_glaze_1 15 rfl rfl)
theorem dX0_glaze_40 : decode cX0_glaze 40 = .ok (.iload_n 2, 1) := dk_28 (dk_at dksX0_glaze_1 16 rfl rfl)
theorem dX0_glaze_41 : decode cX0_glaze 41 = .ok (.iload_n 3, 1) := dk_29 (dk_at dksX0_glaze_1 17 rfl rfl)
theorem dX0_glaze_42 : decode cX0_glaze 42 = .ok (.invokespecial 114, 3) := dk_183 0 114 (dk_at dksX0_glaze_1 18 rfl rfl)
theorem dX0_glaze_45 : decode cX0_glaze 45 = .ok (.invokevirtual 115, 3) := dk_182 0 115 (dk_at dksX0_glaze_1 21 rfl rfl)
theorem dX0_glaze_48 : decode cX0_glaze 48 = .ok (.ireturn, 1) := dk_172 (dk_at dksX0_glaze_2 0 rfl rfl)
abbrev cX0_place : ByteArray := prog_1_method_16_code
def yX0_place : MethodName := ⟨RX0, "place", "(II)I"⟩
def dkwX0_place_1 : List UInt8 := [187, 0, 116, 89, 42, 27, 28, 183, 0, 118, 182, 0, 119, 172]
abbrev dktX0_place_1 : List UInt8 := dkwX0_place_1 ++ []
def dkwX0_place_0 : List UInt8 := [42, 180, 0, 16, 27, 182, 0, 103, 153, 0, 13, 28, 3, 16, 7, 184, 0, 63, 154, 0, 5, 2, 172]
abbrev dktX0_place_0 : List UInt8 := dkwX0_place_0 ++ dktX0_place_1
theorem dksX0_place_0 : cX0_place.data.toList.drop 0 = dktX0_place_0 := by decide +kernel
theorem dksX0_place_1 : cX0_place.data.toList.drop 23 = dktX0_place_1 := dk_seg dksX0_place_0 23 rfl rfl
theorem dX0_place_0 : decode cX0_place 0 = .ok (.aload_n 0, 1) := dk_42 (dk_at dksX0_place_0 0 rfl rfl)
theorem dX0_place_1 : decode cX0_place 1 = .ok (.getfield 16, 3) := dk_180 0 16 (dk_at dksX0_place_0 1 rfl rfl)
theorem dX0_place_4 : decode cX0_place 4 = .ok (.iload_n 1, 1) := dk_27 (dk_at dksX0_place_0 4 rfl rfl)
theorem dX0_place_5 : decode cX0_place 5 = .ok (.invokevirtual 103, 3) := dk_182 0 103 (dk_at dksX0_place_0 5 rfl rfl)
theorem dX0_place_8 : decode cX0_place 8 = .ok (.ifCond .eq 13, 3) := dk_153 0 13 (dk_at dksX0_place_0 8 rfl rfl)
theorem dX0_place_11 : decode cX0_place 11 = .ok (.iload_n 2, 1) := dk_28 (dk_at dksX0_place_0 11 rfl rfl)
theorem dX0_place_12 : decode cX0_place 12 = .ok (.iconst 0, 1) := dk_3 (dk_at dksX0_place_0 12 rfl rfl)
theorem dX0_place_13 : decode cX0_place 13 = .ok (.bipush 7, 2) := dk_16 7 (dk_at dksX0_place_0 13 rfl rfl)
theorem dX0_place_15 : decode cX0_place 15 = .ok (.invokestatic 63, 3) := dk_184 0 63 (dk_at dksX0_place_0 15 rfl rfl)
theorem dX0_place_18 : decode cX0_place 18 = .ok (.ifCond .ne 5, 3) := dk_154 0 5 (dk_at dksX0_place_0 18 rfl rfl)
theorem dX0_place_21 : decode cX0_place 21 = .ok (.iconst (-1), 1) := dk_2 (dk_at dksX0_place_0 21 rfl rfl)
theorem dX0_place_22 : decode cX0_place 22 = .ok (.ireturn, 1) := dk_172 (dk_at dksX0_place_0 22 rfl rfl)
theorem dX0_place_23 : decode cX0_place 23 = .ok (.new 116, 3) := dk_187 0 116 (dk_at dksX0_place_1 0 rfl rfl)
theorem dX0_place_26 : decode cX0_place 26 = .ok (.dup, 1) := dk_89 (dk_at dksX0_place_1 3 rfl rfl)
theorem dX0_place_27 : decode cX0_place 27 = .ok (.aload_n 0, 1) := dk_42 (dk_at dksX0_place_1 4 rfl rfl)
theorem dX0_place_28 : decode cX0_place 28 = .ok (.iload_n 1, 1) := dk_27 (dk_at dksX0_place_1 5 rfl rfl)
theorem dX0_place_29 : decode cX0_place 29 = .ok (.iload_n 2, 1) := dk_28 (dk_at dksX0_place_1 6 rfl rfl)
theorem dX0_place_30 : decode cX0_place 30 = .ok (.invokespecial 118, 3) := dk_183 0 118 (dk_at dksX0_place_1 7 rfl rfl)
theorem dX0_place_33 : decode cX0_place 33 = .ok (.invokevirtual 119, 3) := dk_182 0 119 (dk_at dksX0_place_1 10 rfl rfl)
theorem dX0_place_36 : decode cX0_place 36 = .ok (.ireturn, 1) := dk_172 (dk_at dksX0_place_1 13 rfl rfl)
abbrev cX0_fire : ByteArray := prog_1_method_17_code
def yX0_fire : MethodName := ⟨RX0, "fire", "()I"⟩
def dkwX0_fire_0 : List UInt8 := [187, 0, 120, 89, 42, 183, 0, 122, 182, 0, 125, 172]
abbrev dktX0_fire_0 : List UInt8 := dkwX0_fire_0 ++ []
theorem dksX0_fire_0 : cX0_fire.data.toList.drop 0 = dktX0_fire_0 := by decide +kernel
theorem dX0_fire_0 : decode cX0_fire 0 = .ok (.new 120, 3) := dk_187 0 120 (dk_at dksX0_fire_0 0 rfl rfl)
theorem dX0_fire_3 : decode cX0_fire 3 = .ok (.dup, 1) := dk_89 (dk_at dksX0_fire_0 3 rfl rfl)
theorem dX0_fire_4 : decode cX0_fire 4 = .ok (.aload_n 0, 1) := dk_42 (dk_at dksX0_fire_0 4 rfl rfl)
theorem dX0_fire_5 : decode cX0_fire 5 = .ok (.invokespecial 122, 3) := dk_183 0 122 (dk_at dksX0_fire_0 5 rfl rfl)
theorem dX0_fire_8 : decode cX0_fire 8 = .ok (.invokevirtual 125, 3) := dk_182 0 125 (dk_at dksX0_fire_0 8 rfl rfl)
theorem dX0_fire_11 : decode cX0_fire 11 = .ok (.ireturn, 1) := dk_172 (dk_at dksX0_fire_0 11 rfl rfl)
abbrev cX0_order : ByteArray := prog_1_method_18_code
def yX0_order : MethodName := ⟨RX0, "order", "(IIIII)I"⟩
def dkwX0_order_3 : List UInt8 := [89, 42, 27, 28, 29, 21, 4, 21, 5, 183, 0, 128, 182, 0, 131, 172]
abbrev dktX0_order_3 : List UInt8 := dkwX0_order_3 ++ []
def dkwX0_order_2 : List UInt8 := [184, 0, 63, 153, 0, 15, 21, 5, 4, 17, 3, 231, 184, 0, 63, 154, 0, 6, 16, 254, 172, 187, 0, 126]
abbrev dktX0_order_2 : List UInt8 := dkwX0_order_2 ++ dktX0_order_3
def dkwX0_order_1 : List UInt8 := [184, 0, 63, 153, 0, 7, 4, 167, 0, 4, 3, 54, 6, 21, 6, 153, 0, 27, 21, 4, 4, 17, 1, 144]
abbrev dktX0_order_1 : List UInt8 := dkwX0_order_1 ++ dktX0_order_2
def dkwX0_order_0 : List UInt8 := [27, 3, 6, 184, 0, 63, 153, 0, 26, 28, 4, 16, 9, 184, 0, 63, 153, 0, 16, 29, 4, 8]
abbrev dktX0_order_0 : List UInt8 := dkwX0_order_0 ++ dktX0_order_1
theorem dksX0_order_0 : cX0_order.data.toList.drop 0 = dktX0_order_0 := by decide +kernel
theorem dksX0_order_1 : cX0_order.data.toList.drop 22 = dktX0_order_1 := dk_seg dksX0_order_0 22 rfl rfl
theorem dksX0_order_2 : cX0_order.data.toList.drop 46 = dktX0_order_2 := dk_seg dksX0_order_1 24 rfl rfl
theorem dksX0_order_3 : cX0_order.data.toList.drop 70 = dktX0_order_3 := dk_seg dksX0_order_2 24 rfl rfl
theorem dX0_order_0 : decode cX0_order 0 = .ok (.iload_n 1, 1) := dk_27 (dk_at dksX0_order_0 0 rfl rfl)
theorem dX0_order_1 : decode cX0_order 1 = .ok (.iconst 0, 1) := dk_3 (dk_at dksX0_order_0 1 rfl rfl)
theorem dX0_order_2 : decode cX0_order 2 = .ok (.iconst 3, 1) := dk_6 (dk_at dksX0_order_0 2 rfl rfl)
theorem dX0_order_3 : decode cX0_order 3 = .ok (.invokestatic 63, 3) := dk_184 0 63 (dk_at dksX0_order_0 3 rfl rfl)
theorem dX0_order_6 : decode cX0_order 6 = .ok (.ifCond .eq 26, 3) := dk_153 0 26 (dk_at dksX0_order_0 6 rfl rfl)
theorem dX0_order_9 : decode cX0_order 9 = .ok (.iload_n 2, 1) := dk_28 (dk_at dksX0_order_0 9 rfl rfl)
theorem dX0_order_10 : decode cX0_order 10 = .ok (.iconst 1, 1) := dk_4 (dk_at dksX0_order_0 10 rfl rfl)
theorem dX0_order_11 : decode cX0_order 11 = .ok (.bipush 9, 2) := dk_16 9 (dk_at dksX0_order_0 11 rfl rfl)
theorem dX0_order_13 : decode cX0_order 13 = .ok (.invokestatic 63, 3) := dk_184 0 63 (dk_at dksX0_order_0 13 rfl rfl)
theorem dX0_order_16 : decode cX0_order 16 = .ok (.ifCond .eq 16, 3) := dk_153 0 16 (dk_at dksX0_order_0 16 rfl rfl)
theorem dX0_order_19 : decode cX0_order 19 = .ok (.iload_n 3, 1) := dk_29 (dk_at dksX0_order_0 19 rfl rfl)
theorem dX0_order_20 : decode cX0_order 20 = .ok (.iconst 1, 1) := dk_4 (dk_at dksX0_order_0 20 rfl rfl)
theorem dX0_order_21 : decode cX0_order 21 = .ok (.iconst 5, 1) := dk_8 (dk_at dksX0_order_0 21 rfl rfl)
theorem dX0_order_22 : decode cX0_order 22 = .ok (.invokestatic 63, 3) := dk_184 0 63 (dk_at dksX0_order_1 0 rfl rfl)
theorem dX0_order_25 : decode cX0_order 25 = .ok (.ifCond .eq 7, 3) := dk_153 0 7 (dk_at dksX0_order_1 3 rfl rfl)
theorem dX0_order_28 : decode cX0_order 28 = .ok (.iconst 1, 1) := dk_4 (dk_at dksX0_order_1 6 rfl rfl)
theorem dX0_order_29 : decode cX0_order 29 = .ok (.goto 4, 3) := dk_167 0 4 (dk_at dksX0_order_1 7 rfl rfl)
theorem dX0_order_32 : decode cX0_order 32 = .ok (.iconst 0, 1) := dk_3 (dk_at dksX0_order_1 10 rfl rfl)
theorem dX0_order_33 : decode cX0_order 33 = .ok (.istore 6, 2) := dk_54 6 (dk_at dksX0_order_1 11 rfl rfl)
theorem dX0_order_35 : decode cX0_order 35 = .ok (.iload 6, 2) := dk_21 6 (dk_at dksX0_order_1 13 rfl rfl)
theorem dX0_order_37 : decode cX0_order 37 = .ok (.ifCond .eq 27, 3) := dk_153 0 27 (dk_at dksX0_order_1 15 rfl rfl)
theorem dX0_order_40 : decode cX0_order 40 = .ok (.iload 4, 2) := dk_21 4 (dk_at dksX0_order_1 18 rfl rfl)
theorem dX0_order_42 : decode cX0_order 42 = .ok (.iconst 1, 1) := dk_4 (dk_at dksX0_order_1 20 rfl rfl)
theorem dX0_order_43 : decode cX0_order 43 = .ok (.sipush 400, 3) := dk_17 1 144 (dk_at dksX0_order_1 21 rfl rfl)
theorem dX0_order_46 : decode cX0_order 46 = .ok (.invokestatic 63, 3) := dk_184 0 63 (dk_at dksX0_order_2 0 rfl rfl)
theorem dX0_order_49 : decode cX0_order 49 = .ok (.ifCond .eq 15, 3) := dk_153 0 15 (dk_at dksX0_order_2 3 rfl rfl)
theorem dX0_order_52 : decode cX0_order 52 = .ok (.iload 5, 2) := dk_21 5 (dk_at dksX0_order_2 6 rfl rfl)
theorem dX0_order_54 : decode cX0_order 54 = .ok (.iconst 1, 1) := dk_4 (dk_at dksX0_order_2 8 rfl rfl)
theorem dX0_order_55 : decode cX0_order 55 = .ok (.sipush 999, 3) := dk_17 3 231 (dk_at dksX0_order_2 9 rfl rfl)
theorem dX0_order_58 : decode cX0_order 58 = .ok (.invokestatic 63, 3) := dk_184 0 63 (dk_at dksX0_order_2 12 rfl rfl)
theorem dX0_order_61 : decode cX0_order 61 = .ok (.ifCond .ne 6, 3) := dk_154 0 6 (dk_at dksX0_order_2 15 rfl rfl)
theorem dX0_order_64 : decode cX0_order 64 = .ok (.bipush (-2), 2) := dk_16 254 (dk_at dksX0_order_2 18 rfl rfl)
theorem dX0_order_66 : decode cX0_order 66 = .ok (.ireturn, 1) := dk_172 (dk_at dksX0_order_2 20 rfl rfl)
theorem dX0_order_67 : decode cX0_order 67 = .ok (.new 126, 3) := dk_187 0 126 (dk_at dksX0_order_2 21 rfl rfl)
theorem dX0_order_70 : decode cX0_order 70 = .ok (.dup, 1) := dk_89 (dk_at dksX0_order_3 0 rfl rfl)
theorem dX0_order_71 : decode cX0_order 71 = .ok (.aload_n 0, 1) := dk_42 (dk_at dksX0_order_3 1 rfl rfl)
theorem dX0_order_72 : decode cX0_order 72 = .ok (.iload_n 1, 1) := dk_27 (dk_at dksX0_order_3 2 rfl rfl)
theorem dX0_order_73 : decode cX0_order 73 = .ok (.iload_n 2, 1) := dk_28 (dk_at dksX0_order_3 3 rfl rfl)
theorem dX0_order_74 : decode cX0_order 74 = .ok (.iload_n 3, 1) := dk_29 (dk_at dksX0_order_3 4 rfl rfl)
theorem dX0_order_75 : decode cX0_order 75 = .ok (.iload 4, 2) := dk_21 4 (dk_at dksX0_order_3 5 rfl rfl)
theorem dX0_order_77 : decode cX0_order 77 = .ok (.iload 5, 2) := dk_21 5 (dk_at dksX0_order_3 7 rfl rfl)
theorem dX0_order_79 : decode cX0_order 79 = .ok (.invokespecial 128, 3) := dk_183 0 128 (dk_at dksX0_order_3 9 rfl rfl)
theorem dX0_order_82 : decode cX0_order 82 = .ok (.invokevirtual 131, 3) := dk_182 0 131 (dk_at dksX0_order_3 12 rfl rfl)
theorem dX0_order_85 : decode cX0_order 85 = .ok (.ireturn, 1) := dk_172 (dk_at dksX0_order_3 15 rfl rfl)
abbrev cX0_pass : ByteArray := prog_1_method_19_code
def yX0_pass : MethodName := ⟨RX0, "pass", "(I)I"⟩
def dkwX0_pass_1 : List UInt8 := [182, 0, 135, 172]
abbrev dktX0_pass_1 : List UInt8 := dkwX0_pass_1 ++ []
def dkwX0_pass_0 : List UInt8 := [27, 4, 16, 48, 184, 0, 63, 154, 0, 6, 16, 254, 172, 187, 0, 132, 89, 42, 27, 183, 0, 134]
abbrev dktX0_pass_0 : List UInt8 := dkwX0_pass_0 ++ dktX0_pass_1
theorem dksX0_pass_0 : cX0_pass.data.toList.drop 0 = dktX0_pass_0 := by decide +kernel
theorem dksX0_pass_1 : cX0_pass.data.toList.drop 22 = dktX0_pass_1 := dk_seg dksX0_pass_0 22 rfl rfl
theorem dX0_pass_0 : decode cX0_pass 0 = .ok (.iload_n 1, 1) := dk_27 (dk_at dksX0_pass_0 0 rfl rfl)
theorem dX0_pass_1 : decode cX0_pass 1 = .ok (.iconst 1, 1) := dk_4 (dk_at dksX0_pass_0 1 rfl rfl)
theorem dX0_pass_2 : decode cX0_pass 2 = .ok (.bipush 48, 2) := dk_16 48 (dk_at dksX0_pass_0 2 rfl rfl)
theorem dX0_pass_4 : decode cX0_pass 4 = .ok (.invokestatic 63, 3) := dk_184 0 63 (dk_at dksX0_pass_0 4 rfl rfl)
theorem dX0_pass_7 : decode cX0_pass 7 = .ok (.ifCond .ne 6, 3) := dk_154 0 6 (dk_at dksX0_pass_0 7 rfl rfl)
theorem dX0_pass_10 : decode cX0_pass 10 = .ok (.bipush (-2), 2) := dk_16 254 (dk_at dksX0_pass_0 10 rfl rfl)
theorem dX0_pass_12 : decode cX0_pass 12 = .ok (.ireturn, 1) := dk_172 (dk_at dksX0_pass_0 12 rfl rfl)
theorem dX0_pass_13 : decode cX0_pass 13 = .ok (.new 132, 3) := dk_187 0 132 (dk_at dksX0_pass_0 13 rfl rfl)
theorem dX0_pass_16 : decode cX0_pass 16 = .ok (.dup, 1) := dk_89 (dk_at dksX0_pass_0 16 rfl rfl)
theorem dX0_pass_17 : decode cX0_pass 17 = .ok (.aload_n 0, 1) := dk_42 (dk_at dksX0_pass_0 17 rfl rfl)
theorem dX0_pass_18 : decode cX0_pass 18 = .ok (.iload_n 1, 1) := dk_27 (dk_at dksX0_pass_0 18 rfl rfl)
theorem dX0_pass_19 : decode cX0_pass 19 = .ok (.invokespecial 134, 3) := dk_183 0 134 (dk_at dksX0_pass_0 19 rfl rfl)
theorem dX0_pass_22 : decode cX0_pass 22 = .ok (.invokevirtual 135, 3) := dk_182 0 135 (dk_at dksX0_pass_1 0 rfl rfl)
theorem dX0_pass_25 : decode cX0_pass 25 = .ok (.ireturn, 1) := dk_172 (dk_at dksX0_pass_1 3 rfl rfl)
abbrev cX0_of : ByteArray := prog_1_method_20_code
def yX0_of : MethodName := ⟨RX0, "of", "(II)I"⟩
def dkwX0_of_6 : List UInt8 := [182, 0, 192, 184, 0, 161, 172, 16, 254, 172]
abbrev dktX0_of_6 : List UInt8 := dkwX0_of_6 ++ []
def dkwX0_of_5 : List UInt8 := [172, 42, 180, 0, 16, 180, 0, 177, 27, 182, 0, 181, 172, 45, 180, 0, 186, 172, 45, 180, 0, 189, 172, 45]
abbrev dktX0_of_5 : List UInt8 := dkwX0_of_5 ++ dktX0_of_6
def dkwX0_of_4 : List UInt8 := [172, 45, 180, 0, 157, 184, 0, 161, 172, 45, 180, 0, 165, 182, 0, 169, 172, 45, 180, 0, 165, 182, 0, 174]
abbrev dktX0_of_4 : List UInt8 := dkwX0_of_4 ++ dktX0_of_5
def dkwX0_of_3 : List UInt8 := [45, 180, 0, 142, 172, 45, 180, 0, 145, 172, 45, 180, 0, 148, 172, 45, 180, 0, 151, 172, 45, 180, 0, 154]
abbrev dktX0_of_3 : List UInt8 := dkwX0_of_3 ++ dktX0_of_4
def dkwX0_of_2 : List UInt8 := [170, 0, 0, 0, 0, 0, 142, 0, 0, 0, 0, 0, 0, 0, 11, 0, 0, 0, 63, 0, 0, 0, 68, 0, 0, 0, 73, 0, 0, 0, 78, 0, 0, 0, 83, 0, 0, 0, 88, 0, 0, 0, 96, 0, 0, 0, 104, 0, 0, 0, 112, 0, 0, 0, 124, 0, 0, 0, 129, 0, 0, 0, 134]
abbrev dktX0_of_2 : List UInt8 := dkwX0_of_2 ++ dktX0_of_3
def dkwX0_of_1 : List UInt8 := [192, 0, 140, 78, 28]
abbrev dktX0_of_1 : List UInt8 := dkwX0_of_1 ++ dktX0_of_2
def dkwX0_of_0 : List UInt8 := [42, 180, 0, 16, 27, 182, 0, 103, 154, 0, 5, 2, 172, 42, 180, 0, 16, 180, 0, 53, 27, 182, 0, 136]
abbrev dktX0_of_0 : List UInt8 := dkwX0_of_0 ++ dktX0_of_1
theorem dksX0_of_0 : cX0_of.data.toList.drop 0 = dktX0_of_0 := by decide +kernel
theorem dksX0_of_1 : cX0_of.data.toList.drop 24 = dktX0_of_1 := dk_seg dksX0_of_0 24 rfl rfl
theorem dksX0_of_2 : cX0_of.data.toList.drop 29 = dktX0_of_2 := dk_seg dksX0_of_1 5 rfl rfl
theorem dksX0_of_3 : cX0_of.data.toList.drop 92 = dktX0_of_3 := dk_seg dksX0_of_2 63 rfl rfl
theorem dksX0_of_4 : cX0_of.data.toList.drop 116 = dktX0_of_4 := dk_seg dksX0_of_3 24 rfl rfl
theorem dksX0_of_5 : cX0_of.data.toList.drop 140 = dktX0_of_5 := dk_seg dksX0_of_4 24 rfl rfl
theorem dksX0_of_6 : cX0_of.data.toList.drop 164 = dktX0_of_6 := dk_seg dksX0_of_5 24 rfl rfl
theorem dX0_of_0 : decode cX0_of 0 = .ok (.aload_n 0, 1) := dk_42 (dk_at dksX0_of_0 0 rfl rfl)
theorem dX0_of_1 : decode cX0_of 1 = .ok (.getfield 16, 3) := dk_180 0 16 (dk_at dksX0_of_0 1 rfl rfl)
theorem dX0_of_4 : decode cX0_of 4 = .ok (.iload_n 1, 1) := dk_27 (dk_at dksX0_of_0 4 rfl rfl)
theorem dX0_of_5 : decode cX0_of 5 = .ok (.invokevirtual 103, 3) := dk_182 0 103 (dk_at dksX0_of_0 5 rfl rfl)
theorem dX0_of_8 : decode cX0_of 8 = .ok (.ifCond .ne 5, 3) := dk_154 0 5 (dk_at dksX0_of_0 8 rfl rfl)
theorem dX0_of_11 : decode cX0_of 11 = .ok (.iconst (-1), 1) := dk_2 (dk_at dksX0_of_0 11 rfl rfl)
theorem dX0_of_12 : decode cX0_of 12 = .ok (.ireturn, 1) := dk_172 (dk_at dksX0_of_0 12 rfl rfl)
theorem dX0_of_13 : decode cX0_of 13 = .ok (.aload_n 0, 1) := dk_42 (dk_at dksX0_of_0 13 rfl rfl)
theorem dX0_of_14 : decode cX0_of 14 = .ok (.getfield 16, 3) := dk_180 0 16 (dk_at dksX0_of_0 14 rfl rfl)
theorem dX0_of_17 : decode cX0_of 17 = .ok (.getfield 53, 3) := dk_180 0 53 (dk_at dksX0_of_0 17 rfl rfl)
theorem dX0_of_20 : decode cX0_of 20 = .ok (.iload_n 1, 1) := dk_27 (dk_at dksX0_of_0 20 rfl rfl)
theorem dX0_of_21 : decode cX0_of 21 = .ok (.invokevirtual 136, 3) := dk_182 0 136 (dk_at dksX0_of_0 21 rfl rfl)
theorem dX0_of_24 : decode cX0_of 24 = .ok (.checkcast 140, 3) := dk_192 0 140 (dk_at dksX0_of_1 0 rfl rfl)
theorem dX0_of_27 : decode cX0_of 27 = .ok (.astore_n 3, 1) := dk_78 (dk_at dksX0_of_1 3 rfl rfl)
theorem dX0_of_28 : decode cX0_of 28 = .ok (.iload_n 2, 1) := dk_28 (dk_at dksX0_of_1 4 rfl rfl)
theorem dX0_of_29 : decode cX0_of 29 = .ok (.tableswitch 142 0 11 #[63, 68, 73, 78, 83, 88, 96, 104, 112, 124, 129, 134], 63) := by decide +kernel
theorem dX0_of_92 : decode cX0_of 92 = .ok (.aload_n 3, 1) := dk_45 (dk_at dksX0_of_3 0 rfl rfl)
theorem dX0_of_93 : decode cX0_of 93 = .ok (.getfield 142, 3) := dk_180 0 142 (dk_at dksX0_of_3 1 rfl rfl)
theorem dX0_of_96 : decode cX0_of 96 = .ok (.ireturn, 1) := dk_172 (dk_at dksX0_of_3 4 rfl rfl)
theorem dX0_of_97 : decode cX0_of 97 = .ok (.aload_n 3, 1) := dk_45 (dk_at dksX0_of_3 5 rfl rfl)
theorem dX0_of_98 : decode cX0_of 98 = .ok (.getfield 145, 3) := dk_180 0 145 (dk_at dksX0_of_3 6 rfl rfl)
theorem dX0_of_101 : decode cX0_of 101 = .ok (.ireturn, 1) := dk_172 (dk_at dksX0_of_3 9 rfl rfl)
theorem dX0_of_102 : decode cX0_of 102 = .ok (.aload_n 3, 1) := dk_45 (dk_at dksX0_of_3 10 rfl rfl)
theorem dX0_of_103 : decode cX0_of 103 = .ok (.getfield 148, 3) := dk_180 0 148 (dk_at dksX0_of_3 11 rfl rfl)
theorem dX0_of_106 : decode cX0_of 106 = .ok (.ireturn, 1) := dk_172 (dk_at dksX0_of_3 14 rfl rfl)
theorem dX0_of_107 : decode cX0_of 107 = .ok (.aload_n 3, 1) := dk_45 (dk_at dksX0_of_3 15 rfl rfl)
theorem dX0_of_108 : decode cX0_of 108 = .ok (.getfield 151, 3) := dk_180 0 151 (dk_at dksX0_of_3 16 rfl rfl)
theorem dX0_of_111 : decode cX0_of 111 = .ok (.ireturn, 1) := dk_172 (dk_at dksX0_of_3 19 rfl rfl)
theorem dX0_of_112 : decode cX0_of 112 = .ok (.aload_n 3, 1) := dk_45 (dk_at dksX0_of_3 20 rfl rfl)
theorem dX0_of_113 : decode cX0_of 113 = .ok (.getfield 154, 3) := dk_180 0 154 (dk_at dksX0_of_3 21 rfl rfl)
theorem dX0_of_116 : decode cX0_of 116 = .ok (.ireturn, 1) := dk_172 (dk_at dksX0_of_4 0 rfl rfl)
theorem dX0_of_117 : decode cX0_of 117 = .ok (.aload_n 3, 1) := dk_45 (dk_at dksX0_of_4 1 rfl rfl)
theorem dX0_of_118 : decode cX0_of 118 = .ok (.getfield 157, 3) := dk_180 0 157 (dk_at dksX0_of_4 2 rfl rfl)
theorem dX0_of_121 : decode cX0_of 121 = .ok (.invokestatic 161, 3) := dk_184 0 161 (dk_at dksX0_of_4 5 rfl rfl)
theorem dX0_of_124 : decode cX0_of 124 = .ok (.ireturn, 1) := dk_172 (dk_at dksX0_of_4 8 rfl rfl)
theorem dX0_of_125 : decode cX0_of 125 = .ok (.aload_n 3, 1) := dk_45 (dk_at dksX0_of_4 9 rfl rfl)
theorem dX0_of_126 : decode cX0_of 126 = .ok (.getfield 165, 3) := dk_180 0 165 (dk_at dksX0_of_4 10 rfl rfl)
theorem dX0_of_129 : decode cX0_of 129 = .ok (.invokevirtual 169, 3) := dk_182 0 169 (dk_at dksX0_of_4 13 rfl rfl)
theorem dX0_of_132 : decode cX0_of 132 = .ok (.ireturn, 1) := dk_172 (dk_at dksX0_of_4 16 rfl rfl)
theorem dX0_of_133 : decode cX0_of 133 = .ok (.aload_n 3, 1) := dk_45 (dk_at dksX0_of_4 17 rfl rfl)
theorem dX0_of_134 : decode cX0_of 134 = .ok (.getfield 165, 3) := dk_180 0 165 (dk_at dksX0_of_4 18 rfl rfl)
theorem dX0_of_137 : decode cX0_of 137 = .ok (.invokevirtual 174, 3) := dk_182 0 174 (dk_at dksX0_of_4 21 rfl rfl)
theorem dX0_of_140 : decode cX0_of 140 = .ok (.ireturn, 1) := dk_172 (dk_at dksX0_of_5 0 rfl rfl)
theorem dX0_of_141 : decode cX0_of 141 = .ok (.aload_n 0, 1) := dk_42 (dk_at dksX0_of_5 1 rfl rfl)
theorem dX0_of_142 : decode cX0_of 142 = .ok (.getfield 16, 3) := dk_180 0 16 (dk_at dksX0_of_5 2 rfl rfl)
theorem dX0_of_145 : decode cX0_of 145 = .ok (.getfield 177, 3) := dk_180 0 177 (dk_at dksX0_of_5 5 rfl rfl)
theorem dX0_of_148 : decode cX0_of 148 = .ok (.iload_n 1, 1) := dk_27 (dk_at dksX0_of_5 8 rfl rfl)
theorem dX0_of_149 : decode cX0_of 149 = .ok (.invokevirtual 181, 3) := dk_182 0 181 (dk_at dksX0_of_5 9 rfl rfl)
theorem dX0_of_152 : decode cX0_of 152 = .ok (.ireturn, 1) := dk_172 (dk_at dksX0_of_5 12 rfl rfl)
theorem dX0_of_153 : decode cX0_of 153 = .ok (.aload_n 3, 1) := dk_45 (dk_at dksX0_of_5 13 rfl rfl)
theorem dX0_of_154 : decode cX0_of 154 = .ok (.getfield 186, 3) := dk_180 0 186 (dk_at dksX0_of_5 14 rfl rfl)
theorem dX0_of_157 : decode cX0_of 157 = .ok (.ireturn, 1) := dk_172 (dk_at dksX0_of_5 17 rfl rfl)
theorem dX0_of_158 : decode cX0_of 158 = .ok (.aload_n 3, 1) := dk_45 (dk_at dksX0_of_5 18 rfl rfl)
theorem dX0_of_159 : decode cX0_of 159 = .ok (.getfield 189, 3) := dk_180 0 189 (dk_at dksX0_of_5 19 rfl rfl)
theorem dX0_of_162 : decode cX0_of 162 = .ok (.ireturn, 1) := dk_172 (dk_at dksX0_of_5 22 rfl rfl)
theorem dX0_of_163 : decode cX0_of 163 = .ok (.aload_n 3, 1) := dk_45 (dk_at dksX0_of_5 23 rfl rfl)
theorem dX0_of_164 : decode cX0_of 164 = .ok (.invokevirtual 192, 3) := dk_182 0 192 (dk_at dksX0_of_6 0 rfl rfl)
theorem dX0_of_167 : decode cX0_of 167 = .ok (.invokestatic 161, 3) := dk_184 0 161 (dk_at dksX0_of_6 3 rfl rfl)
theorem dX0_of_170 : decode cX0_of 170 = .ok (.ireturn, 1) := dk_172 (dk_at dksX0_of_6 6 rfl rfl)
theorem dX0_of_171 : decode cX0_of 171 = .ok (.bipush (-2), 2) := dk_16 254 (dk_at dksX0_of_6 7 rfl rfl)
theorem dX0_of_173 : decode cX0_of 173 = .ok (.ireturn, 1) := dk_172 (dk_at dksX0_of_6 9 rfl rfl)
abbrev cX0_moisture : ByteArray := prog_1_method_21_code
def yX0_moisture : MethodName := ⟨RX0, "moisture", "(I)F"⟩
def dkwX0_moisture_1 : List UInt8 := [192, 0, 140, 180, 0, 196, 167, 0, 5, 18, 200, 174]
abbrev dktX0_moisture_1 : List UInt8 := dkwX0_moisture_1 ++ []
def dkwX0_moisture_0 : List UInt8 := [42, 180, 0, 16, 27, 182, 0, 103, 153, 0, 23, 42, 180, 0, 16, 180, 0, 53, 27, 182, 0, 136]
abbrev dktX0_moisture_0 : List UInt8 := dkwX0_moisture_0 ++ dktX0_moisture_1
theorem dksX0_moisture_0 : cX0_moisture.data.toList.drop 0 = dktX0_moisture_0 := by decide +kernel
theorem dksX0_moisture_1 : cX0_moisture.data.toList.drop 22 = dktX0_moisture_1 := dk_seg dksX0_moisture_0 22 rfl rfl
theorem dX0_moisture_0 : decode cX0_moisture 0 = .ok (.aload_n 0, 1) := dk_42 (dk_at dksX0_moisture_0 0 rfl rfl)
theorem dX0_moisture_1 : decode cX0_moisture 1 = .ok (.getfield 16, 3) := dk_180 0 16 (dk_at dksX0_moisture_0 1 rfl rfl)
theorem dX0_moisture_4 : decode cX0_moisture 4 = .ok (.iload_n 1, 1) := dk_27 (dk_at dksX0_moisture_0 4 rfl rfl)
theorem dX0_moisture_5 : decode cX0_moisture 5 = .ok (.invokevirtual 103, 3) := dk_182 0 103 (dk_at dksX0_moisture_0 5 rfl rfl)
theorem dX0_moisture_8 : decode cX0_moisture 8 = .ok (.ifCond .eq 23, 3) := dk_153 0 23 (dk_at dksX0_moisture_0 8 rfl rfl)
theorem dX0_moisture_11 : decode cX0_moisture 11 = .ok (.aload_n 0, 1) := dk_42 (dk_at dksX0_moisture_0 11 rfl rfl)
theorem dX0_moisture_12 : decode cX0_moisture 12 = .ok (.getfield 16, 3) := dk_180 0 16 (dk_at dksX0_moisture_0 12 rfl rfl)
theorem dX0_moisture_15 : decode cX0_moisture 15 = .ok (.getfield 53, 3) := dk_180 0 53 (dk_at dksX0_moisture_0 15 rfl rfl)
theorem dX0_moisture_18 : decode cX0_moisture 18 = .ok (.iload_n 1, 1) := dk_27 (dk_at dksX0_moisture_0 18 rfl rfl)
theorem dX0_moisture_19 : decode cX0_moisture 19 = .ok (.invokevirtual 136, 3) := dk_182 0 136 (dk_at dksX0_moisture_0 19 rfl rfl)
theorem dX0_moisture_22 : decode cX0_moisture 22 = .ok (.checkcast 140, 3) := dk_192 0 140 (dk_at dksX0_moisture_1 0 rfl rfl)
theorem dX0_moisture_25 : decode cX0_moisture 25 = .ok (.getfield 196, 3) := dk_180 0 196 (dk_at dksX0_moisture_1 3 rfl rfl)
theorem dX0_moisture_28 : decode cX0_moisture 28 = .ok (.goto 5, 3) := dk_167 0 5 (dk_at dksX0_moisture_1 6 rfl rfl)
theorem dX0_moisture_31 : decode cX0_moisture 31 = .ok (.ldc 200, 2) := dk_18 200 (dk_at dksX0_moisture_1 9 rfl rfl)
theorem dX0_moisture_33 : decode cX0_moisture 33 = .ok (.freturn, 1) := dk_174 (dk_at dksX0_moisture_1 11 rfl rfl)
abbrev cX0_moistureAgain : ByteArray := prog_1_method_22_code
def yX0_moistureAgain : MethodName := ⟨RX0, "moistureAgain", "(I)F"⟩
def dkwX0_moistureAgain_1 : List UInt8 := [192, 0, 140, 182, 0, 201, 167, 0, 5, 18, 200, 174]
abbrev dktX0_moistureAgain_1 : List UInt8 := dkwX0_moistureAgain_1 ++ []
def dkwX0_moistureAgain_0 : List UInt8 := [42, 180, 0, 16, 27, 182, 0, 103, 153, 0, 23, 42, 180, 0, 16, 180, 0, 53, 27, 182, 0, 136]
abbrev dktX0_moistureAgain_0 : List UInt8 := dkwX0_moistureAgain_0 ++ dktX0_moistureAgain_1
theorem dksX0_moistureAgain_0 : cX0_moistureAgain.data.toList.drop 0 = dktX0_moistureAgain_0 := by decide +kernel
theorem dksX0_moistureAgain_1 : cX0_moistureAgain.data.toList.drop 22 = dktX0_moistureAgain_1 := dk_seg dksX0_moistureAgain_0 22 rfl rfl
theorem dX0_moistureAgain_0 : decode cX0_moistureAgain 0 = .ok (.aload_n 0, 1) := dk_42 (dk_at dksX0_moistureAgain_0 0 rfl rfl)
theorem dX0_moistureAgain_1 : decode cX0_moistureAgain 1 = .ok (.getfield 16, 3) := dk_180 0 16 (dk_at dksX0_moistureAgain_0 1 rfl rfl)
theorem dX0_moistureAgain_4 : decode cX0_moistureAgain 4 = .ok (.iload_n 1, 1) := dk_27 (dk_at dksX0_moistureAgain_0 4 rfl rfl)
theorem dX0_moistureAgain_5 : decode cX0_moistureAgain 5 = .ok (.invokevirtual 103, 3) := dk_182 0 103 (dk_at dksX0_moistureAgain_0 5 rfl rfl)
theorem dX0_moistureAgain_8 : decode cX0_moistureAgain 8 = .ok (.ifCond .eq 23, 3) := dk_153 0 23 (dk_at dksX0_moistureAgain_0 8 rfl rfl)
theorem dX0_moistureAgain_11 : decode cX0_moistureAgain 11 = .ok (.aload_n 0, 1) := dk_42 (dk_at dksX0_moistureAgain_0 11 rfl rfl)
theorem dX0_moistureAgain_12 : decode cX0_moistureAgain 12 = .ok (.getfield 16, 3) := dk_180 0 16 (dk_at dksX0_moistureAgain_0 12 rfl rfl)
theorem dX0_moistureAgain_15 : decode cX0_moistureAgain 15 = .ok (.getfield 53, 3) := dk_180 0 53 (dk_at dksX0_moistureAgain_0 15 rfl rfl)
theorem dX0_moistureAgain_18 : decode cX0_moistureAgain 18 = .ok (.iload_n 1, 1) := dk_27 (dk_at dksX0_moistureAgain_0 18 rfl rfl)
theorem dX0_moistureAgain_19 : decode cX0_moistureAgain 19 = .ok (.invokevirtual 136, 3) := dk_182 0 136 (dk_at dksX0_moistureAgain_0 19 rfl rfl)
theorem dX0_moistureAgain_22 : decode cX0_moistureAgain 22 = .ok (.checkcast 140, 3) := dk_192 0 140 (dk_at dksX0_moistureAgain_1 0 rfl rfl)
theorem dX0_moistureAgain_25 : decode cX0_moistureAgain 25 = .ok (.invokevirtual 201, 3) := dk_182 0 201 (dk_at dksX0_moistureAgain_1 3 rfl rfl)
theorem dX0_moistureAgain_28 : decode cX0_moistureAgain 28 = .ok (.goto 5, 3) := dk_167 0 5 (dk_at dksX0_moistureAgain_1 6 rfl rfl)
theorem dX0_moistureAgain_31 : decode cX0_moistureAgain 31 = .ok (.ldc 200, 2) := dk_18 200 (dk_at dksX0_moistureAgain_1 9 rfl rfl)
theorem dX0_moistureAgain_33 : decode cX0_moistureAgain 33 = .ok (.freturn, 1) := dk_174 (dk_at dksX0_moistureAgain_1 11 rfl rfl)
abbrev cX0_shelf : ByteArray := prog_1_method_23_code
def yX0_shelf : MethodName := ⟨RX0, "shelf", "(I)I"⟩
def dkwX0_shelf_1 : List UInt8 := [44, 199, 0, 8, 16, 250, 167, 0, 7, 44, 182, 0, 209, 172]
abbrev dktX0_shelf_1 : List UInt8 := dkwX0_shelf_1 ++ []
def dkwX0_shelf_0 : List UInt8 := [27, 3, 16, 7, 184, 0, 63, 154, 0, 5, 2, 172, 42, 180, 0, 16, 180, 0, 177, 27, 182, 0, 205, 77]
abbrev dktX0_shelf_0 : List UInt8 := dkwX0_shelf_0 ++ dktX0_shelf_1
theorem dksX0_shelf_0 : cX0_shelf.data.toList.drop 0 = dktX0_shelf_0 := by decide +kernel
theorem dksX0_shelf_1 : cX0_shelf.data.toList.drop 24 = dktX0_shelf_1 := dk_seg dksX0_shelf_0 24 rfl rfl
theorem dX0_shelf_0 : decode cX0_shelf 0 = .ok (.iload_n 1, 1) := dk_27 (dk_at dksX0_shelf_0 0 rfl rfl)
theorem dX0_shelf_1 : decode cX0_shelf 1 = .ok (.iconst 0, 1) := dk_3 (dk_at dksX0_shelf_0 1 rfl rfl)
theorem dX0_shelf_2 : decode cX0_shelf 2 = .ok (.bipush 7, 2) := dk_16 7 (dk_at dksX0_shelf_0 2 rfl rfl)
theorem dX0_shelf_4 : decode cX0_shelf 4 = .ok (.invokestatic 63, 3) := dk_184 0 63 (dk_at dksX0_shelf_0 4 rfl rfl)
theorem dX0_shelf_7 : decode cX0_shelf 7 = .ok (.ifCond .ne 5, 3) := dk_154 0 5 (dk_at dksX0_shelf_0 7 rfl rfl)
theorem dX0_shelf_10 : decode cX0_shelf 10 = .ok (.iconst (-1), 1) := dk_2 (dk_at dksX0_shelf_0 10 rfl rfl)
theorem dX0_shelf_11 : decode cX0_shelf 11 = .ok (.ireturn, 1) := dk_172 (dk_at dksX0_shelf_0 11 rfl rfl)
theorem dX0_shelf_12 : decode cX0_shelf 12 = .ok (.aload_n 0, 1) := dk_42 (dk_at dksX0_shelf_0 12 rfl rfl)
theorem dX0_shelf_13 : decode cX0_shelf 13 = .ok (.getfield 16, 3) := dk_180 0 16 (dk_at dksX0_shelf_0 13 rfl rfl)
theorem dX0_shelf_16 : decode cX0_shelf 16 = .ok (.getfield 177, 3) := dk_180 0 177 (dk_at dksX0_shelf_0 16 rfl rfl)
theorem dX0_shelf_19 : decode cX0_shelf 19 = .ok (.iload_n 1, 1) := dk_27 (dk_at dksX0_shelf_0 19 rfl rfl)
theorem dX0_shelf_20 : decode cX0_shelf 20 = .ok (.invokevirtual 205, 3) := dk_182 0 205 (dk_at dksX0_shelf_0 20 rfl rfl)
theorem dX0_shelf_23 : decode cX0_shelf 23 = .ok (.astore_n 2, 1) := dk_77 (dk_at dksX0_shelf_0 23 rfl rfl)
theorem dX0_shelf_24 : decode cX0_shelf 24 = .ok (.aload_n 2, 1) := dk_44 (dk_at dksX0_shelf_1 0 rfl rfl)
theorem dX0_shelf_25 : decode cX0_shelf 25 = .ok (.ifnonnull 8, 3) := dk_199 0 8 (dk_at dksX0_shelf_1 1 rfl rfl)
theorem dX0_shelf_28 : decode cX0_shelf 28 = .ok (.bipush (-6), 2) := dk_16 250 (dk_at dksX0_shelf_1 4 rfl rfl)
theorem dX0_shelf_30 : decode cX0_shelf 30 = .ok (.goto 7, 3) := dk_167 0 7 (dk_at dksX0_shelf_1 6 rfl rfl)
theorem dX0_shelf_33 : decode cX0_shelf 33 = .ok (.aload_n 2, 1) := dk_44 (dk_at dksX0_shelf_1 9 rfl rfl)
theorem dX0_shelf_34 : decode cX0_shelf 34 = .ok (.invokevirtual 209, 3) := dk_182 0 209 (dk_at dksX0_shelf_1 10 rfl rfl)
theorem dX0_shelf_37 : decode cX0_shelf 37 = .ok (.ireturn, 1) := dk_172 (dk_at dksX0_shelf_1 13 rfl rfl)
abbrev cX0_kiln : ByteArray := prog_1_method_24_code
def yX0_kiln : MethodName := ⟨RX0, "kiln", "(I)I"⟩
def dkwX0_kiln_3 : List UInt8 := [187, 0, 13, 89, 42, 180, 0, 16, 183, 0, 223, 182, 0, 226, 184, 0, 216, 172, 16, 254, 172]
abbrev dktX0_kiln_3 : List UInt8 := dkwX0_kiln_3 ++ []
def dkwX0_kiln_2 : List UInt8 := [42, 180, 0, 16, 182, 0, 212, 184, 0, 216, 172, 42, 180, 0, 16, 182, 0, 220, 184, 0, 216, 172]
abbrev dktX0_kiln_2 : List UInt8 := dkwX0_kiln_2 ++ dktX0_kiln_3
def dkwX0_kiln_1 : List UInt8 := [170, 0, 0, 0, 0, 0, 67, 0, 0, 0, 0, 0, 0, 0, 2, 0, 0, 0, 27, 0, 0, 0, 38, 0, 0, 0, 49]
abbrev dktX0_kiln_1 : List UInt8 := dkwX0_kiln_1 ++ dktX0_kiln_2
def dkwX0_kiln_0 : List UInt8 := [27]
abbrev dktX0_kiln_0 : List UInt8 := dkwX0_kiln_0 ++ dktX0_kiln_1
theorem dksX0_kiln_0 : cX0_kiln.data.toList.drop 0 = dktX0_kiln_0 := by decide +kernel
theorem dksX0_kiln_1 : cX0_kiln.data.toList.drop 1 = dktX0_kiln_1 := dk_seg dksX0_kiln_0 1 rfl rfl
theorem dksX0_kiln_2 : cX0_kiln.data.toList.drop 28 = dktX0_kiln_2 := dk_seg dksX0_kiln_1 27 rfl rfl
theorem dksX0_kiln_3 : cX0_kiln.data.toList.drop 50 = dktX0_kiln_3 := dk_seg dksX0_kiln_2 22 rfl rfl
theorem dX0_kiln_0 : decode cX0_kiln 0 = .ok (.iload_n 1, 1) := dk_27 (dk_at dksX0_kiln_0 0 rfl rfl)
theorem dX0_kiln_1 : decode cX0_kiln 1 = .ok (.tableswitch 67 0 2 #[27, 38, 49], 27) := by decide +kernel
theorem dX0_kiln_28 : decode cX0_kiln 28 = .ok (.aload_n 0, 1) := dk_42 (dk_at dksX0_kiln_2 0 rfl rfl)
theorem dX0_kiln_29 : decode cX0_kiln 29 = .ok (.getfield 16, 3) := dk_180 0 16 (dk_at dksX0_kiln_2 1 rfl rfl)
theorem dX0_kiln_32 : decode cX0_kiln 32 = .ok (.invokevirtual 212, 3) := dk_182 0 212 (dk_at dksX0_kiln_2 4 rfl rfl)
theorem dX0_kiln_35 : decode cX0_kiln 35 = .ok (.invokestatic 216, 3) := dk_184 0 216 (dk_at dksX0_kiln_2 7 rfl rfl)
theorem dX0_kiln_38 : decode cX0_kiln 38 = .ok (.ireturn, 1) := dk_172 (dk_at dksX0_kiln_2 10 rfl rfl)
theorem dX0_kiln_39 : decode cX0_kiln 39 = .ok (.aload_n 0, 1) := dk_42 (dk_at dksX0_kiln_2 11 rfl rfl)
theorem dX0_kiln_40 : decode cX0_kiln 40 = .ok (.getfield 16, 3) := dk_180 0 16 (dk_at dksX0_kiln_2 12 rfl rfl)
theorem dX0_kiln_43 : decode cX0_kiln 43 = .ok (.invokevirtual 220, 3) := dk_182 0 220 (dk_at dksX0_kiln_2 15 rfl rfl)
theorem dX0_kiln_46 : decode cX0_kiln 46 = .ok (.invokestatic 216, 3) := dk_184 0 216 (dk_at dksX0_kiln_2 18 rfl rfl)
theorem dX0_kiln_49 : decode cX0_kiln 49 = .ok (.ireturn, 1) := dk_172 (dk_at dksX0_kiln_2 21 rfl rfl)
theorem dX0_kiln_50 : decode cX0_kiln 50 = .ok (.new 13, 3) := dk_187 0 13 (dk_at dksX0_kiln_3 0 rfl rfl)
theorem dX0_kiln_53 : decode cX0_kiln 53 = .ok (.dup, 1) := dk_89 (dk_at dksX0_kiln_3 3 rfl rfl)
theorem dX0_kiln_54 : decode cX0_kiln 54 = .ok (.aload_n 0, 1) := dk_42 (dk_at dksX0_kiln_3 4 rfl rfl)
theorem dX0_kiln_55 : decode cX0_kiln 55 = .ok (.getfield 16, 3) := dk_180 0 16 (dk_at dksX0_kiln_3 5 rfl rfl)
theorem dX0_kiln_58 : decode cX0_kiln 58 = .ok (.invokespecial 223, 3) := dk_183 0 223 (dk_at dksX0_kiln_3 8 rfl rfl)
theorem dX0_kiln_61 : decode cX0_kiln 61 = .ok (.invokevirtual 226, 3) := dk_182 0 226 (dk_at dksX0_kiln_3 11 rfl rfl)
theorem dX0_kiln_64 : decode cX0_kiln 64 = .ok (.invokestatic 216, 3) := dk_184 0 216 (dk_at dksX0_kiln_3 14 rfl rfl)
theorem dX0_kiln_67 : decode cX0_kiln 67 = .ok (.ireturn, 1) := dk_172 (dk_at dksX0_kiln_3 17 rfl rfl)
theorem dX0_kiln_68 : decode cX0_kiln 68 = .ok (.bipush (-2), 2) := dk_16 254 (dk_at dksX0_kiln_3 18 rfl rfl)
theorem dX0_kiln_70 : decode cX0_kiln 70 = .ok (.ireturn, 1) := dk_172 (dk_at dksX0_kiln_3 20 rfl rfl)
abbrev cX0_asBits : ByteArray := prog_1_method_3_code
def yX0_asBits : MethodName := ⟨RX0, "asBits", "(Ljava/util/BitSet;)I"⟩
def dkwX0_asBits_1 : List UInt8 := [182, 0, 1, 61, 167, 255, 238, 27, 172]
abbrev dktX0_asBits_1 : List UInt8 := dkwX0_asBits_1 ++ []
def dkwX0_asBits_0 : List UInt8 := [3, 60, 42, 3, 182, 0, 1, 61, 28, 155, 0, 20, 27, 4, 28, 120, 128, 60, 42, 28, 4, 96]
abbrev dktX0_asBits_0 : List UInt8 := dkwX0_asBits_0 ++ dktX0_asBits_1
theorem dksX0_asBits_0 : cX0_asBits.data.toList.drop 0 = dktX0_asBits_0 := by decide +kernel
theorem dksX0_asBits_1 : cX0_asBits.data.toList.drop 22 = dktX0_asBits_1 := dk_seg dksX0_asBits_0 22 rfl rfl
theorem dX0_asBits_0 : decode cX0_asBits 0 = .ok (.iconst 0, 1) := dk_3 (dk_at dksX0_asBits_0 0 rfl rfl)
theorem dX0_asBits_1 : decode cX0_asBits 1 = .ok (.istore_n 1, 1) := dk_60 (dk_at dksX0_asBits_0 1 rfl rfl)
theorem dX0_asBits_2 : decode cX0_asBits 2 = .ok (.aload_n 0, 1) := dk_42 (dk_at dksX0_asBits_0 2 rfl rfl)
theorem dX0_asBits_3 : decode cX0_asBits 3 = .ok (.iconst 0, 1) := dk_3 (dk_at dksX0_asBits_0 3 rfl rfl)
theorem dX0_asBits_4 : decode cX0_asBits 4 = .ok (.invokevirtual 1, 3) := dk_182 0 1 (dk_at dksX0_asBits_0 4 rfl rfl)
theorem dX0_asBits_7 : decode cX0_asBits 7 = .ok (.istore_n 2, 1) := dk_61 (dk_at dksX0_asBits_0 7 rfl rfl)
theorem dX0_asBits_8 : decode cX0_asBits 8 = .ok (.iload_n 2, 1) := dk_28 (dk_at dksX0_asBits_0 8 rfl rfl)
theorem dX0_asBits_9 : decode cX0_asBits 9 = .ok (.ifCond .lt 20, 3) := dk_155 0 20 (dk_at dksX0_asBits_0 9 rfl rfl)
theorem dX0_asBits_12 : decode cX0_asBits 12 = .ok (.iload_n 1, 1) := dk_27 (dk_at dksX0_asBits_0 12 rfl rfl)
theorem dX0_asBits_13 : decode cX0_asBits 13 = .ok (.iconst 1, 1) := dk_4 (dk_at dksX0_asBits_0 13 rfl rfl)
theorem dX0_asBits_14 : decode cX0_asBits 14 = .ok (.iload_n 2, 1) := dk_28 (dk_at dksX0_asBits_0 14 rfl rfl)
theorem dX0_asBits_15 : decode cX0_asBits 15 = .ok (.ishl, 1) := dk_120 (dk_at dksX0_asBits_0 15 rfl rfl)
theorem dX0_asBits_16 : decode cX0_asBits 16 = .ok (.ior, 1) := dk_128 (dk_at dksX0_asBits_0 16 rfl rfl)
theorem dX0_asBits_17 : decode cX0_asBits 17 = .ok (.istore_n 1, 1) := dk_60 (dk_at dksX0_asBits_0 17 rfl rfl)
theorem dX0_asBits_18 : decode cX0_asBits 18 = .ok (.aload_n 0, 1) := dk_42 (dk_at dksX0_asBits_0 18 rfl rfl)
theorem dX0_asBits_19 : decode cX0_asBits 19 = .ok (.iload_n 2, 1) := dk_28 (dk_at dksX0_asBits_0 19 rfl rfl)
theorem dX0_asBits_20 : decode cX0_asBits 20 = .ok (.iconst 1, 1) := dk_4 (dk_at dksX0_asBits_0 20 rfl rfl)
theorem dX0_asBits_21 : decode cX0_asBits 21 = .ok (.iadd, 1) := dk_96 (dk_at dksX0_asBits_0 21 rfl rfl)
theorem dX0_asBits_22 : decode cX0_asBits 22 = .ok (.invokevirtual 1, 3) := dk_182 0 1 (dk_at dksX0_asBits_1 0 rfl rfl)
theorem dX0_asBits_25 : decode cX0_asBits 25 = .ok (.istore_n 2, 1) := dk_61 (dk_at dksX0_asBits_1 3 rfl rfl)
theorem dX0_asBits_26 : decode cX0_asBits 26 = .ok (.goto (-18), 3) := dk_167 255 238 (dk_at dksX0_asBits_1 4 rfl rfl)
theorem dX0_asBits_29 : decode cX0_asBits 29 = .ok (.iload_n 1, 1) := dk_27 (dk_at dksX0_asBits_1 7 rfl rfl)
theorem dX0_asBits_30 : decode cX0_asBits 30 = .ok (.ireturn, 1) := dk_172 (dk_at dksX0_asBits_1 8 rfl rfl)
abbrev cX0_ordered : ByteArray := prog_1_method_25_code
def yX0_ordered : MethodName := ⟨RX0, "ordered", "(II)I"⟩
def dkwX0_ordered_4 : List UInt8 := [172, 45, 180, 0, 248, 172, 45, 42, 180, 0, 16, 180, 0, 251, 182, 0, 254, 184, 0, 161, 172, 16, 254, 172]
abbrev dktX0_ordered_4 : List UInt8 := dkwX0_ordered_4 ++ []
def dkwX0_ordered_3 : List UInt8 := [45, 180, 0, 234, 172, 45, 180, 0, 236, 172, 45, 180, 0, 239, 172, 45, 180, 0, 242, 172, 45, 180, 0, 245]
abbrev dktX0_ordered_3 : List UInt8 := dkwX0_ordered_3 ++ dktX0_ordered_4
def dkwX0_ordered_2 : List UInt8 := [170, 0, 0, 0, 0, 87, 0, 0, 0, 0, 0, 0, 0, 6, 0, 0, 0, 42, 0, 0, 0, 47, 0, 0, 0, 52, 0, 0, 0, 57, 0, 0, 0, 62, 0, 0, 0, 67, 0, 0, 0, 72]
abbrev dktX0_ordered_2 : List UInt8 := dkwX0_ordered_2 ++ dktX0_ordered_3
def dkwX0_ordered_1 : List UInt8 := [180, 0, 16, 180, 0, 229, 27, 182, 0, 136, 192, 0, 232, 78, 28]
abbrev dktX0_ordered_1 : List UInt8 := dkwX0_ordered_1 ++ dktX0_ordered_2
def dkwX0_ordered_0 : List UInt8 := [27, 3, 42, 180, 0, 16, 180, 0, 229, 182, 0, 57, 4, 100, 184, 0, 63, 154, 0, 5, 2, 172, 42]
abbrev dktX0_ordered_0 : List UInt8 := dkwX0_ordered_0 ++ dktX0_ordered_1
theorem dksX0_ordered_0 : cX0_ordered.data.toList.drop 0 = dktX0_ordered_0 := by decide +kernel
theorem dksX0_ordered_1 : cX0_ordered.data.toList.drop 23 = dktX0_ordered_1 := dk_seg dksX0_ordered_0 23 rfl rfl
theorem dksX0_ordered_2 : cX0_ordered.data.toList.drop 38 = dktX0_ordered_2 := dk_seg dksX0_ordered_1 15 rfl rfl
theorem dksX0_ordered_3 : cX0_ordered.data.toList.drop 80 = dktX0_ordered_3 := dk_seg dksX0_ordered_2 42 rfl rfl
theorem dksX0_ordered_4 : cX0_ordered.data.toList.drop 104 = dktX0_ordered_4 := dk_seg dksX0_ordered_3 24 rfl rfl
theorem dX0_ordered_0 : decode cX0_ordered 0 = .ok (.iload_n 1, 1) := dk_27 (dk_at dksX0_ordered_0 0 rfl rfl)
theorem dX0_ordered_1 : decode cX0_ordered 1 = .ok (.iconst 0, 1) := dk_3 (dk_at dksX0_ordered_0 1 rfl rfl)
theorem dX0_ordered_2 : decode cX0_ordered 2 = .ok (.aload_n 0, 1) := dk_42 (dk_at dksX0_ordered_0 2 rfl rfl)
theorem dX0_ordered_3 : decode cX0_ordered 3 = .ok (.getfield 16, 3) := dk_180 0 16 (dk_at dksX0_ordered_0 3 rfl rfl)
theorem dX0_ordered_6 : decode cX0_ordered 6 = .ok (.getfield 229, 3) := dk_180 0 229 (dk_at dksX0_ordered_0 6 rfl rfl)
theorem dX0_ordered_9 : decode cX0_ordered 9 = .ok (.invokevirtual 57, 3) := dk_182 0 57 (dk_at dksX0_ordered_0 9 rfl rfl)
theorem dX0_ordered_12 : decode cX0_ordered 12 = .ok (.iconst 1, 1) := dk_4 (dk_at dksX0_ordered_0 12 rfl rfl)
theorem dX0_ordered_13 : decode cX0_ordered 13 = .ok (.isub, 1) := dk_100 (dk_at dksX0_ordered_0 13 rfl rfl)
theorem dX0_ordered_14 : decode cX0_ordered 14 = .ok (.invokestatic 63, 3) := dk_184 0 63 (dk_at dksX0_ordered_0 14 rfl rfl)
theorem dX0_ordered_17 : decode cX0_ordered 17 = .ok (.ifCond .ne 5, 3) := dk_154 0 5 (dk_at dksX0_ordered_0 17 rfl rfl)
theorem dX0_ordered_20 : decode cX0_ordered 20 = .ok (.iconst (-1), 1) := dk_2 (dk_at dksX0_ordered_0 20 rfl rfl)
theorem dX0_ordered_21 : decode cX0_ordered 21 = .ok (.ireturn, 1) := dk_172 (dk_at dksX0_ordered_0 21 rfl rfl)
theorem dX0_ordered_22 : decode cX0_ordered 22 = .ok (.aload_n 0, 1) := dk_42 (dk_at dksX0_ordered_0 22 rfl rfl)
theorem dX0_ordered_23 : decode cX0_ordered 23 = .ok (.getfield 16, 3) := dk_180 0 16 (dk_at dksX0_ordered_1 0 rfl rfl)
theorem dX0_ordered_26 : decode cX0_ordered 26 = .ok (.getfield 229, 3) := dk_180 0 229 (dk_at dksX0_ordered_1 3 rfl rfl)
theorem dX0_ordered_29 : decode cX0_ordered 29 = .ok (.iload_n 1, 1) := dk_27 (dk_at dksX0_ordered_1 6 rfl rfl)
theorem dX0_ordered_30 : decode cX0_ordered 30 = .ok (.invokevirtual 136, 3) := dk_182 0 136 (dk_at dksX0_ordered_1 7 rfl rfl)
theorem dX0_ordered_33 : decode cX0_ordered 33 = .ok (.checkcast 232, 3) := dk_192 0 232 (dk_at dksX0_ordered_1 10 rfl rfl)
theorem dX0_ordered_36 : decode cX0_ordered 36 = .ok (.astore_n 3, 1) := dk_78 (dk_at dksX0_ordered_1 13 rfl rfl)
theorem dX0_ordered_37 : decode cX0_ordered 37 = .ok (.iload_n 2, 1) := dk_28 (dk_at dksX0_ordered_1 14 rfl rfl)
theorem dX0_ordered_38 : decode cX0_ordered 38 = .ok (.tableswitch 87 0 6 #[42, 47, 52, 57, 62, 67, 72], 42) := by decide +kernel
theorem dX0_ordered_80 : decode cX0_ordered 80 = .ok (.aload_n 3, 1) := dk_45 (dk_at dksX0_ordered_3 0 rfl rfl)
theorem dX0_ordered_81 : decode cX0_ordered 81 = .ok (.getfield 234, 3) := dk_180 0 234 (dk_at dksX0_ordered_3 1 rfl rfl)
theorem dX0_ordered_84 : decode cX0_ordered 84 = .ok (.ireturn, 1) := dk_172 (dk_at dksX0_ordered_3 4 rfl rfl)
theorem dX0_ordered_85 : decode cX0_ordered 85 = .ok (.aload_n 3, 1) := dk_45 (dk_at dksX0_ordered_3 5 rfl rfl)
theorem dX0_ordered_86 : decode cX0_ordered 86 = .ok (.getfield 236, 3) := dk_180 0 236 (dk_at dksX0_ordered_3 6 rfl rfl)
theorem dX0_ordered_89 : decode cX0_ordered 89 = .ok (.ireturn, 1) := dk_172 (dk_at dksX0_ordered_3 9 rfl rfl)
theorem dX0_ordered_90 : decode cX0_ordered 90 = .ok (.aload_n 3, 1) := dk_45 (dk_at dksX0_ordered_3 10 rfl rfl)
theorem dX0_ordered_91 : decode cX0_ordered 91 = .ok (.getfield 239, 3) := dk_180 0 239 (dk_at dksX0_ordered_3 11 rfl rfl)
theorem dX0_ordered_94 : decode cX0_ordered 94 = .ok (.ireturn, 1) := dk_172 (dk_at dksX0_ordered_3 14 rfl rfl)
theorem dX0_ordered_95 : decode cX0_ordered 95 = .ok (.aload_n 3, 1) := dk_45 (dk_at dksX0_ordered_3 15 rfl rfl)
theorem dX0_ordered_96 : decode cX0_ordered 96 = .ok (.getfield 242, 3) := dk_180 0 242 (dk_at dksX0_ordered_3 16 rfl rfl)
theorem dX0_ordered_99 : decode cX0_ordered 99 = .ok (.ireturn, 1) := dk_172 (dk_at dksX0_ordered_3 19 rfl rfl)
theorem dX0_ordered_100 : decode cX0_ordered 100 = .ok (.aload_n 3, 1) := dk_45 (dk_at dksX0_ordered_3 20 rfl rfl)
theorem dX0_ordered_101 : decode cX0_ordered 101 = .ok (.getfield 245, 3) := dk_180 0 245 (dk_at dksX0_ordered_3 21 rfl rfl)
theorem dX0_ordered_104 : decode cX0_ordered 104 = .ok (.ireturn, 1) := dk_172 (dk_at dksX0_ordered_4 0 rfl rfl)
theorem dX0_ordered_105 : decode cX0_ordered 105 = .ok (.aload_n 3, 1) := dk_45 (dk_at dksX0_ordered_4 1 rfl rfl)
theorem dX0_ordered_106 : decode cX0_ordered 106 = .ok (.getfield 248, 3) := dk_180 0 248 (dk_at dksX0_ordered_4 2 rfl rfl)
theorem dX0_ordered_109 : decode cX0_ordered 109 = .ok (.ireturn, 1) := dk_172 (dk_at dksX0_ordered_4 5 rfl rfl)
theorem dX0_ordered_110 : decode cX0_ordered 110 = .ok (.aload_n 3, 1) := dk_45 (dk_at dksX0_ordered_4 6 rfl rfl)
theorem dX0_ordered_111 : decode cX0_ordered 111 = .ok (.aload_n 0, 1) := dk_42 (dk_at dksX0_ordered_4 7 rfl rfl)
theorem dX0_ordered_112 : decode cX0_ordered 112 = .ok (.getfield 16, 3) := dk_180 0 16 (dk_at dksX0_ordered_4 8 rfl rfl)
theorem dX0_ordered_115 : decode cX0_ordered 115 = .ok (.getfield 251, 3) := dk_180 0 251 (dk_at dksX0_ordered_4 11 rfl rfl)
theorem dX0_ordered_118 : decode cX0_ordered 118 = .ok (.invokevirtual 254, 3) := dk_182 0 254 (dk_at dksX0_ordered_4 14 rfl rfl)
theorem dX0_ordered_121 : decode cX0_ordered 121 = .ok (.invokestatic 161, 3) := dk_184 0 161 (dk_at dksX0_ordered_4 17 rfl rfl)
theorem dX0_ordered_124 : decode cX0_ordered 124 = .ok (.ireturn, 1) := dk_172 (dk_at dksX0_ordered_4 20 rfl rfl)
theorem dX0_ordered_125 : decode cX0_ordered 125 = .ok (.bipush (-2), 2) := dk_16 254 (dk_at dksX0_ordered_4 21 rfl rfl)
theorem dX0_ordered_127 : decode cX0_ordered 127 = .ok (.ireturn, 1) := dk_172 (dk_at dksX0_ordered_4 23 rfl rfl)
abbrev cX0_wheel : ByteArray := prog_1_method_26_code
def yX0_wheel : MethodName := ⟨RX0, "wheel", "(I)I"⟩
def dkwX0_wheel_4 : List UInt8 := [180, 1, 14, 172, 16, 254, 172]
abbrev dktX0_wheel_4 : List UInt8 := dkwX0_wheel_4 ++ []
def dkwX0_wheel_3 : List UInt8 := [180, 0, 16, 180, 1, 4, 172, 42, 180, 0, 16, 180, 1, 7, 182, 1, 11, 172, 42, 180, 0, 16]
abbrev dktX0_wheel_3 : List UInt8 := dkwX0_wheel_3 ++ dktX0_wheel_4
def dkwX0_wheel_2 : List UInt8 := [42, 180, 0, 16, 180, 1, 1, 172, 42, 180, 0, 16, 180, 1, 1, 2, 160, 0, 7, 3, 167, 0, 10, 42]
abbrev dktX0_wheel_2 : List UInt8 := dkwX0_wheel_2 ++ dktX0_wheel_3
def dkwX0_wheel_1 : List UInt8 := [170, 0, 0, 0, 0, 0, 81, 0, 0, 0, 0, 0, 0, 0, 3, 0, 0, 0, 31, 0, 0, 0, 39, 0, 0, 0, 62, 0, 0, 0, 73]
abbrev dktX0_wheel_1 : List UInt8 := dkwX0_wheel_1 ++ dktX0_wheel_2
def dkwX0_wheel_0 : List UInt8 := [27]
abbrev dktX0_wheel_0 : List UInt8 := dkwX0_wheel_0 ++ dktX0_wheel_1
theorem dksX0_wheel_0 : cX0_wheel.data.toList.drop 0 = dktX0_wheel_0 := by decide +kernel
theorem dksX0_wheel_1 : cX0_wheel.data.toList.drop 1 = dktX0_wheel_1 := dk_seg dksX0_wheel_0 1 rfl rfl
theorem dksX0_wheel_2 : cX0_wheel.data.toList.drop 32 = dktX0_wheel_2 := dk_seg dksX0_wheel_1 31 rfl rfl
theorem dksX0_wheel_3 : cX0_wheel.data.toList.drop 56 = dktX0_wheel_3 := dk_seg dksX0_wheel_2 24 rfl rfl
theorem dksX0_wheel_4 : cX0_wheel.data.toList.drop 78 = dktX0_wheel_4 := dk_seg dksX0_wheel_3 22 rfl rfl
theorem dX0_wheel_0 : decode cX0_wheel 0 = .ok (.iload_n 1, 1) := dk_27 (dk_at dksX0_wheel_0 0 rfl rfl)
theorem dX0_wheel_1 : decode cX0_wheel 1 = .ok (.tableswitch 81 0 3 #[31, 39, 62, 73], 31) := by decide +kernel
theorem dX0_wheel_32 : decode cX0_wheel 32 = .ok (.aload_n 0, 1) := dk_42 (dk_at dksX0_wheel_2 0 rfl rfl)
theorem dX0_wheel_33 : decode cX0_wheel 33 = .ok (.getfield 16, 3) := dk_180 0 16 (dk_at dksX0_wheel_2 1 rfl rfl)
theorem dX0_wheel_36 : decode cX0_wheel 36 = .ok (.getfield 257, 3) := dk_180 1 1 (dk_at dksX0_wheel_2 4 rfl rfl)
theorem dX0_wheel_39 : decode cX0_wheel 39 = .ok (.ireturn, 1) := dk_172 (dk_at dksX0_wheel_2 7 rfl rfl)
theorem dX0_wheel_40 : decode cX0_wheel 40 = .ok (.aload_n 0, 1) := dk_42 (dk_at dksX0_wheel_2 8 rfl rfl)
theorem dX0_wheel_41 : decode cX0_wheel 41 = .ok (.getfield 16, 3) := dk_180 0 16 (dk_at dksX0_wheel_2 9 rfl rfl)
theorem dX0_wheel_44 : decode cX0_wheel 44 = .ok (.getfield 257, 3) := dk_180 1 1 (dk_at dksX0_wheel_2 12 rfl rfl)
theorem dX0_wheel_47 : decode cX0_wheel 47 = .ok (.iconst (-1), 1) := dk_2 (dk_at dksX0_wheel_2 15 rfl rfl)
theorem dX0_wheel_48 : decode cX0_wheel 48 = .ok (.if_icmp .ne 7, 3) := dk_160 0 7 (dk_at dksX0_wheel_2 16 rfl rfl)
theorem dX0_wheel_51 : decode cX0_wheel 51 = .ok (.iconst 0, 1) := dk_3 (dk_at dksX0_wheel_2 19 rfl rfl)
theorem dX0_wheel_52 : decode cX0_wheel 52 = .ok (.goto 10, 3) := dk_167 0 10 (dk_at dksX0_wheel_2 20 rfl rfl)
theorem dX0_wheel_55 : decode cX0_wheel 55 = .ok (.aload_n 0, 1) := dk_42 (dk_at dksX0_wheel_2 23 rfl rfl)
theorem dX0_wheel_56 : decode cX0_wheel 56 = .ok (.getfield 16, 3) := dk_180 0 16 (dk_at dksX0_wheel_3 0 rfl rfl)
theorem dX0_wheel_59 : decode cX0_wheel 59 = .ok (.getfield 260, 3) := dk_180 1 4 (dk_at dksX0_wheel_3 3 rfl rfl)
theorem dX0_wheel_62 : decode cX0_wheel 62 = .ok (.ireturn, 1) := dk_172 (dk_at dksX0_wheel_3 6 rfl rfl)
theorem dX0_wheel_63 : decode cX0_wheel 63 = .ok (.aload_n 0, 1) := dk_42 (dk_at dksX0_wheel_3 7 rfl rfl)
theorem dX0_wheel_64 : decode cX0_wheel 64 = .ok (.getfield 16, 3) := dk_180 0 16 (dk_at dksX0_wheel_3 8 rfl rfl)
theorem dX0_wheel_67 : decode cX0_wheel 67 = .ok (.getfield 263, 3) := dk_180 1 7 (dk_at dksX0_wheel_3 11 rfl rfl)
theorem dX0_wheel_70 : decode cX0_wheel 70 = .ok (.invokevirtual 267, 3) := dk_182 1 11 (dk_at dksX0_wheel_3 14 rfl rfl)
theorem dX0_wheel_73 : decode cX0_wheel 73 = .ok (.ireturn, 1) := dk_172 (dk_at dksX0_wheel_3 17 rfl rfl)
theorem dX0_wheel_74 : decode cX0_wheel 74 = .ok (.aload_n 0, 1) := dk_42 (dk_at dksX0_wheel_3 18 rfl rfl)
theorem dX0_wheel_75 : decode cX0_wheel 75 = .ok (.getfield 16, 3) := dk_180 0 16 (dk_at dksX0_wheel_3 19 rfl rfl)
theorem dX0_wheel_78 : decode cX0_wheel 78 = .ok (.getfield 270, 3) := dk_180 1 14 (dk_at dksX0_wheel_4 0 rfl rfl)
theorem dX0_wheel_81 : decode cX0_wheel 81 = .ok (.ireturn, 1) := dk_172 (dk_at dksX0_wheel_4 3 rfl rfl)
theorem dX0_wheel_82 : decode cX0_wheel 82 = .ok (.bipush (-2), 2) := dk_16 254 (dk_at dksX0_wheel_4 4 rfl rfl)
theorem dX0_wheel_84 : decode cX0_wheel 84 = .ok (.ireturn, 1) := dk_172 (dk_at dksX0_wheel_4 6 rfl rfl)
abbrev cX0_waiting : ByteArray := prog_1_method_27_code
def yX0_waiting : MethodName := ⟨RX0, "waiting", "(I)I"⟩
def dkwX0_waiting_1 : List UInt8 := [180, 1, 7, 27, 182, 1, 17, 192, 1, 18, 182, 1, 20, 167, 0, 4, 2, 172]
abbrev dktX0_waiting_1 : List UInt8 := dkwX0_waiting_1 ++ []
def dkwX0_waiting_0 : List UInt8 := [27, 3, 42, 180, 0, 16, 180, 1, 7, 182, 1, 11, 4, 100, 184, 0, 63, 153, 0, 23, 42, 180, 0, 16]
abbrev dktX0_waiting_0 : List UInt8 := dkwX0_waiting_0 ++ dktX0_waiting_1
theorem dksX0_waiting_0 : cX0_waiting.data.toList.drop 0 = dktX0_waiting_0 := by decide +kernel
theorem dksX0_waiting_1 : cX0_waiting.data.toList.drop 24 = dktX0_waiting_1 := dk_seg dksX0_waiting_0 24 rfl rfl
theorem dX0_waiting_0 : decode cX0_waiting 0 = .ok (.iload_n 1, 1) := dk_27 (dk_at dksX0_waiting_0 0 rfl rfl)
theorem dX0_waiting_1 : decode cX0_waiting 1 = .ok (.iconst 0, 1) := dk_3 (dk_at dksX0_waiting_0 1 rfl rfl)
theorem dX0_waiting_2 : decode cX0_waiting 2 = .ok (.aload_n 0, 1) := dk_42 (dk_at dksX0_waiting_0 2 rfl rfl)
theorem dX0_waiting_3 : decode cX0_waiting 3 = .ok (.getfield 16, 3) := dk_180 0 16 (dk_at dksX0_waiting_0 3 rfl rfl)
theorem dX0_waiting_6 : decode cX0_waiting 6 = .ok (.getfield 263, 3) := dk_180 1 7 (dk_at dksX0_waiting_0 6 rfl rfl)
theorem dX0_waiting_9 : decode cX0_waiting 9 = .ok (.invokevirtual 267, 3) := dk_182 1 11 (dk_at dksX0_waiting_0 9 rfl rfl)
theorem dX0_waiting_12 : decode cX0_waiting 12 = .ok (.iconst 1, 1) := dk_4 (dk_at dksX0_waiting_0 12 rfl rfl)
theorem dX0_waiting_13 : decode cX0_waiting 13 = .ok (.isub, 1) := dk_100 (dk_at dksX0_waiting_0 13 rfl rfl)
theorem dX0_waiting_14 : decode cX0_waiting 14 = .ok (.invokestatic 63, 3) := dk_184 0 63 (dk_at dksX0_waiting_0 14 rfl rfl)
theorem dX0_waiting_17 : decode cX0_waiting 17 = .ok (.ifCond .eq 23, 3) := dk_153 0 23 (dk_at dksX0_waiting_0 17 rfl rfl)
theorem dX0_waiting_20 : decode cX0_waiting 20 = .ok (.aload_n 0, 1) := dk_42 (dk_at dksX0_waiting_0 20 rfl rfl)
theorem dX0_waiting_21 : decode cX0_waiting 21 = .ok (.getfield 16, 3) := dk_180 0 16 (dk_at dksX0_waiting_0 21 rfl rfl)
theorem dX0_waiting_24 : decode cX0_waiting 24 = .ok (.getfield 263, 3) := dk_180 1 7 (dk_at dksX0_waiting_1 0 rfl rfl)
theorem dX0_waiting_27 : decode cX0_waiting 27 = .ok (.iload_n 1, 1) := dk_27 (dk_at dksX0_waiting_1 3 rfl rfl)
theorem dX0_waiting_28 : decode cX0_waiting 28 = .ok (.invokevirtual 273, 3) := dk_182 1 17 (dk_at dksX0_waiting_1 4 rfl rfl)
theorem dX0_waiting_31 : decode cX0_waiting 31 = .ok (.checkcast 274, 3) := dk_192 1 18 (dk_at dksX0_waiting_1 7 rfl rfl)
theorem dX0_waiting_34 : decode cX0_waiting 34 = .ok (.invokevirtual 276, 3) := dk_182 1 20 (dk_at dksX0_waiting_1 10 rfl rfl)
theorem dX0_waiting_37 : decode cX0_waiting 37 = .ok (.goto 4, 3) := dk_167 0 4 (dk_at dksX0_waiting_1 13 rfl rfl)
theorem dX0_waiting_40 : decode cX0_waiting 40 = .ok (.iconst (-1), 1) := dk_2 (dk_at dksX0_waiting_1 16 rfl rfl)
theorem dX0_waiting_41 : decode cX0_waiting 41 = .ok (.ireturn, 1) := dk_172 (dk_at dksX0_waiting_1 17 rfl rfl)
abbrev cX0_ahead : ByteArray := prog_1_method_29_code
def yX0_ahead : MethodName := ⟨RX0, "ahead", "(II)I"⟩
def dkwX0_ahead_5 : List UInt8 := [21, 5, 172, 132, 5, 1, 167, 255, 219, 16, 250, 172]
abbrev dktX0_ahead_5 : List UInt8 := dkwX0_ahead_5 ++ []
def dkwX0_ahead_4 : List UInt8 := [25, 4, 182, 1, 54, 45, 25, 4, 180, 0, 53, 27, 182, 0, 136, 192, 0, 140, 182, 1, 57, 153, 0, 6]
abbrev dktX0_ahead_4 : List UInt8 := dkwX0_ahead_4 ++ dktX0_ahead_5
def dkwX0_ahead_3 : List UInt8 := [187, 0, 13, 89, 42, 180, 0, 16, 183, 0, 223, 58, 4, 4, 54, 5, 21, 5, 16, 99, 163, 0, 36]
abbrev dktX0_ahead_3 : List UInt8 := dkwX0_ahead_3 ++ dktX0_ahead_4
def dkwX0_ahead_2 : List UInt8 := [180, 0, 16, 180, 0, 53, 27, 182, 0, 136, 192, 0, 140, 182, 1, 50, 154, 0, 6, 16, 250, 172]
abbrev dktX0_ahead_2 : List UInt8 := dkwX0_ahead_2 ++ dktX0_ahead_3
def dkwX0_ahead_1 : List UInt8 := [172, 28, 42, 180, 0, 16, 180, 0, 53, 27, 182, 0, 136, 192, 0, 140, 184, 1, 46, 78, 45, 42]
abbrev dktX0_ahead_1 : List UInt8 := dkwX0_ahead_1 ++ dktX0_ahead_2
def dkwX0_ahead_0 : List UInt8 := [42, 180, 0, 16, 27, 182, 0, 103, 154, 0, 5, 2, 172, 28, 3, 6, 184, 0, 63, 154, 0, 6, 16, 254]
abbrev dktX0_ahead_0 : List UInt8 := dkwX0_ahead_0 ++ dktX0_ahead_1
theorem dksX0_ahead_0 : cX0_ahead.data.toList.drop 0 = dktX0_ahead_0 := by decide +kernel
theorem dksX0_ahead_1 : cX0_ahead.data.toList.drop 24 = dktX0_ahead_1 := dk_seg dksX0_ahead_0 24 rfl rfl
theorem dksX0_ahead_2 : cX0_ahead.data.toList.drop 46 = dktX0_ahead_2 := dk_seg dksX0_ahead_1 22 rfl rfl
theorem dksX0_ahead_3 : cX0_ahead.data.toList.drop 68 = dktX0_ahead_3 := dk_seg dksX0_ahead_2 22 rfl rfl
theorem dksX0_ahead_4 : cX0_ahead.data.toList.drop 91 = dktX0_ahead_4 := dk_seg dksX0_ahead_3 23 rfl rfl
theorem dksX0_ahead_5 : cX0_ahead.data.toList.drop 115 = dktX0_ahead_5 := dk_seg dksX0_ahead_4 24 rfl rfl
theorem dX0_ahead_0 : decode cX0_ahead 0 = .ok (.aload_n 0, 1) := dk_42 (dk_at dksX0_ahead_0 0 rfl rfl)
theorem dX0_ahead_1 : decode cX0_ahead 1 = .ok (.getfield 16, 3) := dk_180 0 16 (dk_at dksX0_ahead_0 1 rfl rfl)
theorem dX0_ahead_4 : decode cX0_ahead 4 = .ok (.iload_n 1, 1) := dk_27 (dk_at dksX0_ahead_0 4 rfl rfl)
theorem dX0_ahead_5 : decode cX0_ahead 5 = .ok (.invokevirtual 103, 3) := dk_182 0 103 (dk_at dksX0_ahead_0 5 rfl rfl)
theorem dX0_ahead_8 : decode cX0_ahead 8 = .ok (.ifCond .ne 5, 3) := dk_154 0 5 (dk_at dksX0_ahead_0 8 rfl rfl)
theorem dX0_ahead_11 : decode cX0_ahead 11 = .ok (.iconst (-1), 1) := dk_2 (dk_at dksX0_ahead_0 11 rfl rfl)
theorem dX0_ahead_12 : decode cX0_ahead 12 = .ok (.ireturn, 1) := dk_172 (dk_at dksX0_ahead_0 12 rfl rfl)
theorem dX0_ahead_13 : decode cX0_ahead 13 = .ok (.iload_n 2, 1) := dk_28 (dk_at dksX0_ahead_0 13 rfl rfl)
theorem dX0_ahead_14 : decode cX0_ahead 14 = .ok (.iconst 0, 1) := dk_3 (dk_at dksX0_ahead_0 14 rfl rfl)
theorem dX0_ahead_15 : decode cX0_ahead 15 = .ok (.iconst 3, 1) := dk_6 (dk_at dksX0_ahead_0 15 rfl rfl)
theorem dX0_ahead_16 : decode cX0_ahead 16 = .ok (.invokestatic 63, 3) := dk_184 0 63 (dk_at dksX0_ahead_0 16 rfl rfl)
theorem dX0_ahead_19 : decode cX0_ahead 19 = .ok (.ifCond .ne 6, 3) := dk_154 0 6 (dk_at dksX0_ahead_0 19 rfl rfl)
theorem dX0_ahead_22 : decode cX0_ahead 22 = .ok (.bipush (-2), 2) := dk_16 254 (dk_at dksX0_ahead_0 22 rfl rfl)
theorem dX0_ahead_24 : decode cX0_ahead 24 = .ok (.ireturn, 1) := dk_172 (dk_at dksX0_ahead_1 0 rfl rfl)
theorem dX0_ahead_25 : decode cX0_ahead 25 = .ok (.iload_n 2, 1) := dk_28 (dk_at dksX0_ahead_1 1 rfl rfl)
theorem dX0_ahead_26 : decode cX0_ahead 26 = .ok (.aload_n 0, 1) := dk_42 (dk_at dksX0_ahead_1 2 rfl rfl)
theorem dX0_ahead_27 : decode cX0_ahead 27 = .ok (.getfield 16, 3) := dk_180 0 16 (dk_at dksX0_ahead_1 3 rfl rfl)
theorem dX0_ahead_30 : decode cX0_ahead 30 = .ok (.getfield 53, 3) := dk_180 0 53 (dk_at dksX0_ahead_1 6 rfl rfl)
theorem dX0_ahead_33 : decode cX0_ahead 33 = .ok (.iload_n 1, 1) := dk_27 (dk_at dksX0_ahead_1 9 rfl rfl)
theorem dX0_ahead_34 : decode cX0_ahead 34 = .ok (.invokevirtual 136, 3) := dk_182 0 136 (dk_at dksX0_ahead_1 10 rfl rfl)
theorem dX0_ahead_37 : decode cX0_ahead 37 = .ok (.checkcast 140, 3) := dk_192 0 140 (dk_at dksX0_ahead_1 13 rfl rfl)
theorem dX0_ahead_40 : decode cX0_ahead 40 = .ok (.invokestatic 302, 3) := dk_184 1 46 (dk_at dksX0_ahead_1 16 rfl rfl)
theorem dX0_ahead_43 : decode cX0_ahead 43 = .ok (.astore_n 3, 1) := dk_78 (dk_at dksX0_ahead_1 19 rfl rfl)
theorem dX0_ahead_44 : decode cX0_ahead 44 = .ok (.aload_n 3, 1) := dk_45 (dk_at dksX0_ahead_1 20 rfl rfl)
theorem dX0_ahead_45 : decode cX0_ahead 45 = .ok (.aload_n 0, 1) := dk_42 (dk_at dksX0_ahead_1 21 rfl rfl)
theorem dX0_ahead_46 : decode cX0_ahead 46 = .ok (.getfield 16, 3) := dk_180 0 16 (dk_at dksX0_ahead_2 0 rfl rfl)
theorem dX0_ahead_49 : decode cX0_ahead 49 = .ok (.getfield 53, 3) := dk_180 0 53 (dk_at dksX0_ahead_2 3 rfl rfl)
theorem dX0_ahead_52 : decode cX0_ahead 52 = .ok (.iload_n 1, 1) := dk_27 (dk_at dksX0_ahead_2 6 rfl rfl)
theorem dX0_ahead_53 : decode cX0_ahead 53 = .ok (.invokevirtual 136, 3) := dk_182 0 136 (dk_at dksX0_ahead_2 7 rfl rfl)
theorem dX0_ahead_56 : decode cX0_ahead 56 = .ok (.checkcast 140, 3) := dk_192 0 140 (dk_at dksX0_ahead_2 10 rfl rfl)
theorem dX0_ahead_59 : decode cX0_ahead 59 = .ok (.invokevirtual 306, 3) := dk_182 1 50 (dk_at dksX0_ahead_2 13 rfl rfl)
theorem dX0_ahead_62 : decode cX0_ahead 62 = .ok (.ifCond .ne 6, 3) := dk_154 0 6 (dk_at dksX0_ahead_2 16 rfl rfl)
theorem dX0_ahead_65 : decode cX0_ahead 65 = .ok (.bipush (-6), 2) := dk_16 250 (dk_at dksX0_ahead_2 19 rfl rfl)
theorem dX0_ahead_67 : decode cX0_ahead 67 = .ok (.ireturn, 1) := dk_172 (dk_at dksX0_ahead_2 21 rfl rfl)
theorem dX0_ahead_68 : decode cX0_ahead 68 = .ok (.new 13, 3) := dk_187 0 13 (dk_at dksX0_ahead_3 0 rfl rfl)
theorem dX0_ahead_71 : decode cX0_ahead 71 = .ok (.dup, 1) := dk_89 (dk_at dksX0_ahead_3 3 rfl rfl)
theorem dX0_ahead_72 : decode cX0_ahead 72 = .ok (.aload_n 0, 1) := dk_42 (dk_at dksX0_ahead_3 4 rfl rfl)
theorem dX0_ahead_73 : decode cX0_ahead 73 = .ok (.getfield 16, 3) := dk_180 0 16 (dk_at dksX0_ahead_3 5 rfl rfl)
theorem dX0_ahead_76 : decode cX0_ahead 76 = .ok (.invokespecial 223, 3) := dk_183 0 223 (dk_at dksX0_ahead_3 8 rfl rfl)
theorem dX0_ahead_79 : decode cX0_ahead 79 = .ok (.astore 4, 2) := dk_58 4 (dk_at dksX0_ahead_3 11 rfl rfl)
theorem dX0_ahead_81 : decode cX0_ahead 81 = .ok (.iconst 1, 1) := dk_4 (dk_at dksX0_ahead_3 13 rfl rfl)
theorem dX0_ahead_82 : decode cX0_ahead 82 = .ok (.istore 5, 2) := dk_54 5 (dk_at dksX0_ahead_3 14 rfl rfl)
theorem dX0_ahead_84 : decode cX0_ahead 84 = .ok (.iload 5, 2) := dk_21 5 (dk_at dksX0_ahead_3 16 rfl rfl)
theorem dX0_ahead_86 : decode cX0_ahead 86 = .ok (.bipush 99, 2) := dk_16 99 (dk_at dksX0_ahead_3 18 rfl rfl)
theorem dX0_ahead_88 : decode cX0_ahead 88 = .ok (.if_icmp .gt 36, 3) := dk_163 0 36 (dk_at dksX0_ahead_3 20 rfl rfl)
theorem dX0_ahead_91 : decode cX0_ahead 91 = .ok (.aload 4, 2) := dk_25 4 (dk_at dksX0_ahead_4 0 rfl rfl)
theorem dX0_ahead_93 : decode cX0_ahead 93 = .ok (.invokevirtual 310, 3) := dk_182 1 54 (dk_at dksX0_ahead_4 2 rfl rfl)
theorem dX0_ahead_96 : decode cX0_ahead 96 = .ok (.aload_n 3, 1) := dk_45 (dk_at dksX0_ahead_4 5 rfl rfl)
theorem dX0_ahead_97 : decode cX0_ahead 97 = .ok (.aload 4, 2) := dk_25 4 (dk_at dksX0_ahead_4 6 rfl rfl)
theorem dX0_ahead_99 : decode cX0_ahead 99 = .ok (.getfield 53, 3) := dk_180 0 53 (dk_at dksX0_ahead_4 8 rfl rfl)
theorem dX0_ahead_102 : decode cX0_ahead 102 = .ok (.iload_n 1, 1) := dk_27 (dk_at dksX0_ahead_4 11 rfl rfl)
theorem dX0_ahead_103 : decode cX0_ahead 103 = .ok (.invokevirtual 136, 3) := dk_182 0 136 (dk_at dksX0_ahead_4 12 rfl rfl)
theorem dX0_ahead_106 : decode cX0_ahead 106 = .ok (.checkcast 140, 3) := dk_192 0 140 (dk_at dksX0_ahead_4 15 rfl rfl)
theorem dX0_ahead_109 : decode cX0_ahead 109 = .ok (.invokevirtual 313, 3) := dk_182 1 57 (dk_at dksX0_ahead_4 18 rfl rfl)
theorem dX0_ahead_112 : decode cX0_ahead 112 = .ok (.ifCond .eq 6, 3) := dk_153 0 6 (dk_at dksX0_ahead_4 21 rfl rfl)
theorem dX0_ahead_115 : decode cX0_ahead 115 = .ok (.iload 5, 2) := dk_21 5 (dk_at dksX0_ahead_5 0 rfl rfl)
theorem dX0_ahead_117 : decode cX0_ahead 117 = .ok (.ireturn, 1) := dk_172 (dk_at dksX0_ahead_5 2 rfl rfl)
theorem dX0_ahead_118 : decode cX0_ahead 118 = .ok (.iinc 5 1, 3) := dk_132 5 1 (dk_at dksX0_ahead_5 3 rfl rfl)
theorem dX0_ahead_121 : decode cX0_ahead 121 = .ok (.goto (-37), 3) := dk_167 255 219 (dk_at dksX0_ahead_5 6 rfl rfl)
theorem dX0_ahead_124 : decode cX0_ahead 124 = .ok (.bipush (-6), 2) := dk_16 250 (dk_at dksX0_ahead_5 9 rfl rfl)
theorem dX0_ahead_126 : decode cX0_ahead 126 = .ok (.ireturn, 1) := dk_172 (dk_at dksX0_ahead_5 11 rfl rfl)
abbrev cX0_turnOf : ByteArray := prog_1_method_28_code
def yX0_turnOf : MethodName := ⟨RX0, "turnOf", "(ILTurningWheel$Pot;)LTurningWheel$Turn;"⟩
def dkwX0_turnOf_1 : List UInt8 := [187, 1, 34, 89, 183, 1, 36, 184, 1, 37, 77, 44, 26, 185, 1, 43, 2, 0, 192, 1, 44, 176]
abbrev dktX0_turnOf_1 : List UInt8 := dkwX0_turnOf_1 ++ []
def dkwX0_turnOf_0 : List UInt8 := [187, 1, 23, 89, 183, 1, 25, 187, 1, 26, 89, 183, 1, 28, 187, 1, 29, 89, 43, 183, 1, 31]
abbrev dktX0_turnOf_0 : List UInt8 := dkwX0_turnOf_0 ++ dktX0_turnOf_1
theorem dksX0_turnOf_0 : cX0_turnOf.data.toList.drop 0 = dktX0_turnOf_0 := by decide +kernel
theorem dksX0_turnOf_1 : cX0_turnOf.data.toList.drop 22 = dktX0_turnOf_1 := dk_seg dksX0_turnOf_0 22 rfl rfl
theorem dX0_turnOf_0 : decode cX0_turnOf 0 = .ok (.new 279, 3) := dk_187 1 23 (dk_at dksX0_turnOf_0 0 rfl rfl)
theorem dX0_turnOf_3 : decode cX0_turnOf 3 = .ok (.dup, 1) := dk_89 (dk_at dksX0_turnOf_0 3 rfl rfl)
theorem dX0_turnOf_4 : decode cX0_turnOf 4 = .ok (.invokespecial 281, 3) := dk_183 1 25 (dk_at dksX0_turnOf_0 4 rfl rfl)
theorem dX0_turnOf_7 : decode cX0_turnOf 7 = .ok (.new 282, 3) := dk_187 1 26 (dk_at dksX0_turnOf_0 7 rfl rfl)
theorem dX0_turnOf_10 : decode cX0_turnOf 10 = .ok (.dup, 1) := dk_89 (dk_at dksX0_turnOf_0 10 rfl rfl)
theorem dX0_turnOf_11 : decode cX0_turnOf 11 = .ok (.invokespecial 284, 3) := dk_183 1 28 (dk_at dksX0_turnOf_0 11 rfl rfl)
theorem dX0_turnOf_14 : decode cX0_turnOf 14 = .ok (.new 285, 3) := dk_187 1 29 (dk_at dksX0_turnOf_0 14 rfl rfl)
theorem dX0_turnOf_17 : decode cX0_turnOf 17 = .ok (.dup, 1) := dk_89 (dk_at dksX0_turnOf_0 17 rfl rfl)
theorem dX0_turnOf_18 : decode cX0_turnOf 18 = .ok (.aload_n 1, 1) := dk_43 (dk_at dksX0_turnOf_0 18 rfl rfl)
theorem dX0_turnOf_19 : decode cX0_turnOf 19 = .ok (.invokespecial 287, 3) := dk_183 1 31 (dk_at dksX0_turnOf_0 19 rfl rfl)
theorem dX0_turnOf_22 : decode cX0_turnOf 22 = .ok (.new 290, 3) := dk_187 1 34 (dk_at dksX0_turnOf_1 0 rfl rfl)
theorem dX0_turnOf_25 : decode cX0_turnOf 25 = .ok (.dup, 1) := dk_89 (dk_at dksX0_turnOf_1 3 rfl rfl)
theorem dX0_turnOf_26 : decode cX0_turnOf 26 = .ok (.invokespecial 292, 3) := dk_183 1 36 (dk_at dksX0_turnOf_1 4 rfl rfl)
theorem dX0_turnOf_29 : decode cX0_turnOf 29 = .ok (.invokestatic 293, 3) := dk_184 1 37 (dk_at dksX0_turnOf_1 7 rfl rfl)
theorem dX0_turnOf_32 : decode cX0_turnOf 32 = .ok (.astore_n 2, 1) := dk_77 (dk_at dksX0_turnOf_1 10 rfl rfl)
theorem dX0_turnOf_33 : decode cX0_turnOf 33 = .ok (.aload_n 2, 1) := dk_44 (dk_at dksX0_turnOf_1 11 rfl rfl)
theorem dX0_turnOf_34 : decode cX0_turnOf 34 = .ok (.iload_n 0, 1) := dk_26 (dk_at dksX0_turnOf_1 12 rfl rfl)
theorem dX0_turnOf_35 : decode cX0_turnOf 35 = .ok (.invokeinterface 299 2, 5) := by decide +kernel
theorem dX0_turnOf_40 : decode cX0_turnOf 40 = .ok (.checkcast 300, 3) := dk_192 1 44 (dk_at dksX0_turnOf_1 18 rfl rfl)
theorem dX0_turnOf_43 : decode cX0_turnOf 43 = .ok (.areturn, 1) := dk_176 (dk_at dksX0_turnOf_1 21 rfl rfl)
abbrev cX0_meanMoisture : ByteArray := prog_1_method_30_code
def yX0_meanMoisture : MethodName := ⟨RX0, "meanMoisture", "()D"⟩
def dkwX0_meanMoisture_3 : List UInt8 := [154, 0, 7, 14, 167, 0, 7, 39, 29, 135, 111, 175]
abbrev dktX0_meanMoisture_3 : List UInt8 := dkwX0_meanMoisture_3 ++ []
def dkwX0_meanMoisture_2 : List UInt8 := [160, 0, 15, 39, 25, 5, 180, 0, 196, 141, 99, 72, 132, 3, 1, 132, 4, 1, 167, 255, 200, 29]
abbrev dktX0_meanMoisture_2 : List UInt8 := dkwX0_meanMoisture_2 ++ dktX0_meanMoisture_3
def dkwX0_meanMoisture_1 : List UInt8 := [180, 0, 16, 180, 0, 53, 21, 4, 182, 0, 136, 192, 0, 140, 58, 5, 25, 5, 180, 0, 142, 5]
abbrev dktX0_meanMoisture_1 : List UInt8 := dkwX0_meanMoisture_1 ++ dktX0_meanMoisture_2
def dkwX0_meanMoisture_0 : List UInt8 := [14, 72, 3, 62, 3, 54, 4, 21, 4, 42, 180, 0, 16, 180, 0, 53, 182, 0, 57, 162, 0, 47, 42]
abbrev dktX0_meanMoisture_0 : List UInt8 := dkwX0_meanMoisture_0 ++ dktX0_meanMoisture_1
theorem dksX0_meanMoisture_0 : cX0_meanMoisture.data.toList.drop 0 = dktX0_meanMoisture_0 := by decide +kernel
theorem dksX0_meanMoisture_1 : cX0_meanMoisture.data.toList.drop 23 = dktX0_meanMoisture_1 := dk_seg dksX0_meanMoisture_0 23 rfl rfl
theorem dksX0_meanMoisture_2 : cX0_meanMoisture.data.toList.drop 45 = dktX0_meanMoisture_2 := dk_seg dksX0_meanMoisture_1 22 rfl rfl
theorem dksX0_meanMoisture_3 : cX0_meanMoisture.data.toList.drop 67 = dktX0_meanMoisture_3 := dk_seg dksX0_meanMoisture_2 22 rfl rfl
theorem dX0_meanMoisture_0 : decode cX0_meanMoisture 0 = .ok (.dconst 0, 1) := dk_14 (dk_at dksX0_meanMoisture_0 0 rfl rfl)
theorem dX0_meanMoisture_1 : decode cX0_meanMoisture 1 = .ok (.dstore_n 1, 1) := dk_72 (dk_at dksX0_meanMoisture_0 1 rfl rfl)
theorem dX0_meanMoisture_2 : decode cX0_meanMoisture 2 = .ok (.iconst 0, 1) := dk_3 (dk_at dksX0_meanMoisture_0 2 rfl rfl)
theorem dX0_meanMoisture_3 : decode cX0_meanMoisture 3 = .ok (.istore_n 3, 1) := dk_62 (dk_at dksX0_meanMoisture_0 3 rfl rfl)
theorem dX0_meanMoisture_4 : decode cX0_meanMoisture 4 = .ok (.iconst 0, 1) := dk_3 (dk_at dksX0_meanMoisture_0 4 rfl rfl)
theorem dX0_meanMoisture_5 : decode cX0_meanMoisture 5 = .ok (.istore 4, 2) := dk_54 4 (dk_at dksX0_meanMoisture_0 5 rfl rfl)
theorem dX0_meanMoisture_7 : decode cX0_meanMoisture 7 = .ok (.iload 4, 2) := dk_21 4 (dk_at dksX0_meanMoisture_0 7 rfl rfl)
theorem dX0_meanMoisture_9 : decode cX0_meanMoisture 9 = .ok (.aload_n 0, 1) := dk_42 (dk_at dksX0_meanMoisture_0 9 rfl rfl)
theorem dX0_meanMoisture_10 : decode cX0_meanMoisture 10 = .ok (.getfield 16, 3) := dk_180 0 16 (dk_at dksX0_meanMoisture_0 10 rfl rfl)
theorem dX0_meanMoisture_13 : decode cX0_meanMoisture 13 = .ok (.getfield 53, 3) := dk_180 0 53 (dk_at dksX0_meanMoisture_0 13 rfl rfl)
theorem dX0_meanMoisture_16 : decode cX0_meanMoisture 16 = .ok (.invokevirtual 57, 3) := dk_182 0 57 (dk_at dksX0_meanMoisture_0 16 rfl rfl)
theorem dX0_meanMoisture_19 : decode cX0_meanMoisture 19 = .ok (.if_icmp .ge 47, 3) := dk_162 0 47 (dk_at dksX0_meanMoisture_0 19 rfl rfl)
theorem dX0_meanMoisture_22 : decode cX0_meanMoisture 22 = .ok (.aload_n 0, 1) := dk_42 (dk_at dksX0_meanMoisture_0 22 rfl rfl)
theorem dX0_meanMoisture_23 : decode cX0_meanMoisture 23 = .ok (.getfield 16, 3) := dk_180 0 16 (dk_at dksX0_meanMoisture_1 0 rfl rfl)
theorem dX0_meanMoisture_26 : decode cX0_meanMoisture 26 = .ok (.getfield 53, 3) := dk_180 0 53 (dk_at dksX0_meanMoisture_1 3 rfl rfl)
theorem dX0_meanMoisture_29 : decode cX0_meanMoisture 29 = .ok (.iload 4, 2) := dk_21 4 (dk_at dksX0_meanMoisture_1 6 rfl rfl)
theorem dX0_meanMoisture_31 : decode cX0_meanMoisture 31 = .ok (.invokevirtual 136, 3) := dk_182 0 136 (dk_at dksX0_meanMoisture_1 8 rfl rfl)
theorem dX0_meanMoisture_34 : decode cX0_meanMoisture 34 = .ok (.checkcast 140, 3) := dk_192 0 140 (dk_at dksX0_meanMoisture_1 11 rfl rfl)
theorem dX0_meanMoisture_37 : decode cX0_meanMoisture 37 = .ok (.astore 5, 2) := dk_58 5 (dk_at dksX0_meanMoisture_1 14 rfl rfl)
theorem dX0_meanMoisture_39 : decode cX0_meanMoisture 39 = .ok (.aload 5, 2) := dk_25 5 (dk_at dksX0_meanMoisture_1 16 rfl rfl)
theorem dX0_meanMoisture_41 : decode cX0_meanMoisture 41 = .ok (.getfield 142, 3) := dk_180 0 142 (dk_at dksX0_meanMoisture_1 18 rfl rfl)
theorem dX0_meanMoisture_44 : decode cX0_meanMoisture 44 = .ok (.iconst 2, 1) := dk_5 (dk_at dksX0_meanMoisture_1 21 rfl rfl)
theorem dX0_meanMoisture_45 : decode cX0_meanMoisture 45 = .ok (.if_icmp .ne 15, 3) := dk_160 0 15 (dk_at dksX0_meanMoisture_2 0 rfl rfl)
theorem dX0_meanMoisture_48 : decode cX0_meanMoisture 48 = .ok (.dload_n 1, 1) := dk_39 (dk_at dksX0_meanMoisture_2 3 rfl rfl)
theorem dX0_meanMoisture_49 : decode cX0_meanMoisture 49 = .ok (.aload 5, 2) := dk_25 5 (dk_at dksX0_meanMoisture_2 4 rfl rfl)
theorem dX0_meanMoisture_51 : decode cX0_meanMoisture 51 = .ok (.getfield 196, 3) := dk_180 0 196 (dk_at dksX0_meanMoisture_2 6 rfl rfl)
theorem dX0_meanMoisture_54 : decode cX0_meanMoisture 54 = .ok (.f2d, 1) := dk_141 (dk_at dksX0_meanMoisture_2 9 rfl rfl)
theorem dX0_meanMoisture_55 : decode cX0_meanMoisture 55 = .ok (.dadd, 1) := dk_99 (dk_at dksX0_meanMoisture_2 10 rfl rfl)
theorem dX0_meanMoisture_56 : decode cX0_meanMoisture 56 = .ok (.dstore_n 1, 1) := dk_72 (dk_at dksX0_meanMoisture_2 11 rfl rfl)
theorem dX0_meanMoisture_57 : decode cX0_meanMoisture 57 = .ok (.iinc 3 1, 3) := dk_132 3 1 (dk_at dksX0_meanMoisture_2 12 rfl rfl)
theorem dX0_meanMoisture_60 : decode cX0_meanMoisture 60 = .ok (.iinc 4 1, 3) := dk_132 4 1 (dk_at dksX0_meanMoisture_2 15 rfl rfl)
theorem dX0_meanMoisture_63 : decode cX0_meanMoisture 63 = .ok (.goto (-56), 3) := dk_167 255 200 (dk_at dksX0_meanMoisture_2 18 rfl rfl)
theorem dX0_meanMoisture_66 : decode cX0_meanMoisture 66 = .ok (.iload_n 3, 1) := dk_29 (dk_at dksX0_meanMoisture_2 21 rfl rfl)
theorem dX0_meanMoisture_67 : decode cX0_meanMoisture 67 = .ok (.ifCond .ne 7, 3) := dk_154 0 7 (dk_at dksX0_meanMoisture_3 0 rfl rfl)
theorem dX0_meanMoisture_70 : decode cX0_meanMoisture 70 = .ok (.dconst 0, 1) := dk_14 (dk_at dksX0_meanMoisture_3 3 rfl rfl)
theorem dX0_meanMoisture_71 : decode cX0_meanMoisture 71 = .ok (.goto 7, 3) := dk_167 0 7 (dk_at dksX0_meanMoisture_3 4 rfl rfl)
theorem dX0_meanMoisture_74 : decode cX0_meanMoisture 74 = .ok (.dload_n 1, 1) := dk_39 (dk_at dksX0_meanMoisture_3 7 rfl rfl)
theorem dX0_meanMoisture_75 : decode cX0_meanMoisture 75 = .ok (.iload_n 3, 1) := dk_29 (dk_at dksX0_meanMoisture_3 8 rfl rfl)
theorem dX0_meanMoisture_76 : decode cX0_meanMoisture 76 = .ok (.i2d, 1) := dk_135 (dk_at dksX0_meanMoisture_3 9 rfl rfl)
theorem dX0_meanMoisture_77 : decode cX0_meanMoisture 77 = .ok (.ddiv, 1) := dk_111 (dk_at dksX0_meanMoisture_3 10 rfl rfl)
theorem dX0_meanMoisture_78 : decode cX0_meanMoisture 78 = .ok (.dreturn, 1) := dk_175 (dk_at dksX0_meanMoisture_3 11 rfl rfl)
abbrev cX0_wholeShare : ByteArray := prog_1_method_31_code
def yX0_wholeShare : MethodName := ⟨RX0, "wholeShare", "()F"⟩
def dkwX0_wholeShare_3 : List UInt8 := [167, 255, 193, 28, 154, 0, 7, 11, 167, 0, 8, 27, 134, 28, 134, 110, 174]
abbrev dktX0_wholeShare_3 : List UInt8 := dkwX0_wholeShare_3 ++ []
def dkwX0_wholeShare_2 : List UInt8 := [180, 0, 16, 180, 0, 53, 29, 182, 0, 136, 192, 0, 140, 182, 1, 60, 184, 0, 161, 96, 61, 132, 3, 1]
abbrev dktX0_wholeShare_2 : List UInt8 := dkwX0_wholeShare_2 ++ dktX0_wholeShare_3
def dkwX0_wholeShare_1 : List UInt8 := [180, 0, 16, 180, 0, 53, 29, 182, 0, 136, 192, 0, 140, 182, 0, 192, 184, 0, 161, 96, 60, 28, 42]
abbrev dktX0_wholeShare_1 : List UInt8 := dkwX0_wholeShare_1 ++ dktX0_wholeShare_2
def dkwX0_wholeShare_0 : List UInt8 := [3, 60, 3, 61, 3, 62, 29, 42, 180, 0, 16, 180, 0, 53, 182, 0, 57, 162, 0, 55, 27, 42]
abbrev dktX0_wholeShare_0 : List UInt8 := dkwX0_wholeShare_0 ++ dktX0_wholeShare_1
theorem dksX0_wholeShare_0 : cX0_wholeShare.data.toList.drop 0 = dktX0_wholeShare_0 := by decide +kernel
theorem dksX0_wholeShare_1 : cX0_wholeShare.data.toList.drop 22 = dktX0_wholeShare_1 := dk_seg dksX0_wholeShare_0 22 rfl rfl
theorem dksX0_wholeShare_2 : cX0_wholeShare.data.toList.drop 45 = dktX0_wholeShare_2 := dk_seg dksX0_wholeShare_1 23 rfl rfl
theorem dksX0_wholeShare_3 : cX0_wholeShare.data.toList.drop 69 = dktX0_wholeShare_3 := dk_seg dksX0_wholeShare_2 24 rfl rfl
theorem dX0_wholeShare_0 : decode cX0_wholeShare 0 = .ok (.iconst 0, 1) := dk_3 (dk_at dksX0_wholeShare_0 0 rfl rfl)
theorem dX0_wholeShare_1 : decode cX0_wholeShare 1 = .ok (.istore_n 1, 1) := dk_60 (dk_at dksX0_wholeShare_0 1 rfl rfl)
theorem dX0_wholeShare_2 : decode cX0_wholeShare 2 = .ok (.iconst 0, 1) := dk_3 (dk_at dksX0_wholeShare_0 2 rfl rfl)
theorem dX0_wholeShare_3 : decode cX0_wholeShare 3 = .ok (.istore_n 2, 1) := dk_61 (dk_at dksX0_wholeShare_0 3 rfl rfl)
theorem dX0_wholeShare_4 : decode cX0_wholeShare 4 = .ok (.iconst 0, 1) := dk_3 (dk_at dksX0_wholeShare_0 4 rfl rfl)
theorem dX0_wholeShare_5 : decode cX0_wholeShare 5 = .ok (.istore_n 3, 1) := dk_62 (dk_at dksX0_wholeShare_0 5 rfl rfl)
theorem dX0_wholeShare_6 : decode cX0_wholeShare 6 = .ok (.iload_n 3, 1) := dk_29 (dk_at dksX0_wholeShare_0 6 rfl rfl)
theorem dX0_wholeShare_7 : decode cX0_wholeShare 7 = .ok (.aload_n 0, 1) := dk_42 (dk_at dksX0_wholeShare_0 7 rfl rfl)
theorem dX0_wholeShare_8 : decode cX0_wholeShare 8 = .ok (.getfield 16, 3) := dk_180 0 16 (dk_at dksX0_wholeShare_0 8 rfl rfl)
theorem dX0_wholeShare_11 : decode cX0_wholeShare 11 = .ok (.getfield 53, 3) := dk_180 0 53 (dk_at dksX0_wholeShare_0 11 rfl rfl)
theorem dX0_wholeShare_14 : decode cX0_wholeShare 14 = .ok (.invokevirtual 57, 3) := dk_182 0 57 (dk_at dksX0_wholeShare_0 14 rfl rfl)
theorem dX0_wholeShare_17 : decode cX0_wholeShare 17 = .ok (.if_icmp .ge 55, 3) := dk_162 0 55 (dk_at dksX0_wholeShare_0 17 rfl rfl)
theorem dX0_wholeShare_20 : decode cX0_wholeShare 20 = .ok (.iload_n 1, 1) := dk_27 (dk_at dksX0_wholeShare_0 20 rfl rfl)
theorem dX0_wholeShare_21 : decode cX0_wholeShare 21 = .ok (.aload_n 0, 1) := dk_42 (dk_at dksX0_wholeShare_0 21 rfl rfl)
theorem dX0_wholeShare_22 : decode cX0_wholeShare 22 = .ok (.getfield 16, 3) := dk_180 0 16 (dk_at dksX0_wholeShare_1 0 rfl rfl)
theorem dX0_wholeShare_25 : decode cX0_wholeShare 25 = .ok (.getfield 53, 3) := dk_180 0 53 (dk_at dksX0_wholeShare_1 3 rfl rfl)
theorem dX0_wholeShare_28 : decode cX0_wholeShare 28 = .ok (.iload_n 3, 1) := dk_29 (dk_at dksX0_wholeShare_1 6 rfl rfl)
theorem dX0_wholeShare_29 : decode cX0_wholeShare 29 = .ok (.invokevirtual 136, 3) := dk_182 0 136 (dk_at dksX0_wholeShare_1 7 rfl rfl)
theorem dX0_wholeShare_32 : decode cX0_wholeShare 32 = .ok (.checkcast 140, 3) := dk_192 0 140 (dk_at dksX0_wholeShare_1 10 rfl rfl)
theorem dX0_wholeShare_35 : decode cX0_wholeShare 35 = .ok (.invokevirtual 192, 3) := dk_182 0 192 (dk_at dksX0_wholeShare_1 13 rfl rfl)
theorem dX0_wholeShare_38 : decode cX0_wholeShare 38 = .ok (.invokestatic 161, 3) := dk_184 0 161 (dk_at dksX0_wholeShare_1 16 rfl rfl)
theorem dX0_wholeShare_41 : decode cX0_wholeShare 41 = .ok (.iadd, 1) := dk_96 (dk_at dksX0_wholeShare_1 19 rfl rfl)
theorem dX0_wholeShare_42 : decode cX0_wholeShare 42 = .ok (.istore_n 1, 1) := dk_60 (dk_at dksX0_wholeShare_1 20 rfl rfl)
theorem dX0_wholeShare_43 : decode cX0_wholeShare 43 = .ok (.iload_n 2, 1) := dk_28 (dk_at dksX0_wholeShare_1 21 rfl rfl)
theorem dX0_wholeShare_44 : decode cX0_wholeShare 44 = .ok (.aload_n 0, 1) := dk_42 (dk_at dksX0_wholeShare_1 22 rfl rfl)
theorem dX0_wholeShare_45 : decode cX0_wholeShare 45 = .ok (.getfield 16, 3) := dk_180 0 16 (dk_at dksX0_wholeShare_2 0 rfl rfl)
theorem dX0_wholeShare_48 : decode cX0_wholeShare 48 = .ok (.getfield 53, 3) := dk_180 0 53 (dk_at dksX0_wholeShare_2 3 rfl rfl)
theorem dX0_wholeShare_51 : decode cX0_wholeShare 51 = .ok (.iload_n 3, 1) := dk_29 (dk_at dksX0_wholeShare_2 6 rfl rfl)
theorem dX0_wholeShare_52 : decode cX0_wholeShare 52 = .ok (.invokevirtual 136, 3) := dk_182 0 136 (dk_at dksX0_wholeShare_2 7 rfl rfl)
theorem dX0_wholeShare_55 : decode cX0_wholeShare 55 = .ok (.checkcast 140, 3) := dk_192 0 140 (dk_at dksX0_wholeShare_2 10 rfl rfl)
theorem dX0_wholeShare_58 : decode cX0_wholeShare 58 = .ok (.invokevirtual 316, 3) := dk_182 1 60 (dk_at dksX0_wholeShare_2 13 rfl rfl)
theorem dX0_wholeShare_61 : decode cX0_wholeShare 61 = .ok (.invokestatic 161, 3) := dk_184 0 161 (dk_at dksX0_wholeShare_2 16 rfl rfl)
theorem dX0_wholeShare_64 : decode cX0_wholeShare 64 = .ok (.iadd, 1) := dk_96 (dk_at dksX0_wholeShare_2 19 rfl rfl)
theorem dX0_wholeShare_65 : decode cX0_wholeShare 65 = .ok (.istore_n 2, 1) := dk_61 (dk_at dksX0_wholeShare_2 20 rfl rfl)
theorem dX0_wholeShare_66 : decode cX0_wholeShare 66 = .ok (.iinc 3 1, 3) := dk_132 3 1 (dk_at dksX0_wholeShare_2 21 rfl rfl)
theorem dX0_wholeShare_69 : decode cX0_wholeShare 69 = .ok (.goto (-63), 3) := dk_167 255 193 (dk_at dksX0_wholeShare_3 0 rfl rfl)
theorem dX0_wholeShare_72 : decode cX0_wholeShare 72 = .ok (.iload_n 2, 1) := dk_28 (dk_at dksX0_wholeShare_3 3 rfl rfl)
theorem dX0_wholeShare_73 : decode cX0_wholeShare 73 = .ok (.ifCond .ne 7, 3) := dk_154 0 7 (dk_at dksX0_wholeShare_3 4 rfl rfl)
theorem dX0_wholeShare_76 : decode cX0_wholeShare 76 = .ok (.fconst 0, 1) := dk_11 (dk_at dksX0_wholeShare_3 7 rfl rfl)
theorem dX0_wholeShare_77 : decode cX0_wholeShare 77 = .ok (.goto 8, 3) := dk_167 0 8 (dk_at dksX0_wholeShare_3 8 rfl rfl)
theorem dX0_wholeShare_80 : decode cX0_wholeShare 80 = .ok (.iload_n 1, 1) := dk_27 (dk_at dksX0_wholeShare_3 11 rfl rfl)
theorem dX0_wholeShare_81 : decode cX0_wholeShare 81 = .ok (.i2f, 1) := dk_134 (dk_at dksX0_wholeShare_3 12 rfl rfl)
theorem dX0_wholeShare_82 : decode cX0_wholeShare 82 = .ok (.iload_n 2, 1) := dk_28 (dk_at dksX0_wholeShare_3 13 rfl rfl)
theorem dX0_wholeShare_83 : decode cX0_wholeShare 83 = .ok (.i2f, 1) := dk_134 (dk_at dksX0_wholeShare_3 14 rfl rfl)
theorem dX0_wholeShare_84 : decode cX0_wholeShare 84 = .ok (.fdiv, 1) := dk_110 (dk_at dksX0_wholeShare_3 15 rfl rfl)
theorem dX0_wholeShare_85 : decode cX0_wholeShare 85 = .ok (.freturn, 1) := dk_174 (dk_at dksX0_wholeShare_3 16 rfl rfl)
abbrev cX0_account : ByteArray := prog_1_method_34_code
def yX0_account : MethodName := ⟨RX0, "account", "(I)I"⟩
def dkwX0_account_6 : List UInt8 := [180, 0, 25, 182, 0, 45, 172, 16, 254, 172]
abbrev dktX0_account_6 : List UInt8 := dkwX0_account_6 ++ []
def dkwX0_account_5 : List UInt8 := [172, 42, 180, 0, 16, 180, 1, 77, 172, 42, 180, 0, 16, 182, 1, 80, 172, 42, 180, 1, 83, 172, 42]
abbrev dktX0_account_5 : List UInt8 := dkwX0_account_5 ++ dktX0_account_6
def dkwX0_account_4 : List UInt8 := [182, 0, 57, 172, 42, 182, 1, 71, 172, 42, 180, 0, 16, 180, 0, 229, 182, 0, 57, 172, 42, 182, 1, 74]
abbrev dktX0_account_4 : List UInt8 := dkwX0_account_4 ++ dktX0_account_5
def dkwX0_account_3 : List UInt8 := [42, 180, 0, 16, 180, 0, 251, 172, 42, 180, 0, 16, 180, 1, 68, 190, 172, 42, 180, 0, 16, 180, 0, 53]
abbrev dktX0_account_3 : List UInt8 := dkwX0_account_3 ++ dktX0_account_4
def dkwX0_account_2 : List UInt8 := [170, 0, 0, 0, 0, 164, 0, 0, 0, 0, 0, 0, 0, 17, 0, 0, 0, 86, 0, 0, 0, 94, 0, 0, 0, 103, 0, 0, 0, 164, 0, 0, 0, 164, 0, 0, 0, 164, 0, 0, 0, 164, 0, 0, 0, 164, 0, 0, 0, 164, 0, 0, 0, 164, 0, 0, 0, 164, 0, 0, 0, 114, 0, 0, 0, 119, 0, 0, 0, 130, 0, 0, 0, 135, 0, 0, 0, 143, 0, 0, 0, 151, 0, 0, 0, 156]
abbrev dktX0_account_2 : List UInt8 := dkwX0_account_2 ++ dktX0_account_3
def dkwX0_account_1 : List UInt8 := [16, 23, 184, 0, 63, 153, 0, 16, 42, 180, 0, 16, 180, 1, 65, 27, 16, 18, 100, 46, 172, 27]
abbrev dktX0_account_1 : List UInt8 := dkwX0_account_1 ++ dktX0_account_2
def dkwX0_account_0 : List UInt8 := [27, 6, 16, 10, 184, 0, 63, 153, 0, 14, 42, 180, 0, 16, 27, 6, 100, 182, 1, 63, 172, 27, 16, 18]
abbrev dktX0_account_0 : List UInt8 := dkwX0_account_0 ++ dktX0_account_1
theorem dksX0_account_0 : cX0_account.data.toList.drop 0 = dktX0_account_0 := by decide +kernel
theorem dksX0_account_1 : cX0_account.data.toList.drop 24 = dktX0_account_1 := dk_seg dksX0_account_0 24 rfl rfl
theorem dksX0_account_2 : cX0_account.data.toList.drop 46 = dktX0_account_2 := dk_seg dksX0_account_1 22 rfl rfl
theorem dksX0_account_3 : cX0_account.data.toList.drop 132 = dktX0_account_3 := dk_seg dksX0_account_2 86 rfl rfl
theorem dksX0_account_4 : cX0_account.data.toList.drop 156 = dktX0_account_4 := dk_seg dksX0_account_3 24 rfl rfl
theorem dksX0_account_5 : cX0_account.data.toList.drop 180 = dktX0_account_5 := dk_seg dksX0_account_4 24 rfl rfl
theorem dksX0_account_6 : cX0_account.data.toList.drop 203 = dktX0_account_6 := dk_seg dksX0_account_5 23 rfl rfl
theorem dX0_account_0 : decode cX0_account 0 = .ok (.iload_n 1, 1) := dk_27 (dk_at dksX0_account_0 0 rfl rfl)
theorem dX0_account_1 : decode cX0_account 1 = .ok (.iconst 3, 1) := dk_6 (dk_at dksX0_account_0 1 rfl rfl)
theorem dX0_account_2 : decode cX0_account 2 = .ok (.bipush 10, 2) := dk_16 10 (dk_at dksX0_account_0 2 rfl rfl)
theorem dX0_account_4 : decode cX0_account 4 = .ok (.invokestatic 63, 3) := dk_184 0 63 (dk_at dksX0_account_0 4 rfl rfl)
theorem dX0_account_7 : decode cX0_account 7 = .ok (.ifCond .eq 14, 3) := dk_153 0 14 (dk_at dksX0_account_0 7 rfl rfl)
theorem dX0_account_10 : decode cX0_account 10 = .ok (.aload_n 0, 1) := dk_42 (dk_at dksX0_account_0 10 rfl rfl)
theorem dX0_account_11 : decode cX0_account 11 = .ok (.getfield 16, 3) := dk_180 0 16 (dk_at dksX0_account_0 11 rfl rfl)
theorem dX0_account_14 : decode cX0_account 14 = .ok (.iload_n 1, 1) := dk_27 (dk_at dksX0_account_0 14 rfl rfl)
theorem dX0_account_15 : decode cX0_account 15 = .ok (.iconst 3, 1) := dk_6 (dk_at dksX0_account_0 15 rfl rfl)
theorem dX0_account_16 : decode cX0_account 16 = .ok (.isub, 1) := dk_100 (dk_at dksX0_account_0 16 rfl rfl)
theorem dX0_account_17 : decode cX0_account 17 = .ok (.invokevirtual 319, 3) := dk_182 1 63 (dk_at dksX0_account_0 17 rfl rfl)
theorem dX0_account_20 : decode cX0_account 20 = .ok (.ireturn, 1) := dk_172 (dk_at dksX0_account_0 20 rfl rfl)
theorem dX0_account_21 : decode cX0_account 21 = .ok (.iload_n 1, 1) := dk_27 (dk_at dksX0_account_0 21 rfl rfl)
theorem dX0_account_22 : decode cX0_account 22 = .ok (.bipush 18, 2) := dk_16 18 (dk_at dksX0_account_0 22 rfl rfl)
theorem dX0_account_24 : decode cX0_account 24 = .ok (.bipush 23, 2) := dk_16 23 (dk_at dksX0_account_1 0 rfl rfl)
theorem dX0_account_26 : decode cX0_account 26 = .ok (.invokestatic 63, 3) := dk_184 0 63 (dk_at dksX0_account_1 2 rfl rfl)
theorem dX0_account_29 : decode cX0_account 29 = .ok (.ifCond .eq 16, 3) := dk_153 0 16 (dk_at dksX0_account_1 5 rfl rfl)
theorem dX0_account_32 : decode cX0_account 32 = .ok (.aload_n 0, 1) := dk_42 (dk_at dksX0_account_1 8 rfl rfl)
theorem dX0_account_33 : decode cX0_account 33 = .ok (.getfield 16, 3) := dk_180 0 16 (dk_at dksX0_account_1 9 rfl rfl)
theorem dX0_account_36 : decode cX0_account 36 = .ok (.getfield 321, 3) := dk_180 1 65 (dk_at dksX0_account_1 12 rfl rfl)
theorem dX0_account_39 : decode cX0_account 39 = .ok (.iload_n 1, 1) := dk_27 (dk_at dksX0_account_1 15 rfl rfl)
theorem dX0_account_40 : decode cX0_account 40 = .ok (.bipush 18, 2) := dk_16 18 (dk_at dksX0_account_1 16 rfl rfl)
theorem dX0_account_42 : decode cX0_account 42 = .ok (.isub, 1) := dk_100 (dk_at dksX0_account_1 18 rfl rfl)
theorem dX0_account_43 : decode cX0_account 43 = .ok (.iaload, 1) := dk_46 (dk_at dksX0_account_1 19 rfl rfl)
theorem dX0_account_44 : decode cX0_account 44 = .ok (.ireturn, 1) := dk_172 (dk_at dksX0_account_1 20 rfl rfl)
theorem dX0_account_45 : decode cX0_account 45 = .ok (.iload_n 1, 1) := dk_27 (dk_at dksX0_account_1 21 rfl rfl)
theorem dX0_account_46 : decode cX0_account 46 = .ok (.tableswitch 164 0 17 #[86, 94, 103, 164, 164, 164, 164, 164, 164, 164, 164, 114, 119, 130, 135, 143, 151, 156], 86) := by decide +kernel
theorem dX0_account_132 : decode cX0_account 132 = .ok (.aload_n 0, 1) := dk_42 (dk_at dksX0_account_3 0 rfl rfl)
theorem dX0_account_133 : decode cX0_account 133 = .ok (.getfield 16, 3) := dk_180 0 16 (dk_at dksX0_account_3 1 rfl rfl)
theorem dX0_account_136 : decode cX0_account 136 = .ok (.getfield 251, 3) := dk_180 0 251 (dk_at dksX0_account_3 4 rfl rfl)
theorem dX0_account_139 : decode cX0_account 139 = .ok (.ireturn, 1) := dk_172 (dk_at dksX0_account_3 7 rfl rfl)
theorem dX0_account_140 : decode cX0_account 140 = .ok (.aload_n 0, 1) := dk_42 (dk_at dksX0_account_3 8 rfl rfl)
theorem dX0_account_141 : decode cX0_account 141 = .ok (.getfield 16, 3) := dk_180 0 16 (dk_at dksX0_account_3 9 rfl rfl)
theorem dX0_account_144 : decode cX0_account 144 = .ok (.getfield 324, 3) := dk_180 1 68 (dk_at dksX0_account_3 12 rfl rfl)
theorem dX0_account_147 : decode cX0_account 147 = .ok (.arraylength, 1) := dk_190 (dk_at dksX0_account_3 15 rfl rfl)
theorem dX0_account_148 : decode cX0_account 148 = .ok (.ireturn, 1) := dk_172 (dk_at dksX0_account_3 16 rfl rfl)
theorem dX0_account_149 : decode cX0_account 149 = .ok (.aload_n 0, 1) := dk_42 (dk_at dksX0_account_3 17 rfl rfl)
theorem dX0_account_150 : decode cX0_account 150 = .ok (.getfield 16, 3) := dk_180 0 16 (dk_at dksX0_account_3 18 rfl rfl)
theorem dX0_account_153 : decode cX0_account 153 = .ok (.getfield 53, 3) := dk_180 0 53 (dk_at dksX0_account_3 21 rfl rfl)
theorem dX0_account_156 : decode cX0_account 156 = .ok (.invokevirtual 57, 3) := dk_182 0 57 (dk_at dksX0_account_4 0 rfl rfl)
theorem dX0_account_159 : decode cX0_account 159 = .ok (.ireturn, 1) := dk_172 (dk_at dksX0_account_4 3 rfl rfl)
theorem dX0_account_160 : decode cX0_account 160 = .ok (.aload_n 0, 1) := dk_42 (dk_at dksX0_account_4 4 rfl rfl)
theorem dX0_account_161 : decode cX0_account 161 = .ok (.invokevirtual 327, 3) := dk_182 1 71 (dk_at dksX0_account_4 5 rfl rfl)
theorem dX0_account_164 : decode cX0_account 164 = .ok (.ireturn, 1) := dk_172 (dk_at dksX0_account_4 8 rfl rfl)
theorem dX0_account_165 : decode cX0_account 165 = .ok (.aload_n 0, 1) := dk_42 (dk_at dksX0_account_4 9 rfl rfl)
theorem dX0_account_166 : decode cX0_account 166 = .ok (.getfield 16, 3) := dk_180 0 16 (dk_at dksX0_account_4 10 rfl rfl)
theorem dX0_account_169 : decode cX0_account 169 = .ok (.getfield 229, 3) := dk_180 0 229 (dk_at dksX0_account_4 13 rfl rfl)
theorem dX0_account_172 : decode cX0_account 172 = .ok (.invokevirtual 57, 3) := dk_182 0 57 (dk_at dksX0_account_4 16 rfl rfl)
theorem dX0_account_175 : decode cX0_account 175 = .ok (.ireturn, 1) := dk_172 (dk_at dksX0_account_4 19 rfl rfl)
theorem dX0_account_176 : decode cX0_account 176 = .ok (.aload_n 0, 1) := dk_42 (dk_at dksX0_account_4 20 rfl rfl)
theorem dX0_account_177 : decode cX0_account 177 = .ok (.invokevirtual 330, 3) := dk_182 1 74 (dk_at dksX0_account_4 21 rfl rfl)
theorem dX0_account_180 : decode cX0_account 180 = .ok (.ireturn, 1) := dk_172 (dk_at dksX0_account_5 0 rfl rfl)
theorem dX0_account_181 : decode cX0_account 181 = .ok (.aload_n 0, 1) := dk_42 (dk_at dksX0_account_5 1 rfl rfl)
theorem dX0_account_182 : decode cX0_account 182 = .ok (.getfield 16, 3) := dk_180 0 16 (dk_at dksX0_account_5 2 rfl rfl)
theorem dX0_account_185 : decode cX0_account 185 = .ok (.getfield 333, 3) := dk_180 1 77 (dk_at dksX0_account_5 5 rfl rfl)
theorem dX0_account_188 : decode cX0_account 188 = .ok (.ireturn, 1) := dk_172 (dk_at dksX0_account_5 8 rfl rfl)
theorem dX0_account_189 : decode cX0_account 189 = .ok (.aload_n 0, 1) := dk_42 (dk_at dksX0_account_5 9 rfl rfl)
theorem dX0_account_190 : decode cX0_account 190 = .ok (.getfield 16, 3) := dk_180 0 16 (dk_at dksX0_account_5 10 rfl rfl)
theorem dX0_account_193 : decode cX0_account 193 = .ok (.invokevirtual 336, 3) := dk_182 1 80 (dk_at dksX0_account_5 13 rfl rfl)
theorem dX0_account_196 : decode cX0_account 196 = .ok (.ireturn, 1) := dk_172 (dk_at dksX0_account_5 16 rfl rfl)
theorem dX0_account_197 : decode cX0_account 197 = .ok (.aload_n 0, 1) := dk_42 (dk_at dksX0_account_5 17 rfl rfl)
theorem dX0_account_198 : decode cX0_account 198 = .ok (.getfield 339, 3) := dk_180 1 83 (dk_at dksX0_account_5 18 rfl rfl)
theorem dX0_account_201 : decode cX0_account 201 = .ok (.ireturn, 1) := dk_172 (dk_at dksX0_account_5 21 rfl rfl)
theorem dX0_account_202 : decode cX0_account 202 = .ok (.aload_n 0, 1) := dk_42 (dk_at dksX0_account_5 22 rfl rfl)
theorem dX0_account_203 : decode cX0_account 203 = .ok (.getfield 25, 3) := dk_180 0 25 (dk_at dksX0_account_6 0 rfl rfl)
theorem dX0_account_206 : decode cX0_account 206 = .ok (.invokevirtual 45, 3) := dk_182 0 45 (dk_at dksX0_account_6 3 rfl rfl)
theorem dX0_account_209 : decode cX0_account 209 = .ok (.ireturn, 1) := dk_172 (dk_at dksX0_account_6 6 rfl rfl)
theorem dX0_account_210 : decode cX0_account 210 = .ok (.bipush (-2), 2) := dk_16 254 (dk_at dksX0_account_6 7 rfl rfl)
theorem dX0_account_212 : decode cX0_account 212 = .ok (.ireturn, 1) := dk_172 (dk_at dksX0_account_6 9 rfl rfl)
abbrev cX0_allCracks : ByteArray := prog_1_method_32_code
def yX0_allCracks : MethodName := ⟨RX0, "allCracks", "()I"⟩
def dkwX0_allCracks_1 : List UInt8 := [180, 0, 53, 28, 182, 0, 136, 192, 0, 140, 180, 0, 154, 96, 60, 132, 2, 1, 167, 255, 219, 27, 172]
abbrev dktX0_allCracks_1 : List UInt8 := dkwX0_allCracks_1 ++ []
def dkwX0_allCracks_0 : List UInt8 := [3, 60, 3, 61, 28, 42, 180, 0, 16, 180, 0, 53, 182, 0, 57, 162, 0, 29, 27, 42, 180, 0, 16]
abbrev dktX0_allCracks_0 : List UInt8 := dkwX0_allCracks_0 ++ dktX0_allCracks_1
theorem dksX0_allCracks_0 : cX0_allCracks.data.toList.drop 0 = dktX0_allCracks_0 := by decide +kernel
theorem dksX0_allCracks_1 : cX0_allCracks.data.toList.drop 23 = dktX0_allCracks_1 := dk_seg dksX0_allCracks_0 23 rfl rfl
theorem dX0_allCracks_0 : decode cX0_allCracks 0 = .ok (.iconst 0, 1) := dk_3 (dk_at dksX0_allCracks_0 0 rfl rfl)
theorem dX0_allCracks_1 : decode cX0_allCracks 1 = .ok (.istore_n 1, 1) := dk_60 (dk_at dksX0_allCracks_0 1 rfl rfl)
theorem dX0_allCracks_2 : decode cX0_allCracks 2 = .ok (.iconst 0, 1) := dk_3 (dk_at dksX0_allCracks_0 2 rfl rfl)
theorem dX0_allCracks_3 : decode cX0_allCracks 3 = .ok (.istore_n 2, 1) := dk_61 (dk_at dksX0_allCracks_0 3 rfl rfl)
theorem dX0_allCracks_4 : decode cX0_allCracks 4 = .ok (.iload_n 2, 1) := dk_28 (dk_at dksX0_allCracks_0 4 rfl rfl)
theorem dX0_allCracks_5 : decode cX0_allCracks 5 = .ok (.aload_n 0, 1) := dk_42 (dk_at dksX0_allCracks_0 5 rfl rfl)
theorem dX0_allCracks_6 : decode cX0_allCracks 6 = .ok (.getfield 16, 3) := dk_180 0 16 (dk_at dksX0_allCracks_0 6 rfl rfl)
theorem dX0_allCracks_9 : decode cX0_allCracks 9 = .ok (.getfield 53, 3) := dk_180 0 53 (dk_at dksX0_allCracks_0 9 rfl rfl)
theorem dX0_allCracks_12 : decode cX0_allCracks 12 = .ok (.invokevirtual 57, 3) := dk_182 0 57 (dk_at dksX0_allCracks_0 12 rfl rfl)
theorem dX0_allCracks_15 : decode cX0_allCracks 15 = .ok (.if_icmp .ge 29, 3) := dk_162 0 29 (dk_at dksX0_allCracks_0 15 rfl rfl)
theorem dX0_allCracks_18 : decode cX0_allCracks 18 = .ok (.iload_n 1, 1) := dk_27 (dk_at dksX0_allCracks_0 18 rfl rfl)
theorem dX0_allCracks_19 : decode cX0_allCracks 19 = .ok (.aload_n 0, 1) := dk_42 (dk_at dksX0_allCracks_0 19 rfl rfl)
theorem dX0_allCracks_20 : decode cX0_allCracks 20 = .ok (.getfield 16, 3) := dk_180 0 16 (dk_at dksX0_allCracks_0 20 rfl rfl)
theorem dX0_allCracks_23 : decode cX0_allCracks 23 = .ok (.getfield 53, 3) := dk_180 0 53 (dk_at dksX0_allCracks_1 0 rfl rfl)
theorem dX0_allCracks_26 : decode cX0_allCracks 26 = .ok (.iload_n 2, 1) := dk_28 (dk_at dksX0_allCracks_1 3 rfl rfl)
theorem dX0_allCracks_27 : decode cX0_allCracks 27 = .ok (.invokevirtual 136, 3) := dk_182 0 136 (dk_at dksX0_allCracks_1 4 rfl rfl)
theorem dX0_allCracks_30 : decode cX0_allCracks 30 = .ok (.checkcast 140, 3) := dk_192 0 140 (dk_at dksX0_allCracks_1 7 rfl rfl)
theorem dX0_allCracks_33 : decode cX0_allCracks 33 = .ok (.getfield 154, 3) := dk_180 0 154 (dk_at dksX0_allCracks_1 10 rfl rfl)
theorem dX0_allCracks_36 : decode cX0_allCracks 36 = .ok (.iadd, 1) := dk_96 (dk_at dksX0_allCracks_1 13 rfl rfl)
theorem dX0_allCracks_37 : decode cX0_allCracks 37 = .ok (.istore_n 1, 1) := dk_60 (dk_at dksX0_allCracks_1 14 rfl rfl)
theorem dX0_allCracks_38 : decode cX0_allCracks 38 = .ok (.iinc 2 1, 3) := dk_132 2 1 (dk_at dksX0_allCracks_1 15 rfl rfl)
theorem dX0_allCracks_41 : decode cX0_allCracks 41 = .ok (.goto (-37), 3) := dk_167 255 219 (dk_at dksX0_allCracks_1 18 rfl rfl)
theorem dX0_allCracks_44 : decode cX0_allCracks 44 = .ok (.iload_n 1, 1) := dk_27 (dk_at dksX0_allCracks_1 21 rfl rfl)
theorem dX0_allCracks_45 : decode cX0_allCracks 45 = .ok (.ireturn, 1) := dk_172 (dk_at dksX0_allCracks_1 22 rfl rfl)
abbrev cX0_openOrders : ByteArray := prog_1_method_33_code
def yX0_openOrders : MethodName := ⟨RX0, "openOrders", "()I"⟩
def dkwX0_openOrders_2 : List UInt8 := [60, 132, 2, 1, 167, 255, 209, 27, 172]
abbrev dktX0_openOrders_2 : List UInt8 := dkwX0_openOrders_2 ++ []
def dkwX0_openOrders_1 : List UInt8 := [180, 0, 229, 28, 182, 0, 136, 192, 0, 232, 42, 180, 0, 16, 180, 0, 251, 182, 0, 254, 184, 0, 161, 96]
abbrev dktX0_openOrders_1 : List UInt8 := dkwX0_openOrders_1 ++ dktX0_openOrders_2
def dkwX0_openOrders_0 : List UInt8 := [3, 60, 3, 61, 28, 42, 180, 0, 16, 180, 0, 229, 182, 0, 57, 162, 0, 39, 27, 42, 180, 0, 16]
abbrev dktX0_openOrders_0 : List UInt8 := dkwX0_openOrders_0 ++ dktX0_openOrders_1
theorem dksX0_openOrders_0 : cX0_openOrders.data.toList.drop 0 = dktX0_openOrders_0 := by decide +kernel
theorem dksX0_openOrders_1 : cX0_openOrders.data.toList.drop 23 = dktX0_openOrders_1 := dk_seg dksX0_openOrders_0 23 rfl rfl
theorem dksX0_openOrders_2 : cX0_openOrders.data.toList.drop 47 = dktX0_openOrders_2 := dk_seg dksX0_openOrders_1 24 rfl rfl
theorem dX0_openOrders_0 : decode cX0_openOrders 0 = .ok (.iconst 0, 1) := dk_3 (dk_at dksX0_openOrders_0 0 rfl rfl)
theorem dX0_openOrders_1 : decode cX0_openOrders 1 = .ok (.istore_n 1, 1) := dk_60 (dk_at dksX0_openOrders_0 1 rfl rfl)
theorem dX0_openOrders_2 : decode cX0_openOrders 2 = .ok (.iconst 0, 1) := dk_3 (dk_at dksX0_openOrders_0 2 rfl rfl)
theorem dX0_openOrders_3 : decode cX0_openOrders 3 = .ok (.istore_n 2, 1) := dk_61 (dk_at dksX0_openOrders_0 3 rfl rfl)
theorem dX0_openOrders_4 : decode cX0_openOrders 4 = .ok (.iload_n 2, 1) := dk_28 (dk_at dksX0_openOrders_0 4 rfl rfl)
theorem dX0_openOrders_5 : decode cX0_openOrders 5 = .ok (.aload_n 0, 1) := dk_42 (dk_at dksX0_openOrders_0 5 rfl rfl)
theorem dX0_openOrders_6 : decode cX0_openOrders 6 = .ok (.getfield 16, 3) := dk_180 0 16 (dk_at dksX0_openOrders_0 6 rfl rfl)
theorem dX0_openOrders_9 : decode cX0_openOrders 9 = .ok (.getfield 229, 3) := dk_180 0 229 (dk_at dksX0_openOrders_0 9 rfl rfl)
theorem dX0_openOrders_12 : decode cX0_openOrders 12 = .ok (.invokevirtual 57, 3) := dk_182 0 57 (dk_at dksX0_openOrders_0 12 rfl rfl)
theorem dX0_openOrders_15 : decode cX0_openOrders 15 = .ok (.if_icmp .ge 39, 3) := dk_162 0 39 (dk_at dksX0_openOrders_0 15 rfl rfl)
theorem dX0_openOrders_18 : decode cX0_openOrders 18 = .ok (.iload_n 1, 1) := dk_27 (dk_at dksX0_openOrders_0 18 rfl rfl)
theorem dX0_openOrders_19 : decode cX0_openOrders 19 = .ok (.aload_n 0, 1) := dk_42 (dk_at dksX0_openOrders_0 19 rfl rfl)
theorem dX0_openOrders_20 : decode cX0_openOrders 20 = .ok (.getfield 16, 3) := dk_180 0 16 (dk_at dksX0_openOrders_0 20 rfl rfl)
theorem dX0_openOrders_23 : decode cX0_openOrders 23 = .ok (.getfield 229, 3) := dk_180 0 229 (dk_at dksX0_openOrders_1 0 rfl rfl)
theorem dX0_openOrders_26 : decode cX0_openOrders 26 = .ok (.iload_n 2, 1) := dk_28 (dk_at dksX0_openOrders_1 3 rfl rfl)
theorem dX0_openOrders_27 : decode cX0_openOrders 27 = .ok (.invokevirtual 136, 3) := dk_182 0 136 (dk_at dksX0_openOrders_1 4 rfl rfl)
theorem dX0_openOrders_30 : decode cX0_openOrders 30 = .ok (.checkcast 232, 3) := dk_192 0 232 (dk_at dksX0_openOrders_1 7 rfl rfl)
theorem dX0_openOrders_33 : decode cX0_openOrders 33 = .ok (.aload_n 0, 1) := dk_42 (dk_at dksX0_openOrders_1 10 rfl rfl)
theorem dX0_openOrders_34 : decode cX0_openOrders 34 = .ok (.getfield 16, 3) := dk_180 0 16 (dk_at dksX0_openOrders_1 11 rfl rfl)
theorem dX0_openOrders_37 : decode cX0_openOrders 37 = .ok (.getfield 251, 3) := dk_180 0 251 (dk_at dksX0_openOrders_1 14 rfl rfl)
theorem dX0_openOrders_40 : decode cX0_openOrders 40 = .ok (.invokevirtual 254, 3) := dk_182 0 254 (dk_at dksX0_openOrders_1 17 rfl rfl)
theorem dX0_openOrders_43 : decode cX0_openOrders 43 = .ok (.invokestatic 161, 3) := dk_184 0 161 (dk_at dksX0_openOrders_1 20 rfl rfl)
theorem dX0_openOrders_46 : decode cX0_openOrders 46 = .ok (.iadd, 1) := dk_96 (dk_at dksX0_openOrders_1 23 rfl rfl)
theorem dX0_openOrders_47 : decode cX0_openOrders 47 = .ok (.istore_n 1, 1) := dk_60 (dk_at dksX0_openOrders_2 0 rfl rfl)
theorem dX0_openOrders_48 : decode cX0_openOrders 48 = .ok (.iinc 2 1, 3) := dk_132 2 1 (dk_at dksX0_openOrders_2 1 rfl rfl)
theorem dX0_openOrders_51 : decode cX0_openOrders 51 = .ok (.goto (-47), 3) := dk_167 255 209 (dk_at dksX0_openOrders_2 4 rfl rfl)
theorem dX0_openOrders_54 : decode cX0_openOrders 54 = .ok (.iload_n 1, 1) := dk_27 (dk_at dksX0_openOrders_2 7 rfl rfl)
theorem dX0_openOrders_55 : decode cX0_openOrders 55 = .ok (.ireturn, 1) := dk_172 (dk_at dksX0_openOrders_2 8 rfl rfl)
abbrev cX0_append : ByteArray := prog_1_method_35_code
def yX0_append : MethodName := ⟨RX0, "append", "(C)I"⟩
def dkwX0_append_2 : List UInt8 := [180, 1, 83, 172]
abbrev dktX0_append_2 : List UInt8 := dkwX0_append_2 ++ []
def dkwX0_append_1 : List UInt8 := [16, 252, 172, 42, 180, 0, 29, 42, 180, 1, 83, 27, 85, 42, 89, 180, 1, 83, 4, 96, 181, 1, 83, 42]
abbrev dktX0_append_1 : List UInt8 := dkwX0_append_1 ++ dktX0_append_2
def dkwX0_append_0 : List UInt8 := [27, 16, 32, 16, 126, 184, 0, 63, 154, 0, 6, 16, 254, 172, 42, 180, 1, 83, 16, 60, 160, 0, 6]
abbrev dktX0_append_0 : List UInt8 := dkwX0_append_0 ++ dktX0_append_1
theorem dksX0_append_0 : cX0_append.data.toList.drop 0 = dktX0_append_0 := by decide +kernel
theorem dksX0_append_1 : cX0_append.data.toList.drop 23 = dktX0_append_1 := dk_seg dksX0_append_0 23 rfl rfl
theorem dksX0_append_2 : cX0_append.data.toList.drop 47 = dktX0_append_2 := dk_seg dksX0_append_1 24 rfl rfl
theorem dX0_append_0 : decode cX0_append 0 = .ok (.iload_n 1, 1) := dk_27 (dk_at dksX0_append_0 0 rfl rfl)
theorem dX0_append_1 : decode cX0_append 1 = .ok (.bipush 32, 2) := dk_16 32 (dk_at dksX0_append_0 1 rfl rfl)
theorem dX0_append_3 : decode cX0_append 3 = .ok (.bipush 126, 2) := dk_16 126 (dk_at dksX0_append_0 3 rfl rfl)
theorem dX0_append_5 : decode cX0_append 5 = .ok (.invokestatic 63, 3) := dk_184 0 63 (dk_at dksX0_append_0 5 rfl rfl)
theorem dX0_append_8 : decode cX0_append 8 = .ok (.ifCond .ne 6, 3) := dk_154 0 6 (dk_at dksX0_append_0 8 rfl rfl)
theorem dX0_append_11 : decode cX0_append 11 = .ok (.bipush (-2), 2) := dk_16 254 (dk_at dksX0_append_0 11 rfl rfl)
theorem dX0_append_13 : decode cX0_append 13 = .ok (.ireturn, 1) := dk_172 (dk_at dksX0_append_0 13 rfl rfl)
theorem dX0_append_14 : decode cX0_append 14 = .ok (.aload_n 0, 1) := dk_42 (dk_at dksX0_append_0 14 rfl rfl)
theorem dX0_append_15 : decode cX0_append 15 = .ok (.getfield 339, 3) := dk_180 1 83 (dk_at dksX0_append_0 15 rfl rfl)
theorem dX0_append_18 : decode cX0_append 18 = .ok (.bipush 60, 2) := dk_16 60 (dk_at dksX0_append_0 18 rfl rfl)
theorem dX0_append_20 : decode cX0_append 20 = .ok (.if_icmp .ne 6, 3) := dk_160 0 6 (dk_at dksX0_append_0 20 rfl rfl)
theorem dX0_append_23 : decode cX0_append 23 = .ok (.bipush (-4), 2) := dk_16 252 (dk_at dksX0_append_1 0 rfl rfl)
theorem dX0_append_25 : decode cX0_append 25 = .ok (.ireturn, 1) := dk_172 (dk_at dksX0_append_1 2 rfl rfl)
theorem dX0_append_26 : decode cX0_append 26 = .ok (.aload_n 0, 1) := dk_42 (dk_at dksX0_append_1 3 rfl rfl)
theorem dX0_append_27 : decode cX0_append 27 = .ok (.getfield 29, 3) := dk_180 0 29 (dk_at dksX0_append_1 4 rfl rfl)
theorem dX0_append_30 : decode cX0_append 30 = .ok (.aload_n 0, 1) := dk_42 (dk_at dksX0_append_1 7 rfl rfl)
theorem dX0_append_31 : decode cX0_append 31 = .ok (.getfield 339, 3) := dk_180 1 83 (dk_at dksX0_append_1 8 rfl rfl)
theorem dX0_append_34 : decode cX0_append 34 = .ok (.iload_n 1, 1) := dk_27 (dk_at dksX0_append_1 11 rfl rfl)
theorem dX0_append_35 : decode cX0_append 35 = .ok (.castore, 1) := dk_85 (dk_at dksX0_append_1 12 rfl rfl)
theorem dX0_append_36 : decode cX0_append 36 = .ok (.aload_n 0, 1) := dk_42 (dk_at dksX0_append_1 13 rfl rfl)
theorem dX0_append_37 : decode cX0_append 37 = .ok (.dup, 1) := dk_89 (dk_at dksX0_append_1 14 rfl rfl)
theorem dX0_append_38 : decode cX0_append 38 = .ok (.getfield 339, 3) := dk_180 1 83 (dk_at dksX0_append_1 15 rfl rfl)
theorem dX0_append_41 : decode cX0_append 41 = .ok (.iconst 1, 1) := dk_4 (dk_at dksX0_append_1 18 rfl rfl)
theorem dX0_append_42 : decode cX0_append 42 = .ok (.iadd, 1) := dk_96 (dk_at dksX0_append_1 19 rfl rfl)
theorem dX0_append_43 : decode cX0_append 43 = .ok (.putfield 339, 3) := dk_181 1 83 (dk_at dksX0_append_1 20 rfl rfl)
theorem dX0_append_46 : decode cX0_append 46 = .ok (.aload_n 0, 1) := dk_42 (dk_at dksX0_append_1 23 rfl rfl)
theorem dX0_append_47 : decode cX0_append 47 = .ok (.getfield 339, 3) := dk_180 1 83 (dk_at dksX0_append_2 0 rfl rfl)
theorem dX0_append_50 : decode cX0_append 50 = .ok (.ireturn, 1) := dk_172 (dk_at dksX0_append_2 3 rfl rfl)
abbrev cX0_read : ByteArray := prog_1_method_41_code
def yX0_read : MethodName := ⟨RX0, "read", "()I"⟩
def dkwX0_read_2 : List UInt8 := [181, 1, 83, 28, 172, 78, 42, 3, 181, 1, 83, 45, 191]
abbrev dktX0_read_2 : List UInt8 := dkwX0_read_2 ++ []
def dkwX0_read_1 : List UInt8 := [61, 42, 3, 181, 1, 83, 28, 172, 76, 42, 43, 180, 1, 173, 181, 0, 33, 16, 254, 61, 42, 3]
abbrev dktX0_read_1 : List UInt8 := dkwX0_read_1 ++ dktX0_read_2
def dkwX0_read_0 : List UInt8 := [187, 1, 158, 89, 42, 183, 1, 160, 182, 1, 161, 76, 187, 1, 165, 89, 42, 43, 183, 1, 167, 182, 1, 170]
abbrev dktX0_read_0 : List UInt8 := dkwX0_read_0 ++ dktX0_read_1
theorem dksX0_read_0 : cX0_read.data.toList.drop 0 = dktX0_read_0 := by decide +kernel
theorem dksX0_read_1 : cX0_read.data.toList.drop 24 = dktX0_read_1 := dk_seg dksX0_read_0 24 rfl rfl
theorem dksX0_read_2 : cX0_read.data.toList.drop 46 = dktX0_read_2 := dk_seg dksX0_read_1 22 rfl rfl
theorem dX0_read_0 : decode cX0_read 0 = .ok (.new 414, 3) := dk_187 1 158 (dk_at dksX0_read_0 0 rfl rfl)
theorem dX0_read_3 : decode cX0_read 3 = .ok (.dup, 1) := dk_89 (dk_at dksX0_read_0 3 rfl rfl)
theorem dX0_read_4 : decode cX0_read 4 = .ok (.aload_n 0, 1) := dk_42 (dk_at dksX0_read_0 4 rfl rfl)
theorem dX0_read_5 : decode cX0_read 5 = .ok (.invokespecial 416, 3) := dk_183 1 160 (dk_at dksX0_read_0 5 rfl rfl)
theorem dX0_read_8 : decode cX0_read 8 = .ok (.invokevirtual 417, 3) := dk_182 1 161 (dk_at dksX0_read_0 8 rfl rfl)
theorem dX0_read_11 : decode cX0_read 11 = .ok (.astore_n 1, 1) := dk_76 (dk_at dksX0_read_0 11 rfl rfl)
theorem dX0_read_12 : decode cX0_read 12 = .ok (.new 421, 3) := dk_187 1 165 (dk_at dksX0_read_0 12 rfl rfl)
theorem dX0_read_15 : decode cX0_read 15 = .ok (.dup, 1) := dk_89 (dk_at dksX0_read_0 15 rfl rfl)
theorem dX0_read_16 : decode cX0_read 16 = .ok (.aload_n 0, 1) := dk_42 (dk_at dksX0_read_0 16 rfl rfl)
theorem dX0_read_17 : decode cX0_read 17 = .ok (.aload_n 1, 1) := dk_43 (dk_at dksX0_read_0 17 rfl rfl)
theorem dX0_read_18 : decode cX0_read 18 = .ok (.invokespecial 423, 3) := dk_183 1 167 (dk_at dksX0_read_0 18 rfl rfl)
theorem dX0_read_21 : decode cX0_read 21 = .ok (.invokevirtual 426, 3) := dk_182 1 170 (dk_at dksX0_read_0 21 rfl rfl)
theorem dX0_read_24 : decode cX0_read 24 = .ok (.istore_n 2, 1) := dk_61 (dk_at dksX0_read_1 0 rfl rfl)
theorem dX0_read_25 : decode cX0_read 25 = .ok (.aload_n 0, 1) := dk_42 (dk_at dksX0_read_1 1 rfl rfl)
theorem dX0_read_26 : decode cX0_read 26 = .ok (.iconst 0, 1) := dk_3 (dk_at dksX0_read_1 2 rfl rfl)
theorem dX0_read_27 : decode cX0_read 27 = .ok (.putfield 339, 3) := dk_181 1 83 (dk_at dksX0_read_1 3 rfl rfl)
theorem dX0_read_30 : decode cX0_read 30 = .ok (.iload_n 2, 1) := dk_28 (dk_at dksX0_read_1 6 rfl rfl)
theorem dX0_read_31 : decode cX0_read 31 = .ok (.ireturn, 1) := dk_172 (dk_at dksX0_read_1 7 rfl rfl)
theorem dX0_read_32 : decode cX0_read 32 = .ok (.astore_n 1, 1) := dk_76 (dk_at dksX0_read_1 8 rfl rfl)
theorem dX0_read_33 : decode cX0_read 33 = .ok (.aload_n 0, 1) := dk_42 (dk_at dksX0_read_1 9 rfl rfl)
theorem dX0_read_34 : decode cX0_read 34 = .ok (.aload_n 1, 1) := dk_43 (dk_at dksX0_read_1 10 rfl rfl)
theorem dX0_read_35 : decode cX0_read 35 = .ok (.getfield 429, 3) := dk_180 1 173 (dk_at dksX0_read_1 11 rfl rfl)
theorem dX0_read_38 : decode cX0_read 38 = .ok (.putfield 33, 3) := dk_181 0 33 (dk_at dksX0_read_1 14 rfl rfl)
theorem dX0_read_41 : decode cX0_read 41 = .ok (.bipush (-2), 2) := dk_16 254 (dk_at dksX0_read_1 17 rfl rfl)
theorem dX0_read_43 : decode cX0_read 43 = .ok (.istore_n 2, 1) := dk_61 (dk_at dksX0_read_1 19 rfl rfl)
theorem dX0_read_44 : decode cX0_read 44 = .ok (.aload_n 0, 1) := dk_42 (dk_at dksX0_read_1 20 rfl rfl)
theorem dX0_read_45 : decode cX0_read 45 = .ok (.iconst 0, 1) := dk_3 (dk_at dksX0_read_1 21 rfl rfl)
theorem dX0_read_46 : decode cX0_read 46 = .ok (.putfield 339, 3) := dk_181 1 83 (dk_at dksX0_read_2 0 rfl rfl)
theorem dX0_read_49 : decode cX0_read 49 = .ok (.iload_n 2, 1) := dk_28 (dk_at dksX0_read_2 3 rfl rfl)
theorem dX0_read_50 : decode cX0_read 50 = .ok (.ireturn, 1) := dk_172 (dk_at dksX0_read_2 4 rfl rfl)
theorem dX0_read_51 : decode cX0_read 51 = .ok (.astore_n 3, 1) := dk_78 (dk_at dksX0_read_2 5 rfl rfl)
theorem dX0_read_52 : decode cX0_read 52 = .ok (.aload_n 0, 1) := dk_42 (dk_at dksX0_read_2 6 rfl rfl)
theorem dX0_read_53 : decode cX0_read 53 = .ok (.iconst 0, 1) := dk_3 (dk_at dksX0_read_2 7 rfl rfl)
theorem dX0_read_54 : decode cX0_read 54 = .ok (.putfield 339, 3) := dk_181 1 83 (dk_at dksX0_read_2 8 rfl rfl)
theorem dX0_read_57 : decode cX0_read 57 = .ok (.aload_n 3, 1) := dk_45 (dk_at dksX0_read_2 11 rfl rfl)
theorem dX0_read_58 : decode cX0_read 58 = .ok (.athrow, 1) := dk_191 (dk_at dksX0_read_2 12 rfl rfl)
abbrev cX0_fault : ByteArray := prog_1_method_42_code
def yX0_fault : MethodName := ⟨RX0, "fault", "()I"⟩
def dkwX0_fault_0 : List UInt8 := [42, 180, 0, 33, 156, 0, 8, 16, 253, 167, 0, 7, 42, 180, 0, 33, 172]
abbrev dktX0_fault_0 : List UInt8 := dkwX0_fault_0 ++ []
theorem dksX0_fault_0 : cX0_fault.data.toList.drop 0 = dktX0_fault_0 := by decide +kernel
theorem dX0_fault_0 : decode cX0_fault 0 = .ok (.aload_n 0, 1) := dk_42 (dk_at dksX0_fault_0 0 rfl rfl)
theorem dX0_fault_1 : decode cX0_fault 1 = .ok (.getfield 33, 3) := dk_180 0 33 (dk_at dksX0_fault_0 1 rfl rfl)
theorem dX0_fault_4 : decode cX0_fault 4 = .ok (.ifCond .ge 8, 3) := dk_156 0 8 (dk_at dksX0_fault_0 4 rfl rfl)
theorem dX0_fault_7 : decode cX0_fault 7 = .ok (.bipush (-3), 2) := dk_16 253 (dk_at dksX0_fault_0 7 rfl rfl)
theorem dX0_fault_9 : decode cX0_fault 9 = .ok (.goto 7, 3) := dk_167 0 7 (dk_at dksX0_fault_0 9 rfl rfl)
theorem dX0_fault_12 : decode cX0_fault 12 = .ok (.aload_n 0, 1) := dk_42 (dk_at dksX0_fault_0 12 rfl rfl)
theorem dX0_fault_13 : decode cX0_fault 13 = .ok (.getfield 33, 3) := dk_180 0 33 (dk_at dksX0_fault_0 13 rfl rfl)
theorem dX0_fault_16 : decode cX0_fault 16 = .ok (.ireturn, 1) := dk_172 (dk_at dksX0_fault_0 16 rfl rfl)
abbrev cX0_reason : ByteArray := prog_1_method_43_code
def yX0_reason : MethodName := ⟨RX0, "reason", "(IZ)I"⟩
def dkwX0_reason_1 : List UInt8 := [180, 0, 37, 27, 182, 1, 174, 78, 45, 199, 0, 8, 16, 250, 167, 0, 8, 45, 28, 182, 1, 178, 172]
abbrev dktX0_reason_1 : List UInt8 := dkwX0_reason_1 ++ []
def dkwX0_reason_0 : List UInt8 := [42, 180, 0, 37, 199, 0, 6, 16, 253, 172, 27, 3, 5, 184, 0, 63, 154, 0, 6, 16, 254, 172, 42]
abbrev dktX0_reason_0 : List UInt8 := dkwX0_reason_0 ++ dktX0_reason_1
theorem dksX0_reason_0 : cX0_reason.data.toList.drop 0 = dktX0_reason_0 := by decide +kernel
theorem dksX0_reason_1 : cX0_reason.data.toList.drop 23 = dktX0_reason_1 := dk_seg dksX0_reason_0 23 rfl rfl
theorem dX0_reason_0 : decode cX0_reason 0 = .ok (.aload_n 0, 1) := dk_42 (dk_at dksX0_reason_0 0 rfl rfl)
theorem dX0_reason_1 : decode cX0_reason 1 = .ok (.getfield 37, 3) := dk_180 0 37 (dk_at dksX0_reason_0 1 rfl rfl)
theorem dX0_reason_4 : decode cX0_reason 4 = .ok (.ifnonnull 6, 3) := dk_199 0 6 (dk_at dksX0_reason_0 4 rfl rfl)
theorem dX0_reason_7 : decode cX0_reason 7 = .ok (.bipush (-3), 2) := dk_16 253 (dk_at dksX0_reason_0 7 rfl rfl)
theorem dX0_reason_9 : decode cX0_reason 9 = .ok (.ireturn, 1) := dk_172 (dk_at dksX0_reason_0 9 rfl rfl)
theorem dX0_reason_10 : decode cX0_reason 10 = .ok (.iload_n 1, 1) := dk_27 (dk_at dksX0_reason_0 10 rfl rfl)
theorem dX0_reason_11 : decode cX0_reason 11 = .ok (.iconst 0, 1) := dk_3 (dk_at dksX0_reason_0 11 rfl rfl)
theorem dX0_reason_12 : decode cX0_reason 12 = .ok (.iconst 2, 1) := dk_5 (dk_at dksX0_reason_0 12 rfl rfl)
theorem dX0_reason_13 : decode cX0_reason 13 = .ok (.invokestatic 63, 3) := dk_184 0 63 (dk_at dksX0_reason_0 13 rfl rfl)
theorem dX0_reason_16 : decode cX0_reason 16 = .ok (.ifCond .ne 6, 3) := dk_154 0 6 (dk_at dksX0_reason_0 16 rfl rfl)
theorem dX0_reason_19 : decode cX0_reason 19 = .ok (.bipush (-2), 2) := dk_16 254 (dk_at dksX0_reason_0 19 rfl rfl)
theorem dX0_reason_21 : decode cX0_reason 21 = .ok (.ireturn, 1) := dk_172 (dk_at dksX0_reason_0 21 rfl rfl)
theorem dX0_reason_22 : decode cX0_reason 22 = .ok (.aload_n 0, 1) := dk_42 (dk_at dksX0_reason_0 22 rfl rfl)
theorem dX0_reason_23 : decode cX0_reason 23 = .ok (.getfield 37, 3) := dk_180 0 37 (dk_at dksX0_reason_1 0 rfl rfl)
theorem dX0_reason_26 : decode cX0_reason 26 = .ok (.iload_n 1, 1) := dk_27 (dk_at dksX0_reason_1 3 rfl rfl)
theorem dX0_reason_27 : decode cX0_reason 27 = .ok (.invokevirtual 430, 3) := dk_182 1 174 (dk_at dksX0_reason_1 4 rfl rfl)
theorem dX0_reason_30 : decode cX0_reason 30 = .ok (.astore_n 3, 1) := dk_78 (dk_at dksX0_reason_1 7 rfl rfl)
theorem dX0_reason_31 : decode cX0_reason 31 = .ok (.aload_n 3, 1) := dk_45 (dk_at dksX0_reason_1 8 rfl rfl)
theorem dX0_reason_32 : decode cX0_reason 32 = .ok (.ifnonnull 8, 3) := dk_199 0 8 (dk_at dksX0_reason_1 9 rfl rfl)
theorem dX0_reason_35 : decode cX0_reason 35 = .ok (.bipush (-6), 2) := dk_16 250 (dk_at dksX0_reason_1 12 rfl rfl)
theorem dX0_reason_37 : decode cX0_reason 37 = .ok (.goto 8, 3) := dk_167 0 8 (dk_at dksX0_reason_1 14 rfl rfl)
theorem dX0_reason_40 : decode cX0_reason 40 = .ok (.aload_n 3, 1) := dk_45 (dk_at dksX0_reason_1 17 rfl rfl)
theorem dX0_reason_41 : decode cX0_reason 41 = .ok (.iload_n 2, 1) := dk_28 (dk_at dksX0_reason_1 18 rfl rfl)
theorem dX0_reason_42 : decode cX0_reason 42 = .ok (.invokevirtual 434, 3) := dk_182 1 178 (dk_at dksX0_reason_1 19 rfl rfl)
theorem dX0_reason_45 : decode cX0_reason 45 = .ok (.ireturn, 1) := dk_172 (dk_at dksX0_reason_1 22 rfl rfl)
abbrev cX0_undo : ByteArray := prog_1_method_44_code
def yX0_undo : MethodName := ⟨RX0, "undo", "()I"⟩
def dkwX0_undo_1 : List UInt8 := [181, 0, 16, 42, 180, 0, 25, 182, 0, 45, 172]
abbrev dktX0_undo_1 : List UInt8 := dkwX0_undo_1 ++ []
def dkwX0_undo_0 : List UInt8 := [42, 180, 0, 25, 182, 1, 181, 153, 0, 6, 16, 253, 172, 42, 42, 180, 0, 25, 182, 1, 184, 192, 0, 13]
abbrev dktX0_undo_0 : List UInt8 := dkwX0_undo_0 ++ dktX0_undo_1
theorem dksX0_undo_0 : cX0_undo.data.toList.drop 0 = dktX0_undo_0 := by decide +kernel
theorem dksX0_undo_1 : cX0_undo.data.toList.drop 24 = dktX0_undo_1 := dk_seg dksX0_undo_0 24 rfl rfl
theorem dX0_undo_0 : decode cX0_undo 0 = .ok (.aload_n 0, 1) := dk_42 (dk_at dksX0_undo_0 0 rfl rfl)
theorem dX0_undo_1 : decode cX0_undo 1 = .ok (.getfield 25, 3) := dk_180 0 25 (dk_at dksX0_undo_0 1 rfl rfl)
theorem dX0_undo_4 : decode cX0_undo 4 = .ok (.invokevirtual 437, 3) := dk_182 1 181 (dk_at dksX0_undo_0 4 rfl rfl)
theorem dX0_undo_7 : decode cX0_undo 7 = .ok (.ifCond .eq 6, 3) := dk_153 0 6 (dk_at dksX0_undo_0 7 rfl rfl)
theorem dX0_undo_10 : decode cX0_undo 10 = .ok (.bipush (-3), 2) := dk_16 253 (dk_at dksX0_undo_0 10 rfl rfl)
theorem dX0_undo_12 : decode cX0_undo 12 = .ok (.ireturn, 1) := dk_172 (dk_at dksX0_undo_0 12 rfl rfl)
theorem dX0_undo_13 : decode cX0_undo 13 = .ok (.aload_n 0, 1) := dk_42 (dk_at dksX0_undo_0 13 rfl rfl)
theorem dX0_undo_14 : decode cX0_undo 14 = .ok (.aload_n 0, 1) := dk_42 (dk_at dksX0_undo_0 14 rfl rfl)
theorem dX0_undo_15 : decode cX0_undo 15 = .ok (.getfield 25, 3) := dk_180 0 25 (dk_at dksX0_undo_0 15 rfl rfl)
theorem dX0_undo_18 : decode cX0_undo 18 = .ok (.invokevirtual 440, 3) := dk_182 1 184 (dk_at dksX0_undo_0 18 rfl rfl)
theorem dX0_undo_21 : decode cX0_undo 21 = .ok (.checkcast 13, 3) := dk_192 0 13 (dk_at dksX0_undo_0 21 rfl rfl)
theorem dX0_undo_24 : decode cX0_undo 24 = .ok (.putfield 16, 3) := dk_181 0 16 (dk_at dksX0_undo_1 0 rfl rfl)
theorem dX0_undo_27 : decode cX0_undo 27 = .ok (.aload_n 0, 1) := dk_42 (dk_at dksX0_undo_1 3 rfl rfl)
theorem dX0_undo_28 : decode cX0_undo 28 = .ok (.getfield 25, 3) := dk_180 0 25 (dk_at dksX0_undo_1 4 rfl rfl)
theorem dX0_undo_31 : decode cX0_undo 31 = .ok (.invokevirtual 45, 3) := dk_182 0 45 (dk_at dksX0_undo_1 7 rfl rfl)
theorem dX0_undo_34 : decode cX0_undo 34 = .ok (.ireturn, 1) := dk_172 (dk_at dksX0_undo_1 10 rfl rfl)
abbrev cX0_save : ByteArray := prog_1_method_45_code
def yX0_save : MethodName := ⟨RX0, "save", "()I"⟩
def dkwX0_save_1 : List UInt8 := [182, 0, 57, 172]
abbrev dktX0_save_1 : List UInt8 := dkwX0_save_1 ++ []
def dkwX0_save_0 : List UInt8 := [42, 187, 0, 13, 89, 42, 180, 0, 16, 183, 0, 223, 181, 1, 187, 42, 180, 0, 16, 180, 0, 53]
abbrev dktX0_save_0 : List UInt8 := dkwX0_save_0 ++ dktX0_save_1
theorem dksX0_save_0 : cX0_save.data.toList.drop 0 = dktX0_save_0 := by decide +kernel
theorem dksX0_save_1 : cX0_save.data.toList.drop 22 = dktX0_save_1 := dk_seg dksX0_save_0 22 rfl rfl
theorem dX0_save_0 : decode cX0_save 0 = .ok (.aload_n 0, 1) := dk_42 (dk_at dksX0_save_0 0 rfl rfl)
theorem dX0_save_1 : decode cX0_save 1 = .ok (.new 13, 3) := dk_187 0 13 (dk_at dksX0_save_0 1 rfl rfl)
theorem dX0_save_4 : decode cX0_save 4 = .ok (.dup, 1) := dk_89 (dk_at dksX0_save_0 4 rfl rfl)
theorem dX0_save_5 : decode cX0_save 5 = .ok (.aload_n 0, 1) := dk_42 (dk_at dksX0_save_0 5 rfl rfl)
theorem dX0_save_6 : decode cX0_save 6 = .ok (.getfield 16, 3) := dk_180 0 16 (dk_at dksX0_save_0 6 rfl rfl)
theorem dX0_save_9 : decode cX0_save 9 = .ok (.invokespecial 223, 3) := dk_183 0 223 (dk_at dksX0_save_0 9 rfl rfl)
theorem dX0_save_12 : decode cX0_save 12 = .ok (.putfield 443, 3) := dk_181 1 187 (dk_at dksX0_save_0 12 rfl rfl)
theorem dX0_save_15 : decode cX0_save 15 = .ok (.aload_n 0, 1) := dk_42 (dk_at dksX0_save_0 15 rfl rfl)
theorem dX0_save_16 : decode cX0_save 16 = .ok (.getfield 16, 3) := dk_180 0 16 (dk_at dksX0_save_0 16 rfl rfl)
theorem dX0_save_19 : decode cX0_save 19 = .ok (.getfield 53, 3) := dk_180 0 53 (dk_at dksX0_save_0 19 rfl rfl)
theorem dX0_save_22 : decode cX0_save 22 = .ok (.invokevirtual 57, 3) := dk_182 0 57 (dk_at dksX0_save_1 0 rfl rfl)
theorem dX0_save_25 : decode cX0_save 25 = .ok (.ireturn, 1) := dk_172 (dk_at dksX0_save_1 3 rfl rfl)
abbrev cX0_restore : ByteArray := prog_1_method_46_code
def yX0_restore : MethodName := ⟨RX0, "restore", "()I"⟩
def dkwX0_restore_1 : List UInt8 := [181, 0, 16, 42, 180, 0, 25, 182, 0, 60, 42, 180, 0, 16, 180, 0, 53, 182, 0, 57, 172]
abbrev dktX0_restore_1 : List UInt8 := dkwX0_restore_1 ++ []
def dkwX0_restore_0 : List UInt8 := [42, 180, 1, 187, 199, 0, 6, 16, 253, 172, 42, 187, 0, 13, 89, 42, 180, 1, 187, 183, 0, 223]
abbrev dktX0_restore_0 : List UInt8 := dkwX0_restore_0 ++ dktX0_restore_1
theorem dksX0_restore_0 : cX0_restore.data.toList.drop 0 = dktX0_restore_0 := by decide +kernel
theorem dksX0_restore_1 : cX0_restore.data.toList.drop 22 = dktX0_restore_1 := dk_seg dksX0_restore_0 22 rfl rfl
theorem dX0_restore_0 : decode cX0_restore 0 = .ok (.aload_n 0, 1) := dk_42 (dk_at dksX0_restore_0 0 rfl rfl)
theorem dX0_restore_1 : decode cX0_restore 1 = .ok (.getfield 443, 3) := dk_180 1 187 (dk_at dksX0_restore_0 1 rfl rfl)
theorem dX0_restore_4 : decode cX0_restore 4 = .ok (.ifnonnull 6, 3) := dk_199 0 6 (dk_at dksX0_restore_0 4 rfl rfl)
theorem dX0_restore_7 : decode cX0_restore 7 = .ok (.bipush (-3), 2) := dk_16 253 (dk_at dksX0_restore_0 7 rfl rfl)
theorem dX0_restore_9 : decode cX0_restore 9 = .ok (.ireturn, 1) := dk_172 (dk_at dksX0_restore_0 9 rfl rfl)
theorem dX0_restore_10 : decode cX0_restore 10 = .ok (.aload_n 0, 1) := dk_42 (dk_at dksX0_restore_0 10 rfl rfl)
theorem dX0_restore_11 : decode cX0_restore 11 = .ok (.new 13, 3) := dk_187 0 13 (dk_at dksX0_restore_0 11 rfl rfl)
theorem dX0_restore_14 : decode cX0_restore 14 = .ok (.dup, 1) := dk_89 (dk_at dksX0_restore_0 14 rfl rfl)
theorem dX0_restore_15 : decode cX0_restore 15 = .ok (.aload_n 0, 1) := dk_42 (dk_at dksX0_restore_0 15 rfl rfl)
theorem dX0_restore_16 : decode cX0_restore 16 = .ok (.getfield 443, 3) := dk_180 1 187 (dk_at dksX0_restore_0 16 rfl rfl)
theorem dX0_restore_19 : decode cX0_restore 19 = .ok (.invokespecial 223, 3) := dk_183 0 223 (dk_at dksX0_restore_0 19 rfl rfl)
theorem dX0_restore_22 : decode cX0_restore 22 = .ok (.putfield 16, 3) := dk_181 0 16 (dk_at dksX0_restore_1 0 rfl rfl)
theorem dX0_restore_25 : decode cX0_restore 25 = .ok (.aload_n 0, 1) := dk_42 (dk_at dksX0_restore_1 3 rfl rfl)
theorem dX0_restore_26 : decode cX0_restore 26 = .ok (.getfield 25, 3) := dk_180 0 25 (dk_at dksX0_restore_1 4 rfl rfl)
theorem dX0_restore_29 : decode cX0_restore 29 = .ok (.invokevirtual 60, 3) := dk_182 0 60 (dk_at dksX0_restore_1 7 rfl rfl)
theorem dX0_restore_32 : decode cX0_restore 32 = .ok (.aload_n 0, 1) := dk_42 (dk_at dksX0_restore_1 10 rfl rfl)
theorem dX0_restore_33 : decode cX0_restore 33 = .ok (.getfield 16, 3) := dk_180 0 16 (dk_at dksX0_restore_1 11 rfl rfl)
theorem dX0_restore_36 : decode cX0_restore 36 = .ok (.getfield 53, 3) := dk_180 0 53 (dk_at dksX0_restore_1 14 rfl rfl)
theorem dX0_restore_39 : decode cX0_restore 39 = .ok (.invokevirtual 57, 3) := dk_182 0 57 (dk_at dksX0_restore_1 17 rfl rfl)
theorem dX0_restore_42 : decode cX0_restore 42 = .ok (.ireturn, 1) := dk_172 (dk_at dksX0_restore_1 20 rfl rfl)
theorem q84 : (Jvm.Cond.initialized "TurningWheel") ∈ lw_all := lw_g (lw_at lw_m1 1 rfl) rfl
theorem q165 : (Jvm.Cond.instantiable "TurningWheel" (7 : Nat)) ∈ lw_all := lw_g (lw_at lw_m1 82 rfl) rfl
theorem q167 : (Jvm.Cond.instanceMethod ({ cls := "TurningWheel", name := "<init>", desc := "()V" } : Jvm.MethodName)) ∈ lw_all := lw_g (lw_at lw_m1 84 rfl) rfl
theorem q168 : (Jvm.Cond.code ({ cls := "TurningWheel", name := "<init>", desc := "()V" } : Jvm.MethodName) prog_1_method_4_code (1 : Nat) (Option.none : Option Jvm.ClassFile.FieldType)) ∈ lw_all := lw_g (lw_at lw_m1 85 rfl) rfl
theorem q169 : (Jvm.Cond.methodLink "TurningWheel" (7 : Nat) ({ cls := "java/lang/Object", name := "<init>", desc := "()V" } : Jvm.MethodName)) ∈ lw_all := lw_g (lw_at lw_m1 86 rfl) rfl
theorem q172 : (Jvm.Cond.classLink "TurningWheel" (13 : Nat) "TurningWheel$Pottery") ∈ lw_all := lw_g (lw_at lw_m1 89 rfl) rfl
theorem q174 : (Jvm.Cond.methodLink "TurningWheel" (15 : Nat) ({ cls := "TurningWheel$Pottery", name := "<init>", desc := "()V" } : Jvm.MethodName)) ∈ lw_all := lw_g (lw_at lw_m1 91 rfl) rfl
theorem q247 : (Jvm.Cond.fieldLinkNest "TurningWheel" (321 : Nat) "TurningWheel$Pottery" "settings" "[I" "TurningWheel") ∈ lw_tbl := lw_at lw_m1 164 rfl
theorem q250 : (Jvm.Cond.fieldLinkNest "TurningWheel" (83 : Nat) "TurningWheel$Pottery" "dryness" "[I" "TurningWheel") ∈ lw_tbl := lw_at lw_m1 167 rfl
theorem q252 : (Jvm.Cond.fieldLinkNest "TurningWheel" (324 : Nat) "TurningWheel$Pottery" "skills" "[I" "TurningWheel") ∈ lw_tbl := lw_at lw_m1 169 rfl
theorem q254 : (Jvm.Cond.fieldLinkNest "TurningWheel" (53 : Nat) "TurningWheel$Pottery" "pots" "Ljava/util/ArrayList;" "TurningWheel") ∈ lw_tbl := lw_at lw_m1 171 rfl
theorem q256 : (Jvm.Cond.fieldLinkNest "TurningWheel" (229 : Nat) "TurningWheel$Pottery" "orders" "Ljava/util/ArrayList;" "TurningWheel") ∈ lw_tbl := lw_at lw_m1 173 rfl
theorem q258 : (Jvm.Cond.fieldLinkNest "TurningWheel" (263 : Nat) "TurningWheel$Pottery" "row" "Ljava/util/LinkedList;" "TurningWheel") ∈ lw_tbl := lw_at lw_m1 175 rfl
theorem q260 : (Jvm.Cond.fieldLinkNest "TurningWheel" (177 : Nat) "TurningWheel$Pottery" "shelf" "LTurningWheel$Shelf;" "TurningWheel") ∈ lw_tbl := lw_at lw_m1 177 rfl
theorem q262 : (Jvm.Cond.fieldLinkNest "TurningWheel" (251 : Nat) "TurningWheel$Pottery" "clock" "I" "TurningWheel") ∈ lw_tbl := lw_at lw_m1 179 rfl
theorem q264 : (Jvm.Cond.fieldLinkNest "TurningWheel" (257 : Nat) "TurningWheel$Pottery" "wheel" "I" "TurningWheel") ∈ lw_tbl := lw_at lw_m1 181 rfl
theorem q266 : (Jvm.Cond.fieldLinkNest "TurningWheel" (260 : Nat) "TurningWheel$Pottery" "needs" "I" "TurningWheel") ∈ lw_tbl := lw_at lw_m1 183 rfl
theorem q268 : (Jvm.Cond.fieldLinkNest "TurningWheel" (270 : Nat) "TurningWheel$Pottery" "last" "I" "TurningWheel") ∈ lw_tbl := lw_at lw_m1 185 rfl
theorem q271 : (Jvm.Cond.fieldLinkNest "TurningWheel" (333 : Nat) "TurningWheel$Pottery" "earned" "I" "TurningWheel") ∈ lw_tbl := lw_at lw_m1 188 rfl
theorem q299 : (Jvm.Cond.classLink "TurningWheel" (22 : Nat) "java/util/ArrayDeque") ∈ lw_all := lw_g (lw_at lw_m1 216 rfl) rfl
theorem q301 : (Jvm.Cond.methodLink "TurningWheel" (24 : Nat) ({ cls := "java/util/ArrayDeque", name := "<init>", desc := "()V" } : Jvm.MethodName)) ∈ lw_all := lw_g (lw_at lw_m1 218 rfl) rfl
theorem q320 : (Jvm.Cond.fieldLink "TurningWheel" (16 : Nat) "TurningWheel" "now" "LTurningWheel$Pottery;") ∈ lw_all := lw_g (lw_at lw_m1 237 rfl) rfl
theorem q321 : (Jvm.Cond.fieldLink "TurningWheel" (443 : Nat) "TurningWheel" "saved" "LTurningWheel$Pottery;") ∈ lw_all := lw_g (lw_at lw_m1 238 rfl) rfl
theorem q322 : (Jvm.Cond.fieldLink "TurningWheel" (25 : Nat) "TurningWheel" "before" "Ljava/util/ArrayDeque;") ∈ lw_all := lw_g (lw_at lw_m1 239 rfl) rfl
theorem q323 : (Jvm.Cond.fieldLink "TurningWheel" (37 : Nat) "TurningWheel" "latest" "LTurningWheel$Refused;") ∈ lw_all := lw_g (lw_at lw_m2 0 rfl) rfl
theorem q325 : (Jvm.Cond.fieldLink "TurningWheel" (29 : Nat) "TurningWheel" "input" "[C") ∈ lw_all := lw_g (lw_at lw_m2 2 rfl) rfl
theorem q327 : (Jvm.Cond.fieldLink "TurningWheel" (339 : Nat) "TurningWheel" "fed" "I") ∈ lw_all := lw_g (lw_at lw_m2 4 rfl) rfl
theorem q328 : (Jvm.Cond.fieldLink "TurningWheel" (33 : Nat) "TurningWheel" "faultAt" "I") ∈ lw_all := lw_g (lw_at lw_m2 5 rfl) rfl
theorem q329 : (Jvm.Cond.lays "TurningWheel" "TurningWheel" "now" "LTurningWheel$Pottery;") ∈ lw_all := lw_g (lw_at lw_m2 6 rfl) rfl
theorem q330 : (Jvm.Cond.soleField "TurningWheel" "now") ∈ lw_all := lw_g (lw_at lw_m2 7 rfl) rfl
theorem q331 : (Jvm.Cond.lays "TurningWheel" "TurningWheel" "saved" "LTurningWheel$Pottery;") ∈ lw_all := lw_g (lw_at lw_m2 8 rfl) rfl
theorem q332 : (Jvm.Cond.soleField "TurningWheel" "saved") ∈ lw_all := lw_g (lw_at lw_m2 9 rfl) rfl
theorem q333 : (Jvm.Cond.laysFinal "TurningWheel" "TurningWheel" "before" "Ljava/util/ArrayDeque;") ∈ lw_all := lw_g (lw_at lw_m2 10 rfl) rfl
theorem q334 : (Jvm.Cond.soleField "TurningWheel" "before") ∈ lw_all := lw_g (lw_at lw_m2 11 rfl) rfl
theorem q335 : (Jvm.Cond.lays "TurningWheel" "TurningWheel" "latest" "LTurningWheel$Refused;") ∈ lw_all := lw_g (lw_at lw_m2 12 rfl) rfl
theorem q336 : (Jvm.Cond.soleField "TurningWheel" "latest") ∈ lw_all := lw_g (lw_at lw_m2 13 rfl) rfl
theorem q337 : (Jvm.Cond.laysFinal "TurningWheel" "TurningWheel" "input" "[C") ∈ lw_all := lw_g (lw_at lw_m2 14 rfl) rfl
theorem q338 : (Jvm.Cond.soleField "TurningWheel" "input") ∈ lw_all := lw_g (lw_at lw_m2 15 rfl) rfl
theorem q339 : (Jvm.Cond.lays "TurningWheel" "TurningWheel" "fed" "I") ∈ lw_all := lw_g (lw_at lw_m2 16 rfl) rfl
theorem q340 : (Jvm.Cond.soleField "TurningWheel" "fed") ∈ lw_all := lw_g (lw_at lw_m2 17 rfl) rfl
theorem q341 : (Jvm.Cond.lays "TurningWheel" "TurningWheel" "faultAt" "I") ∈ lw_all := lw_g (lw_at lw_m2 18 rfl) rfl
theorem q342 : (Jvm.Cond.soleField "TurningWheel" "faultAt") ∈ lw_all := lw_g (lw_at lw_m2 19 rfl) rfl
theorem q343 : (Jvm.Cond.superclass "TurningWheel" "java/lang/Object") ∈ lw_all := lw_g (lw_at lw_m2 20 rfl) rfl
theorem q346 : (Jvm.Cond.instanceMethod ({ cls := "TurningWheel", name := "clear", desc := "()I" } : Jvm.MethodName)) ∈ lw_all := lw_g (lw_at lw_m2 23 rfl) rfl
theorem q347 : (Jvm.Cond.selects "TurningWheel" ({ cls := "TurningWheel", name := "clear", desc := "()I" } : Jvm.MethodName) ({ cls := "TurningWheel", name := "clear", desc := "()I" } : Jvm.MethodName)) ∈ lw_all := lw_g (lw_at lw_m2 24 rfl) rfl
theorem q348 : (Jvm.Cond.code ({ cls := "TurningWheel", name := "clear", desc := "()I" } : Jvm.MethodName) prog_1_method_7_code (2 : Nat) (Option.some Jvm.ClassFile.FieldType.int)) ∈ lw_all := lw_g (lw_at lw_m2 25 rfl) rfl
theorem q349 : (Jvm.Cond.methodLink "TurningWheel" (57 : Nat) ({ cls := "java/util/ArrayList", name := "size", desc := "()I" } : Jvm.MethodName)) ∈ lw_all := lw_g (lw_at lw_m2 26 rfl) rfl
theorem q353 : (Jvm.Cond.methodLink "TurningWheel" (60 : Nat) ({ cls := "java/util/ArrayDeque", name := "clear", desc := "()V" } : Jvm.MethodName)) ∈ lw_all := lw_g (lw_at lw_m2 30 rfl) rfl
theorem q361 : (Jvm.Cond.instanceMethod ({ cls := "TurningWheel", name := "set", desc := "(II)I" } : Jvm.MethodName)) ∈ lw_all := lw_g (lw_at lw_m2 38 rfl) rfl
theorem q362 : (Jvm.Cond.selects "TurningWheel" ({ cls := "TurningWheel", name := "set", desc := "(II)I" } : Jvm.MethodName) ({ cls := "TurningWheel", name := "set", desc := "(II)I" } : Jvm.MethodName)) ∈ lw_all := lw_g (lw_at lw_m2 39 rfl) rfl
theorem q363 : (Jvm.Cond.code ({ cls := "TurningWheel", name := "set", desc := "(II)I" } : Jvm.MethodName) prog_1_method_9_code (3 : Nat) (Option.some Jvm.ClassFile.FieldType.int)) ∈ lw_all := lw_g (lw_at lw_m2 40 rfl) rfl
theorem q364 : (Jvm.Cond.methodLink "TurningWheel" (63 : Nat) ({ cls := "TurningWheel", name := "in", desc := "(III)Z" } : Jvm.MethodName)) ∈ lw_all := lw_g (lw_at lw_m2 41 rfl) rfl
theorem q365 : (Jvm.Cond.static ({ cls := "TurningWheel", name := "in", desc := "(III)Z" } : Jvm.MethodName)) ∈ lw_all := lw_g (lw_at lw_m2 42 rfl) rfl
theorem q366 : (Jvm.Cond.code ({ cls := "TurningWheel", name := "in", desc := "(III)Z" } : Jvm.MethodName) prog_1_method_1_code (3 : Nat) (Option.some Jvm.ClassFile.FieldType.boolean)) ∈ lw_all := lw_g (lw_at lw_m2 43 rfl) rfl
theorem q367 : (Jvm.Cond.methodLink "TurningWheel" (67 : Nat) ({ cls := "TurningWheel", name := "isSetting", desc := "(II)Z" } : Jvm.MethodName)) ∈ lw_all := lw_g (lw_at lw_m2 44 rfl) rfl
theorem q368 : (Jvm.Cond.static ({ cls := "TurningWheel", name := "isSetting", desc := "(II)Z" } : Jvm.MethodName)) ∈ lw_all := lw_g (lw_at lw_m2 45 rfl) rfl
theorem q369 : (Jvm.Cond.code ({ cls := "TurningWheel", name := "isSetting", desc := "(II)Z" } : Jvm.MethodName) prog_1_method_8_code (2 : Nat) (Option.some Jvm.ClassFile.FieldType.boolean)) ∈ lw_all := lw_g (lw_at lw_m2 46 rfl) rfl
theorem q370 : (Jvm.Cond.classLink "TurningWheel" (71 : Nat) "TurningWheel$1") ∈ lw_all := lw_g (lw_at lw_m2 47 rfl) rfl
theorem q372 : (Jvm.Cond.methodLink "TurningWheel" (73 : Nat) ({ cls := "TurningWheel$1", name := "<init>", desc := "(LTurningWheel;II)V" } : Jvm.MethodName)) ∈ lw_all := lw_g (lw_at lw_m2 49 rfl) rfl
theorem q392 : (Jvm.Cond.methodLink "TurningWheel" (76 : Nat) ({ cls := "TurningWheel$1", name := "done", desc := "()I" } : Jvm.MethodName)) ∈ lw_all := lw_g (lw_at lw_m2 69 rfl) rfl
theorem q451 : (Jvm.Cond.fieldLinkNest "TurningWheel" (145 : Nat) "TurningWheel$Pot" "potter" "I" "TurningWheel") ∈ lw_tbl := lw_at lw_m2 128 rfl
theorem q455 : (Jvm.Cond.fieldLinkNest "TurningWheel" (148 : Nat) "TurningWheel$Pot" "weight" "I" "TurningWheel") ∈ lw_tbl := lw_at lw_m2 132 rfl
theorem q457 : (Jvm.Cond.fieldLinkNest "TurningWheel" (151 : Nat) "TurningWheel$Pot" "rim" "I" "TurningWheel") ∈ lw_tbl := lw_at lw_m2 134 rfl
theorem q462 : (Jvm.Cond.fieldLinkNest "TurningWheel" (142 : Nat) "TurningWheel$Pot" "state" "I" "TurningWheel") ∈ lw_tbl := lw_at lw_m2 139 rfl
theorem q465 : (Jvm.Cond.fieldLinkNest "TurningWheel" (154 : Nat) "TurningWheel$Pot" "cracks" "I" "TurningWheel") ∈ lw_tbl := lw_at lw_m2 142 rfl
theorem q469 : (Jvm.Cond.fieldLinkNest "TurningWheel" (157 : Nat) "TurningWheel$Pot" "isCovered" "Z" "TurningWheel") ∈ lw_tbl := lw_at lw_m2 146 rfl
theorem q471 : (Jvm.Cond.fieldLinkNest "TurningWheel" (196 : Nat) "TurningWheel$Pot" "moisture" "F" "TurningWheel") ∈ lw_tbl := lw_at lw_m2 148 rfl
theorem q475 : (Jvm.Cond.fieldLinkNest "TurningWheel" (165 : Nat) "TurningWheel$Pot" "ware" "LTurningWheel$Ware;" "TurningWheel") ∈ lw_tbl := lw_at lw_m2 152 rfl
theorem q477 : (Jvm.Cond.fieldLinkNest "TurningWheel" (189 : Nat) "TurningWheel$Pot" "order" "I" "TurningWheel") ∈ lw_tbl := lw_at lw_m2 154 rfl
theorem q481 : (Jvm.Cond.fieldLinkNest "TurningWheel" (186 : Nat) "TurningWheel$Pot" "hours" "I" "TurningWheel") ∈ lw_tbl := lw_at lw_m2 158 rfl
theorem q544 : (Jvm.Cond.selects "TurningWheel" ({ cls := "java/lang/Object", name := "getClass", desc := "()Ljava/lang/Class;" } : Jvm.MethodName) ({ cls := "java/lang/Object", name := "getClass", desc := "()Ljava/lang/Class;" } : Jvm.MethodName)) ∈ lw_all := lw_g (lw_at lw_m2 221 rfl) rfl
theorem q619 : (Jvm.Cond.fieldLinkNest "TurningWheel" (234 : Nat) "TurningWheel$Order" "glaze" "I" "TurningWheel") ∈ lw_tbl := lw_at lw_m3 56 rfl
theorem q621 : (Jvm.Cond.fieldLinkNest "TurningWheel" (236 : Nat) "TurningWheel$Order" "least" "I" "TurningWheel") ∈ lw_tbl := lw_at lw_m3 58 rfl
theorem q623 : (Jvm.Cond.fieldLinkNest "TurningWheel" (239 : Nat) "TurningWheel$Order" "many" "I" "TurningWheel") ∈ lw_tbl := lw_at lw_m3 60 rfl
theorem q625 : (Jvm.Cond.fieldLinkNest "TurningWheel" (242 : Nat) "TurningWheel$Order" "until" "I" "TurningWheel") ∈ lw_tbl := lw_at lw_m3 62 rfl
theorem q628 : (Jvm.Cond.fieldLinkNest "TurningWheel" (245 : Nat) "TurningWheel$Order" "price" "I" "TurningWheel") ∈ lw_tbl := lw_at lw_m3 65 rfl
theorem q631 : (Jvm.Cond.fieldLinkNest "TurningWheel" (248 : Nat) "TurningWheel$Order" "lacking" "I" "TurningWheel") ∈ lw_tbl := lw_at lw_m3 68 rfl
theorem q1331 : (Jvm.Cond.static ({ cls := "TurningWheel", name := "bit", desc := "(Z)I" } : Jvm.MethodName)) ∈ lw_all := lw_g (lw_at lw_m6 48 rfl) rfl
theorem q1332 : (Jvm.Cond.code ({ cls := "TurningWheel", name := "bit", desc := "(Z)I" } : Jvm.MethodName) prog_1_method_2_code (1 : Nat) (Option.some Jvm.ClassFile.FieldType.int)) ∈ lw_all := lw_g (lw_at lw_m6 49 rfl) rfl
theorem q1483 : (Jvm.Cond.static ({ cls := "TurningWheel", name := "doesAll", desc := "(LTurningWheel$Pottery;Ljava/util/List;)I" } : Jvm.MethodName)) ∈ lw_all := lw_g (lw_at lw_m6 200 rfl) rfl
theorem q1484 : (Jvm.Cond.codeWith ({ cls := "TurningWheel", name := "doesAll", desc := "(LTurningWheel$Pottery;Ljava/util/List;)I" } : Jvm.MethodName) prog_1_method_40_code (8 : Nat) (Option.some Jvm.ClassFile.FieldType.int) [((29 : Nat), (37 : Nat), (40 : Nat), (403 : Nat)), ((29 : Nat), (37 : Nat), (40 : Nat), (342 : Nat))]) ∈ lw_all := lw_g (lw_at lw_m6 201 rfl) rfl
theorem q1485 : (Jvm.Cond.classLink "TurningWheel" (403 : Nat) "TurningWheel$Refused") ∈ lw_all := lw_g (lw_at lw_m6 202 rfl) rfl
theorem q1486 : (Jvm.Cond.classLink "TurningWheel" (342 : Nat) "TurningWheel$OutOfRange") ∈ lw_all := lw_g (lw_at lw_m6 203 rfl) rfl
theorem q1487 : (Jvm.Cond.interfaceEntry "TurningWheel" (387 : Nat)) ∈ lw_tbl := lw_at lw_m6 204 rfl
theorem q1488 : (Jvm.Cond.methodLink "TurningWheel" (387 : Nat) ({ cls := "java/util/List", name := "iterator", desc := "()Ljava/util/Iterator;" } : Jvm.MethodName)) ∈ lw_all := lw_g (lw_at lw_m6 205 rfl) rfl
theorem q1599 : (Jvm.Cond.interfaceEntry "TurningWheel" (391 : Nat)) ∈ lw_tbl := lw_at lw_m7 76 rfl
theorem q1600 : (Jvm.Cond.methodLink "TurningWheel" (391 : Nat) ({ cls := "java/util/Iterator", name := "hasNext", desc := "()Z" } : Jvm.MethodName)) ∈ lw_all := lw_g (lw_at lw_m7 77 rfl) rfl
theorem q1601 : (Jvm.Cond.interfaceEntry "TurningWheel" (396 : Nat)) ∈ lw_tbl := lw_at lw_m7 78 rfl
theorem q1602 : (Jvm.Cond.methodLink "TurningWheel" (396 : Nat) ({ cls := "java/util/Iterator", name := "next", desc := "()Ljava/lang/Object;" } : Jvm.MethodName)) ∈ lw_all := lw_g (lw_at lw_m7 79 rfl) rfl
theorem q1603 : (Jvm.Cond.classLink "TurningWheel" (358 : Nat) "TurningWheel$Command") ∈ lw_all := lw_g (lw_at lw_m7 80 rfl) rfl
theorem q1604 : (Jvm.Cond.methodLink "TurningWheel" (399 : Nat) ({ cls := "TurningWheel", name := "does", desc := "(LTurningWheel$Pottery;LTurningWheel$Command;)I" } : Jvm.MethodName)) ∈ lw_all := lw_g (lw_at lw_m7 81 rfl) rfl
theorem q1605 : (Jvm.Cond.static ({ cls := "TurningWheel", name := "does", desc := "(LTurningWheel$Pottery;LTurningWheel$Command;)I" } : Jvm.MethodName)) ∈ lw_all := lw_g (lw_at lw_m7 82 rfl) rfl
theorem q1606 : (Jvm.Cond.code ({ cls := "TurningWheel", name := "does", desc := "(LTurningWheel$Pottery;LTurningWheel$Command;)I" } : Jvm.MethodName) prog_1_method_39_code (3 : Nat) (Option.some Jvm.ClassFile.FieldType.int)) ∈ lw_all := lw_g (lw_at lw_m7 83 rfl) rfl
theorem q1607 : (Jvm.Cond.methodLink "TurningWheel" (366 : Nat) ({ cls := "TurningWheel", name := "potOf", desc := "(LTurningWheel$Pottery;[I)I" } : Jvm.MethodName)) ∈ lw_all := lw_g (lw_at lw_m7 84 rfl) rfl
theorem q1608 : (Jvm.Cond.static ({ cls := "TurningWheel", name := "potOf", desc := "(LTurningWheel$Pottery;[I)I" } : Jvm.MethodName)) ∈ lw_all := lw_g (lw_at lw_m7 85 rfl) rfl
theorem q1609 : (Jvm.Cond.code ({ cls := "TurningWheel", name := "potOf", desc := "(LTurningWheel$Pottery;[I)I" } : Jvm.MethodName) prog_1_method_37_code (2 : Nat) (Option.some Jvm.ClassFile.FieldType.int)) ∈ lw_all := lw_g (lw_at lw_m7 86 rfl) rfl
theorem q1610 : (Jvm.Cond.methodLink "TurningWheel" (93 : Nat) ({ cls := "TurningWheel$Pottery", name := "isPotter", desc := "(I)Z" } : Jvm.MethodName)) ∈ lw_all := lw_g (lw_at lw_m7 87 rfl) rfl
theorem q1615 : (Jvm.Cond.methodLink "TurningWheel" (347 : Nat) ({ cls := "TurningWheel", name := "needs", desc := "(ZI)V" } : Jvm.MethodName)) ∈ lw_all := lw_g (lw_at lw_m7 92 rfl) rfl
theorem q1616 : (Jvm.Cond.static ({ cls := "TurningWheel", name := "needs", desc := "(ZI)V" } : Jvm.MethodName)) ∈ lw_all := lw_g (lw_at lw_m7 93 rfl) rfl
theorem q1617 : (Jvm.Cond.code ({ cls := "TurningWheel", name := "needs", desc := "(ZI)V" } : Jvm.MethodName) prog_1_method_36_code (2 : Nat) (Option.none : Option Jvm.ClassFile.FieldType)) ∈ lw_all := lw_g (lw_at lw_m7 94 rfl) rfl
theorem q1626 : (Jvm.Cond.methodLink "TurningWheel" (344 : Nat) ({ cls := "TurningWheel$OutOfRange", name := "<init>", desc := "(I)V" } : Jvm.MethodName)) ∈ lw_all := lw_g (lw_at lw_m7 103 rfl) rfl
theorem q1631 : (Jvm.Cond.fieldLinkNest "TurningWheel" (405 : Nat) "TurningWheel$OutOfRange" "place" "I" "TurningWheel") ∈ lw_tbl := lw_at lw_m7 108 rfl
theorem q1636 : (Jvm.Cond.methodLink "TurningWheel" (350 : Nat) ({ cls := "TurningWheel$Pottery", name := "addsPot", desc := "(III)I" } : Jvm.MethodName)) ∈ lw_all := lw_g (lw_at lw_m7 113 rfl) rfl
theorem q1641 : (Jvm.Cond.methodLink "TurningWheel" (370 : Nat) ({ cls := "TurningWheel$Pottery", name := "passes", desc := "(I)I" } : Jvm.MethodName)) ∈ lw_all := lw_g (lw_at lw_m7 118 rfl) rfl
theorem q1642 : (Jvm.Cond.methodLink "TurningWheel" (103 : Nat) ({ cls := "TurningWheel$Pottery", name := "isPot", desc := "(I)Z" } : Jvm.MethodName)) ∈ lw_all := lw_g (lw_at lw_m7 119 rfl) rfl
theorem q1646 : (Jvm.Cond.methodLink "TurningWheel" (373 : Nat) ({ cls := "TurningWheel$Pottery", name := "covers", desc := "(IZ)I" } : Jvm.MethodName)) ∈ lw_all := lw_g (lw_at lw_m7 123 rfl) rfl
theorem q1655 : (Jvm.Cond.methodLink "TurningWheel" (377 : Nat) ({ cls := "TurningWheel", name := "glazeOf", desc := "(LTurningWheel$Pottery;[I)I" } : Jvm.MethodName)) ∈ lw_all := lw_g (lw_at lw_m7 132 rfl) rfl
theorem q1656 : (Jvm.Cond.static ({ cls := "TurningWheel", name := "glazeOf", desc := "(LTurningWheel$Pottery;[I)I" } : Jvm.MethodName)) ∈ lw_all := lw_g (lw_at lw_m7 133 rfl) rfl
theorem q1657 : (Jvm.Cond.code ({ cls := "TurningWheel", name := "glazeOf", desc := "(LTurningWheel$Pottery;[I)I" } : Jvm.MethodName) prog_1_method_38_code (2 : Nat) (Option.some Jvm.ClassFile.FieldType.int)) ∈ lw_all := lw_g (lw_at lw_m7 134 rfl) rfl
theorem q1658 : (Jvm.Cond.methodLink "TurningWheel" (354 : Nat) ({ cls := "TurningWheel$Pottery", name := "glazes", desc := "(III)I" } : Jvm.MethodName)) ∈ lw_all := lw_g (lw_at lw_m7 135 rfl) rfl
theorem q1698 : (Jvm.Cond.methodLink "TurningWheel" (380 : Nat) ({ cls := "TurningWheel$Pottery", name := "places", desc := "(II)I" } : Jvm.MethodName)) ∈ lw_all := lw_g (lw_at lw_m7 175 rfl) rfl
theorem q1755 : (Jvm.Cond.methodLink "TurningWheel" (384 : Nat) ({ cls := "TurningWheel$Pottery", name := "fires", desc := "()I" } : Jvm.MethodName)) ∈ lw_all := lw_g (lw_at lw_m7 232 rfl) rfl
theorem q1890 : (Jvm.Cond.methodLink "TurningWheel" (408 : Nat) ({ cls := "TurningWheel$Refused", name := "<init>", desc := "(II)V" } : Jvm.MethodName)) ∈ lw_all := lw_g (lw_at lw_m8 127 rfl) rfl
theorem q1891 : (Jvm.Cond.methodLink "TurningWheel" (411 : Nat) ({ cls := "TurningWheel$Refused", name := "<init>", desc := "(IILTurningWheel$Refused;)V" } : Jvm.MethodName)) ∈ lw_all := lw_g (lw_at lw_m8 128 rfl) rfl
theorem q1933 : (Jvm.Cond.privateMethod ({ cls := "TurningWheel", name := "keeps", desc := "(LTurningWheel$Pottery;)V" } : Jvm.MethodName)) ∈ lw_tbl := lw_at lw_m8 170 rfl
theorem q1934 : (Jvm.Cond.instanceMethod ({ cls := "TurningWheel", name := "keeps", desc := "(LTurningWheel$Pottery;)V" } : Jvm.MethodName)) ∈ lw_all := lw_g (lw_at lw_m8 171 rfl) rfl
theorem q1935 : (Jvm.Cond.code ({ cls := "TurningWheel", name := "keeps", desc := "(LTurningWheel$Pottery;)V" } : Jvm.MethodName) prog_1_method_6_code (3 : Nat) (Option.none : Option Jvm.ClassFile.FieldType)) ∈ lw_all := lw_g (lw_at lw_m8 172 rfl) rfl
theorem q1936 : (Jvm.Cond.methodLink "TurningWheel" (41 : Nat) ({ cls := "java/util/ArrayDeque", name := "addLast", desc := "(Ljava/lang/Object;)V" } : Jvm.MethodName)) ∈ lw_all := lw_g (lw_at lw_m8 173 rfl) rfl
theorem q1951 : (Jvm.Cond.methodLink "TurningWheel" (45 : Nat) ({ cls := "java/util/ArrayDeque", name := "size", desc := "()I" } : Jvm.MethodName)) ∈ lw_all := lw_g (lw_at lw_m8 188 rfl) rfl
theorem q1952 : (Jvm.Cond.methodLink "TurningWheel" (49 : Nat) ({ cls := "java/util/ArrayDeque", name := "removeFirst", desc := "()Ljava/lang/Object;" } : Jvm.MethodName)) ∈ lw_all := lw_g (lw_at lw_m8 189 rfl) rfl
theorem q1964 : (Jvm.Cond.privateMethod ({ cls := "TurningWheel", name := "refuses", desc := "(LTurningWheel$Refused;)I" } : Jvm.MethodName)) ∈ lw_tbl := lw_at lw_m8 201 rfl
theorem q1965 : (Jvm.Cond.instanceMethod ({ cls := "TurningWheel", name := "refuses", desc := "(LTurningWheel$Refused;)I" } : Jvm.MethodName)) ∈ lw_all := lw_g (lw_at lw_m8 202 rfl) rfl
theorem q1966 : (Jvm.Cond.code ({ cls := "TurningWheel", name := "refuses", desc := "(LTurningWheel$Refused;)I" } : Jvm.MethodName) prog_1_method_5_code (2 : Nat) (Option.some Jvm.ClassFile.FieldType.int)) ∈ lw_all := lw_g (lw_at lw_m8 203 rfl) rfl
theorem q1968 : (Jvm.Cond.instanceMethod ({ cls := "TurningWheel", name := "dryness", desc := "(II)I" } : Jvm.MethodName)) ∈ lw_all := lw_g (lw_at lw_m8 205 rfl) rfl
theorem q1969 : (Jvm.Cond.selects "TurningWheel" ({ cls := "TurningWheel", name := "dryness", desc := "(II)I" } : Jvm.MethodName) ({ cls := "TurningWheel", name := "dryness", desc := "(II)I" } : Jvm.MethodName)) ∈ lw_all := lw_g (lw_at lw_m8 206 rfl) rfl
theorem q1970 : (Jvm.Cond.code ({ cls := "TurningWheel", name := "dryness", desc := "(II)I" } : Jvm.MethodName) prog_1_method_10_code (3 : Nat) (Option.some Jvm.ClassFile.FieldType.int)) ∈ lw_all := lw_g (lw_at lw_m8 207 rfl) rfl
theorem q1971 : (Jvm.Cond.classLink "TurningWheel" (79 : Nat) "TurningWheel$2") ∈ lw_all := lw_g (lw_at lw_m8 208 rfl) rfl
theorem q1973 : (Jvm.Cond.methodLink "TurningWheel" (81 : Nat) ({ cls := "TurningWheel$2", name := "<init>", desc := "(LTurningWheel;II)V" } : Jvm.MethodName)) ∈ lw_all := lw_g (lw_at lw_m8 210 rfl) rfl
theorem q1988 : (Jvm.Cond.methodLink "TurningWheel" (82 : Nat) ({ cls := "TurningWheel$2", name := "done", desc := "()I" } : Jvm.MethodName)) ∈ lw_all := lw_g (lw_at lw_m8 225 rfl) rfl
theorem q1992 : (Jvm.Cond.instanceMethod ({ cls := "TurningWheel", name := "air", desc := "(I)I" } : Jvm.MethodName)) ∈ lw_all := lw_g (lw_at lw_m8 229 rfl) rfl
theorem q1993 : (Jvm.Cond.selects "TurningWheel" ({ cls := "TurningWheel", name := "air", desc := "(I)I" } : Jvm.MethodName) ({ cls := "TurningWheel", name := "air", desc := "(I)I" } : Jvm.MethodName)) ∈ lw_all := lw_g (lw_at lw_m8 230 rfl) rfl
theorem q1994 : (Jvm.Cond.code ({ cls := "TurningWheel", name := "air", desc := "(I)I" } : Jvm.MethodName) prog_1_method_11_code (2 : Nat) (Option.some Jvm.ClassFile.FieldType.int)) ∈ lw_all := lw_g (lw_at lw_m8 231 rfl) rfl
theorem q1996 : (Jvm.Cond.instanceMethod ({ cls := "TurningWheel", name := "potter", desc := "(I)I" } : Jvm.MethodName)) ∈ lw_all := lw_g (lw_at lw_m8 233 rfl) rfl
theorem q1997 : (Jvm.Cond.selects "TurningWheel" ({ cls := "TurningWheel", name := "potter", desc := "(I)I" } : Jvm.MethodName) ({ cls := "TurningWheel", name := "potter", desc := "(I)I" } : Jvm.MethodName)) ∈ lw_all := lw_g (lw_at lw_m8 234 rfl) rfl
theorem q1998 : (Jvm.Cond.code ({ cls := "TurningWheel", name := "potter", desc := "(I)I" } : Jvm.MethodName) prog_1_method_12_code (2 : Nat) (Option.some Jvm.ClassFile.FieldType.int)) ∈ lw_all := lw_g (lw_at lw_m8 235 rfl) rfl
theorem q1999 : (Jvm.Cond.classLink "TurningWheel" (87 : Nat) "TurningWheel$3") ∈ lw_all := lw_g (lw_at lw_m8 236 rfl) rfl
theorem q2001 : (Jvm.Cond.methodLink "TurningWheel" (89 : Nat) ({ cls := "TurningWheel$3", name := "<init>", desc := "(LTurningWheel;I)V" } : Jvm.MethodName)) ∈ lw_all := lw_g (lw_at lw_m8 238 rfl) rfl
theorem q2013 : (Jvm.Cond.methodLink "TurningWheel" (92 : Nat) ({ cls := "TurningWheel$3", name := "done", desc := "()I" } : Jvm.MethodName)) ∈ lw_all := lw_g (lw_at lw_m9 10 rfl) rfl
theorem q2017 : (Jvm.Cond.instanceMethod ({ cls := "TurningWheel", name := "pot", desc := "(III)I" } : Jvm.MethodName)) ∈ lw_all := lw_g (lw_at lw_m9 14 rfl) rfl
theorem q2018 : (Jvm.Cond.selects "TurningWheel" ({ cls := "TurningWheel", name := "pot", desc := "(III)I" } : Jvm.MethodName) ({ cls := "TurningWheel", name := "pot", desc := "(III)I" } : Jvm.MethodName)) ∈ lw_all := lw_g (lw_at lw_m9 15 rfl) rfl
theorem q2019 : (Jvm.Cond.code ({ cls := "TurningWheel", name := "pot", desc := "(III)I" } : Jvm.MethodName) prog_1_method_13_code (4 : Nat) (Option.some Jvm.ClassFile.FieldType.int)) ∈ lw_all := lw_g (lw_at lw_m9 16 rfl) rfl
theorem q2020 : (Jvm.Cond.classLink "TurningWheel" (97 : Nat) "TurningWheel$4") ∈ lw_all := lw_g (lw_at lw_m9 17 rfl) rfl
theorem q2022 : (Jvm.Cond.methodLink "TurningWheel" (99 : Nat) ({ cls := "TurningWheel$4", name := "<init>", desc := "(LTurningWheel;III)V" } : Jvm.MethodName)) ∈ lw_all := lw_g (lw_at lw_m9 19 rfl) rfl
theorem q2040 : (Jvm.Cond.methodLink "TurningWheel" (102 : Nat) ({ cls := "TurningWheel$4", name := "done", desc := "()I" } : Jvm.MethodName)) ∈ lw_all := lw_g (lw_at lw_m9 37 rfl) rfl
theorem q2044 : (Jvm.Cond.instanceMethod ({ cls := "TurningWheel", name := "cover", desc := "(IZ)I" } : Jvm.MethodName)) ∈ lw_all := lw_g (lw_at lw_m9 41 rfl) rfl
theorem q2045 : (Jvm.Cond.selects "TurningWheel" ({ cls := "TurningWheel", name := "cover", desc := "(IZ)I" } : Jvm.MethodName) ({ cls := "TurningWheel", name := "cover", desc := "(IZ)I" } : Jvm.MethodName)) ∈ lw_all := lw_g (lw_at lw_m9 42 rfl) rfl
theorem q2046 : (Jvm.Cond.code ({ cls := "TurningWheel", name := "cover", desc := "(IZ)I" } : Jvm.MethodName) prog_1_method_14_code (3 : Nat) (Option.some Jvm.ClassFile.FieldType.int)) ∈ lw_all := lw_g (lw_at lw_m9 43 rfl) rfl
theorem q2047 : (Jvm.Cond.classLink "TurningWheel" (106 : Nat) "TurningWheel$5") ∈ lw_all := lw_g (lw_at lw_m9 44 rfl) rfl
theorem q2049 : (Jvm.Cond.methodLink "TurningWheel" (108 : Nat) ({ cls := "TurningWheel$5", name := "<init>", desc := "(LTurningWheel;IZ)V" } : Jvm.MethodName)) ∈ lw_all := lw_g (lw_at lw_m9 46 rfl) rfl
theorem q2064 : (Jvm.Cond.methodLink "TurningWheel" (111 : Nat) ({ cls := "TurningWheel$5", name := "done", desc := "()I" } : Jvm.MethodName)) ∈ lw_all := lw_g (lw_at lw_m9 61 rfl) rfl
theorem q2068 : (Jvm.Cond.instanceMethod ({ cls := "TurningWheel", name := "glaze", desc := "(III)I" } : Jvm.MethodName)) ∈ lw_all := lw_g (lw_at lw_m9 65 rfl) rfl
theorem q2069 : (Jvm.Cond.selects "TurningWheel" ({ cls := "TurningWheel", name := "glaze", desc := "(III)I" } : Jvm.MethodName) ({ cls := "TurningWheel", name := "glaze", desc := "(III)I" } : Jvm.MethodName)) ∈ lw_all := lw_g (lw_at lw_m9 66 rfl) rfl
theorem q2070 : (Jvm.Cond.code ({ cls := "TurningWheel", name := "glaze", desc := "(III)I" } : Jvm.MethodName) prog_1_method_15_code (4 : Nat) (Option.some Jvm.ClassFile.FieldType.int)) ∈ lw_all := lw_g (lw_at lw_m9 67 rfl) rfl
theorem q2071 : (Jvm.Cond.classLink "TurningWheel" (112 : Nat) "TurningWheel$6") ∈ lw_all := lw_g (lw_at lw_m9 68 rfl) rfl
theorem q2073 : (Jvm.Cond.methodLink "TurningWheel" (114 : Nat) ({ cls := "TurningWheel$6", name := "<init>", desc := "(LTurningWheel;III)V" } : Jvm.MethodName)) ∈ lw_all := lw_g (lw_at lw_m9 70 rfl) rfl
theorem q2091 : (Jvm.Cond.methodLink "TurningWheel" (115 : Nat) ({ cls := "TurningWheel$6", name := "done", desc := "()I" } : Jvm.MethodName)) ∈ lw_all := lw_g (lw_at lw_m9 88 rfl) rfl
theorem q2095 : (Jvm.Cond.instanceMethod ({ cls := "TurningWheel", name := "place", desc := "(II)I" } : Jvm.MethodName)) ∈ lw_all := lw_g (lw_at lw_m9 92 rfl) rfl
theorem q2096 : (Jvm.Cond.selects "TurningWheel" ({ cls := "TurningWheel", name := "place", desc := "(II)I" } : Jvm.MethodName) ({ cls := "TurningWheel", name := "place", desc := "(II)I" } : Jvm.MethodName)) ∈ lw_all := lw_g (lw_at lw_m9 93 rfl) rfl
theorem q2097 : (Jvm.Cond.code ({ cls := "TurningWheel", name := "place", desc := "(II)I" } : Jvm.MethodName) prog_1_method_16_code (3 : Nat) (Option.some Jvm.ClassFile.FieldType.int)) ∈ lw_all := lw_g (lw_at lw_m9 94 rfl) rfl
theorem q2098 : (Jvm.Cond.classLink "TurningWheel" (116 : Nat) "TurningWheel$7") ∈ lw_all := lw_g (lw_at lw_m9 95 rfl) rfl
theorem q2100 : (Jvm.Cond.methodLink "TurningWheel" (118 : Nat) ({ cls := "TurningWheel$7", name := "<init>", desc := "(LTurningWheel;II)V" } : Jvm.MethodName)) ∈ lw_all := lw_g (lw_at lw_m9 97 rfl) rfl
theorem q2115 : (Jvm.Cond.methodLink "TurningWheel" (119 : Nat) ({ cls := "TurningWheel$7", name := "done", desc := "()I" } : Jvm.MethodName)) ∈ lw_all := lw_g (lw_at lw_m9 112 rfl) rfl
theorem q2119 : (Jvm.Cond.instanceMethod ({ cls := "TurningWheel", name := "fire", desc := "()I" } : Jvm.MethodName)) ∈ lw_all := lw_g (lw_at lw_m9 116 rfl) rfl
theorem q2120 : (Jvm.Cond.selects "TurningWheel" ({ cls := "TurningWheel", name := "fire", desc := "()I" } : Jvm.MethodName) ({ cls := "TurningWheel", name := "fire", desc := "()I" } : Jvm.MethodName)) ∈ lw_all := lw_g (lw_at lw_m9 117 rfl) rfl
theorem q2121 : (Jvm.Cond.code ({ cls := "TurningWheel", name := "fire", desc := "()I" } : Jvm.MethodName) prog_1_method_17_code (1 : Nat) (Option.some Jvm.ClassFile.FieldType.int)) ∈ lw_all := lw_g (lw_at lw_m9 118 rfl) rfl
theorem q2122 : (Jvm.Cond.classLink "TurningWheel" (120 : Nat) "TurningWheel$8") ∈ lw_all := lw_g (lw_at lw_m9 119 rfl) rfl
theorem q2124 : (Jvm.Cond.methodLink "TurningWheel" (122 : Nat) ({ cls := "TurningWheel$8", name := "<init>", desc := "(LTurningWheel;)V" } : Jvm.MethodName)) ∈ lw_all := lw_g (lw_at lw_m9 121 rfl) rfl
theorem q2133 : (Jvm.Cond.methodLink "TurningWheel" (125 : Nat) ({ cls := "TurningWheel$8", name := "done", desc := "()I" } : Jvm.MethodName)) ∈ lw_all := lw_g (lw_at lw_m9 130 rfl) rfl
theorem q2137 : (Jvm.Cond.instanceMethod ({ cls := "TurningWheel", name := "order", desc := "(IIIII)I" } : Jvm.MethodName)) ∈ lw_all := lw_g (lw_at lw_m9 134 rfl) rfl
theorem q2138 : (Jvm.Cond.selects "TurningWheel" ({ cls := "TurningWheel", name := "order", desc := "(IIIII)I" } : Jvm.MethodName) ({ cls := "TurningWheel", name := "order", desc := "(IIIII)I" } : Jvm.MethodName)) ∈ lw_all := lw_g (lw_at lw_m9 135 rfl) rfl
theorem q2139 : (Jvm.Cond.code ({ cls := "TurningWheel", name := "order", desc := "(IIIII)I" } : Jvm.MethodName) prog_1_method_18_code (7 : Nat) (Option.some Jvm.ClassFile.FieldType.int)) ∈ lw_all := lw_g (lw_at lw_m9 136 rfl) rfl
theorem q2140 : (Jvm.Cond.classLink "TurningWheel" (126 : Nat) "TurningWheel$9") ∈ lw_all := lw_g (lw_at lw_m9 137 rfl) rfl
theorem q2142 : (Jvm.Cond.methodLink "TurningWheel" (128 : Nat) ({ cls := "TurningWheel$9", name := "<init>", desc := "(LTurningWheel;IIIII)V" } : Jvm.MethodName)) ∈ lw_all := lw_g (lw_at lw_m9 139 rfl) rfl
theorem q2166 : (Jvm.Cond.methodLink "TurningWheel" (131 : Nat) ({ cls := "TurningWheel$9", name := "done", desc := "()I" } : Jvm.MethodName)) ∈ lw_all := lw_g (lw_at lw_m9 163 rfl) rfl
theorem q2170 : (Jvm.Cond.instanceMethod ({ cls := "TurningWheel", name := "pass", desc := "(I)I" } : Jvm.MethodName)) ∈ lw_all := lw_g (lw_at lw_m9 167 rfl) rfl
theorem q2171 : (Jvm.Cond.selects "TurningWheel" ({ cls := "TurningWheel", name := "pass", desc := "(I)I" } : Jvm.MethodName) ({ cls := "TurningWheel", name := "pass", desc := "(I)I" } : Jvm.MethodName)) ∈ lw_all := lw_g (lw_at lw_m9 168 rfl) rfl
theorem q2172 : (Jvm.Cond.code ({ cls := "TurningWheel", name := "pass", desc := "(I)I" } : Jvm.MethodName) prog_1_method_19_code (2 : Nat) (Option.some Jvm.ClassFile.FieldType.int)) ∈ lw_all := lw_g (lw_at lw_m9 169 rfl) rfl
theorem q2173 : (Jvm.Cond.classLink "TurningWheel" (132 : Nat) "TurningWheel$10") ∈ lw_all := lw_g (lw_at lw_m9 170 rfl) rfl
theorem q2175 : (Jvm.Cond.methodLink "TurningWheel" (134 : Nat) ({ cls := "TurningWheel$10", name := "<init>", desc := "(LTurningWheel;I)V" } : Jvm.MethodName)) ∈ lw_all := lw_g (lw_at lw_m9 172 rfl) rfl
theorem q2187 : (Jvm.Cond.methodLink "TurningWheel" (135 : Nat) ({ cls := "TurningWheel$10", name := "done", desc := "()I" } : Jvm.MethodName)) ∈ lw_all := lw_g (lw_at lw_m9 184 rfl) rfl
theorem q2191 : (Jvm.Cond.instanceMethod ({ cls := "TurningWheel", name := "of", desc := "(II)I" } : Jvm.MethodName)) ∈ lw_all := lw_g (lw_at lw_m9 188 rfl) rfl
theorem q2192 : (Jvm.Cond.selects "TurningWheel" ({ cls := "TurningWheel", name := "of", desc := "(II)I" } : Jvm.MethodName) ({ cls := "TurningWheel", name := "of", desc := "(II)I" } : Jvm.MethodName)) ∈ lw_all := lw_g (lw_at lw_m9 189 rfl) rfl
theorem q2193 : (Jvm.Cond.code ({ cls := "TurningWheel", name := "of", desc := "(II)I" } : Jvm.MethodName) prog_1_method_20_code (4 : Nat) (Option.some Jvm.ClassFile.FieldType.int)) ∈ lw_all := lw_g (lw_at lw_m9 190 rfl) rfl
theorem q2194 : (Jvm.Cond.methodLink "TurningWheel" (136 : Nat) ({ cls := "java/util/ArrayList", name := "get", desc := "(I)Ljava/lang/Object;" } : Jvm.MethodName)) ∈ lw_all := lw_g (lw_at lw_m9 191 rfl) rfl
theorem q2195 : (Jvm.Cond.classLink "TurningWheel" (140 : Nat) "TurningWheel$Pot") ∈ lw_all := lw_g (lw_at lw_m9 192 rfl) rfl
theorem q2196 : (Jvm.Cond.methodLink "TurningWheel" (161 : Nat) ({ cls := "TurningWheel", name := "bit", desc := "(Z)I" } : Jvm.MethodName)) ∈ lw_all := lw_g (lw_at lw_m9 193 rfl) rfl
theorem q2197 : (Jvm.Cond.methodLink "TurningWheel" (169 : Nat) ({ cls := "TurningWheel$Ware", name := "glaze", desc := "()I" } : Jvm.MethodName)) ∈ lw_all := lw_g (lw_at lw_m9 194 rfl) rfl
theorem q2198 : (Jvm.Cond.methodLink "TurningWheel" (174 : Nat) ({ cls := "TurningWheel$Ware", name := "coats", desc := "()I" } : Jvm.MethodName)) ∈ lw_all := lw_g (lw_at lw_m9 195 rfl) rfl
theorem q2199 : (Jvm.Cond.methodLink "TurningWheel" (181 : Nat) ({ cls := "TurningWheel$Shelf", name := "placeOf", desc := "(I)I" } : Jvm.MethodName)) ∈ lw_all := lw_g (lw_at lw_m9 196 rfl) rfl
theorem q2200 : (Jvm.Cond.methodLink "TurningWheel" (192 : Nat) ({ cls := "TurningWheel$Pot", name := "isWhole", desc := "()Z" } : Jvm.MethodName)) ∈ lw_all := lw_g (lw_at lw_m9 197 rfl) rfl
theorem q2209 : (Jvm.Cond.instanceMethod ({ cls := "TurningWheel", name := "moisture", desc := "(I)F" } : Jvm.MethodName)) ∈ lw_all := lw_g (lw_at lw_m9 206 rfl) rfl
theorem q2210 : (Jvm.Cond.selects "TurningWheel" ({ cls := "TurningWheel", name := "moisture", desc := "(I)F" } : Jvm.MethodName) ({ cls := "TurningWheel", name := "moisture", desc := "(I)F" } : Jvm.MethodName)) ∈ lw_all := lw_g (lw_at lw_m9 207 rfl) rfl
theorem q2211 : (Jvm.Cond.code ({ cls := "TurningWheel", name := "moisture", desc := "(I)F" } : Jvm.MethodName) prog_1_method_21_code (2 : Nat) (Option.some Jvm.ClassFile.FieldType.float)) ∈ lw_all := lw_g (lw_at lw_m9 208 rfl) rfl
theorem q2212 : (Jvm.Cond.constantFloat "TurningWheel" (200 : Nat) (3212836864 : UInt32)) ∈ lw_all := lw_g (lw_at lw_m9 209 rfl) rfl
theorem q2214 : (Jvm.Cond.instanceMethod ({ cls := "TurningWheel", name := "moistureAgain", desc := "(I)F" } : Jvm.MethodName)) ∈ lw_all := lw_g (lw_at lw_m9 211 rfl) rfl
theorem q2215 : (Jvm.Cond.selects "TurningWheel" ({ cls := "TurningWheel", name := "moistureAgain", desc := "(I)F" } : Jvm.MethodName) ({ cls := "TurningWheel", name := "moistureAgain", desc := "(I)F" } : Jvm.MethodName)) ∈ lw_all := lw_g (lw_at lw_m9 212 rfl) rfl
theorem q2216 : (Jvm.Cond.code ({ cls := "TurningWheel", name := "moistureAgain", desc := "(I)F" } : Jvm.MethodName) prog_1_method_22_code (2 : Nat) (Option.some Jvm.ClassFile.FieldType.float)) ∈ lw_all := lw_g (lw_at lw_m9 213 rfl) rfl
theorem q2217 : (Jvm.Cond.methodLink "TurningWheel" (201 : Nat) ({ cls := "TurningWheel$Pot", name := "again", desc := "()F" } : Jvm.MethodName)) ∈ lw_all := lw_g (lw_at lw_m9 214 rfl) rfl
theorem q2222 : (Jvm.Cond.instanceMethod ({ cls := "TurningWheel", name := "shelf", desc := "(I)I" } : Jvm.MethodName)) ∈ lw_all := lw_g (lw_at lw_m9 219 rfl) rfl
theorem q2223 : (Jvm.Cond.selects "TurningWheel" ({ cls := "TurningWheel", name := "shelf", desc := "(I)I" } : Jvm.MethodName) ({ cls := "TurningWheel", name := "shelf", desc := "(I)I" } : Jvm.MethodName)) ∈ lw_all := lw_g (lw_at lw_m9 220 rfl) rfl
theorem q2224 : (Jvm.Cond.code ({ cls := "TurningWheel", name := "shelf", desc := "(I)I" } : Jvm.MethodName) prog_1_method_23_code (3 : Nat) (Option.some Jvm.ClassFile.FieldType.int)) ∈ lw_all := lw_g (lw_at lw_m9 221 rfl) rfl
theorem q2225 : (Jvm.Cond.methodLink "TurningWheel" (205 : Nat) ({ cls := "TurningWheel$Shelf", name := "at", desc := "(I)LTurningWheel$Ware;" } : Jvm.MethodName)) ∈ lw_all := lw_g (lw_at lw_m9 222 rfl) rfl
theorem q2226 : (Jvm.Cond.methodLink "TurningWheel" (209 : Nat) ({ cls := "TurningWheel$Ware", name := "pot", desc := "()I" } : Jvm.MethodName)) ∈ lw_all := lw_g (lw_at lw_m9 223 rfl) rfl
theorem q2228 : (Jvm.Cond.instanceMethod ({ cls := "TurningWheel", name := "kiln", desc := "(I)I" } : Jvm.MethodName)) ∈ lw_all := lw_g (lw_at lw_m9 225 rfl) rfl
theorem q2229 : (Jvm.Cond.selects "TurningWheel" ({ cls := "TurningWheel", name := "kiln", desc := "(I)I" } : Jvm.MethodName) ({ cls := "TurningWheel", name := "kiln", desc := "(I)I" } : Jvm.MethodName)) ∈ lw_all := lw_g (lw_at lw_m9 226 rfl) rfl
theorem q2230 : (Jvm.Cond.code ({ cls := "TurningWheel", name := "kiln", desc := "(I)I" } : Jvm.MethodName) prog_1_method_24_code (2 : Nat) (Option.some Jvm.ClassFile.FieldType.int)) ∈ lw_all := lw_g (lw_at lw_m9 227 rfl) rfl
theorem q2231 : (Jvm.Cond.methodLink "TurningWheel" (212 : Nat) ({ cls := "TurningWheel$Pottery", name := "onShelf", desc := "()Ljava/util/BitSet;" } : Jvm.MethodName)) ∈ lw_all := lw_g (lw_at lw_m9 228 rfl) rfl
theorem q2232 : (Jvm.Cond.methodLink "TurningWheel" (216 : Nat) ({ cls := "TurningWheel", name := "asBits", desc := "(Ljava/util/BitSet;)I" } : Jvm.MethodName)) ∈ lw_all := lw_g (lw_at lw_m9 229 rfl) rfl
theorem q2233 : (Jvm.Cond.static ({ cls := "TurningWheel", name := "asBits", desc := "(Ljava/util/BitSet;)I" } : Jvm.MethodName)) ∈ lw_all := lw_g (lw_at lw_m9 230 rfl) rfl
theorem q2234 : (Jvm.Cond.code ({ cls := "TurningWheel", name := "asBits", desc := "(Ljava/util/BitSet;)I" } : Jvm.MethodName) prog_1_method_3_code (3 : Nat) (Option.some Jvm.ClassFile.FieldType.int)) ∈ lw_all := lw_g (lw_at lw_m9 231 rfl) rfl
theorem q2235 : (Jvm.Cond.methodLink "TurningWheel" (1 : Nat) ({ cls := "java/util/BitSet", name := "nextSetBit", desc := "(I)I" } : Jvm.MethodName)) ∈ lw_all := lw_g (lw_at lw_m9 232 rfl) rfl
theorem q2236 : (Jvm.Cond.methodLink "TurningWheel" (220 : Nat) ({ cls := "TurningWheel$Pottery", name := "lost", desc := "()Ljava/util/BitSet;" } : Jvm.MethodName)) ∈ lw_all := lw_g (lw_at lw_m9 233 rfl) rfl
theorem q2237 : (Jvm.Cond.methodLink "TurningWheel" (223 : Nat) ({ cls := "TurningWheel$Pottery", name := "<init>", desc := "(LTurningWheel$Pottery;)V" } : Jvm.MethodName)) ∈ lw_all := lw_g (lw_at lw_m9 234 rfl) rfl
theorem q2238 : (Jvm.Cond.methodLink "TurningWheel" (226 : Nat) ({ cls := "TurningWheel$Pottery", name := "burns", desc := "()Ljava/util/BitSet;" } : Jvm.MethodName)) ∈ lw_all := lw_g (lw_at lw_m9 235 rfl) rfl
theorem q2240 : (Jvm.Cond.instanceMethod ({ cls := "TurningWheel", name := "ordered", desc := "(II)I" } : Jvm.MethodName)) ∈ lw_all := lw_g (lw_at lw_m9 237 rfl) rfl
theorem q2241 : (Jvm.Cond.selects "TurningWheel" ({ cls := "TurningWheel", name := "ordered", desc := "(II)I" } : Jvm.MethodName) ({ cls := "TurningWheel", name := "ordered", desc := "(II)I" } : Jvm.MethodName)) ∈ lw_all := lw_g (lw_at lw_m9 238 rfl) rfl
theorem q2242 : (Jvm.Cond.code ({ cls := "TurningWheel", name := "ordered", desc := "(II)I" } : Jvm.MethodName) prog_1_method_25_code (4 : Nat) (Option.some Jvm.ClassFile.FieldType.int)) ∈ lw_all := lw_g (lw_at lw_m9 239 rfl) rfl
theorem q2243 : (Jvm.Cond.classLink "TurningWheel" (232 : Nat) "TurningWheel$Order") ∈ lw_all := lw_g (lw_at lw_m10 0 rfl) rfl
theorem q2244 : (Jvm.Cond.methodLink "TurningWheel" (254 : Nat) ({ cls := "TurningWheel$Order", name := "isOpen", desc := "(I)Z" } : Jvm.MethodName)) ∈ lw_all := lw_g (lw_at lw_m10 1 rfl) rfl
theorem q2246 : (Jvm.Cond.instanceMethod ({ cls := "TurningWheel", name := "wheel", desc := "(I)I" } : Jvm.MethodName)) ∈ lw_all := lw_g (lw_at lw_m10 3 rfl) rfl
theorem q2247 : (Jvm.Cond.selects "TurningWheel" ({ cls := "TurningWheel", name := "wheel", desc := "(I)I" } : Jvm.MethodName) ({ cls := "TurningWheel", name := "wheel", desc := "(I)I" } : Jvm.MethodName)) ∈ lw_all := lw_g (lw_at lw_m10 4 rfl) rfl
theorem q2248 : (Jvm.Cond.code ({ cls := "TurningWheel", name := "wheel", desc := "(I)I" } : Jvm.MethodName) prog_1_method_26_code (2 : Nat) (Option.some Jvm.ClassFile.FieldType.int)) ∈ lw_all := lw_g (lw_at lw_m10 5 rfl) rfl
theorem q2249 : (Jvm.Cond.methodLink "TurningWheel" (267 : Nat) ({ cls := "java/util/LinkedList", name := "size", desc := "()I" } : Jvm.MethodName)) ∈ lw_all := lw_g (lw_at lw_m10 6 rfl) rfl
theorem q2251 : (Jvm.Cond.instanceMethod ({ cls := "TurningWheel", name := "waiting", desc := "(I)I" } : Jvm.MethodName)) ∈ lw_all := lw_g (lw_at lw_m10 8 rfl) rfl
theorem q2252 : (Jvm.Cond.selects "TurningWheel" ({ cls := "TurningWheel", name := "waiting", desc := "(I)I" } : Jvm.MethodName) ({ cls := "TurningWheel", name := "waiting", desc := "(I)I" } : Jvm.MethodName)) ∈ lw_all := lw_g (lw_at lw_m10 9 rfl) rfl
theorem q2253 : (Jvm.Cond.code ({ cls := "TurningWheel", name := "waiting", desc := "(I)I" } : Jvm.MethodName) prog_1_method_27_code (2 : Nat) (Option.some Jvm.ClassFile.FieldType.int)) ∈ lw_all := lw_g (lw_at lw_m10 10 rfl) rfl
theorem q2254 : (Jvm.Cond.methodLink "TurningWheel" (273 : Nat) ({ cls := "java/util/LinkedList", name := "get", desc := "(I)Ljava/lang/Object;" } : Jvm.MethodName)) ∈ lw_all := lw_g (lw_at lw_m10 11 rfl) rfl
theorem q2255 : (Jvm.Cond.classLink "TurningWheel" (274 : Nat) "java/lang/Integer") ∈ lw_all := lw_g (lw_at lw_m10 12 rfl) rfl
theorem q2256 : (Jvm.Cond.methodLink "TurningWheel" (276 : Nat) ({ cls := "java/lang/Integer", name := "intValue", desc := "()I" } : Jvm.MethodName)) ∈ lw_all := lw_g (lw_at lw_m10 13 rfl) rfl
theorem q2258 : (Jvm.Cond.instanceMethod ({ cls := "TurningWheel", name := "ahead", desc := "(II)I" } : Jvm.MethodName)) ∈ lw_all := lw_g (lw_at lw_m10 15 rfl) rfl
theorem q2259 : (Jvm.Cond.selects "TurningWheel" ({ cls := "TurningWheel", name := "ahead", desc := "(II)I" } : Jvm.MethodName) ({ cls := "TurningWheel", name := "ahead", desc := "(II)I" } : Jvm.MethodName)) ∈ lw_all := lw_g (lw_at lw_m10 16 rfl) rfl
theorem q2260 : (Jvm.Cond.code ({ cls := "TurningWheel", name := "ahead", desc := "(II)I" } : Jvm.MethodName) prog_1_method_29_code (6 : Nat) (Option.some Jvm.ClassFile.FieldType.int)) ∈ lw_all := lw_g (lw_at lw_m10 17 rfl) rfl
theorem q2261 : (Jvm.Cond.methodLink "TurningWheel" (302 : Nat) ({ cls := "TurningWheel", name := "turnOf", desc := "(ILTurningWheel$Pot;)LTurningWheel$Turn;" } : Jvm.MethodName)) ∈ lw_all := lw_g (lw_at lw_m10 18 rfl) rfl
theorem q2262 : (Jvm.Cond.static ({ cls := "TurningWheel", name := "turnOf", desc := "(ILTurningWheel$Pot;)LTurningWheel$Turn;" } : Jvm.MethodName)) ∈ lw_all := lw_g (lw_at lw_m10 19 rfl) rfl
theorem q2263 : (Jvm.Cond.code ({ cls := "TurningWheel", name := "turnOf", desc := "(ILTurningWheel$Pot;)LTurningWheel$Turn;" } : Jvm.MethodName) prog_1_method_28_code (3 : Nat) (Option.some (Jvm.ClassFile.FieldType.object "TurningWheel$Turn"))) ∈ lw_all := lw_g (lw_at lw_m10 20 rfl) rfl
theorem q2264 : (Jvm.Cond.classLink "TurningWheel" (279 : Nat) "TurningWheel$Starts") ∈ lw_all := lw_g (lw_at lw_m10 21 rfl) rfl
theorem q2266 : (Jvm.Cond.methodLink "TurningWheel" (281 : Nat) ({ cls := "TurningWheel$Starts", name := "<init>", desc := "()V" } : Jvm.MethodName)) ∈ lw_all := lw_g (lw_at lw_m10 23 rfl) rfl
theorem q2277 : (Jvm.Cond.classLink "TurningWheel" (282 : Nat) "TurningWheel$Ends") ∈ lw_all := lw_g (lw_at lw_m10 34 rfl) rfl
theorem q2279 : (Jvm.Cond.methodLink "TurningWheel" (284 : Nat) ({ cls := "TurningWheel$Ends", name := "<init>", desc := "()V" } : Jvm.MethodName)) ∈ lw_all := lw_g (lw_at lw_m10 36 rfl) rfl
theorem q2285 : (Jvm.Cond.classLink "TurningWheel" (285 : Nat) "TurningWheel$Breaks") ∈ lw_all := lw_g (lw_at lw_m10 42 rfl) rfl
theorem q2287 : (Jvm.Cond.methodLink "TurningWheel" (287 : Nat) ({ cls := "TurningWheel$Breaks", name := "<init>", desc := "(LTurningWheel$Pot;)V" } : Jvm.MethodName)) ∈ lw_all := lw_g (lw_at lw_m10 44 rfl) rfl
theorem q2296 : (Jvm.Cond.classLink "TurningWheel" (290 : Nat) "TurningWheel$Dries") ∈ lw_all := lw_g (lw_at lw_m10 53 rfl) rfl
theorem q2298 : (Jvm.Cond.methodLink "TurningWheel" (292 : Nat) ({ cls := "TurningWheel$Dries", name := "<init>", desc := "()V" } : Jvm.MethodName)) ∈ lw_all := lw_g (lw_at lw_m10 55 rfl) rfl
theorem q2304 : (Jvm.Cond.methodLink "TurningWheel" (293 : Nat) ({ cls := "java/util/List", name := "of", desc := "(Ljava/lang/Object;Ljava/lang/Object;Ljava/lang/Object;Ljava/lang/Object;)Ljava/util/List;" } : Jvm.MethodName)) ∈ lw_all := lw_g (lw_at lw_m10 61 rfl) rfl
theorem q2356 : (Jvm.Cond.interfaceEntry "TurningWheel" (299 : Nat)) ∈ lw_tbl := lw_at lw_m10 113 rfl
theorem q2357 : (Jvm.Cond.methodLink "TurningWheel" (299 : Nat) ({ cls := "java/util/List", name := "get", desc := "(I)Ljava/lang/Object;" } : Jvm.MethodName)) ∈ lw_all := lw_g (lw_at lw_m10 114 rfl) rfl
theorem q2358 : (Jvm.Cond.classLink "TurningWheel" (300 : Nat) "TurningWheel$Turn") ∈ lw_all := lw_g (lw_at lw_m10 115 rfl) rfl
theorem q2359 : (Jvm.Cond.methodLink "TurningWheel" (306 : Nat) ({ cls := "TurningWheel$Turn", name := "can", desc := "(LTurningWheel$Pot;)Z" } : Jvm.MethodName)) ∈ lw_all := lw_g (lw_at lw_m10 116 rfl) rfl
theorem q2367 : (Jvm.Cond.methodLink "TurningWheel" (310 : Nat) ({ cls := "TurningWheel$Pottery", name := "goesHour", desc := "()V" } : Jvm.MethodName)) ∈ lw_all := lw_g (lw_at lw_m10 124 rfl) rfl
theorem q2368 : (Jvm.Cond.methodLink "TurningWheel" (313 : Nat) ({ cls := "TurningWheel$Turn", name := "isSo", desc := "(LTurningWheel$Pot;)Z" } : Jvm.MethodName)) ∈ lw_all := lw_g (lw_at lw_m10 125 rfl) rfl
theorem q2381 : (Jvm.Cond.instanceMethod ({ cls := "TurningWheel", name := "meanMoisture", desc := "()D" } : Jvm.MethodName)) ∈ lw_all := lw_g (lw_at lw_m10 138 rfl) rfl
theorem q2382 : (Jvm.Cond.selects "TurningWheel" ({ cls := "TurningWheel", name := "meanMoisture", desc := "()D" } : Jvm.MethodName) ({ cls := "TurningWheel", name := "meanMoisture", desc := "()D" } : Jvm.MethodName)) ∈ lw_all := lw_g (lw_at lw_m10 139 rfl) rfl
theorem q2383 : (Jvm.Cond.code ({ cls := "TurningWheel", name := "meanMoisture", desc := "()D" } : Jvm.MethodName) prog_1_method_30_code (6 : Nat) (Option.some Jvm.ClassFile.FieldType.double)) ∈ lw_all := lw_g (lw_at lw_m10 140 rfl) rfl
theorem q2385 : (Jvm.Cond.instanceMethod ({ cls := "TurningWheel", name := "wholeShare", desc := "()F" } : Jvm.MethodName)) ∈ lw_all := lw_g (lw_at lw_m10 142 rfl) rfl
theorem q2386 : (Jvm.Cond.selects "TurningWheel" ({ cls := "TurningWheel", name := "wholeShare", desc := "()F" } : Jvm.MethodName) ({ cls := "TurningWheel", name := "wholeShare", desc := "()F" } : Jvm.MethodName)) ∈ lw_all := lw_g (lw_at lw_m10 143 rfl) rfl
theorem q2387 : (Jvm.Cond.code ({ cls := "TurningWheel", name := "wholeShare", desc := "()F" } : Jvm.MethodName) prog_1_method_31_code (4 : Nat) (Option.some Jvm.ClassFile.FieldType.float)) ∈ lw_all := lw_g (lw_at lw_m10 144 rfl) rfl
theorem q2388 : (Jvm.Cond.methodLink "TurningWheel" (316 : Nat) ({ cls := "TurningWheel$Pot", name := "cameOff", desc := "()Z" } : Jvm.MethodName)) ∈ lw_all := lw_g (lw_at lw_m10 145 rfl) rfl
theorem q2390 : (Jvm.Cond.instanceMethod ({ cls := "TurningWheel", name := "account", desc := "(I)I" } : Jvm.MethodName)) ∈ lw_all := lw_g (lw_at lw_m10 147 rfl) rfl
theorem q2391 : (Jvm.Cond.selects "TurningWheel" ({ cls := "TurningWheel", name := "account", desc := "(I)I" } : Jvm.MethodName) ({ cls := "TurningWheel", name := "account", desc := "(I)I" } : Jvm.MethodName)) ∈ lw_all := lw_g (lw_at lw_m10 148 rfl) rfl
theorem q2392 : (Jvm.Cond.code ({ cls := "TurningWheel", name := "account", desc := "(I)I" } : Jvm.MethodName) prog_1_method_34_code (2 : Nat) (Option.some Jvm.ClassFile.FieldType.int)) ∈ lw_all := lw_g (lw_at lw_m10 149 rfl) rfl
theorem q2393 : (Jvm.Cond.methodLink "TurningWheel" (319 : Nat) ({ cls := "TurningWheel$Pottery", name := "many", desc := "(I)I" } : Jvm.MethodName)) ∈ lw_all := lw_g (lw_at lw_m10 150 rfl) rfl
theorem q2397 : (Jvm.Cond.methodLink "TurningWheel" (327 : Nat) ({ cls := "TurningWheel", name := "allCracks", desc := "()I" } : Jvm.MethodName)) ∈ lw_all := lw_g (lw_at lw_m10 154 rfl) rfl
theorem q2398 : (Jvm.Cond.privateMethod ({ cls := "TurningWheel", name := "allCracks", desc := "()I" } : Jvm.MethodName)) ∈ lw_tbl := lw_at lw_m10 155 rfl
theorem q2399 : (Jvm.Cond.instanceMethod ({ cls := "TurningWheel", name := "allCracks", desc := "()I" } : Jvm.MethodName)) ∈ lw_all := lw_g (lw_at lw_m10 156 rfl) rfl
theorem q2400 : (Jvm.Cond.code ({ cls := "TurningWheel", name := "allCracks", desc := "()I" } : Jvm.MethodName) prog_1_method_32_code (3 : Nat) (Option.some Jvm.ClassFile.FieldType.int)) ∈ lw_all := lw_g (lw_at lw_m10 157 rfl) rfl
theorem q2401 : (Jvm.Cond.methodLink "TurningWheel" (330 : Nat) ({ cls := "TurningWheel", name := "openOrders", desc := "()I" } : Jvm.MethodName)) ∈ lw_all := lw_g (lw_at lw_m10 158 rfl) rfl
theorem q2402 : (Jvm.Cond.privateMethod ({ cls := "TurningWheel", name := "openOrders", desc := "()I" } : Jvm.MethodName)) ∈ lw_tbl := lw_at lw_m10 159 rfl
theorem q2403 : (Jvm.Cond.instanceMethod ({ cls := "TurningWheel", name := "openOrders", desc := "()I" } : Jvm.MethodName)) ∈ lw_all := lw_g (lw_at lw_m10 160 rfl) rfl
theorem q2404 : (Jvm.Cond.code ({ cls := "TurningWheel", name := "openOrders", desc := "()I" } : Jvm.MethodName) prog_1_method_33_code (3 : Nat) (Option.some Jvm.ClassFile.FieldType.int)) ∈ lw_all := lw_g (lw_at lw_m10 161 rfl) rfl
theorem q2405 : (Jvm.Cond.methodLink "TurningWheel" (336 : Nat) ({ cls := "TurningWheel$Pottery", name := "restLeft", desc := "()I" } : Jvm.MethodName)) ∈ lw_all := lw_g (lw_at lw_m10 162 rfl) rfl
theorem q2407 : (Jvm.Cond.instanceMethod ({ cls := "TurningWheel", name := "append", desc := "(C)I" } : Jvm.MethodName)) ∈ lw_all := lw_g (lw_at lw_m10 164 rfl) rfl
theorem q2408 : (Jvm.Cond.selects "TurningWheel" ({ cls := "TurningWheel", name := "append", desc := "(C)I" } : Jvm.MethodName) ({ cls := "TurningWheel", name := "append", desc := "(C)I" } : Jvm.MethodName)) ∈ lw_all := lw_g (lw_at lw_m10 165 rfl) rfl
theorem q2409 : (Jvm.Cond.code ({ cls := "TurningWheel", name := "append", desc := "(C)I" } : Jvm.MethodName) prog_1_method_35_code (2 : Nat) (Option.some Jvm.ClassFile.FieldType.int)) ∈ lw_all := lw_g (lw_at lw_m10 166 rfl) rfl
theorem q2411 : (Jvm.Cond.instanceMethod ({ cls := "TurningWheel", name := "read", desc := "()I" } : Jvm.MethodName)) ∈ lw_all := lw_g (lw_at lw_m10 168 rfl) rfl
theorem q2412 : (Jvm.Cond.selects "TurningWheel" ({ cls := "TurningWheel", name := "read", desc := "()I" } : Jvm.MethodName) ({ cls := "TurningWheel", name := "read", desc := "()I" } : Jvm.MethodName)) ∈ lw_all := lw_g (lw_at lw_m10 169 rfl) rfl
theorem q2413 : (Jvm.Cond.codeWith ({ cls := "TurningWheel", name := "read", desc := "()I" } : Jvm.MethodName) prog_1_method_41_code (4 : Nat) (Option.some Jvm.ClassFile.FieldType.int) [((0 : Nat), (25 : Nat), (32 : Nat), (427 : Nat)), ((0 : Nat), (25 : Nat), (51 : Nat), (0 : Nat)), ((32 : Nat), (44 : Nat), (51 : Nat), (0 : Nat))]) ∈ lw_all := lw_g (lw_at lw_m10 170 rfl) rfl
theorem q2414 : (Jvm.Cond.classLink "TurningWheel" (427 : Nat) "TurningWheel$BadSign") ∈ lw_all := lw_g (lw_at lw_m10 171 rfl) rfl
theorem q2415 : (Jvm.Cond.classLink "TurningWheel" (414 : Nat) "TurningWheel$Reader") ∈ lw_all := lw_g (lw_at lw_m10 172 rfl) rfl
theorem q2417 : (Jvm.Cond.methodLinkNest "TurningWheel" (416 : Nat) ({ cls := "TurningWheel$Reader", name := "<init>", desc := "(LTurningWheel;)V" } : Jvm.MethodName) "TurningWheel") ∈ lw_tbl := lw_at lw_m10 174 rfl
theorem q2428 : (Jvm.Cond.methodLink "TurningWheel" (417 : Nat) ({ cls := "TurningWheel$Reader", name := "whole", desc := "()Ljava/util/List;" } : Jvm.MethodName)) ∈ lw_all := lw_g (lw_at lw_m10 185 rfl) rfl
theorem q2452 : (Jvm.Cond.fieldLinkNest "TurningWheel" (429 : Nat) "TurningWheel$BadSign" "place" "I" "TurningWheel") ∈ lw_tbl := lw_at lw_m10 209 rfl
theorem q2485 : (Jvm.Cond.fieldLinkNest "TurningWheel" (362 : Nat) "TurningWheel$Command" "letter" "C" "TurningWheel") ∈ lw_tbl := lw_at lw_m11 2 rfl
theorem q2487 : (Jvm.Cond.fieldLinkNest "TurningWheel" (357 : Nat) "TurningWheel$Command" "numbers" "[I" "TurningWheel") ∈ lw_tbl := lw_at lw_m11 4 rfl
theorem q2542 : (Jvm.Cond.classLink "TurningWheel" (421 : Nat) "TurningWheel$11") ∈ lw_all := lw_g (lw_at lw_m11 59 rfl) rfl
theorem q2544 : (Jvm.Cond.methodLink "TurningWheel" (423 : Nat) ({ cls := "TurningWheel$11", name := "<init>", desc := "(LTurningWheel;Ljava/util/List;)V" } : Jvm.MethodName)) ∈ lw_all := lw_g (lw_at lw_m11 61 rfl) rfl
theorem q2556 : (Jvm.Cond.methodLink "TurningWheel" (426 : Nat) ({ cls := "TurningWheel$11", name := "done", desc := "()I" } : Jvm.MethodName)) ∈ lw_all := lw_g (lw_at lw_m11 73 rfl) rfl
theorem q2560 : (Jvm.Cond.instanceMethod ({ cls := "TurningWheel", name := "fault", desc := "()I" } : Jvm.MethodName)) ∈ lw_all := lw_g (lw_at lw_m11 77 rfl) rfl
theorem q2561 : (Jvm.Cond.selects "TurningWheel" ({ cls := "TurningWheel", name := "fault", desc := "()I" } : Jvm.MethodName) ({ cls := "TurningWheel", name := "fault", desc := "()I" } : Jvm.MethodName)) ∈ lw_all := lw_g (lw_at lw_m11 78 rfl) rfl
theorem q2562 : (Jvm.Cond.code ({ cls := "TurningWheel", name := "fault", desc := "()I" } : Jvm.MethodName) prog_1_method_42_code (1 : Nat) (Option.some Jvm.ClassFile.FieldType.int)) ∈ lw_all := lw_g (lw_at lw_m11 79 rfl) rfl
theorem q2564 : (Jvm.Cond.instanceMethod ({ cls := "TurningWheel", name := "reason", desc := "(IZ)I" } : Jvm.MethodName)) ∈ lw_all := lw_g (lw_at lw_m11 81 rfl) rfl
theorem q2565 : (Jvm.Cond.selects "TurningWheel" ({ cls := "TurningWheel", name := "reason", desc := "(IZ)I" } : Jvm.MethodName) ({ cls := "TurningWheel", name := "reason", desc := "(IZ)I" } : Jvm.MethodName)) ∈ lw_all := lw_g (lw_at lw_m11 82 rfl) rfl
theorem q2566 : (Jvm.Cond.code ({ cls := "TurningWheel", name := "reason", desc := "(IZ)I" } : Jvm.MethodName) prog_1_method_43_code (4 : Nat) (Option.some Jvm.ClassFile.FieldType.int)) ∈ lw_all := lw_g (lw_at lw_m11 83 rfl) rfl
theorem q2567 : (Jvm.Cond.methodLink "TurningWheel" (430 : Nat) ({ cls := "TurningWheel$Refused", name := "behind", desc := "(I)LTurningWheel$Refused;" } : Jvm.MethodName)) ∈ lw_all := lw_g (lw_at lw_m11 84 rfl) rfl
theorem q2583 : (Jvm.Cond.methodLink "TurningWheel" (434 : Nat) ({ cls := "TurningWheel$Refused", name := "told", desc := "(Z)I" } : Jvm.MethodName)) ∈ lw_all := lw_g (lw_at lw_m11 100 rfl) rfl
theorem q2588 : (Jvm.Cond.instanceMethod ({ cls := "TurningWheel", name := "undo", desc := "()I" } : Jvm.MethodName)) ∈ lw_all := lw_g (lw_at lw_m11 105 rfl) rfl
theorem q2589 : (Jvm.Cond.selects "TurningWheel" ({ cls := "TurningWheel", name := "undo", desc := "()I" } : Jvm.MethodName) ({ cls := "TurningWheel", name := "undo", desc := "()I" } : Jvm.MethodName)) ∈ lw_all := lw_g (lw_at lw_m11 106 rfl) rfl
theorem q2590 : (Jvm.Cond.code ({ cls := "TurningWheel", name := "undo", desc := "()I" } : Jvm.MethodName) prog_1_method_44_code (1 : Nat) (Option.some Jvm.ClassFile.FieldType.int)) ∈ lw_all := lw_g (lw_at lw_m11 107 rfl) rfl
theorem q2591 : (Jvm.Cond.methodLink "TurningWheel" (437 : Nat) ({ cls := "java/util/ArrayDeque", name := "isEmpty", desc := "()Z" } : Jvm.MethodName)) ∈ lw_all := lw_g (lw_at lw_m11 108 rfl) rfl
theorem q2595 : (Jvm.Cond.methodLink "TurningWheel" (440 : Nat) ({ cls := "java/util/ArrayDeque", name := "removeLast", desc := "()Ljava/lang/Object;" } : Jvm.MethodName)) ∈ lw_all := lw_g (lw_at lw_m11 112 rfl) rfl
theorem q2604 : (Jvm.Cond.instanceMethod ({ cls := "TurningWheel", name := "save", desc := "()I" } : Jvm.MethodName)) ∈ lw_all := lw_g (lw_at lw_m11 121 rfl) rfl
theorem q2605 : (Jvm.Cond.selects "TurningWheel" ({ cls := "TurningWheel", name := "save", desc := "()I" } : Jvm.MethodName) ({ cls := "TurningWheel", name := "save", desc := "()I" } : Jvm.MethodName)) ∈ lw_all := lw_g (lw_at lw_m11 122 rfl) rfl
theorem q2606 : (Jvm.Cond.code ({ cls := "TurningWheel", name := "save", desc := "()I" } : Jvm.MethodName) prog_1_method_45_code (1 : Nat) (Option.some Jvm.ClassFile.FieldType.int)) ∈ lw_all := lw_g (lw_at lw_m11 123 rfl) rfl
theorem q2608 : (Jvm.Cond.instanceMethod ({ cls := "TurningWheel", name := "restore", desc := "()I" } : Jvm.MethodName)) ∈ lw_all := lw_g (lw_at lw_m11 125 rfl) rfl
theorem q2609 : (Jvm.Cond.selects "TurningWheel" ({ cls := "TurningWheel", name := "restore", desc := "()I" } : Jvm.MethodName) ({ cls := "TurningWheel", name := "restore", desc := "()I" } : Jvm.MethodName)) ∈ lw_all := lw_g (lw_at lw_m11 126 rfl) rfl
theorem q2610 : (Jvm.Cond.code ({ cls := "TurningWheel", name := "restore", desc := "()I" } : Jvm.MethodName) prog_1_method_46_code (1 : Nat) (Option.some Jvm.ClassFile.FieldType.int)) ∈ lw_all := lw_g (lw_at lw_m11 127 rfl) rfl
theorem q3043 : (Jvm.Cond.castable "TurningWheel" "java/lang/Object") ∈ lw_tbl := lw_at lw_m13 80 rfl
theorem in_X0 : ∀ w ∈ wsX00, w ∈ lw_all := lw_in wsX00 [329, 331, 333, 335, 337, 339, 341] (by decide +kernel) (by decide +kernel)

/-! TurningWheel$Pottery -/
set_option maxRecDepth 100000
def RX1 : String := "TurningWheel$Pottery"
def TX1 : u_T := fun k => match k with
  | 0 => ("TurningWheel$Pottery", "settings", "[I", false)
  | 1 => ("TurningWheel$Pottery", "dryness", "[I", false)
  | 2 => ("TurningWheel$Pottery", "skills", "[I", false)
  | 3 => ("TurningWheel$Pottery", "pots", "Ljava/util/ArrayList;", true)
  | 4 => ("TurningWheel$Pottery", "orders", "Ljava/util/ArrayList;", true)
  | 5 => ("TurningWheel$Pottery", "row", "Ljava/util/LinkedList;", true)
  | 6 => ("TurningWheel$Pottery", "shelf", "LTurningWheel$Shelf;", false)
  | 7 => ("TurningWheel$Pottery", "clock", "I", false)
  | 8 => ("TurningWheel$Pottery", "wheel", "I", false)
  | 9 => ("TurningWheel$Pottery", "needs", "I", false)
  | 10 => ("TurningWheel$Pottery", "last", "I", false)
  | 11 => ("TurningWheel$Pottery", "ready", "I", false)
  | _ => ("TurningWheel$Pottery", "earned", "I", false)
def tyX1 : Nat → FieldType := fun k => match k with
  | 0 => .array .int
  | 1 => .array .int
  | 2 => .array .int
  | 3 => .object "java/util/ArrayList"
  | 4 => .object "java/util/ArrayList"
  | 5 => .object "java/util/LinkedList"
  | 6 => .object "TurningWheel$Shelf"
  | 7 => .int
  | 8 => .int
  | 9 => .int
  | 10 => .int
  | 11 => .int
  | _ => .int
abbrev wsX10 : List Cond := u_ws RX1 TX1 13
set_option maxRecDepth 100000 in
theorem nmX1 : ∀ a, a < 13 → ∀ b, b < 13 → a ≠ b → (TX1 a).2.1 ≠ (TX1 b).2.1 := by decide +kernel
set_option maxRecDepth 100000 in
theorem tyX1_ok : ∀ k, k < 13 → parseFieldDescriptor (TX1 k).2.2.1 = some (tyX1 k) := by decide +kernel
abbrev cX1_init : ByteArray := prog_23_method_1_code
def yX1_init : MethodName := ⟨RX1, "<init>", "()V"⟩
def dkwX1_init_5 : List UInt8 := [16, 24, 162, 0, 17, 42, 180, 0, 15, 27, 16, 20, 79, 132, 1, 1, 167, 255, 239, 177]
abbrev dktX1_init_5 : List UInt8 := dkwX1_init_5 ++ []
def dkwX1_init_4 : List UInt8 := [187, 0, 38, 89, 183, 0, 40, 181, 0, 41, 42, 2, 181, 0, 45, 42, 2, 181, 0, 49, 3, 60, 27]
abbrev dktX1_init_4 : List UInt8 := dkwX1_init_4 ++ dktX1_init_5
def dkwX1_init_3 : List UInt8 := [187, 0, 21, 89, 183, 0, 23, 181, 0, 28, 42, 187, 0, 31, 89, 183, 0, 33, 181, 0, 34, 42]
abbrev dktX1_init_3 : List UInt8 := dkwX1_init_3 ++ dktX1_init_4
def dkwX1_init_2 : List UInt8 := [181, 0, 15, 42, 3, 188, 10, 181, 0, 18, 42, 187, 0, 21, 89, 183, 0, 23, 181, 0, 24, 42]
abbrev dktX1_init_2 : List UInt8 := dkwX1_init_2 ++ dktX1_init_3
def dkwX1_init_1 : List UInt8 := [16, 8, 79, 89, 7, 17, 0, 150, 79, 89, 8, 16, 12, 79, 181, 0, 9, 42, 16, 24, 188, 10]
abbrev dktX1_init_1 : List UInt8 := dkwX1_init_1 ++ dktX1_init_2
def dkwX1_init_0 : List UInt8 := [42, 183, 0, 3, 42, 16, 6, 188, 10, 89, 3, 4, 79, 89, 4, 6, 79, 89, 5, 8, 79, 89, 6]
abbrev dktX1_init_0 : List UInt8 := dkwX1_init_0 ++ dktX1_init_1
theorem dksX1_init_0 : cX1_init.data.toList.drop 0 = dktX1_init_0 := by decide +kernel
theorem dksX1_init_1 : cX1_init.data.toList.drop 23 = dktX1_init_1 := dk_seg dksX1_init_0 23 rfl rfl
theorem dksX1_init_2 : cX1_init.data.toList.drop 45 = dktX1_init_2 := dk_seg dksX1_init_1 22 rfl rfl
theorem dksX1_init_3 : cX1_init.data.toList.drop 67 = dktX1_init_3 := dk_seg dksX1_init_2 22 rfl rfl
theorem dksX1_init_4 : cX1_init.data.toList.drop 89 = dktX1_init_4 := dk_seg dksX1_init_3 22 rfl rfl
theorem dksX1_init_5 : cX1_init.data.toList.drop 112 = dktX1_init_5 := dk_seg dksX1_init_4 23 rfl rfl
theorem dX1_init_0 : decode cX1_init 0 = .ok (.aload_n 0, 1) := dk_42 (dk_at dksX1_init_0 0 rfl rfl)
theorem dX1_init_1 : decode cX1_init 1 = .ok (.invokespecial 3, 3) := dk_183 0 3 (dk_at dksX1_init_0 1 rfl rfl)
theorem dX1_init_4 : decode cX1_init 4 = .ok (.aload_n 0, 1) := dk_42 (dk_at dksX1_init_0 4 rfl rfl)
theorem dX1_init_5 : decode cX1_init 5 = .ok (.bipush 6, 2) := dk_16 6 (dk_at dksX1_init_0 5 rfl rfl)
theorem dX1_init_7 : decode cX1_init 7 = .ok (.newarray .int, 2) := dk_188_10 (dk_at dksX1_init_0 7 rfl rfl)
theorem dX1_init_9 : decode cX1_init 9 = .ok (.dup, 1) := dk_89 (dk_at dksX1_init_0 9 rfl rfl)
theorem dX1_init_10 : decode cX1_init 10 = .ok (.iconst 0, 1) := dk_3 (dk_at dksX1_init_0 10 rfl rfl)
theorem dX1_init_11 : decode cX1_init 11 = .ok (.iconst 1, 1) := dk_4 (dk_at dksX1_init_0 11 rfl rfl)
theorem dX1_init_12 : decode cX1_init 12 = .ok (.iastore, 1) := dk_79 (dk_at dksX1_init_0 12 rfl rfl)
theorem dX1_init_13 : decode cX1_init 13 = .ok (.dup, 1) := dk_89 (dk_at dksX1_init_0 13 rfl rfl)
theorem dX1_init_14 : decode cX1_init 14 = .ok (.iconst 1, 1) := dk_4 (dk_at dksX1_init_0 14 rfl rfl)
theorem dX1_init_15 : decode cX1_init 15 = .ok (.iconst 3, 1) := dk_6 (dk_at dksX1_init_0 15 rfl rfl)
theorem dX1_init_16 : decode cX1_init 16 = .ok (.iastore, 1) := dk_79 (dk_at dksX1_init_0 16 rfl rfl)
theorem dX1_init_17 : decode cX1_init 17 = .ok (.dup, 1) := dk_89 (dk_at dksX1_init_0 17 rfl rfl)
theorem dX1_init_18 : decode cX1_init 18 = .ok (.iconst 2, 1) := dk_5 (dk_at dksX1_init_0 18 rfl rfl)
theorem dX1_init_19 : decode cX1_init 19 = .ok (.iconst 5, 1) := dk_8 (dk_at dksX1_init_0 19 rfl rfl)
theorem dX1_init_20 : decode cX1_init 20 = .ok (.iastore, 1) := dk_79 (dk_at dksX1_init_0 20 rfl rfl)
theorem dX1_init_21 : decode cX1_init 21 = .ok (.dup, 1) := dk_89 (dk_at dksX1_init_0 21 rfl rfl)
theorem dX1_init_22 : decode cX1_init 22 = .ok (.iconst 3, 1) := dk_6 (dk_at dksX1_init_0 22 rfl rfl)
theorem dX1_init_23 : decode cX1_init 23 = .ok (.bipush 8, 2) := dk_16 8 (dk_at dksX1_init_1 0 rfl rfl)
theorem dX1_init_25 : decode cX1_init 25 = .ok (.iastore, 1) := dk_79 (dk_at dksX1_init_1 2 rfl rfl)
theorem dX1_init_26 : decode cX1_init 26 = .ok (.dup, 1) := dk_89 (dk_at dksX1_init_1 3 rfl rfl)
theorem dX1_init_27 : decode cX1_init 27 = .ok (.iconst 4, 1) := dk_7 (dk_at dksX1_init_1 4 rfl rfl)
theorem dX1_init_28 : decode cX1_init 28 = .ok (.sipush 150, 3) := dk_17 0 150 (dk_at dksX1_init_1 5 rfl rfl)
theorem dX1_init_31 : decode cX1_init 31 = .ok (.iastore, 1) := dk_79 (dk_at dksX1_init_1 8 rfl rfl)
theorem dX1_init_32 : decode cX1_init 32 = .ok (.dup, 1) := dk_89 (dk_at dksX1_init_1 9 rfl rfl)
theorem dX1_init_33 : decode cX1_init 33 = .ok (.iconst 5, 1) := dk_8 (dk_at dksX1_init_1 10 rfl rfl)
theorem dX1_init_34 : decode cX1_init 34 = .ok (.bipush 12, 2) := dk_16 12 (dk_at dksX1_init_1 11 rfl rfl)
theorem dX1_init_36 : decode cX1_init 36 = .ok (.iastore, 1) := dk_79 (dk_at dksX1_init_1 13 rfl rfl)
theorem dX1_init_37 : decode cX1_init 37 = .ok (.putfield 9, 3) := dk_181 0 9 (dk_at dksX1_init_1 14 rfl rfl)
theorem dX1_init_40 : decode cX1_init 40 = .ok (.aload_n 0, 1) := dk_42 (dk_at dksX1_init_1 17 rfl rfl)
theorem dX1_init_41 : decode cX1_init 41 = .ok (.bipush 24, 2) := dk_16 24 (dk_at dksX1_init_1 18 rfl rfl)
theorem dX1_init_43 : decode cX1_init 43 = .ok (.newarray .int, 2) := dk_188_10 (dk_at dksX1_init_1 20 rfl rfl)
theorem dX1_init_45 : decode cX1_init 45 = .ok (.putfield 15, 3) := dk_181 0 15 (dk_at dksX1_init_2 0 rfl rfl)
theorem dX1_init_48 : decode cX1_init 48 = .ok (.aload_n 0, 1) := dk_42 (dk_at dksX1_init_2 3 rfl rfl)
theorem dX1_init_49 : decode cX1_init 49 = .ok (.iconst 0, 1) := dk_3 (dk_at dksX1_init_2 4 rfl rfl)
theorem dX1_init_50 : decode cX1_init 50 = .ok (.newarray .int, 2) := dk_188_10 (dk_at dksX1_init_2 5 rfl rfl)
theorem dX1_init_52 : decode cX1_init 52 = .ok (.putfield 18, 3) := dk_181 0 18 (dk_at dksX1_init_2 7 rfl rfl)
theorem dX1_init_55 : decode cX1_init 55 = .ok (.aload_n 0, 1) := dk_42 (dk_at dksX1_init_2 10 rfl rfl)
theorem dX1_init_56 : decode cX1_init 56 = .ok (.new 21, 3) := dk_187 0 21 (dk_at dksX1_init_2 11 rfl rfl)
theorem dX1_init_59 : decode cX1_init 59 = .ok (.dup, 1) := dk_89 (dk_at dksX1_init_2 14 rfl rfl)
theorem dX1_init_60 : decode cX1_init 60 = .ok (.invokespecial 23, 3) := dk_183 0 23 (dk_at dksX1_init_2 15 rfl rfl)
theorem dX1_init_63 : decode cX1_init 63 = .ok (.putfield 24, 3) := dk_181 0 24 (dk_at dksX1_init_2 18 rfl rfl)
theorem dX1_init_66 : decode cX1_init 66 = .ok (.aload_n 0, 1) := dk_42 (dk_at dksX1_init_2 21 rfl rfl)
theorem dX1_init_67 : decode cX1_init 67 = .ok (.new 21, 3) := dk_187 0 21 (dk_at dksX1_init_3 0 rfl rfl)
theorem dX1_init_70 : decode cX1_init 70 = .ok (.dup, 1) := dk_89 (dk_at dksX1_init_3 3 rfl rfl)
theorem dX1_init_71 : decode cX1_init 71 = .ok (.invokespecial 23, 3) := dk_183 0 23 (dk_at dksX1_init_3 4 rfl rfl)
theorem dX1_init_74 : decode cX1_init 74 = .ok (.putfield 28, 3) := dk_181 0 28 (dk_at dksX1_init_3 7 rfl rfl)
theorem dX1_init_77 : decode cX1_init 77 = .ok (.aload_n 0, 1) := dk_42 (dk_at dksX1_init_3 10 rfl rfl)
theorem dX1_init_78 : decode cX1_init 78 = .ok (.new 31, 3) := dk_187 0 31 (dk_at dksX1_init_3 11 rfl rfl)
theorem dX1_init_81 : decode cX1_init 81 = .ok (.dup, 1) := dk_89 (dk_at dksX1_init_3 14 rfl rfl)
theorem dX1_init_82 : decode cX1_init 82 = .ok (.invokespecial 33, 3) := dk_183 0 33 (dk_at dksX1_init_3 15 rfl rfl)
theorem dX1_init_85 : decode cX1_init 85 = .ok (.putfield 34, 3) := dk_181 0 34 (dk_at dksX1_init_3 18 rfl rfl)
theorem dX1_init_88 : decode cX1_init 88 = .ok (.aload_n 0, 1) := dk_42 (dk_at dksX1_init_3 21 rfl rfl)
theorem dX1_init_89 : decode cX1_init 89 = .ok (.new 38, 3) := dk_187 0 38 (dk_at dksX1_init_4 0 rfl rfl)
theorem dX1_init_92 : decode cX1_init 92 = .ok (.dup, 1) := dk_89 (dk_at dksX1_init_4 3 rfl rfl)
theorem dX1_init_93 : decode cX1_init 93 = .ok (.invokespecial 40, 3) := dk_183 0 40 (dk_at dksX1_init_4 4 rfl rfl)
theorem dX1_init_96 : decode cX1_init 96 = .ok (.putfield 41, 3) := dk_181 0 41 (dk_at dksX1_init_4 7 rfl rfl)
theorem dX1_init_99 : decode cX1_init 99 = .ok (.aload_n 0, 1) := dk_42 (dk_at dksX1_init_4 10 rfl rfl)
theorem dX1_init_100 : decode cX1_init 100 = .ok (.iconst (-1), 1) := dk_2 (dk_at dksX1_init_4 11 rfl rfl)
theorem dX1_init_101 : decode cX1_init 101 = .ok (.putfield 45, 3) := dk_181 0 45 (dk_at dksX1_init_4 12 rfl rfl)
theorem dX1_init_104 : decode cX1_init 104 = .ok (.aload_n 0, 1) := dk_42 (dk_at dksX1_init_4 15 rfl rfl)
theorem dX1_init_105 : decode cX1_init 105 = .ok (.iconst (-1), 1) := dk_2 (dk_at dksX1_init_4 16 rfl rfl)
theorem dX1_init_106 : decode cX1_init 106 = .ok (.putfield 49, 3) := dk_181 0 49 (dk_at dksX1_init_4 17 rfl rfl)
theorem dX1_init_109 : decode cX1_init 109 = .ok (.iconst 0, 1) := dk_3 (dk_at dksX1_init_4 20 rfl rfl)
theorem dX1_init_110 : decode cX1_init 110 = .ok (.istore_n 1, 1) := dk_60 (dk_at dksX1_init_4 21 rfl rfl)
theorem dX1_init_111 : decode cX1_init 111 = .ok (.iload_n 1, 1) := dk_27 (dk_at dksX1_init_4 22 rfl rfl)
theorem dX1_init_112 : decode cX1_init 112 = .ok (.bipush 24, 2) := dk_16 24 (dk_at dksX1_init_5 0 rfl rfl)
theorem dX1_init_114 : decode cX1_init 114 = .ok (.if_icmp .ge 17, 3) := dk_162 0 17 (dk_at dksX1_init_5 2 rfl rfl)
theorem dX1_init_117 : decode cX1_init 117 = .ok (.aload_n 0, 1) := dk_42 (dk_at dksX1_init_5 5 rfl rfl)
theorem dX1_init_118 : decode cX1_init 118 = .ok (.getfield 15, 3) := dk_180 0 15 (dk_at dksX1_init_5 6 rfl rfl)
theorem dX1_init_121 : decode cX1_init 121 = .ok (.iload_n 1, 1) := dk_27 (dk_at dksX1_init_5 9 rfl rfl)
theorem dX1_init_122 : decode cX1_init 122 = .ok (.bipush 20, 2) := dk_16 20 (dk_at dksX1_init_5 10 rfl rfl)
theorem dX1_init_124 : decode cX1_init 124 = .ok (.iastore, 1) := dk_79 (dk_at dksX1_init_5 12 rfl rfl)
theorem dX1_init_125 : decode cX1_init 125 = .ok (.iinc 1 1, 3) := dk_132 1 1 (dk_at dksX1_init_5 13 rfl rfl)
theorem dX1_init_128 : decode cX1_init 128 = .ok (.goto (-17), 3) := dk_167 255 239 (dk_at dksX1_init_5 16 rfl rfl)
theorem dX1_init_131 : decode cX1_init 131 = .ok (.return_, 1) := dk_177 (dk_at dksX1_init_5 19 rfl rfl)
abbrev cX1_init_2 : ByteArray := prog_23_method_2_code
def yX1_init_2 : MethodName := ⟨RX1, "<init>", "(LTurningWheel$Pottery;)V"⟩
def dkwX1_init_2_16 : List UInt8 := [177]
abbrev dktX1_init_2_16 : List UInt8 := dkwX1_init_2_16 ++ []
def dkwX1_init_2_15 : List UInt8 := [42, 43, 180, 0, 49, 181, 0, 49, 42, 43, 180, 0, 115, 181, 0, 115, 42, 43, 180, 0, 118, 181, 0, 118]
abbrev dktX1_init_2_15 : List UInt8 := dkwX1_init_2_15 ++ dktX1_init_2_16
def dkwX1_init_2_14 : List UInt8 := [42, 43, 180, 0, 109, 181, 0, 109, 42, 43, 180, 0, 45, 181, 0, 45, 42, 43, 180, 0, 112, 181, 0, 112]
abbrev dktX1_init_2_14 : List UInt8 := dkwX1_init_2_14 ++ dktX1_init_2_15
def dkwX1_init_2_13 : List UInt8 := [180, 0, 34, 29, 184, 0, 97, 182, 0, 101, 167, 255, 223, 42, 43, 180, 0, 41, 182, 0, 105, 181, 0, 41]
abbrev dktX1_init_2_13 : List UInt8 := dkwX1_init_2_13 ++ dktX1_init_2_14
def dkwX1_init_2_12 : List UInt8 := [185, 0, 83, 1, 0, 153, 0, 30, 44, 185, 0, 89, 1, 0, 192, 0, 92, 182, 0, 94, 62, 42]
abbrev dktX1_init_2_12 : List UInt8 := dkwX1_init_2_12 ++ dktX1_init_2_13
def dkwX1_init_2_11 : List UInt8 := [183, 0, 76, 182, 0, 70, 87, 132, 2, 1, 167, 255, 216, 43, 180, 0, 34, 182, 0, 79, 77, 44]
abbrev dktX1_init_2_11 : List UInt8 := dkwX1_init_2_11 ++ dktX1_init_2_12
def dkwX1_init_2_10 : List UInt8 := [162, 0, 35, 42, 180, 0, 28, 187, 0, 74, 89, 43, 180, 0, 28, 28, 182, 0, 63, 192, 0, 74]
abbrev dktX1_init_2_10 : List UInt8 := dkwX1_init_2_10 ++ dktX1_init_2_11
def dkwX1_init_2_9 : List UInt8 := [183, 0, 67, 182, 0, 70, 87, 132, 2, 1, 167, 255, 216, 3, 61, 28, 43, 180, 0, 28, 182, 0, 57]
abbrev dktX1_init_2_9 : List UInt8 := dkwX1_init_2_9 ++ dktX1_init_2_10
def dkwX1_init_2_8 : List UInt8 := [162, 0, 35, 42, 180, 0, 24, 187, 0, 61, 89, 43, 180, 0, 24, 28, 182, 0, 63, 192, 0, 61]
abbrev dktX1_init_2_8 : List UInt8 := dkwX1_init_2_8 ++ dktX1_init_2_9
def dkwX1_init_2_7 : List UInt8 := [43, 180, 0, 18, 182, 0, 52, 192, 0, 53, 181, 0, 18, 3, 61, 28, 43, 180, 0, 24, 182, 0, 57]
abbrev dktX1_init_2_7 : List UInt8 := dkwX1_init_2_7 ++ dktX1_init_2_8
def dkwX1_init_2_6 : List UInt8 := [182, 0, 52, 192, 0, 53, 181, 0, 9, 42, 43, 180, 0, 15, 182, 0, 52, 192, 0, 53, 181, 0, 15, 42]
abbrev dktX1_init_2_6 : List UInt8 := dkwX1_init_2_6 ++ dktX1_init_2_7
def dkwX1_init_2_5 : List UInt8 := [16, 24, 162, 0, 17, 42, 180, 0, 15, 28, 16, 20, 79, 132, 2, 1, 167, 255, 239, 42, 43, 180, 0, 9]
abbrev dktX1_init_2_5 : List UInt8 := dkwX1_init_2_5 ++ dktX1_init_2_6
def dkwX1_init_2_4 : List UInt8 := [187, 0, 38, 89, 183, 0, 40, 181, 0, 41, 42, 2, 181, 0, 45, 42, 2, 181, 0, 49, 3, 61, 28]
abbrev dktX1_init_2_4 : List UInt8 := dkwX1_init_2_4 ++ dktX1_init_2_5
def dkwX1_init_2_3 : List UInt8 := [187, 0, 21, 89, 183, 0, 23, 181, 0, 28, 42, 187, 0, 31, 89, 183, 0, 33, 181, 0, 34, 42]
abbrev dktX1_init_2_3 : List UInt8 := dkwX1_init_2_3 ++ dktX1_init_2_4
def dkwX1_init_2_2 : List UInt8 := [181, 0, 15, 42, 3, 188, 10, 181, 0, 18, 42, 187, 0, 21, 89, 183, 0, 23, 181, 0, 24, 42]
abbrev dktX1_init_2_2 : List UInt8 := dkwX1_init_2_2 ++ dktX1_init_2_3
def dkwX1_init_2_1 : List UInt8 := [16, 8, 79, 89, 7, 17, 0, 150, 79, 89, 8, 16, 12, 79, 181, 0, 9, 42, 16, 24, 188, 10]
abbrev dktX1_init_2_1 : List UInt8 := dkwX1_init_2_1 ++ dktX1_init_2_2
def dkwX1_init_2_0 : List UInt8 := [42, 183, 0, 3, 42, 16, 6, 188, 10, 89, 3, 4, 79, 89, 4, 6, 79, 89, 5, 8, 79, 89, 6]
abbrev dktX1_init_2_0 : List UInt8 := dkwX1_init_2_0 ++ dktX1_init_2_1
theorem dksX1_init_2_0 : cX1_init_2.data.toList.drop 0 = dktX1_init_2_0 := by decide +kernel
theorem dksX1_init_2_1 : cX1_init_2.data.toList.drop 23 = dktX1_init_2_1 := dk_seg dksX1_init_2_0 23 rfl rfl
theorem dksX1_init_2_2 : cX1_init_2.data.toList.drop 45 = dktX1_init_2_2 := dk_seg dksX1_init_2_1 22 rfl rfl
theorem dksX1_init_2_3 : cX1_init_2.data.toList.drop 67 = dktX1_init_2_3 := dk_seg dksX1_init_2_2 22 rfl rfl
theorem dksX1_init_2_4 : cX1_init_2.data.toList.drop 89 = dktX1_init_2_4 := dk_seg dksX1_init_2_3 22 rfl rfl
theorem dksX1_init_2_5 : cX1_init_2.data.toList.drop 112 = dktX1_init_2_5 := dk_seg dksX1_init_2_4 23 rfl rfl
theorem dksX1_init_2_6 : cX1_init_2.data.toList.drop 136 = dktX1_init_2_6 := dk_seg dksX1_init_2_5 24 rfl rfl
theorem dksX1_init_2_7 : cX1_init_2.data.toList.drop 160 = dktX1_init_2_7 := dk_seg dksX1_init_2_6 24 rfl rfl
theorem dksX1_init_2_8 : cX1_init_2.data.toList.drop 183 = dktX1_init_2_8 := dk_seg dksX1_init_2_7 23 rfl rfl
theorem dksX1_init_2_9 : cX1_init_2.data.toList.drop 205 = dktX1_init_2_9 := dk_seg dksX1_init_2_8 22 rfl rfl
theorem dksX1_init_2_10 : cX1_init_2.data.toList.drop 228 = dktX1_init_2_10 := dk_seg dksX1_init_2_9 23 rfl rfl
theorem dksX1_init_2_11 : cX1_init_2.data.toList.drop 250 = dktX1_init_2_11 := dk_seg dksX1_init_2_10 22 rfl rfl
theorem dksX1_init_2_12 : cX1_init_2.data.toList.drop 272 = dktX1_init_2_12 := dk_seg dksX1_init_2_11 22 rfl rfl
theorem dksX1_init_2_13 : cX1_init_2.data.toList.drop 294 = dktX1_init_2_13 := dk_seg dksX1_init_2_12 22 rfl rfl
theorem dksX1_init_2_14 : cX1_init_2.data.toList.drop 318 = dktX1_init_2_14 := dk_seg dksX1_init_2_13 24 rfl rfl
theorem dksX1_init_2_15 : cX1_init_2.data.toList.drop 342 = dktX1_init_2_15 := dk_seg dksX1_init_2_14 24 rfl rfl
theorem dksX1_init_2_16 : cX1_init_2.data.toList.drop 366 = dktX1_init_2_16 := dk_seg dksX1_init_2_15 24 rfl rfl
theorem dX1_init_2_0 : decode cX1_init_2 0 = .ok (.aload_n 0, 1) := dk_42 (dk_at dksX1_init_2_0 0 rfl rfl)
theorem dX1_init_2_1 : decode cX1_init_2 1 = .ok (.invokespecial 3, 3) := dk_183 0 3 (dk_at dksX1_init_2_0 1 rfl rfl)
theorem dX1_init_2_4 : decode cX1_init_2 4 = .ok (.aload_n 0, 1) := dk_42 (dk_at dksX1_init_2_0 4 rfl rfl)
theorem dX1_init_2_5 : decode cX1_init_2 5 = .ok (.bipush 6, 2) := dk_16 6 (dk_at dksX1_init_2_0 5 rfl rfl)
theorem dX1_init_2_7 : decode cX1_init_2 7 = .ok (.newarray .int, 2) := dk_188_10 (dk_at dksX1_init_2_0 7 rfl rfl)
theorem dX1_init_2_9 : decode cX1_init_2 9 = .ok (.dup, 1) := dk_89 (dk_at dksX1_init_2_0 9 rfl rfl)
theorem dX1_init_2_10 : decode cX1_init_2 10 = .ok (.iconst 0, 1) := dk_3 (dk_at dksX1_init_2_0 10 rfl rfl)
theorem dX1_init_2_11 : decode cX1_init_2 11 = .ok (.iconst 1, 1) := dk_4 (dk_at dksX1_init_2_0 11 rfl rfl)
theorem dX1_init_2_12 : decode cX1_init_2 12 = .ok (.iastore, 1) := dk_79 (dk_at dksX1_init_2_0 12 rfl rfl)
theorem dX1_init_2_13 : decode cX1_init_2 13 = .ok (.dup, 1) := dk_89 (dk_at dksX1_init_2_0 13 rfl rfl)
theorem dX1_init_2_14 : decode cX1_init_2 14 = .ok (.iconst 1, 1) := dk_4 (dk_at dksX1_init_2_0 14 rfl rfl)
theorem dX1_init_2_15 : decode cX1_init_2 15 = .ok (.iconst 3, 1) := dk_6 (dk_at dksX1_init_2_0 15 rfl rfl)
theorem dX1_init_2_16 : decode cX1_init_2 16 = .ok (.iastore, 1) := dk_79 (dk_at dksX1_init_2_0 16 rfl rfl)
theorem dX1_init_2_17 : decode cX1_init_2 17 = .ok (.dup, 1) := dk_89 (dk_at dksX1_init_2_0 17 rfl rfl)
theorem dX1_init_2_18 : decode cX1_init_2 18 = .ok (.iconst 2, 1) := dk_5 (dk_at dksX1_init_2_0 18 rfl rfl)
theorem dX1_init_2_19 : decode cX1_init_2 19 = .ok (.iconst 5, 1) := dk_8 (dk_at dksX1_init_2_0 19 rfl rfl)
theorem dX1_init_2_20 : decode cX1_init_2 20 = .ok (.iastore, 1) := dk_79 (dk_at dksX1_init_2_0 20 rfl rfl)
theorem dX1_init_2_21 : decode cX1_init_2 21 = .ok (.dup, 1) := dk_89 (dk_at dksX1_init_2_0 21 rfl rfl)
theorem dX1_init_2_22 : decode cX1_init_2 22 = .ok (.iconst 3, 1) := dk_6 (dk_at dksX1_init_2_0 22 rfl rfl)
theorem dX1_init_2_23 : decode cX1_init_2 23 = .ok (.bipush 8, 2) := dk_16 8 (dk_at dksX1_init_2_1 0 rfl rfl)
theorem dX1_init_2_25 : decode cX1_init_2 25 = .ok (.iastore, 1) := dk_79 (dk_at dksX1_init_2_1 2 rfl rfl)
theorem dX1_init_2_26 : decode cX1_init_2 26 = .ok (.dup, 1) := dk_89 (dk_at dksX1_init_2_1 3 rfl rfl)
theorem dX1_init_2_27 : decode cX1_init_2 27 = .ok (.iconst 4, 1) := dk_7 (dk_at dksX1_init_2_1 4 rfl rfl)
theorem dX1_init_2_28 : decode cX1_init_2 28 = .ok (.sipush 150, 3) := dk_17 0 150 (dk_at dksX1_init_2_1 5 rfl rfl)
theorem dX1_init_2_31 : decode cX1_init_2 31 = .ok (.iastore, 1) := dk_79 (dk_at dksX1_init_2_1 8 rfl rfl)
theorem dX1_init_2_32 : decode cX1_init_2 32 = .ok (.dup, 1) := dk_89 (dk_at dksX1_init_2_1 9 rfl rfl)
theorem dX1_init_2_33 : decode cX1_init_2 33 = .ok (.iconst 5, 1) := dk_8 (dk_at dksX1_init_2_1 10 rfl rfl)
theorem dX1_init_2_34 : decode cX1_init_2 34 = .ok (.bipush 12, 2) := dk_16 12 (dk_at dksX1_init_2_1 11 rfl rfl)
theorem dX1_init_2_36 : decode cX1_init_2 36 = .ok (.iastore, 1) := dk_79 (dk_at dksX1_init_2_1 13 rfl rfl)
theorem dX1_init_2_37 : decode cX1_init_2 37 = .ok (.putfield 9, 3) := dk_181 0 9 (dk_at dksX1_init_2_1 14 rfl rfl)
theorem dX1_init_2_40 : decode cX1_init_2 40 = .ok (.aload_n 0, 1) := dk_42 (dk_at dksX1_init_2_1 17 rfl rfl)
theorem dX1_init_2_41 : decode cX1_init_2 41 = .ok (.bipush 24, 2) := dk_16 24 (dk_at dksX1_init_2_1 18 rfl rfl)
theorem dX1_init_2_43 : decode cX1_init_2 43 = .ok (.newarray .int, 2) := dk_188_10 (dk_at dksX1_init_2_1 20 rfl rfl)
theorem dX1_init_2_45 : decode cX1_init_2 45 = .ok (.putfield 15, 3) := dk_181 0 15 (dk_at dksX1_init_2_2 0 rfl rfl)
theorem dX1_init_2_48 : decode cX1_init_2 48 = .ok (.aload_n 0, 1) := dk_42 (dk_at dksX1_init_2_2 3 rfl rfl)
theorem dX1_init_2_49 : decode cX1_init_2 49 = .ok (.iconst 0, 1) := dk_3 (dk_at dksX1_init_2_2 4 rfl rfl)
theorem dX1_init_2_50 : decode cX1_init_2 50 = .ok (.newarray .int, 2) := dk_188_10 (dk_at dksX1_init_2_2 5 rfl rfl)
theorem dX1_init_2_52 : decode cX1_init_2 52 = .ok (.putfield 18, 3) := dk_181 0 18 (dk_at dksX1_init_2_2 7 rfl rfl)
theorem dX1_init_2_55 : decode cX1_init_2 55 = .ok (.aload_n 0, 1) := dk_42 (dk_at dksX1_init_2_2 10 rfl rfl)
theorem dX1_init_2_56 : decode cX1_init_2 56 = .ok (.new 21, 3) := dk_187 0 21 (dk_at dksX1_init_2_2 11 rfl rfl)
theorem dX1_init_2_59 : decode cX1_init_2 59 = .ok (.dup, 1) := dk_89 (dk_at dksX1_init_2_2 14 rfl rfl)
theorem dX1_init_2_60 : decode cX1_init_2 60 = .ok (.invokespecial 23, 3) := dk_183 0 23 (dk_at dksX1_init_2_2 15 rfl rfl)
theorem dX1_init_2_63 : decode cX1_init_2 63 = .ok (.putfield 24, 3) := dk_181 0 24 (dk_at dksX1_init_2_2 18 rfl rfl)
theorem dX1_init_2_66 : decode cX1_init_2 66 = .ok (.aload_n 0, 1) := dk_42 (dk_at dksX1_init_2_2 21 rfl rfl)
theorem dX1_init_2_67 : decode cX1_init_2 67 = .ok (.new 21, 3) := dk_187 0 21 (dk_at dksX1_init_2_3 0 rfl rfl)
theorem dX1_init_2_70 : decode cX1_init_2 70 = .ok (.dup, 1) := dk_89 (dk_at dksX1_init_2_3 3 rfl rfl)
theorem dX1_init_2_71 : decode cX1_init_2 71 = .ok (.invokespecial 23, 3) := dk_183 0 23 (dk_at dksX1_init_2_3 4 rfl rfl)
theorem dX1_init_2_74 : decode cX1_init_2 74 = .ok (.putfield 28, 3) := dk_181 0 28 (dk_at dksX1_init_2_3 7 rfl rfl)
theorem dX1_init_2_77 : decode cX1_init_2 77 = .ok (.aload_n 0, 1) := dk_42 (dk_at dksX1_init_2_3 10 rfl rfl)
theorem dX1_init_2_78 : decode cX1_init_2 78 = .ok (.new 31, 3) := dk_187 0 31 (dk_at dksX1_init_2_3 11 rfl rfl)
theorem dX1_init_2_81 : decode cX1_init_2 81 = .ok (.dup, 1) := dk_89 (dk_at dksX1_init_2_3 14 rfl rfl)
theorem dX1_init_2_82 : decode cX1_init_2 82 = .ok (.invokespecial 33, 3) := dk_183 0 33 (dk_at dksX1_init_2_3 15 rfl rfl)
theorem dX1_init_2_85 : decode cX1_init_2 85 = .ok (.putfield 34, 3) := dk_181 0 34 (dk_at dksX1_init_2_3 18 rfl rfl)
theorem dX1_init_2_88 : decode cX1_init_2 88 = .ok (.aload_n 0, 1) := dk_42 (dk_at dksX1_init_2_3 21 rfl rfl)
theorem dX1_init_2_89 : decode cX1_init_2 89 = .ok (.new 38, 3) := dk_187 0 38 (dk_at dksX1_init_2_4 0 rfl rfl)
theorem dX1_init_2_92 : decode cX1_init_2 92 = .ok (.dup, 1) := dk_89 (dk_at dksX1_init_2_4 3 rfl rfl)
theorem dX1_init_2_93 : decode cX1_init_2 93 = .ok (.invokespecial 40, 3) := dk_183 0 40 (dk_at dksX1_init_2_4 4 rfl rfl)
theorem dX1_init_2_96 : decode cX1_init_2 96 = .ok (.putfield 41, 3) := dk_181 0 41 (dk_at dksX1_init_2_4 7 rfl rfl)
theorem dX1_init_2_99 : decode cX1_init_2 99 = .ok (.aload_n 0, 1) := dk_42 (dk_at dksX1_init_2_4 10 rfl rfl)
theorem dX1_init_2_100 : decode cX1_init_2 100 = .ok (.iconst (-1), 1) := dk_2 (dk_at dksX1_init_2_4 11 rfl rfl)
theorem dX1_init_2_101 : decode cX1_init_2 101 = .ok (.putfield 45, 3) := dk_181 0 45 (dk_at dksX1_init_2_4 12 rfl rfl)
theorem dX1_init_2_104 : decode cX1_init_2 104 = .ok (.aload_n 0, 1) := dk_42 (dk_at dksX1_init_2_4 15 rfl rfl)
theorem dX1_init_2_105 : decode cX1_init_2 105 = .ok (.iconst (-1), 1) := dk_2 (dk_at dksX1_init_2_4 16 rfl rfl)
theorem dX1_init_2_106 : decode cX1_init_2 106 = .ok (.putfield 49, 3) := dk_181 0 49 (dk_at dksX1_init_2_4 17 rfl rfl)
theorem dX1_init_2_109 : decode cX1_init_2 109 = .ok (.iconst 0, 1) := dk_3 (dk_at dksX1_init_2_4 20 rfl rfl)
theorem dX1_init_2_110 : decode cX1_init_2 110 = .ok (.istore_n 2, 1) := dk_61 (dk_at dksX1_init_2_4 21 rfl rfl)
theorem dX1_init_2_111 : decode cX1_init_2 111 = .ok (.iload_n 2, 1) := dk_28 (dk_at dksX1_init_2_4 22 rfl rfl)
theorem dX1_init_2_112 : decode cX1_init_2 112 = .ok (.bipush 24, 2) := dk_16 24 (dk_at dksX1_init_2_5 0 rfl rfl)
theorem dX1_init_2_114 : decode cX1_init_2 114 = .ok (.if_icmp .ge 17, 3) := dk_162 0 17 (dk_at dksX1_init_2_5 2 rfl rfl)
theorem dX1_init_2_117 : decode cX1_init_2 117 = .ok (.aload_n 0, 1) := dk_42 (dk_at dksX1_init_2_5 5 rfl rfl)
theorem dX1_init_2_118 : decode cX1_init_2 118 = .ok (.getfield 15, 3) := dk_180 0 15 (dk_at dksX1_init_2_5 6 rfl rfl)
theorem dX1_init_2_121 : decode cX1_init_2 121 = .ok (.iload_n 2, 1) := dk_28 (dk_at dksX1_init_2_5 9 rfl rfl)
theorem dX1_init_2_122 : decode cX1_init_2 122 = .ok (.bipush 20, 2) := dk_16 20 (dk_at dksX1_init_2_5 10 rfl rfl)
theorem dX1_init_2_124 : decode cX1_init_2 124 = .ok (.iastore, 1) := dk_79 (dk_at dksX1_init_2_5 12 rfl rfl)
theorem dX1_init_2_125 : decode cX1_init_2 125 = .ok (.iinc 2 1, 3) := dk_132 2 1 (dk_at dksX1_init_2_5 13 rfl rfl)
theorem dX1_init_2_128 : decode cX1_init_2 128 = .ok (.goto (-17), 3) := dk_167 255 239 (dk_at dksX1_init_2_5 16 rfl rfl)
theorem dX1_init_2_131 : decode cX1_init_2 131 = .ok (.aload_n 0, 1) := dk_42 (dk_at dksX1_init_2_5 19 rfl rfl)
theorem dX1_init_2_132 : decode cX1_init_2 132 = .ok (.aload_n 1, 1) := dk_43 (dk_at dksX1_init_2_5 20 rfl rfl)
theorem dX1_init_2_133 : decode cX1_init_2 133 = .ok (.getfield 9, 3) := dk_180 0 9 (dk_at dksX1_init_2_5 21 rfl rfl)
theorem dX1_init_2_136 : decode cX1_init_2 136 = .ok (.invokevirtual 52, 3) := dk_182 0 52 (dk_at dksX1_init_2_6 0 rfl rfl)
theorem dX1_init_2_139 : decode cX1_init_2 139 = .ok (.checkcast 53, 3) := dk_192 0 53 (dk_at dksX1_init_2_6 3 rfl rfl)
theorem dX1_init_2_142 : decode cX1_init_2 142 = .ok (.putfield 9, 3) := dk_181 0 9 (dk_at dksX1_init_2_6 6 rfl rfl)
theorem dX1_init_2_145 : decode cX1_init_2 145 = .ok (.aload_n 0, 1) := dk_42 (dk_at dksX1_init_2_6 9 rfl rfl)
theorem dX1_init_2_146 : decode cX1_init_2 146 = .ok (.aload_n 1, 1) := dk_43 (dk_at dksX1_init_2_6 10 rfl rfl)
theorem dX1_init_2_147 : decode cX1_init_2 147 = .ok (.getfield 15, 3) := dk_180 0 15 (dk_at dksX1_init_2_6 11 rfl rfl)
theorem dX1_init_2_150 : decode cX1_init_2 150 = .ok (.invokevirtual 52, 3) := dk_182 0 52 (dk_at dksX1_init_2_6 14 rfl rfl)
theorem dX1_init_2_153 : decode cX1_init_2 153 = .ok (.checkcast 53, 3) := dk_192 0 53 (dk_at dksX1_init_2_6 17 rfl rfl)
theorem dX1_init_2_156 : decode cX1_init_2 156 = .ok (.putfield 15, 3) := dk_181 0 15 (dk_at dksX1_init_2_6 20 rfl rfl)
theorem dX1_init_2_159 : decode cX1_init_2 159 = .ok (.aload_n 0, 1) := dk_42 (dk_at dksX1_init_2_6 23 rfl rfl)
theorem dX1_init_2_160 : decode cX1_init_2 160 = .ok (.aload_n 1, 1) := dk_43 (dk_at dksX1_init_2_7 0 rfl rfl)
theorem dX1_init_2_161 : decode cX1_init_2 161 = .ok (.getfield 18, 3) := dk_180 0 18 (dk_at dksX1_init_2_7 1 rfl rfl)
theorem dX1_init_2_164 : decode cX1_init_2 164 = .ok (.invokevirtual 52, 3) := dk_182 0 52 (dk_at dksX1_init_2_7 4 rfl rfl)
theorem dX1_init_2_167 : decode cX1_init_2 167 = .ok (.checkcast 53, 3) := dk_192 0 53 (dk_at dksX1_init_2_7 7 rfl rfl)
theorem dX1_init_2_170 : decode cX1_init_2 170 = .ok (.putfield 18, 3) := dk_181 0 18 (dk_at dksX1_init_2_7 10 rfl rfl)
theorem dX1_init_2_173 : decode cX1_init_2 173 = .ok (.iconst 0, 1) := dk_3 (dk_at dksX1_init_2_7 13 rfl rfl)
theorem dX1_init_2_174 : decode cX1_init_2 174 = .ok (.istore_n 2, 1) := dk_61 (dk_at dksX1_init_2_7 14 rfl rfl)
theorem dX1_init_2_175 : decode cX1_init_2 175 = .ok (.iload_n 2, 1) := dk_28 (dk_at dksX1_init_2_7 15 rfl rfl)
theorem dX1_init_2_176 : decode cX1_init_2 176 = .ok (.aload_n 1, 1) := dk_43 (dk_at dksX1_init_2_7 16 rfl rfl)
theorem dX1_init_2_177 : decode cX1_init_2 177 = .ok (.getfield 24, 3) := dk_180 0 24 (dk_at dksX1_init_2_7 17 rfl rfl)
theorem dX1_init_2_180 : decode cX1_init_2 180 = .ok (.invokevirtual 57, 3) := dk_182 0 57 (dk_at dksX1_init_2_7 20 rfl rfl)
theorem dX1_init_2_183 : decode cX1_init_2 183 = .ok (.if_icmp .ge 35, 3) := dk_162 0 35 (dk_at dksX1_init_2_8 0 rfl rfl)
theorem dX1_init_2_186 : decode cX1_init_2 186 = .ok (.aload_n 0, 1) := dk_42 (dk_at dksX1_init_2_8 3 rfl rfl)
theorem dX1_init_2_187 : decode cX1_init_2 187 = .ok (.getfield 24, 3) := dk_180 0 24 (dk_at dksX1_init_2_8 4 rfl rfl)
theorem dX1_init_2_190 : decode cX1_init_2 190 = .ok (.new 61, 3) := dk_187 0 61 (dk_at dksX1_init_2_8 7 rfl rfl)
theorem dX1_init_2_193 : decode cX1_init_2 193 = .ok (.dup, 1) := dk_89 (dk_at dksX1_init_2_8 10 rfl rfl)
theorem dX1_init_2_194 : decode cX1_init_2 194 = .ok (.aload_n 1, 1) := dk_43 (dk_at dksX1_init_2_8 11 rfl rfl)
theorem dX1_init_2_195 : decode cX1_init_2 195 = .ok (.getfield 24, 3) := dk_180 0 24 (dk_at dksX1_init_2_8 12 rfl rfl)
theorem dX1_init_2_198 : decode cX1_init_2 198 = .ok (.iload_n 2, 1) := dk_28 (dk_at dksX1_init_2_8 15 rfl rfl)
theorem dX1_init_2_199 : decode cX1_init_2 199 = .ok (.invokevirtual 63, 3) := dk_182 0 63 (dk_at dksX1_init_2_8 16 rfl rfl)
theorem dX1_init_2_202 : decode cX1_init_2 202 = .ok (.checkcast 61, 3) := dk_192 0 61 (dk_at dksX1_init_2_8 19 rfl rfl)
theorem dX1_init_2_205 : decode cX1_init_2 205 = .ok (.invokespecial 67, 3) := dk_183 0 67 (dk_at dksX1_init_2_9 0 rfl rfl)
theorem dX1_init_2_208 : decode cX1_init_2 208 = .ok (.invokevirtual 70, 3) := dk_182 0 70 (dk_at dksX1_init_2_9 3 rfl rfl)
theorem dX1_init_2_211 : decode cX1_init_2 211 = .ok (.pop, 1) := dk_87 (dk_at dksX1_init_2_9 6 rfl rfl)
theorem dX1_init_2_212 : decode cX1_init_2 212 = .ok (.iinc 2 1, 3) := dk_132 2 1 (dk_at dksX1_init_2_9 7 rfl rfl)
theorem dX1_init_2_215 : decode cX1_init_2 215 = .ok (.goto (-40), 3) := dk_167 255 216 (dk_at dksX1_init_2_9 10 rfl rfl)
theorem dX1_init_2_218 : decode cX1_init_2 218 = .ok (.iconst 0, 1) := dk_3 (dk_at dksX1_init_2_9 13 rfl rfl)
theorem dX1_init_2_219 : decode cX1_init_2 219 = .ok (.istore_n 2, 1) := dk_61 (dk_at dksX1_init_2_9 14 rfl rfl)
theorem dX1_init_2_220 : decode cX1_init_2 220 = .ok (.iload_n 2, 1) := dk_28 (dk_at dksX1_init_2_9 15 rfl rfl)
theorem dX1_init_2_221 : decode cX1_init_2 221 = .ok (.aload_n 1, 1) := dk_43 (dk_at dksX1_init_2_9 16 rfl rfl)
theorem dX1_init_2_222 : decode cX1_init_2 222 = .ok (.getfield 28, 3) := dk_180 0 28 (dk_at dksX1_init_2_9 17 rfl rfl)
theorem dX1_init_2_225 : decode cX1_init_2 225 = .ok (.invokevirtual 57, 3) := dk_182 0 57 (dk_at dksX1_init_2_9 20 rfl rfl)
theorem dX1_init_2_228 : decode cX1_init_2 228 = .ok (.if_icmp .ge 35, 3) := dk_162 0 35 (dk_at dksX1_init_2_10 0 rfl rfl)
theorem dX1_init_2_231 : decode cX1_init_2 231 = .ok (.aload_n 0, 1) := dk_42 (dk_at dksX1_init_2_10 3 rfl rfl)
theorem dX1_init_2_232 : decode cX1_init_2 232 = .ok (.getfield 28, 3) := dk_180 0 28 (dk_at dksX1_init_2_10 4 rfl rfl)
theorem dX1_init_2_235 : decode cX1_init_2 235 = .ok (.new 74, 3) := dk_187 0 74 (dk_at dksX1_init_2_10 7 rfl rfl)
theorem dX1_init_2_238 : decode cX1_init_2 238 = .ok (.dup, 1) := dk_89 (dk_at dksX1_init_2_10 10 rfl rfl)
theorem dX1_init_2_239 : decode cX1_init_2 239 = .ok (.aload_n 1, 1) := dk_43 (dk_at dksX1_init_2_10 11 rfl rfl)
theorem dX1_init_2_240 : decode cX1_init_2 240 = .ok (.getfield 28, 3) := dk_180 0 28 (dk_at dksX1_init_2_10 12 rfl rfl)
theorem dX1_init_2_243 : decode cX1_init_2 243 = .ok (.iload_n 2, 1) := dk_28 (dk_at dksX1_init_2_10 15 rfl rfl)
theorem dX1_init_2_244 : decode cX1_init_2 244 = .ok (.invokevirtual 63, 3) := dk_182 0 63 (dk_at dksX1_init_2_10 16 rfl rfl)
theorem dX1_init_2_247 : decode cX1_init_2 247 = .ok (.checkcast 74, 3) := dk_192 0 74 (dk_at dksX1_init_2_10 19 rfl rfl)
theorem dX1_init_2_250 : decode cX1_init_2 250 = .ok (.invokespecial 76, 3) := dk_183 0 76 (dk_at dksX1_init_2_11 0 rfl rfl)
theorem dX1_init_2_253 : decode cX1_init_2 253 = .ok (.invokevirtual 70, 3) := dk_182 0 70 (dk_at dksX1_init_2_11 3 rfl rfl)
theorem dX1_init_2_256 : decode cX1_init_2 256 = .ok (.pop, 1) := dk_87 (dk_at dksX1_init_2_11 6 rfl rfl)
theorem dX1_init_2_257 : decode cX1_init_2 257 = .ok (.iinc 2 1, 3) := dk_132 2 1 (dk_at dksX1_init_2_11 7 rfl rfl)
theorem dX1_init_2_260 : decode cX1_init_2 260 = .ok (.goto (-40), 3) := dk_167 255 216 (dk_at dksX1_init_2_11 10 rfl rfl)
theorem dX1_init_2_263 : decode cX1_init_2 263 = .ok (.aload_n 1, 1) := dk_43 (dk_at dksX1_init_2_11 13 rfl rfl)
theorem dX1_init_2_264 : decode cX1_init_2 264 = .ok (.getfield 34, 3) := dk_180 0 34 (dk_at dksX1_init_2_11 14 rfl rfl)
theorem dX1_init_2_267 : decode cX1_init_2 267 = .ok (.invokevirtual 79, 3) := dk_182 0 79 (dk_at dksX1_init_2_11 17 rfl rfl)
theorem dX1_init_2_270 : decode cX1_init_2 270 = .ok (.astore_n 2, 1) := dk_77 (dk_at dksX1_init_2_11 20 rfl rfl)
theorem dX1_init_2_271 : decode cX1_init_2 271 = .ok (.aload_n 2, 1) := dk_44 (dk_at dksX1_init_2_11 21 rfl rfl)
theorem dX1_init_2_272 : decode cX1_init_2 272 = .ok (.invokeinterface 83 1, 5) := by decide +kernel
theorem dX1_init_2_277 : decode cX1_init_2 277 = .ok (.ifCond .eq 30, 3) := dk_153 0 30 (dk_at dksX1_init_2_12 5 rfl rfl)
theorem dX1_init_2_280 : decode cX1_init_2 280 = .ok (.aload_n 2, 1) := dk_44 (dk_at dksX1_init_2_12 8 rfl rfl)
theorem dX1_init_2_281 : decode cX1_init_2 281 = .ok (.invokeinterface 89 1, 5) := by decide +kernel
theorem dX1_init_2_286 : decode cX1_init_2 286 = .ok (.checkcast 92, 3) := dk_192 0 92 (dk_at dksX1_init_2_12 14 rfl rfl)
theorem dX1_init_2_289 : decode cX1_init_2 289 = .ok (.invokevirtual 94, 3) := dk_182 0 94 (dk_at dksX1_init_2_12 17 rfl rfl)
theorem dX1_init_2_292 : decode cX1_init_2 292 = .ok (.istore_n 3, 1) := dk_62 (dk_at dksX1_init_2_12 20 rfl rfl)
theorem dX1_init_2_293 : decode cX1_init_2 293 = .ok (.aload_n 0, 1) := dk_42 (dk_at dksX1_init_2_12 21 rfl rfl)
theorem dX1_init_2_294 : decode cX1_init_2 294 = .ok (.getfield 34, 3) := dk_180 0 34 (dk_at dksX1_init_2_13 0 rfl rfl)
theorem dX1_init_2_297 : decode cX1_init_2 297 = .ok (.iload_n 3, 1) := dk_29 (dk_at dksX1_init_2_13 3 rfl rfl)
theorem dX1_init_2_298 : decode cX1_init_2 298 = .ok (.invokestatic 97, 3) := dk_184 0 97 (dk_at dksX1_init_2_13 4 rfl rfl)
theorem dX1_init_2_301 : decode cX1_init_2 301 = .ok (.invokevirtual 101, 3) := dk_182 0 101 (dk_at dksX1_init_2_13 7 rfl rfl)
theorem dX1_init_2_304 : decode cX1_init_2 304 = .ok (.goto (-33), 3) := dk_167 255 223 (dk_at dksX1_init_2_13 10 rfl rfl)
theorem dX1_init_2_307 : decode cX1_init_2 307 = .ok (.aload_n 0, 1) := dk_42 (dk_at dksX1_init_2_13 13 rfl rfl)
theorem dX1_init_2_308 : decode cX1_init_2 308 = .ok (.aload_n 1, 1) := dk_43 (dk_at dksX1_init_2_13 14 rfl rfl)
theorem dX1_init_2_309 : decode cX1_init_2 309 = .ok (.getfield 41, 3) := dk_180 0 41 (dk_at dksX1_init_2_13 15 rfl rfl)
theorem dX1_init_2_312 : decode cX1_init_2 312 = .ok (.invokevirtual 105, 3) := dk_182 0 105 (dk_at dksX1_init_2_13 18 rfl rfl)
theorem dX1_init_2_315 : decode cX1_init_2 315 = .ok (.putfield 41, 3) := dk_181 0 41 (dk_at dksX1_init_2_13 21 rfl rfl)
theorem dX1_init_2_318 : decode cX1_init_2 318 = .ok (.aload_n 0, 1) := dk_42 (dk_at dksX1_init_2_14 0 rfl rfl)
theorem dX1_init_2_319 : decode cX1_init_2 319 = .ok (.aload_n 1, 1) := dk_43 (dk_at dksX1_init_2_14 1 rfl rfl)
theorem dX1_init_2_320 : decode cX1_init_2 320 = .ok (.getfield 109, 3) := dk_180 0 109 (dk_at dksX1_init_2_14 2 rfl rfl)
theorem dX1_init_2_323 : decode cX1_init_2 323 = .ok (.putfield 109, 3) := dk_181 0 109 (dk_at dksX1_init_2_14 5 rfl rfl)
theorem dX1_init_2_326 : decode cX1_init_2 326 = .ok (.aload_n 0, 1) := dk_42 (dk_at dksX1_init_2_14 8 rfl rfl)
theorem dX1_init_2_327 : decode cX1_init_2 327 = .ok (.aload_n 1, 1) := dk_43 (dk_at dksX1_init_2_14 9 rfl rfl)
theorem dX1_init_2_328 : decode cX1_init_2 328 = .ok (.getfield 45, 3) := dk_180 0 45 (dk_at dksX1_init_2_14 10 rfl rfl)
theorem dX1_init_2_331 : decode cX1_init_2 331 = .ok (.putfield 45, 3) := dk_181 0 45 (dk_at dksX1_init_2_14 13 rfl rfl)
theorem dX1_init_2_334 : decode cX1_init_2 334 = .ok (.aload_n 0, 1) := dk_42 (dk_at dksX1_init_2_14 16 rfl rfl)
theorem dX1_init_2_335 : decode cX1_init_2 335 = .ok (.aload_n 1, 1) := dk_43 (dk_at dksX1_init_2_14 17 rfl rfl)
theorem dX1_init_2_336 : decode cX1_init_2 336 = .ok (.getfield 112, 3) := dk_180 0 112 (dk_at dksX1_init_2_14 18 rfl rfl)
theorem dX1_init_2_339 : decode cX1_init_2 339 = .ok (.putfield 112, 3) := dk_181 0 112 (dk_at dksX1_init_2_14 21 rfl rfl)
theorem dX1_init_2_342 : decode cX1_init_2 342 = .ok (.aload_n 0, 1) := dk_42 (dk_at dksX1_init_2_15 0 rfl rfl)
theorem dX1_init_2_343 : decode cX1_init_2 343 = .ok (.aload_n 1, 1) := dk_43 (dk_at dksX1_init_2_15 1 rfl rfl)
theorem dX1_init_2_344 : decode cX1_init_2 344 = .ok (.getfield 49, 3) := dk_180 0 49 (dk_at dksX1_init_2_15 2 rfl rfl)
theorem dX1_init_2_347 : decode cX1_init_2 347 = .ok (.putfield 49, 3) := dk_181 0 49 (dk_at dksX1_init_2_15 5 rfl rfl)
theorem dX1_init_2_350 : decode cX1_init_2 350 = .ok (.aload_n 0, 1) := dk_42 (dk_at dksX1_init_2_15 8 rfl rfl)
theorem dX1_init_2_351 : decode cX1_init_2 351 = .ok (.aload_n 1, 1) := dk_43 (dk_at dksX1_init_2_15 9 rfl rfl)
theorem dX1_init_2_352 : decode cX1_init_2 352 = .ok (.getfield 115, 3) := dk_180 0 115 (dk_at dksX1_init_2_15 10 rfl rfl)
theorem dX1_init_2_355 : decode cX1_init_2 355 = .ok (.putfield 115, 3) := dk_181 0 115 (dk_at dksX1_init_2_15 13 rfl rfl)
theorem dX1_init_2_358 : decode cX1_init_2 358 = .ok (.aload_n 0, 1) := dk_42 (dk_at dksX1_init_2_15 16 rfl rfl)
theorem dX1_init_2_359 : decode cX1_init_2 359 = .ok (.aload_n 1, 1) := dk_43 (dk_at dksX1_init_2_15 17 rfl rfl)
theorem dX1_init_2_360 : decode cX1_init_2 360 = .ok (.getfield 118, 3) := dk_180 0 118 (dk_at dksX1_init_2_15 18 rfl rfl)
theorem dX1_init_2_363 : decode cX1_init_2 363 = .ok (.putfield 118, 3) := dk_181 0 118 (dk_at dksX1_init_2_15 21 rfl rfl)
theorem dX1_init_2_366 : decode cX1_init_2 366 = .ok (.return_, 1) := dk_177 (dk_at dksX1_init_2_16 0 rfl rfl)
abbrev cX1_passes : ByteArray := prog_23_method_11_code
def yX1_passes : MethodName := ⟨RX1, "passes", "(I)I"⟩
def dkwX1_passes_2 : List UInt8 := [180, 0, 109, 172]
abbrev dktX1_passes_2 : List UInt8 := dkwX1_passes_2 ++ []
def dkwX1_passes_1 : List UInt8 := [183, 0, 171, 191, 3, 61, 28, 27, 162, 0, 13, 42, 182, 0, 173, 132, 2, 1, 167, 255, 244, 42]
abbrev dktX1_passes_1 : List UInt8 := dkwX1_passes_1 ++ dktX1_passes_2
def dkwX1_passes_0 : List UInt8 := [42, 180, 0, 109, 27, 96, 17, 1, 144, 164, 0, 19, 187, 0, 169, 89, 16, 17, 42, 180, 0, 109, 27, 96]
abbrev dktX1_passes_0 : List UInt8 := dkwX1_passes_0 ++ dktX1_passes_1
theorem dksX1_passes_0 : cX1_passes.data.toList.drop 0 = dktX1_passes_0 := by decide +kernel
theorem dksX1_passes_1 : cX1_passes.data.toList.drop 24 = dktX1_passes_1 := dk_seg dksX1_passes_0 24 rfl rfl
theorem dksX1_passes_2 : cX1_passes.data.toList.drop 46 = dktX1_passes_2 := dk_seg dksX1_passes_1 22 rfl rfl
theorem dX1_passes_0 : decode cX1_passes 0 = .ok (.aload_n 0, 1) := dk_42 (dk_at dksX1_passes_0 0 rfl rfl)
theorem dX1_passes_1 : decode cX1_passes 1 = .ok (.getfield 109, 3) := dk_180 0 109 (dk_at dksX1_passes_0 1 rfl rfl)
theorem dX1_passes_4 : decode cX1_passes 4 = .ok (.iload_n 1, 1) := dk_27 (dk_at dksX1_passes_0 4 rfl rfl)
theorem dX1_passes_5 : decode cX1_passes 5 = .ok (.iadd, 1) := dk_96 (dk_at dksX1_passes_0 5 rfl rfl)
theorem dX1_passes_6 : decode cX1_passes 6 = .ok (.sipush 400, 3) := dk_17 1 144 (dk_at dksX1_passes_0 6 rfl rfl)
theorem dX1_passes_9 : decode cX1_passes 9 = .ok (.if_icmp .le 19, 3) := dk_164 0 19 (dk_at dksX1_passes_0 9 rfl rfl)
theorem dX1_passes_12 : decode cX1_passes 12 = .ok (.new 169, 3) := dk_187 0 169 (dk_at dksX1_passes_0 12 rfl rfl)
theorem dX1_passes_15 : decode cX1_passes 15 = .ok (.dup, 1) := dk_89 (dk_at dksX1_passes_0 15 rfl rfl)
theorem dX1_passes_16 : decode cX1_passes 16 = .ok (.bipush 17, 2) := dk_16 17 (dk_at dksX1_passes_0 16 rfl rfl)
theorem dX1_passes_18 : decode cX1_passes 18 = .ok (.aload_n 0, 1) := dk_42 (dk_at dksX1_passes_0 18 rfl rfl)
theorem dX1_passes_19 : decode cX1_passes 19 = .ok (.getfield 109, 3) := dk_180 0 109 (dk_at dksX1_passes_0 19 rfl rfl)
theorem dX1_passes_22 : decode cX1_passes 22 = .ok (.iload_n 1, 1) := dk_27 (dk_at dksX1_passes_0 22 rfl rfl)
theorem dX1_passes_23 : decode cX1_passes 23 = .ok (.iadd, 1) := dk_96 (dk_at dksX1_passes_0 23 rfl rfl)
theorem dX1_passes_24 : decode cX1_passes 24 = .ok (.invokespecial 171, 3) := dk_183 0 171 (dk_at dksX1_passes_1 0 rfl rfl)
theorem dX1_passes_27 : decode cX1_passes 27 = .ok (.athrow, 1) := dk_191 (dk_at dksX1_passes_1 3 rfl rfl)
theorem dX1_passes_28 : decode cX1_passes 28 = .ok (.iconst 0, 1) := dk_3 (dk_at dksX1_passes_1 4 rfl rfl)
theorem dX1_passes_29 : decode cX1_passes 29 = .ok (.istore_n 2, 1) := dk_61 (dk_at dksX1_passes_1 5 rfl rfl)
theorem dX1_passes_30 : decode cX1_passes 30 = .ok (.iload_n 2, 1) := dk_28 (dk_at dksX1_passes_1 6 rfl rfl)
theorem dX1_passes_31 : decode cX1_passes 31 = .ok (.iload_n 1, 1) := dk_27 (dk_at dksX1_passes_1 7 rfl rfl)
theorem dX1_passes_32 : decode cX1_passes 32 = .ok (.if_icmp .ge 13, 3) := dk_162 0 13 (dk_at dksX1_passes_1 8 rfl rfl)
theorem dX1_passes_35 : decode cX1_passes 35 = .ok (.aload_n 0, 1) := dk_42 (dk_at dksX1_passes_1 11 rfl rfl)
theorem dX1_passes_36 : decode cX1_passes 36 = .ok (.invokevirtual 173, 3) := dk_182 0 173 (dk_at dksX1_passes_1 12 rfl rfl)
theorem dX1_passes_39 : decode cX1_passes 39 = .ok (.iinc 2 1, 3) := dk_132 2 1 (dk_at dksX1_passes_1 15 rfl rfl)
theorem dX1_passes_42 : decode cX1_passes 42 = .ok (.goto (-12), 3) := dk_167 255 244 (dk_at dksX1_passes_1 18 rfl rfl)
theorem dX1_passes_45 : decode cX1_passes 45 = .ok (.aload_n 0, 1) := dk_42 (dk_at dksX1_passes_1 21 rfl rfl)
theorem dX1_passes_46 : decode cX1_passes 46 = .ok (.getfield 109, 3) := dk_180 0 109 (dk_at dksX1_passes_2 0 rfl rfl)
theorem dX1_passes_49 : decode cX1_passes 49 = .ok (.ireturn, 1) := dk_172 (dk_at dksX1_passes_2 3 rfl rfl)
abbrev cX1_goesHour : ByteArray := prog_23_method_10_code
def yX1_goesHour : MethodName := ⟨RX1, "goesHour", "()V"⟩
def dkwX1_goesHour_3 : List UInt8 := [167, 255, 211, 42, 182, 0, 166, 177]
abbrev dktX1_goesHour_3 : List UInt8 := dkwX1_goesHour_3 ++ []
def dkwX1_goesHour_2 : List UInt8 := [45, 180, 0, 131, 5, 160, 0, 14, 45, 27, 42, 180, 0, 9, 7, 46, 182, 0, 162, 132, 2, 1]
abbrev dktX1_goesHour_2 : List UInt8 := dkwX1_goesHour_2 ++ dktX1_goesHour_3
def dkwX1_goesHour_1 : List UInt8 := [61, 28, 42, 180, 0, 24, 182, 0, 57, 162, 0, 40, 42, 180, 0, 24, 28, 182, 0, 63, 192, 0, 61, 78]
abbrev dktX1_goesHour_1 : List UInt8 := dkwX1_goesHour_1 ++ dktX1_goesHour_2
def dkwX1_goesHour_0 : List UInt8 := [42, 89, 180, 0, 109, 4, 96, 181, 0, 109, 42, 180, 0, 15, 42, 180, 0, 109, 16, 24, 112, 46, 60, 3]
abbrev dktX1_goesHour_0 : List UInt8 := dkwX1_goesHour_0 ++ dktX1_goesHour_1
theorem dksX1_goesHour_0 : cX1_goesHour.data.toList.drop 0 = dktX1_goesHour_0 := by decide +kernel
theorem dksX1_goesHour_1 : cX1_goesHour.data.toList.drop 24 = dktX1_goesHour_1 := dk_seg dksX1_goesHour_0 24 rfl rfl
theorem dksX1_goesHour_2 : cX1_goesHour.data.toList.drop 48 = dktX1_goesHour_2 := dk_seg dksX1_goesHour_1 24 rfl rfl
theorem dksX1_goesHour_3 : cX1_goesHour.data.toList.drop 70 = dktX1_goesHour_3 := dk_seg dksX1_goesHour_2 22 rfl rfl
theorem dX1_goesHour_0 : decode cX1_goesHour 0 = .ok (.aload_n 0, 1) := dk_42 (dk_at dksX1_goesHour_0 0 rfl rfl)
theorem dX1_goesHour_1 : decode cX1_goesHour 1 = .ok (.dup, 1) := dk_89 (dk_at dksX1_goesHour_0 1 rfl rfl)
theorem dX1_goesHour_2 : decode cX1_goesHour 2 = .ok (.getfield 109, 3) := dk_180 0 109 (dk_at dksX1_goesHour_0 2 rfl rfl)
theorem dX1_goesHour_5 : decode cX1_goesHour 5 = .ok (.iconst 1, 1) := dk_4 (dk_at dksX1_goesHour_0 5 rfl rfl)
theorem dX1_goesHour_6 : decode cX1_goesHour 6 = .ok (.iadd, 1) := dk_96 (dk_at dksX1_goesHour_0 6 rfl rfl)
theorem dX1_goesHour_7 : decode cX1_goesHour 7 = .ok (.putfield 109, 3) := dk_181 0 109 (dk_at dksX1_goesHour_0 7 rfl rfl)
theorem dX1_goesHour_10 : decode cX1_goesHour 10 = .ok (.aload_n 0, 1) := dk_42 (dk_at dksX1_goesHour_0 10 rfl rfl)
theorem dX1_goesHour_11 : decode cX1_goesHour 11 = .ok (.getfield 15, 3) := dk_180 0 15 (dk_at dksX1_goesHour_0 11 rfl rfl)
theorem dX1_goesHour_14 : decode cX1_goesHour 14 = .ok (.aload_n 0, 1) := dk_42 (dk_at dksX1_goesHour_0 14 rfl rfl)
theorem dX1_goesHour_15 : decode cX1_goesHour 15 = .ok (.getfield 109, 3) := dk_180 0 109 (dk_at dksX1_goesHour_0 15 rfl rfl)
theorem dX1_goesHour_18 : decode cX1_goesHour 18 = .ok (.bipush 24, 2) := dk_16 24 (dk_at dksX1_goesHour_0 18 rfl rfl)
theorem dX1_goesHour_20 : decode cX1_goesHour 20 = .ok (.irem, 1) := dk_112 (dk_at dksX1_goesHour_0 20 rfl rfl)
theorem dX1_goesHour_21 : decode cX1_goesHour 21 = .ok (.iaload, 1) := dk_46 (dk_at dksX1_goesHour_0 21 rfl rfl)
theorem dX1_goesHour_22 : decode cX1_goesHour 22 = .ok (.istore_n 1, 1) := dk_60 (dk_at dksX1_goesHour_0 22 rfl rfl)
theorem dX1_goesHour_23 : decode cX1_goesHour 23 = .ok (.iconst 0, 1) := dk_3 (dk_at dksX1_goesHour_0 23 rfl rfl)
theorem dX1_goesHour_24 : decode cX1_goesHour 24 = .ok (.istore_n 2, 1) := dk_61 (dk_at dksX1_goesHour_1 0 rfl rfl)
theorem dX1_goesHour_25 : decode cX1_goesHour 25 = .ok (.iload_n 2, 1) := dk_28 (dk_at dksX1_goesHour_1 1 rfl rfl)
theorem dX1_goesHour_26 : decode cX1_goesHour 26 = .ok (.aload_n 0, 1) := dk_42 (dk_at dksX1_goesHour_1 2 rfl rfl)
theorem dX1_goesHour_27 : decode cX1_goesHour 27 = .ok (.getfield 24, 3) := dk_180 0 24 (dk_at dksX1_goesHour_1 3 rfl rfl)
theorem dX1_goesHour_30 : decode cX1_goesHour 30 = .ok (.invokevirtual 57, 3) := dk_182 0 57 (dk_at dksX1_goesHour_1 6 rfl rfl)
theorem dX1_goesHour_33 : decode cX1_goesHour 33 = .ok (.if_icmp .ge 40, 3) := dk_162 0 40 (dk_at dksX1_goesHour_1 9 rfl rfl)
theorem dX1_goesHour_36 : decode cX1_goesHour 36 = .ok (.aload_n 0, 1) := dk_42 (dk_at dksX1_goesHour_1 12 rfl rfl)
theorem dX1_goesHour_37 : decode cX1_goesHour 37 = .ok (.getfield 24, 3) := dk_180 0 24 (dk_at dksX1_goesHour_1 13 rfl rfl)
theorem dX1_goesHour_40 : decode cX1_goesHour 40 = .ok (.iload_n 2, 1) := dk_28 (dk_at dksX1_goesHour_1 16 rfl rfl)
theorem dX1_goesHour_41 : decode cX1_goesHour 41 = .ok (.invokevirtual 63, 3) := dk_182 0 63 (dk_at dksX1_goesHour_1 17 rfl rfl)
theorem dX1_goesHour_44 : decode cX1_goesHour 44 = .ok (.checkcast 61, 3) := dk_192 0 61 (dk_at dksX1_goesHour_1 20 rfl rfl)
theorem dX1_goesHour_47 : decode cX1_goesHour 47 = .ok (.astore_n 3, 1) := dk_78 (dk_at dksX1_goesHour_1 23 rfl rfl)
theorem dX1_goesHour_48 : decode cX1_goesHour 48 = .ok (.aload_n 3, 1) := dk_45 (dk_at dksX1_goesHour_2 0 rfl rfl)
theorem dX1_goesHour_49 : decode cX1_goesHour 49 = .ok (.getfield 131, 3) := dk_180 0 131 (dk_at dksX1_goesHour_2 1 rfl rfl)
theorem dX1_goesHour_52 : decode cX1_goesHour 52 = .ok (.iconst 2, 1) := dk_5 (dk_at dksX1_goesHour_2 4 rfl rfl)
theorem dX1_goesHour_53 : decode cX1_goesHour 53 = .ok (.if_icmp .ne 14, 3) := dk_160 0 14 (dk_at dksX1_goesHour_2 5 rfl rfl)
theorem dX1_goesHour_56 : decode cX1_goesHour 56 = .ok (.aload_n 3, 1) := dk_45 (dk_at dksX1_goesHour_2 8 rfl rfl)
theorem dX1_goesHour_57 : decode cX1_goesHour 57 = .ok (.iload_n 1, 1) := dk_27 (dk_at dksX1_goesHour_2 9 rfl rfl)
theorem dX1_goesHour_58 : decode cX1_goesHour 58 = .ok (.aload_n 0, 1) := dk_42 (dk_at dksX1_goesHour_2 10 rfl rfl)
theorem dX1_goesHour_59 : decode cX1_goesHour 59 = .ok (.getfield 9, 3) := dk_180 0 9 (dk_at dksX1_goesHour_2 11 rfl rfl)
theorem dX1_goesHour_62 : decode cX1_goesHour 62 = .ok (.iconst 4, 1) := dk_7 (dk_at dksX1_goesHour_2 14 rfl rfl)
theorem dX1_goesHour_63 : decode cX1_goesHour 63 = .ok (.iaload, 1) := dk_46 (dk_at dksX1_goesHour_2 15 rfl rfl)
theorem dX1_goesHour_64 : decode cX1_goesHour 64 = .ok (.invokevirtual 162, 3) := dk_182 0 162 (dk_at dksX1_goesHour_2 16 rfl rfl)
theorem dX1_goesHour_67 : decode cX1_goesHour 67 = .ok (.iinc 2 1, 3) := dk_132 2 1 (dk_at dksX1_goesHour_2 19 rfl rfl)
theorem dX1_goesHour_70 : decode cX1_goesHour 70 = .ok (.goto (-45), 3) := dk_167 255 211 (dk_at dksX1_goesHour_3 0 rfl rfl)
theorem dX1_goesHour_73 : decode cX1_goesHour 73 = .ok (.aload_n 0, 1) := dk_42 (dk_at dksX1_goesHour_3 3 rfl rfl)
theorem dX1_goesHour_74 : decode cX1_goesHour 74 = .ok (.invokevirtual 166, 3) := dk_182 0 166 (dk_at dksX1_goesHour_3 4 rfl rfl)
theorem dX1_goesHour_77 : decode cX1_goesHour 77 = .ok (.return_, 1) := dk_177 (dk_at dksX1_goesHour_3 7 rfl rfl)
abbrev cX1_turns : ByteArray := prog_23_method_9_code
def yX1_turns : MethodName := ⟨RX1, "turns", "()V"⟩
def dkwX1_turns_2 : List UInt8 := [181, 0, 45, 42, 180, 0, 45, 2, 160, 0, 7, 42, 182, 0, 159, 177]
abbrev dktX1_turns_2 : List UInt8 := dkwX1_turns_2 ++ []
def dkwX1_turns_1 : List UInt8 := [154, 0, 25, 42, 180, 0, 24, 42, 180, 0, 45, 182, 0, 63, 192, 0, 61, 182, 0, 156, 42, 2]
abbrev dktX1_turns_1 : List UInt8 := dkwX1_turns_1 ++ dktX1_turns_2
def dkwX1_turns_0 : List UInt8 := [42, 180, 0, 45, 2, 159, 0, 42, 42, 89, 180, 0, 112, 4, 100, 181, 0, 112, 42, 180, 0, 112]
abbrev dktX1_turns_0 : List UInt8 := dkwX1_turns_0 ++ dktX1_turns_1
theorem dksX1_turns_0 : cX1_turns.data.toList.drop 0 = dktX1_turns_0 := by decide +kernel
theorem dksX1_turns_1 : cX1_turns.data.toList.drop 22 = dktX1_turns_1 := dk_seg dksX1_turns_0 22 rfl rfl
theorem dksX1_turns_2 : cX1_turns.data.toList.drop 44 = dktX1_turns_2 := dk_seg dksX1_turns_1 22 rfl rfl
theorem dX1_turns_0 : decode cX1_turns 0 = .ok (.aload_n 0, 1) := dk_42 (dk_at dksX1_turns_0 0 rfl rfl)
theorem dX1_turns_1 : decode cX1_turns 1 = .ok (.getfield 45, 3) := dk_180 0 45 (dk_at dksX1_turns_0 1 rfl rfl)
theorem dX1_turns_4 : decode cX1_turns 4 = .ok (.iconst (-1), 1) := dk_2 (dk_at dksX1_turns_0 4 rfl rfl)
theorem dX1_turns_5 : decode cX1_turns 5 = .ok (.if_icmp .eq 42, 3) := dk_159 0 42 (dk_at dksX1_turns_0 5 rfl rfl)
theorem dX1_turns_8 : decode cX1_turns 8 = .ok (.aload_n 0, 1) := dk_42 (dk_at dksX1_turns_0 8 rfl rfl)
theorem dX1_turns_9 : decode cX1_turns 9 = .ok (.dup, 1) := dk_89 (dk_at dksX1_turns_0 9 rfl rfl)
theorem dX1_turns_10 : decode cX1_turns 10 = .ok (.getfield 112, 3) := dk_180 0 112 (dk_at dksX1_turns_0 10 rfl rfl)
theorem dX1_turns_13 : decode cX1_turns 13 = .ok (.iconst 1, 1) := dk_4 (dk_at dksX1_turns_0 13 rfl rfl)
theorem dX1_turns_14 : decode cX1_turns 14 = .ok (.isub, 1) := dk_100 (dk_at dksX1_turns_0 14 rfl rfl)
theorem dX1_turns_15 : decode cX1_turns 15 = .ok (.putfield 112, 3) := dk_181 0 112 (dk_at dksX1_turns_0 15 rfl rfl)
theorem dX1_turns_18 : decode cX1_turns 18 = .ok (.aload_n 0, 1) := dk_42 (dk_at dksX1_turns_0 18 rfl rfl)
theorem dX1_turns_19 : decode cX1_turns 19 = .ok (.getfield 112, 3) := dk_180 0 112 (dk_at dksX1_turns_0 19 rfl rfl)
theorem dX1_turns_22 : decode cX1_turns 22 = .ok (.ifCond .ne 25, 3) := dk_154 0 25 (dk_at dksX1_turns_1 0 rfl rfl)
theorem dX1_turns_25 : decode cX1_turns 25 = .ok (.aload_n 0, 1) := dk_42 (dk_at dksX1_turns_1 3 rfl rfl)
theorem dX1_turns_26 : decode cX1_turns 26 = .ok (.getfield 24, 3) := dk_180 0 24 (dk_at dksX1_turns_1 4 rfl rfl)
theorem dX1_turns_29 : decode cX1_turns 29 = .ok (.aload_n 0, 1) := dk_42 (dk_at dksX1_turns_1 7 rfl rfl)
theorem dX1_turns_30 : decode cX1_turns 30 = .ok (.getfield 45, 3) := dk_180 0 45 (dk_at dksX1_turns_1 8 rfl rfl)
theorem dX1_turns_33 : decode cX1_turns 33 = .ok (.invokevirtual 63, 3) := dk_182 0 63 (dk_at dksX1_turns_1 11 rfl rfl)
theorem dX1_turns_36 : decode cX1_turns 36 = .ok (.checkcast 61, 3) := dk_192 0 61 (dk_at dksX1_turns_1 14 rfl rfl)
theorem dX1_turns_39 : decode cX1_turns 39 = .ok (.invokevirtual 156, 3) := dk_182 0 156 (dk_at dksX1_turns_1 17 rfl rfl)
theorem dX1_turns_42 : decode cX1_turns 42 = .ok (.aload_n 0, 1) := dk_42 (dk_at dksX1_turns_1 20 rfl rfl)
theorem dX1_turns_43 : decode cX1_turns 43 = .ok (.iconst (-1), 1) := dk_2 (dk_at dksX1_turns_1 21 rfl rfl)
theorem dX1_turns_44 : decode cX1_turns 44 = .ok (.putfield 45, 3) := dk_181 0 45 (dk_at dksX1_turns_2 0 rfl rfl)
theorem dX1_turns_47 : decode cX1_turns 47 = .ok (.aload_n 0, 1) := dk_42 (dk_at dksX1_turns_2 3 rfl rfl)
theorem dX1_turns_48 : decode cX1_turns 48 = .ok (.getfield 45, 3) := dk_180 0 45 (dk_at dksX1_turns_2 4 rfl rfl)
theorem dX1_turns_51 : decode cX1_turns 51 = .ok (.iconst (-1), 1) := dk_2 (dk_at dksX1_turns_2 7 rfl rfl)
theorem dX1_turns_52 : decode cX1_turns 52 = .ok (.if_icmp .ne 7, 3) := dk_160 0 7 (dk_at dksX1_turns_2 8 rfl rfl)
theorem dX1_turns_55 : decode cX1_turns 55 = .ok (.aload_n 0, 1) := dk_42 (dk_at dksX1_turns_2 11 rfl rfl)
theorem dX1_turns_56 : decode cX1_turns 56 = .ok (.invokevirtual 159, 3) := dk_182 0 159 (dk_at dksX1_turns_2 12 rfl rfl)
theorem dX1_turns_59 : decode cX1_turns 59 = .ok (.return_, 1) := dk_177 (dk_at dksX1_turns_2 15 rfl rfl)
abbrev cX1_takesWheel : ByteArray := prog_23_method_8_code
def yX1_takesWheel : MethodName := ⟨RX1, "takesWheel", "()V"⟩
def dkwX1_takesWheel_3 : List UInt8 := [177]
abbrev dktX1_takesWheel_3 : List UInt8 := dkwX1_takesWheel_3 ++ []
def dkwX1_takesWheel_2 : List UInt8 := [4, 43, 180, 0, 153, 16, 6, 104, 42, 180, 0, 18, 43, 180, 0, 138, 46, 5, 96, 108, 96, 181, 0, 112]
abbrev dktX1_takesWheel_2 : List UInt8 := dkwX1_takesWheel_2 ++ dktX1_takesWheel_3
def dkwX1_takesWheel_1 : List UInt8 := [180, 0, 45, 182, 0, 63, 192, 0, 61, 76, 43, 4, 181, 0, 131, 42, 43, 180, 0, 138, 181, 0, 49, 42]
abbrev dktX1_takesWheel_1 : List UInt8 := dkwX1_takesWheel_1 ++ dktX1_takesWheel_2
def dkwX1_takesWheel_0 : List UInt8 := [42, 180, 0, 34, 182, 0, 147, 153, 0, 4, 177, 42, 42, 182, 0, 150, 181, 0, 45, 42, 180, 0, 24, 42]
abbrev dktX1_takesWheel_0 : List UInt8 := dkwX1_takesWheel_0 ++ dktX1_takesWheel_1
theorem dksX1_takesWheel_0 : cX1_takesWheel.data.toList.drop 0 = dktX1_takesWheel_0 := by decide +kernel
theorem dksX1_takesWheel_1 : cX1_takesWheel.data.toList.drop 24 = dktX1_takesWheel_1 := dk_seg dksX1_takesWheel_0 24 rfl rfl
theorem dksX1_takesWheel_2 : cX1_takesWheel.data.toList.drop 48 = dktX1_takesWheel_2 := dk_seg dksX1_takesWheel_1 24 rfl rfl
theorem dksX1_takesWheel_3 : cX1_takesWheel.data.toList.drop 72 = dktX1_takesWheel_3 := dk_seg dksX1_takesWheel_2 24 rfl rfl
theorem dX1_takesWheel_0 : decode cX1_takesWheel 0 = .ok (.aload_n 0, 1) := dk_42 (dk_at dksX1_takesWheel_0 0 rfl rfl)
theorem dX1_takesWheel_1 : decode cX1_takesWheel 1 = .ok (.getfield 34, 3) := dk_180 0 34 (dk_at dksX1_takesWheel_0 1 rfl rfl)
theorem dX1_takesWheel_4 : decode cX1_takesWheel 4 = .ok (.invokevirtual 147, 3) := dk_182 0 147 (dk_at dksX1_takesWheel_0 4 rfl rfl)
theorem dX1_takesWheel_7 : decode cX1_takesWheel 7 = .ok (.ifCond .eq 4, 3) := dk_153 0 4 (dk_at dksX1_takesWheel_0 7 rfl rfl)
theorem dX1_takesWheel_10 : decode cX1_takesWheel 10 = .ok (.return_, 1) := dk_177 (dk_at dksX1_takesWheel_0 10 rfl rfl)
theorem dX1_takesWheel_11 : decode cX1_takesWheel 11 = .ok (.aload_n 0, 1) := dk_42 (dk_at dksX1_takesWheel_0 11 rfl rfl)
theorem dX1_takesWheel_12 : decode cX1_takesWheel 12 = .ok (.aload_n 0, 1) := dk_42 (dk_at dksX1_takesWheel_0 12 rfl rfl)
theorem dX1_takesWheel_13 : decode cX1_takesWheel 13 = .ok (.invokevirtual 150, 3) := dk_182 0 150 (dk_at dksX1_takesWheel_0 13 rfl rfl)
theorem dX1_takesWheel_16 : decode cX1_takesWheel 16 = .ok (.putfield 45, 3) := dk_181 0 45 (dk_at dksX1_takesWheel_0 16 rfl rfl)
theorem dX1_takesWheel_19 : decode cX1_takesWheel 19 = .ok (.aload_n 0, 1) := dk_42 (dk_at dksX1_takesWheel_0 19 rfl rfl)
theorem dX1_takesWheel_20 : decode cX1_takesWheel 20 = .ok (.getfield 24, 3) := dk_180 0 24 (dk_at dksX1_takesWheel_0 20 rfl rfl)
theorem dX1_takesWheel_23 : decode cX1_takesWheel 23 = .ok (.aload_n 0, 1) := dk_42 (dk_at dksX1_takesWheel_0 23 rfl rfl)
theorem dX1_takesWheel_24 : decode cX1_takesWheel 24 = .ok (.getfield 45, 3) := dk_180 0 45 (dk_at dksX1_takesWheel_1 0 rfl rfl)
theorem dX1_takesWheel_27 : decode cX1_takesWheel 27 = .ok (.invokevirtual 63, 3) := dk_182 0 63 (dk_at dksX1_takesWheel_1 3 rfl rfl)
theorem dX1_takesWheel_30 : decode cX1_takesWheel 30 = .ok (.checkcast 61, 3) := dk_192 0 61 (dk_at dksX1_takesWheel_1 6 rfl rfl)
theorem dX1_takesWheel_33 : decode cX1_takesWheel 33 = .ok (.astore_n 1, 1) := dk_76 (dk_at dksX1_takesWheel_1 9 rfl rfl)
theorem dX1_takesWheel_34 : decode cX1_takesWheel 34 = .ok (.aload_n 1, 1) := dk_43 (dk_at dksX1_takesWheel_1 10 rfl rfl)
theorem dX1_takesWheel_35 : decode cX1_takesWheel 35 = .ok (.iconst 1, 1) := dk_4 (dk_at dksX1_takesWheel_1 11 rfl rfl)
theorem dX1_takesWheel_36 : decode cX1_takesWheel 36 = .ok (.putfield 131, 3) := dk_181 0 131 (dk_at dksX1_takesWheel_1 12 rfl rfl)
theorem dX1_takesWheel_39 : decode cX1_takesWheel 39 = .ok (.aload_n 0, 1) := dk_42 (dk_at dksX1_takesWheel_1 15 rfl rfl)
theorem dX1_takesWheel_40 : decode cX1_takesWheel 40 = .ok (.aload_n 1, 1) := dk_43 (dk_at dksX1_takesWheel_1 16 rfl rfl)
theorem dX1_takesWheel_41 : decode cX1_takesWheel 41 = .ok (.getfield 138, 3) := dk_180 0 138 (dk_at dksX1_takesWheel_1 17 rfl rfl)
theorem dX1_takesWheel_44 : decode cX1_takesWheel 44 = .ok (.putfield 49, 3) := dk_181 0 49 (dk_at dksX1_takesWheel_1 20 rfl rfl)
theorem dX1_takesWheel_47 : decode cX1_takesWheel 47 = .ok (.aload_n 0, 1) := dk_42 (dk_at dksX1_takesWheel_1 23 rfl rfl)
theorem dX1_takesWheel_48 : decode cX1_takesWheel 48 = .ok (.iconst 1, 1) := dk_4 (dk_at dksX1_takesWheel_2 0 rfl rfl)
theorem dX1_takesWheel_49 : decode cX1_takesWheel 49 = .ok (.aload_n 1, 1) := dk_43 (dk_at dksX1_takesWheel_2 1 rfl rfl)
theorem dX1_takesWheel_50 : decode cX1_takesWheel 50 = .ok (.getfield 153, 3) := dk_180 0 153 (dk_at dksX1_takesWheel_2 2 rfl rfl)
theorem dX1_takesWheel_53 : decode cX1_takesWheel 53 = .ok (.bipush 6, 2) := dk_16 6 (dk_at dksX1_takesWheel_2 5 rfl rfl)
theorem dX1_takesWheel_55 : decode cX1_takesWheel 55 = .ok (.imul, 1) := dk_104 (dk_at dksX1_takesWheel_2 7 rfl rfl)
theorem dX1_takesWheel_56 : decode cX1_takesWheel 56 = .ok (.aload_n 0, 1) := dk_42 (dk_at dksX1_takesWheel_2 8 rfl rfl)
theorem dX1_takesWheel_57 : decode cX1_takesWheel 57 = .ok (.getfield 18, 3) := dk_180 0 18 (dk_at dksX1_takesWheel_2 9 rfl rfl)
theorem dX1_takesWheel_60 : decode cX1_takesWheel 60 = .ok (.aload_n 1, 1) := dk_43 (dk_at dksX1_takesWheel_2 12 rfl rfl)
theorem dX1_takesWheel_61 : decode cX1_takesWheel 61 = .ok (.getfield 138, 3) := dk_180 0 138 (dk_at dksX1_takesWheel_2 13 rfl rfl)
theorem dX1_takesWheel_64 : decode cX1_takesWheel 64 = .ok (.iaload, 1) := dk_46 (dk_at dksX1_takesWheel_2 16 rfl rfl)
theorem dX1_takesWheel_65 : decode cX1_takesWheel 65 = .ok (.iconst 2, 1) := dk_5 (dk_at dksX1_takesWheel_2 17 rfl rfl)
theorem dX1_takesWheel_66 : decode cX1_takesWheel 66 = .ok (.iadd, 1) := dk_96 (dk_at dksX1_takesWheel_2 18 rfl rfl)
theorem dX1_takesWheel_67 : decode cX1_takesWheel 67 = .ok (.idiv, 1) := dk_108 (dk_at dksX1_takesWheel_2 19 rfl rfl)
theorem dX1_takesWheel_68 : decode cX1_takesWheel 68 = .ok (.iadd, 1) := dk_96 (dk_at dksX1_takesWheel_2 20 rfl rfl)
theorem dX1_takesWheel_69 : decode cX1_takesWheel 69 = .ok (.putfield 112, 3) := dk_181 0 112 (dk_at dksX1_takesWheel_2 21 rfl rfl)
theorem dX1_takesWheel_72 : decode cX1_takesWheel 72 = .ok (.return_, 1) := dk_177 (dk_at dksX1_takesWheel_3 0 rfl rfl)
abbrev cX1_nextOfRow : ByteArray := prog_23_method_7_code
def yX1_nextOfRow : MethodName := ⟨RX1, "nextOfRow", "()I"⟩
def dkwX1_nextOfRow_3 : List UInt8 := [192, 0, 92, 182, 0, 94, 172]
abbrev dktX1_nextOfRow_3 : List UInt8 := dkwX1_nextOfRow_3 ++ []
def dkwX1_nextOfRow_2 : List UInt8 := [180, 0, 49, 159, 0, 11, 43, 185, 0, 141, 1, 0, 28, 172, 167, 255, 205, 42, 180, 0, 34, 182, 0, 144]
abbrev dktX1_nextOfRow_2 : List UInt8 := dkwX1_nextOfRow_2 ++ dktX1_nextOfRow_3
def dkwX1_nextOfRow_1 : List UInt8 := [192, 0, 92, 182, 0, 94, 61, 42, 180, 0, 24, 28, 182, 0, 63, 192, 0, 61, 180, 0, 138, 42]
abbrev dktX1_nextOfRow_1 : List UInt8 := dkwX1_nextOfRow_1 ++ dktX1_nextOfRow_2
def dkwX1_nextOfRow_0 : List UInt8 := [42, 180, 0, 34, 182, 0, 79, 76, 43, 185, 0, 83, 1, 0, 153, 0, 48, 43, 185, 0, 89, 1, 0]
abbrev dktX1_nextOfRow_0 : List UInt8 := dkwX1_nextOfRow_0 ++ dktX1_nextOfRow_1
theorem dksX1_nextOfRow_0 : cX1_nextOfRow.data.toList.drop 0 = dktX1_nextOfRow_0 := by decide +kernel
theorem dksX1_nextOfRow_1 : cX1_nextOfRow.data.toList.drop 23 = dktX1_nextOfRow_1 := dk_seg dksX1_nextOfRow_0 23 rfl rfl
theorem dksX1_nextOfRow_2 : cX1_nextOfRow.data.toList.drop 45 = dktX1_nextOfRow_2 := dk_seg dksX1_nextOfRow_1 22 rfl rfl
theorem dksX1_nextOfRow_3 : cX1_nextOfRow.data.toList.drop 69 = dktX1_nextOfRow_3 := dk_seg dksX1_nextOfRow_2 24 rfl rfl
theorem dX1_nextOfRow_0 : decode cX1_nextOfRow 0 = .ok (.aload_n 0, 1) := dk_42 (dk_at dksX1_nextOfRow_0 0 rfl rfl)
theorem dX1_nextOfRow_1 : decode cX1_nextOfRow 1 = .ok (.getfield 34, 3) := dk_180 0 34 (dk_at dksX1_nextOfRow_0 1 rfl rfl)
theorem dX1_nextOfRow_4 : decode cX1_nextOfRow 4 = .ok (.invokevirtual 79, 3) := dk_182 0 79 (dk_at dksX1_nextOfRow_0 4 rfl rfl)
theorem dX1_nextOfRow_7 : decode cX1_nextOfRow 7 = .ok (.astore_n 1, 1) := dk_76 (dk_at dksX1_nextOfRow_0 7 rfl rfl)
theorem dX1_nextOfRow_8 : decode cX1_nextOfRow 8 = .ok (.aload_n 1, 1) := dk_43 (dk_at dksX1_nextOfRow_0 8 rfl rfl)
theorem dX1_nextOfRow_9 : decode cX1_nextOfRow 9 = .ok (.invokeinterface 83 1, 5) := by decide +kernel
theorem dX1_nextOfRow_14 : decode cX1_nextOfRow 14 = .ok (.ifCond .eq 48, 3) := dk_153 0 48 (dk_at dksX1_nextOfRow_0 14 rfl rfl)
theorem dX1_nextOfRow_17 : decode cX1_nextOfRow 17 = .ok (.aload_n 1, 1) := dk_43 (dk_at dksX1_nextOfRow_0 17 rfl rfl)
theorem dX1_nextOfRow_18 : decode cX1_nextOfRow 18 = .ok (.invokeinterface 89 1, 5) := by decide +kernel
theorem dX1_nextOfRow_23 : decode cX1_nextOfRow 23 = .ok (.checkcast 92, 3) := dk_192 0 92 (dk_at dksX1_nextOfRow_1 0 rfl rfl)
theorem dX1_nextOfRow_26 : decode cX1_nextOfRow 26 = .ok (.invokevirtual 94, 3) := dk_182 0 94 (dk_at dksX1_nextOfRow_1 3 rfl rfl)
theorem dX1_nextOfRow_29 : decode cX1_nextOfRow 29 = .ok (.istore_n 2, 1) := dk_61 (dk_at dksX1_nextOfRow_1 6 rfl rfl)
theorem dX1_nextOfRow_30 : decode cX1_nextOfRow 30 = .ok (.aload_n 0, 1) := dk_42 (dk_at dksX1_nextOfRow_1 7 rfl rfl)
theorem dX1_nextOfRow_31 : decode cX1_nextOfRow 31 = .ok (.getfield 24, 3) := dk_180 0 24 (dk_at dksX1_nextOfRow_1 8 rfl rfl)
theorem dX1_nextOfRow_34 : decode cX1_nextOfRow 34 = .ok (.iload_n 2, 1) := dk_28 (dk_at dksX1_nextOfRow_1 11 rfl rfl)
theorem dX1_nextOfRow_35 : decode cX1_nextOfRow 35 = .ok (.invokevirtual 63, 3) := dk_182 0 63 (dk_at dksX1_nextOfRow_1 12 rfl rfl)
theorem dX1_nextOfRow_38 : decode cX1_nextOfRow 38 = .ok (.checkcast 61, 3) := dk_192 0 61 (dk_at dksX1_nextOfRow_1 15 rfl rfl)
theorem dX1_nextOfRow_41 : decode cX1_nextOfRow 41 = .ok (.getfield 138, 3) := dk_180 0 138 (dk_at dksX1_nextOfRow_1 18 rfl rfl)
theorem dX1_nextOfRow_44 : decode cX1_nextOfRow 44 = .ok (.aload_n 0, 1) := dk_42 (dk_at dksX1_nextOfRow_1 21 rfl rfl)
theorem dX1_nextOfRow_45 : decode cX1_nextOfRow 45 = .ok (.getfield 49, 3) := dk_180 0 49 (dk_at dksX1_nextOfRow_2 0 rfl rfl)
theorem dX1_nextOfRow_48 : decode cX1_nextOfRow 48 = .ok (.if_icmp .eq 11, 3) := dk_159 0 11 (dk_at dksX1_nextOfRow_2 3 rfl rfl)
theorem dX1_nextOfRow_51 : decode cX1_nextOfRow 51 = .ok (.aload_n 1, 1) := dk_43 (dk_at dksX1_nextOfRow_2 6 rfl rfl)
theorem dX1_nextOfRow_52 : decode cX1_nextOfRow 52 = .ok (.invokeinterface 141 1, 5) := by decide +kernel
theorem dX1_nextOfRow_57 : decode cX1_nextOfRow 57 = .ok (.iload_n 2, 1) := dk_28 (dk_at dksX1_nextOfRow_2 12 rfl rfl)
theorem dX1_nextOfRow_58 : decode cX1_nextOfRow 58 = .ok (.ireturn, 1) := dk_172 (dk_at dksX1_nextOfRow_2 13 rfl rfl)
theorem dX1_nextOfRow_59 : decode cX1_nextOfRow 59 = .ok (.goto (-51), 3) := dk_167 255 205 (dk_at dksX1_nextOfRow_2 14 rfl rfl)
theorem dX1_nextOfRow_62 : decode cX1_nextOfRow 62 = .ok (.aload_n 0, 1) := dk_42 (dk_at dksX1_nextOfRow_2 17 rfl rfl)
theorem dX1_nextOfRow_63 : decode cX1_nextOfRow 63 = .ok (.getfield 34, 3) := dk_180 0 34 (dk_at dksX1_nextOfRow_2 18 rfl rfl)
theorem dX1_nextOfRow_66 : decode cX1_nextOfRow 66 = .ok (.invokevirtual 144, 3) := dk_182 0 144 (dk_at dksX1_nextOfRow_2 21 rfl rfl)
theorem dX1_nextOfRow_69 : decode cX1_nextOfRow 69 = .ok (.checkcast 92, 3) := dk_192 0 92 (dk_at dksX1_nextOfRow_3 0 rfl rfl)
theorem dX1_nextOfRow_72 : decode cX1_nextOfRow 72 = .ok (.invokevirtual 94, 3) := dk_182 0 94 (dk_at dksX1_nextOfRow_3 3 rfl rfl)
theorem dX1_nextOfRow_75 : decode cX1_nextOfRow 75 = .ok (.ireturn, 1) := dk_172 (dk_at dksX1_nextOfRow_3 6 rfl rfl)
abbrev cX1_isPotter : ByteArray := prog_23_method_3_code
def yX1_isPotter : MethodName := ⟨RX1, "isPotter", "(I)Z"⟩
def dkwX1_isPotter_0 : List UInt8 := [27, 3, 42, 180, 0, 18, 190, 4, 100, 184, 0, 121, 172]
abbrev dktX1_isPotter_0 : List UInt8 := dkwX1_isPotter_0 ++ []
theorem dksX1_isPotter_0 : cX1_isPotter.data.toList.drop 0 = dktX1_isPotter_0 := by decide +kernel
theorem dX1_isPotter_0 : decode cX1_isPotter 0 = .ok (.iload_n 1, 1) := dk_27 (dk_at dksX1_isPotter_0 0 rfl rfl)
theorem dX1_isPotter_1 : decode cX1_isPotter 1 = .ok (.iconst 0, 1) := dk_3 (dk_at dksX1_isPotter_0 1 rfl rfl)
theorem dX1_isPotter_2 : decode cX1_isPotter 2 = .ok (.aload_n 0, 1) := dk_42 (dk_at dksX1_isPotter_0 2 rfl rfl)
theorem dX1_isPotter_3 : decode cX1_isPotter 3 = .ok (.getfield 18, 3) := dk_180 0 18 (dk_at dksX1_isPotter_0 3 rfl rfl)
theorem dX1_isPotter_6 : decode cX1_isPotter 6 = .ok (.arraylength, 1) := dk_190 (dk_at dksX1_isPotter_0 6 rfl rfl)
theorem dX1_isPotter_7 : decode cX1_isPotter 7 = .ok (.iconst 1, 1) := dk_4 (dk_at dksX1_isPotter_0 7 rfl rfl)
theorem dX1_isPotter_8 : decode cX1_isPotter 8 = .ok (.isub, 1) := dk_100 (dk_at dksX1_isPotter_0 8 rfl rfl)
theorem dX1_isPotter_9 : decode cX1_isPotter 9 = .ok (.invokestatic 121, 3) := dk_184 0 121 (dk_at dksX1_isPotter_0 9 rfl rfl)
theorem dX1_isPotter_12 : decode cX1_isPotter 12 = .ok (.ireturn, 1) := dk_172 (dk_at dksX1_isPotter_0 12 rfl rfl)
abbrev cX1_addsPot : ByteArray := prog_23_method_13_code
def yX1_addsPot : MethodName := ⟨RX1, "addsPot", "(III)I"⟩
def dkwX1_addsPot_2 : List UInt8 := [183, 0, 182, 182, 0, 70, 87, 42, 180, 0, 34, 21, 4, 184, 0, 97, 182, 0, 101, 21, 4, 172]
abbrev dktX1_addsPot_2 : List UInt8 := dkwX1_addsPot_2 ++ []
def dkwX1_addsPot_1 : List UInt8 := [42, 180, 0, 24, 182, 0, 57, 54, 4, 42, 180, 0, 24, 187, 0, 61, 89, 21, 4, 27, 28, 29]
abbrev dktX1_addsPot_1 : List UInt8 := dkwX1_addsPot_1 ++ dktX1_addsPot_2
def dkwX1_addsPot_0 : List UInt8 := [42, 180, 0, 24, 182, 0, 57, 16, 16, 160, 0, 15, 187, 0, 169, 89, 16, 11, 16, 16, 183, 0, 171, 191]
abbrev dktX1_addsPot_0 : List UInt8 := dkwX1_addsPot_0 ++ dktX1_addsPot_1
theorem dksX1_addsPot_0 : cX1_addsPot.data.toList.drop 0 = dktX1_addsPot_0 := by decide +kernel
theorem dksX1_addsPot_1 : cX1_addsPot.data.toList.drop 24 = dktX1_addsPot_1 := dk_seg dksX1_addsPot_0 24 rfl rfl
theorem dksX1_addsPot_2 : cX1_addsPot.data.toList.drop 46 = dktX1_addsPot_2 := dk_seg dksX1_addsPot_1 22 rfl rfl
theorem dX1_addsPot_0 : decode cX1_addsPot 0 = .ok (.aload_n 0, 1) := dk_42 (dk_at dksX1_addsPot_0 0 rfl rfl)
theorem dX1_addsPot_1 : decode cX1_addsPot 1 = .ok (.getfield 24, 3) := dk_180 0 24 (dk_at dksX1_addsPot_0 1 rfl rfl)
theorem dX1_addsPot_4 : decode cX1_addsPot 4 = .ok (.invokevirtual 57, 3) := dk_182 0 57 (dk_at dksX1_addsPot_0 4 rfl rfl)
theorem dX1_addsPot_7 : decode cX1_addsPot 7 = .ok (.bipush 16, 2) := dk_16 16 (dk_at dksX1_addsPot_0 7 rfl rfl)
theorem dX1_addsPot_9 : decode cX1_addsPot 9 = .ok (.if_icmp .ne 15, 3) := dk_160 0 15 (dk_at dksX1_addsPot_0 9 rfl rfl)
theorem dX1_addsPot_12 : decode cX1_addsPot 12 = .ok (.new 169, 3) := dk_187 0 169 (dk_at dksX1_addsPot_0 12 rfl rfl)
theorem dX1_addsPot_15 : decode cX1_addsPot 15 = .ok (.dup, 1) := dk_89 (dk_at dksX1_addsPot_0 15 rfl rfl)
theorem dX1_addsPot_16 : decode cX1_addsPot 16 = .ok (.bipush 11, 2) := dk_16 11 (dk_at dksX1_addsPot_0 16 rfl rfl)
theorem dX1_addsPot_18 : decode cX1_addsPot 18 = .ok (.bipush 16, 2) := dk_16 16 (dk_at dksX1_addsPot_0 18 rfl rfl)
theorem dX1_addsPot_20 : decode cX1_addsPot 20 = .ok (.invokespecial 171, 3) := dk_183 0 171 (dk_at dksX1_addsPot_0 20 rfl rfl)
theorem dX1_addsPot_23 : decode cX1_addsPot 23 = .ok (.athrow, 1) := dk_191 (dk_at dksX1_addsPot_0 23 rfl rfl)
theorem dX1_addsPot_24 : decode cX1_addsPot 24 = .ok (.aload_n 0, 1) := dk_42 (dk_at dksX1_addsPot_1 0 rfl rfl)
theorem dX1_addsPot_25 : decode cX1_addsPot 25 = .ok (.getfield 24, 3) := dk_180 0 24 (dk_at dksX1_addsPot_1 1 rfl rfl)
theorem dX1_addsPot_28 : decode cX1_addsPot 28 = .ok (.invokevirtual 57, 3) := dk_182 0 57 (dk_at dksX1_addsPot_1 4 rfl rfl)
theorem dX1_addsPot_31 : decode cX1_addsPot 31 = .ok (.istore 4, 2) := dk_54 4 (dk_at dksX1_addsPot_1 7 rfl rfl)
theorem dX1_addsPot_33 : decode cX1_addsPot 33 = .ok (.aload_n 0, 1) := dk_42 (dk_at dksX1_addsPot_1 9 rfl rfl)
theorem dX1_addsPot_34 : decode cX1_addsPot 34 = .ok (.getfield 24, 3) := dk_180 0 24 (dk_at dksX1_addsPot_1 10 rfl rfl)
theorem dX1_addsPot_37 : decode cX1_addsPot 37 = .ok (.new 61, 3) := dk_187 0 61 (dk_at dksX1_addsPot_1 13 rfl rfl)
theorem dX1_addsPot_40 : decode cX1_addsPot 40 = .ok (.dup, 1) := dk_89 (dk_at dksX1_addsPot_1 16 rfl rfl)
theorem dX1_addsPot_41 : decode cX1_addsPot 41 = .ok (.iload 4, 2) := dk_21 4 (dk_at dksX1_addsPot_1 17 rfl rfl)
theorem dX1_addsPot_43 : decode cX1_addsPot 43 = .ok (.iload_n 1, 1) := dk_27 (dk_at dksX1_addsPot_1 19 rfl rfl)
theorem dX1_addsPot_44 : decode cX1_addsPot 44 = .ok (.iload_n 2, 1) := dk_28 (dk_at dksX1_addsPot_1 20 rfl rfl)
theorem dX1_addsPot_45 : decode cX1_addsPot 45 = .ok (.iload_n 3, 1) := dk_29 (dk_at dksX1_addsPot_1 21 rfl rfl)
theorem dX1_addsPot_46 : decode cX1_addsPot 46 = .ok (.invokespecial 182, 3) := dk_183 0 182 (dk_at dksX1_addsPot_2 0 rfl rfl)
theorem dX1_addsPot_49 : decode cX1_addsPot 49 = .ok (.invokevirtual 70, 3) := dk_182 0 70 (dk_at dksX1_addsPot_2 3 rfl rfl)
theorem dX1_addsPot_52 : decode cX1_addsPot 52 = .ok (.pop, 1) := dk_87 (dk_at dksX1_addsPot_2 6 rfl rfl)
theorem dX1_addsPot_53 : decode cX1_addsPot 53 = .ok (.aload_n 0, 1) := dk_42 (dk_at dksX1_addsPot_2 7 rfl rfl)
theorem dX1_addsPot_54 : decode cX1_addsPot 54 = .ok (.getfield 34, 3) := dk_180 0 34 (dk_at dksX1_addsPot_2 8 rfl rfl)
theorem dX1_addsPot_57 : decode cX1_addsPot 57 = .ok (.iload 4, 2) := dk_21 4 (dk_at dksX1_addsPot_2 11 rfl rfl)
theorem dX1_addsPot_59 : decode cX1_addsPot 59 = .ok (.invokestatic 97, 3) := dk_184 0 97 (dk_at dksX1_addsPot_2 13 rfl rfl)
theorem dX1_addsPot_62 : decode cX1_addsPot 62 = .ok (.invokevirtual 101, 3) := dk_182 0 101 (dk_at dksX1_addsPot_2 16 rfl rfl)
theorem dX1_addsPot_65 : decode cX1_addsPot 65 = .ok (.iload 4, 2) := dk_21 4 (dk_at dksX1_addsPot_2 19 rfl rfl)
theorem dX1_addsPot_67 : decode cX1_addsPot 67 = .ok (.ireturn, 1) := dk_172 (dk_at dksX1_addsPot_2 21 rfl rfl)
abbrev cX1_isPot : ByteArray := prog_23_method_4_code
def yX1_isPot : MethodName := ⟨RX1, "isPot", "(I)Z"⟩
def dkwX1_isPot_0 : List UInt8 := [27, 3, 42, 180, 0, 24, 182, 0, 57, 4, 100, 184, 0, 121, 172]
abbrev dktX1_isPot_0 : List UInt8 := dkwX1_isPot_0 ++ []
theorem dksX1_isPot_0 : cX1_isPot.data.toList.drop 0 = dktX1_isPot_0 := by decide +kernel
theorem dX1_isPot_0 : decode cX1_isPot 0 = .ok (.iload_n 1, 1) := dk_27 (dk_at dksX1_isPot_0 0 rfl rfl)
theorem dX1_isPot_1 : decode cX1_isPot 1 = .ok (.iconst 0, 1) := dk_3 (dk_at dksX1_isPot_0 1 rfl rfl)
theorem dX1_isPot_2 : decode cX1_isPot 2 = .ok (.aload_n 0, 1) := dk_42 (dk_at dksX1_isPot_0 2 rfl rfl)
theorem dX1_isPot_3 : decode cX1_isPot 3 = .ok (.getfield 24, 3) := dk_180 0 24 (dk_at dksX1_isPot_0 3 rfl rfl)
theorem dX1_isPot_6 : decode cX1_isPot 6 = .ok (.invokevirtual 57, 3) := dk_182 0 57 (dk_at dksX1_isPot_0 6 rfl rfl)
theorem dX1_isPot_9 : decode cX1_isPot 9 = .ok (.iconst 1, 1) := dk_4 (dk_at dksX1_isPot_0 9 rfl rfl)
theorem dX1_isPot_10 : decode cX1_isPot 10 = .ok (.isub, 1) := dk_100 (dk_at dksX1_isPot_0 10 rfl rfl)
theorem dX1_isPot_11 : decode cX1_isPot 11 = .ok (.invokestatic 121, 3) := dk_184 0 121 (dk_at dksX1_isPot_0 11 rfl rfl)
theorem dX1_isPot_14 : decode cX1_isPot 14 = .ok (.ireturn, 1) := dk_172 (dk_at dksX1_isPot_0 14 rfl rfl)
abbrev cX1_covers : ByteArray := prog_23_method_15_code
def yX1_covers : MethodName := ⟨RX1, "covers", "(IZ)I"⟩
def dkwX1_covers_0 : List UInt8 := [42, 27, 5, 182, 0, 185, 78, 45, 180, 0, 189, 184, 0, 134, 54, 4, 45, 28, 181, 0, 189, 21, 4, 172]
abbrev dktX1_covers_0 : List UInt8 := dkwX1_covers_0 ++ []
theorem dksX1_covers_0 : cX1_covers.data.toList.drop 0 = dktX1_covers_0 := by decide +kernel
theorem dX1_covers_0 : decode cX1_covers 0 = .ok (.aload_n 0, 1) := dk_42 (dk_at dksX1_covers_0 0 rfl rfl)
theorem dX1_covers_1 : decode cX1_covers 1 = .ok (.iload_n 1, 1) := dk_27 (dk_at dksX1_covers_0 1 rfl rfl)
theorem dX1_covers_2 : decode cX1_covers 2 = .ok (.iconst 2, 1) := dk_5 (dk_at dksX1_covers_0 2 rfl rfl)
theorem dX1_covers_3 : decode cX1_covers 3 = .ok (.invokevirtual 185, 3) := dk_182 0 185 (dk_at dksX1_covers_0 3 rfl rfl)
theorem dX1_covers_6 : decode cX1_covers 6 = .ok (.astore_n 3, 1) := dk_78 (dk_at dksX1_covers_0 6 rfl rfl)
theorem dX1_covers_7 : decode cX1_covers 7 = .ok (.aload_n 3, 1) := dk_45 (dk_at dksX1_covers_0 7 rfl rfl)
theorem dX1_covers_8 : decode cX1_covers 8 = .ok (.getfield 189, 3) := dk_180 0 189 (dk_at dksX1_covers_0 8 rfl rfl)
theorem dX1_covers_11 : decode cX1_covers 11 = .ok (.invokestatic 134, 3) := dk_184 0 134 (dk_at dksX1_covers_0 11 rfl rfl)
theorem dX1_covers_14 : decode cX1_covers 14 = .ok (.istore 4, 2) := dk_54 4 (dk_at dksX1_covers_0 14 rfl rfl)
theorem dX1_covers_16 : decode cX1_covers 16 = .ok (.aload_n 3, 1) := dk_45 (dk_at dksX1_covers_0 16 rfl rfl)
theorem dX1_covers_17 : decode cX1_covers 17 = .ok (.iload_n 2, 1) := dk_28 (dk_at dksX1_covers_0 17 rfl rfl)
theorem dX1_covers_18 : decode cX1_covers 18 = .ok (.putfield 189, 3) := dk_181 0 189 (dk_at dksX1_covers_0 18 rfl rfl)
theorem dX1_covers_21 : decode cX1_covers 21 = .ok (.iload 4, 2) := dk_21 4 (dk_at dksX1_covers_0 21 rfl rfl)
theorem dX1_covers_23 : decode cX1_covers 23 = .ok (.ireturn, 1) := dk_172 (dk_at dksX1_covers_0 23 rfl rfl)
abbrev cX1_inState : ByteArray := prog_23_method_14_code
def yX1_inState : MethodName := ⟨RX1, "inState", "(II)LTurningWheel$Pot;"⟩
def dkwX1_inState_1 : List UInt8 := [16, 13, 45, 180, 0, 131, 183, 0, 171, 191, 45, 176]
abbrev dktX1_inState_1 : List UInt8 := dkwX1_inState_1 ++ []
def dkwX1_inState_0 : List UInt8 := [42, 180, 0, 24, 27, 182, 0, 63, 192, 0, 61, 78, 45, 180, 0, 131, 28, 159, 0, 17, 187, 0, 169, 89]
abbrev dktX1_inState_0 : List UInt8 := dkwX1_inState_0 ++ dktX1_inState_1
theorem dksX1_inState_0 : cX1_inState.data.toList.drop 0 = dktX1_inState_0 := by decide +kernel
theorem dksX1_inState_1 : cX1_inState.data.toList.drop 24 = dktX1_inState_1 := dk_seg dksX1_inState_0 24 rfl rfl
theorem dX1_inState_0 : decode cX1_inState 0 = .ok (.aload_n 0, 1) := dk_42 (dk_at dksX1_inState_0 0 rfl rfl)
theorem dX1_inState_1 : decode cX1_inState 1 = .ok (.getfield 24, 3) := dk_180 0 24 (dk_at dksX1_inState_0 1 rfl rfl)
theorem dX1_inState_4 : decode cX1_inState 4 = .ok (.iload_n 1, 1) := dk_27 (dk_at dksX1_inState_0 4 rfl rfl)
theorem dX1_inState_5 : decode cX1_inState 5 = .ok (.invokevirtual 63, 3) := dk_182 0 63 (dk_at dksX1_inState_0 5 rfl rfl)
theorem dX1_inState_8 : decode cX1_inState 8 = .ok (.checkcast 61, 3) := dk_192 0 61 (dk_at dksX1_inState_0 8 rfl rfl)
theorem dX1_inState_11 : decode cX1_inState 11 = .ok (.astore_n 3, 1) := dk_78 (dk_at dksX1_inState_0 11 rfl rfl)
theorem dX1_inState_12 : decode cX1_inState 12 = .ok (.aload_n 3, 1) := dk_45 (dk_at dksX1_inState_0 12 rfl rfl)
theorem dX1_inState_13 : decode cX1_inState 13 = .ok (.getfield 131, 3) := dk_180 0 131 (dk_at dksX1_inState_0 13 rfl rfl)
theorem dX1_inState_16 : decode cX1_inState 16 = .ok (.iload_n 2, 1) := dk_28 (dk_at dksX1_inState_0 16 rfl rfl)
theorem dX1_inState_17 : decode cX1_inState 17 = .ok (.if_icmp .eq 17, 3) := dk_159 0 17 (dk_at dksX1_inState_0 17 rfl rfl)
theorem dX1_inState_20 : decode cX1_inState 20 = .ok (.new 169, 3) := dk_187 0 169 (dk_at dksX1_inState_0 20 rfl rfl)
theorem dX1_inState_23 : decode cX1_inState 23 = .ok (.dup, 1) := dk_89 (dk_at dksX1_inState_0 23 rfl rfl)
theorem dX1_inState_24 : decode cX1_inState 24 = .ok (.bipush 13, 2) := dk_16 13 (dk_at dksX1_inState_1 0 rfl rfl)
theorem dX1_inState_26 : decode cX1_inState 26 = .ok (.aload_n 3, 1) := dk_45 (dk_at dksX1_inState_1 2 rfl rfl)
theorem dX1_inState_27 : decode cX1_inState 27 = .ok (.getfield 131, 3) := dk_180 0 131 (dk_at dksX1_inState_1 3 rfl rfl)
theorem dX1_inState_30 : decode cX1_inState 30 = .ok (.invokespecial 171, 3) := dk_183 0 171 (dk_at dksX1_inState_1 6 rfl rfl)
theorem dX1_inState_33 : decode cX1_inState 33 = .ok (.athrow, 1) := dk_191 (dk_at dksX1_inState_1 9 rfl rfl)
theorem dX1_inState_34 : decode cX1_inState 34 = .ok (.aload_n 3, 1) := dk_45 (dk_at dksX1_inState_1 10 rfl rfl)
theorem dX1_inState_35 : decode cX1_inState 35 = .ok (.areturn, 1) := dk_176 (dk_at dksX1_inState_1 11 rfl rfl)
abbrev cX1_glazes : ByteArray := prog_23_method_16_code
def yX1_glazes : MethodName := ⟨RX1, "glazes", "(III)I"⟩
def dkwX1_glazes_1 : List UInt8 := [25, 4, 7, 181, 0, 131, 25, 4, 42, 180, 0, 9, 182, 0, 202, 172]
abbrev dktX1_glazes_1 : List UInt8 := dkwX1_glazes_1 ++ []
def dkwX1_glazes_0 : List UInt8 := [42, 27, 6, 182, 0, 185, 58, 4, 25, 4, 187, 0, 193, 89, 27, 28, 29, 183, 0, 195, 181, 0, 198]
abbrev dktX1_glazes_0 : List UInt8 := dkwX1_glazes_0 ++ dktX1_glazes_1
theorem dksX1_glazes_0 : cX1_glazes.data.toList.drop 0 = dktX1_glazes_0 := by decide +kernel
theorem dksX1_glazes_1 : cX1_glazes.data.toList.drop 23 = dktX1_glazes_1 := dk_seg dksX1_glazes_0 23 rfl rfl
theorem dX1_glazes_0 : decode cX1_glazes 0 = .ok (.aload_n 0, 1) := dk_42 (dk_at dksX1_glazes_0 0 rfl rfl)
theorem dX1_glazes_1 : decode cX1_glazes 1 = .ok (.iload_n 1, 1) := dk_27 (dk_at dksX1_glazes_0 1 rfl rfl)
theorem dX1_glazes_2 : decode cX1_glazes 2 = .ok (.iconst 3, 1) := dk_6 (dk_at dksX1_glazes_0 2 rfl rfl)
theorem dX1_glazes_3 : decode cX1_glazes 3 = .ok (.invokevirtual 185, 3) := dk_182 0 185 (dk_at dksX1_glazes_0 3 rfl rfl)
theorem dX1_glazes_6 : decode cX1_glazes 6 = .ok (.astore 4, 2) := dk_58 4 (dk_at dksX1_glazes_0 6 rfl rfl)
theorem dX1_glazes_8 : decode cX1_glazes 8 = .ok (.aload 4, 2) := dk_25 4 (dk_at dksX1_glazes_0 8 rfl rfl)
theorem dX1_glazes_10 : decode cX1_glazes 10 = .ok (.new 193, 3) := dk_187 0 193 (dk_at dksX1_glazes_0 10 rfl rfl)
theorem dX1_glazes_13 : decode cX1_glazes 13 = .ok (.dup, 1) := dk_89 (dk_at dksX1_glazes_0 13 rfl rfl)
theorem dX1_glazes_14 : decode cX1_glazes 14 = .ok (.iload_n 1, 1) := dk_27 (dk_at dksX1_glazes_0 14 rfl rfl)
theorem dX1_glazes_15 : decode cX1_glazes 15 = .ok (.iload_n 2, 1) := dk_28 (dk_at dksX1_glazes_0 15 rfl rfl)
theorem dX1_glazes_16 : decode cX1_glazes 16 = .ok (.iload_n 3, 1) := dk_29 (dk_at dksX1_glazes_0 16 rfl rfl)
theorem dX1_glazes_17 : decode cX1_glazes 17 = .ok (.invokespecial 195, 3) := dk_183 0 195 (dk_at dksX1_glazes_0 17 rfl rfl)
theorem dX1_glazes_20 : decode cX1_glazes 20 = .ok (.putfield 198, 3) := dk_181 0 198 (dk_at dksX1_glazes_0 20 rfl rfl)
theorem dX1_glazes_23 : decode cX1_glazes 23 = .ok (.aload 4, 2) := dk_25 4 (dk_at dksX1_glazes_1 0 rfl rfl)
theorem dX1_glazes_25 : decode cX1_glazes 25 = .ok (.iconst 4, 1) := dk_7 (dk_at dksX1_glazes_1 2 rfl rfl)
theorem dX1_glazes_26 : decode cX1_glazes 26 = .ok (.putfield 131, 3) := dk_181 0 131 (dk_at dksX1_glazes_1 3 rfl rfl)
theorem dX1_glazes_29 : decode cX1_glazes 29 = .ok (.aload 4, 2) := dk_25 4 (dk_at dksX1_glazes_1 6 rfl rfl)
theorem dX1_glazes_31 : decode cX1_glazes 31 = .ok (.aload_n 0, 1) := dk_42 (dk_at dksX1_glazes_1 8 rfl rfl)
theorem dX1_glazes_32 : decode cX1_glazes 32 = .ok (.getfield 9, 3) := dk_180 0 9 (dk_at dksX1_glazes_1 9 rfl rfl)
theorem dX1_glazes_35 : decode cX1_glazes 35 = .ok (.invokevirtual 202, 3) := dk_182 0 202 (dk_at dksX1_glazes_1 12 rfl rfl)
theorem dX1_glazes_38 : decode cX1_glazes 38 = .ok (.ireturn, 1) := dk_172 (dk_at dksX1_glazes_1 15 rfl rfl)
abbrev cX1_places : ByteArray := prog_23_method_18_code
def yX1_places : MethodName := ⟨RX1, "places", "(II)I"⟩
def dkwX1_places_4 : List UInt8 := [180, 0, 41, 182, 0, 230, 172]
abbrev dktX1_places_4 : List UInt8 := dkwX1_places_4 ++ []
def dkwX1_places_3 : List UInt8 := [182, 0, 225, 183, 0, 171, 191, 42, 180, 0, 41, 28, 45, 180, 0, 198, 182, 0, 210, 58, 4, 42]
abbrev dktX1_places_3 : List UInt8 := dkwX1_places_3 ++ dktX1_places_4
def dkwX1_places_2 : List UInt8 := [180, 0, 41, 28, 182, 0, 206, 198, 0, 24, 187, 0, 169, 89, 16, 14, 42, 180, 0, 41, 28, 182, 0, 206]
abbrev dktX1_places_2 : List UInt8 := dkwX1_places_2 ++ dktX1_places_3
def dkwX1_places_1 : List UInt8 := [180, 0, 41, 27, 182, 0, 221, 2, 159, 0, 14, 187, 0, 169, 89, 16, 14, 27, 183, 0, 171, 191, 42]
abbrev dktX1_places_1 : List UInt8 := dkwX1_places_1 ++ dktX1_places_2
def dkwX1_places_0 : List UInt8 := [42, 42, 180, 0, 24, 27, 182, 0, 63, 192, 0, 61, 28, 182, 0, 217, 42, 27, 7, 182, 0, 185, 78, 42]
abbrev dktX1_places_0 : List UInt8 := dkwX1_places_0 ++ dktX1_places_1
theorem dksX1_places_0 : cX1_places.data.toList.drop 0 = dktX1_places_0 := by decide +kernel
theorem dksX1_places_1 : cX1_places.data.toList.drop 24 = dktX1_places_1 := dk_seg dksX1_places_0 24 rfl rfl
theorem dksX1_places_2 : cX1_places.data.toList.drop 47 = dktX1_places_2 := dk_seg dksX1_places_1 23 rfl rfl
theorem dksX1_places_3 : cX1_places.data.toList.drop 71 = dktX1_places_3 := dk_seg dksX1_places_2 24 rfl rfl
theorem dksX1_places_4 : cX1_places.data.toList.drop 93 = dktX1_places_4 := dk_seg dksX1_places_3 22 rfl rfl
theorem dX1_places_0 : decode cX1_places 0 = .ok (.aload_n 0, 1) := dk_42 (dk_at dksX1_places_0 0 rfl rfl)
theorem dX1_places_1 : decode cX1_places 1 = .ok (.aload_n 0, 1) := dk_42 (dk_at dksX1_places_0 1 rfl rfl)
theorem dX1_places_2 : decode cX1_places 2 = .ok (.getfield 24, 3) := dk_180 0 24 (dk_at dksX1_places_0 2 rfl rfl)
theorem dX1_places_5 : decode cX1_places 5 = .ok (.iload_n 1, 1) := dk_27 (dk_at dksX1_places_0 5 rfl rfl)
theorem dX1_places_6 : decode cX1_places 6 = .ok (.invokevirtual 63, 3) := dk_182 0 63 (dk_at dksX1_places_0 6 rfl rfl)
theorem dX1_places_9 : decode cX1_places 9 = .ok (.checkcast 61, 3) := dk_192 0 61 (dk_at dksX1_places_0 9 rfl rfl)
theorem dX1_places_12 : decode cX1_places 12 = .ok (.iload_n 2, 1) := dk_28 (dk_at dksX1_places_0 12 rfl rfl)
theorem dX1_places_13 : decode cX1_places 13 = .ok (.invokevirtual 217, 3) := dk_182 0 217 (dk_at dksX1_places_0 13 rfl rfl)
theorem dX1_places_16 : decode cX1_places 16 = .ok (.aload_n 0, 1) := dk_42 (dk_at dksX1_places_0 16 rfl rfl)
theorem dX1_places_17 : decode cX1_places 17 = .ok (.iload_n 1, 1) := dk_27 (dk_at dksX1_places_0 17 rfl rfl)
theorem dX1_places_18 : decode cX1_places 18 = .ok (.iconst 4, 1) := dk_7 (dk_at dksX1_places_0 18 rfl rfl)
theorem dX1_places_19 : decode cX1_places 19 = .ok (.invokevirtual 185, 3) := dk_182 0 185 (dk_at dksX1_places_0 19 rfl rfl)
theorem dX1_places_22 : decode cX1_places 22 = .ok (.astore_n 3, 1) := dk_78 (dk_at dksX1_places_0 22 rfl rfl)
theorem dX1_places_23 : decode cX1_places 23 = .ok (.aload_n 0, 1) := dk_42 (dk_at dksX1_places_0 23 rfl rfl)
theorem dX1_places_24 : decode cX1_places 24 = .ok (.getfield 41, 3) := dk_180 0 41 (dk_at dksX1_places_1 0 rfl rfl)
theorem dX1_places_27 : decode cX1_places 27 = .ok (.iload_n 1, 1) := dk_27 (dk_at dksX1_places_1 3 rfl rfl)
theorem dX1_places_28 : decode cX1_places 28 = .ok (.invokevirtual 221, 3) := dk_182 0 221 (dk_at dksX1_places_1 4 rfl rfl)
theorem dX1_places_31 : decode cX1_places 31 = .ok (.iconst (-1), 1) := dk_2 (dk_at dksX1_places_1 7 rfl rfl)
theorem dX1_places_32 : decode cX1_places 32 = .ok (.if_icmp .eq 14, 3) := dk_159 0 14 (dk_at dksX1_places_1 8 rfl rfl)
theorem dX1_places_35 : decode cX1_places 35 = .ok (.new 169, 3) := dk_187 0 169 (dk_at dksX1_places_1 11 rfl rfl)
theorem dX1_places_38 : decode cX1_places 38 = .ok (.dup, 1) := dk_89 (dk_at dksX1_places_1 14 rfl rfl)
theorem dX1_places_39 : decode cX1_places 39 = .ok (.bipush 14, 2) := dk_16 14 (dk_at dksX1_places_1 15 rfl rfl)
theorem dX1_places_41 : decode cX1_places 41 = .ok (.iload_n 1, 1) := dk_27 (dk_at dksX1_places_1 17 rfl rfl)
theorem dX1_places_42 : decode cX1_places 42 = .ok (.invokespecial 171, 3) := dk_183 0 171 (dk_at dksX1_places_1 18 rfl rfl)
theorem dX1_places_45 : decode cX1_places 45 = .ok (.athrow, 1) := dk_191 (dk_at dksX1_places_1 21 rfl rfl)
theorem dX1_places_46 : decode cX1_places 46 = .ok (.aload_n 0, 1) := dk_42 (dk_at dksX1_places_1 22 rfl rfl)
theorem dX1_places_47 : decode cX1_places 47 = .ok (.getfield 41, 3) := dk_180 0 41 (dk_at dksX1_places_2 0 rfl rfl)
theorem dX1_places_50 : decode cX1_places 50 = .ok (.iload_n 2, 1) := dk_28 (dk_at dksX1_places_2 3 rfl rfl)
theorem dX1_places_51 : decode cX1_places 51 = .ok (.invokevirtual 206, 3) := dk_182 0 206 (dk_at dksX1_places_2 4 rfl rfl)
theorem dX1_places_54 : decode cX1_places 54 = .ok (.ifnull 24, 3) := dk_198 0 24 (dk_at dksX1_places_2 7 rfl rfl)
theorem dX1_places_57 : decode cX1_places 57 = .ok (.new 169, 3) := dk_187 0 169 (dk_at dksX1_places_2 10 rfl rfl)
theorem dX1_places_60 : decode cX1_places 60 = .ok (.dup, 1) := dk_89 (dk_at dksX1_places_2 13 rfl rfl)
theorem dX1_places_61 : decode cX1_places 61 = .ok (.bipush 14, 2) := dk_16 14 (dk_at dksX1_places_2 14 rfl rfl)
theorem dX1_places_63 : decode cX1_places 63 = .ok (.aload_n 0, 1) := dk_42 (dk_at dksX1_places_2 16 rfl rfl)
theorem dX1_places_64 : decode cX1_places 64 = .ok (.getfield 41, 3) := dk_180 0 41 (dk_at dksX1_places_2 17 rfl rfl)
theorem dX1_places_67 : decode cX1_places 67 = .ok (.iload_n 2, 1) := dk_28 (dk_at dksX1_places_2 20 rfl rfl)
theorem dX1_places_68 : decode cX1_places 68 = .ok (.invokevirtual 206, 3) := dk_182 0 206 (dk_at dksX1_places_2 21 rfl rfl)
theorem dX1_places_71 : decode cX1_places 71 = .ok (.invokevirtual 225, 3) := dk_182 0 225 (dk_at dksX1_places_3 0 rfl rfl)
theorem dX1_places_74 : decode cX1_places 74 = .ok (.invokespecial 171, 3) := dk_183 0 171 (dk_at dksX1_places_3 3 rfl rfl)
theorem dX1_places_77 : decode cX1_places 77 = .ok (.athrow, 1) := dk_191 (dk_at dksX1_places_3 6 rfl rfl)
theorem dX1_places_78 : decode cX1_places 78 = .ok (.aload_n 0, 1) := dk_42 (dk_at dksX1_places_3 7 rfl rfl)
theorem dX1_places_79 : decode cX1_places 79 = .ok (.getfield 41, 3) := dk_180 0 41 (dk_at dksX1_places_3 8 rfl rfl)
theorem dX1_places_82 : decode cX1_places 82 = .ok (.iload_n 2, 1) := dk_28 (dk_at dksX1_places_3 11 rfl rfl)
theorem dX1_places_83 : decode cX1_places 83 = .ok (.aload_n 3, 1) := dk_45 (dk_at dksX1_places_3 12 rfl rfl)
theorem dX1_places_84 : decode cX1_places 84 = .ok (.getfield 198, 3) := dk_180 0 198 (dk_at dksX1_places_3 13 rfl rfl)
theorem dX1_places_87 : decode cX1_places 87 = .ok (.invokevirtual 210, 3) := dk_182 0 210 (dk_at dksX1_places_3 16 rfl rfl)
theorem dX1_places_90 : decode cX1_places 90 = .ok (.astore 4, 2) := dk_58 4 (dk_at dksX1_places_3 19 rfl rfl)
theorem dX1_places_92 : decode cX1_places 92 = .ok (.aload_n 0, 1) := dk_42 (dk_at dksX1_places_3 21 rfl rfl)
theorem dX1_places_93 : decode cX1_places 93 = .ok (.getfield 41, 3) := dk_180 0 41 (dk_at dksX1_places_4 0 rfl rfl)
theorem dX1_places_96 : decode cX1_places 96 = .ok (.invokevirtual 230, 3) := dk_182 0 230 (dk_at dksX1_places_4 3 rfl rfl)
theorem dX1_places_99 : decode cX1_places 99 = .ok (.ireturn, 1) := dk_172 (dk_at dksX1_places_4 6 rfl rfl)
abbrev cX1_tries : ByteArray := prog_23_method_17_code
def yX1_tries : MethodName := ⟨RX1, "tries", "(LTurningWheel$Pot;I)V"⟩
def dkwX1_tries_2 : List UInt8 := [180, 0, 41, 28, 45, 182, 0, 210, 58, 4, 177]
abbrev dktX1_tries_2 : List UInt8 := dkwX1_tries_2 ++ []
def dkwX1_tries_1 : List UInt8 := [167, 0, 21, 58, 4, 187, 0, 169, 89, 16, 13, 43, 180, 0, 131, 25, 4, 183, 0, 214, 191, 42]
abbrev dktX1_tries_1 : List UInt8 := dkwX1_tries_1 ++ dktX1_tries_2
def dkwX1_tries_0 : List UInt8 := [42, 180, 0, 41, 28, 182, 0, 206, 78, 42, 180, 0, 41, 28, 43, 180, 0, 198, 182, 0, 210, 58, 4]
abbrev dktX1_tries_0 : List UInt8 := dkwX1_tries_0 ++ dktX1_tries_1
theorem dksX1_tries_0 : cX1_tries.data.toList.drop 0 = dktX1_tries_0 := by decide +kernel
theorem dksX1_tries_1 : cX1_tries.data.toList.drop 23 = dktX1_tries_1 := dk_seg dksX1_tries_0 23 rfl rfl
theorem dksX1_tries_2 : cX1_tries.data.toList.drop 45 = dktX1_tries_2 := dk_seg dksX1_tries_1 22 rfl rfl
theorem dX1_tries_0 : decode cX1_tries 0 = .ok (.aload_n 0, 1) := dk_42 (dk_at dksX1_tries_0 0 rfl rfl)
theorem dX1_tries_1 : decode cX1_tries 1 = .ok (.getfield 41, 3) := dk_180 0 41 (dk_at dksX1_tries_0 1 rfl rfl)
theorem dX1_tries_4 : decode cX1_tries 4 = .ok (.iload_n 2, 1) := dk_28 (dk_at dksX1_tries_0 4 rfl rfl)
theorem dX1_tries_5 : decode cX1_tries 5 = .ok (.invokevirtual 206, 3) := dk_182 0 206 (dk_at dksX1_tries_0 5 rfl rfl)
theorem dX1_tries_8 : decode cX1_tries 8 = .ok (.astore_n 3, 1) := dk_78 (dk_at dksX1_tries_0 8 rfl rfl)
theorem dX1_tries_9 : decode cX1_tries 9 = .ok (.aload_n 0, 1) := dk_42 (dk_at dksX1_tries_0 9 rfl rfl)
theorem dX1_tries_10 : decode cX1_tries 10 = .ok (.getfield 41, 3) := dk_180 0 41 (dk_at dksX1_tries_0 10 rfl rfl)
theorem dX1_tries_13 : decode cX1_tries 13 = .ok (.iload_n 2, 1) := dk_28 (dk_at dksX1_tries_0 13 rfl rfl)
theorem dX1_tries_14 : decode cX1_tries 14 = .ok (.aload_n 1, 1) := dk_43 (dk_at dksX1_tries_0 14 rfl rfl)
theorem dX1_tries_15 : decode cX1_tries 15 = .ok (.getfield 198, 3) := dk_180 0 198 (dk_at dksX1_tries_0 15 rfl rfl)
theorem dX1_tries_18 : decode cX1_tries 18 = .ok (.invokevirtual 210, 3) := dk_182 0 210 (dk_at dksX1_tries_0 18 rfl rfl)
theorem dX1_tries_21 : decode cX1_tries 21 = .ok (.astore 4, 2) := dk_58 4 (dk_at dksX1_tries_0 21 rfl rfl)
theorem dX1_tries_23 : decode cX1_tries 23 = .ok (.goto 21, 3) := dk_167 0 21 (dk_at dksX1_tries_1 0 rfl rfl)
theorem dX1_tries_26 : decode cX1_tries 26 = .ok (.astore 4, 2) := dk_58 4 (dk_at dksX1_tries_1 3 rfl rfl)
theorem dX1_tries_28 : decode cX1_tries 28 = .ok (.new 169, 3) := dk_187 0 169 (dk_at dksX1_tries_1 5 rfl rfl)
theorem dX1_tries_31 : decode cX1_tries 31 = .ok (.dup, 1) := dk_89 (dk_at dksX1_tries_1 8 rfl rfl)
theorem dX1_tries_32 : decode cX1_tries 32 = .ok (.bipush 13, 2) := dk_16 13 (dk_at dksX1_tries_1 9 rfl rfl)
theorem dX1_tries_34 : decode cX1_tries 34 = .ok (.aload_n 1, 1) := dk_43 (dk_at dksX1_tries_1 11 rfl rfl)
theorem dX1_tries_35 : decode cX1_tries 35 = .ok (.getfield 131, 3) := dk_180 0 131 (dk_at dksX1_tries_1 12 rfl rfl)
theorem dX1_tries_38 : decode cX1_tries 38 = .ok (.aload 4, 2) := dk_25 4 (dk_at dksX1_tries_1 15 rfl rfl)
theorem dX1_tries_40 : decode cX1_tries 40 = .ok (.invokespecial 214, 3) := dk_183 0 214 (dk_at dksX1_tries_1 17 rfl rfl)
theorem dX1_tries_43 : decode cX1_tries 43 = .ok (.athrow, 1) := dk_191 (dk_at dksX1_tries_1 20 rfl rfl)
theorem dX1_tries_44 : decode cX1_tries 44 = .ok (.aload_n 0, 1) := dk_42 (dk_at dksX1_tries_1 21 rfl rfl)
theorem dX1_tries_45 : decode cX1_tries 45 = .ok (.getfield 41, 3) := dk_180 0 41 (dk_at dksX1_tries_2 0 rfl rfl)
theorem dX1_tries_48 : decode cX1_tries 48 = .ok (.iload_n 2, 1) := dk_28 (dk_at dksX1_tries_2 3 rfl rfl)
theorem dX1_tries_49 : decode cX1_tries 49 = .ok (.aload_n 3, 1) := dk_45 (dk_at dksX1_tries_2 4 rfl rfl)
theorem dX1_tries_50 : decode cX1_tries 50 = .ok (.invokevirtual 210, 3) := dk_182 0 210 (dk_at dksX1_tries_2 5 rfl rfl)
theorem dX1_tries_53 : decode cX1_tries 53 = .ok (.astore 4, 2) := dk_58 4 (dk_at dksX1_tries_2 8 rfl rfl)
theorem dX1_tries_55 : decode cX1_tries 55 = .ok (.return_, 1) := dk_177 (dk_at dksX1_tries_2 10 rfl rfl)
abbrev cX1_fires : ByteArray := prog_23_method_26_code
def yX1_fires : MethodName := ⟨RX1, "fires", "()I"⟩
def dkwX1_fires_2 : List UInt8 := [182, 1, 39, 172]
abbrev dktX1_fires_2 : List UInt8 := dkwX1_fires_2 ++ []
def dkwX1_fires_1 : List UInt8 := [182, 1, 33, 158, 0, 17, 187, 0, 169, 89, 16, 16, 42, 182, 1, 33, 183, 0, 171, 191, 42, 182, 1, 36]
abbrev dktX1_fires_1 : List UInt8 := dkwX1_fires_1 ++ dktX1_fires_2
def dkwX1_fires_0 : List UInt8 := [42, 180, 0, 41, 182, 0, 230, 154, 0, 14, 187, 0, 169, 89, 16, 15, 3, 183, 0, 171, 191, 42]
abbrev dktX1_fires_0 : List UInt8 := dkwX1_fires_0 ++ dktX1_fires_1
theorem dksX1_fires_0 : cX1_fires.data.toList.drop 0 = dktX1_fires_0 := by decide +kernel
theorem dksX1_fires_1 : cX1_fires.data.toList.drop 22 = dktX1_fires_1 := dk_seg dksX1_fires_0 22 rfl rfl
theorem dksX1_fires_2 : cX1_fires.data.toList.drop 46 = dktX1_fires_2 := dk_seg dksX1_fires_1 24 rfl rfl
theorem dX1_fires_0 : decode cX1_fires 0 = .ok (.aload_n 0, 1) := dk_42 (dk_at dksX1_fires_0 0 rfl rfl)
theorem dX1_fires_1 : decode cX1_fires 1 = .ok (.getfield 41, 3) := dk_180 0 41 (dk_at dksX1_fires_0 1 rfl rfl)
theorem dX1_fires_4 : decode cX1_fires 4 = .ok (.invokevirtual 230, 3) := dk_182 0 230 (dk_at dksX1_fires_0 4 rfl rfl)
theorem dX1_fires_7 : decode cX1_fires 7 = .ok (.ifCond .ne 14, 3) := dk_154 0 14 (dk_at dksX1_fires_0 7 rfl rfl)
theorem dX1_fires_10 : decode cX1_fires 10 = .ok (.new 169, 3) := dk_187 0 169 (dk_at dksX1_fires_0 10 rfl rfl)
theorem dX1_fires_13 : decode cX1_fires 13 = .ok (.dup, 1) := dk_89 (dk_at dksX1_fires_0 13 rfl rfl)
theorem dX1_fires_14 : decode cX1_fires 14 = .ok (.bipush 15, 2) := dk_16 15 (dk_at dksX1_fires_0 14 rfl rfl)
theorem dX1_fires_16 : decode cX1_fires 16 = .ok (.iconst 0, 1) := dk_3 (dk_at dksX1_fires_0 16 rfl rfl)
theorem dX1_fires_17 : decode cX1_fires 17 = .ok (.invokespecial 171, 3) := dk_183 0 171 (dk_at dksX1_fires_0 17 rfl rfl)
theorem dX1_fires_20 : decode cX1_fires 20 = .ok (.athrow, 1) := dk_191 (dk_at dksX1_fires_0 20 rfl rfl)
theorem dX1_fires_21 : decode cX1_fires 21 = .ok (.aload_n 0, 1) := dk_42 (dk_at dksX1_fires_0 21 rfl rfl)
theorem dX1_fires_22 : decode cX1_fires 22 = .ok (.invokevirtual 289, 3) := dk_182 1 33 (dk_at dksX1_fires_1 0 rfl rfl)
theorem dX1_fires_25 : decode cX1_fires 25 = .ok (.ifCond .le 17, 3) := dk_158 0 17 (dk_at dksX1_fires_1 3 rfl rfl)
theorem dX1_fires_28 : decode cX1_fires 28 = .ok (.new 169, 3) := dk_187 0 169 (dk_at dksX1_fires_1 6 rfl rfl)
theorem dX1_fires_31 : decode cX1_fires 31 = .ok (.dup, 1) := dk_89 (dk_at dksX1_fires_1 9 rfl rfl)
theorem dX1_fires_32 : decode cX1_fires 32 = .ok (.bipush 16, 2) := dk_16 16 (dk_at dksX1_fires_1 10 rfl rfl)
theorem dX1_fires_34 : decode cX1_fires 34 = .ok (.aload_n 0, 1) := dk_42 (dk_at dksX1_fires_1 12 rfl rfl)
theorem dX1_fires_35 : decode cX1_fires 35 = .ok (.invokevirtual 289, 3) := dk_182 1 33 (dk_at dksX1_fires_1 13 rfl rfl)
theorem dX1_fires_38 : decode cX1_fires 38 = .ok (.invokespecial 171, 3) := dk_183 0 171 (dk_at dksX1_fires_1 16 rfl rfl)
theorem dX1_fires_41 : decode cX1_fires 41 = .ok (.athrow, 1) := dk_191 (dk_at dksX1_fires_1 19 rfl rfl)
theorem dX1_fires_42 : decode cX1_fires 42 = .ok (.aload_n 0, 1) := dk_42 (dk_at dksX1_fires_1 20 rfl rfl)
theorem dX1_fires_43 : decode cX1_fires 43 = .ok (.invokevirtual 292, 3) := dk_182 1 36 (dk_at dksX1_fires_1 21 rfl rfl)
theorem dX1_fires_46 : decode cX1_fires 46 = .ok (.invokevirtual 295, 3) := dk_182 1 39 (dk_at dksX1_fires_2 0 rfl rfl)
theorem dX1_fires_49 : decode cX1_fires 49 = .ok (.ireturn, 1) := dk_172 (dk_at dksX1_fires_2 3 rfl rfl)
abbrev cX1_restLeft : ByteArray := prog_23_method_5_code
def yX1_restLeft : MethodName := ⟨RX1, "restLeft", "()I"⟩
def dkwX1_restLeft_0 : List UInt8 := [3, 42, 180, 0, 115, 42, 180, 0, 109, 100, 184, 0, 125, 172]
abbrev dktX1_restLeft_0 : List UInt8 := dkwX1_restLeft_0 ++ []
theorem dksX1_restLeft_0 : cX1_restLeft.data.toList.drop 0 = dktX1_restLeft_0 := by decide +kernel
theorem dX1_restLeft_0 : decode cX1_restLeft 0 = .ok (.iconst 0, 1) := dk_3 (dk_at dksX1_restLeft_0 0 rfl rfl)
theorem dX1_restLeft_1 : decode cX1_restLeft 1 = .ok (.aload_n 0, 1) := dk_42 (dk_at dksX1_restLeft_0 1 rfl rfl)
theorem dX1_restLeft_2 : decode cX1_restLeft 2 = .ok (.getfield 115, 3) := dk_180 0 115 (dk_at dksX1_restLeft_0 2 rfl rfl)
theorem dX1_restLeft_5 : decode cX1_restLeft 5 = .ok (.aload_n 0, 1) := dk_42 (dk_at dksX1_restLeft_0 5 rfl rfl)
theorem dX1_restLeft_6 : decode cX1_restLeft 6 = .ok (.getfield 109, 3) := dk_180 0 109 (dk_at dksX1_restLeft_0 6 rfl rfl)
theorem dX1_restLeft_9 : decode cX1_restLeft 9 = .ok (.isub, 1) := dk_100 (dk_at dksX1_restLeft_0 9 rfl rfl)
theorem dX1_restLeft_10 : decode cX1_restLeft 10 = .ok (.invokestatic 125, 3) := dk_184 0 125 (dk_at dksX1_restLeft_0 10 rfl rfl)
theorem dX1_restLeft_13 : decode cX1_restLeft 13 = .ok (.ireturn, 1) := dk_172 (dk_at dksX1_restLeft_0 13 rfl rfl)
abbrev cX1_burns : ByteArray := prog_23_method_25_code
def yX1_burns : MethodName := ⟨RX1, "burns", "()Ljava/util/BitSet;"⟩
def dkwX1_burns_5 : List UInt8 := [182, 1, 29, 176]
abbrev dktX1_burns_5 : List UInt8 := dkwX1_burns_5 ++ []
def dkwX1_burns_4 : List UInt8 := [180, 0, 41, 182, 1, 26, 42, 42, 180, 0, 109, 42, 180, 0, 9, 8, 46, 96, 181, 0, 115, 42, 44]
abbrev dktX1_burns_4 : List UInt8 := dkwX1_burns_4 ++ dktX1_burns_5
def dkwX1_burns_3 : List UInt8 := [182, 0, 63, 192, 0, 61, 8, 181, 0, 131, 44, 29, 4, 96, 182, 0, 252, 62, 167, 255, 229, 42]
abbrev dktX1_burns_3 : List UInt8 := dkwX1_burns_3 ++ dktX1_burns_4
def dkwX1_burns_2 : List UInt8 := [182, 0, 252, 62, 167, 255, 228, 44, 3, 182, 0, 252, 62, 29, 155, 0, 29, 42, 180, 0, 24, 29]
abbrev dktX1_burns_2 : List UInt8 := dkwX1_burns_2 ++ dktX1_burns_3
def dkwX1_burns_1 : List UInt8 := [155, 0, 30, 42, 180, 0, 24, 29, 182, 0, 63, 192, 0, 61, 16, 7, 181, 0, 131, 43, 29, 4, 96]
abbrev dktX1_burns_1 : List UInt8 := dkwX1_burns_1 ++ dktX1_burns_2
def dkwX1_burns_0 : List UInt8 := [42, 182, 1, 15, 76, 42, 182, 1, 19, 77, 44, 43, 182, 1, 22, 43, 3, 182, 0, 252, 62, 29]
abbrev dktX1_burns_0 : List UInt8 := dkwX1_burns_0 ++ dktX1_burns_1
theorem dksX1_burns_0 : cX1_burns.data.toList.drop 0 = dktX1_burns_0 := by decide +kernel
theorem dksX1_burns_1 : cX1_burns.data.toList.drop 22 = dktX1_burns_1 := dk_seg dksX1_burns_0 22 rfl rfl
theorem dksX1_burns_2 : cX1_burns.data.toList.drop 45 = dktX1_burns_2 := dk_seg dksX1_burns_1 23 rfl rfl
theorem dksX1_burns_3 : cX1_burns.data.toList.drop 67 = dktX1_burns_3 := dk_seg dksX1_burns_2 22 rfl rfl
theorem dksX1_burns_4 : cX1_burns.data.toList.drop 89 = dktX1_burns_4 := dk_seg dksX1_burns_3 22 rfl rfl
theorem dksX1_burns_5 : cX1_burns.data.toList.drop 112 = dktX1_burns_5 := dk_seg dksX1_burns_4 23 rfl rfl
theorem dX1_burns_0 : decode cX1_burns 0 = .ok (.aload_n 0, 1) := dk_42 (dk_at dksX1_burns_0 0 rfl rfl)
theorem dX1_burns_1 : decode cX1_burns 1 = .ok (.invokevirtual 271, 3) := dk_182 1 15 (dk_at dksX1_burns_0 1 rfl rfl)
theorem dX1_burns_4 : decode cX1_burns 4 = .ok (.astore_n 1, 1) := dk_76 (dk_at dksX1_burns_0 4 rfl rfl)
theorem dX1_burns_5 : decode cX1_burns 5 = .ok (.aload_n 0, 1) := dk_42 (dk_at dksX1_burns_0 5 rfl rfl)
theorem dX1_burns_6 : decode cX1_burns 6 = .ok (.invokevirtual 275, 3) := dk_182 1 19 (dk_at dksX1_burns_0 6 rfl rfl)
theorem dX1_burns_9 : decode cX1_burns 9 = .ok (.astore_n 2, 1) := dk_77 (dk_at dksX1_burns_0 9 rfl rfl)
theorem dX1_burns_10 : decode cX1_burns 10 = .ok (.aload_n 2, 1) := dk_44 (dk_at dksX1_burns_0 10 rfl rfl)
theorem dX1_burns_11 : decode cX1_burns 11 = .ok (.aload_n 1, 1) := dk_43 (dk_at dksX1_burns_0 11 rfl rfl)
theorem dX1_burns_12 : decode cX1_burns 12 = .ok (.invokevirtual 278, 3) := dk_182 1 22 (dk_at dksX1_burns_0 12 rfl rfl)
theorem dX1_burns_15 : decode cX1_burns 15 = .ok (.aload_n 1, 1) := dk_43 (dk_at dksX1_burns_0 15 rfl rfl)
theorem dX1_burns_16 : decode cX1_burns 16 = .ok (.iconst 0, 1) := dk_3 (dk_at dksX1_burns_0 16 rfl rfl)
theorem dX1_burns_17 : decode cX1_burns 17 = .ok (.invokevirtual 252, 3) := dk_182 0 252 (dk_at dksX1_burns_0 17 rfl rfl)
theorem dX1_burns_20 : decode cX1_burns 20 = .ok (.istore_n 3, 1) := dk_62 (dk_at dksX1_burns_0 20 rfl rfl)
theorem dX1_burns_21 : decode cX1_burns 21 = .ok (.iload_n 3, 1) := dk_29 (dk_at dksX1_burns_0 21 rfl rfl)
theorem dX1_burns_22 : decode cX1_burns 22 = .ok (.ifCond .lt 30, 3) := dk_155 0 30 (dk_at dksX1_burns_1 0 rfl rfl)
theorem dX1_burns_25 : decode cX1_burns 25 = .ok (.aload_n 0, 1) := dk_42 (dk_at dksX1_burns_1 3 rfl rfl)
theorem dX1_burns_26 : decode cX1_burns 26 = .ok (.getfield 24, 3) := dk_180 0 24 (dk_at dksX1_burns_1 4 rfl rfl)
theorem dX1_burns_29 : decode cX1_burns 29 = .ok (.iload_n 3, 1) := dk_29 (dk_at dksX1_burns_1 7 rfl rfl)
theorem dX1_burns_30 : decode cX1_burns 30 = .ok (.invokevirtual 63, 3) := dk_182 0 63 (dk_at dksX1_burns_1 8 rfl rfl)
theorem dX1_burns_33 : decode cX1_burns 33 = .ok (.checkcast 61, 3) := dk_192 0 61 (dk_at dksX1_burns_1 11 rfl rfl)
theorem dX1_burns_36 : decode cX1_burns 36 = .ok (.bipush 7, 2) := dk_16 7 (dk_at dksX1_burns_1 14 rfl rfl)
theorem dX1_burns_38 : decode cX1_burns 38 = .ok (.putfield 131, 3) := dk_181 0 131 (dk_at dksX1_burns_1 16 rfl rfl)
theorem dX1_burns_41 : decode cX1_burns 41 = .ok (.aload_n 1, 1) := dk_43 (dk_at dksX1_burns_1 19 rfl rfl)
theorem dX1_burns_42 : decode cX1_burns 42 = .ok (.iload_n 3, 1) := dk_29 (dk_at dksX1_burns_1 20 rfl rfl)
theorem dX1_burns_43 : decode cX1_burns 43 = .ok (.iconst 1, 1) := dk_4 (dk_at dksX1_burns_1 21 rfl rfl)
theorem dX1_burns_44 : decode cX1_burns 44 = .ok (.iadd, 1) := dk_96 (dk_at dksX1_burns_1 22 rfl rfl)
theorem dX1_burns_45 : decode cX1_burns 45 = .ok (.invokevirtual 252, 3) := dk_182 0 252 (dk_at dksX1_burns_2 0 rfl rfl)
theorem dX1_burns_48 : decode cX1_burns 48 = .ok (.istore_n 3, 1) := dk_62 (dk_at dksX1_burns_2 3 rfl rfl)
theorem dX1_burns_49 : decode cX1_burns 49 = .ok (.goto (-28), 3) := dk_167 255 228 (dk_at dksX1_burns_2 4 rfl rfl)
theorem dX1_burns_52 : decode cX1_burns 52 = .ok (.aload_n 2, 1) := dk_44 (dk_at dksX1_burns_2 7 rfl rfl)
theorem dX1_burns_53 : decode cX1_burns 53 = .ok (.iconst 0, 1) := dk_3 (dk_at dksX1_burns_2 8 rfl rfl)
theorem dX1_burns_54 : decode cX1_burns 54 = .ok (.invokevirtual 252, 3) := dk_182 0 252 (dk_at dksX1_burns_2 9 rfl rfl)
theorem dX1_burns_57 : decode cX1_burns 57 = .ok (.istore_n 3, 1) := dk_62 (dk_at dksX1_burns_2 12 rfl rfl)
theorem dX1_burns_58 : decode cX1_burns 58 = .ok (.iload_n 3, 1) := dk_29 (dk_at dksX1_burns_2 13 rfl rfl)
theorem dX1_burns_59 : decode cX1_burns 59 = .ok (.ifCond .lt 29, 3) := dk_155 0 29 (dk_at dksX1_burns_2 14 rfl rfl)
theorem dX1_burns_62 : decode cX1_burns 62 = .ok (.aload_n 0, 1) := dk_42 (dk_at dksX1_burns_2 17 rfl rfl)
theorem dX1_burns_63 : decode cX1_burns 63 = .ok (.getfield 24, 3) := dk_180 0 24 (dk_at dksX1_burns_2 18 rfl rfl)
theorem dX1_burns_66 : decode cX1_burns 66 = .ok (.iload_n 3, 1) := dk_29 (dk_at dksX1_burns_2 21 rfl rfl)
theorem dX1_burns_67 : decode cX1_burns 67 = .ok (.invokevirtual 63, 3) := dk_182 0 63 (dk_at dksX1_burns_3 0 rfl rfl)
theorem dX1_burns_70 : decode cX1_burns 70 = .ok (.checkcast 61, 3) := dk_192 0 61 (dk_at dksX1_burns_3 3 rfl rfl)
theorem dX1_burns_73 : decode cX1_burns 73 = .ok (.iconst 5, 1) := dk_8 (dk_at dksX1_burns_3 6 rfl rfl)
theorem dX1_burns_74 : decode cX1_burns 74 = .ok (.putfield 131, 3) := dk_181 0 131 (dk_at dksX1_burns_3 7 rfl rfl)
theorem dX1_burns_77 : decode cX1_burns 77 = .ok (.aload_n 2, 1) := dk_44 (dk_at dksX1_burns_3 10 rfl rfl)
theorem dX1_burns_78 : decode cX1_burns 78 = .ok (.iload_n 3, 1) := dk_29 (dk_at dksX1_burns_3 11 rfl rfl)
theorem dX1_burns_79 : decode cX1_burns 79 = .ok (.iconst 1, 1) := dk_4 (dk_at dksX1_burns_3 12 rfl rfl)
theorem dX1_burns_80 : decode cX1_burns 80 = .ok (.iadd, 1) := dk_96 (dk_at dksX1_burns_3 13 rfl rfl)
theorem dX1_burns_81 : decode cX1_burns 81 = .ok (.invokevirtual 252, 3) := dk_182 0 252 (dk_at dksX1_burns_3 14 rfl rfl)
theorem dX1_burns_84 : decode cX1_burns 84 = .ok (.istore_n 3, 1) := dk_62 (dk_at dksX1_burns_3 17 rfl rfl)
theorem dX1_burns_85 : decode cX1_burns 85 = .ok (.goto (-27), 3) := dk_167 255 229 (dk_at dksX1_burns_3 18 rfl rfl)
theorem dX1_burns_88 : decode cX1_burns 88 = .ok (.aload_n 0, 1) := dk_42 (dk_at dksX1_burns_3 21 rfl rfl)
theorem dX1_burns_89 : decode cX1_burns 89 = .ok (.getfield 41, 3) := dk_180 0 41 (dk_at dksX1_burns_4 0 rfl rfl)
theorem dX1_burns_92 : decode cX1_burns 92 = .ok (.invokevirtual 282, 3) := dk_182 1 26 (dk_at dksX1_burns_4 3 rfl rfl)
theorem dX1_burns_95 : decode cX1_burns 95 = .ok (.aload_n 0, 1) := dk_42 (dk_at dksX1_burns_4 6 rfl rfl)
theorem dX1_burns_96 : decode cX1_burns 96 = .ok (.aload_n 0, 1) := dk_42 (dk_at dksX1_burns_4 7 rfl rfl)
theorem dX1_burns_97 : decode cX1_burns 97 = .ok (.getfield 109, 3) := dk_180 0 109 (dk_at dksX1_burns_4 8 rfl rfl)
theorem dX1_burns_100 : decode cX1_burns 100 = .ok (.aload_n 0, 1) := dk_42 (dk_at dksX1_burns_4 11 rfl rfl)
theorem dX1_burns_101 : decode cX1_burns 101 = .ok (.getfield 9, 3) := dk_180 0 9 (dk_at dksX1_burns_4 12 rfl rfl)
theorem dX1_burns_104 : decode cX1_burns 104 = .ok (.iconst 5, 1) := dk_8 (dk_at dksX1_burns_4 15 rfl rfl)
theorem dX1_burns_105 : decode cX1_burns 105 = .ok (.iaload, 1) := dk_46 (dk_at dksX1_burns_4 16 rfl rfl)
theorem dX1_burns_106 : decode cX1_burns 106 = .ok (.iadd, 1) := dk_96 (dk_at dksX1_burns_4 17 rfl rfl)
theorem dX1_burns_107 : decode cX1_burns 107 = .ok (.putfield 115, 3) := dk_181 0 115 (dk_at dksX1_burns_4 18 rfl rfl)
theorem dX1_burns_110 : decode cX1_burns 110 = .ok (.aload_n 0, 1) := dk_42 (dk_at dksX1_burns_4 21 rfl rfl)
theorem dX1_burns_111 : decode cX1_burns 111 = .ok (.aload_n 2, 1) := dk_44 (dk_at dksX1_burns_4 22 rfl rfl)
theorem dX1_burns_112 : decode cX1_burns 112 = .ok (.invokevirtual 285, 3) := dk_182 1 29 (dk_at dksX1_burns_5 0 rfl rfl)
theorem dX1_burns_115 : decode cX1_burns 115 = .ok (.areturn, 1) := dk_176 (dk_at dksX1_burns_5 3 rfl rfl)
abbrev cX1_lost : ByteArray := prog_23_method_22_code
def yX1_lost : MethodName := ⟨RX1, "lost", "()Ljava/util/BitSet;"⟩
def dkwX1_lost_3 : List UInt8 := [176]
abbrev dktX1_lost_3 : List UInt8 := dkwX1_lost_3 ++ []
def dkwX1_lost_2 : List UInt8 := [192, 0, 61, 182, 0, 245, 153, 0, 11, 43, 45, 182, 0, 225, 182, 0, 234, 132, 2, 1, 167, 255, 198, 43]
abbrev dktX1_lost_2 : List UInt8 := dkwX1_lost_2 ++ dktX1_lost_3
def dkwX1_lost_1 : List UInt8 := [78, 45, 198, 0, 39, 42, 28, 182, 0, 241, 154, 0, 23, 42, 180, 0, 24, 45, 182, 0, 225, 182, 0, 63]
abbrev dktX1_lost_1 : List UInt8 := dkwX1_lost_1 ++ dktX1_lost_2
def dkwX1_lost_0 : List UInt8 := [187, 0, 231, 89, 183, 0, 233, 76, 3, 61, 28, 16, 8, 162, 0, 58, 42, 180, 0, 41, 28, 182, 0, 206]
abbrev dktX1_lost_0 : List UInt8 := dkwX1_lost_0 ++ dktX1_lost_1
theorem dksX1_lost_0 : cX1_lost.data.toList.drop 0 = dktX1_lost_0 := by decide +kernel
theorem dksX1_lost_1 : cX1_lost.data.toList.drop 24 = dktX1_lost_1 := dk_seg dksX1_lost_0 24 rfl rfl
theorem dksX1_lost_2 : cX1_lost.data.toList.drop 48 = dktX1_lost_2 := dk_seg dksX1_lost_1 24 rfl rfl
theorem dksX1_lost_3 : cX1_lost.data.toList.drop 72 = dktX1_lost_3 := dk_seg dksX1_lost_2 24 rfl rfl
theorem dX1_lost_0 : decode cX1_lost 0 = .ok (.new 231, 3) := dk_187 0 231 (dk_at dksX1_lost_0 0 rfl rfl)
theorem dX1_lost_3 : decode cX1_lost 3 = .ok (.dup, 1) := dk_89 (dk_at dksX1_lost_0 3 rfl rfl)
theorem dX1_lost_4 : decode cX1_lost 4 = .ok (.invokespecial 233, 3) := dk_183 0 233 (dk_at dksX1_lost_0 4 rfl rfl)
theorem dX1_lost_7 : decode cX1_lost 7 = .ok (.astore_n 1, 1) := dk_76 (dk_at dksX1_lost_0 7 rfl rfl)
theorem dX1_lost_8 : decode cX1_lost 8 = .ok (.iconst 0, 1) := dk_3 (dk_at dksX1_lost_0 8 rfl rfl)
theorem dX1_lost_9 : decode cX1_lost 9 = .ok (.istore_n 2, 1) := dk_61 (dk_at dksX1_lost_0 9 rfl rfl)
theorem dX1_lost_10 : decode cX1_lost 10 = .ok (.iload_n 2, 1) := dk_28 (dk_at dksX1_lost_0 10 rfl rfl)
theorem dX1_lost_11 : decode cX1_lost 11 = .ok (.bipush 8, 2) := dk_16 8 (dk_at dksX1_lost_0 11 rfl rfl)
theorem dX1_lost_13 : decode cX1_lost 13 = .ok (.if_icmp .ge 58, 3) := dk_162 0 58 (dk_at dksX1_lost_0 13 rfl rfl)
theorem dX1_lost_16 : decode cX1_lost 16 = .ok (.aload_n 0, 1) := dk_42 (dk_at dksX1_lost_0 16 rfl rfl)
theorem dX1_lost_17 : decode cX1_lost 17 = .ok (.getfield 41, 3) := dk_180 0 41 (dk_at dksX1_lost_0 17 rfl rfl)
theorem dX1_lost_20 : decode cX1_lost 20 = .ok (.iload_n 2, 1) := dk_28 (dk_at dksX1_lost_0 20 rfl rfl)
theorem dX1_lost_21 : decode cX1_lost 21 = .ok (.invokevirtual 206, 3) := dk_182 0 206 (dk_at dksX1_lost_0 21 rfl rfl)
theorem dX1_lost_24 : decode cX1_lost 24 = .ok (.astore_n 3, 1) := dk_78 (dk_at dksX1_lost_1 0 rfl rfl)
theorem dX1_lost_25 : decode cX1_lost 25 = .ok (.aload_n 3, 1) := dk_45 (dk_at dksX1_lost_1 1 rfl rfl)
theorem dX1_lost_26 : decode cX1_lost 26 = .ok (.ifnull 39, 3) := dk_198 0 39 (dk_at dksX1_lost_1 2 rfl rfl)
theorem dX1_lost_29 : decode cX1_lost 29 = .ok (.aload_n 0, 1) := dk_42 (dk_at dksX1_lost_1 5 rfl rfl)
theorem dX1_lost_30 : decode cX1_lost 30 = .ok (.iload_n 2, 1) := dk_28 (dk_at dksX1_lost_1 6 rfl rfl)
theorem dX1_lost_31 : decode cX1_lost 31 = .ok (.invokevirtual 241, 3) := dk_182 0 241 (dk_at dksX1_lost_1 7 rfl rfl)
theorem dX1_lost_34 : decode cX1_lost 34 = .ok (.ifCond .ne 23, 3) := dk_154 0 23 (dk_at dksX1_lost_1 10 rfl rfl)
theorem dX1_lost_37 : decode cX1_lost 37 = .ok (.aload_n 0, 1) := dk_42 (dk_at dksX1_lost_1 13 rfl rfl)
theorem dX1_lost_38 : decode cX1_lost 38 = .ok (.getfield 24, 3) := dk_180 0 24 (dk_at dksX1_lost_1 14 rfl rfl)
theorem dX1_lost_41 : decode cX1_lost 41 = .ok (.aload_n 3, 1) := dk_45 (dk_at dksX1_lost_1 17 rfl rfl)
theorem dX1_lost_42 : decode cX1_lost 42 = .ok (.invokevirtual 225, 3) := dk_182 0 225 (dk_at dksX1_lost_1 18 rfl rfl)
theorem dX1_lost_45 : decode cX1_lost 45 = .ok (.invokevirtual 63, 3) := dk_182 0 63 (dk_at dksX1_lost_1 21 rfl rfl)
theorem dX1_lost_48 : decode cX1_lost 48 = .ok (.checkcast 61, 3) := dk_192 0 61 (dk_at dksX1_lost_2 0 rfl rfl)
theorem dX1_lost_51 : decode cX1_lost 51 = .ok (.invokevirtual 245, 3) := dk_182 0 245 (dk_at dksX1_lost_2 3 rfl rfl)
theorem dX1_lost_54 : decode cX1_lost 54 = .ok (.ifCond .eq 11, 3) := dk_153 0 11 (dk_at dksX1_lost_2 6 rfl rfl)
theorem dX1_lost_57 : decode cX1_lost 57 = .ok (.aload_n 1, 1) := dk_43 (dk_at dksX1_lost_2 9 rfl rfl)
theorem dX1_lost_58 : decode cX1_lost 58 = .ok (.aload_n 3, 1) := dk_45 (dk_at dksX1_lost_2 10 rfl rfl)
theorem dX1_lost_59 : decode cX1_lost 59 = .ok (.invokevirtual 225, 3) := dk_182 0 225 (dk_at dksX1_lost_2 11 rfl rfl)
theorem dX1_lost_62 : decode cX1_lost 62 = .ok (.invokevirtual 234, 3) := dk_182 0 234 (dk_at dksX1_lost_2 14 rfl rfl)
theorem dX1_lost_65 : decode cX1_lost 65 = .ok (.iinc 2 1, 3) := dk_132 2 1 (dk_at dksX1_lost_2 17 rfl rfl)
theorem dX1_lost_68 : decode cX1_lost 68 = .ok (.goto (-58), 3) := dk_167 255 198 (dk_at dksX1_lost_2 20 rfl rfl)
theorem dX1_lost_71 : decode cX1_lost 71 = .ok (.aload_n 1, 1) := dk_43 (dk_at dksX1_lost_2 23 rfl rfl)
theorem dX1_lost_72 : decode cX1_lost 72 = .ok (.areturn, 1) := dk_176 (dk_at dksX1_lost_3 0 rfl rfl)
abbrev cX1_isReached : ByteArray := prog_23_method_21_code
def yX1_isReached : MethodName := ⟨RX1, "isReached", "(I)Z"⟩
def dkwX1_isReached_2 : List UInt8 := [180, 0, 9, 182, 0, 202, 163, 0, 5, 4, 172, 132, 2, 1, 167, 255, 197, 3, 172]
abbrev dktX1_isReached_2 : List UInt8 := dkwX1_isReached_2 ++ []
def dkwX1_isReached_1 : List UInt8 := [198, 0, 35, 28, 27, 100, 184, 0, 238, 42, 180, 0, 24, 45, 182, 0, 225, 182, 0, 63, 192, 0, 61, 42]
abbrev dktX1_isReached_1 : List UInt8 := dkwX1_isReached_1 ++ dktX1_isReached_2
def dkwX1_isReached_0 : List UInt8 := [3, 61, 28, 16, 8, 162, 0, 59, 42, 180, 0, 41, 28, 182, 0, 206, 78, 28, 27, 159, 0, 39, 45]
abbrev dktX1_isReached_0 : List UInt8 := dkwX1_isReached_0 ++ dktX1_isReached_1
theorem dksX1_isReached_0 : cX1_isReached.data.toList.drop 0 = dktX1_isReached_0 := by decide +kernel
theorem dksX1_isReached_1 : cX1_isReached.data.toList.drop 23 = dktX1_isReached_1 := dk_seg dksX1_isReached_0 23 rfl rfl
theorem dksX1_isReached_2 : cX1_isReached.data.toList.drop 47 = dktX1_isReached_2 := dk_seg dksX1_isReached_1 24 rfl rfl
theorem dX1_isReached_0 : decode cX1_isReached 0 = .ok (.iconst 0, 1) := dk_3 (dk_at dksX1_isReached_0 0 rfl rfl)
theorem dX1_isReached_1 : decode cX1_isReached 1 = .ok (.istore_n 2, 1) := dk_61 (dk_at dksX1_isReached_0 1 rfl rfl)
theorem dX1_isReached_2 : decode cX1_isReached 2 = .ok (.iload_n 2, 1) := dk_28 (dk_at dksX1_isReached_0 2 rfl rfl)
theorem dX1_isReached_3 : decode cX1_isReached 3 = .ok (.bipush 8, 2) := dk_16 8 (dk_at dksX1_isReached_0 3 rfl rfl)
theorem dX1_isReached_5 : decode cX1_isReached 5 = .ok (.if_icmp .ge 59, 3) := dk_162 0 59 (dk_at dksX1_isReached_0 5 rfl rfl)
theorem dX1_isReached_8 : decode cX1_isReached 8 = .ok (.aload_n 0, 1) := dk_42 (dk_at dksX1_isReached_0 8 rfl rfl)
theorem dX1_isReached_9 : decode cX1_isReached 9 = .ok (.getfield 41, 3) := dk_180 0 41 (dk_at dksX1_isReached_0 9 rfl rfl)
theorem dX1_isReached_12 : decode cX1_isReached 12 = .ok (.iload_n 2, 1) := dk_28 (dk_at dksX1_isReached_0 12 rfl rfl)
theorem dX1_isReached_13 : decode cX1_isReached 13 = .ok (.invokevirtual 206, 3) := dk_182 0 206 (dk_at dksX1_isReached_0 13 rfl rfl)
theorem dX1_isReached_16 : decode cX1_isReached 16 = .ok (.astore_n 3, 1) := dk_78 (dk_at dksX1_isReached_0 16 rfl rfl)
theorem dX1_isReached_17 : decode cX1_isReached 17 = .ok (.iload_n 2, 1) := dk_28 (dk_at dksX1_isReached_0 17 rfl rfl)
theorem dX1_isReached_18 : decode cX1_isReached 18 = .ok (.iload_n 1, 1) := dk_27 (dk_at dksX1_isReached_0 18 rfl rfl)
theorem dX1_isReached_19 : decode cX1_isReached 19 = .ok (.if_icmp .eq 39, 3) := dk_159 0 39 (dk_at dksX1_isReached_0 19 rfl rfl)
theorem dX1_isReached_22 : decode cX1_isReached 22 = .ok (.aload_n 3, 1) := dk_45 (dk_at dksX1_isReached_0 22 rfl rfl)
theorem dX1_isReached_23 : decode cX1_isReached 23 = .ok (.ifnull 35, 3) := dk_198 0 35 (dk_at dksX1_isReached_1 0 rfl rfl)
theorem dX1_isReached_26 : decode cX1_isReached 26 = .ok (.iload_n 2, 1) := dk_28 (dk_at dksX1_isReached_1 3 rfl rfl)
theorem dX1_isReached_27 : decode cX1_isReached 27 = .ok (.iload_n 1, 1) := dk_27 (dk_at dksX1_isReached_1 4 rfl rfl)
theorem dX1_isReached_28 : decode cX1_isReached 28 = .ok (.isub, 1) := dk_100 (dk_at dksX1_isReached_1 5 rfl rfl)
theorem dX1_isReached_29 : decode cX1_isReached 29 = .ok (.invokestatic 238, 3) := dk_184 0 238 (dk_at dksX1_isReached_1 6 rfl rfl)
theorem dX1_isReached_32 : decode cX1_isReached 32 = .ok (.aload_n 0, 1) := dk_42 (dk_at dksX1_isReached_1 9 rfl rfl)
theorem dX1_isReached_33 : decode cX1_isReached 33 = .ok (.getfield 24, 3) := dk_180 0 24 (dk_at dksX1_isReached_1 10 rfl rfl)
theorem dX1_isReached_36 : decode cX1_isReached 36 = .ok (.aload_n 3, 1) := dk_45 (dk_at dksX1_isReached_1 13 rfl rfl)
theorem dX1_isReached_37 : decode cX1_isReached 37 = .ok (.invokevirtual 225, 3) := dk_182 0 225 (dk_at dksX1_isReached_1 14 rfl rfl)
theorem dX1_isReached_40 : decode cX1_isReached 40 = .ok (.invokevirtual 63, 3) := dk_182 0 63 (dk_at dksX1_isReached_1 17 rfl rfl)
theorem dX1_isReached_43 : decode cX1_isReached 43 = .ok (.checkcast 61, 3) := dk_192 0 61 (dk_at dksX1_isReached_1 20 rfl rfl)
theorem dX1_isReached_46 : decode cX1_isReached 46 = .ok (.aload_n 0, 1) := dk_42 (dk_at dksX1_isReached_1 23 rfl rfl)
theorem dX1_isReached_47 : decode cX1_isReached 47 = .ok (.getfield 9, 3) := dk_180 0 9 (dk_at dksX1_isReached_2 0 rfl rfl)
theorem dX1_isReached_50 : decode cX1_isReached 50 = .ok (.invokevirtual 202, 3) := dk_182 0 202 (dk_at dksX1_isReached_2 3 rfl rfl)
theorem dX1_isReached_53 : decode cX1_isReached 53 = .ok (.if_icmp .gt 5, 3) := dk_163 0 5 (dk_at dksX1_isReached_2 6 rfl rfl)
theorem dX1_isReached_56 : decode cX1_isReached 56 = .ok (.iconst 1, 1) := dk_4 (dk_at dksX1_isReached_2 9 rfl rfl)
theorem dX1_isReached_57 : decode cX1_isReached 57 = .ok (.ireturn, 1) := dk_172 (dk_at dksX1_isReached_2 10 rfl rfl)
theorem dX1_isReached_58 : decode cX1_isReached 58 = .ok (.iinc 2 1, 3) := dk_132 2 1 (dk_at dksX1_isReached_2 11 rfl rfl)
theorem dX1_isReached_61 : decode cX1_isReached 61 = .ok (.goto (-59), 3) := dk_167 255 197 (dk_at dksX1_isReached_2 14 rfl rfl)
theorem dX1_isReached_64 : decode cX1_isReached 64 = .ok (.iconst 0, 1) := dk_3 (dk_at dksX1_isReached_2 17 rfl rfl)
theorem dX1_isReached_65 : decode cX1_isReached 65 = .ok (.ireturn, 1) := dk_172 (dk_at dksX1_isReached_2 18 rfl rfl)
abbrev cX1_onShelf : ByteArray := prog_23_method_20_code
def yX1_onShelf : MethodName := ⟨RX1, "onShelf", "()Ljava/util/BitSet;"⟩
def dkwX1_onShelf_2 : List UInt8 := [43, 176]
abbrev dktX1_onShelf_2 : List UInt8 := dkwX1_onShelf_2 ++ []
def dkwX1_onShelf_1 : List UInt8 := [198, 0, 18, 43, 42, 180, 0, 41, 28, 182, 0, 206, 182, 0, 225, 182, 0, 234, 132, 2, 1, 167, 255, 221]
abbrev dktX1_onShelf_1 : List UInt8 := dkwX1_onShelf_1 ++ dktX1_onShelf_2
def dkwX1_onShelf_0 : List UInt8 := [187, 0, 231, 89, 183, 0, 233, 76, 3, 61, 28, 16, 8, 162, 0, 35, 42, 180, 0, 41, 28, 182, 0, 206]
abbrev dktX1_onShelf_0 : List UInt8 := dkwX1_onShelf_0 ++ dktX1_onShelf_1
theorem dksX1_onShelf_0 : cX1_onShelf.data.toList.drop 0 = dktX1_onShelf_0 := by decide +kernel
theorem dksX1_onShelf_1 : cX1_onShelf.data.toList.drop 24 = dktX1_onShelf_1 := dk_seg dksX1_onShelf_0 24 rfl rfl
theorem dksX1_onShelf_2 : cX1_onShelf.data.toList.drop 48 = dktX1_onShelf_2 := dk_seg dksX1_onShelf_1 24 rfl rfl
theorem dX1_onShelf_0 : decode cX1_onShelf 0 = .ok (.new 231, 3) := dk_187 0 231 (dk_at dksX1_onShelf_0 0 rfl rfl)
theorem dX1_onShelf_3 : decode cX1_onShelf 3 = .ok (.dup, 1) := dk_89 (dk_at dksX1_onShelf_0 3 rfl rfl)
theorem dX1_onShelf_4 : decode cX1_onShelf 4 = .ok (.invokespecial 233, 3) := dk_183 0 233 (dk_at dksX1_onShelf_0 4 rfl rfl)
theorem dX1_onShelf_7 : decode cX1_onShelf 7 = .ok (.astore_n 1, 1) := dk_76 (dk_at dksX1_onShelf_0 7 rfl rfl)
theorem dX1_onShelf_8 : decode cX1_onShelf 8 = .ok (.iconst 0, 1) := dk_3 (dk_at dksX1_onShelf_0 8 rfl rfl)
theorem dX1_onShelf_9 : decode cX1_onShelf 9 = .ok (.istore_n 2, 1) := dk_61 (dk_at dksX1_onShelf_0 9 rfl rfl)
theorem dX1_onShelf_10 : decode cX1_onShelf 10 = .ok (.iload_n 2, 1) := dk_28 (dk_at dksX1_onShelf_0 10 rfl rfl)
theorem dX1_onShelf_11 : decode cX1_onShelf 11 = .ok (.bipush 8, 2) := dk_16 8 (dk_at dksX1_onShelf_0 11 rfl rfl)
theorem dX1_onShelf_13 : decode cX1_onShelf 13 = .ok (.if_icmp .ge 35, 3) := dk_162 0 35 (dk_at dksX1_onShelf_0 13 rfl rfl)
theorem dX1_onShelf_16 : decode cX1_onShelf 16 = .ok (.aload_n 0, 1) := dk_42 (dk_at dksX1_onShelf_0 16 rfl rfl)
theorem dX1_onShelf_17 : decode cX1_onShelf 17 = .ok (.getfield 41, 3) := dk_180 0 41 (dk_at dksX1_onShelf_0 17 rfl rfl)
theorem dX1_onShelf_20 : decode cX1_onShelf 20 = .ok (.iload_n 2, 1) := dk_28 (dk_at dksX1_onShelf_0 20 rfl rfl)
theorem dX1_onShelf_21 : decode cX1_onShelf 21 = .ok (.invokevirtual 206, 3) := dk_182 0 206 (dk_at dksX1_onShelf_0 21 rfl rfl)
theorem dX1_onShelf_24 : decode cX1_onShelf 24 = .ok (.ifnull 18, 3) := dk_198 0 18 (dk_at dksX1_onShelf_1 0 rfl rfl)
theorem dX1_onShelf_27 : decode cX1_onShelf 27 = .ok (.aload_n 1, 1) := dk_43 (dk_at dksX1_onShelf_1 3 rfl rfl)
theorem dX1_onShelf_28 : decode cX1_onShelf 28 = .ok (.aload_n 0, 1) := dk_42 (dk_at dksX1_onShelf_1 4 rfl rfl)
theorem dX1_onShelf_29 : decode cX1_onShelf 29 = .ok (.getfield 41, 3) := dk_180 0 41 (dk_at dksX1_onShelf_1 5 rfl rfl)
theorem dX1_onShelf_32 : decode cX1_onShelf 32 = .ok (.iload_n 2, 1) := dk_28 (dk_at dksX1_onShelf_1 8 rfl rfl)
theorem dX1_onShelf_33 : decode cX1_onShelf 33 = .ok (.invokevirtual 206, 3) := dk_182 0 206 (dk_at dksX1_onShelf_1 9 rfl rfl)
theorem dX1_onShelf_36 : decode cX1_onShelf 36 = .ok (.invokevirtual 225, 3) := dk_182 0 225 (dk_at dksX1_onShelf_1 12 rfl rfl)
theorem dX1_onShelf_39 : decode cX1_onShelf 39 = .ok (.invokevirtual 234, 3) := dk_182 0 234 (dk_at dksX1_onShelf_1 15 rfl rfl)
theorem dX1_onShelf_42 : decode cX1_onShelf 42 = .ok (.iinc 2 1, 3) := dk_132 2 1 (dk_at dksX1_onShelf_1 18 rfl rfl)
theorem dX1_onShelf_45 : decode cX1_onShelf 45 = .ok (.goto (-35), 3) := dk_167 255 221 (dk_at dksX1_onShelf_1 21 rfl rfl)
theorem dX1_onShelf_48 : decode cX1_onShelf 48 = .ok (.aload_n 1, 1) := dk_43 (dk_at dksX1_onShelf_2 0 rfl rfl)
theorem dX1_onShelf_49 : decode cX1_onShelf 49 = .ok (.areturn, 1) := dk_176 (dk_at dksX1_onShelf_2 1 rfl rfl)
abbrev cX1_sells : ByteArray := prog_23_method_24_code
def yX1_sells : MethodName := ⟨RX1, "sells", "(Ljava/util/BitSet;)Ljava/util/BitSet;"⟩
def dkwX1_sells_5 : List UInt8 := [181, 0, 131, 44, 29, 182, 0, 234, 43, 29, 4, 96, 182, 0, 252, 62, 167, 255, 138, 44, 176]
abbrev dktX1_sells_5 : List UInt8 := dkwX1_sells_5 ++ []
def dkwX1_sells_4 : List UInt8 := [182, 0, 63, 192, 0, 74, 180, 1, 9, 96, 181, 0, 118, 25, 4, 21, 5, 181, 1, 12, 25, 4, 16, 6]
abbrev dktX1_sells_4 : List UInt8 := dkwX1_sells_4 ++ dktX1_sells_5
def dkwX1_sells_3 : List UInt8 := [192, 0, 74, 89, 180, 1, 6, 4, 100, 181, 1, 6, 42, 89, 180, 0, 118, 42, 180, 0, 28, 21, 5]
abbrev dktX1_sells_3 : List UInt8 := dkwX1_sells_3 ++ dktX1_sells_4
def dkwX1_sells_2 : List UInt8 := [182, 1, 2, 54, 5, 21, 5, 2, 160, 0, 6, 167, 0, 67, 42, 180, 0, 28, 21, 5, 182, 0, 63]
abbrev dktX1_sells_2 : List UInt8 := dkwX1_sells_2 ++ dktX1_sells_3
def dkwX1_sells_1 : List UInt8 := [182, 0, 63, 192, 0, 61, 58, 4, 25, 4, 180, 0, 255, 158, 0, 7, 2, 167, 0, 9, 42, 25, 4]
abbrev dktX1_sells_1 : List UInt8 := dkwX1_sells_1 ++ dktX1_sells_2
def dkwX1_sells_0 : List UInt8 := [187, 0, 231, 89, 183, 0, 233, 77, 43, 3, 182, 0, 252, 62, 29, 155, 0, 120, 42, 180, 0, 24, 29]
abbrev dktX1_sells_0 : List UInt8 := dkwX1_sells_0 ++ dktX1_sells_1
theorem dksX1_sells_0 : cX1_sells.data.toList.drop 0 = dktX1_sells_0 := by decide +kernel
theorem dksX1_sells_1 : cX1_sells.data.toList.drop 23 = dktX1_sells_1 := dk_seg dksX1_sells_0 23 rfl rfl
theorem dksX1_sells_2 : cX1_sells.data.toList.drop 46 = dktX1_sells_2 := dk_seg dksX1_sells_1 23 rfl rfl
theorem dksX1_sells_3 : cX1_sells.data.toList.drop 69 = dktX1_sells_3 := dk_seg dksX1_sells_2 23 rfl rfl
theorem dksX1_sells_4 : cX1_sells.data.toList.drop 92 = dktX1_sells_4 := dk_seg dksX1_sells_3 23 rfl rfl
theorem dksX1_sells_5 : cX1_sells.data.toList.drop 116 = dktX1_sells_5 := dk_seg dksX1_sells_4 24 rfl rfl
theorem dX1_sells_0 : decode cX1_sells 0 = .ok (.new 231, 3) := dk_187 0 231 (dk_at dksX1_sells_0 0 rfl rfl)
theorem dX1_sells_3 : decode cX1_sells 3 = .ok (.dup, 1) := dk_89 (dk_at dksX1_sells_0 3 rfl rfl)
theorem dX1_sells_4 : decode cX1_sells 4 = .ok (.invokespecial 233, 3) := dk_183 0 233 (dk_at dksX1_sells_0 4 rfl rfl)
theorem dX1_sells_7 : decode cX1_sells 7 = .ok (.astore_n 2, 1) := dk_77 (dk_at dksX1_sells_0 7 rfl rfl)
theorem dX1_sells_8 : decode cX1_sells 8 = .ok (.aload_n 1, 1) := dk_43 (dk_at dksX1_sells_0 8 rfl rfl)
theorem dX1_sells_9 : decode cX1_sells 9 = .ok (.iconst 0, 1) := dk_3 (dk_at dksX1_sells_0 9 rfl rfl)
theorem dX1_sells_10 : decode cX1_sells 10 = .ok (.invokevirtual 252, 3) := dk_182 0 252 (dk_at dksX1_sells_0 10 rfl rfl)
theorem dX1_sells_13 : decode cX1_sells 13 = .ok (.istore_n 3, 1) := dk_62 (dk_at dksX1_sells_0 13 rfl rfl)
theorem dX1_sells_14 : decode cX1_sells 14 = .ok (.iload_n 3, 1) := dk_29 (dk_at dksX1_sells_0 14 rfl rfl)
theorem dX1_sells_15 : decode cX1_sells 15 = .ok (.ifCond .lt 120, 3) := dk_155 0 120 (dk_at dksX1_sells_0 15 rfl rfl)
theorem dX1_sells_18 : decode cX1_sells 18 = .ok (.aload_n 0, 1) := dk_42 (dk_at dksX1_sells_0 18 rfl rfl)
theorem dX1_sells_19 : decode cX1_sells 19 = .ok (.getfield 24, 3) := dk_180 0 24 (dk_at dksX1_sells_0 19 rfl rfl)
theorem dX1_sells_22 : decode cX1_sells 22 = .ok (.iload_n 3, 1) := dk_29 (dk_at dksX1_sells_0 22 rfl rfl)
theorem dX1_sells_23 : decode cX1_sells 23 = .ok (.invokevirtual 63, 3) := dk_182 0 63 (dk_at dksX1_sells_1 0 rfl rfl)
theorem dX1_sells_26 : decode cX1_sells 26 = .ok (.checkcast 61, 3) := dk_192 0 61 (dk_at dksX1_sells_1 3 rfl rfl)
theorem dX1_sells_29 : decode cX1_sells 29 = .ok (.astore 4, 2) := dk_58 4 (dk_at dksX1_sells_1 6 rfl rfl)
theorem dX1_sells_31 : decode cX1_sells 31 = .ok (.aload 4, 2) := dk_25 4 (dk_at dksX1_sells_1 8 rfl rfl)
theorem dX1_sells_33 : decode cX1_sells 33 = .ok (.getfield 255, 3) := dk_180 0 255 (dk_at dksX1_sells_1 10 rfl rfl)
theorem dX1_sells_36 : decode cX1_sells 36 = .ok (.ifCond .le 7, 3) := dk_158 0 7 (dk_at dksX1_sells_1 13 rfl rfl)
theorem dX1_sells_39 : decode cX1_sells 39 = .ok (.iconst (-1), 1) := dk_2 (dk_at dksX1_sells_1 16 rfl rfl)
theorem dX1_sells_40 : decode cX1_sells 40 = .ok (.goto 9, 3) := dk_167 0 9 (dk_at dksX1_sells_1 17 rfl rfl)
theorem dX1_sells_43 : decode cX1_sells 43 = .ok (.aload_n 0, 1) := dk_42 (dk_at dksX1_sells_1 20 rfl rfl)
theorem dX1_sells_44 : decode cX1_sells 44 = .ok (.aload 4, 2) := dk_25 4 (dk_at dksX1_sells_1 21 rfl rfl)
theorem dX1_sells_46 : decode cX1_sells 46 = .ok (.invokevirtual 258, 3) := dk_182 1 2 (dk_at dksX1_sells_2 0 rfl rfl)
theorem dX1_sells_49 : decode cX1_sells 49 = .ok (.istore 5, 2) := dk_54 5 (dk_at dksX1_sells_2 3 rfl rfl)
theorem dX1_sells_51 : decode cX1_sells 51 = .ok (.iload 5, 2) := dk_21 5 (dk_at dksX1_sells_2 5 rfl rfl)
theorem dX1_sells_53 : decode cX1_sells 53 = .ok (.iconst (-1), 1) := dk_2 (dk_at dksX1_sells_2 7 rfl rfl)
theorem dX1_sells_54 : decode cX1_sells 54 = .ok (.if_icmp .ne 6, 3) := dk_160 0 6 (dk_at dksX1_sells_2 8 rfl rfl)
theorem dX1_sells_57 : decode cX1_sells 57 = .ok (.goto 67, 3) := dk_167 0 67 (dk_at dksX1_sells_2 11 rfl rfl)
theorem dX1_sells_60 : decode cX1_sells 60 = .ok (.aload_n 0, 1) := dk_42 (dk_at dksX1_sells_2 14 rfl rfl)
theorem dX1_sells_61 : decode cX1_sells 61 = .ok (.getfield 28, 3) := dk_180 0 28 (dk_at dksX1_sells_2 15 rfl rfl)
theorem dX1_sells_64 : decode cX1_sells 64 = .ok (.iload 5, 2) := dk_21 5 (dk_at dksX1_sells_2 18 rfl rfl)
theorem dX1_sells_66 : decode cX1_sells 66 = .ok (.invokevirtual 63, 3) := dk_182 0 63 (dk_at dksX1_sells_2 20 rfl rfl)
theorem dX1_sells_69 : decode cX1_sells 69 = .ok (.checkcast 74, 3) := dk_192 0 74 (dk_at dksX1_sells_3 0 rfl rfl)
theorem dX1_sells_72 : decode cX1_sells 72 = .ok (.dup, 1) := dk_89 (dk_at dksX1_sells_3 3 rfl rfl)
theorem dX1_sells_73 : decode cX1_sells 73 = .ok (.getfield 262, 3) := dk_180 1 6 (dk_at dksX1_sells_3 4 rfl rfl)
theorem dX1_sells_76 : decode cX1_sells 76 = .ok (.iconst 1, 1) := dk_4 (dk_at dksX1_sells_3 7 rfl rfl)
theorem dX1_sells_77 : decode cX1_sells 77 = .ok (.isub, 1) := dk_100 (dk_at dksX1_sells_3 8 rfl rfl)
theorem dX1_sells_78 : decode cX1_sells 78 = .ok (.putfield 262, 3) := dk_181 1 6 (dk_at dksX1_sells_3 9 rfl rfl)
theorem dX1_sells_81 : decode cX1_sells 81 = .ok (.aload_n 0, 1) := dk_42 (dk_at dksX1_sells_3 12 rfl rfl)
theorem dX1_sells_82 : decode cX1_sells 82 = .ok (.dup, 1) := dk_89 (dk_at dksX1_sells_3 13 rfl rfl)
theorem dX1_sells_83 : decode cX1_sells 83 = .ok (.getfield 118, 3) := dk_180 0 118 (dk_at dksX1_sells_3 14 rfl rfl)
theorem dX1_sells_86 : decode cX1_sells 86 = .ok (.aload_n 0, 1) := dk_42 (dk_at dksX1_sells_3 17 rfl rfl)
theorem dX1_sells_87 : decode cX1_sells 87 = .ok (.getfield 28, 3) := dk_180 0 28 (dk_at dksX1_sells_3 18 rfl rfl)
theorem dX1_sells_90 : decode cX1_sells 90 = .ok (.iload 5, 2) := dk_21 5 (dk_at dksX1_sells_3 21 rfl rfl)
theorem dX1_sells_92 : decode cX1_sells 92 = .ok (.invokevirtual 63, 3) := dk_182 0 63 (dk_at dksX1_sells_4 0 rfl rfl)
theorem dX1_sells_95 : decode cX1_sells 95 = .ok (.checkcast 74, 3) := dk_192 0 74 (dk_at dksX1_sells_4 3 rfl rfl)
theorem dX1_sells_98 : decode cX1_sells 98 = .ok (.getfield 265, 3) := dk_180 1 9 (dk_at dksX1_sells_4 6 rfl rfl)
theorem dX1_sells_101 : decode cX1_sells 101 = .ok (.iadd, 1) := dk_96 (dk_at dksX1_sells_4 9 rfl rfl)
theorem dX1_sells_102 : decode cX1_sells 102 = .ok (.putfield 118, 3) := dk_181 0 118 (dk_at dksX1_sells_4 10 rfl rfl)
theorem dX1_sells_105 : decode cX1_sells 105 = .ok (.aload 4, 2) := dk_25 4 (dk_at dksX1_sells_4 13 rfl rfl)
theorem dX1_sells_107 : decode cX1_sells 107 = .ok (.iload 5, 2) := dk_21 5 (dk_at dksX1_sells_4 15 rfl rfl)
theorem dX1_sells_109 : decode cX1_sells 109 = .ok (.putfield 268, 3) := dk_181 1 12 (dk_at dksX1_sells_4 17 rfl rfl)
theorem dX1_sells_112 : decode cX1_sells 112 = .ok (.aload 4, 2) := dk_25 4 (dk_at dksX1_sells_4 20 rfl rfl)
theorem dX1_sells_114 : decode cX1_sells 114 = .ok (.bipush 6, 2) := dk_16 6 (dk_at dksX1_sells_4 22 rfl rfl)
theorem dX1_sells_116 : decode cX1_sells 116 = .ok (.putfield 131, 3) := dk_181 0 131 (dk_at dksX1_sells_5 0 rfl rfl)
theorem dX1_sells_119 : decode cX1_sells 119 = .ok (.aload_n 2, 1) := dk_44 (dk_at dksX1_sells_5 3 rfl rfl)
theorem dX1_sells_120 : decode cX1_sells 120 = .ok (.iload_n 3, 1) := dk_29 (dk_at dksX1_sells_5 4 rfl rfl)
theorem dX1_sells_121 : decode cX1_sells 121 = .ok (.invokevirtual 234, 3) := dk_182 0 234 (dk_at dksX1_sells_5 5 rfl rfl)
theorem dX1_sells_124 : decode cX1_sells 124 = .ok (.aload_n 1, 1) := dk_43 (dk_at dksX1_sells_5 8 rfl rfl)
theorem dX1_sells_125 : decode cX1_sells 125 = .ok (.iload_n 3, 1) := dk_29 (dk_at dksX1_sells_5 9 rfl rfl)
theorem dX1_sells_126 : decode cX1_sells 126 = .ok (.iconst 1, 1) := dk_4 (dk_at dksX1_sells_5 10 rfl rfl)
theorem dX1_sells_127 : decode cX1_sells 127 = .ok (.iadd, 1) := dk_96 (dk_at dksX1_sells_5 11 rfl rfl)
theorem dX1_sells_128 : decode cX1_sells 128 = .ok (.invokevirtual 252, 3) := dk_182 0 252 (dk_at dksX1_sells_5 12 rfl rfl)
theorem dX1_sells_131 : decode cX1_sells 131 = .ok (.istore_n 3, 1) := dk_62 (dk_at dksX1_sells_5 15 rfl rfl)
theorem dX1_sells_132 : decode cX1_sells 132 = .ok (.goto (-118), 3) := dk_167 255 138 (dk_at dksX1_sells_5 16 rfl rfl)
theorem dX1_sells_135 : decode cX1_sells 135 = .ok (.aload_n 2, 1) := dk_44 (dk_at dksX1_sells_5 19 rfl rfl)
theorem dX1_sells_136 : decode cX1_sells 136 = .ok (.areturn, 1) := dk_176 (dk_at dksX1_sells_5 20 rfl rfl)
abbrev cX1_orderFor : ByteArray := prog_23_method_23_code
def yX1_orderFor : MethodName := ⟨RX1, "orderFor", "(LTurningWheel$Pot;)I"⟩
def dkwX1_orderFor_1 : List UInt8 := [43, 42, 180, 0, 109, 182, 0, 248, 153, 0, 5, 28, 172, 132, 2, 1, 167, 255, 218, 2, 172]
abbrev dktX1_orderFor_1 : List UInt8 := dkwX1_orderFor_1 ++ []
def dkwX1_orderFor_0 : List UInt8 := [3, 61, 28, 42, 180, 0, 28, 182, 0, 57, 162, 0, 33, 42, 180, 0, 28, 28, 182, 0, 63, 192, 0, 74]
abbrev dktX1_orderFor_0 : List UInt8 := dkwX1_orderFor_0 ++ dktX1_orderFor_1
theorem dksX1_orderFor_0 : cX1_orderFor.data.toList.drop 0 = dktX1_orderFor_0 := by decide +kernel
theorem dksX1_orderFor_1 : cX1_orderFor.data.toList.drop 24 = dktX1_orderFor_1 := dk_seg dksX1_orderFor_0 24 rfl rfl
theorem dX1_orderFor_0 : decode cX1_orderFor 0 = .ok (.iconst 0, 1) := dk_3 (dk_at dksX1_orderFor_0 0 rfl rfl)
theorem dX1_orderFor_1 : decode cX1_orderFor 1 = .ok (.istore_n 2, 1) := dk_61 (dk_at dksX1_orderFor_0 1 rfl rfl)
theorem dX1_orderFor_2 : decode cX1_orderFor 2 = .ok (.iload_n 2, 1) := dk_28 (dk_at dksX1_orderFor_0 2 rfl rfl)
theorem dX1_orderFor_3 : decode cX1_orderFor 3 = .ok (.aload_n 0, 1) := dk_42 (dk_at dksX1_orderFor_0 3 rfl rfl)
theorem dX1_orderFor_4 : decode cX1_orderFor 4 = .ok (.getfield 28, 3) := dk_180 0 28 (dk_at dksX1_orderFor_0 4 rfl rfl)
theorem dX1_orderFor_7 : decode cX1_orderFor 7 = .ok (.invokevirtual 57, 3) := dk_182 0 57 (dk_at dksX1_orderFor_0 7 rfl rfl)
theorem dX1_orderFor_10 : decode cX1_orderFor 10 = .ok (.if_icmp .ge 33, 3) := dk_162 0 33 (dk_at dksX1_orderFor_0 10 rfl rfl)
theorem dX1_orderFor_13 : decode cX1_orderFor 13 = .ok (.aload_n 0, 1) := dk_42 (dk_at dksX1_orderFor_0 13 rfl rfl)
theorem dX1_orderFor_14 : decode cX1_orderFor 14 = .ok (.getfield 28, 3) := dk_180 0 28 (dk_at dksX1_orderFor_0 14 rfl rfl)
theorem dX1_orderFor_17 : decode cX1_orderFor 17 = .ok (.iload_n 2, 1) := dk_28 (dk_at dksX1_orderFor_0 17 rfl rfl)
theorem dX1_orderFor_18 : decode cX1_orderFor 18 = .ok (.invokevirtual 63, 3) := dk_182 0 63 (dk_at dksX1_orderFor_0 18 rfl rfl)
theorem dX1_orderFor_21 : decode cX1_orderFor 21 = .ok (.checkcast 74, 3) := dk_192 0 74 (dk_at dksX1_orderFor_0 21 rfl rfl)
theorem dX1_orderFor_24 : decode cX1_orderFor 24 = .ok (.aload_n 1, 1) := dk_43 (dk_at dksX1_orderFor_1 0 rfl rfl)
theorem dX1_orderFor_25 : decode cX1_orderFor 25 = .ok (.aload_n 0, 1) := dk_42 (dk_at dksX1_orderFor_1 1 rfl rfl)
theorem dX1_orderFor_26 : decode cX1_orderFor 26 = .ok (.getfield 109, 3) := dk_180 0 109 (dk_at dksX1_orderFor_1 2 rfl rfl)
theorem dX1_orderFor_29 : decode cX1_orderFor 29 = .ok (.invokevirtual 248, 3) := dk_182 0 248 (dk_at dksX1_orderFor_1 5 rfl rfl)
theorem dX1_orderFor_32 : decode cX1_orderFor 32 = .ok (.ifCond .eq 5, 3) := dk_153 0 5 (dk_at dksX1_orderFor_1 8 rfl rfl)
theorem dX1_orderFor_35 : decode cX1_orderFor 35 = .ok (.iload_n 2, 1) := dk_28 (dk_at dksX1_orderFor_1 11 rfl rfl)
theorem dX1_orderFor_36 : decode cX1_orderFor 36 = .ok (.ireturn, 1) := dk_172 (dk_at dksX1_orderFor_1 12 rfl rfl)
theorem dX1_orderFor_37 : decode cX1_orderFor 37 = .ok (.iinc 2 1, 3) := dk_132 2 1 (dk_at dksX1_orderFor_1 13 rfl rfl)
theorem dX1_orderFor_40 : decode cX1_orderFor 40 = .ok (.goto (-38), 3) := dk_167 255 218 (dk_at dksX1_orderFor_1 16 rfl rfl)
theorem dX1_orderFor_43 : decode cX1_orderFor 43 = .ok (.iconst (-1), 1) := dk_2 (dk_at dksX1_orderFor_1 19 rfl rfl)
theorem dX1_orderFor_44 : decode cX1_orderFor 44 = .ok (.ireturn, 1) := dk_172 (dk_at dksX1_orderFor_1 20 rfl rfl)
abbrev cX1_addsPotter : ByteArray := prog_23_method_12_code
def yX1_addsPotter : MethodName := ⟨RX1, "addsPotter", "(I)I"⟩
def dkwX1_addsPotter_2 : List UInt8 := [180, 0, 18, 190, 27, 79, 42, 44, 181, 0, 18, 42, 180, 0, 18, 190, 4, 100, 172]
abbrev dktX1_addsPotter_2 : List UInt8 := dkwX1_addsPotter_2 ++ []
def dkwX1_addsPotter_1 : List UInt8 := [190, 4, 96, 188, 10, 77, 42, 180, 0, 18, 3, 44, 3, 42, 180, 0, 18, 190, 184, 0, 176, 44, 42]
abbrev dktX1_addsPotter_1 : List UInt8 := dkwX1_addsPotter_1 ++ dktX1_addsPotter_2
def dkwX1_addsPotter_0 : List UInt8 := [42, 180, 0, 18, 190, 7, 160, 0, 14, 187, 0, 169, 89, 16, 10, 7, 183, 0, 171, 191, 42, 180, 0, 18]
abbrev dktX1_addsPotter_0 : List UInt8 := dkwX1_addsPotter_0 ++ dktX1_addsPotter_1
theorem dksX1_addsPotter_0 : cX1_addsPotter.data.toList.drop 0 = dktX1_addsPotter_0 := by decide +kernel
theorem dksX1_addsPotter_1 : cX1_addsPotter.data.toList.drop 24 = dktX1_addsPotter_1 := dk_seg dksX1_addsPotter_0 24 rfl rfl
theorem dksX1_addsPotter_2 : cX1_addsPotter.data.toList.drop 47 = dktX1_addsPotter_2 := dk_seg dksX1_addsPotter_1 23 rfl rfl
theorem dX1_addsPotter_0 : decode cX1_addsPotter 0 = .ok (.aload_n 0, 1) := dk_42 (dk_at dksX1_addsPotter_0 0 rfl rfl)
theorem dX1_addsPotter_1 : decode cX1_addsPotter 1 = .ok (.getfield 18, 3) := dk_180 0 18 (dk_at dksX1_addsPotter_0 1 rfl rfl)
theorem dX1_addsPotter_4 : decode cX1_addsPotter 4 = .ok (.arraylength, 1) := dk_190 (dk_at dksX1_addsPotter_0 4 rfl rfl)
theorem dX1_addsPotter_5 : decode cX1_addsPotter 5 = .ok (.iconst 4, 1) := dk_7 (dk_at dksX1_addsPotter_0 5 rfl rfl)
theorem dX1_addsPotter_6 : decode cX1_addsPotter 6 = .ok (.if_icmp .ne 14, 3) := dk_160 0 14 (dk_at dksX1_addsPotter_0 6 rfl rfl)
theorem dX1_addsPotter_9 : decode cX1_addsPotter 9 = .ok (.new 169, 3) := dk_187 0 169 (dk_at dksX1_addsPotter_0 9 rfl rfl)
theorem dX1_addsPotter_12 : decode cX1_addsPotter 12 = .ok (.dup, 1) := dk_89 (dk_at dksX1_addsPotter_0 12 rfl rfl)
theorem dX1_addsPotter_13 : decode cX1_addsPotter 13 = .ok (.bipush 10, 2) := dk_16 10 (dk_at dksX1_addsPotter_0 13 rfl rfl)
theorem dX1_addsPotter_15 : decode cX1_addsPotter 15 = .ok (.iconst 4, 1) := dk_7 (dk_at dksX1_addsPotter_0 15 rfl rfl)
theorem dX1_addsPotter_16 : decode cX1_addsPotter 16 = .ok (.invokespecial 171, 3) := dk_183 0 171 (dk_at dksX1_addsPotter_0 16 rfl rfl)
theorem dX1_addsPotter_19 : decode cX1_addsPotter 19 = .ok (.athrow, 1) := dk_191 (dk_at dksX1_addsPotter_0 19 rfl rfl)
theorem dX1_addsPotter_20 : decode cX1_addsPotter 20 = .ok (.aload_n 0, 1) := dk_42 (dk_at dksX1_addsPotter_0 20 rfl rfl)
theorem dX1_addsPotter_21 : decode cX1_addsPotter 21 = .ok (.getfield 18, 3) := dk_180 0 18 (dk_at dksX1_addsPotter_0 21 rfl rfl)
theorem dX1_addsPotter_24 : decode cX1_addsPotter 24 = .ok (.arraylength, 1) := dk_190 (dk_at dksX1_addsPotter_1 0 rfl rfl)
theorem dX1_addsPotter_25 : decode cX1_addsPotter 25 = .ok (.iconst 1, 1) := dk_4 (dk_at dksX1_addsPotter_1 1 rfl rfl)
theorem dX1_addsPotter_26 : decode cX1_addsPotter 26 = .ok (.iadd, 1) := dk_96 (dk_at dksX1_addsPotter_1 2 rfl rfl)
theorem dX1_addsPotter_27 : decode cX1_addsPotter 27 = .ok (.newarray .int, 2) := dk_188_10 (dk_at dksX1_addsPotter_1 3 rfl rfl)
theorem dX1_addsPotter_29 : decode cX1_addsPotter 29 = .ok (.astore_n 2, 1) := dk_77 (dk_at dksX1_addsPotter_1 5 rfl rfl)
theorem dX1_addsPotter_30 : decode cX1_addsPotter 30 = .ok (.aload_n 0, 1) := dk_42 (dk_at dksX1_addsPotter_1 6 rfl rfl)
theorem dX1_addsPotter_31 : decode cX1_addsPotter 31 = .ok (.getfield 18, 3) := dk_180 0 18 (dk_at dksX1_addsPotter_1 7 rfl rfl)
theorem dX1_addsPotter_34 : decode cX1_addsPotter 34 = .ok (.iconst 0, 1) := dk_3 (dk_at dksX1_addsPotter_1 10 rfl rfl)
theorem dX1_addsPotter_35 : decode cX1_addsPotter 35 = .ok (.aload_n 2, 1) := dk_44 (dk_at dksX1_addsPotter_1 11 rfl rfl)
theorem dX1_addsPotter_36 : decode cX1_addsPotter 36 = .ok (.iconst 0, 1) := dk_3 (dk_at dksX1_addsPotter_1 12 rfl rfl)
theorem dX1_addsPotter_37 : decode cX1_addsPotter 37 = .ok (.aload_n 0, 1) := dk_42 (dk_at dksX1_addsPotter_1 13 rfl rfl)
theorem dX1_addsPotter_38 : decode cX1_addsPotter 38 = .ok (.getfield 18, 3) := dk_180 0 18 (dk_at dksX1_addsPotter_1 14 rfl rfl)
theorem dX1_addsPotter_41 : decode cX1_addsPotter 41 = .ok (.arraylength, 1) := dk_190 (dk_at dksX1_addsPotter_1 17 rfl rfl)
theorem dX1_addsPotter_42 : decode cX1_addsPotter 42 = .ok (.invokestatic 176, 3) := dk_184 0 176 (dk_at dksX1_addsPotter_1 18 rfl rfl)
theorem dX1_addsPotter_45 : decode cX1_addsPotter 45 = .ok (.aload_n 2, 1) := dk_44 (dk_at dksX1_addsPotter_1 21 rfl rfl)
theorem dX1_addsPotter_46 : decode cX1_addsPotter 46 = .ok (.aload_n 0, 1) := dk_42 (dk_at dksX1_addsPotter_1 22 rfl rfl)
theorem dX1_addsPotter_47 : decode cX1_addsPotter 47 = .ok (.getfield 18, 3) := dk_180 0 18 (dk_at dksX1_addsPotter_2 0 rfl rfl)
theorem dX1_addsPotter_50 : decode cX1_addsPotter 50 = .ok (.arraylength, 1) := dk_190 (dk_at dksX1_addsPotter_2 3 rfl rfl)
theorem dX1_addsPotter_51 : decode cX1_addsPotter 51 = .ok (.iload_n 1, 1) := dk_27 (dk_at dksX1_addsPotter_2 4 rfl rfl)
theorem dX1_addsPotter_52 : decode cX1_addsPotter 52 = .ok (.iastore, 1) := dk_79 (dk_at dksX1_addsPotter_2 5 rfl rfl)
theorem dX1_addsPotter_53 : decode cX1_addsPotter 53 = .ok (.aload_n 0, 1) := dk_42 (dk_at dksX1_addsPotter_2 6 rfl rfl)
theorem dX1_addsPotter_54 : decode cX1_addsPotter 54 = .ok (.aload_n 2, 1) := dk_44 (dk_at dksX1_addsPotter_2 7 rfl rfl)
theorem dX1_addsPotter_55 : decode cX1_addsPotter 55 = .ok (.putfield 18, 3) := dk_181 0 18 (dk_at dksX1_addsPotter_2 8 rfl rfl)
theorem dX1_addsPotter_58 : decode cX1_addsPotter 58 = .ok (.aload_n 0, 1) := dk_42 (dk_at dksX1_addsPotter_2 11 rfl rfl)
theorem dX1_addsPotter_59 : decode cX1_addsPotter 59 = .ok (.getfield 18, 3) := dk_180 0 18 (dk_at dksX1_addsPotter_2 12 rfl rfl)
theorem dX1_addsPotter_62 : decode cX1_addsPotter 62 = .ok (.arraylength, 1) := dk_190 (dk_at dksX1_addsPotter_2 15 rfl rfl)
theorem dX1_addsPotter_63 : decode cX1_addsPotter 63 = .ok (.iconst 1, 1) := dk_4 (dk_at dksX1_addsPotter_2 16 rfl rfl)
theorem dX1_addsPotter_64 : decode cX1_addsPotter 64 = .ok (.isub, 1) := dk_100 (dk_at dksX1_addsPotter_2 17 rfl rfl)
theorem dX1_addsPotter_65 : decode cX1_addsPotter 65 = .ok (.ireturn, 1) := dk_172 (dk_at dksX1_addsPotter_2 18 rfl rfl)
abbrev cX1_addsOrder : ByteArray := prog_23_method_19_code
def yX1_addsOrder : MethodName := ⟨RX1, "addsOrder", "(LTurningWheel$Order;)I"⟩
def dkwX1_addsOrder_1 : List UInt8 := [42, 180, 0, 28, 43, 182, 0, 70, 87, 42, 180, 0, 28, 182, 0, 57, 4, 100, 172]
abbrev dktX1_addsOrder_1 : List UInt8 := dkwX1_addsOrder_1 ++ []
def dkwX1_addsOrder_0 : List UInt8 := [42, 180, 0, 28, 182, 0, 57, 16, 8, 160, 0, 15, 187, 0, 169, 89, 16, 12, 16, 8, 183, 0, 171, 191]
abbrev dktX1_addsOrder_0 : List UInt8 := dkwX1_addsOrder_0 ++ dktX1_addsOrder_1
theorem dksX1_addsOrder_0 : cX1_addsOrder.data.toList.drop 0 = dktX1_addsOrder_0 := by decide +kernel
theorem dksX1_addsOrder_1 : cX1_addsOrder.data.toList.drop 24 = dktX1_addsOrder_1 := dk_seg dksX1_addsOrder_0 24 rfl rfl
theorem dX1_addsOrder_0 : decode cX1_addsOrder 0 = .ok (.aload_n 0, 1) := dk_42 (dk_at dksX1_addsOrder_0 0 rfl rfl)
theorem dX1_addsOrder_1 : decode cX1_addsOrder 1 = .ok (.getfield 28, 3) := dk_180 0 28 (dk_at dksX1_addsOrder_0 1 rfl rfl)
theorem dX1_addsOrder_4 : decode cX1_addsOrder 4 = .ok (.invokevirtual 57, 3) := dk_182 0 57 (dk_at dksX1_addsOrder_0 4 rfl rfl)
theorem dX1_addsOrder_7 : decode cX1_addsOrder 7 = .ok (.bipush 8, 2) := dk_16 8 (dk_at dksX1_addsOrder_0 7 rfl rfl)
theorem dX1_addsOrder_9 : decode cX1_addsOrder 9 = .ok (.if_icmp .ne 15, 3) := dk_160 0 15 (dk_at dksX1_addsOrder_0 9 rfl rfl)
theorem dX1_addsOrder_12 : decode cX1_addsOrder 12 = .ok (.new 169, 3) := dk_187 0 169 (dk_at dksX1_addsOrder_0 12 rfl rfl)
theorem dX1_addsOrder_15 : decode cX1_addsOrder 15 = .ok (.dup, 1) := dk_89 (dk_at dksX1_addsOrder_0 15 rfl rfl)
theorem dX1_addsOrder_16 : decode cX1_addsOrder 16 = .ok (.bipush 12, 2) := dk_16 12 (dk_at dksX1_addsOrder_0 16 rfl rfl)
theorem dX1_addsOrder_18 : decode cX1_addsOrder 18 = .ok (.bipush 8, 2) := dk_16 8 (dk_at dksX1_addsOrder_0 18 rfl rfl)
theorem dX1_addsOrder_20 : decode cX1_addsOrder 20 = .ok (.invokespecial 171, 3) := dk_183 0 171 (dk_at dksX1_addsOrder_0 20 rfl rfl)
theorem dX1_addsOrder_23 : decode cX1_addsOrder 23 = .ok (.athrow, 1) := dk_191 (dk_at dksX1_addsOrder_0 23 rfl rfl)
theorem dX1_addsOrder_24 : decode cX1_addsOrder 24 = .ok (.aload_n 0, 1) := dk_42 (dk_at dksX1_addsOrder_1 0 rfl rfl)
theorem dX1_addsOrder_25 : decode cX1_addsOrder 25 = .ok (.getfield 28, 3) := dk_180 0 28 (dk_at dksX1_addsOrder_1 1 rfl rfl)
theorem dX1_addsOrder_28 : decode cX1_addsOrder 28 = .ok (.aload_n 1, 1) := dk_43 (dk_at dksX1_addsOrder_1 4 rfl rfl)
theorem dX1_addsOrder_29 : decode cX1_addsOrder 29 = .ok (.invokevirtual 70, 3) := dk_182 0 70 (dk_at dksX1_addsOrder_1 5 rfl rfl)
theorem dX1_addsOrder_32 : decode cX1_addsOrder 32 = .ok (.pop, 1) := dk_87 (dk_at dksX1_addsOrder_1 8 rfl rfl)
theorem dX1_addsOrder_33 : decode cX1_addsOrder 33 = .ok (.aload_n 0, 1) := dk_42 (dk_at dksX1_addsOrder_1 9 rfl rfl)
theorem dX1_addsOrder_34 : decode cX1_addsOrder 34 = .ok (.getfield 28, 3) := dk_180 0 28 (dk_at dksX1_addsOrder_1 10 rfl rfl)
theorem dX1_addsOrder_37 : decode cX1_addsOrder 37 = .ok (.invokevirtual 57, 3) := dk_182 0 57 (dk_at dksX1_addsOrder_1 13 rfl rfl)
theorem dX1_addsOrder_40 : decode cX1_addsOrder 40 = .ok (.iconst 1, 1) := dk_4 (dk_at dksX1_addsOrder_1 16 rfl rfl)
theorem dX1_addsOrder_41 : decode cX1_addsOrder 41 = .ok (.isub, 1) := dk_100 (dk_at dksX1_addsOrder_1 17 rfl rfl)
theorem dX1_addsOrder_42 : decode cX1_addsOrder 42 = .ok (.ireturn, 1) := dk_172 (dk_at dksX1_addsOrder_1 18 rfl rfl)
abbrev cX1_many : ByteArray := prog_23_method_6_code
def yX1_many : MethodName := ⟨RX1, "many", "(I)I"⟩
def dkwX1_many_2 : List UInt8 := [167, 255, 213, 28, 172]
abbrev dktX1_many_2 : List UInt8 := dkwX1_many_2 ++ []
def dkwX1_many_1 : List UInt8 := [192, 0, 61, 180, 0, 131, 27, 160, 0, 7, 4, 167, 0, 4, 3, 184, 0, 134, 96, 61, 132, 3, 1]
abbrev dktX1_many_1 : List UInt8 := dkwX1_many_1 ++ dktX1_many_2
def dkwX1_many_0 : List UInt8 := [3, 61, 3, 62, 29, 42, 180, 0, 24, 182, 0, 57, 162, 0, 38, 28, 42, 180, 0, 24, 29, 182, 0, 63]
abbrev dktX1_many_0 : List UInt8 := dkwX1_many_0 ++ dktX1_many_1
theorem dksX1_many_0 : cX1_many.data.toList.drop 0 = dktX1_many_0 := by decide +kernel
theorem dksX1_many_1 : cX1_many.data.toList.drop 24 = dktX1_many_1 := dk_seg dksX1_many_0 24 rfl rfl
theorem dksX1_many_2 : cX1_many.data.toList.drop 47 = dktX1_many_2 := dk_seg dksX1_many_1 23 rfl rfl
theorem dX1_many_0 : decode cX1_many 0 = .ok (.iconst 0, 1) := dk_3 (dk_at dksX1_many_0 0 rfl rfl)
theorem dX1_many_1 : decode cX1_many 1 = .ok (.istore_n 2, 1) := dk_61 (dk_at dksX1_many_0 1 rfl rfl)
theorem dX1_many_2 : decode cX1_many 2 = .ok (.iconst 0, 1) := dk_3 (dk_at dksX1_many_0 2 rfl rfl)
theorem dX1_many_3 : decode cX1_many 3 = .ok (.istore_n 3, 1) := dk_62 (dk_at dksX1_many_0 3 rfl rfl)
theorem dX1_many_4 : decode cX1_many 4 = .ok (.iload_n 3, 1) := dk_29 (dk_at dksX1_many_0 4 rfl rfl)
theorem dX1_many_5 : decode cX1_many 5 = .ok (.aload_n 0, 1) := dk_42 (dk_at dksX1_many_0 5 rfl rfl)
theorem dX1_many_6 : decode cX1_many 6 = .ok (.getfield 24, 3) := dk_180 0 24 (dk_at dksX1_many_0 6 rfl rfl)
theorem dX1_many_9 : decode cX1_many 9 = .ok (.invokevirtual 57, 3) := dk_182 0 57 (dk_at dksX1_many_0 9 rfl rfl)
theorem dX1_many_12 : decode cX1_many 12 = .ok (.if_icmp .ge 38, 3) := dk_162 0 38 (dk_at dksX1_many_0 12 rfl rfl)
theorem dX1_many_15 : decode cX1_many 15 = .ok (.iload_n 2, 1) := dk_28 (dk_at dksX1_many_0 15 rfl rfl)
theorem dX1_many_16 : decode cX1_many 16 = .ok (.aload_n 0, 1) := dk_42 (dk_at dksX1_many_0 16 rfl rfl)
theorem dX1_many_17 : decode cX1_many 17 = .ok (.getfield 24, 3) := dk_180 0 24 (dk_at dksX1_many_0 17 rfl rfl)
theorem dX1_many_20 : decode cX1_many 20 = .ok (.iload_n 3, 1) := dk_29 (dk_at dksX1_many_0 20 rfl rfl)
theorem dX1_many_21 : decode cX1_many 21 = .ok (.invokevirtual 63, 3) := dk_182 0 63 (dk_at dksX1_many_0 21 rfl rfl)
theorem dX1_many_24 : decode cX1_many 24 = .ok (.checkcast 61, 3) := dk_192 0 61 (dk_at dksX1_many_1 0 rfl rfl)
theorem dX1_many_27 : decode cX1_many 27 = .ok (.getfield 131, 3) := dk_180 0 131 (dk_at dksX1_many_1 3 rfl rfl)
theorem dX1_many_30 : decode cX1_many 30 = .ok (.iload_n 1, 1) := dk_27 (dk_at dksX1_many_1 6 rfl rfl)
theorem dX1_many_31 : decode cX1_many 31 = .ok (.if_icmp .ne 7, 3) := dk_160 0 7 (dk_at dksX1_many_1 7 rfl rfl)
theorem dX1_many_34 : decode cX1_many 34 = .ok (.iconst 1, 1) := dk_4 (dk_at dksX1_many_1 10 rfl rfl)
theorem dX1_many_35 : decode cX1_many 35 = .ok (.goto 4, 3) := dk_167 0 4 (dk_at dksX1_many_1 11 rfl rfl)
theorem dX1_many_38 : decode cX1_many 38 = .ok (.iconst 0, 1) := dk_3 (dk_at dksX1_many_1 14 rfl rfl)
theorem dX1_many_39 : decode cX1_many 39 = .ok (.invokestatic 134, 3) := dk_184 0 134 (dk_at dksX1_many_1 15 rfl rfl)
theorem dX1_many_42 : decode cX1_many 42 = .ok (.iadd, 1) := dk_96 (dk_at dksX1_many_1 18 rfl rfl)
theorem dX1_many_43 : decode cX1_many 43 = .ok (.istore_n 2, 1) := dk_61 (dk_at dksX1_many_1 19 rfl rfl)
theorem dX1_many_44 : decode cX1_many 44 = .ok (.iinc 3 1, 3) := dk_132 3 1 (dk_at dksX1_many_1 20 rfl rfl)
theorem dX1_many_47 : decode cX1_many 47 = .ok (.goto (-43), 3) := dk_167 255 213 (dk_at dksX1_many_2 0 rfl rfl)
theorem dX1_many_50 : decode cX1_many 50 = .ok (.iload_n 2, 1) := dk_28 (dk_at dksX1_many_2 3 rfl rfl)
theorem dX1_many_51 : decode cX1_many 51 = .ok (.ireturn, 1) := dk_172 (dk_at dksX1_many_2 4 rfl rfl)
theorem q85 : (Jvm.Cond.initialized "TurningWheel$Pottery") ∈ lw_all := lw_g (lw_at lw_m1 2 rfl) rfl
theorem q173 : (Jvm.Cond.instantiable "TurningWheel$Pottery" (13 : Nat)) ∈ lw_all := lw_g (lw_at lw_m1 90 rfl) rfl
theorem q175 : (Jvm.Cond.instanceMethod ({ cls := "TurningWheel$Pottery", name := "<init>", desc := "()V" } : Jvm.MethodName)) ∈ lw_all := lw_g (lw_at lw_m1 92 rfl) rfl
theorem q176 : (Jvm.Cond.code ({ cls := "TurningWheel$Pottery", name := "<init>", desc := "()V" } : Jvm.MethodName) prog_23_method_1_code (2 : Nat) (Option.none : Option Jvm.ClassFile.FieldType)) ∈ lw_all := lw_g (lw_at lw_m1 93 rfl) rfl
theorem q177 : (Jvm.Cond.methodLink "TurningWheel$Pottery" (3 : Nat) ({ cls := "java/lang/Object", name := "<init>", desc := "()V" } : Jvm.MethodName)) ∈ lw_all := lw_g (lw_at lw_m1 94 rfl) rfl
theorem q178 : (Jvm.Cond.classLink "TurningWheel$Pottery" (21 : Nat) "java/util/ArrayList") ∈ lw_all := lw_g (lw_at lw_m1 95 rfl) rfl
theorem q180 : (Jvm.Cond.methodLink "TurningWheel$Pottery" (23 : Nat) ({ cls := "java/util/ArrayList", name := "<init>", desc := "()V" } : Jvm.MethodName)) ∈ lw_all := lw_g (lw_at lw_m1 97 rfl) rfl
theorem q212 : (Jvm.Cond.classLink "TurningWheel$Pottery" (31 : Nat) "java/util/LinkedList") ∈ lw_all := lw_g (lw_at lw_m1 129 rfl) rfl
theorem q214 : (Jvm.Cond.methodLink "TurningWheel$Pottery" (33 : Nat) ({ cls := "java/util/LinkedList", name := "<init>", desc := "()V" } : Jvm.MethodName)) ∈ lw_all := lw_g (lw_at lw_m1 131 rfl) rfl
theorem q233 : (Jvm.Cond.classLink "TurningWheel$Pottery" (38 : Nat) "TurningWheel$Shelf") ∈ lw_all := lw_g (lw_at lw_m1 150 rfl) rfl
theorem q235 : (Jvm.Cond.methodLinkNest "TurningWheel$Pottery" (40 : Nat) ({ cls := "TurningWheel$Shelf", name := "<init>", desc := "()V" } : Jvm.MethodName) "TurningWheel") ∈ lw_tbl := lw_at lw_m1 152 rfl
theorem q245 : (Jvm.Cond.fieldLink "TurningWheel$Pottery" (9 : Nat) "TurningWheel$Pottery" "settings" "[I") ∈ lw_all := lw_g (lw_at lw_m1 162 rfl) rfl
theorem q248 : (Jvm.Cond.fieldLink "TurningWheel$Pottery" (15 : Nat) "TurningWheel$Pottery" "dryness" "[I") ∈ lw_all := lw_g (lw_at lw_m1 165 rfl) rfl
theorem q251 : (Jvm.Cond.fieldLink "TurningWheel$Pottery" (18 : Nat) "TurningWheel$Pottery" "skills" "[I") ∈ lw_all := lw_g (lw_at lw_m1 168 rfl) rfl
theorem q253 : (Jvm.Cond.fieldLink "TurningWheel$Pottery" (24 : Nat) "TurningWheel$Pottery" "pots" "Ljava/util/ArrayList;") ∈ lw_all := lw_g (lw_at lw_m1 170 rfl) rfl
theorem q255 : (Jvm.Cond.fieldLink "TurningWheel$Pottery" (28 : Nat) "TurningWheel$Pottery" "orders" "Ljava/util/ArrayList;") ∈ lw_all := lw_g (lw_at lw_m1 172 rfl) rfl
theorem q257 : (Jvm.Cond.fieldLink "TurningWheel$Pottery" (34 : Nat) "TurningWheel$Pottery" "row" "Ljava/util/LinkedList;") ∈ lw_all := lw_g (lw_at lw_m1 174 rfl) rfl
theorem q259 : (Jvm.Cond.fieldLink "TurningWheel$Pottery" (41 : Nat) "TurningWheel$Pottery" "shelf" "LTurningWheel$Shelf;") ∈ lw_all := lw_g (lw_at lw_m1 176 rfl) rfl
theorem q261 : (Jvm.Cond.fieldLink "TurningWheel$Pottery" (109 : Nat) "TurningWheel$Pottery" "clock" "I") ∈ lw_all := lw_g (lw_at lw_m1 178 rfl) rfl
theorem q263 : (Jvm.Cond.fieldLink "TurningWheel$Pottery" (45 : Nat) "TurningWheel$Pottery" "wheel" "I") ∈ lw_all := lw_g (lw_at lw_m1 180 rfl) rfl
theorem q265 : (Jvm.Cond.fieldLink "TurningWheel$Pottery" (112 : Nat) "TurningWheel$Pottery" "needs" "I") ∈ lw_all := lw_g (lw_at lw_m1 182 rfl) rfl
theorem q267 : (Jvm.Cond.fieldLink "TurningWheel$Pottery" (49 : Nat) "TurningWheel$Pottery" "last" "I") ∈ lw_all := lw_g (lw_at lw_m1 184 rfl) rfl
theorem q269 : (Jvm.Cond.fieldLink "TurningWheel$Pottery" (115 : Nat) "TurningWheel$Pottery" "ready" "I") ∈ lw_all := lw_g (lw_at lw_m1 186 rfl) rfl
theorem q270 : (Jvm.Cond.fieldLink "TurningWheel$Pottery" (118 : Nat) "TurningWheel$Pottery" "earned" "I") ∈ lw_all := lw_g (lw_at lw_m1 187 rfl) rfl
theorem q272 : (Jvm.Cond.lays "TurningWheel$Pottery" "TurningWheel$Pottery" "settings" "[I") ∈ lw_all := lw_g (lw_at lw_m1 189 rfl) rfl
theorem q273 : (Jvm.Cond.soleField "TurningWheel$Pottery" "settings") ∈ lw_all := lw_g (lw_at lw_m1 190 rfl) rfl
theorem q274 : (Jvm.Cond.lays "TurningWheel$Pottery" "TurningWheel$Pottery" "dryness" "[I") ∈ lw_all := lw_g (lw_at lw_m1 191 rfl) rfl
theorem q275 : (Jvm.Cond.soleField "TurningWheel$Pottery" "dryness") ∈ lw_all := lw_g (lw_at lw_m1 192 rfl) rfl
theorem q276 : (Jvm.Cond.lays "TurningWheel$Pottery" "TurningWheel$Pottery" "skills" "[I") ∈ lw_all := lw_g (lw_at lw_m1 193 rfl) rfl
theorem q277 : (Jvm.Cond.soleField "TurningWheel$Pottery" "skills") ∈ lw_all := lw_g (lw_at lw_m1 194 rfl) rfl
theorem q278 : (Jvm.Cond.laysFinal "TurningWheel$Pottery" "TurningWheel$Pottery" "pots" "Ljava/util/ArrayList;") ∈ lw_all := lw_g (lw_at lw_m1 195 rfl) rfl
theorem q279 : (Jvm.Cond.soleField "TurningWheel$Pottery" "pots") ∈ lw_all := lw_g (lw_at lw_m1 196 rfl) rfl
theorem q280 : (Jvm.Cond.laysFinal "TurningWheel$Pottery" "TurningWheel$Pottery" "orders" "Ljava/util/ArrayList;") ∈ lw_all := lw_g (lw_at lw_m1 197 rfl) rfl
theorem q281 : (Jvm.Cond.soleField "TurningWheel$Pottery" "orders") ∈ lw_all := lw_g (lw_at lw_m1 198 rfl) rfl
theorem q282 : (Jvm.Cond.laysFinal "TurningWheel$Pottery" "TurningWheel$Pottery" "row" "Ljava/util/LinkedList;") ∈ lw_all := lw_g (lw_at lw_m1 199 rfl) rfl
theorem q283 : (Jvm.Cond.soleField "TurningWheel$Pottery" "row") ∈ lw_all := lw_g (lw_at lw_m1 200 rfl) rfl
theorem q284 : (Jvm.Cond.lays "TurningWheel$Pottery" "TurningWheel$Pottery" "shelf" "LTurningWheel$Shelf;") ∈ lw_all := lw_g (lw_at lw_m1 201 rfl) rfl
theorem q285 : (Jvm.Cond.soleField "TurningWheel$Pottery" "shelf") ∈ lw_all := lw_g (lw_at lw_m1 202 rfl) rfl
theorem q286 : (Jvm.Cond.lays "TurningWheel$Pottery" "TurningWheel$Pottery" "clock" "I") ∈ lw_all := lw_g (lw_at lw_m1 203 rfl) rfl
theorem q287 : (Jvm.Cond.soleField "TurningWheel$Pottery" "clock") ∈ lw_all := lw_g (lw_at lw_m1 204 rfl) rfl
theorem q288 : (Jvm.Cond.lays "TurningWheel$Pottery" "TurningWheel$Pottery" "wheel" "I") ∈ lw_all := lw_g (lw_at lw_m1 205 rfl) rfl
theorem q289 : (Jvm.Cond.soleField "TurningWheel$Pottery" "wheel") ∈ lw_all := lw_g (lw_at lw_m1 206 rfl) rfl
theorem q290 : (Jvm.Cond.lays "TurningWheel$Pottery" "TurningWheel$Pottery" "needs" "I") ∈ lw_all := lw_g (lw_at lw_m1 207 rfl) rfl
theorem q291 : (Jvm.Cond.soleField "TurningWheel$Pottery" "needs") ∈ lw_all := lw_g (lw_at lw_m1 208 rfl) rfl
theorem q292 : (Jvm.Cond.lays "TurningWheel$Pottery" "TurningWheel$Pottery" "last" "I") ∈ lw_all := lw_g (lw_at lw_m1 209 rfl) rfl
theorem q293 : (Jvm.Cond.soleField "TurningWheel$Pottery" "last") ∈ lw_all := lw_g (lw_at lw_m1 210 rfl) rfl
theorem q294 : (Jvm.Cond.lays "TurningWheel$Pottery" "TurningWheel$Pottery" "ready" "I") ∈ lw_all := lw_g (lw_at lw_m1 211 rfl) rfl
theorem q295 : (Jvm.Cond.soleField "TurningWheel$Pottery" "ready") ∈ lw_all := lw_g (lw_at lw_m1 212 rfl) rfl
theorem q296 : (Jvm.Cond.lays "TurningWheel$Pottery" "TurningWheel$Pottery" "earned" "I") ∈ lw_all := lw_g (lw_at lw_m1 213 rfl) rfl
theorem q297 : (Jvm.Cond.soleField "TurningWheel$Pottery" "earned") ∈ lw_all := lw_g (lw_at lw_m1 214 rfl) rfl
theorem q298 : (Jvm.Cond.superclass "TurningWheel$Pottery" "java/lang/Object") ∈ lw_all := lw_g (lw_at lw_m1 215 rfl) rfl
theorem q401 : (Jvm.Cond.instanceMethod ({ cls := "TurningWheel$Pottery", name := "<init>", desc := "(LTurningWheel$Pottery;)V" } : Jvm.MethodName)) ∈ lw_all := lw_g (lw_at lw_m2 78 rfl) rfl
theorem q402 : (Jvm.Cond.code ({ cls := "TurningWheel$Pottery", name := "<init>", desc := "(LTurningWheel$Pottery;)V" } : Jvm.MethodName) prog_23_method_2_code (4 : Nat) (Option.none : Option Jvm.ClassFile.FieldType)) ∈ lw_all := lw_g (lw_at lw_m2 79 rfl) rfl
theorem q403 : (Jvm.Cond.methodLink "TurningWheel$Pottery" (52 : Nat) ({ cls := "[I", name := "clone", desc := "()Ljava/lang/Object;" } : Jvm.MethodName)) ∈ lw_all := lw_g (lw_at lw_m2 80 rfl) rfl
theorem q409 : (Jvm.Cond.classLink "TurningWheel$Pottery" (53 : Nat) "[I") ∈ lw_all := lw_g (lw_at lw_m2 86 rfl) rfl
theorem q410 : (Jvm.Cond.methodLink "TurningWheel$Pottery" (57 : Nat) ({ cls := "java/util/ArrayList", name := "size", desc := "()I" } : Jvm.MethodName)) ∈ lw_all := lw_g (lw_at lw_m2 87 rfl) rfl
theorem q411 : (Jvm.Cond.classLink "TurningWheel$Pottery" (61 : Nat) "TurningWheel$Pot") ∈ lw_all := lw_g (lw_at lw_m2 88 rfl) rfl
theorem q413 : (Jvm.Cond.methodLink "TurningWheel$Pottery" (63 : Nat) ({ cls := "java/util/ArrayList", name := "get", desc := "(I)Ljava/lang/Object;" } : Jvm.MethodName)) ∈ lw_all := lw_g (lw_at lw_m2 90 rfl) rfl
theorem q427 : (Jvm.Cond.methodLink "TurningWheel$Pottery" (67 : Nat) ({ cls := "TurningWheel$Pot", name := "<init>", desc := "(LTurningWheel$Pot;)V" } : Jvm.MethodName)) ∈ lw_all := lw_g (lw_at lw_m2 104 rfl) rfl
theorem q450 : (Jvm.Cond.fieldLinkNest "TurningWheel$Pottery" (138 : Nat) "TurningWheel$Pot" "potter" "I" "TurningWheel") ∈ lw_tbl := lw_at lw_m2 127 rfl
theorem q454 : (Jvm.Cond.fieldLinkNest "TurningWheel$Pottery" (153 : Nat) "TurningWheel$Pot" "weight" "I" "TurningWheel") ∈ lw_tbl := lw_at lw_m2 131 rfl
theorem q461 : (Jvm.Cond.fieldLinkNest "TurningWheel$Pottery" (131 : Nat) "TurningWheel$Pot" "state" "I" "TurningWheel") ∈ lw_tbl := lw_at lw_m2 138 rfl
theorem q466 : (Jvm.Cond.fieldLinkNest "TurningWheel$Pottery" (255 : Nat) "TurningWheel$Pot" "cracks" "I" "TurningWheel") ∈ lw_tbl := lw_at lw_m2 143 rfl
theorem q468 : (Jvm.Cond.fieldLinkNest "TurningWheel$Pottery" (189 : Nat) "TurningWheel$Pot" "isCovered" "Z" "TurningWheel") ∈ lw_tbl := lw_at lw_m2 145 rfl
theorem q474 : (Jvm.Cond.fieldLinkNest "TurningWheel$Pottery" (198 : Nat) "TurningWheel$Pot" "ware" "LTurningWheel$Ware;" "TurningWheel") ∈ lw_tbl := lw_at lw_m2 151 rfl
theorem q478 : (Jvm.Cond.fieldLinkNest "TurningWheel$Pottery" (268 : Nat) "TurningWheel$Pot" "order" "I" "TurningWheel") ∈ lw_tbl := lw_at lw_m2 155 rfl
theorem q512 : (Jvm.Cond.methodLink "TurningWheel$Pottery" (70 : Nat) ({ cls := "java/util/ArrayList", name := "add", desc := "(Ljava/lang/Object;)Z" } : Jvm.MethodName)) ∈ lw_all := lw_g (lw_at lw_m2 189 rfl) rfl
theorem q565 : (Jvm.Cond.selects "TurningWheel$Pottery" ({ cls := "java/lang/Object", name := "getClass", desc := "()Ljava/lang/Class;" } : Jvm.MethodName) ({ cls := "java/lang/Object", name := "getClass", desc := "()Ljava/lang/Class;" } : Jvm.MethodName)) ∈ lw_all := lw_g (lw_at lw_m3 2 rfl) rfl
theorem q609 : (Jvm.Cond.classLink "TurningWheel$Pottery" (74 : Nat) "TurningWheel$Order") ∈ lw_all := lw_g (lw_at lw_m3 46 rfl) rfl
theorem q611 : (Jvm.Cond.methodLink "TurningWheel$Pottery" (76 : Nat) ({ cls := "TurningWheel$Order", name := "<init>", desc := "(LTurningWheel$Order;)V" } : Jvm.MethodName)) ∈ lw_all := lw_g (lw_at lw_m3 48 rfl) rfl
theorem q627 : (Jvm.Cond.fieldLinkNest "TurningWheel$Pottery" (265 : Nat) "TurningWheel$Order" "price" "I" "TurningWheel") ∈ lw_tbl := lw_at lw_m3 64 rfl
theorem q630 : (Jvm.Cond.fieldLinkNest "TurningWheel$Pottery" (262 : Nat) "TurningWheel$Order" "lacking" "I" "TurningWheel") ∈ lw_tbl := lw_at lw_m3 67 rfl
theorem q645 : (Jvm.Cond.methodLink "TurningWheel$Pottery" (79 : Nat) ({ cls := "java/util/LinkedList", name := "iterator", desc := "()Ljava/util/Iterator;" } : Jvm.MethodName)) ∈ lw_all := lw_g (lw_at lw_m3 82 rfl) rfl
theorem q732 : (Jvm.Cond.interfaceEntry "TurningWheel$Pottery" (83 : Nat)) ∈ lw_tbl := lw_at lw_m3 169 rfl
theorem q733 : (Jvm.Cond.methodLink "TurningWheel$Pottery" (83 : Nat) ({ cls := "java/util/Iterator", name := "hasNext", desc := "()Z" } : Jvm.MethodName)) ∈ lw_all := lw_g (lw_at lw_m3 170 rfl) rfl
theorem q784 : (Jvm.Cond.interfaceEntry "TurningWheel$Pottery" (89 : Nat)) ∈ lw_tbl := lw_at lw_m3 221 rfl
theorem q785 : (Jvm.Cond.methodLink "TurningWheel$Pottery" (89 : Nat) ({ cls := "java/util/Iterator", name := "next", desc := "()Ljava/lang/Object;" } : Jvm.MethodName)) ∈ lw_all := lw_g (lw_at lw_m3 222 rfl) rfl
theorem q1204 : (Jvm.Cond.classLink "TurningWheel$Pottery" (92 : Nat) "java/lang/Integer") ∈ lw_all := lw_g (lw_at lw_m5 161 rfl) rfl
theorem q1205 : (Jvm.Cond.methodLink "TurningWheel$Pottery" (94 : Nat) ({ cls := "java/lang/Integer", name := "intValue", desc := "()I" } : Jvm.MethodName)) ∈ lw_all := lw_g (lw_at lw_m5 162 rfl) rfl
theorem q1209 : (Jvm.Cond.methodLink "TurningWheel$Pottery" (97 : Nat) ({ cls := "java/lang/Integer", name := "valueOf", desc := "(I)Ljava/lang/Integer;" } : Jvm.MethodName)) ∈ lw_all := lw_g (lw_at lw_m5 166 rfl) rfl
theorem q1229 : (Jvm.Cond.methodLink "TurningWheel$Pottery" (101 : Nat) ({ cls := "java/util/LinkedList", name := "addLast", desc := "(Ljava/lang/Object;)V" } : Jvm.MethodName)) ∈ lw_all := lw_g (lw_at lw_m5 186 rfl) rfl
theorem q1258 : (Jvm.Cond.methodLink "TurningWheel$Pottery" (105 : Nat) ({ cls := "TurningWheel$Shelf", name := "copy", desc := "()LTurningWheel$Shelf;" } : Jvm.MethodName)) ∈ lw_all := lw_g (lw_at lw_m5 215 rfl) rfl
theorem q1280 : (Jvm.Cond.instanceMethod ({ cls := "TurningWheel$Pottery", name := "passes", desc := "(I)I" } : Jvm.MethodName)) ∈ lw_all := lw_g (lw_at lw_m5 237 rfl) rfl
theorem q1281 : (Jvm.Cond.selects "TurningWheel$Pottery" ({ cls := "TurningWheel$Pottery", name := "passes", desc := "(I)I" } : Jvm.MethodName) ({ cls := "TurningWheel$Pottery", name := "passes", desc := "(I)I" } : Jvm.MethodName)) ∈ lw_all := lw_g (lw_at lw_m5 238 rfl) rfl
theorem q1282 : (Jvm.Cond.code ({ cls := "TurningWheel$Pottery", name := "passes", desc := "(I)I" } : Jvm.MethodName) prog_23_method_11_code (3 : Nat) (Option.some Jvm.ClassFile.FieldType.int)) ∈ lw_all := lw_g (lw_at lw_m5 239 rfl) rfl
theorem q1283 : (Jvm.Cond.classLink "TurningWheel$Pottery" (169 : Nat) "TurningWheel$Refused") ∈ lw_all := lw_g (lw_at lw_m6 0 rfl) rfl
theorem q1292 : (Jvm.Cond.methodLink "TurningWheel$Pottery" (171 : Nat) ({ cls := "TurningWheel$Refused", name := "<init>", desc := "(II)V" } : Jvm.MethodName)) ∈ lw_all := lw_g (lw_at lw_m6 9 rfl) rfl
theorem q1312 : (Jvm.Cond.methodLink "TurningWheel$Pottery" (173 : Nat) ({ cls := "TurningWheel$Pottery", name := "goesHour", desc := "()V" } : Jvm.MethodName)) ∈ lw_all := lw_g (lw_at lw_m6 29 rfl) rfl
theorem q1313 : (Jvm.Cond.instanceMethod ({ cls := "TurningWheel$Pottery", name := "goesHour", desc := "()V" } : Jvm.MethodName)) ∈ lw_all := lw_g (lw_at lw_m6 30 rfl) rfl
theorem q1314 : (Jvm.Cond.selects "TurningWheel$Pottery" ({ cls := "TurningWheel$Pottery", name := "goesHour", desc := "()V" } : Jvm.MethodName) ({ cls := "TurningWheel$Pottery", name := "goesHour", desc := "()V" } : Jvm.MethodName)) ∈ lw_all := lw_g (lw_at lw_m6 31 rfl) rfl
theorem q1315 : (Jvm.Cond.code ({ cls := "TurningWheel$Pottery", name := "goesHour", desc := "()V" } : Jvm.MethodName) prog_23_method_10_code (4 : Nat) (Option.none : Option Jvm.ClassFile.FieldType)) ∈ lw_all := lw_g (lw_at lw_m6 32 rfl) rfl
theorem q1316 : (Jvm.Cond.methodLink "TurningWheel$Pottery" (162 : Nat) ({ cls := "TurningWheel$Pot", name := "dries", desc := "(II)V" } : Jvm.MethodName)) ∈ lw_all := lw_g (lw_at lw_m6 33 rfl) rfl
theorem q1334 : (Jvm.Cond.methodLink "TurningWheel$Pottery" (166 : Nat) ({ cls := "TurningWheel$Pottery", name := "turns", desc := "()V" } : Jvm.MethodName)) ∈ lw_all := lw_g (lw_at lw_m6 51 rfl) rfl
theorem q1335 : (Jvm.Cond.privateMethod ({ cls := "TurningWheel$Pottery", name := "turns", desc := "()V" } : Jvm.MethodName)) ∈ lw_tbl := lw_at lw_m6 52 rfl
theorem q1336 : (Jvm.Cond.instanceMethod ({ cls := "TurningWheel$Pottery", name := "turns", desc := "()V" } : Jvm.MethodName)) ∈ lw_all := lw_g (lw_at lw_m6 53 rfl) rfl
theorem q1337 : (Jvm.Cond.code ({ cls := "TurningWheel$Pottery", name := "turns", desc := "()V" } : Jvm.MethodName) prog_23_method_9_code (1 : Nat) (Option.none : Option Jvm.ClassFile.FieldType)) ∈ lw_all := lw_g (lw_at lw_m6 54 rfl) rfl
theorem q1338 : (Jvm.Cond.methodLink "TurningWheel$Pottery" (156 : Nat) ({ cls := "TurningWheel$Pot", name := "comesOff", desc := "()V" } : Jvm.MethodName)) ∈ lw_all := lw_g (lw_at lw_m6 55 rfl) rfl
theorem q1342 : (Jvm.Cond.methodLink "TurningWheel$Pottery" (159 : Nat) ({ cls := "TurningWheel$Pottery", name := "takesWheel", desc := "()V" } : Jvm.MethodName)) ∈ lw_all := lw_g (lw_at lw_m6 59 rfl) rfl
theorem q1343 : (Jvm.Cond.privateMethod ({ cls := "TurningWheel$Pottery", name := "takesWheel", desc := "()V" } : Jvm.MethodName)) ∈ lw_tbl := lw_at lw_m6 60 rfl
theorem q1344 : (Jvm.Cond.instanceMethod ({ cls := "TurningWheel$Pottery", name := "takesWheel", desc := "()V" } : Jvm.MethodName)) ∈ lw_all := lw_g (lw_at lw_m6 61 rfl) rfl
theorem q1345 : (Jvm.Cond.code ({ cls := "TurningWheel$Pottery", name := "takesWheel", desc := "()V" } : Jvm.MethodName) prog_23_method_8_code (2 : Nat) (Option.none : Option Jvm.ClassFile.FieldType)) ∈ lw_all := lw_g (lw_at lw_m6 62 rfl) rfl
theorem q1346 : (Jvm.Cond.methodLink "TurningWheel$Pottery" (147 : Nat) ({ cls := "java/util/LinkedList", name := "isEmpty", desc := "()Z" } : Jvm.MethodName)) ∈ lw_all := lw_g (lw_at lw_m6 63 rfl) rfl
theorem q1362 : (Jvm.Cond.methodLink "TurningWheel$Pottery" (150 : Nat) ({ cls := "TurningWheel$Pottery", name := "nextOfRow", desc := "()I" } : Jvm.MethodName)) ∈ lw_all := lw_g (lw_at lw_m6 79 rfl) rfl
theorem q1363 : (Jvm.Cond.privateMethod ({ cls := "TurningWheel$Pottery", name := "nextOfRow", desc := "()I" } : Jvm.MethodName)) ∈ lw_tbl := lw_at lw_m6 80 rfl
theorem q1364 : (Jvm.Cond.instanceMethod ({ cls := "TurningWheel$Pottery", name := "nextOfRow", desc := "()I" } : Jvm.MethodName)) ∈ lw_all := lw_g (lw_at lw_m6 81 rfl) rfl
theorem q1365 : (Jvm.Cond.code ({ cls := "TurningWheel$Pottery", name := "nextOfRow", desc := "()I" } : Jvm.MethodName) prog_23_method_7_code (3 : Nat) (Option.some Jvm.ClassFile.FieldType.int)) ∈ lw_all := lw_g (lw_at lw_m6 82 rfl) rfl
theorem q1366 : (Jvm.Cond.interfaceEntry "TurningWheel$Pottery" (141 : Nat)) ∈ lw_tbl := lw_at lw_m6 83 rfl
theorem q1367 : (Jvm.Cond.methodLink "TurningWheel$Pottery" (141 : Nat) ({ cls := "java/util/Iterator", name := "remove", desc := "()V" } : Jvm.MethodName)) ∈ lw_all := lw_g (lw_at lw_m6 84 rfl) rfl
theorem q1471 : (Jvm.Cond.methodLink "TurningWheel$Pottery" (144 : Nat) ({ cls := "java/util/LinkedList", name := "removeFirst", desc := "()Ljava/lang/Object;" } : Jvm.MethodName)) ∈ lw_all := lw_g (lw_at lw_m6 188 rfl) rfl
theorem q1611 : (Jvm.Cond.instanceMethod ({ cls := "TurningWheel$Pottery", name := "isPotter", desc := "(I)Z" } : Jvm.MethodName)) ∈ lw_all := lw_g (lw_at lw_m7 88 rfl) rfl
theorem q1612 : (Jvm.Cond.selects "TurningWheel$Pottery" ({ cls := "TurningWheel$Pottery", name := "isPotter", desc := "(I)Z" } : Jvm.MethodName) ({ cls := "TurningWheel$Pottery", name := "isPotter", desc := "(I)Z" } : Jvm.MethodName)) ∈ lw_all := lw_g (lw_at lw_m7 89 rfl) rfl
theorem q1613 : (Jvm.Cond.code ({ cls := "TurningWheel$Pottery", name := "isPotter", desc := "(I)Z" } : Jvm.MethodName) prog_23_method_3_code (2 : Nat) (Option.some Jvm.ClassFile.FieldType.boolean)) ∈ lw_all := lw_g (lw_at lw_m7 90 rfl) rfl
theorem q1614 : (Jvm.Cond.methodLinkNest "TurningWheel$Pottery" (121 : Nat) ({ cls := "TurningWheel", name := "in", desc := "(III)Z" } : Jvm.MethodName) "TurningWheel") ∈ lw_tbl := lw_at lw_m7 91 rfl
theorem q1637 : (Jvm.Cond.instanceMethod ({ cls := "TurningWheel$Pottery", name := "addsPot", desc := "(III)I" } : Jvm.MethodName)) ∈ lw_all := lw_g (lw_at lw_m7 114 rfl) rfl
theorem q1638 : (Jvm.Cond.selects "TurningWheel$Pottery" ({ cls := "TurningWheel$Pottery", name := "addsPot", desc := "(III)I" } : Jvm.MethodName) ({ cls := "TurningWheel$Pottery", name := "addsPot", desc := "(III)I" } : Jvm.MethodName)) ∈ lw_all := lw_g (lw_at lw_m7 115 rfl) rfl
theorem q1639 : (Jvm.Cond.code ({ cls := "TurningWheel$Pottery", name := "addsPot", desc := "(III)I" } : Jvm.MethodName) prog_23_method_13_code (5 : Nat) (Option.some Jvm.ClassFile.FieldType.int)) ∈ lw_all := lw_g (lw_at lw_m7 116 rfl) rfl
theorem q1640 : (Jvm.Cond.methodLink "TurningWheel$Pottery" (182 : Nat) ({ cls := "TurningWheel$Pot", name := "<init>", desc := "(IIII)V" } : Jvm.MethodName)) ∈ lw_all := lw_g (lw_at lw_m7 117 rfl) rfl
theorem q1643 : (Jvm.Cond.instanceMethod ({ cls := "TurningWheel$Pottery", name := "isPot", desc := "(I)Z" } : Jvm.MethodName)) ∈ lw_all := lw_g (lw_at lw_m7 120 rfl) rfl
theorem q1644 : (Jvm.Cond.selects "TurningWheel$Pottery" ({ cls := "TurningWheel$Pottery", name := "isPot", desc := "(I)Z" } : Jvm.MethodName) ({ cls := "TurningWheel$Pottery", name := "isPot", desc := "(I)Z" } : Jvm.MethodName)) ∈ lw_all := lw_g (lw_at lw_m7 121 rfl) rfl
theorem q1645 : (Jvm.Cond.code ({ cls := "TurningWheel$Pottery", name := "isPot", desc := "(I)Z" } : Jvm.MethodName) prog_23_method_4_code (2 : Nat) (Option.some Jvm.ClassFile.FieldType.boolean)) ∈ lw_all := lw_g (lw_at lw_m7 122 rfl) rfl
theorem q1647 : (Jvm.Cond.instanceMethod ({ cls := "TurningWheel$Pottery", name := "covers", desc := "(IZ)I" } : Jvm.MethodName)) ∈ lw_all := lw_g (lw_at lw_m7 124 rfl) rfl
theorem q1648 : (Jvm.Cond.selects "TurningWheel$Pottery" ({ cls := "TurningWheel$Pottery", name := "covers", desc := "(IZ)I" } : Jvm.MethodName) ({ cls := "TurningWheel$Pottery", name := "covers", desc := "(IZ)I" } : Jvm.MethodName)) ∈ lw_all := lw_g (lw_at lw_m7 125 rfl) rfl
theorem q1649 : (Jvm.Cond.code ({ cls := "TurningWheel$Pottery", name := "covers", desc := "(IZ)I" } : Jvm.MethodName) prog_23_method_15_code (5 : Nat) (Option.some Jvm.ClassFile.FieldType.int)) ∈ lw_all := lw_g (lw_at lw_m7 126 rfl) rfl
theorem q1650 : (Jvm.Cond.methodLink "TurningWheel$Pottery" (185 : Nat) ({ cls := "TurningWheel$Pottery", name := "inState", desc := "(II)LTurningWheel$Pot;" } : Jvm.MethodName)) ∈ lw_all := lw_g (lw_at lw_m7 127 rfl) rfl
theorem q1651 : (Jvm.Cond.privateMethod ({ cls := "TurningWheel$Pottery", name := "inState", desc := "(II)LTurningWheel$Pot;" } : Jvm.MethodName)) ∈ lw_tbl := lw_at lw_m7 128 rfl
theorem q1652 : (Jvm.Cond.instanceMethod ({ cls := "TurningWheel$Pottery", name := "inState", desc := "(II)LTurningWheel$Pot;" } : Jvm.MethodName)) ∈ lw_all := lw_g (lw_at lw_m7 129 rfl) rfl
theorem q1653 : (Jvm.Cond.code ({ cls := "TurningWheel$Pottery", name := "inState", desc := "(II)LTurningWheel$Pot;" } : Jvm.MethodName) prog_23_method_14_code (4 : Nat) (Option.some (Jvm.ClassFile.FieldType.object "TurningWheel$Pot"))) ∈ lw_all := lw_g (lw_at lw_m7 130 rfl) rfl
theorem q1654 : (Jvm.Cond.methodLinkNest "TurningWheel$Pottery" (134 : Nat) ({ cls := "TurningWheel", name := "bit", desc := "(Z)I" } : Jvm.MethodName) "TurningWheel") ∈ lw_tbl := lw_at lw_m7 131 rfl
theorem q1659 : (Jvm.Cond.instanceMethod ({ cls := "TurningWheel$Pottery", name := "glazes", desc := "(III)I" } : Jvm.MethodName)) ∈ lw_all := lw_g (lw_at lw_m7 136 rfl) rfl
theorem q1660 : (Jvm.Cond.selects "TurningWheel$Pottery" ({ cls := "TurningWheel$Pottery", name := "glazes", desc := "(III)I" } : Jvm.MethodName) ({ cls := "TurningWheel$Pottery", name := "glazes", desc := "(III)I" } : Jvm.MethodName)) ∈ lw_all := lw_g (lw_at lw_m7 137 rfl) rfl
theorem q1661 : (Jvm.Cond.code ({ cls := "TurningWheel$Pottery", name := "glazes", desc := "(III)I" } : Jvm.MethodName) prog_23_method_16_code (5 : Nat) (Option.some Jvm.ClassFile.FieldType.int)) ∈ lw_all := lw_g (lw_at lw_m7 138 rfl) rfl
theorem q1662 : (Jvm.Cond.classLink "TurningWheel$Pottery" (193 : Nat) "TurningWheel$Coated") ∈ lw_all := lw_g (lw_at lw_m7 139 rfl) rfl
theorem q1664 : (Jvm.Cond.methodLink "TurningWheel$Pottery" (195 : Nat) ({ cls := "TurningWheel$Coated", name := "<init>", desc := "(III)V" } : Jvm.MethodName)) ∈ lw_all := lw_g (lw_at lw_m7 141 rfl) rfl
theorem q1676 : (Jvm.Cond.methodLink "TurningWheel$Pottery" (202 : Nat) ({ cls := "TurningWheel$Pot", name := "reach", desc := "([I)I" } : Jvm.MethodName)) ∈ lw_all := lw_g (lw_at lw_m7 153 rfl) rfl
theorem q1699 : (Jvm.Cond.instanceMethod ({ cls := "TurningWheel$Pottery", name := "places", desc := "(II)I" } : Jvm.MethodName)) ∈ lw_all := lw_g (lw_at lw_m7 176 rfl) rfl
theorem q1700 : (Jvm.Cond.selects "TurningWheel$Pottery" ({ cls := "TurningWheel$Pottery", name := "places", desc := "(II)I" } : Jvm.MethodName) ({ cls := "TurningWheel$Pottery", name := "places", desc := "(II)I" } : Jvm.MethodName)) ∈ lw_all := lw_g (lw_at lw_m7 177 rfl) rfl
theorem q1701 : (Jvm.Cond.code ({ cls := "TurningWheel$Pottery", name := "places", desc := "(II)I" } : Jvm.MethodName) prog_23_method_18_code (5 : Nat) (Option.some Jvm.ClassFile.FieldType.int)) ∈ lw_all := lw_g (lw_at lw_m7 178 rfl) rfl
theorem q1702 : (Jvm.Cond.methodLink "TurningWheel$Pottery" (217 : Nat) ({ cls := "TurningWheel$Pottery", name := "tries", desc := "(LTurningWheel$Pot;I)V" } : Jvm.MethodName)) ∈ lw_all := lw_g (lw_at lw_m7 179 rfl) rfl
theorem q1703 : (Jvm.Cond.privateMethod ({ cls := "TurningWheel$Pottery", name := "tries", desc := "(LTurningWheel$Pot;I)V" } : Jvm.MethodName)) ∈ lw_tbl := lw_at lw_m7 180 rfl
theorem q1704 : (Jvm.Cond.instanceMethod ({ cls := "TurningWheel$Pottery", name := "tries", desc := "(LTurningWheel$Pot;I)V" } : Jvm.MethodName)) ∈ lw_all := lw_g (lw_at lw_m7 181 rfl) rfl
theorem q1705 : (Jvm.Cond.codeWith ({ cls := "TurningWheel$Pottery", name := "tries", desc := "(LTurningWheel$Pot;I)V" } : Jvm.MethodName) prog_23_method_17_code (5 : Nat) (Option.none : Option Jvm.ClassFile.FieldType) [((9 : Nat), (23 : Nat), (26 : Nat), (169 : Nat))]) ∈ lw_all := lw_g (lw_at lw_m7 182 rfl) rfl
theorem q1706 : (Jvm.Cond.methodLink "TurningWheel$Pottery" (206 : Nat) ({ cls := "TurningWheel$Shelf", name := "at", desc := "(I)LTurningWheel$Ware;" } : Jvm.MethodName)) ∈ lw_all := lw_g (lw_at lw_m7 183 rfl) rfl
theorem q1710 : (Jvm.Cond.methodLink "TurningWheel$Pottery" (210 : Nat) ({ cls := "TurningWheel$Shelf", name := "puts", desc := "(ILTurningWheel$Ware;)LTurningWheel$Ware;" } : Jvm.MethodName)) ∈ lw_all := lw_g (lw_at lw_m7 187 rfl) rfl
theorem q1744 : (Jvm.Cond.methodLink "TurningWheel$Pottery" (214 : Nat) ({ cls := "TurningWheel$Refused", name := "<init>", desc := "(IILTurningWheel$Refused;)V" } : Jvm.MethodName)) ∈ lw_all := lw_g (lw_at lw_m7 221 rfl) rfl
theorem q1745 : (Jvm.Cond.methodLink "TurningWheel$Pottery" (221 : Nat) ({ cls := "TurningWheel$Shelf", name := "placeOf", desc := "(I)I" } : Jvm.MethodName)) ∈ lw_all := lw_g (lw_at lw_m7 222 rfl) rfl
theorem q1749 : (Jvm.Cond.methodLink "TurningWheel$Pottery" (225 : Nat) ({ cls := "TurningWheel$Ware", name := "pot", desc := "()I" } : Jvm.MethodName)) ∈ lw_all := lw_g (lw_at lw_m7 226 rfl) rfl
theorem q1750 : (Jvm.Cond.methodLink "TurningWheel$Pottery" (230 : Nat) ({ cls := "TurningWheel$Shelf", name := "size", desc := "()I" } : Jvm.MethodName)) ∈ lw_all := lw_g (lw_at lw_m7 227 rfl) rfl
theorem q1756 : (Jvm.Cond.instanceMethod ({ cls := "TurningWheel$Pottery", name := "fires", desc := "()I" } : Jvm.MethodName)) ∈ lw_all := lw_g (lw_at lw_m7 233 rfl) rfl
theorem q1757 : (Jvm.Cond.selects "TurningWheel$Pottery" ({ cls := "TurningWheel$Pottery", name := "fires", desc := "()I" } : Jvm.MethodName) ({ cls := "TurningWheel$Pottery", name := "fires", desc := "()I" } : Jvm.MethodName)) ∈ lw_all := lw_g (lw_at lw_m7 234 rfl) rfl
theorem q1758 : (Jvm.Cond.code ({ cls := "TurningWheel$Pottery", name := "fires", desc := "()I" } : Jvm.MethodName) prog_23_method_26_code (1 : Nat) (Option.some Jvm.ClassFile.FieldType.int)) ∈ lw_all := lw_g (lw_at lw_m7 235 rfl) rfl
theorem q1759 : (Jvm.Cond.methodLink "TurningWheel$Pottery" (289 : Nat) ({ cls := "TurningWheel$Pottery", name := "restLeft", desc := "()I" } : Jvm.MethodName)) ∈ lw_all := lw_g (lw_at lw_m7 236 rfl) rfl
theorem q1760 : (Jvm.Cond.instanceMethod ({ cls := "TurningWheel$Pottery", name := "restLeft", desc := "()I" } : Jvm.MethodName)) ∈ lw_all := lw_g (lw_at lw_m7 237 rfl) rfl
theorem q1761 : (Jvm.Cond.selects "TurningWheel$Pottery" ({ cls := "TurningWheel$Pottery", name := "restLeft", desc := "()I" } : Jvm.MethodName) ({ cls := "TurningWheel$Pottery", name := "restLeft", desc := "()I" } : Jvm.MethodName)) ∈ lw_all := lw_g (lw_at lw_m7 238 rfl) rfl
theorem q1762 : (Jvm.Cond.code ({ cls := "TurningWheel$Pottery", name := "restLeft", desc := "()I" } : Jvm.MethodName) prog_23_method_5_code (1 : Nat) (Option.some Jvm.ClassFile.FieldType.int)) ∈ lw_all := lw_g (lw_at lw_m7 239 rfl) rfl
theorem q1763 : (Jvm.Cond.methodLink "TurningWheel$Pottery" (125 : Nat) ({ cls := "java/lang/Math", name := "max", desc := "(II)I" } : Jvm.MethodName)) ∈ lw_all := lw_g (lw_at lw_m8 0 rfl) rfl
theorem q1764 : (Jvm.Cond.methodLink "TurningWheel$Pottery" (292 : Nat) ({ cls := "TurningWheel$Pottery", name := "burns", desc := "()Ljava/util/BitSet;" } : Jvm.MethodName)) ∈ lw_all := lw_g (lw_at lw_m8 1 rfl) rfl
theorem q1765 : (Jvm.Cond.instanceMethod ({ cls := "TurningWheel$Pottery", name := "burns", desc := "()Ljava/util/BitSet;" } : Jvm.MethodName)) ∈ lw_all := lw_g (lw_at lw_m8 2 rfl) rfl
theorem q1766 : (Jvm.Cond.selects "TurningWheel$Pottery" ({ cls := "TurningWheel$Pottery", name := "burns", desc := "()Ljava/util/BitSet;" } : Jvm.MethodName) ({ cls := "TurningWheel$Pottery", name := "burns", desc := "()Ljava/util/BitSet;" } : Jvm.MethodName)) ∈ lw_all := lw_g (lw_at lw_m8 3 rfl) rfl
theorem q1767 : (Jvm.Cond.code ({ cls := "TurningWheel$Pottery", name := "burns", desc := "()Ljava/util/BitSet;" } : Jvm.MethodName) prog_23_method_25_code (4 : Nat) (Option.some (Jvm.ClassFile.FieldType.object "java/util/BitSet"))) ∈ lw_all := lw_g (lw_at lw_m8 4 rfl) rfl
theorem q1768 : (Jvm.Cond.methodLink "TurningWheel$Pottery" (271 : Nat) ({ cls := "TurningWheel$Pottery", name := "lost", desc := "()Ljava/util/BitSet;" } : Jvm.MethodName)) ∈ lw_all := lw_g (lw_at lw_m8 5 rfl) rfl
theorem q1769 : (Jvm.Cond.instanceMethod ({ cls := "TurningWheel$Pottery", name := "lost", desc := "()Ljava/util/BitSet;" } : Jvm.MethodName)) ∈ lw_all := lw_g (lw_at lw_m8 6 rfl) rfl
theorem q1770 : (Jvm.Cond.selects "TurningWheel$Pottery" ({ cls := "TurningWheel$Pottery", name := "lost", desc := "()Ljava/util/BitSet;" } : Jvm.MethodName) ({ cls := "TurningWheel$Pottery", name := "lost", desc := "()Ljava/util/BitSet;" } : Jvm.MethodName)) ∈ lw_all := lw_g (lw_at lw_m8 7 rfl) rfl
theorem q1771 : (Jvm.Cond.code ({ cls := "TurningWheel$Pottery", name := "lost", desc := "()Ljava/util/BitSet;" } : Jvm.MethodName) prog_23_method_22_code (4 : Nat) (Option.some (Jvm.ClassFile.FieldType.object "java/util/BitSet"))) ∈ lw_all := lw_g (lw_at lw_m8 8 rfl) rfl
theorem q1772 : (Jvm.Cond.classLink "TurningWheel$Pottery" (231 : Nat) "java/util/BitSet") ∈ lw_all := lw_g (lw_at lw_m8 9 rfl) rfl
theorem q1774 : (Jvm.Cond.methodLink "TurningWheel$Pottery" (233 : Nat) ({ cls := "java/util/BitSet", name := "<init>", desc := "()V" } : Jvm.MethodName)) ∈ lw_all := lw_g (lw_at lw_m8 11 rfl) rfl
theorem q1796 : (Jvm.Cond.methodLink "TurningWheel$Pottery" (241 : Nat) ({ cls := "TurningWheel$Pottery", name := "isReached", desc := "(I)Z" } : Jvm.MethodName)) ∈ lw_all := lw_g (lw_at lw_m8 33 rfl) rfl
theorem q1797 : (Jvm.Cond.privateMethod ({ cls := "TurningWheel$Pottery", name := "isReached", desc := "(I)Z" } : Jvm.MethodName)) ∈ lw_tbl := lw_at lw_m8 34 rfl
theorem q1798 : (Jvm.Cond.instanceMethod ({ cls := "TurningWheel$Pottery", name := "isReached", desc := "(I)Z" } : Jvm.MethodName)) ∈ lw_all := lw_g (lw_at lw_m8 35 rfl) rfl
theorem q1799 : (Jvm.Cond.code ({ cls := "TurningWheel$Pottery", name := "isReached", desc := "(I)Z" } : Jvm.MethodName) prog_23_method_21_code (4 : Nat) (Option.some Jvm.ClassFile.FieldType.boolean)) ∈ lw_all := lw_g (lw_at lw_m8 36 rfl) rfl
theorem q1800 : (Jvm.Cond.methodLink "TurningWheel$Pottery" (238 : Nat) ({ cls := "java/lang/Math", name := "abs", desc := "(I)I" } : Jvm.MethodName)) ∈ lw_all := lw_g (lw_at lw_m8 37 rfl) rfl
theorem q1803 : (Jvm.Cond.methodLink "TurningWheel$Pottery" (245 : Nat) ({ cls := "TurningWheel$Pot", name := "breaks", desc := "()Z" } : Jvm.MethodName)) ∈ lw_all := lw_g (lw_at lw_m8 40 rfl) rfl
theorem q1807 : (Jvm.Cond.methodLink "TurningWheel$Pottery" (234 : Nat) ({ cls := "java/util/BitSet", name := "set", desc := "(I)V" } : Jvm.MethodName)) ∈ lw_all := lw_g (lw_at lw_m8 44 rfl) rfl
theorem q1834 : (Jvm.Cond.methodLink "TurningWheel$Pottery" (275 : Nat) ({ cls := "TurningWheel$Pottery", name := "onShelf", desc := "()Ljava/util/BitSet;" } : Jvm.MethodName)) ∈ lw_all := lw_g (lw_at lw_m8 71 rfl) rfl
theorem q1835 : (Jvm.Cond.instanceMethod ({ cls := "TurningWheel$Pottery", name := "onShelf", desc := "()Ljava/util/BitSet;" } : Jvm.MethodName)) ∈ lw_all := lw_g (lw_at lw_m8 72 rfl) rfl
theorem q1836 : (Jvm.Cond.selects "TurningWheel$Pottery" ({ cls := "TurningWheel$Pottery", name := "onShelf", desc := "()Ljava/util/BitSet;" } : Jvm.MethodName) ({ cls := "TurningWheel$Pottery", name := "onShelf", desc := "()Ljava/util/BitSet;" } : Jvm.MethodName)) ∈ lw_all := lw_g (lw_at lw_m8 73 rfl) rfl
theorem q1837 : (Jvm.Cond.code ({ cls := "TurningWheel$Pottery", name := "onShelf", desc := "()Ljava/util/BitSet;" } : Jvm.MethodName) prog_23_method_20_code (3 : Nat) (Option.some (Jvm.ClassFile.FieldType.object "java/util/BitSet"))) ∈ lw_all := lw_g (lw_at lw_m8 74 rfl) rfl
theorem q1838 : (Jvm.Cond.methodLink "TurningWheel$Pottery" (278 : Nat) ({ cls := "java/util/BitSet", name := "andNot", desc := "(Ljava/util/BitSet;)V" } : Jvm.MethodName)) ∈ lw_all := lw_g (lw_at lw_m8 75 rfl) rfl
theorem q1848 : (Jvm.Cond.methodLink "TurningWheel$Pottery" (252 : Nat) ({ cls := "java/util/BitSet", name := "nextSetBit", desc := "(I)I" } : Jvm.MethodName)) ∈ lw_all := lw_g (lw_at lw_m8 85 rfl) rfl
theorem q1859 : (Jvm.Cond.methodLink "TurningWheel$Pottery" (282 : Nat) ({ cls := "TurningWheel$Shelf", name := "clears", desc := "()V" } : Jvm.MethodName)) ∈ lw_all := lw_g (lw_at lw_m8 96 rfl) rfl
theorem q1863 : (Jvm.Cond.methodLink "TurningWheel$Pottery" (285 : Nat) ({ cls := "TurningWheel$Pottery", name := "sells", desc := "(Ljava/util/BitSet;)Ljava/util/BitSet;" } : Jvm.MethodName)) ∈ lw_all := lw_g (lw_at lw_m8 100 rfl) rfl
theorem q1864 : (Jvm.Cond.privateMethod ({ cls := "TurningWheel$Pottery", name := "sells", desc := "(Ljava/util/BitSet;)Ljava/util/BitSet;" } : Jvm.MethodName)) ∈ lw_tbl := lw_at lw_m8 101 rfl
theorem q1865 : (Jvm.Cond.instanceMethod ({ cls := "TurningWheel$Pottery", name := "sells", desc := "(Ljava/util/BitSet;)Ljava/util/BitSet;" } : Jvm.MethodName)) ∈ lw_all := lw_g (lw_at lw_m8 102 rfl) rfl
theorem q1866 : (Jvm.Cond.code ({ cls := "TurningWheel$Pottery", name := "sells", desc := "(Ljava/util/BitSet;)Ljava/util/BitSet;" } : Jvm.MethodName) prog_23_method_24_code (6 : Nat) (Option.some (Jvm.ClassFile.FieldType.object "java/util/BitSet"))) ∈ lw_all := lw_g (lw_at lw_m8 103 rfl) rfl
theorem q1867 : (Jvm.Cond.methodLink "TurningWheel$Pottery" (258 : Nat) ({ cls := "TurningWheel$Pottery", name := "orderFor", desc := "(LTurningWheel$Pot;)I" } : Jvm.MethodName)) ∈ lw_all := lw_g (lw_at lw_m8 104 rfl) rfl
theorem q1868 : (Jvm.Cond.privateMethod ({ cls := "TurningWheel$Pottery", name := "orderFor", desc := "(LTurningWheel$Pot;)I" } : Jvm.MethodName)) ∈ lw_tbl := lw_at lw_m8 105 rfl
theorem q1869 : (Jvm.Cond.instanceMethod ({ cls := "TurningWheel$Pottery", name := "orderFor", desc := "(LTurningWheel$Pot;)I" } : Jvm.MethodName)) ∈ lw_all := lw_g (lw_at lw_m8 106 rfl) rfl
theorem q1870 : (Jvm.Cond.code ({ cls := "TurningWheel$Pottery", name := "orderFor", desc := "(LTurningWheel$Pot;)I" } : Jvm.MethodName) prog_23_method_23_code (3 : Nat) (Option.some Jvm.ClassFile.FieldType.int)) ∈ lw_all := lw_g (lw_at lw_m8 107 rfl) rfl
theorem q1871 : (Jvm.Cond.methodLink "TurningWheel$Pottery" (248 : Nat) ({ cls := "TurningWheel$Order", name := "wants", desc := "(LTurningWheel$Pot;I)Z" } : Jvm.MethodName)) ∈ lw_all := lw_g (lw_at lw_m8 108 rfl) rfl
theorem q1880 : (Jvm.Cond.methodLink "TurningWheel$Pottery" (295 : Nat) ({ cls := "java/util/BitSet", name := "cardinality", desc := "()I" } : Jvm.MethodName)) ∈ lw_all := lw_g (lw_at lw_m8 117 rfl) rfl
theorem q1899 : (Jvm.Cond.instanceMethod ({ cls := "TurningWheel$Pottery", name := "addsPotter", desc := "(I)I" } : Jvm.MethodName)) ∈ lw_all := lw_g (lw_at lw_m8 136 rfl) rfl
theorem q1900 : (Jvm.Cond.selects "TurningWheel$Pottery" ({ cls := "TurningWheel$Pottery", name := "addsPotter", desc := "(I)I" } : Jvm.MethodName) ({ cls := "TurningWheel$Pottery", name := "addsPotter", desc := "(I)I" } : Jvm.MethodName)) ∈ lw_all := lw_g (lw_at lw_m8 137 rfl) rfl
theorem q1901 : (Jvm.Cond.code ({ cls := "TurningWheel$Pottery", name := "addsPotter", desc := "(I)I" } : Jvm.MethodName) prog_23_method_12_code (3 : Nat) (Option.some Jvm.ClassFile.FieldType.int)) ∈ lw_all := lw_g (lw_at lw_m8 138 rfl) rfl
theorem q1902 : (Jvm.Cond.methodLink "TurningWheel$Pottery" (176 : Nat) ({ cls := "java/lang/System", name := "arraycopy", desc := "(Ljava/lang/Object;ILjava/lang/Object;II)V" } : Jvm.MethodName)) ∈ lw_all := lw_g (lw_at lw_m8 139 rfl) rfl
theorem q1929 : (Jvm.Cond.instanceMethod ({ cls := "TurningWheel$Pottery", name := "addsOrder", desc := "(LTurningWheel$Order;)I" } : Jvm.MethodName)) ∈ lw_all := lw_g (lw_at lw_m8 166 rfl) rfl
theorem q1930 : (Jvm.Cond.selects "TurningWheel$Pottery" ({ cls := "TurningWheel$Pottery", name := "addsOrder", desc := "(LTurningWheel$Order;)I" } : Jvm.MethodName) ({ cls := "TurningWheel$Pottery", name := "addsOrder", desc := "(LTurningWheel$Order;)I" } : Jvm.MethodName)) ∈ lw_all := lw_g (lw_at lw_m8 167 rfl) rfl
theorem q1931 : (Jvm.Cond.code ({ cls := "TurningWheel$Pottery", name := "addsOrder", desc := "(LTurningWheel$Order;)I" } : Jvm.MethodName) prog_23_method_19_code (2 : Nat) (Option.some Jvm.ClassFile.FieldType.int)) ∈ lw_all := lw_g (lw_at lw_m8 168 rfl) rfl
theorem q2394 : (Jvm.Cond.instanceMethod ({ cls := "TurningWheel$Pottery", name := "many", desc := "(I)I" } : Jvm.MethodName)) ∈ lw_all := lw_g (lw_at lw_m10 151 rfl) rfl
theorem q2395 : (Jvm.Cond.selects "TurningWheel$Pottery" ({ cls := "TurningWheel$Pottery", name := "many", desc := "(I)I" } : Jvm.MethodName) ({ cls := "TurningWheel$Pottery", name := "many", desc := "(I)I" } : Jvm.MethodName)) ∈ lw_all := lw_g (lw_at lw_m10 152 rfl) rfl
theorem q2396 : (Jvm.Cond.code ({ cls := "TurningWheel$Pottery", name := "many", desc := "(I)I" } : Jvm.MethodName) prog_23_method_6_code (4 : Nat) (Option.some Jvm.ClassFile.FieldType.int)) ∈ lw_all := lw_g (lw_at lw_m10 153 rfl) rfl
theorem q3044 : (Jvm.Cond.castable "TurningWheel$Pottery" "java/lang/Object") ∈ lw_tbl := lw_at lw_m13 81 rfl
theorem in_X1 : ∀ w ∈ wsX10, w ∈ lw_all := lw_in wsX10 [272, 274, 276, 278, 280, 282, 284, 286, 288, 290, 292, 294, 296] (by decide +kernel) (by decide +kernel)

/-! TurningWheel$Shelf -/
set_option maxRecDepth 100000
def RX2 : String := "TurningWheel$Shelf"
def TX2 : u_T := fun k => match k with
  | _ => ("TurningWheel$Shelf", "places", "[LTurningWheel$Ware;", false)
def tyX2 : Nat → FieldType := fun k => match k with
  | _ => .array (.object "TurningWheel$Ware")
abbrev wsX20 : List Cond := u_ws RX2 TX2 1
theorem nmX2 : ∀ a, a < 1 → ∀ b, b < 1 → a ≠ b → (TX2 a).2.1 ≠ (TX2 b).2.1 := by decide +kernel
theorem tyX2_ok : ∀ k, k < 1 → parseFieldDescriptor (TX2 k).2.2.1 = some (tyX2 k) := by decide +kernel
abbrev cX2_init : ByteArray := prog_27_method_1_code
def yX2_init : MethodName := ⟨RX2, "<init>", "()V"⟩
def dkwX2_init_0 : List UInt8 := [42, 183, 0, 3, 42, 16, 8, 189, 0, 9, 181, 0, 11, 177]
abbrev dktX2_init_0 : List UInt8 := dkwX2_init_0 ++ []
theorem dksX2_init_0 : cX2_init.data.toList.drop 0 = dktX2_init_0 := by decide +kernel
theorem dX2_init_0 : decode cX2_init 0 = .ok (.aload_n 0, 1) := dk_42 (dk_at dksX2_init_0 0 rfl rfl)
theorem dX2_init_1 : decode cX2_init 1 = .ok (.invokespecial 3, 3) := dk_183 0 3 (dk_at dksX2_init_0 1 rfl rfl)
theorem dX2_init_4 : decode cX2_init 4 = .ok (.aload_n 0, 1) := dk_42 (dk_at dksX2_init_0 4 rfl rfl)
theorem dX2_init_5 : decode cX2_init 5 = .ok (.bipush 8, 2) := dk_16 8 (dk_at dksX2_init_0 5 rfl rfl)
theorem dX2_init_7 : decode cX2_init 7 = .ok (.anewarray 9, 3) := dk_189 0 9 (dk_at dksX2_init_0 7 rfl rfl)
theorem dX2_init_10 : decode cX2_init 10 = .ok (.putfield 11, 3) := dk_181 0 11 (dk_at dksX2_init_0 10 rfl rfl)
theorem dX2_init_13 : decode cX2_init 13 = .ok (.return_, 1) := dk_177 (dk_at dksX2_init_0 13 rfl rfl)
abbrev cX2_copy : ByteArray := prog_27_method_7_code
def yX2_copy : MethodName := ⟨RX2, "copy", "()LTurningWheel$Shelf;"⟩
def dkwX2_copy_0 : List UInt8 := [187, 0, 12, 89, 183, 0, 34, 76, 43, 42, 180, 0, 11, 182, 0, 35, 192, 0, 36, 181, 0, 11, 43, 176]
abbrev dktX2_copy_0 : List UInt8 := dkwX2_copy_0 ++ []
theorem dksX2_copy_0 : cX2_copy.data.toList.drop 0 = dktX2_copy_0 := by decide +kernel
theorem dX2_copy_0 : decode cX2_copy 0 = .ok (.new 12, 3) := dk_187 0 12 (dk_at dksX2_copy_0 0 rfl rfl)
theorem dX2_copy_3 : decode cX2_copy 3 = .ok (.dup, 1) := dk_89 (dk_at dksX2_copy_0 3 rfl rfl)
theorem dX2_copy_4 : decode cX2_copy 4 = .ok (.invokespecial 34, 3) := dk_183 0 34 (dk_at dksX2_copy_0 4 rfl rfl)
theorem dX2_copy_7 : decode cX2_copy 7 = .ok (.astore_n 1, 1) := dk_76 (dk_at dksX2_copy_0 7 rfl rfl)
theorem dX2_copy_8 : decode cX2_copy 8 = .ok (.aload_n 1, 1) := dk_43 (dk_at dksX2_copy_0 8 rfl rfl)
theorem dX2_copy_9 : decode cX2_copy 9 = .ok (.aload_n 0, 1) := dk_42 (dk_at dksX2_copy_0 9 rfl rfl)
theorem dX2_copy_10 : decode cX2_copy 10 = .ok (.getfield 11, 3) := dk_180 0 11 (dk_at dksX2_copy_0 10 rfl rfl)
theorem dX2_copy_13 : decode cX2_copy 13 = .ok (.invokevirtual 35, 3) := dk_182 0 35 (dk_at dksX2_copy_0 13 rfl rfl)
theorem dX2_copy_16 : decode cX2_copy 16 = .ok (.checkcast 36, 3) := dk_192 0 36 (dk_at dksX2_copy_0 16 rfl rfl)
theorem dX2_copy_19 : decode cX2_copy 19 = .ok (.putfield 11, 3) := dk_181 0 11 (dk_at dksX2_copy_0 19 rfl rfl)
theorem dX2_copy_22 : decode cX2_copy 22 = .ok (.aload_n 1, 1) := dk_43 (dk_at dksX2_copy_0 22 rfl rfl)
theorem dX2_copy_23 : decode cX2_copy 23 = .ok (.areturn, 1) := dk_176 (dk_at dksX2_copy_0 23 rfl rfl)
abbrev cX2_at : ByteArray := prog_27_method_2_code
def yX2_at : MethodName := ⟨RX2, "at", "(I)LTurningWheel$Ware;"⟩
def dkwX2_at_0 : List UInt8 := [42, 180, 0, 11, 27, 50, 176]
abbrev dktX2_at_0 : List UInt8 := dkwX2_at_0 ++ []
theorem dksX2_at_0 : cX2_at.data.toList.drop 0 = dktX2_at_0 := by decide +kernel
theorem dX2_at_0 : decode cX2_at 0 = .ok (.aload_n 0, 1) := dk_42 (dk_at dksX2_at_0 0 rfl rfl)
theorem dX2_at_1 : decode cX2_at 1 = .ok (.getfield 11, 3) := dk_180 0 11 (dk_at dksX2_at_0 1 rfl rfl)
theorem dX2_at_4 : decode cX2_at 4 = .ok (.iload_n 1, 1) := dk_27 (dk_at dksX2_at_0 4 rfl rfl)
theorem dX2_at_5 : decode cX2_at 5 = .ok (.aaload, 1) := dk_50 (dk_at dksX2_at_0 5 rfl rfl)
theorem dX2_at_6 : decode cX2_at 6 = .ok (.areturn, 1) := dk_176 (dk_at dksX2_at_0 6 rfl rfl)
abbrev cX2_puts : ByteArray := prog_27_method_3_code
def yX2_puts : MethodName := ⟨RX2, "puts", "(ILTurningWheel$Ware;)LTurningWheel$Ware;"⟩
def dkwX2_puts_1 : List UInt8 := [16, 20, 44, 182, 0, 21, 183, 0, 27, 191, 45, 176]
abbrev dktX2_puts_1 : List UInt8 := dkwX2_puts_1 ++ []
def dkwX2_puts_0 : List UInt8 := [42, 180, 0, 11, 27, 50, 78, 42, 180, 0, 11, 27, 44, 83, 167, 0, 19, 58, 4, 187, 0, 19, 89]
abbrev dktX2_puts_0 : List UInt8 := dkwX2_puts_0 ++ dktX2_puts_1
theorem dksX2_puts_0 : cX2_puts.data.toList.drop 0 = dktX2_puts_0 := by decide +kernel
theorem dksX2_puts_1 : cX2_puts.data.toList.drop 23 = dktX2_puts_1 := dk_seg dksX2_puts_0 23 rfl rfl
theorem dX2_puts_0 : decode cX2_puts 0 = .ok (.aload_n 0, 1) := dk_42 (dk_at dksX2_puts_0 0 rfl rfl)
theorem dX2_puts_1 : decode cX2_puts 1 = .ok (.getfield 11, 3) := dk_180 0 11 (dk_at dksX2_puts_0 1 rfl rfl)
theorem dX2_puts_4 : decode cX2_puts 4 = .ok (.iload_n 1, 1) := dk_27 (dk_at dksX2_puts_0 4 rfl rfl)
theorem dX2_puts_5 : decode cX2_puts 5 = .ok (.aaload, 1) := dk_50 (dk_at dksX2_puts_0 5 rfl rfl)
theorem dX2_puts_6 : decode cX2_puts 6 = .ok (.astore_n 3, 1) := dk_78 (dk_at dksX2_puts_0 6 rfl rfl)
theorem dX2_puts_7 : decode cX2_puts 7 = .ok (.aload_n 0, 1) := dk_42 (dk_at dksX2_puts_0 7 rfl rfl)
theorem dX2_puts_8 : decode cX2_puts 8 = .ok (.getfield 11, 3) := dk_180 0 11 (dk_at dksX2_puts_0 8 rfl rfl)
theorem dX2_puts_11 : decode cX2_puts 11 = .ok (.iload_n 1, 1) := dk_27 (dk_at dksX2_puts_0 11 rfl rfl)
theorem dX2_puts_12 : decode cX2_puts 12 = .ok (.aload_n 2, 1) := dk_44 (dk_at dksX2_puts_0 12 rfl rfl)
theorem dX2_puts_13 : decode cX2_puts 13 = .ok (.aastore, 1) := dk_83 (dk_at dksX2_puts_0 13 rfl rfl)
theorem dX2_puts_14 : decode cX2_puts 14 = .ok (.goto 19, 3) := dk_167 0 19 (dk_at dksX2_puts_0 14 rfl rfl)
theorem dX2_puts_17 : decode cX2_puts 17 = .ok (.astore 4, 2) := dk_58 4 (dk_at dksX2_puts_0 17 rfl rfl)
theorem dX2_puts_19 : decode cX2_puts 19 = .ok (.new 19, 3) := dk_187 0 19 (dk_at dksX2_puts_0 19 rfl rfl)
theorem dX2_puts_22 : decode cX2_puts 22 = .ok (.dup, 1) := dk_89 (dk_at dksX2_puts_0 22 rfl rfl)
theorem dX2_puts_23 : decode cX2_puts 23 = .ok (.bipush 20, 2) := dk_16 20 (dk_at dksX2_puts_1 0 rfl rfl)
theorem dX2_puts_25 : decode cX2_puts 25 = .ok (.aload_n 2, 1) := dk_44 (dk_at dksX2_puts_1 2 rfl rfl)
theorem dX2_puts_26 : decode cX2_puts 26 = .ok (.invokevirtual 21, 3) := dk_182 0 21 (dk_at dksX2_puts_1 3 rfl rfl)
theorem dX2_puts_29 : decode cX2_puts 29 = .ok (.invokespecial 27, 3) := dk_183 0 27 (dk_at dksX2_puts_1 6 rfl rfl)
theorem dX2_puts_32 : decode cX2_puts 32 = .ok (.athrow, 1) := dk_191 (dk_at dksX2_puts_1 9 rfl rfl)
theorem dX2_puts_33 : decode cX2_puts 33 = .ok (.aload_n 3, 1) := dk_45 (dk_at dksX2_puts_1 10 rfl rfl)
theorem dX2_puts_34 : decode cX2_puts 34 = .ok (.areturn, 1) := dk_176 (dk_at dksX2_puts_1 11 rfl rfl)
abbrev cX2_placeOf : ByteArray := prog_27_method_6_code
def yX2_placeOf : MethodName := ⟨RX2, "placeOf", "(I)I"⟩
def dkwX2_placeOf_1 : List UInt8 := [182, 0, 21, 27, 160, 0, 5, 28, 172, 132, 2, 1, 167, 255, 223, 2, 172]
abbrev dktX2_placeOf_1 : List UInt8 := dkwX2_placeOf_1 ++ []
def dkwX2_placeOf_0 : List UInt8 := [3, 61, 28, 16, 8, 162, 0, 33, 42, 180, 0, 11, 28, 50, 198, 0, 18, 42, 180, 0, 11, 28, 50]
abbrev dktX2_placeOf_0 : List UInt8 := dkwX2_placeOf_0 ++ dktX2_placeOf_1
theorem dksX2_placeOf_0 : cX2_placeOf.data.toList.drop 0 = dktX2_placeOf_0 := by decide +kernel
theorem dksX2_placeOf_1 : cX2_placeOf.data.toList.drop 23 = dktX2_placeOf_1 := dk_seg dksX2_placeOf_0 23 rfl rfl
theorem dX2_placeOf_0 : decode cX2_placeOf 0 = .ok (.iconst 0, 1) := dk_3 (dk_at dksX2_placeOf_0 0 rfl rfl)
theorem dX2_placeOf_1 : decode cX2_placeOf 1 = .ok (.istore_n 2, 1) := dk_61 (dk_at dksX2_placeOf_0 1 rfl rfl)
theorem dX2_placeOf_2 : decode cX2_placeOf 2 = .ok (.iload_n 2, 1) := dk_28 (dk_at dksX2_placeOf_0 2 rfl rfl)
theorem dX2_placeOf_3 : decode cX2_placeOf 3 = .ok (.bipush 8, 2) := dk_16 8 (dk_at dksX2_placeOf_0 3 rfl rfl)
theorem dX2_placeOf_5 : decode cX2_placeOf 5 = .ok (.if_icmp .ge 33, 3) := dk_162 0 33 (dk_at dksX2_placeOf_0 5 rfl rfl)
theorem dX2_placeOf_8 : decode cX2_placeOf 8 = .ok (.aload_n 0, 1) := dk_42 (dk_at dksX2_placeOf_0 8 rfl rfl)
theorem dX2_placeOf_9 : decode cX2_placeOf 9 = .ok (.getfield 11, 3) := dk_180 0 11 (dk_at dksX2_placeOf_0 9 rfl rfl)
theorem dX2_placeOf_12 : decode cX2_placeOf 12 = .ok (.iload_n 2, 1) := dk_28 (dk_at dksX2_placeOf_0 12 rfl rfl)
theorem dX2_placeOf_13 : decode cX2_placeOf 13 = .ok (.aaload, 1) := dk_50 (dk_at dksX2_placeOf_0 13 rfl rfl)
theorem dX2_placeOf_14 : decode cX2_placeOf 14 = .ok (.ifnull 18, 3) := dk_198 0 18 (dk_at dksX2_placeOf_0 14 rfl rfl)
theorem dX2_placeOf_17 : decode cX2_placeOf 17 = .ok (.aload_n 0, 1) := dk_42 (dk_at dksX2_placeOf_0 17 rfl rfl)
theorem dX2_placeOf_18 : decode cX2_placeOf 18 = .ok (.getfield 11, 3) := dk_180 0 11 (dk_at dksX2_placeOf_0 18 rfl rfl)
theorem dX2_placeOf_21 : decode cX2_placeOf 21 = .ok (.iload_n 2, 1) := dk_28 (dk_at dksX2_placeOf_0 21 rfl rfl)
theorem dX2_placeOf_22 : decode cX2_placeOf 22 = .ok (.aaload, 1) := dk_50 (dk_at dksX2_placeOf_0 22 rfl rfl)
theorem dX2_placeOf_23 : decode cX2_placeOf 23 = .ok (.invokevirtual 21, 3) := dk_182 0 21 (dk_at dksX2_placeOf_1 0 rfl rfl)
theorem dX2_placeOf_26 : decode cX2_placeOf 26 = .ok (.iload_n 1, 1) := dk_27 (dk_at dksX2_placeOf_1 3 rfl rfl)
theorem dX2_placeOf_27 : decode cX2_placeOf 27 = .ok (.if_icmp .ne 5, 3) := dk_160 0 5 (dk_at dksX2_placeOf_1 4 rfl rfl)
theorem dX2_placeOf_30 : decode cX2_placeOf 30 = .ok (.iload_n 2, 1) := dk_28 (dk_at dksX2_placeOf_1 7 rfl rfl)
theorem dX2_placeOf_31 : decode cX2_placeOf 31 = .ok (.ireturn, 1) := dk_172 (dk_at dksX2_placeOf_1 8 rfl rfl)
theorem dX2_placeOf_32 : decode cX2_placeOf 32 = .ok (.iinc 2 1, 3) := dk_132 2 1 (dk_at dksX2_placeOf_1 9 rfl rfl)
theorem dX2_placeOf_35 : decode cX2_placeOf 35 = .ok (.goto (-33), 3) := dk_167 255 223 (dk_at dksX2_placeOf_1 12 rfl rfl)
theorem dX2_placeOf_38 : decode cX2_placeOf 38 = .ok (.iconst (-1), 1) := dk_2 (dk_at dksX2_placeOf_1 15 rfl rfl)
theorem dX2_placeOf_39 : decode cX2_placeOf 39 = .ok (.ireturn, 1) := dk_172 (dk_at dksX2_placeOf_1 16 rfl rfl)
abbrev cX2_size : ByteArray := prog_27_method_5_code
def yX2_size : MethodName := ⟨RX2, "size", "()I"⟩
def dkwX2_size_2 : List UInt8 := [27, 172]
abbrev dktX2_size_2 : List UInt8 := dkwX2_size_2 ++ []
def dkwX2_size_1 : List UInt8 := [58, 5, 27, 25, 5, 198, 0, 7, 4, 167, 0, 4, 3, 184, 0, 30, 96, 60, 132, 4, 1, 167, 255, 225]
abbrev dktX2_size_1 : List UInt8 := dkwX2_size_1 ++ dktX2_size_2
def dkwX2_size_0 : List UInt8 := [3, 60, 42, 180, 0, 11, 77, 44, 190, 62, 3, 54, 4, 21, 4, 29, 162, 0, 31, 44, 21, 4, 50]
abbrev dktX2_size_0 : List UInt8 := dkwX2_size_0 ++ dktX2_size_1
theorem dksX2_size_0 : cX2_size.data.toList.drop 0 = dktX2_size_0 := by decide +kernel
theorem dksX2_size_1 : cX2_size.data.toList.drop 23 = dktX2_size_1 := dk_seg dksX2_size_0 23 rfl rfl
theorem dksX2_size_2 : cX2_size.data.toList.drop 47 = dktX2_size_2 := dk_seg dksX2_size_1 24 rfl rfl
theorem dX2_size_0 : decode cX2_size 0 = .ok (.iconst 0, 1) := dk_3 (dk_at dksX2_size_0 0 rfl rfl)
theorem dX2_size_1 : decode cX2_size 1 = .ok (.istore_n 1, 1) := dk_60 (dk_at dksX2_size_0 1 rfl rfl)
theorem dX2_size_2 : decode cX2_size 2 = .ok (.aload_n 0, 1) := dk_42 (dk_at dksX2_size_0 2 rfl rfl)
theorem dX2_size_3 : decode cX2_size 3 = .ok (.getfield 11, 3) := dk_180 0 11 (dk_at dksX2_size_0 3 rfl rfl)
theorem dX2_size_6 : decode cX2_size 6 = .ok (.astore_n 2, 1) := dk_77 (dk_at dksX2_size_0 6 rfl rfl)
theorem dX2_size_7 : decode cX2_size 7 = .ok (.aload_n 2, 1) := dk_44 (dk_at dksX2_size_0 7 rfl rfl)
theorem dX2_size_8 : decode cX2_size 8 = .ok (.arraylength, 1) := dk_190 (dk_at dksX2_size_0 8 rfl rfl)
theorem dX2_size_9 : decode cX2_size 9 = .ok (.istore_n 3, 1) := dk_62 (dk_at dksX2_size_0 9 rfl rfl)
theorem dX2_size_10 : decode cX2_size 10 = .ok (.iconst 0, 1) := dk_3 (dk_at dksX2_size_0 10 rfl rfl)
theorem dX2_size_11 : decode cX2_size 11 = .ok (.istore 4, 2) := dk_54 4 (dk_at dksX2_size_0 11 rfl rfl)
theorem dX2_size_13 : decode cX2_size 13 = .ok (.iload 4, 2) := dk_21 4 (dk_at dksX2_size_0 13 rfl rfl)
theorem dX2_size_15 : decode cX2_size 15 = .ok (.iload_n 3, 1) := dk_29 (dk_at dksX2_size_0 15 rfl rfl)
theorem dX2_size_16 : decode cX2_size 16 = .ok (.if_icmp .ge 31, 3) := dk_162 0 31 (dk_at dksX2_size_0 16 rfl rfl)
theorem dX2_size_19 : decode cX2_size 19 = .ok (.aload_n 2, 1) := dk_44 (dk_at dksX2_size_0 19 rfl rfl)
theorem dX2_size_20 : decode cX2_size 20 = .ok (.iload 4, 2) := dk_21 4 (dk_at dksX2_size_0 20 rfl rfl)
theorem dX2_size_22 : decode cX2_size 22 = .ok (.aaload, 1) := dk_50 (dk_at dksX2_size_0 22 rfl rfl)
theorem dX2_size_23 : decode cX2_size 23 = .ok (.astore 5, 2) := dk_58 5 (dk_at dksX2_size_1 0 rfl rfl)
theorem dX2_size_25 : decode cX2_size 25 = .ok (.iload_n 1, 1) := dk_27 (dk_at dksX2_size_1 2 rfl rfl)
theorem dX2_size_26 : decode cX2_size 26 = .ok (.aload 5, 2) := dk_25 5 (dk_at dksX2_size_1 3 rfl rfl)
theorem dX2_size_28 : decode cX2_size 28 = .ok (.ifnull 7, 3) := dk_198 0 7 (dk_at dksX2_size_1 5 rfl rfl)
theorem dX2_size_31 : decode cX2_size 31 = .ok (.iconst 1, 1) := dk_4 (dk_at dksX2_size_1 8 rfl rfl)
theorem dX2_size_32 : decode cX2_size 32 = .ok (.goto 4, 3) := dk_167 0 4 (dk_at dksX2_size_1 9 rfl rfl)
theorem dX2_size_35 : decode cX2_size 35 = .ok (.iconst 0, 1) := dk_3 (dk_at dksX2_size_1 12 rfl rfl)
theorem dX2_size_36 : decode cX2_size 36 = .ok (.invokestatic 30, 3) := dk_184 0 30 (dk_at dksX2_size_1 13 rfl rfl)
theorem dX2_size_39 : decode cX2_size 39 = .ok (.iadd, 1) := dk_96 (dk_at dksX2_size_1 16 rfl rfl)
theorem dX2_size_40 : decode cX2_size 40 = .ok (.istore_n 1, 1) := dk_60 (dk_at dksX2_size_1 17 rfl rfl)
theorem dX2_size_41 : decode cX2_size 41 = .ok (.iinc 4 1, 3) := dk_132 4 1 (dk_at dksX2_size_1 18 rfl rfl)
theorem dX2_size_44 : decode cX2_size 44 = .ok (.goto (-31), 3) := dk_167 255 225 (dk_at dksX2_size_1 21 rfl rfl)
theorem dX2_size_47 : decode cX2_size 47 = .ok (.iload_n 1, 1) := dk_27 (dk_at dksX2_size_2 0 rfl rfl)
theorem dX2_size_48 : decode cX2_size 48 = .ok (.ireturn, 1) := dk_172 (dk_at dksX2_size_2 1 rfl rfl)
abbrev cX2_clears : ByteArray := prog_27_method_4_code
def yX2_clears : MethodName := ⟨RX2, "clears", "()V"⟩
def dkwX2_clears_0 : List UInt8 := [3, 60, 27, 16, 8, 162, 0, 16, 42, 180, 0, 11, 27, 1, 83, 132, 1, 1, 167, 255, 240, 177]
abbrev dktX2_clears_0 : List UInt8 := dkwX2_clears_0 ++ []
theorem dksX2_clears_0 : cX2_clears.data.toList.drop 0 = dktX2_clears_0 := by decide +kernel
theorem dX2_clears_0 : decode cX2_clears 0 = .ok (.iconst 0, 1) := dk_3 (dk_at dksX2_clears_0 0 rfl rfl)
theorem dX2_clears_1 : decode cX2_clears 1 = .ok (.istore_n 1, 1) := dk_60 (dk_at dksX2_clears_0 1 rfl rfl)
theorem dX2_clears_2 : decode cX2_clears 2 = .ok (.iload_n 1, 1) := dk_27 (dk_at dksX2_clears_0 2 rfl rfl)
theorem dX2_clears_3 : decode cX2_clears 3 = .ok (.bipush 8, 2) := dk_16 8 (dk_at dksX2_clears_0 3 rfl rfl)
theorem dX2_clears_5 : decode cX2_clears 5 = .ok (.if_icmp .ge 16, 3) := dk_162 0 16 (dk_at dksX2_clears_0 5 rfl rfl)
theorem dX2_clears_8 : decode cX2_clears 8 = .ok (.aload_n 0, 1) := dk_42 (dk_at dksX2_clears_0 8 rfl rfl)
theorem dX2_clears_9 : decode cX2_clears 9 = .ok (.getfield 11, 3) := dk_180 0 11 (dk_at dksX2_clears_0 9 rfl rfl)
theorem dX2_clears_12 : decode cX2_clears 12 = .ok (.iload_n 1, 1) := dk_27 (dk_at dksX2_clears_0 12 rfl rfl)
theorem dX2_clears_13 : decode cX2_clears 13 = .ok (.aconst_null, 1) := dk_1 (dk_at dksX2_clears_0 13 rfl rfl)
theorem dX2_clears_14 : decode cX2_clears 14 = .ok (.aastore, 1) := dk_83 (dk_at dksX2_clears_0 14 rfl rfl)
theorem dX2_clears_15 : decode cX2_clears 15 = .ok (.iinc 1 1, 3) := dk_132 1 1 (dk_at dksX2_clears_0 15 rfl rfl)
theorem dX2_clears_18 : decode cX2_clears 18 = .ok (.goto (-16), 3) := dk_167 255 240 (dk_at dksX2_clears_0 18 rfl rfl)
theorem dX2_clears_21 : decode cX2_clears 21 = .ok (.return_, 1) := dk_177 (dk_at dksX2_clears_0 21 rfl rfl)
theorem q91 : (Jvm.Cond.initialized "TurningWheel$Shelf") ∈ lw_all := lw_g (lw_at lw_m1 8 rfl) rfl
theorem q234 : (Jvm.Cond.instantiable "TurningWheel$Shelf" (1 : Nat)) ∈ lw_all := lw_g (lw_at lw_m1 151 rfl) rfl
theorem q236 : (Jvm.Cond.instanceMethod ({ cls := "TurningWheel$Shelf", name := "<init>", desc := "()V" } : Jvm.MethodName)) ∈ lw_all := lw_g (lw_at lw_m1 153 rfl) rfl
theorem q237 : (Jvm.Cond.code ({ cls := "TurningWheel$Shelf", name := "<init>", desc := "()V" } : Jvm.MethodName) prog_27_method_1_code (1 : Nat) (Option.none : Option Jvm.ClassFile.FieldType)) ∈ lw_all := lw_g (lw_at lw_m1 154 rfl) rfl
theorem q238 : (Jvm.Cond.methodLink "TurningWheel$Shelf" (3 : Nat) ({ cls := "java/lang/Object", name := "<init>", desc := "()V" } : Jvm.MethodName)) ∈ lw_all := lw_g (lw_at lw_m1 155 rfl) rfl
theorem q239 : (Jvm.Cond.classLink "TurningWheel$Shelf" (9 : Nat) "TurningWheel$Coated") ∈ lw_all := lw_g (lw_at lw_m1 156 rfl) rfl
theorem q241 : (Jvm.Cond.fieldLink "TurningWheel$Shelf" (11 : Nat) "TurningWheel$Shelf" "places" "[LTurningWheel$Ware;") ∈ lw_all := lw_g (lw_at lw_m1 158 rfl) rfl
theorem q242 : (Jvm.Cond.lays "TurningWheel$Shelf" "TurningWheel$Shelf" "places" "[LTurningWheel$Ware;") ∈ lw_all := lw_g (lw_at lw_m1 159 rfl) rfl
theorem q243 : (Jvm.Cond.soleField "TurningWheel$Shelf" "places") ∈ lw_all := lw_g (lw_at lw_m1 160 rfl) rfl
theorem q244 : (Jvm.Cond.superclass "TurningWheel$Shelf" "java/lang/Object") ∈ lw_all := lw_g (lw_at lw_m1 161 rfl) rfl
theorem q569 : (Jvm.Cond.selects "TurningWheel$Shelf" ({ cls := "java/lang/Object", name := "getClass", desc := "()Ljava/lang/Class;" } : Jvm.MethodName) ({ cls := "java/lang/Object", name := "getClass", desc := "()Ljava/lang/Class;" } : Jvm.MethodName)) ∈ lw_all := lw_g (lw_at lw_m3 6 rfl) rfl
theorem q1259 : (Jvm.Cond.instanceMethod ({ cls := "TurningWheel$Shelf", name := "copy", desc := "()LTurningWheel$Shelf;" } : Jvm.MethodName)) ∈ lw_all := lw_g (lw_at lw_m5 216 rfl) rfl
theorem q1260 : (Jvm.Cond.selects "TurningWheel$Shelf" ({ cls := "TurningWheel$Shelf", name := "copy", desc := "()LTurningWheel$Shelf;" } : Jvm.MethodName) ({ cls := "TurningWheel$Shelf", name := "copy", desc := "()LTurningWheel$Shelf;" } : Jvm.MethodName)) ∈ lw_all := lw_g (lw_at lw_m5 217 rfl) rfl
theorem q1261 : (Jvm.Cond.code ({ cls := "TurningWheel$Shelf", name := "copy", desc := "()LTurningWheel$Shelf;" } : Jvm.MethodName) prog_27_method_7_code (2 : Nat) (Option.some (Jvm.ClassFile.FieldType.object "TurningWheel$Shelf"))) ∈ lw_all := lw_g (lw_at lw_m5 218 rfl) rfl
theorem q1262 : (Jvm.Cond.classLink "TurningWheel$Shelf" (12 : Nat) "TurningWheel$Shelf") ∈ lw_all := lw_g (lw_at lw_m5 219 rfl) rfl
theorem q1263 : (Jvm.Cond.methodLink "TurningWheel$Shelf" (34 : Nat) ({ cls := "TurningWheel$Shelf", name := "<init>", desc := "()V" } : Jvm.MethodName)) ∈ lw_all := lw_g (lw_at lw_m5 220 rfl) rfl
theorem q1264 : (Jvm.Cond.methodLink "TurningWheel$Shelf" (35 : Nat) ({ cls := "[LTurningWheel$Ware;", name := "clone", desc := "()Ljava/lang/Object;" } : Jvm.MethodName)) ∈ lw_all := lw_g (lw_at lw_m5 221 rfl) rfl
theorem q1269 : (Jvm.Cond.classLink "TurningWheel$Shelf" (36 : Nat) "[LTurningWheel$Ware;") ∈ lw_all := lw_g (lw_at lw_m5 226 rfl) rfl
theorem q1707 : (Jvm.Cond.instanceMethod ({ cls := "TurningWheel$Shelf", name := "at", desc := "(I)LTurningWheel$Ware;" } : Jvm.MethodName)) ∈ lw_all := lw_g (lw_at lw_m7 184 rfl) rfl
theorem q1708 : (Jvm.Cond.selects "TurningWheel$Shelf" ({ cls := "TurningWheel$Shelf", name := "at", desc := "(I)LTurningWheel$Ware;" } : Jvm.MethodName) ({ cls := "TurningWheel$Shelf", name := "at", desc := "(I)LTurningWheel$Ware;" } : Jvm.MethodName)) ∈ lw_all := lw_g (lw_at lw_m7 185 rfl) rfl
theorem q1709 : (Jvm.Cond.code ({ cls := "TurningWheel$Shelf", name := "at", desc := "(I)LTurningWheel$Ware;" } : Jvm.MethodName) prog_27_method_2_code (2 : Nat) (Option.some (Jvm.ClassFile.FieldType.object "TurningWheel$Ware"))) ∈ lw_all := lw_g (lw_at lw_m7 186 rfl) rfl
theorem q1711 : (Jvm.Cond.instanceMethod ({ cls := "TurningWheel$Shelf", name := "puts", desc := "(ILTurningWheel$Ware;)LTurningWheel$Ware;" } : Jvm.MethodName)) ∈ lw_all := lw_g (lw_at lw_m7 188 rfl) rfl
theorem q1712 : (Jvm.Cond.selects "TurningWheel$Shelf" ({ cls := "TurningWheel$Shelf", name := "puts", desc := "(ILTurningWheel$Ware;)LTurningWheel$Ware;" } : Jvm.MethodName) ({ cls := "TurningWheel$Shelf", name := "puts", desc := "(ILTurningWheel$Ware;)LTurningWheel$Ware;" } : Jvm.MethodName)) ∈ lw_all := lw_g (lw_at lw_m7 189 rfl) rfl
theorem q1713 : (Jvm.Cond.codeWith ({ cls := "TurningWheel$Shelf", name := "puts", desc := "(ILTurningWheel$Ware;)LTurningWheel$Ware;" } : Jvm.MethodName) prog_27_method_3_code (5 : Nat) (Option.some (Jvm.ClassFile.FieldType.object "TurningWheel$Ware")) [((7 : Nat), (14 : Nat), (17 : Nat), (17 : Nat))]) ∈ lw_all := lw_g (lw_at lw_m7 190 rfl) rfl
theorem q1714 : (Jvm.Cond.classLink "TurningWheel$Shelf" (17 : Nat) "java/lang/ArrayStoreException") ∈ lw_all := lw_g (lw_at lw_m7 191 rfl) rfl
theorem q1736 : (Jvm.Cond.classLink "TurningWheel$Shelf" (19 : Nat) "TurningWheel$Refused") ∈ lw_all := lw_g (lw_at lw_m7 213 rfl) rfl
theorem q1737 : (Jvm.Cond.methodLink "TurningWheel$Shelf" (21 : Nat) ({ cls := "TurningWheel$Ware", name := "pot", desc := "()I" } : Jvm.MethodName)) ∈ lw_all := lw_g (lw_at lw_m7 214 rfl) rfl
theorem q1743 : (Jvm.Cond.methodLink "TurningWheel$Shelf" (27 : Nat) ({ cls := "TurningWheel$Refused", name := "<init>", desc := "(II)V" } : Jvm.MethodName)) ∈ lw_all := lw_g (lw_at lw_m7 220 rfl) rfl
theorem q1746 : (Jvm.Cond.instanceMethod ({ cls := "TurningWheel$Shelf", name := "placeOf", desc := "(I)I" } : Jvm.MethodName)) ∈ lw_all := lw_g (lw_at lw_m7 223 rfl) rfl
theorem q1747 : (Jvm.Cond.selects "TurningWheel$Shelf" ({ cls := "TurningWheel$Shelf", name := "placeOf", desc := "(I)I" } : Jvm.MethodName) ({ cls := "TurningWheel$Shelf", name := "placeOf", desc := "(I)I" } : Jvm.MethodName)) ∈ lw_all := lw_g (lw_at lw_m7 224 rfl) rfl
theorem q1748 : (Jvm.Cond.code ({ cls := "TurningWheel$Shelf", name := "placeOf", desc := "(I)I" } : Jvm.MethodName) prog_27_method_6_code (3 : Nat) (Option.some Jvm.ClassFile.FieldType.int)) ∈ lw_all := lw_g (lw_at lw_m7 225 rfl) rfl
theorem q1751 : (Jvm.Cond.instanceMethod ({ cls := "TurningWheel$Shelf", name := "size", desc := "()I" } : Jvm.MethodName)) ∈ lw_all := lw_g (lw_at lw_m7 228 rfl) rfl
theorem q1752 : (Jvm.Cond.selects "TurningWheel$Shelf" ({ cls := "TurningWheel$Shelf", name := "size", desc := "()I" } : Jvm.MethodName) ({ cls := "TurningWheel$Shelf", name := "size", desc := "()I" } : Jvm.MethodName)) ∈ lw_all := lw_g (lw_at lw_m7 229 rfl) rfl
theorem q1753 : (Jvm.Cond.code ({ cls := "TurningWheel$Shelf", name := "size", desc := "()I" } : Jvm.MethodName) prog_27_method_5_code (6 : Nat) (Option.some Jvm.ClassFile.FieldType.int)) ∈ lw_all := lw_g (lw_at lw_m7 230 rfl) rfl
theorem q1754 : (Jvm.Cond.methodLinkNest "TurningWheel$Shelf" (30 : Nat) ({ cls := "TurningWheel", name := "bit", desc := "(Z)I" } : Jvm.MethodName) "TurningWheel") ∈ lw_tbl := lw_at lw_m7 231 rfl
theorem q1860 : (Jvm.Cond.instanceMethod ({ cls := "TurningWheel$Shelf", name := "clears", desc := "()V" } : Jvm.MethodName)) ∈ lw_all := lw_g (lw_at lw_m8 97 rfl) rfl
theorem q1861 : (Jvm.Cond.selects "TurningWheel$Shelf" ({ cls := "TurningWheel$Shelf", name := "clears", desc := "()V" } : Jvm.MethodName) ({ cls := "TurningWheel$Shelf", name := "clears", desc := "()V" } : Jvm.MethodName)) ∈ lw_all := lw_g (lw_at lw_m8 98 rfl) rfl
theorem q1862 : (Jvm.Cond.code ({ cls := "TurningWheel$Shelf", name := "clears", desc := "()V" } : Jvm.MethodName) prog_27_method_4_code (2 : Nat) (Option.none : Option Jvm.ClassFile.FieldType)) ∈ lw_all := lw_g (lw_at lw_m8 99 rfl) rfl
theorem q3047 : (Jvm.Cond.castable "TurningWheel$Shelf" "java/lang/Object") ∈ lw_tbl := lw_at lw_m13 84 rfl
theorem in_X2 : ∀ w ∈ wsX20, w ∈ lw_all := lw_in wsX20 [242] (by decide +kernel) (by decide +kernel)

/-! TurningWheel$Deed -/
set_option maxRecDepth 100000
def RX4 : String := "TurningWheel$Deed"
abbrev cX4_init : ByteArray := prog_17_method_1_code
def yX4_init : MethodName := ⟨RX4, "<init>", "(LTurningWheel;)V"⟩
def dkwX4_init_0 : List UInt8 := [42, 43, 181, 0, 1, 42, 183, 0, 7, 177]
abbrev dktX4_init_0 : List UInt8 := dkwX4_init_0 ++ []
theorem dksX4_init_0 : cX4_init.data.toList.drop 0 = dktX4_init_0 := by decide +kernel
theorem dX4_init_0 : decode cX4_init 0 = .ok (.aload_n 0, 1) := dk_42 (dk_at dksX4_init_0 0 rfl rfl)
theorem dX4_init_1 : decode cX4_init 1 = .ok (.aload_n 1, 1) := dk_43 (dk_at dksX4_init_0 1 rfl rfl)
theorem dX4_init_2 : decode cX4_init 2 = .ok (.putfield 1, 3) := dk_181 0 1 (dk_at dksX4_init_0 2 rfl rfl)
theorem dX4_init_5 : decode cX4_init 5 = .ok (.aload_n 0, 1) := dk_42 (dk_at dksX4_init_0 5 rfl rfl)
theorem dX4_init_6 : decode cX4_init 6 = .ok (.invokespecial 7, 3) := dk_183 0 7 (dk_at dksX4_init_0 6 rfl rfl)
theorem dX4_init_9 : decode cX4_init 9 = .ok (.return_, 1) := dk_177 (dk_at dksX4_init_0 9 rfl rfl)
abbrev cX4_done : ByteArray := prog_17_method_3_code
def yX4_done : MethodName := ⟨RX4, "done", "()I"⟩
def dkwX4_done_2 : List UInt8 := [42, 180, 0, 1, 44, 182, 0, 33, 172]
abbrev dktX4_done_2 : List UInt8 := dkwX4_done_2 ++ []
def dkwX4_done_1 : List UInt8 := [180, 0, 1, 42, 180, 0, 1, 180, 0, 15, 182, 0, 28, 42, 180, 0, 1, 43, 181, 0, 15, 28, 172, 77]
abbrev dktX4_done_1 : List UInt8 := dkwX4_done_1 ++ dktX4_done_2
def dkwX4_done_0 : List UInt8 := [187, 0, 13, 89, 42, 180, 0, 1, 180, 0, 15, 183, 0, 21, 76, 42, 43, 182, 0, 24, 61, 42]
abbrev dktX4_done_0 : List UInt8 := dkwX4_done_0 ++ dktX4_done_1
theorem dksX4_done_0 : cX4_done.data.toList.drop 0 = dktX4_done_0 := by decide +kernel
theorem dksX4_done_1 : cX4_done.data.toList.drop 22 = dktX4_done_1 := dk_seg dksX4_done_0 22 rfl rfl
theorem dksX4_done_2 : cX4_done.data.toList.drop 46 = dktX4_done_2 := dk_seg dksX4_done_1 24 rfl rfl
theorem dX4_done_0 : decode cX4_done 0 = .ok (.new 13, 3) := dk_187 0 13 (dk_at dksX4_done_0 0 rfl rfl)
theorem dX4_done_3 : decode cX4_done 3 = .ok (.dup, 1) := dk_89 (dk_at dksX4_done_0 3 rfl rfl)
theorem dX4_done_4 : decode cX4_done 4 = .ok (.aload_n 0, 1) := dk_42 (dk_at dksX4_done_0 4 rfl rfl)
theorem dX4_done_5 : decode cX4_done 5 = .ok (.getfield 1, 3) := dk_180 0 1 (dk_at dksX4_done_0 5 rfl rfl)
theorem dX4_done_8 : decode cX4_done 8 = .ok (.getfield 15, 3) := dk_180 0 15 (dk_at dksX4_done_0 8 rfl rfl)
theorem dX4_done_11 : decode cX4_done 11 = .ok (.invokespecial 21, 3) := dk_183 0 21 (dk_at dksX4_done_0 11 rfl rfl)
theorem dX4_done_14 : decode cX4_done 14 = .ok (.astore_n 1, 1) := dk_76 (dk_at dksX4_done_0 14 rfl rfl)
theorem dX4_done_15 : decode cX4_done 15 = .ok (.aload_n 0, 1) := dk_42 (dk_at dksX4_done_0 15 rfl rfl)
theorem dX4_done_16 : decode cX4_done 16 = .ok (.aload_n 1, 1) := dk_43 (dk_at dksX4_done_0 16 rfl rfl)
theorem dX4_done_17 : decode cX4_done 17 = .ok (.invokevirtual 24, 3) := dk_182 0 24 (dk_at dksX4_done_0 17 rfl rfl)
theorem dX4_done_20 : decode cX4_done 20 = .ok (.istore_n 2, 1) := dk_61 (dk_at dksX4_done_0 20 rfl rfl)
theorem dX4_done_21 : decode cX4_done 21 = .ok (.aload_n 0, 1) := dk_42 (dk_at dksX4_done_0 21 rfl rfl)
theorem dX4_done_22 : decode cX4_done 22 = .ok (.getfield 1, 3) := dk_180 0 1 (dk_at dksX4_done_1 0 rfl rfl)
theorem dX4_done_25 : decode cX4_done 25 = .ok (.aload_n 0, 1) := dk_42 (dk_at dksX4_done_1 3 rfl rfl)
theorem dX4_done_26 : decode cX4_done 26 = .ok (.getfield 1, 3) := dk_180 0 1 (dk_at dksX4_done_1 4 rfl rfl)
theorem dX4_done_29 : decode cX4_done 29 = .ok (.getfield 15, 3) := dk_180 0 15 (dk_at dksX4_done_1 7 rfl rfl)
theorem dX4_done_32 : decode cX4_done 32 = .ok (.invokevirtual 28, 3) := dk_182 0 28 (dk_at dksX4_done_1 10 rfl rfl)
theorem dX4_done_35 : decode cX4_done 35 = .ok (.aload_n 0, 1) := dk_42 (dk_at dksX4_done_1 13 rfl rfl)
theorem dX4_done_36 : decode cX4_done 36 = .ok (.getfield 1, 3) := dk_180 0 1 (dk_at dksX4_done_1 14 rfl rfl)
theorem dX4_done_39 : decode cX4_done 39 = .ok (.aload_n 1, 1) := dk_43 (dk_at dksX4_done_1 17 rfl rfl)
theorem dX4_done_40 : decode cX4_done 40 = .ok (.putfield 15, 3) := dk_181 0 15 (dk_at dksX4_done_1 18 rfl rfl)
theorem dX4_done_43 : decode cX4_done 43 = .ok (.iload_n 2, 1) := dk_28 (dk_at dksX4_done_1 21 rfl rfl)
theorem dX4_done_44 : decode cX4_done 44 = .ok (.ireturn, 1) := dk_172 (dk_at dksX4_done_1 22 rfl rfl)
theorem dX4_done_45 : decode cX4_done 45 = .ok (.astore_n 2, 1) := dk_77 (dk_at dksX4_done_1 23 rfl rfl)
theorem dX4_done_46 : decode cX4_done 46 = .ok (.aload_n 0, 1) := dk_42 (dk_at dksX4_done_2 0 rfl rfl)
theorem dX4_done_47 : decode cX4_done 47 = .ok (.getfield 1, 3) := dk_180 0 1 (dk_at dksX4_done_2 1 rfl rfl)
theorem dX4_done_50 : decode cX4_done 50 = .ok (.aload_n 2, 1) := dk_44 (dk_at dksX4_done_2 4 rfl rfl)
theorem dX4_done_51 : decode cX4_done 51 = .ok (.invokevirtual 33, 3) := dk_182 0 33 (dk_at dksX4_done_2 5 rfl rfl)
theorem dX4_done_54 : decode cX4_done 54 = .ok (.ireturn, 1) := dk_172 (dk_at dksX4_done_2 8 rfl rfl)
theorem q94 : (Jvm.Cond.initialized "TurningWheel$Deed") ∈ lw_all := lw_g (lw_at lw_m1 11 rfl) rfl
theorem q319 : (Jvm.Cond.fieldLinkNest "TurningWheel$Deed" (15 : Nat) "TurningWheel" "now" "LTurningWheel$Pottery;" "TurningWheel") ∈ lw_tbl := lw_at lw_m1 236 rfl
theorem q376 : (Jvm.Cond.instanceMethod ({ cls := "TurningWheel$Deed", name := "<init>", desc := "(LTurningWheel;)V" } : Jvm.MethodName)) ∈ lw_all := lw_g (lw_at lw_m2 53 rfl) rfl
theorem q377 : (Jvm.Cond.code ({ cls := "TurningWheel$Deed", name := "<init>", desc := "(LTurningWheel;)V" } : Jvm.MethodName) prog_17_method_1_code (2 : Nat) (Option.none : Option Jvm.ClassFile.FieldType)) ∈ lw_all := lw_g (lw_at lw_m2 54 rfl) rfl
theorem q378 : (Jvm.Cond.methodLink "TurningWheel$Deed" (7 : Nat) ({ cls := "java/lang/Object", name := "<init>", desc := "()V" } : Jvm.MethodName)) ∈ lw_all := lw_g (lw_at lw_m2 55 rfl) rfl
theorem q382 : (Jvm.Cond.fieldLink "TurningWheel$Deed" (1 : Nat) "TurningWheel$Deed" "this$0" "LTurningWheel;") ∈ lw_all := lw_g (lw_at lw_m2 59 rfl) rfl
theorem q390 : (Jvm.Cond.soleField "TurningWheel$Deed" "this$0") ∈ lw_all := lw_g (lw_at lw_m2 67 rfl) rfl
theorem q394 : (Jvm.Cond.declares ({ cls := "TurningWheel$Deed", name := "done", desc := "()I" } : Jvm.MethodName)) ∈ lw_tbl := lw_at lw_m2 71 rfl
theorem q396 : (Jvm.Cond.instanceMethod ({ cls := "TurningWheel$Deed", name := "done", desc := "()I" } : Jvm.MethodName)) ∈ lw_all := lw_g (lw_at lw_m2 73 rfl) rfl
theorem q397 : (Jvm.Cond.codeWith ({ cls := "TurningWheel$Deed", name := "done", desc := "()I" } : Jvm.MethodName) prog_17_method_3_code (3 : Nat) (Option.some Jvm.ClassFile.FieldType.int) [((15 : Nat), (44 : Nat), (45 : Nat), (31 : Nat))]) ∈ lw_all := lw_g (lw_at lw_m2 74 rfl) rfl
theorem q398 : (Jvm.Cond.classLink "TurningWheel$Deed" (31 : Nat) "TurningWheel$Refused") ∈ lw_all := lw_g (lw_at lw_m2 75 rfl) rfl
theorem q399 : (Jvm.Cond.classLink "TurningWheel$Deed" (13 : Nat) "TurningWheel$Pottery") ∈ lw_all := lw_g (lw_at lw_m2 76 rfl) rfl
theorem q400 : (Jvm.Cond.methodLink "TurningWheel$Deed" (21 : Nat) ({ cls := "TurningWheel$Pottery", name := "<init>", desc := "(LTurningWheel$Pottery;)V" } : Jvm.MethodName)) ∈ lw_all := lw_g (lw_at lw_m2 77 rfl) rfl
theorem q1270 : (Jvm.Cond.methodLink "TurningWheel$Deed" (24 : Nat) ({ cls := "TurningWheel$Deed", name := "does", desc := "(LTurningWheel$Pottery;)I" } : Jvm.MethodName)) ∈ lw_all := lw_g (lw_at lw_m5 227 rfl) rfl
theorem q1271 : (Jvm.Cond.declares ({ cls := "TurningWheel$Deed", name := "does", desc := "(LTurningWheel$Pottery;)I" } : Jvm.MethodName)) ∈ lw_tbl := lw_at lw_m5 228 rfl
theorem q1272 : (Jvm.Cond.sameMethod "TurningWheel$Deed" "TurningWheel$Deed" "does" "(LTurningWheel$Pottery;)I") ∈ lw_all := lw_g (lw_at lw_m5 229 rfl) rfl
theorem q1932 : (Jvm.Cond.methodLinkNest "TurningWheel$Deed" (28 : Nat) ({ cls := "TurningWheel", name := "keeps", desc := "(LTurningWheel$Pottery;)V" } : Jvm.MethodName) "TurningWheel") ∈ lw_tbl := lw_at lw_m8 169 rfl
theorem q1963 : (Jvm.Cond.methodLinkNest "TurningWheel$Deed" (33 : Nat) ({ cls := "TurningWheel", name := "refuses", desc := "(LTurningWheel$Refused;)I" } : Jvm.MethodName) "TurningWheel") ∈ lw_tbl := lw_at lw_m8 200 rfl

/-! TurningWheel$1 -/
set_option maxRecDepth 100000
def RX5 : String := "TurningWheel$1"
def TX5 : u_T := fun k => match k with
  | 0 => ("TurningWheel$Deed", "this$0", "LTurningWheel;", true)
  | 1 => ("TurningWheel$1", "val$what", "I", true)
  | 2 => ("TurningWheel$1", "val$value", "I", true)
  | _ => ("TurningWheel$1", "this$0", "LTurningWheel;", true)
def tyX5 : Nat → FieldType := fun k => match k with
  | 0 => .object "TurningWheel"
  | 1 => .int
  | 2 => .int
  | _ => .object "TurningWheel"
abbrev wsX50 : List Cond := u_ws RX5 TX5 4
-- two fields of one name: no nmX5
theorem tyX5_ok : ∀ k, k < 4 → parseFieldDescriptor (TX5 k).2.2.1 = some (tyX5 k) := by decide +kernel
abbrev cX5_init : ByteArray := prog_2_method_1_code
def yX5_init : MethodName := ⟨RX5, "<init>", "(LTurningWheel;II)V"⟩
def dkwX5_init_0 : List UInt8 := [42, 43, 181, 0, 1, 42, 28, 181, 0, 7, 42, 29, 181, 0, 11, 42, 43, 183, 0, 14, 177]
abbrev dktX5_init_0 : List UInt8 := dkwX5_init_0 ++ []
theorem dksX5_init_0 : cX5_init.data.toList.drop 0 = dktX5_init_0 := by decide +kernel
theorem dX5_init_0 : decode cX5_init 0 = .ok (.aload_n 0, 1) := dk_42 (dk_at dksX5_init_0 0 rfl rfl)
theorem dX5_init_1 : decode cX5_init 1 = .ok (.aload_n 1, 1) := dk_43 (dk_at dksX5_init_0 1 rfl rfl)
theorem dX5_init_2 : decode cX5_init 2 = .ok (.putfield 1, 3) := dk_181 0 1 (dk_at dksX5_init_0 2 rfl rfl)
theorem dX5_init_5 : decode cX5_init 5 = .ok (.aload_n 0, 1) := dk_42 (dk_at dksX5_init_0 5 rfl rfl)
theorem dX5_init_6 : decode cX5_init 6 = .ok (.iload_n 2, 1) := dk_28 (dk_at dksX5_init_0 6 rfl rfl)
theorem dX5_init_7 : decode cX5_init 7 = .ok (.putfield 7, 3) := dk_181 0 7 (dk_at dksX5_init_0 7 rfl rfl)
theorem dX5_init_10 : decode cX5_init 10 = .ok (.aload_n 0, 1) := dk_42 (dk_at dksX5_init_0 10 rfl rfl)
theorem dX5_init_11 : decode cX5_init 11 = .ok (.iload_n 3, 1) := dk_29 (dk_at dksX5_init_0 11 rfl rfl)
theorem dX5_init_12 : decode cX5_init 12 = .ok (.putfield 11, 3) := dk_181 0 11 (dk_at dksX5_init_0 12 rfl rfl)
theorem dX5_init_15 : decode cX5_init 15 = .ok (.aload_n 0, 1) := dk_42 (dk_at dksX5_init_0 15 rfl rfl)
theorem dX5_init_16 : decode cX5_init 16 = .ok (.aload_n 1, 1) := dk_43 (dk_at dksX5_init_0 16 rfl rfl)
theorem dX5_init_17 : decode cX5_init 17 = .ok (.invokespecial 14, 3) := dk_183 0 14 (dk_at dksX5_init_0 17 rfl rfl)
theorem dX5_init_20 : decode cX5_init 20 = .ok (.return_, 1) := dk_177 (dk_at dksX5_init_0 20 rfl rfl)
abbrev cX5_does : ByteArray := prog_2_method_2_code
def yX5_does : MethodName := ⟨RX5, "does", "(LTurningWheel$Pottery;)I"⟩
def dkwX5_does_1 : List UInt8 := [172]
abbrev dktX5_does_1 : List UInt8 := dkwX5_does_1 ++ []
def dkwX5_does_0 : List UInt8 := [43, 180, 0, 20, 42, 180, 0, 7, 46, 61, 43, 180, 0, 20, 42, 180, 0, 7, 42, 180, 0, 11, 79, 28]
abbrev dktX5_does_0 : List UInt8 := dkwX5_does_0 ++ dktX5_does_1
theorem dksX5_does_0 : cX5_does.data.toList.drop 0 = dktX5_does_0 := by decide +kernel
theorem dksX5_does_1 : cX5_does.data.toList.drop 24 = dktX5_does_1 := dk_seg dksX5_does_0 24 rfl rfl
theorem dX5_does_0 : decode cX5_does 0 = .ok (.aload_n 1, 1) := dk_43 (dk_at dksX5_does_0 0 rfl rfl)
theorem dX5_does_1 : decode cX5_does 1 = .ok (.getfield 20, 3) := dk_180 0 20 (dk_at dksX5_does_0 1 rfl rfl)
theorem dX5_does_4 : decode cX5_does 4 = .ok (.aload_n 0, 1) := dk_42 (dk_at dksX5_does_0 4 rfl rfl)
theorem dX5_does_5 : decode cX5_does 5 = .ok (.getfield 7, 3) := dk_180 0 7 (dk_at dksX5_does_0 5 rfl rfl)
theorem dX5_does_8 : decode cX5_does 8 = .ok (.iaload, 1) := dk_46 (dk_at dksX5_does_0 8 rfl rfl)
theorem dX5_does_9 : decode cX5_does 9 = .ok (.istore_n 2, 1) := dk_61 (dk_at dksX5_does_0 9 rfl rfl)
theorem dX5_does_10 : decode cX5_does 10 = .ok (.aload_n 1, 1) := dk_43 (dk_at dksX5_does_0 10 rfl rfl)
theorem dX5_does_11 : decode cX5_does 11 = .ok (.getfield 20, 3) := dk_180 0 20 (dk_at dksX5_does_0 11 rfl rfl)
theorem dX5_does_14 : decode cX5_does 14 = .ok (.aload_n 0, 1) := dk_42 (dk_at dksX5_does_0 14 rfl rfl)
theorem dX5_does_15 : decode cX5_does 15 = .ok (.getfield 7, 3) := dk_180 0 7 (dk_at dksX5_does_0 15 rfl rfl)
theorem dX5_does_18 : decode cX5_does 18 = .ok (.aload_n 0, 1) := dk_42 (dk_at dksX5_does_0 18 rfl rfl)
theorem dX5_does_19 : decode cX5_does 19 = .ok (.getfield 11, 3) := dk_180 0 11 (dk_at dksX5_does_0 19 rfl rfl)
theorem dX5_does_22 : decode cX5_does 22 = .ok (.iastore, 1) := dk_79 (dk_at dksX5_does_0 22 rfl rfl)
theorem dX5_does_23 : decode cX5_does 23 = .ok (.iload_n 2, 1) := dk_28 (dk_at dksX5_does_0 23 rfl rfl)
theorem dX5_does_24 : decode cX5_does 24 = .ok (.ireturn, 1) := dk_172 (dk_at dksX5_does_1 0 rfl rfl)
theorem q95 : (Jvm.Cond.initialized "TurningWheel$1") ∈ lw_all := lw_g (lw_at lw_m1 12 rfl) rfl
theorem q246 : (Jvm.Cond.fieldLinkNest "TurningWheel$1" (20 : Nat) "TurningWheel$Pottery" "settings" "[I" "TurningWheel") ∈ lw_tbl := lw_at lw_m1 163 rfl
theorem q371 : (Jvm.Cond.instantiable "TurningWheel$1" (4 : Nat)) ∈ lw_all := lw_g (lw_at lw_m2 48 rfl) rfl
theorem q373 : (Jvm.Cond.instanceMethod ({ cls := "TurningWheel$1", name := "<init>", desc := "(LTurningWheel;II)V" } : Jvm.MethodName)) ∈ lw_all := lw_g (lw_at lw_m2 50 rfl) rfl
theorem q374 : (Jvm.Cond.code ({ cls := "TurningWheel$1", name := "<init>", desc := "(LTurningWheel;II)V" } : Jvm.MethodName) prog_2_method_1_code (4 : Nat) (Option.none : Option Jvm.ClassFile.FieldType)) ∈ lw_all := lw_g (lw_at lw_m2 51 rfl) rfl
theorem q375 : (Jvm.Cond.methodLinkNest "TurningWheel$1" (14 : Nat) ({ cls := "TurningWheel$Deed", name := "<init>", desc := "(LTurningWheel;)V" } : Jvm.MethodName) "TurningWheel") ∈ lw_tbl := lw_at lw_m2 52 rfl
theorem q379 : (Jvm.Cond.fieldLink "TurningWheel$1" (7 : Nat) "TurningWheel$1" "val$what" "I") ∈ lw_all := lw_g (lw_at lw_m2 56 rfl) rfl
theorem q380 : (Jvm.Cond.fieldLink "TurningWheel$1" (11 : Nat) "TurningWheel$1" "val$value" "I") ∈ lw_all := lw_g (lw_at lw_m2 57 rfl) rfl
theorem q381 : (Jvm.Cond.fieldLink "TurningWheel$1" (1 : Nat) "TurningWheel$1" "this$0" "LTurningWheel;") ∈ lw_all := lw_g (lw_at lw_m2 58 rfl) rfl
theorem q383 : (Jvm.Cond.laysFinal "TurningWheel$1" "TurningWheel$1" "val$what" "I") ∈ lw_all := lw_g (lw_at lw_m2 60 rfl) rfl
theorem q384 : (Jvm.Cond.soleField "TurningWheel$1" "val$what") ∈ lw_all := lw_g (lw_at lw_m2 61 rfl) rfl
theorem q385 : (Jvm.Cond.laysFinal "TurningWheel$1" "TurningWheel$1" "val$value" "I") ∈ lw_all := lw_g (lw_at lw_m2 62 rfl) rfl
theorem q386 : (Jvm.Cond.soleField "TurningWheel$1" "val$value") ∈ lw_all := lw_g (lw_at lw_m2 63 rfl) rfl
theorem q387 : (Jvm.Cond.laysFinal "TurningWheel$1" "TurningWheel$1" "this$0" "LTurningWheel;") ∈ lw_all := lw_g (lw_at lw_m2 64 rfl) rfl
theorem q388 : (Jvm.Cond.soleField "TurningWheel$1" "this$0") ∈ lw_all := lw_g (lw_at lw_m2 65 rfl) rfl
theorem q389 : (Jvm.Cond.laysFinal "TurningWheel$1" "TurningWheel$Deed" "this$0" "LTurningWheel;") ∈ lw_all := lw_g (lw_at lw_m2 66 rfl) rfl
theorem q391 : (Jvm.Cond.superclass "TurningWheel$1" "TurningWheel$Deed") ∈ lw_all := lw_g (lw_at lw_m2 68 rfl) rfl
theorem q393 : (Jvm.Cond.sameMethod "TurningWheel$1" "TurningWheel$Deed" "done" "()I") ∈ lw_all := lw_g (lw_at lw_m2 70 rfl) rfl
theorem q395 : (Jvm.Cond.selects "TurningWheel$1" ({ cls := "TurningWheel$1", name := "done", desc := "()I" } : Jvm.MethodName) ({ cls := "TurningWheel$Deed", name := "done", desc := "()I" } : Jvm.MethodName)) ∈ lw_all := lw_g (lw_at lw_m2 72 rfl) rfl
theorem q545 : (Jvm.Cond.selects "TurningWheel$1" ({ cls := "java/lang/Object", name := "getClass", desc := "()Ljava/lang/Class;" } : Jvm.MethodName) ({ cls := "java/lang/Object", name := "getClass", desc := "()Ljava/lang/Class;" } : Jvm.MethodName)) ∈ lw_all := lw_g (lw_at lw_m2 222 rfl) rfl
theorem q1273 : (Jvm.Cond.selects "TurningWheel$1" ({ cls := "TurningWheel$Deed", name := "does", desc := "(LTurningWheel$Pottery;)I" } : Jvm.MethodName) ({ cls := "TurningWheel$1", name := "does", desc := "(LTurningWheel$Pottery;)I" } : Jvm.MethodName)) ∈ lw_all := lw_g (lw_at lw_m5 230 rfl) rfl
theorem q1274 : (Jvm.Cond.instanceMethod ({ cls := "TurningWheel$1", name := "does", desc := "(LTurningWheel$Pottery;)I" } : Jvm.MethodName)) ∈ lw_all := lw_g (lw_at lw_m5 231 rfl) rfl
theorem q1275 : (Jvm.Cond.code ({ cls := "TurningWheel$1", name := "does", desc := "(LTurningWheel$Pottery;)I" } : Jvm.MethodName) prog_2_method_2_code (3 : Nat) (Option.some Jvm.ClassFile.FieldType.int)) ∈ lw_all := lw_g (lw_at lw_m5 232 rfl) rfl
theorem q3050 : (Jvm.Cond.castable "TurningWheel$1" "java/lang/Object") ∈ lw_tbl := lw_at lw_m13 87 rfl
theorem in_X5 : ∀ w ∈ wsX50, w ∈ lw_all := lw_in wsX50 [389, 383, 385, 387] (by decide +kernel) (by decide +kernel)

/-! TurningWheel$Pot -/
set_option maxRecDepth 100000
def RX6 : String := "TurningWheel$Pot"
def TX6 : u_T := fun k => match k with
  | 0 => ("TurningWheel$Pot", "number", "I", true)
  | 1 => ("TurningWheel$Pot", "potter", "I", true)
  | 2 => ("TurningWheel$Pot", "weight", "I", true)
  | 3 => ("TurningWheel$Pot", "rim", "I", true)
  | 4 => ("TurningWheel$Pot", "state", "I", false)
  | 5 => ("TurningWheel$Pot", "cracks", "I", false)
  | 6 => ("TurningWheel$Pot", "isCovered", "Z", false)
  | 7 => ("TurningWheel$Pot", "moisture", "F", false)
  | 8 => ("TurningWheel$Pot", "ware", "LTurningWheel$Ware;", false)
  | 9 => ("TurningWheel$Pot", "order", "I", false)
  | 10 => ("TurningWheel$Pot", "dried", "[B", false)
  | _ => ("TurningWheel$Pot", "hours", "I", false)
def tyX6 : Nat → FieldType := fun k => match k with
  | 0 => .int
  | 1 => .int
  | 2 => .int
  | 3 => .int
  | 4 => .int
  | 5 => .int
  | 6 => .boolean
  | 7 => .float
  | 8 => .object "TurningWheel$Ware"
  | 9 => .int
  | 10 => .array .byte
  | _ => .int
abbrev wsX60 : List Cond := u_ws RX6 TX6 12
theorem nmX6 : ∀ a, a < 12 → ∀ b, b < 12 → a ≠ b → (TX6 a).2.1 ≠ (TX6 b).2.1 := by decide +kernel
theorem tyX6_ok : ∀ k, k < 12 → parseFieldDescriptor (TX6 k).2.2.1 = some (tyX6 k) := by decide +kernel
abbrev cX6_init : ByteArray := prog_22_method_2_code
def yX6_init : MethodName := ⟨RX6, "<init>", "(LTurningWheel$Pot;)V"⟩
def dkwX6_init_3 : List UInt8 := [180, 0, 15, 182, 0, 57, 192, 0, 58, 181, 0, 15, 42, 43, 180, 0, 62, 181, 0, 62, 177]
abbrev dktX6_init_3 : List UInt8 := dkwX6_init_3 ++ []
def dkwX6_init_2 : List UInt8 := [180, 0, 53, 181, 0, 53, 42, 43, 180, 0, 36, 181, 0, 36, 42, 43, 180, 0, 9, 181, 0, 9, 42, 43]
abbrev dktX6_init_2 : List UInt8 := dkwX6_init_2 ++ dktX6_init_3
def dkwX6_init_1 : List UInt8 := [180, 0, 43, 181, 0, 43, 42, 43, 180, 0, 46, 181, 0, 46, 42, 43, 180, 0, 49, 181, 0, 49, 42, 43]
abbrev dktX6_init_1 : List UInt8 := dkwX6_init_1 ++ dktX6_init_2
def dkwX6_init_0 : List UInt8 := [42, 43, 180, 0, 19, 43, 180, 0, 22, 43, 180, 0, 25, 43, 180, 0, 28, 183, 0, 40, 42, 43]
abbrev dktX6_init_0 : List UInt8 := dkwX6_init_0 ++ dktX6_init_1
theorem dksX6_init_0 : cX6_init.data.toList.drop 0 = dktX6_init_0 := by decide +kernel
theorem dksX6_init_1 : cX6_init.data.toList.drop 22 = dktX6_init_1 := dk_seg dksX6_init_0 22 rfl rfl
theorem dksX6_init_2 : cX6_init.data.toList.drop 46 = dktX6_init_2 := dk_seg dksX6_init_1 24 rfl rfl
theorem dksX6_init_3 : cX6_init.data.toList.drop 70 = dktX6_init_3 := dk_seg dksX6_init_2 24 rfl rfl
theorem dX6_init_0 : decode cX6_init 0 = .ok (.aload_n 0, 1) := dk_42 (dk_at dksX6_init_0 0 rfl rfl)
theorem dX6_init_1 : decode cX6_init 1 = .ok (.aload_n 1, 1) := dk_43 (dk_at dksX6_init_0 1 rfl rfl)
theorem dX6_init_2 : decode cX6_init 2 = .ok (.getfield 19, 3) := dk_180 0 19 (dk_at dksX6_init_0 2 rfl rfl)
theorem dX6_init_5 : decode cX6_init 5 = .ok (.aload_n 1, 1) := dk_43 (dk_at dksX6_init_0 5 rfl rfl)
theorem dX6_init_6 : decode cX6_init 6 = .ok (.getfield 22, 3) := dk_180 0 22 (dk_at dksX6_init_0 6 rfl rfl)
theorem dX6_init_9 : decode cX6_init 9 = .ok (.aload_n 1, 1) := dk_43 (dk_at dksX6_init_0 9 rfl rfl)
theorem dX6_init_10 : decode cX6_init 10 = .ok (.getfield 25, 3) := dk_180 0 25 (dk_at dksX6_init_0 10 rfl rfl)
theorem dX6_init_13 : decode cX6_init 13 = .ok (.aload_n 1, 1) := dk_43 (dk_at dksX6_init_0 13 rfl rfl)
theorem dX6_init_14 : decode cX6_init 14 = .ok (.getfield 28, 3) := dk_180 0 28 (dk_at dksX6_init_0 14 rfl rfl)
theorem dX6_init_17 : decode cX6_init 17 = .ok (.invokespecial 40, 3) := dk_183 0 40 (dk_at dksX6_init_0 17 rfl rfl)
theorem dX6_init_20 : decode cX6_init 20 = .ok (.aload_n 0, 1) := dk_42 (dk_at dksX6_init_0 20 rfl rfl)
theorem dX6_init_21 : decode cX6_init 21 = .ok (.aload_n 1, 1) := dk_43 (dk_at dksX6_init_0 21 rfl rfl)
theorem dX6_init_22 : decode cX6_init 22 = .ok (.getfield 43, 3) := dk_180 0 43 (dk_at dksX6_init_1 0 rfl rfl)
theorem dX6_init_25 : decode cX6_init 25 = .ok (.putfield 43, 3) := dk_181 0 43 (dk_at dksX6_init_1 3 rfl rfl)
theorem dX6_init_28 : decode cX6_init 28 = .ok (.aload_n 0, 1) := dk_42 (dk_at dksX6_init_1 6 rfl rfl)
theorem dX6_init_29 : decode cX6_init 29 = .ok (.aload_n 1, 1) := dk_43 (dk_at dksX6_init_1 7 rfl rfl)
theorem dX6_init_30 : decode cX6_init 30 = .ok (.getfield 46, 3) := dk_180 0 46 (dk_at dksX6_init_1 8 rfl rfl)
theorem dX6_init_33 : decode cX6_init 33 = .ok (.putfield 46, 3) := dk_181 0 46 (dk_at dksX6_init_1 11 rfl rfl)
theorem dX6_init_36 : decode cX6_init 36 = .ok (.aload_n 0, 1) := dk_42 (dk_at dksX6_init_1 14 rfl rfl)
theorem dX6_init_37 : decode cX6_init 37 = .ok (.aload_n 1, 1) := dk_43 (dk_at dksX6_init_1 15 rfl rfl)
theorem dX6_init_38 : decode cX6_init 38 = .ok (.getfield 49, 3) := dk_180 0 49 (dk_at dksX6_init_1 16 rfl rfl)
theorem dX6_init_41 : decode cX6_init 41 = .ok (.putfield 49, 3) := dk_181 0 49 (dk_at dksX6_init_1 19 rfl rfl)
theorem dX6_init_44 : decode cX6_init 44 = .ok (.aload_n 0, 1) := dk_42 (dk_at dksX6_init_1 22 rfl rfl)
theorem dX6_init_45 : decode cX6_init 45 = .ok (.aload_n 1, 1) := dk_43 (dk_at dksX6_init_1 23 rfl rfl)
theorem dX6_init_46 : decode cX6_init 46 = .ok (.getfield 53, 3) := dk_180 0 53 (dk_at dksX6_init_2 0 rfl rfl)
theorem dX6_init_49 : decode cX6_init 49 = .ok (.putfield 53, 3) := dk_181 0 53 (dk_at dksX6_init_2 3 rfl rfl)
theorem dX6_init_52 : decode cX6_init 52 = .ok (.aload_n 0, 1) := dk_42 (dk_at dksX6_init_2 6 rfl rfl)
theorem dX6_init_53 : decode cX6_init 53 = .ok (.aload_n 1, 1) := dk_43 (dk_at dksX6_init_2 7 rfl rfl)
theorem dX6_init_54 : decode cX6_init 54 = .ok (.getfield 36, 3) := dk_180 0 36 (dk_at dksX6_init_2 8 rfl rfl)
theorem dX6_init_57 : decode cX6_init 57 = .ok (.putfield 36, 3) := dk_181 0 36 (dk_at dksX6_init_2 11 rfl rfl)
theorem dX6_init_60 : decode cX6_init 60 = .ok (.aload_n 0, 1) := dk_42 (dk_at dksX6_init_2 14 rfl rfl)
theorem dX6_init_61 : decode cX6_init 61 = .ok (.aload_n 1, 1) := dk_43 (dk_at dksX6_init_2 15 rfl rfl)
theorem dX6_init_62 : decode cX6_init 62 = .ok (.getfield 9, 3) := dk_180 0 9 (dk_at dksX6_init_2 16 rfl rfl)
theorem dX6_init_65 : decode cX6_init 65 = .ok (.putfield 9, 3) := dk_181 0 9 (dk_at dksX6_init_2 19 rfl rfl)
theorem dX6_init_68 : decode cX6_init 68 = .ok (.aload_n 0, 1) := dk_42 (dk_at dksX6_init_2 22 rfl rfl)
theorem dX6_init_69 : decode cX6_init 69 = .ok (.aload_n 1, 1) := dk_43 (dk_at dksX6_init_2 23 rfl rfl)
theorem dX6_init_70 : decode cX6_init 70 = .ok (.getfield 15, 3) := dk_180 0 15 (dk_at dksX6_init_3 0 rfl rfl)
theorem dX6_init_73 : decode cX6_init 73 = .ok (.invokevirtual 57, 3) := dk_182 0 57 (dk_at dksX6_init_3 3 rfl rfl)
theorem dX6_init_76 : decode cX6_init 76 = .ok (.checkcast 58, 3) := dk_192 0 58 (dk_at dksX6_init_3 6 rfl rfl)
theorem dX6_init_79 : decode cX6_init 79 = .ok (.putfield 15, 3) := dk_181 0 15 (dk_at dksX6_init_3 9 rfl rfl)
theorem dX6_init_82 : decode cX6_init 82 = .ok (.aload_n 0, 1) := dk_42 (dk_at dksX6_init_3 12 rfl rfl)
theorem dX6_init_83 : decode cX6_init 83 = .ok (.aload_n 1, 1) := dk_43 (dk_at dksX6_init_3 13 rfl rfl)
theorem dX6_init_84 : decode cX6_init 84 = .ok (.getfield 62, 3) := dk_180 0 62 (dk_at dksX6_init_3 14 rfl rfl)
theorem dX6_init_87 : decode cX6_init 87 = .ok (.putfield 62, 3) := dk_181 0 62 (dk_at dksX6_init_3 17 rfl rfl)
theorem dX6_init_90 : decode cX6_init 90 = .ok (.return_, 1) := dk_177 (dk_at dksX6_init_3 20 rfl rfl)
abbrev cX6_init_2 : ByteArray := prog_22_method_1_code
def yX6_init_2 : MethodName := ⟨RX6, "<init>", "(IIII)V"⟩
def dkwX6_init_2_2 : List UInt8 := [181, 0, 36, 177]
abbrev dktX6_init_2_2 : List UInt8 := dkwX6_init_2_2 ++ []
def dkwX6_init_2_1 : List UInt8 := [181, 0, 22, 42, 29, 181, 0, 25, 42, 21, 4, 181, 0, 28, 42, 187, 0, 31, 89, 27, 183, 0, 33]
abbrev dktX6_init_2_1 : List UInt8 := dkwX6_init_2_1 ++ dktX6_init_2_2
def dkwX6_init_2_0 : List UInt8 := [42, 183, 0, 3, 42, 2, 181, 0, 9, 42, 3, 188, 8, 181, 0, 15, 42, 27, 181, 0, 19, 42, 28]
abbrev dktX6_init_2_0 : List UInt8 := dkwX6_init_2_0 ++ dktX6_init_2_1
theorem dksX6_init_2_0 : cX6_init_2.data.toList.drop 0 = dktX6_init_2_0 := by decide +kernel
theorem dksX6_init_2_1 : cX6_init_2.data.toList.drop 23 = dktX6_init_2_1 := dk_seg dksX6_init_2_0 23 rfl rfl
theorem dksX6_init_2_2 : cX6_init_2.data.toList.drop 46 = dktX6_init_2_2 := dk_seg dksX6_init_2_1 23 rfl rfl
theorem dX6_init_2_0 : decode cX6_init_2 0 = .ok (.aload_n 0, 1) := dk_42 (dk_at dksX6_init_2_0 0 rfl rfl)
theorem dX6_init_2_1 : decode cX6_init_2 1 = .ok (.invokespecial 3, 3) := dk_183 0 3 (dk_at dksX6_init_2_0 1 rfl rfl)
theorem dX6_init_2_4 : decode cX6_init_2 4 = .ok (.aload_n 0, 1) := dk_42 (dk_at dksX6_init_2_0 4 rfl rfl)
theorem dX6_init_2_5 : decode cX6_init_2 5 = .ok (.iconst (-1), 1) := dk_2 (dk_at dksX6_init_2_0 5 rfl rfl)
theorem dX6_init_2_6 : decode cX6_init_2 6 = .ok (.putfield 9, 3) := dk_181 0 9 (dk_at dksX6_init_2_0 6 rfl rfl)
theorem dX6_init_2_9 : decode cX6_init_2 9 = .ok (.aload_n 0, 1) := dk_42 (dk_at dksX6_init_2_0 9 rfl rfl)
theorem dX6_init_2_10 : decode cX6_init_2 10 = .ok (.iconst 0, 1) := dk_3 (dk_at dksX6_init_2_0 10 rfl rfl)
theorem dX6_init_2_11 : decode cX6_init_2 11 = .ok (.newarray .byte, 2) := dk_188_8 (dk_at dksX6_init_2_0 11 rfl rfl)
theorem dX6_init_2_13 : decode cX6_init_2 13 = .ok (.putfield 15, 3) := dk_181 0 15 (dk_at dksX6_init_2_0 13 rfl rfl)
theorem dX6_init_2_16 : decode cX6_init_2 16 = .ok (.aload_n 0, 1) := dk_42 (dk_at dksX6_init_2_0 16 rfl rfl)
theorem dX6_init_2_17 : decode cX6_init_2 17 = .ok (.iload_n 1, 1) := dk_27 (dk_at dksX6_init_2_0 17 rfl rfl)
theorem dX6_init_2_18 : decode cX6_init_2 18 = .ok (.putfield 19, 3) := dk_181 0 19 (dk_at dksX6_init_2_0 18 rfl rfl)
theorem dX6_init_2_21 : decode cX6_init_2 21 = .ok (.aload_n 0, 1) := dk_42 (dk_at dksX6_init_2_0 21 rfl rfl)
theorem dX6_init_2_22 : decode cX6_init_2 22 = .ok (.iload_n 2, 1) := dk_28 (dk_at dksX6_init_2_0 22 rfl rfl)
theorem dX6_init_2_23 : decode cX6_init_2 23 = .ok (.putfield 22, 3) := dk_181 0 22 (dk_at dksX6_init_2_1 0 rfl rfl)
theorem dX6_init_2_26 : decode cX6_init_2 26 = .ok (.aload_n 0, 1) := dk_42 (dk_at dksX6_init_2_1 3 rfl rfl)
theorem dX6_init_2_27 : decode cX6_init_2 27 = .ok (.iload_n 3, 1) := dk_29 (dk_at dksX6_init_2_1 4 rfl rfl)
theorem dX6_init_2_28 : decode cX6_init_2 28 = .ok (.putfield 25, 3) := dk_181 0 25 (dk_at dksX6_init_2_1 5 rfl rfl)
theorem dX6_init_2_31 : decode cX6_init_2 31 = .ok (.aload_n 0, 1) := dk_42 (dk_at dksX6_init_2_1 8 rfl rfl)
theorem dX6_init_2_32 : decode cX6_init_2 32 = .ok (.iload 4, 2) := dk_21 4 (dk_at dksX6_init_2_1 9 rfl rfl)
theorem dX6_init_2_34 : decode cX6_init_2 34 = .ok (.putfield 28, 3) := dk_181 0 28 (dk_at dksX6_init_2_1 11 rfl rfl)
theorem dX6_init_2_37 : decode cX6_init_2 37 = .ok (.aload_n 0, 1) := dk_42 (dk_at dksX6_init_2_1 14 rfl rfl)
theorem dX6_init_2_38 : decode cX6_init_2 38 = .ok (.new 31, 3) := dk_187 0 31 (dk_at dksX6_init_2_1 15 rfl rfl)
theorem dX6_init_2_41 : decode cX6_init_2 41 = .ok (.dup, 1) := dk_89 (dk_at dksX6_init_2_1 18 rfl rfl)
theorem dX6_init_2_42 : decode cX6_init_2 42 = .ok (.iload_n 1, 1) := dk_27 (dk_at dksX6_init_2_1 19 rfl rfl)
theorem dX6_init_2_43 : decode cX6_init_2 43 = .ok (.invokespecial 33, 3) := dk_183 0 33 (dk_at dksX6_init_2_1 20 rfl rfl)
theorem dX6_init_2_46 : decode cX6_init_2 46 = .ok (.putfield 36, 3) := dk_181 0 36 (dk_at dksX6_init_2_2 0 rfl rfl)
theorem dX6_init_2_49 : decode cX6_init_2 49 = .ok (.return_, 1) := dk_177 (dk_at dksX6_init_2_2 3 rfl rfl)
abbrev cX6_dries : ByteArray := prog_22_method_8_code
def yX6_dries : MethodName := ⟨RX6, "dries", "(II)V"⟩
def dkwX6_dries_4 : List UInt8 := [42, 180, 0, 53, 18, 87, 150, 156, 0, 8, 42, 6, 181, 0, 43, 177]
abbrev dktX6_dries_4 : List UInt8 := dkwX6_dries_4 ++ []
def dkwX6_dries_3 : List UInt8 := [184, 0, 83, 96, 181, 0, 46, 42, 180, 0, 46, 6, 160, 0, 12, 42, 16, 7, 181, 0, 43, 167, 0, 18]
abbrev dktX6_dries_3 : List UInt8 := dkwX6_dries_3 ++ dktX6_dries_4
def dkwX6_dries_2 : List UInt8 := [23, 4, 18, 69, 106, 139, 28, 16, 10, 42, 180, 0, 28, 104, 96, 164, 0, 7, 4, 167, 0, 4, 3]
abbrev dktX6_dries_2 : List UInt8 := dkwX6_dries_2 ++ dktX6_dries_3
def dkwX6_dries_1 : List UInt8 := [56, 4, 42, 89, 180, 0, 53, 23, 4, 102, 181, 0, 53, 42, 29, 182, 0, 80, 42, 89, 180, 0, 46]
abbrev dktX6_dries_1 : List UInt8 := dkwX6_dries_1 ++ dktX6_dries_2
def dkwX6_dries_0 : List UInt8 := [42, 180, 0, 49, 153, 0, 9, 27, 5, 108, 167, 0, 4, 27, 62, 42, 42, 180, 0, 53, 29, 182, 0, 76]
abbrev dktX6_dries_0 : List UInt8 := dkwX6_dries_0 ++ dktX6_dries_1
theorem dksX6_dries_0 : cX6_dries.data.toList.drop 0 = dktX6_dries_0 := by decide +kernel
theorem dksX6_dries_1 : cX6_dries.data.toList.drop 24 = dktX6_dries_1 := dk_seg dksX6_dries_0 24 rfl rfl
theorem dksX6_dries_2 : cX6_dries.data.toList.drop 47 = dktX6_dries_2 := dk_seg dksX6_dries_1 23 rfl rfl
theorem dksX6_dries_3 : cX6_dries.data.toList.drop 70 = dktX6_dries_3 := dk_seg dksX6_dries_2 23 rfl rfl
theorem dksX6_dries_4 : cX6_dries.data.toList.drop 94 = dktX6_dries_4 := dk_seg dksX6_dries_3 24 rfl rfl
theorem dX6_dries_0 : decode cX6_dries 0 = .ok (.aload_n 0, 1) := dk_42 (dk_at dksX6_dries_0 0 rfl rfl)
theorem dX6_dries_1 : decode cX6_dries 1 = .ok (.getfield 49, 3) := dk_180 0 49 (dk_at dksX6_dries_0 1 rfl rfl)
theorem dX6_dries_4 : decode cX6_dries 4 = .ok (.ifCond .eq 9, 3) := dk_153 0 9 (dk_at dksX6_dries_0 4 rfl rfl)
theorem dX6_dries_7 : decode cX6_dries 7 = .ok (.iload_n 1, 1) := dk_27 (dk_at dksX6_dries_0 7 rfl rfl)
theorem dX6_dries_8 : decode cX6_dries 8 = .ok (.iconst 2, 1) := dk_5 (dk_at dksX6_dries_0 8 rfl rfl)
theorem dX6_dries_9 : decode cX6_dries 9 = .ok (.idiv, 1) := dk_108 (dk_at dksX6_dries_0 9 rfl rfl)
theorem dX6_dries_10 : decode cX6_dries 10 = .ok (.goto 4, 3) := dk_167 0 4 (dk_at dksX6_dries_0 10 rfl rfl)
theorem dX6_dries_13 : decode cX6_dries 13 = .ok (.iload_n 1, 1) := dk_27 (dk_at dksX6_dries_0 13 rfl rfl)
theorem dX6_dries_14 : decode cX6_dries 14 = .ok (.istore_n 3, 1) := dk_62 (dk_at dksX6_dries_0 14 rfl rfl)
theorem dX6_dries_15 : decode cX6_dries 15 = .ok (.aload_n 0, 1) := dk_42 (dk_at dksX6_dries_0 15 rfl rfl)
theorem dX6_dries_16 : decode cX6_dries 16 = .ok (.aload_n 0, 1) := dk_42 (dk_at dksX6_dries_0 16 rfl rfl)
theorem dX6_dries_17 : decode cX6_dries 17 = .ok (.getfield 53, 3) := dk_180 0 53 (dk_at dksX6_dries_0 17 rfl rfl)
theorem dX6_dries_20 : decode cX6_dries 20 = .ok (.iload_n 3, 1) := dk_29 (dk_at dksX6_dries_0 20 rfl rfl)
theorem dX6_dries_21 : decode cX6_dries 21 = .ok (.invokevirtual 76, 3) := dk_182 0 76 (dk_at dksX6_dries_0 21 rfl rfl)
theorem dX6_dries_24 : decode cX6_dries 24 = .ok (.fstore 4, 2) := dk_56 4 (dk_at dksX6_dries_1 0 rfl rfl)
theorem dX6_dries_26 : decode cX6_dries 26 = .ok (.aload_n 0, 1) := dk_42 (dk_at dksX6_dries_1 2 rfl rfl)
theorem dX6_dries_27 : decode cX6_dries 27 = .ok (.dup, 1) := dk_89 (dk_at dksX6_dries_1 3 rfl rfl)
theorem dX6_dries_28 : decode cX6_dries 28 = .ok (.getfield 53, 3) := dk_180 0 53 (dk_at dksX6_dries_1 4 rfl rfl)
theorem dX6_dries_31 : decode cX6_dries 31 = .ok (.fload 4, 2) := dk_23 4 (dk_at dksX6_dries_1 7 rfl rfl)
theorem dX6_dries_33 : decode cX6_dries 33 = .ok (.fsub, 1) := dk_102 (dk_at dksX6_dries_1 9 rfl rfl)
theorem dX6_dries_34 : decode cX6_dries 34 = .ok (.putfield 53, 3) := dk_181 0 53 (dk_at dksX6_dries_1 10 rfl rfl)
theorem dX6_dries_37 : decode cX6_dries 37 = .ok (.aload_n 0, 1) := dk_42 (dk_at dksX6_dries_1 13 rfl rfl)
theorem dX6_dries_38 : decode cX6_dries 38 = .ok (.iload_n 3, 1) := dk_29 (dk_at dksX6_dries_1 14 rfl rfl)
theorem dX6_dries_39 : decode cX6_dries 39 = .ok (.invokevirtual 80, 3) := dk_182 0 80 (dk_at dksX6_dries_1 15 rfl rfl)
theorem dX6_dries_42 : decode cX6_dries 42 = .ok (.aload_n 0, 1) := dk_42 (dk_at dksX6_dries_1 18 rfl rfl)
theorem dX6_dries_43 : decode cX6_dries 43 = .ok (.dup, 1) := dk_89 (dk_at dksX6_dries_1 19 rfl rfl)
theorem dX6_dries_44 : decode cX6_dries 44 = .ok (.getfield 46, 3) := dk_180 0 46 (dk_at dksX6_dries_1 20 rfl rfl)
theorem dX6_dries_47 : decode cX6_dries 47 = .ok (.fload 4, 2) := dk_23 4 (dk_at dksX6_dries_2 0 rfl rfl)
theorem dX6_dries_49 : decode cX6_dries 49 = .ok (.ldc 69, 2) := dk_18 69 (dk_at dksX6_dries_2 2 rfl rfl)
theorem dX6_dries_51 : decode cX6_dries 51 = .ok (.fmul, 1) := dk_106 (dk_at dksX6_dries_2 4 rfl rfl)
theorem dX6_dries_52 : decode cX6_dries 52 = .ok (.f2i, 1) := dk_139 (dk_at dksX6_dries_2 5 rfl rfl)
theorem dX6_dries_53 : decode cX6_dries 53 = .ok (.iload_n 2, 1) := dk_28 (dk_at dksX6_dries_2 6 rfl rfl)
theorem dX6_dries_54 : decode cX6_dries 54 = .ok (.bipush 10, 2) := dk_16 10 (dk_at dksX6_dries_2 7 rfl rfl)
theorem dX6_dries_56 : decode cX6_dries 56 = .ok (.aload_n 0, 1) := dk_42 (dk_at dksX6_dries_2 9 rfl rfl)
theorem dX6_dries_57 : decode cX6_dries 57 = .ok (.getfield 28, 3) := dk_180 0 28 (dk_at dksX6_dries_2 10 rfl rfl)
theorem dX6_dries_60 : decode cX6_dries 60 = .ok (.imul, 1) := dk_104 (dk_at dksX6_dries_2 13 rfl rfl)
theorem dX6_dries_61 : decode cX6_dries 61 = .ok (.iadd, 1) := dk_96 (dk_at dksX6_dries_2 14 rfl rfl)
theorem dX6_dries_62 : decode cX6_dries 62 = .ok (.if_icmp .le 7, 3) := dk_164 0 7 (dk_at dksX6_dries_2 15 rfl rfl)
theorem dX6_dries_65 : decode cX6_dries 65 = .ok (.iconst 1, 1) := dk_4 (dk_at dksX6_dries_2 18 rfl rfl)
theorem dX6_dries_66 : decode cX6_dries 66 = .ok (.goto 4, 3) := dk_167 0 4 (dk_at dksX6_dries_2 19 rfl rfl)
theorem dX6_dries_69 : decode cX6_dries 69 = .ok (.iconst 0, 1) := dk_3 (dk_at dksX6_dries_2 22 rfl rfl)
theorem dX6_dries_70 : decode cX6_dries 70 = .ok (.invokestatic 83, 3) := dk_184 0 83 (dk_at dksX6_dries_3 0 rfl rfl)
theorem dX6_dries_73 : decode cX6_dries 73 = .ok (.iadd, 1) := dk_96 (dk_at dksX6_dries_3 3 rfl rfl)
theorem dX6_dries_74 : decode cX6_dries 74 = .ok (.putfield 46, 3) := dk_181 0 46 (dk_at dksX6_dries_3 4 rfl rfl)
theorem dX6_dries_77 : decode cX6_dries 77 = .ok (.aload_n 0, 1) := dk_42 (dk_at dksX6_dries_3 7 rfl rfl)
theorem dX6_dries_78 : decode cX6_dries 78 = .ok (.getfield 46, 3) := dk_180 0 46 (dk_at dksX6_dries_3 8 rfl rfl)
theorem dX6_dries_81 : decode cX6_dries 81 = .ok (.iconst 3, 1) := dk_6 (dk_at dksX6_dries_3 11 rfl rfl)
theorem dX6_dries_82 : decode cX6_dries 82 = .ok (.if_icmp .ne 12, 3) := dk_160 0 12 (dk_at dksX6_dries_3 12 rfl rfl)
theorem dX6_dries_85 : decode cX6_dries 85 = .ok (.aload_n 0, 1) := dk_42 (dk_at dksX6_dries_3 15 rfl rfl)
theorem dX6_dries_86 : decode cX6_dries 86 = .ok (.bipush 7, 2) := dk_16 7 (dk_at dksX6_dries_3 16 rfl rfl)
theorem dX6_dries_88 : decode cX6_dries 88 = .ok (.putfield 43, 3) := dk_181 0 43 (dk_at dksX6_dries_3 18 rfl rfl)
theorem dX6_dries_91 : decode cX6_dries 91 = .ok (.goto 18, 3) := dk_167 0 18 (dk_at dksX6_dries_3 21 rfl rfl)
theorem dX6_dries_94 : decode cX6_dries 94 = .ok (.aload_n 0, 1) := dk_42 (dk_at dksX6_dries_4 0 rfl rfl)
theorem dX6_dries_95 : decode cX6_dries 95 = .ok (.getfield 53, 3) := dk_180 0 53 (dk_at dksX6_dries_4 1 rfl rfl)
theorem dX6_dries_98 : decode cX6_dries 98 = .ok (.ldc 87, 2) := dk_18 87 (dk_at dksX6_dries_4 4 rfl rfl)
theorem dX6_dries_100 : decode cX6_dries 100 = .ok (.fcmp .g, 1) := dk_150 (dk_at dksX6_dries_4 6 rfl rfl)
theorem dX6_dries_101 : decode cX6_dries 101 = .ok (.ifCond .ge 8, 3) := dk_156 0 8 (dk_at dksX6_dries_4 7 rfl rfl)
theorem dX6_dries_104 : decode cX6_dries 104 = .ok (.aload_n 0, 1) := dk_42 (dk_at dksX6_dries_4 10 rfl rfl)
theorem dX6_dries_105 : decode cX6_dries 105 = .ok (.iconst 3, 1) := dk_6 (dk_at dksX6_dries_4 11 rfl rfl)
theorem dX6_dries_106 : decode cX6_dries 106 = .ok (.putfield 43, 3) := dk_181 0 43 (dk_at dksX6_dries_4 12 rfl rfl)
theorem dX6_dries_109 : decode cX6_dries 109 = .ok (.return_, 1) := dk_177 (dk_at dksX6_dries_4 15 rfl rfl)
abbrev cX6_lossOf : ByteArray := prog_22_method_6_code
def yX6_lossOf : MethodName := ⟨RX6, "lossOf", "(FI)F"⟩
def dkwX6_lossOf_0 : List UInt8 := [35, 28, 16, 11, 42, 180, 0, 28, 100, 104, 134, 106, 18, 69, 110, 174]
abbrev dktX6_lossOf_0 : List UInt8 := dkwX6_lossOf_0 ++ []
theorem dksX6_lossOf_0 : cX6_lossOf.data.toList.drop 0 = dktX6_lossOf_0 := by decide +kernel
theorem dX6_lossOf_0 : decode cX6_lossOf 0 = .ok (.fload_n 1, 1) := dk_35 (dk_at dksX6_lossOf_0 0 rfl rfl)
theorem dX6_lossOf_1 : decode cX6_lossOf 1 = .ok (.iload_n 2, 1) := dk_28 (dk_at dksX6_lossOf_0 1 rfl rfl)
theorem dX6_lossOf_2 : decode cX6_lossOf 2 = .ok (.bipush 11, 2) := dk_16 11 (dk_at dksX6_lossOf_0 2 rfl rfl)
theorem dX6_lossOf_4 : decode cX6_lossOf 4 = .ok (.aload_n 0, 1) := dk_42 (dk_at dksX6_lossOf_0 4 rfl rfl)
theorem dX6_lossOf_5 : decode cX6_lossOf 5 = .ok (.getfield 28, 3) := dk_180 0 28 (dk_at dksX6_lossOf_0 5 rfl rfl)
theorem dX6_lossOf_8 : decode cX6_lossOf 8 = .ok (.isub, 1) := dk_100 (dk_at dksX6_lossOf_0 8 rfl rfl)
theorem dX6_lossOf_9 : decode cX6_lossOf 9 = .ok (.imul, 1) := dk_104 (dk_at dksX6_lossOf_0 9 rfl rfl)
theorem dX6_lossOf_10 : decode cX6_lossOf 10 = .ok (.i2f, 1) := dk_134 (dk_at dksX6_lossOf_0 10 rfl rfl)
theorem dX6_lossOf_11 : decode cX6_lossOf 11 = .ok (.fmul, 1) := dk_106 (dk_at dksX6_lossOf_0 11 rfl rfl)
theorem dX6_lossOf_12 : decode cX6_lossOf 12 = .ok (.ldc 69, 2) := dk_18 69 (dk_at dksX6_lossOf_0 12 rfl rfl)
theorem dX6_lossOf_14 : decode cX6_lossOf 14 = .ok (.fdiv, 1) := dk_110 (dk_at dksX6_lossOf_0 14 rfl rfl)
theorem dX6_lossOf_15 : decode cX6_lossOf 15 = .ok (.freturn, 1) := dk_174 (dk_at dksX6_lossOf_0 15 rfl rfl)
abbrev cX6_keeps : ByteArray := prog_22_method_7_code
def yX6_keeps : MethodName := ⟨RX6, "keeps", "(I)V"⟩
def dkwX6_keeps_2 : List UInt8 := [180, 0, 62, 27, 145, 84, 42, 89, 180, 0, 62, 4, 96, 181, 0, 62, 177]
abbrev dktX6_keeps_2 : List UInt8 := dkwX6_keeps_2 ++ []
def dkwX6_keeps_1 : List UInt8 := [42, 180, 0, 15, 3, 44, 3, 42, 180, 0, 62, 184, 0, 70, 42, 44, 181, 0, 15, 42, 180, 0, 15, 42]
abbrev dktX6_keeps_1 : List UInt8 := dkwX6_keeps_1 ++ dktX6_keeps_2
def dkwX6_keeps_0 : List UInt8 := [42, 180, 0, 62, 42, 180, 0, 15, 190, 160, 0, 34, 5, 42, 180, 0, 62, 104, 16, 8, 96, 188, 8, 77]
abbrev dktX6_keeps_0 : List UInt8 := dkwX6_keeps_0 ++ dktX6_keeps_1
theorem dksX6_keeps_0 : cX6_keeps.data.toList.drop 0 = dktX6_keeps_0 := by decide +kernel
theorem dksX6_keeps_1 : cX6_keeps.data.toList.drop 24 = dktX6_keeps_1 := dk_seg dksX6_keeps_0 24 rfl rfl
theorem dksX6_keeps_2 : cX6_keeps.data.toList.drop 48 = dktX6_keeps_2 := dk_seg dksX6_keeps_1 24 rfl rfl
theorem dX6_keeps_0 : decode cX6_keeps 0 = .ok (.aload_n 0, 1) := dk_42 (dk_at dksX6_keeps_0 0 rfl rfl)
theorem dX6_keeps_1 : decode cX6_keeps 1 = .ok (.getfield 62, 3) := dk_180 0 62 (dk_at dksX6_keeps_0 1 rfl rfl)
theorem dX6_keeps_4 : decode cX6_keeps 4 = .ok (.aload_n 0, 1) := dk_42 (dk_at dksX6_keeps_0 4 rfl rfl)
theorem dX6_keeps_5 : decode cX6_keeps 5 = .ok (.getfield 15, 3) := dk_180 0 15 (dk_at dksX6_keeps_0 5 rfl rfl)
theorem dX6_keeps_8 : decode cX6_keeps 8 = .ok (.arraylength, 1) := dk_190 (dk_at dksX6_keeps_0 8 rfl rfl)
theorem dX6_keeps_9 : decode cX6_keeps 9 = .ok (.if_icmp .ne 34, 3) := dk_160 0 34 (dk_at dksX6_keeps_0 9 rfl rfl)
theorem dX6_keeps_12 : decode cX6_keeps 12 = .ok (.iconst 2, 1) := dk_5 (dk_at dksX6_keeps_0 12 rfl rfl)
theorem dX6_keeps_13 : decode cX6_keeps 13 = .ok (.aload_n 0, 1) := dk_42 (dk_at dksX6_keeps_0 13 rfl rfl)
theorem dX6_keeps_14 : decode cX6_keeps 14 = .ok (.getfield 62, 3) := dk_180 0 62 (dk_at dksX6_keeps_0 14 rfl rfl)
theorem dX6_keeps_17 : decode cX6_keeps 17 = .ok (.imul, 1) := dk_104 (dk_at dksX6_keeps_0 17 rfl rfl)
theorem dX6_keeps_18 : decode cX6_keeps 18 = .ok (.bipush 8, 2) := dk_16 8 (dk_at dksX6_keeps_0 18 rfl rfl)
theorem dX6_keeps_20 : decode cX6_keeps 20 = .ok (.iadd, 1) := dk_96 (dk_at dksX6_keeps_0 20 rfl rfl)
theorem dX6_keeps_21 : decode cX6_keeps 21 = .ok (.newarray .byte, 2) := dk_188_8 (dk_at dksX6_keeps_0 21 rfl rfl)
theorem dX6_keeps_23 : decode cX6_keeps 23 = .ok (.astore_n 2, 1) := dk_77 (dk_at dksX6_keeps_0 23 rfl rfl)
theorem dX6_keeps_24 : decode cX6_keeps 24 = .ok (.aload_n 0, 1) := dk_42 (dk_at dksX6_keeps_1 0 rfl rfl)
theorem dX6_keeps_25 : decode cX6_keeps 25 = .ok (.getfield 15, 3) := dk_180 0 15 (dk_at dksX6_keeps_1 1 rfl rfl)
theorem dX6_keeps_28 : decode cX6_keeps 28 = .ok (.iconst 0, 1) := dk_3 (dk_at dksX6_keeps_1 4 rfl rfl)
theorem dX6_keeps_29 : decode cX6_keeps 29 = .ok (.aload_n 2, 1) := dk_44 (dk_at dksX6_keeps_1 5 rfl rfl)
theorem dX6_keeps_30 : decode cX6_keeps 30 = .ok (.iconst 0, 1) := dk_3 (dk_at dksX6_keeps_1 6 rfl rfl)
theorem dX6_keeps_31 : decode cX6_keeps 31 = .ok (.aload_n 0, 1) := dk_42 (dk_at dksX6_keeps_1 7 rfl rfl)
theorem dX6_keeps_32 : decode cX6_keeps 32 = .ok (.getfield 62, 3) := dk_180 0 62 (dk_at dksX6_keeps_1 8 rfl rfl)
theorem dX6_keeps_35 : decode cX6_keeps 35 = .ok (.invokestatic 70, 3) := dk_184 0 70 (dk_at dksX6_keeps_1 11 rfl rfl)
theorem dX6_keeps_38 : decode cX6_keeps 38 = .ok (.aload_n 0, 1) := dk_42 (dk_at dksX6_keeps_1 14 rfl rfl)
theorem dX6_keeps_39 : decode cX6_keeps 39 = .ok (.aload_n 2, 1) := dk_44 (dk_at dksX6_keeps_1 15 rfl rfl)
theorem dX6_keeps_40 : decode cX6_keeps 40 = .ok (.putfield 15, 3) := dk_181 0 15 (dk_at dksX6_keeps_1 16 rfl rfl)
theorem dX6_keeps_43 : decode cX6_keeps 43 = .ok (.aload_n 0, 1) := dk_42 (dk_at dksX6_keeps_1 19 rfl rfl)
theorem dX6_keeps_44 : decode cX6_keeps 44 = .ok (.getfield 15, 3) := dk_180 0 15 (dk_at dksX6_keeps_1 20 rfl rfl)
theorem dX6_keeps_47 : decode cX6_keeps 47 = .ok (.aload_n 0, 1) := dk_42 (dk_at dksX6_keeps_1 23 rfl rfl)
theorem dX6_keeps_48 : decode cX6_keeps 48 = .ok (.getfield 62, 3) := dk_180 0 62 (dk_at dksX6_keeps_2 0 rfl rfl)
theorem dX6_keeps_51 : decode cX6_keeps 51 = .ok (.iload_n 1, 1) := dk_27 (dk_at dksX6_keeps_2 3 rfl rfl)
theorem dX6_keeps_52 : decode cX6_keeps 52 = .ok (.i2b, 1) := dk_145 (dk_at dksX6_keeps_2 4 rfl rfl)
theorem dX6_keeps_53 : decode cX6_keeps 53 = .ok (.bastore, 1) := dk_84 (dk_at dksX6_keeps_2 5 rfl rfl)
theorem dX6_keeps_54 : decode cX6_keeps 54 = .ok (.aload_n 0, 1) := dk_42 (dk_at dksX6_keeps_2 6 rfl rfl)
theorem dX6_keeps_55 : decode cX6_keeps 55 = .ok (.dup, 1) := dk_89 (dk_at dksX6_keeps_2 7 rfl rfl)
theorem dX6_keeps_56 : decode cX6_keeps 56 = .ok (.getfield 62, 3) := dk_180 0 62 (dk_at dksX6_keeps_2 8 rfl rfl)
theorem dX6_keeps_59 : decode cX6_keeps 59 = .ok (.iconst 1, 1) := dk_4 (dk_at dksX6_keeps_2 11 rfl rfl)
theorem dX6_keeps_60 : decode cX6_keeps 60 = .ok (.iadd, 1) := dk_96 (dk_at dksX6_keeps_2 12 rfl rfl)
theorem dX6_keeps_61 : decode cX6_keeps 61 = .ok (.putfield 62, 3) := dk_181 0 62 (dk_at dksX6_keeps_2 13 rfl rfl)
theorem dX6_keeps_64 : decode cX6_keeps 64 = .ok (.return_, 1) := dk_177 (dk_at dksX6_keeps_2 16 rfl rfl)
abbrev cX6_comesOff : ByteArray := prog_22_method_5_code
def yX6_comesOff : MethodName := ⟨RX6, "comesOff", "()V"⟩
def dkwX6_comesOff_0 : List UInt8 := [42, 5, 181, 0, 43, 42, 12, 181, 0, 53, 42, 3, 181, 0, 49, 177]
abbrev dktX6_comesOff_0 : List UInt8 := dkwX6_comesOff_0 ++ []
theorem dksX6_comesOff_0 : cX6_comesOff.data.toList.drop 0 = dktX6_comesOff_0 := by decide +kernel
theorem dX6_comesOff_0 : decode cX6_comesOff 0 = .ok (.aload_n 0, 1) := dk_42 (dk_at dksX6_comesOff_0 0 rfl rfl)
theorem dX6_comesOff_1 : decode cX6_comesOff 1 = .ok (.iconst 2, 1) := dk_5 (dk_at dksX6_comesOff_0 1 rfl rfl)
theorem dX6_comesOff_2 : decode cX6_comesOff 2 = .ok (.putfield 43, 3) := dk_181 0 43 (dk_at dksX6_comesOff_0 2 rfl rfl)
theorem dX6_comesOff_5 : decode cX6_comesOff 5 = .ok (.aload_n 0, 1) := dk_42 (dk_at dksX6_comesOff_0 5 rfl rfl)
theorem dX6_comesOff_6 : decode cX6_comesOff 6 = .ok (.fconst 1, 1) := dk_12 (dk_at dksX6_comesOff_0 6 rfl rfl)
theorem dX6_comesOff_7 : decode cX6_comesOff 7 = .ok (.putfield 53, 3) := dk_181 0 53 (dk_at dksX6_comesOff_0 7 rfl rfl)
theorem dX6_comesOff_10 : decode cX6_comesOff 10 = .ok (.aload_n 0, 1) := dk_42 (dk_at dksX6_comesOff_0 10 rfl rfl)
theorem dX6_comesOff_11 : decode cX6_comesOff 11 = .ok (.iconst 0, 1) := dk_3 (dk_at dksX6_comesOff_0 11 rfl rfl)
theorem dX6_comesOff_12 : decode cX6_comesOff 12 = .ok (.putfield 49, 3) := dk_181 0 49 (dk_at dksX6_comesOff_0 12 rfl rfl)
theorem dX6_comesOff_15 : decode cX6_comesOff 15 = .ok (.return_, 1) := dk_177 (dk_at dksX6_comesOff_0 15 rfl rfl)
abbrev cX6_reach : ByteArray := prog_22_method_10_code
def yX6_reach : MethodName := ⟨RX6, "reach", "([I)I"⟩
def dkwX6_reach_1 : List UInt8 := [139, 172]
abbrev dktX6_reach_1 : List UInt8 := dkwX6_reach_1 ++ []
def dkwX6_reach_0 : List UInt8 := [42, 180, 0, 36, 182, 0, 88, 43, 42, 180, 0, 36, 182, 0, 94, 46, 104, 134, 42, 180, 0, 25, 134, 110]
abbrev dktX6_reach_0 : List UInt8 := dkwX6_reach_0 ++ dktX6_reach_1
theorem dksX6_reach_0 : cX6_reach.data.toList.drop 0 = dktX6_reach_0 := by decide +kernel
theorem dksX6_reach_1 : cX6_reach.data.toList.drop 24 = dktX6_reach_1 := dk_seg dksX6_reach_0 24 rfl rfl
theorem dX6_reach_0 : decode cX6_reach 0 = .ok (.aload_n 0, 1) := dk_42 (dk_at dksX6_reach_0 0 rfl rfl)
theorem dX6_reach_1 : decode cX6_reach 1 = .ok (.getfield 36, 3) := dk_180 0 36 (dk_at dksX6_reach_0 1 rfl rfl)
theorem dX6_reach_4 : decode cX6_reach 4 = .ok (.invokevirtual 88, 3) := dk_182 0 88 (dk_at dksX6_reach_0 4 rfl rfl)
theorem dX6_reach_7 : decode cX6_reach 7 = .ok (.aload_n 1, 1) := dk_43 (dk_at dksX6_reach_0 7 rfl rfl)
theorem dX6_reach_8 : decode cX6_reach 8 = .ok (.aload_n 0, 1) := dk_42 (dk_at dksX6_reach_0 8 rfl rfl)
theorem dX6_reach_9 : decode cX6_reach 9 = .ok (.getfield 36, 3) := dk_180 0 36 (dk_at dksX6_reach_0 9 rfl rfl)
theorem dX6_reach_12 : decode cX6_reach 12 = .ok (.invokevirtual 94, 3) := dk_182 0 94 (dk_at dksX6_reach_0 12 rfl rfl)
theorem dX6_reach_15 : decode cX6_reach 15 = .ok (.iaload, 1) := dk_46 (dk_at dksX6_reach_0 15 rfl rfl)
theorem dX6_reach_16 : decode cX6_reach 16 = .ok (.imul, 1) := dk_104 (dk_at dksX6_reach_0 16 rfl rfl)
theorem dX6_reach_17 : decode cX6_reach 17 = .ok (.i2f, 1) := dk_134 (dk_at dksX6_reach_0 17 rfl rfl)
theorem dX6_reach_18 : decode cX6_reach 18 = .ok (.aload_n 0, 1) := dk_42 (dk_at dksX6_reach_0 18 rfl rfl)
theorem dX6_reach_19 : decode cX6_reach 19 = .ok (.getfield 25, 3) := dk_180 0 25 (dk_at dksX6_reach_0 19 rfl rfl)
theorem dX6_reach_22 : decode cX6_reach 22 = .ok (.i2f, 1) := dk_134 (dk_at dksX6_reach_0 22 rfl rfl)
theorem dX6_reach_23 : decode cX6_reach 23 = .ok (.fdiv, 1) := dk_110 (dk_at dksX6_reach_0 23 rfl rfl)
theorem dX6_reach_24 : decode cX6_reach 24 = .ok (.f2i, 1) := dk_139 (dk_at dksX6_reach_1 0 rfl rfl)
theorem dX6_reach_25 : decode cX6_reach 25 = .ok (.ireturn, 1) := dk_172 (dk_at dksX6_reach_1 1 rfl rfl)
abbrev cX6_breaks : ByteArray := prog_22_method_11_code
def yX6_breaks : MethodName := ⟨RX6, "breaks", "()Z"⟩
def dkwX6_breaks_0 : List UInt8 := [5, 42, 180, 0, 46, 104, 42, 180, 0, 28, 164, 0, 7, 4, 167, 0, 4, 3, 172]
abbrev dktX6_breaks_0 : List UInt8 := dkwX6_breaks_0 ++ []
theorem dksX6_breaks_0 : cX6_breaks.data.toList.drop 0 = dktX6_breaks_0 := by decide +kernel
theorem dX6_breaks_0 : decode cX6_breaks 0 = .ok (.iconst 2, 1) := dk_5 (dk_at dksX6_breaks_0 0 rfl rfl)
theorem dX6_breaks_1 : decode cX6_breaks 1 = .ok (.aload_n 0, 1) := dk_42 (dk_at dksX6_breaks_0 1 rfl rfl)
theorem dX6_breaks_2 : decode cX6_breaks 2 = .ok (.getfield 46, 3) := dk_180 0 46 (dk_at dksX6_breaks_0 2 rfl rfl)
theorem dX6_breaks_5 : decode cX6_breaks 5 = .ok (.imul, 1) := dk_104 (dk_at dksX6_breaks_0 5 rfl rfl)
theorem dX6_breaks_6 : decode cX6_breaks 6 = .ok (.aload_n 0, 1) := dk_42 (dk_at dksX6_breaks_0 6 rfl rfl)
theorem dX6_breaks_7 : decode cX6_breaks 7 = .ok (.getfield 28, 3) := dk_180 0 28 (dk_at dksX6_breaks_0 7 rfl rfl)
theorem dX6_breaks_10 : decode cX6_breaks 10 = .ok (.if_icmp .le 7, 3) := dk_164 0 7 (dk_at dksX6_breaks_0 10 rfl rfl)
theorem dX6_breaks_13 : decode cX6_breaks 13 = .ok (.iconst 1, 1) := dk_4 (dk_at dksX6_breaks_0 13 rfl rfl)
theorem dX6_breaks_14 : decode cX6_breaks 14 = .ok (.goto 4, 3) := dk_167 0 4 (dk_at dksX6_breaks_0 14 rfl rfl)
theorem dX6_breaks_17 : decode cX6_breaks 17 = .ok (.iconst 0, 1) := dk_3 (dk_at dksX6_breaks_0 17 rfl rfl)
theorem dX6_breaks_18 : decode cX6_breaks 18 = .ok (.ireturn, 1) := dk_172 (dk_at dksX6_breaks_0 18 rfl rfl)
abbrev cX6_isWhole : ByteArray := prog_22_method_4_code
def yX6_isWhole : MethodName := ⟨RX6, "isWhole", "()Z"⟩
def dkwX6_isWhole_1 : List UInt8 := [167, 0, 4, 3, 172]
abbrev dktX6_isWhole_1 : List UInt8 := dkwX6_isWhole_1 ++ []
def dkwX6_isWhole_0 : List UInt8 := [42, 182, 0, 65, 153, 0, 23, 42, 180, 0, 46, 154, 0, 16, 42, 180, 0, 43, 16, 7, 159, 0, 7, 4]
abbrev dktX6_isWhole_0 : List UInt8 := dkwX6_isWhole_0 ++ dktX6_isWhole_1
theorem dksX6_isWhole_0 : cX6_isWhole.data.toList.drop 0 = dktX6_isWhole_0 := by decide +kernel
theorem dksX6_isWhole_1 : cX6_isWhole.data.toList.drop 24 = dktX6_isWhole_1 := dk_seg dksX6_isWhole_0 24 rfl rfl
theorem dX6_isWhole_0 : decode cX6_isWhole 0 = .ok (.aload_n 0, 1) := dk_42 (dk_at dksX6_isWhole_0 0 rfl rfl)
theorem dX6_isWhole_1 : decode cX6_isWhole 1 = .ok (.invokevirtual 65, 3) := dk_182 0 65 (dk_at dksX6_isWhole_0 1 rfl rfl)
theorem dX6_isWhole_4 : decode cX6_isWhole 4 = .ok (.ifCond .eq 23, 3) := dk_153 0 23 (dk_at dksX6_isWhole_0 4 rfl rfl)
theorem dX6_isWhole_7 : decode cX6_isWhole 7 = .ok (.aload_n 0, 1) := dk_42 (dk_at dksX6_isWhole_0 7 rfl rfl)
theorem dX6_isWhole_8 : decode cX6_isWhole 8 = .ok (.getfield 46, 3) := dk_180 0 46 (dk_at dksX6_isWhole_0 8 rfl rfl)
theorem dX6_isWhole_11 : decode cX6_isWhole 11 = .ok (.ifCond .ne 16, 3) := dk_154 0 16 (dk_at dksX6_isWhole_0 11 rfl rfl)
theorem dX6_isWhole_14 : decode cX6_isWhole 14 = .ok (.aload_n 0, 1) := dk_42 (dk_at dksX6_isWhole_0 14 rfl rfl)
theorem dX6_isWhole_15 : decode cX6_isWhole 15 = .ok (.getfield 43, 3) := dk_180 0 43 (dk_at dksX6_isWhole_0 15 rfl rfl)
theorem dX6_isWhole_18 : decode cX6_isWhole 18 = .ok (.bipush 7, 2) := dk_16 7 (dk_at dksX6_isWhole_0 18 rfl rfl)
theorem dX6_isWhole_20 : decode cX6_isWhole 20 = .ok (.if_icmp .eq 7, 3) := dk_159 0 7 (dk_at dksX6_isWhole_0 20 rfl rfl)
theorem dX6_isWhole_23 : decode cX6_isWhole 23 = .ok (.iconst 1, 1) := dk_4 (dk_at dksX6_isWhole_0 23 rfl rfl)
theorem dX6_isWhole_24 : decode cX6_isWhole 24 = .ok (.goto 4, 3) := dk_167 0 4 (dk_at dksX6_isWhole_1 0 rfl rfl)
theorem dX6_isWhole_27 : decode cX6_isWhole 27 = .ok (.iconst 0, 1) := dk_3 (dk_at dksX6_isWhole_1 3 rfl rfl)
theorem dX6_isWhole_28 : decode cX6_isWhole 28 = .ok (.ireturn, 1) := dk_172 (dk_at dksX6_isWhole_1 4 rfl rfl)
abbrev cX6_cameOff : ByteArray := prog_22_method_3_code
def yX6_cameOff : MethodName := ⟨RX6, "cameOff", "()Z"⟩
def dkwX6_cameOff_0 : List UInt8 := [42, 180, 0, 43, 5, 161, 0, 7, 4, 167, 0, 4, 3, 172]
abbrev dktX6_cameOff_0 : List UInt8 := dkwX6_cameOff_0 ++ []
theorem dksX6_cameOff_0 : cX6_cameOff.data.toList.drop 0 = dktX6_cameOff_0 := by decide +kernel
theorem dX6_cameOff_0 : decode cX6_cameOff 0 = .ok (.aload_n 0, 1) := dk_42 (dk_at dksX6_cameOff_0 0 rfl rfl)
theorem dX6_cameOff_1 : decode cX6_cameOff 1 = .ok (.getfield 43, 3) := dk_180 0 43 (dk_at dksX6_cameOff_0 1 rfl rfl)
theorem dX6_cameOff_4 : decode cX6_cameOff 4 = .ok (.iconst 2, 1) := dk_5 (dk_at dksX6_cameOff_0 4 rfl rfl)
theorem dX6_cameOff_5 : decode cX6_cameOff 5 = .ok (.if_icmp .lt 7, 3) := dk_161 0 7 (dk_at dksX6_cameOff_0 5 rfl rfl)
theorem dX6_cameOff_8 : decode cX6_cameOff 8 = .ok (.iconst 1, 1) := dk_4 (dk_at dksX6_cameOff_0 8 rfl rfl)
theorem dX6_cameOff_9 : decode cX6_cameOff 9 = .ok (.goto 4, 3) := dk_167 0 4 (dk_at dksX6_cameOff_0 9 rfl rfl)
theorem dX6_cameOff_12 : decode cX6_cameOff 12 = .ok (.iconst 0, 1) := dk_3 (dk_at dksX6_cameOff_0 12 rfl rfl)
theorem dX6_cameOff_13 : decode cX6_cameOff 13 = .ok (.ireturn, 1) := dk_172 (dk_at dksX6_cameOff_0 13 rfl rfl)
abbrev cX6_again : ByteArray := prog_22_method_9_code
def yX6_again : MethodName := ⟨RX6, "again", "()F"⟩
def dkwX6_again_1 : List UInt8 := [42, 180, 0, 15, 28, 51, 182, 0, 76, 102, 68, 132, 2, 1, 167, 255, 231, 35, 174]
abbrev dktX6_again_1 : List UInt8 := dkwX6_again_1 ++ []
def dkwX6_again_0 : List UInt8 := [42, 182, 0, 65, 154, 0, 5, 11, 174, 12, 68, 3, 61, 28, 42, 180, 0, 62, 162, 0, 23, 35, 42, 35]
abbrev dktX6_again_0 : List UInt8 := dkwX6_again_0 ++ dktX6_again_1
theorem dksX6_again_0 : cX6_again.data.toList.drop 0 = dktX6_again_0 := by decide +kernel
theorem dksX6_again_1 : cX6_again.data.toList.drop 24 = dktX6_again_1 := dk_seg dksX6_again_0 24 rfl rfl
theorem dX6_again_0 : decode cX6_again 0 = .ok (.aload_n 0, 1) := dk_42 (dk_at dksX6_again_0 0 rfl rfl)
theorem dX6_again_1 : decode cX6_again 1 = .ok (.invokevirtual 65, 3) := dk_182 0 65 (dk_at dksX6_again_0 1 rfl rfl)
theorem dX6_again_4 : decode cX6_again 4 = .ok (.ifCond .ne 5, 3) := dk_154 0 5 (dk_at dksX6_again_0 4 rfl rfl)
theorem dX6_again_7 : decode cX6_again 7 = .ok (.fconst 0, 1) := dk_11 (dk_at dksX6_again_0 7 rfl rfl)
theorem dX6_again_8 : decode cX6_again 8 = .ok (.freturn, 1) := dk_174 (dk_at dksX6_again_0 8 rfl rfl)
theorem dX6_again_9 : decode cX6_again 9 = .ok (.fconst 1, 1) := dk_12 (dk_at dksX6_again_0 9 rfl rfl)
theorem dX6_again_10 : decode cX6_again 10 = .ok (.fstore_n 1, 1) := dk_68 (dk_at dksX6_again_0 10 rfl rfl)
theorem dX6_again_11 : decode cX6_again 11 = .ok (.iconst 0, 1) := dk_3 (dk_at dksX6_again_0 11 rfl rfl)
theorem dX6_again_12 : decode cX6_again 12 = .ok (.istore_n 2, 1) := dk_61 (dk_at dksX6_again_0 12 rfl rfl)
theorem dX6_again_13 : decode cX6_again 13 = .ok (.iload_n 2, 1) := dk_28 (dk_at dksX6_again_0 13 rfl rfl)
theorem dX6_again_14 : decode cX6_again 14 = .ok (.aload_n 0, 1) := dk_42 (dk_at dksX6_again_0 14 rfl rfl)
theorem dX6_again_15 : decode cX6_again 15 = .ok (.getfield 62, 3) := dk_180 0 62 (dk_at dksX6_again_0 15 rfl rfl)
theorem dX6_again_18 : decode cX6_again 18 = .ok (.if_icmp .ge 23, 3) := dk_162 0 23 (dk_at dksX6_again_0 18 rfl rfl)
theorem dX6_again_21 : decode cX6_again 21 = .ok (.fload_n 1, 1) := dk_35 (dk_at dksX6_again_0 21 rfl rfl)
theorem dX6_again_22 : decode cX6_again 22 = .ok (.aload_n 0, 1) := dk_42 (dk_at dksX6_again_0 22 rfl rfl)
theorem dX6_again_23 : decode cX6_again 23 = .ok (.fload_n 1, 1) := dk_35 (dk_at dksX6_again_0 23 rfl rfl)
theorem dX6_again_24 : decode cX6_again 24 = .ok (.aload_n 0, 1) := dk_42 (dk_at dksX6_again_1 0 rfl rfl)
theorem dX6_again_25 : decode cX6_again 25 = .ok (.getfield 15, 3) := dk_180 0 15 (dk_at dksX6_again_1 1 rfl rfl)
theorem dX6_again_28 : decode cX6_again 28 = .ok (.iload_n 2, 1) := dk_28 (dk_at dksX6_again_1 4 rfl rfl)
theorem dX6_again_29 : decode cX6_again 29 = .ok (.baload, 1) := dk_51 (dk_at dksX6_again_1 5 rfl rfl)
theorem dX6_again_30 : decode cX6_again 30 = .ok (.invokevirtual 76, 3) := dk_182 0 76 (dk_at dksX6_again_1 6 rfl rfl)
theorem dX6_again_33 : decode cX6_again 33 = .ok (.fsub, 1) := dk_102 (dk_at dksX6_again_1 9 rfl rfl)
theorem dX6_again_34 : decode cX6_again 34 = .ok (.fstore_n 1, 1) := dk_68 (dk_at dksX6_again_1 10 rfl rfl)
theorem dX6_again_35 : decode cX6_again 35 = .ok (.iinc 2 1, 3) := dk_132 2 1 (dk_at dksX6_again_1 11 rfl rfl)
theorem dX6_again_38 : decode cX6_again 38 = .ok (.goto (-25), 3) := dk_167 255 231 (dk_at dksX6_again_1 14 rfl rfl)
theorem dX6_again_41 : decode cX6_again 41 = .ok (.fload_n 1, 1) := dk_35 (dk_at dksX6_again_1 17 rfl rfl)
theorem dX6_again_42 : decode cX6_again 42 = .ok (.freturn, 1) := dk_174 (dk_at dksX6_again_1 18 rfl rfl)
theorem q96 : (Jvm.Cond.initialized "TurningWheel$Pot") ∈ lw_all := lw_g (lw_at lw_m1 13 rfl) rfl
theorem q412 : (Jvm.Cond.instantiable "TurningWheel$Pot" (12 : Nat)) ∈ lw_all := lw_g (lw_at lw_m2 89 rfl) rfl
theorem q428 : (Jvm.Cond.instanceMethod ({ cls := "TurningWheel$Pot", name := "<init>", desc := "(LTurningWheel$Pot;)V" } : Jvm.MethodName)) ∈ lw_all := lw_g (lw_at lw_m2 105 rfl) rfl
theorem q429 : (Jvm.Cond.code ({ cls := "TurningWheel$Pot", name := "<init>", desc := "(LTurningWheel$Pot;)V" } : Jvm.MethodName) prog_22_method_2_code (2 : Nat) (Option.none : Option Jvm.ClassFile.FieldType)) ∈ lw_all := lw_g (lw_at lw_m2 106 rfl) rfl
theorem q430 : (Jvm.Cond.methodLink "TurningWheel$Pot" (40 : Nat) ({ cls := "TurningWheel$Pot", name := "<init>", desc := "(IIII)V" } : Jvm.MethodName)) ∈ lw_all := lw_g (lw_at lw_m2 107 rfl) rfl
theorem q431 : (Jvm.Cond.instanceMethod ({ cls := "TurningWheel$Pot", name := "<init>", desc := "(IIII)V" } : Jvm.MethodName)) ∈ lw_all := lw_g (lw_at lw_m2 108 rfl) rfl
theorem q432 : (Jvm.Cond.code ({ cls := "TurningWheel$Pot", name := "<init>", desc := "(IIII)V" } : Jvm.MethodName) prog_22_method_1_code (5 : Nat) (Option.none : Option Jvm.ClassFile.FieldType)) ∈ lw_all := lw_g (lw_at lw_m2 109 rfl) rfl
theorem q433 : (Jvm.Cond.methodLink "TurningWheel$Pot" (3 : Nat) ({ cls := "java/lang/Object", name := "<init>", desc := "()V" } : Jvm.MethodName)) ∈ lw_all := lw_g (lw_at lw_m2 110 rfl) rfl
theorem q434 : (Jvm.Cond.classLink "TurningWheel$Pot" (31 : Nat) "TurningWheel$Raw") ∈ lw_all := lw_g (lw_at lw_m2 111 rfl) rfl
theorem q436 : (Jvm.Cond.methodLink "TurningWheel$Pot" (33 : Nat) ({ cls := "TurningWheel$Raw", name := "<init>", desc := "(I)V" } : Jvm.MethodName)) ∈ lw_all := lw_g (lw_at lw_m2 113 rfl) rfl
theorem q448 : (Jvm.Cond.fieldLink "TurningWheel$Pot" (19 : Nat) "TurningWheel$Pot" "number" "I") ∈ lw_all := lw_g (lw_at lw_m2 125 rfl) rfl
theorem q449 : (Jvm.Cond.fieldLink "TurningWheel$Pot" (22 : Nat) "TurningWheel$Pot" "potter" "I") ∈ lw_all := lw_g (lw_at lw_m2 126 rfl) rfl
theorem q452 : (Jvm.Cond.fieldLink "TurningWheel$Pot" (25 : Nat) "TurningWheel$Pot" "weight" "I") ∈ lw_all := lw_g (lw_at lw_m2 129 rfl) rfl
theorem q456 : (Jvm.Cond.fieldLink "TurningWheel$Pot" (28 : Nat) "TurningWheel$Pot" "rim" "I") ∈ lw_all := lw_g (lw_at lw_m2 133 rfl) rfl
theorem q460 : (Jvm.Cond.fieldLink "TurningWheel$Pot" (43 : Nat) "TurningWheel$Pot" "state" "I") ∈ lw_all := lw_g (lw_at lw_m2 137 rfl) rfl
theorem q464 : (Jvm.Cond.fieldLink "TurningWheel$Pot" (46 : Nat) "TurningWheel$Pot" "cracks" "I") ∈ lw_all := lw_g (lw_at lw_m2 141 rfl) rfl
theorem q467 : (Jvm.Cond.fieldLink "TurningWheel$Pot" (49 : Nat) "TurningWheel$Pot" "isCovered" "Z") ∈ lw_all := lw_g (lw_at lw_m2 144 rfl) rfl
theorem q470 : (Jvm.Cond.fieldLink "TurningWheel$Pot" (53 : Nat) "TurningWheel$Pot" "moisture" "F") ∈ lw_all := lw_g (lw_at lw_m2 147 rfl) rfl
theorem q472 : (Jvm.Cond.fieldLink "TurningWheel$Pot" (36 : Nat) "TurningWheel$Pot" "ware" "LTurningWheel$Ware;") ∈ lw_all := lw_g (lw_at lw_m2 149 rfl) rfl
theorem q476 : (Jvm.Cond.fieldLink "TurningWheel$Pot" (9 : Nat) "TurningWheel$Pot" "order" "I") ∈ lw_all := lw_g (lw_at lw_m2 153 rfl) rfl
theorem q479 : (Jvm.Cond.fieldLink "TurningWheel$Pot" (15 : Nat) "TurningWheel$Pot" "dried" "[B") ∈ lw_all := lw_g (lw_at lw_m2 156 rfl) rfl
theorem q480 : (Jvm.Cond.fieldLink "TurningWheel$Pot" (62 : Nat) "TurningWheel$Pot" "hours" "I") ∈ lw_all := lw_g (lw_at lw_m2 157 rfl) rfl
theorem q482 : (Jvm.Cond.laysFinal "TurningWheel$Pot" "TurningWheel$Pot" "number" "I") ∈ lw_all := lw_g (lw_at lw_m2 159 rfl) rfl
theorem q483 : (Jvm.Cond.soleField "TurningWheel$Pot" "number") ∈ lw_all := lw_g (lw_at lw_m2 160 rfl) rfl
theorem q484 : (Jvm.Cond.laysFinal "TurningWheel$Pot" "TurningWheel$Pot" "potter" "I") ∈ lw_all := lw_g (lw_at lw_m2 161 rfl) rfl
theorem q485 : (Jvm.Cond.soleField "TurningWheel$Pot" "potter") ∈ lw_all := lw_g (lw_at lw_m2 162 rfl) rfl
theorem q486 : (Jvm.Cond.laysFinal "TurningWheel$Pot" "TurningWheel$Pot" "weight" "I") ∈ lw_all := lw_g (lw_at lw_m2 163 rfl) rfl
theorem q487 : (Jvm.Cond.soleField "TurningWheel$Pot" "weight") ∈ lw_all := lw_g (lw_at lw_m2 164 rfl) rfl
theorem q488 : (Jvm.Cond.laysFinal "TurningWheel$Pot" "TurningWheel$Pot" "rim" "I") ∈ lw_all := lw_g (lw_at lw_m2 165 rfl) rfl
theorem q489 : (Jvm.Cond.soleField "TurningWheel$Pot" "rim") ∈ lw_all := lw_g (lw_at lw_m2 166 rfl) rfl
theorem q490 : (Jvm.Cond.lays "TurningWheel$Pot" "TurningWheel$Pot" "state" "I") ∈ lw_all := lw_g (lw_at lw_m2 167 rfl) rfl
theorem q491 : (Jvm.Cond.soleField "TurningWheel$Pot" "state") ∈ lw_all := lw_g (lw_at lw_m2 168 rfl) rfl
theorem q492 : (Jvm.Cond.lays "TurningWheel$Pot" "TurningWheel$Pot" "cracks" "I") ∈ lw_all := lw_g (lw_at lw_m2 169 rfl) rfl
theorem q493 : (Jvm.Cond.soleField "TurningWheel$Pot" "cracks") ∈ lw_all := lw_g (lw_at lw_m2 170 rfl) rfl
theorem q494 : (Jvm.Cond.lays "TurningWheel$Pot" "TurningWheel$Pot" "isCovered" "Z") ∈ lw_all := lw_g (lw_at lw_m2 171 rfl) rfl
theorem q495 : (Jvm.Cond.soleField "TurningWheel$Pot" "isCovered") ∈ lw_all := lw_g (lw_at lw_m2 172 rfl) rfl
theorem q496 : (Jvm.Cond.lays "TurningWheel$Pot" "TurningWheel$Pot" "moisture" "F") ∈ lw_all := lw_g (lw_at lw_m2 173 rfl) rfl
theorem q497 : (Jvm.Cond.soleField "TurningWheel$Pot" "moisture") ∈ lw_all := lw_g (lw_at lw_m2 174 rfl) rfl
theorem q498 : (Jvm.Cond.lays "TurningWheel$Pot" "TurningWheel$Pot" "ware" "LTurningWheel$Ware;") ∈ lw_all := lw_g (lw_at lw_m2 175 rfl) rfl
theorem q499 : (Jvm.Cond.soleField "TurningWheel$Pot" "ware") ∈ lw_all := lw_g (lw_at lw_m2 176 rfl) rfl
theorem q500 : (Jvm.Cond.lays "TurningWheel$Pot" "TurningWheel$Pot" "order" "I") ∈ lw_all := lw_g (lw_at lw_m2 177 rfl) rfl
theorem q501 : (Jvm.Cond.soleField "TurningWheel$Pot" "order") ∈ lw_all := lw_g (lw_at lw_m2 178 rfl) rfl
theorem q502 : (Jvm.Cond.lays "TurningWheel$Pot" "TurningWheel$Pot" "dried" "[B") ∈ lw_all := lw_g (lw_at lw_m2 179 rfl) rfl
theorem q503 : (Jvm.Cond.soleField "TurningWheel$Pot" "dried") ∈ lw_all := lw_g (lw_at lw_m2 180 rfl) rfl
theorem q504 : (Jvm.Cond.lays "TurningWheel$Pot" "TurningWheel$Pot" "hours" "I") ∈ lw_all := lw_g (lw_at lw_m2 181 rfl) rfl
theorem q505 : (Jvm.Cond.soleField "TurningWheel$Pot" "hours") ∈ lw_all := lw_g (lw_at lw_m2 182 rfl) rfl
theorem q506 : (Jvm.Cond.superclass "TurningWheel$Pot" "java/lang/Object") ∈ lw_all := lw_g (lw_at lw_m2 183 rfl) rfl
theorem q507 : (Jvm.Cond.methodLink "TurningWheel$Pot" (57 : Nat) ({ cls := "[B", name := "clone", desc := "()Ljava/lang/Object;" } : Jvm.MethodName)) ∈ lw_all := lw_g (lw_at lw_m2 184 rfl) rfl
theorem q511 : (Jvm.Cond.classLink "TurningWheel$Pot" (58 : Nat) "[B") ∈ lw_all := lw_g (lw_at lw_m2 188 rfl) rfl
theorem q564 : (Jvm.Cond.selects "TurningWheel$Pot" ({ cls := "java/lang/Object", name := "getClass", desc := "()Ljava/lang/Class;" } : Jvm.MethodName) ({ cls := "java/lang/Object", name := "getClass", desc := "()Ljava/lang/Class;" } : Jvm.MethodName)) ∈ lw_all := lw_g (lw_at lw_m3 1 rfl) rfl
theorem q1317 : (Jvm.Cond.instanceMethod ({ cls := "TurningWheel$Pot", name := "dries", desc := "(II)V" } : Jvm.MethodName)) ∈ lw_all := lw_g (lw_at lw_m6 34 rfl) rfl
theorem q1318 : (Jvm.Cond.selects "TurningWheel$Pot" ({ cls := "TurningWheel$Pot", name := "dries", desc := "(II)V" } : Jvm.MethodName) ({ cls := "TurningWheel$Pot", name := "dries", desc := "(II)V" } : Jvm.MethodName)) ∈ lw_all := lw_g (lw_at lw_m6 35 rfl) rfl
theorem q1319 : (Jvm.Cond.code ({ cls := "TurningWheel$Pot", name := "dries", desc := "(II)V" } : Jvm.MethodName) prog_22_method_8_code (5 : Nat) (Option.none : Option Jvm.ClassFile.FieldType)) ∈ lw_all := lw_g (lw_at lw_m6 36 rfl) rfl
theorem q1320 : (Jvm.Cond.methodLink "TurningWheel$Pot" (76 : Nat) ({ cls := "TurningWheel$Pot", name := "lossOf", desc := "(FI)F" } : Jvm.MethodName)) ∈ lw_all := lw_g (lw_at lw_m6 37 rfl) rfl
theorem q1321 : (Jvm.Cond.privateMethod ({ cls := "TurningWheel$Pot", name := "lossOf", desc := "(FI)F" } : Jvm.MethodName)) ∈ lw_tbl := lw_at lw_m6 38 rfl
theorem q1322 : (Jvm.Cond.instanceMethod ({ cls := "TurningWheel$Pot", name := "lossOf", desc := "(FI)F" } : Jvm.MethodName)) ∈ lw_all := lw_g (lw_at lw_m6 39 rfl) rfl
theorem q1323 : (Jvm.Cond.code ({ cls := "TurningWheel$Pot", name := "lossOf", desc := "(FI)F" } : Jvm.MethodName) prog_22_method_6_code (3 : Nat) (Option.some Jvm.ClassFile.FieldType.float)) ∈ lw_all := lw_g (lw_at lw_m6 40 rfl) rfl
theorem q1324 : (Jvm.Cond.constantFloat "TurningWheel$Pot" (69 : Nat) (1148846080 : UInt32)) ∈ lw_all := lw_g (lw_at lw_m6 41 rfl) rfl
theorem q1325 : (Jvm.Cond.methodLink "TurningWheel$Pot" (80 : Nat) ({ cls := "TurningWheel$Pot", name := "keeps", desc := "(I)V" } : Jvm.MethodName)) ∈ lw_all := lw_g (lw_at lw_m6 42 rfl) rfl
theorem q1326 : (Jvm.Cond.privateMethod ({ cls := "TurningWheel$Pot", name := "keeps", desc := "(I)V" } : Jvm.MethodName)) ∈ lw_tbl := lw_at lw_m6 43 rfl
theorem q1327 : (Jvm.Cond.instanceMethod ({ cls := "TurningWheel$Pot", name := "keeps", desc := "(I)V" } : Jvm.MethodName)) ∈ lw_all := lw_g (lw_at lw_m6 44 rfl) rfl
theorem q1328 : (Jvm.Cond.code ({ cls := "TurningWheel$Pot", name := "keeps", desc := "(I)V" } : Jvm.MethodName) prog_22_method_7_code (3 : Nat) (Option.none : Option Jvm.ClassFile.FieldType)) ∈ lw_all := lw_g (lw_at lw_m6 45 rfl) rfl
theorem q1329 : (Jvm.Cond.methodLink "TurningWheel$Pot" (70 : Nat) ({ cls := "java/lang/System", name := "arraycopy", desc := "(Ljava/lang/Object;ILjava/lang/Object;II)V" } : Jvm.MethodName)) ∈ lw_all := lw_g (lw_at lw_m6 46 rfl) rfl
theorem q1330 : (Jvm.Cond.methodLinkNest "TurningWheel$Pot" (83 : Nat) ({ cls := "TurningWheel", name := "bit", desc := "(Z)I" } : Jvm.MethodName) "TurningWheel") ∈ lw_tbl := lw_at lw_m6 47 rfl
theorem q1333 : (Jvm.Cond.constantFloat "TurningWheel$Pot" (87 : Nat) (1036831949 : UInt32)) ∈ lw_all := lw_g (lw_at lw_m6 50 rfl) rfl
theorem q1339 : (Jvm.Cond.instanceMethod ({ cls := "TurningWheel$Pot", name := "comesOff", desc := "()V" } : Jvm.MethodName)) ∈ lw_all := lw_g (lw_at lw_m6 56 rfl) rfl
theorem q1340 : (Jvm.Cond.selects "TurningWheel$Pot" ({ cls := "TurningWheel$Pot", name := "comesOff", desc := "()V" } : Jvm.MethodName) ({ cls := "TurningWheel$Pot", name := "comesOff", desc := "()V" } : Jvm.MethodName)) ∈ lw_all := lw_g (lw_at lw_m6 57 rfl) rfl
theorem q1341 : (Jvm.Cond.code ({ cls := "TurningWheel$Pot", name := "comesOff", desc := "()V" } : Jvm.MethodName) prog_22_method_5_code (1 : Nat) (Option.none : Option Jvm.ClassFile.FieldType)) ∈ lw_all := lw_g (lw_at lw_m6 58 rfl) rfl
theorem q1677 : (Jvm.Cond.instanceMethod ({ cls := "TurningWheel$Pot", name := "reach", desc := "([I)I" } : Jvm.MethodName)) ∈ lw_all := lw_g (lw_at lw_m7 154 rfl) rfl
theorem q1678 : (Jvm.Cond.selects "TurningWheel$Pot" ({ cls := "TurningWheel$Pot", name := "reach", desc := "([I)I" } : Jvm.MethodName) ({ cls := "TurningWheel$Pot", name := "reach", desc := "([I)I" } : Jvm.MethodName)) ∈ lw_all := lw_g (lw_at lw_m7 155 rfl) rfl
theorem q1679 : (Jvm.Cond.code ({ cls := "TurningWheel$Pot", name := "reach", desc := "([I)I" } : Jvm.MethodName) prog_22_method_10_code (2 : Nat) (Option.some Jvm.ClassFile.FieldType.int)) ∈ lw_all := lw_g (lw_at lw_m7 156 rfl) rfl
theorem q1680 : (Jvm.Cond.methodLink "TurningWheel$Pot" (88 : Nat) ({ cls := "TurningWheel$Ware", name := "coats", desc := "()I" } : Jvm.MethodName)) ∈ lw_all := lw_g (lw_at lw_m7 157 rfl) rfl
theorem q1689 : (Jvm.Cond.methodLink "TurningWheel$Pot" (94 : Nat) ({ cls := "TurningWheel$Ware", name := "glaze", desc := "()I" } : Jvm.MethodName)) ∈ lw_all := lw_g (lw_at lw_m7 166 rfl) rfl
theorem q1804 : (Jvm.Cond.instanceMethod ({ cls := "TurningWheel$Pot", name := "breaks", desc := "()Z" } : Jvm.MethodName)) ∈ lw_all := lw_g (lw_at lw_m8 41 rfl) rfl
theorem q1805 : (Jvm.Cond.selects "TurningWheel$Pot" ({ cls := "TurningWheel$Pot", name := "breaks", desc := "()Z" } : Jvm.MethodName) ({ cls := "TurningWheel$Pot", name := "breaks", desc := "()Z" } : Jvm.MethodName)) ∈ lw_all := lw_g (lw_at lw_m8 42 rfl) rfl
theorem q1806 : (Jvm.Cond.code ({ cls := "TurningWheel$Pot", name := "breaks", desc := "()Z" } : Jvm.MethodName) prog_22_method_11_code (1 : Nat) (Option.some Jvm.ClassFile.FieldType.boolean)) ∈ lw_all := lw_g (lw_at lw_m8 43 rfl) rfl
theorem q2201 : (Jvm.Cond.instanceMethod ({ cls := "TurningWheel$Pot", name := "isWhole", desc := "()Z" } : Jvm.MethodName)) ∈ lw_all := lw_g (lw_at lw_m9 198 rfl) rfl
theorem q2202 : (Jvm.Cond.selects "TurningWheel$Pot" ({ cls := "TurningWheel$Pot", name := "isWhole", desc := "()Z" } : Jvm.MethodName) ({ cls := "TurningWheel$Pot", name := "isWhole", desc := "()Z" } : Jvm.MethodName)) ∈ lw_all := lw_g (lw_at lw_m9 199 rfl) rfl
theorem q2203 : (Jvm.Cond.code ({ cls := "TurningWheel$Pot", name := "isWhole", desc := "()Z" } : Jvm.MethodName) prog_22_method_4_code (1 : Nat) (Option.some Jvm.ClassFile.FieldType.boolean)) ∈ lw_all := lw_g (lw_at lw_m9 200 rfl) rfl
theorem q2204 : (Jvm.Cond.methodLink "TurningWheel$Pot" (65 : Nat) ({ cls := "TurningWheel$Pot", name := "cameOff", desc := "()Z" } : Jvm.MethodName)) ∈ lw_all := lw_g (lw_at lw_m9 201 rfl) rfl
theorem q2205 : (Jvm.Cond.instanceMethod ({ cls := "TurningWheel$Pot", name := "cameOff", desc := "()Z" } : Jvm.MethodName)) ∈ lw_all := lw_g (lw_at lw_m9 202 rfl) rfl
theorem q2206 : (Jvm.Cond.selects "TurningWheel$Pot" ({ cls := "TurningWheel$Pot", name := "cameOff", desc := "()Z" } : Jvm.MethodName) ({ cls := "TurningWheel$Pot", name := "cameOff", desc := "()Z" } : Jvm.MethodName)) ∈ lw_all := lw_g (lw_at lw_m9 203 rfl) rfl
theorem q2207 : (Jvm.Cond.code ({ cls := "TurningWheel$Pot", name := "cameOff", desc := "()Z" } : Jvm.MethodName) prog_22_method_3_code (1 : Nat) (Option.some Jvm.ClassFile.FieldType.boolean)) ∈ lw_all := lw_g (lw_at lw_m9 204 rfl) rfl
theorem q2218 : (Jvm.Cond.instanceMethod ({ cls := "TurningWheel$Pot", name := "again", desc := "()F" } : Jvm.MethodName)) ∈ lw_all := lw_g (lw_at lw_m9 215 rfl) rfl
theorem q2219 : (Jvm.Cond.selects "TurningWheel$Pot" ({ cls := "TurningWheel$Pot", name := "again", desc := "()F" } : Jvm.MethodName) ({ cls := "TurningWheel$Pot", name := "again", desc := "()F" } : Jvm.MethodName)) ∈ lw_all := lw_g (lw_at lw_m9 216 rfl) rfl
theorem q2220 : (Jvm.Cond.code ({ cls := "TurningWheel$Pot", name := "again", desc := "()F" } : Jvm.MethodName) prog_22_method_9_code (3 : Nat) (Option.some Jvm.ClassFile.FieldType.float)) ∈ lw_all := lw_g (lw_at lw_m9 217 rfl) rfl
theorem q3051 : (Jvm.Cond.castable "TurningWheel$Pot" "java/lang/Object") ∈ lw_tbl := lw_at lw_m13 88 rfl
theorem in_X6 : ∀ w ∈ wsX60, w ∈ lw_all := lw_in wsX60 [482, 484, 486, 488, 490, 492, 494, 496, 498, 500, 502, 504] (by decide +kernel) (by decide +kernel)

/-! TurningWheel$Ware -/
set_option maxRecDepth 100000
def RX7 : String := "TurningWheel$Ware"
abbrev cX7_init : ByteArray := prog_30_method_1_code
def yX7_init : MethodName := ⟨RX7, "<init>", "(I)V"⟩
def dkwX7_init_0 : List UInt8 := [42, 183, 0, 1, 42, 27, 181, 0, 7, 177]
abbrev dktX7_init_0 : List UInt8 := dkwX7_init_0 ++ []
theorem dksX7_init_0 : cX7_init.data.toList.drop 0 = dktX7_init_0 := by decide +kernel
theorem dX7_init_0 : decode cX7_init 0 = .ok (.aload_n 0, 1) := dk_42 (dk_at dksX7_init_0 0 rfl rfl)
theorem dX7_init_1 : decode cX7_init 1 = .ok (.invokespecial 1, 3) := dk_183 0 1 (dk_at dksX7_init_0 1 rfl rfl)
theorem dX7_init_4 : decode cX7_init 4 = .ok (.aload_n 0, 1) := dk_42 (dk_at dksX7_init_0 4 rfl rfl)
theorem dX7_init_5 : decode cX7_init 5 = .ok (.iload_n 1, 1) := dk_27 (dk_at dksX7_init_0 5 rfl rfl)
theorem dX7_init_6 : decode cX7_init 6 = .ok (.putfield 7, 3) := dk_181 0 7 (dk_at dksX7_init_0 6 rfl rfl)
theorem dX7_init_9 : decode cX7_init 9 = .ok (.return_, 1) := dk_177 (dk_at dksX7_init_0 9 rfl rfl)
abbrev cX7_pot : ByteArray := prog_30_method_2_code
def yX7_pot : MethodName := ⟨RX7, "pot", "()I"⟩
theorem dX7_pot_0 : decode cX7_pot 0 = .ok (.aload_n 0, 1) := by decide +kernel
theorem dX7_pot_1 : decode cX7_pot 1 = .ok (.getfield 7, 3) := by decide +kernel
theorem dX7_pot_4 : decode cX7_pot 4 = .ok (.ireturn, 1) := by decide +kernel
theorem q99 : (Jvm.Cond.initialized "TurningWheel$Ware") ∈ lw_all := lw_g (lw_at lw_m1 16 rfl) rfl
theorem q440 : (Jvm.Cond.instanceMethod ({ cls := "TurningWheel$Ware", name := "<init>", desc := "(I)V" } : Jvm.MethodName)) ∈ lw_all := lw_g (lw_at lw_m2 117 rfl) rfl
theorem q441 : (Jvm.Cond.code ({ cls := "TurningWheel$Ware", name := "<init>", desc := "(I)V" } : Jvm.MethodName) prog_30_method_1_code (2 : Nat) (Option.none : Option Jvm.ClassFile.FieldType)) ∈ lw_all := lw_g (lw_at lw_m2 118 rfl) rfl
theorem q442 : (Jvm.Cond.methodLink "TurningWheel$Ware" (1 : Nat) ({ cls := "java/lang/Object", name := "<init>", desc := "()V" } : Jvm.MethodName)) ∈ lw_all := lw_g (lw_at lw_m2 119 rfl) rfl
theorem q443 : (Jvm.Cond.fieldLink "TurningWheel$Ware" (7 : Nat) "TurningWheel$Ware" "pot" "I") ∈ lw_all := lw_g (lw_at lw_m2 120 rfl) rfl
theorem q445 : (Jvm.Cond.soleField "TurningWheel$Ware" "pot") ∈ lw_all := lw_g (lw_at lw_m2 122 rfl) rfl
theorem q1681 : (Jvm.Cond.declares ({ cls := "TurningWheel$Ware", name := "coats", desc := "()I" } : Jvm.MethodName)) ∈ lw_tbl := lw_at lw_m7 158 rfl
theorem q1682 : (Jvm.Cond.sameMethod "TurningWheel$Ware" "TurningWheel$Ware" "coats" "()I") ∈ lw_all := lw_g (lw_at lw_m7 159 rfl) rfl
theorem q1690 : (Jvm.Cond.declares ({ cls := "TurningWheel$Ware", name := "glaze", desc := "()I" } : Jvm.MethodName)) ∈ lw_tbl := lw_at lw_m7 167 rfl
theorem q1691 : (Jvm.Cond.sameMethod "TurningWheel$Ware" "TurningWheel$Ware" "glaze" "()I") ∈ lw_all := lw_g (lw_at lw_m7 168 rfl) rfl
theorem q1738 : (Jvm.Cond.instanceMethod ({ cls := "TurningWheel$Ware", name := "pot", desc := "()I" } : Jvm.MethodName)) ∈ lw_all := lw_g (lw_at lw_m7 215 rfl) rfl
theorem q1739 : (Jvm.Cond.sameMethod "TurningWheel$Ware" "TurningWheel$Ware" "pot" "()I") ∈ lw_all := lw_g (lw_at lw_m7 216 rfl) rfl
theorem q1742 : (Jvm.Cond.code ({ cls := "TurningWheel$Ware", name := "pot", desc := "()I" } : Jvm.MethodName) prog_30_method_2_code (1 : Nat) (Option.some Jvm.ClassFile.FieldType.int)) ∈ lw_all := lw_g (lw_at lw_m7 219 rfl) rfl
theorem q3041 : (Jvm.Cond.castable "TurningWheel$Ware" "java/lang/Object") ∈ lw_tbl := lw_at lw_m13 78 rfl

/-! TurningWheel$Raw -/
set_option maxRecDepth 100000
def RX8 : String := "TurningWheel$Raw"
def TX8 : u_T := fun k => match k with
  | _ => ("TurningWheel$Ware", "pot", "I", true)
def tyX8 : Nat → FieldType := fun k => match k with
  | _ => .int
abbrev wsX80 : List Cond := u_ws RX8 TX8 1
theorem nmX8 : ∀ a, a < 1 → ∀ b, b < 1 → a ≠ b → (TX8 a).2.1 ≠ (TX8 b).2.1 := by decide +kernel
theorem tyX8_ok : ∀ k, k < 1 → parseFieldDescriptor (TX8 k).2.2.1 = some (tyX8 k) := by decide +kernel
abbrev cX8_init : ByteArray := prog_24_method_1_code
def yX8_init : MethodName := ⟨RX8, "<init>", "(I)V"⟩
def dkwX8_init_0 : List UInt8 := [42, 27, 183, 0, 3, 177]
abbrev dktX8_init_0 : List UInt8 := dkwX8_init_0 ++ []
theorem dksX8_init_0 : cX8_init.data.toList.drop 0 = dktX8_init_0 := by decide +kernel
theorem dX8_init_0 : decode cX8_init 0 = .ok (.aload_n 0, 1) := dk_42 (dk_at dksX8_init_0 0 rfl rfl)
theorem dX8_init_1 : decode cX8_init 1 = .ok (.iload_n 1, 1) := dk_27 (dk_at dksX8_init_0 1 rfl rfl)
theorem dX8_init_2 : decode cX8_init 2 = .ok (.invokespecial 3, 3) := dk_183 0 3 (dk_at dksX8_init_0 2 rfl rfl)
theorem dX8_init_5 : decode cX8_init 5 = .ok (.return_, 1) := dk_177 (dk_at dksX8_init_0 5 rfl rfl)
abbrev cX8_coats : ByteArray := prog_24_method_3_code
def yX8_coats : MethodName := ⟨RX8, "coats", "()I"⟩
theorem dX8_coats_0 : decode cX8_coats 0 = .ok (.iconst (-1), 1) := by decide +kernel
theorem dX8_coats_1 : decode cX8_coats 1 = .ok (.ireturn, 1) := by decide +kernel
abbrev cX8_glaze : ByteArray := prog_24_method_2_code
def yX8_glaze : MethodName := ⟨RX8, "glaze", "()I"⟩
theorem dX8_glaze_0 : decode cX8_glaze 0 = .ok (.iconst (-1), 1) := by decide +kernel
theorem dX8_glaze_1 : decode cX8_glaze 1 = .ok (.ireturn, 1) := by decide +kernel
theorem q100 : (Jvm.Cond.initialized "TurningWheel$Raw") ∈ lw_all := lw_g (lw_at lw_m1 17 rfl) rfl
theorem q435 : (Jvm.Cond.instantiable "TurningWheel$Raw" (1 : Nat)) ∈ lw_all := lw_g (lw_at lw_m2 112 rfl) rfl
theorem q437 : (Jvm.Cond.instanceMethod ({ cls := "TurningWheel$Raw", name := "<init>", desc := "(I)V" } : Jvm.MethodName)) ∈ lw_all := lw_g (lw_at lw_m2 114 rfl) rfl
theorem q438 : (Jvm.Cond.code ({ cls := "TurningWheel$Raw", name := "<init>", desc := "(I)V" } : Jvm.MethodName) prog_24_method_1_code (2 : Nat) (Option.none : Option Jvm.ClassFile.FieldType)) ∈ lw_all := lw_g (lw_at lw_m2 115 rfl) rfl
theorem q439 : (Jvm.Cond.methodLink "TurningWheel$Raw" (3 : Nat) ({ cls := "TurningWheel$Ware", name := "<init>", desc := "(I)V" } : Jvm.MethodName)) ∈ lw_all := lw_g (lw_at lw_m2 116 rfl) rfl
theorem q444 : (Jvm.Cond.laysFinal "TurningWheel$Raw" "TurningWheel$Ware" "pot" "I") ∈ lw_all := lw_g (lw_at lw_m2 121 rfl) rfl
theorem q446 : (Jvm.Cond.superclass "TurningWheel$Raw" "TurningWheel$Ware") ∈ lw_all := lw_g (lw_at lw_m2 123 rfl) rfl
theorem q566 : (Jvm.Cond.selects "TurningWheel$Raw" ({ cls := "java/lang/Object", name := "getClass", desc := "()Ljava/lang/Class;" } : Jvm.MethodName) ({ cls := "java/lang/Object", name := "getClass", desc := "()Ljava/lang/Class;" } : Jvm.MethodName)) ∈ lw_all := lw_g (lw_at lw_m3 3 rfl) rfl
theorem q1686 : (Jvm.Cond.selects "TurningWheel$Raw" ({ cls := "TurningWheel$Ware", name := "coats", desc := "()I" } : Jvm.MethodName) ({ cls := "TurningWheel$Raw", name := "coats", desc := "()I" } : Jvm.MethodName)) ∈ lw_all := lw_g (lw_at lw_m7 163 rfl) rfl
theorem q1687 : (Jvm.Cond.instanceMethod ({ cls := "TurningWheel$Raw", name := "coats", desc := "()I" } : Jvm.MethodName)) ∈ lw_all := lw_g (lw_at lw_m7 164 rfl) rfl
theorem q1688 : (Jvm.Cond.code ({ cls := "TurningWheel$Raw", name := "coats", desc := "()I" } : Jvm.MethodName) prog_24_method_3_code (1 : Nat) (Option.some Jvm.ClassFile.FieldType.int)) ∈ lw_all := lw_g (lw_at lw_m7 165 rfl) rfl
theorem q1695 : (Jvm.Cond.selects "TurningWheel$Raw" ({ cls := "TurningWheel$Ware", name := "glaze", desc := "()I" } : Jvm.MethodName) ({ cls := "TurningWheel$Raw", name := "glaze", desc := "()I" } : Jvm.MethodName)) ∈ lw_all := lw_g (lw_at lw_m7 172 rfl) rfl
theorem q1696 : (Jvm.Cond.instanceMethod ({ cls := "TurningWheel$Raw", name := "glaze", desc := "()I" } : Jvm.MethodName)) ∈ lw_all := lw_g (lw_at lw_m7 173 rfl) rfl
theorem q1697 : (Jvm.Cond.code ({ cls := "TurningWheel$Raw", name := "glaze", desc := "()I" } : Jvm.MethodName) prog_24_method_2_code (1 : Nat) (Option.some Jvm.ClassFile.FieldType.int)) ∈ lw_all := lw_g (lw_at lw_m7 174 rfl) rfl
theorem q1741 : (Jvm.Cond.selects "TurningWheel$Raw" ({ cls := "TurningWheel$Ware", name := "pot", desc := "()I" } : Jvm.MethodName) ({ cls := "TurningWheel$Ware", name := "pot", desc := "()I" } : Jvm.MethodName)) ∈ lw_all := lw_g (lw_at lw_m7 218 rfl) rfl
theorem q3052 : (Jvm.Cond.castable "TurningWheel$Raw" "java/lang/Object") ∈ lw_tbl := lw_at lw_m13 89 rfl
theorem q3094 : (Jvm.Cond.castable "TurningWheel$Raw" "TurningWheel$Ware") ∈ lw_tbl := lw_at lw_m13 131 rfl
theorem in_X8 : ∀ w ∈ wsX80, w ∈ lw_all := lw_in wsX80 [444] (by decide +kernel) (by decide +kernel)

/-! TurningWheel$Order -/
set_option maxRecDepth 100000
def RX9 : String := "TurningWheel$Order"
def TX9 : u_T := fun k => match k with
  | 0 => ("TurningWheel$Order", "glaze", "I", true)
  | 1 => ("TurningWheel$Order", "least", "I", true)
  | 2 => ("TurningWheel$Order", "many", "I", true)
  | 3 => ("TurningWheel$Order", "until", "I", true)
  | 4 => ("TurningWheel$Order", "price", "I", true)
  | _ => ("TurningWheel$Order", "lacking", "I", false)
def tyX9 : Nat → FieldType := fun k => match k with
  | 0 => .int
  | 1 => .int
  | 2 => .int
  | 3 => .int
  | 4 => .int
  | _ => .int
abbrev wsX90 : List Cond := u_ws RX9 TX9 6
theorem nmX9 : ∀ a, a < 6 → ∀ b, b < 6 → a ≠ b → (TX9 a).2.1 ≠ (TX9 b).2.1 := by decide +kernel
theorem tyX9_ok : ∀ k, k < 6 → parseFieldDescriptor (TX9 k).2.2.1 = some (tyX9 k) := by decide +kernel
abbrev cX9_init : ByteArray := prog_20_method_2_code
def yX9_init : MethodName := ⟨RX9, "<init>", "(LTurningWheel$Order;)V"⟩
def dkwX9_init_1 : List UInt8 := [42, 43, 180, 0, 25, 181, 0, 25, 177]
abbrev dktX9_init_1 : List UInt8 := dkwX9_init_1 ++ []
def dkwX9_init_0 : List UInt8 := [42, 43, 180, 0, 7, 43, 180, 0, 13, 43, 180, 0, 16, 43, 180, 0, 19, 43, 180, 0, 22, 183, 0, 28]
abbrev dktX9_init_0 : List UInt8 := dkwX9_init_0 ++ dktX9_init_1
theorem dksX9_init_0 : cX9_init.data.toList.drop 0 = dktX9_init_0 := by decide +kernel
theorem dksX9_init_1 : cX9_init.data.toList.drop 24 = dktX9_init_1 := dk_seg dksX9_init_0 24 rfl rfl
theorem dX9_init_0 : decode cX9_init 0 = .ok (.aload_n 0, 1) := dk_42 (dk_at dksX9_init_0 0 rfl rfl)
theorem dX9_init_1 : decode cX9_init 1 = .ok (.aload_n 1, 1) := dk_43 (dk_at dksX9_init_0 1 rfl rfl)
theorem dX9_init_2 : decode cX9_init 2 = .ok (.getfield 7, 3) := dk_180 0 7 (dk_at dksX9_init_0 2 rfl rfl)
theorem dX9_init_5 : decode cX9_init 5 = .ok (.aload_n 1, 1) := dk_43 (dk_at dksX9_init_0 5 rfl rfl)
theorem dX9_init_6 : decode cX9_init 6 = .ok (.getfield 13, 3) := dk_180 0 13 (dk_at dksX9_init_0 6 rfl rfl)
theorem dX9_init_9 : decode cX9_init 9 = .ok (.aload_n 1, 1) := dk_43 (dk_at dksX9_init_0 9 rfl rfl)
theorem dX9_init_10 : decode cX9_init 10 = .ok (.getfield 16, 3) := dk_180 0 16 (dk_at dksX9_init_0 10 rfl rfl)
theorem dX9_init_13 : decode cX9_init 13 = .ok (.aload_n 1, 1) := dk_43 (dk_at dksX9_init_0 13 rfl rfl)
theorem dX9_init_14 : decode cX9_init 14 = .ok (.getfield 19, 3) := dk_180 0 19 (dk_at dksX9_init_0 14 rfl rfl)
theorem dX9_init_17 : decode cX9_init 17 = .ok (.aload_n 1, 1) := dk_43 (dk_at dksX9_init_0 17 rfl rfl)
theorem dX9_init_18 : decode cX9_init 18 = .ok (.getfield 22, 3) := dk_180 0 22 (dk_at dksX9_init_0 18 rfl rfl)
theorem dX9_init_21 : decode cX9_init 21 = .ok (.invokespecial 28, 3) := dk_183 0 28 (dk_at dksX9_init_0 21 rfl rfl)
theorem dX9_init_24 : decode cX9_init 24 = .ok (.aload_n 0, 1) := dk_42 (dk_at dksX9_init_1 0 rfl rfl)
theorem dX9_init_25 : decode cX9_init 25 = .ok (.aload_n 1, 1) := dk_43 (dk_at dksX9_init_1 1 rfl rfl)
theorem dX9_init_26 : decode cX9_init 26 = .ok (.getfield 25, 3) := dk_180 0 25 (dk_at dksX9_init_1 2 rfl rfl)
theorem dX9_init_29 : decode cX9_init 29 = .ok (.putfield 25, 3) := dk_181 0 25 (dk_at dksX9_init_1 5 rfl rfl)
theorem dX9_init_32 : decode cX9_init 32 = .ok (.return_, 1) := dk_177 (dk_at dksX9_init_1 8 rfl rfl)
abbrev cX9_init_2 : ByteArray := prog_20_method_1_code
def yX9_init_2 : MethodName := ⟨RX9, "<init>", "(IIIII)V"⟩
def dkwX9_init_2_1 : List UInt8 := [181, 0, 19, 42, 21, 5, 181, 0, 22, 42, 29, 181, 0, 25, 177]
abbrev dktX9_init_2_1 : List UInt8 := dkwX9_init_2_1 ++ []
def dkwX9_init_2_0 : List UInt8 := [42, 183, 0, 1, 42, 27, 181, 0, 7, 42, 28, 181, 0, 13, 42, 29, 181, 0, 16, 42, 21, 4]
abbrev dktX9_init_2_0 : List UInt8 := dkwX9_init_2_0 ++ dktX9_init_2_1
theorem dksX9_init_2_0 : cX9_init_2.data.toList.drop 0 = dktX9_init_2_0 := by decide +kernel
theorem dksX9_init_2_1 : cX9_init_2.data.toList.drop 22 = dktX9_init_2_1 := dk_seg dksX9_init_2_0 22 rfl rfl
theorem dX9_init_2_0 : decode cX9_init_2 0 = .ok (.aload_n 0, 1) := dk_42 (dk_at dksX9_init_2_0 0 rfl rfl)
theorem dX9_init_2_1 : decode cX9_init_2 1 = .ok (.invokespecial 1, 3) := dk_183 0 1 (dk_at dksX9_init_2_0 1 rfl rfl)
theorem dX9_init_2_4 : decode cX9_init_2 4 = .ok (.aload_n 0, 1) := dk_42 (dk_at dksX9_init_2_0 4 rfl rfl)
theorem dX9_init_2_5 : decode cX9_init_2 5 = .ok (.iload_n 1, 1) := dk_27 (dk_at dksX9_init_2_0 5 rfl rfl)
theorem dX9_init_2_6 : decode cX9_init_2 6 = .ok (.putfield 7, 3) := dk_181 0 7 (dk_at dksX9_init_2_0 6 rfl rfl)
theorem dX9_init_2_9 : decode cX9_init_2 9 = .ok (.aload_n 0, 1) := dk_42 (dk_at dksX9_init_2_0 9 rfl rfl)
theorem dX9_init_2_10 : decode cX9_init_2 10 = .ok (.iload_n 2, 1) := dk_28 (dk_at dksX9_init_2_0 10 rfl rfl)
theorem dX9_init_2_11 : decode cX9_init_2 11 = .ok (.putfield 13, 3) := dk_181 0 13 (dk_at dksX9_init_2_0 11 rfl rfl)
theorem dX9_init_2_14 : decode cX9_init_2 14 = .ok (.aload_n 0, 1) := dk_42 (dk_at dksX9_init_2_0 14 rfl rfl)
theorem dX9_init_2_15 : decode cX9_init_2 15 = .ok (.iload_n 3, 1) := dk_29 (dk_at dksX9_init_2_0 15 rfl rfl)
theorem dX9_init_2_16 : decode cX9_init_2 16 = .ok (.putfield 16, 3) := dk_181 0 16 (dk_at dksX9_init_2_0 16 rfl rfl)
theorem dX9_init_2_19 : decode cX9_init_2 19 = .ok (.aload_n 0, 1) := dk_42 (dk_at dksX9_init_2_0 19 rfl rfl)
theorem dX9_init_2_20 : decode cX9_init_2 20 = .ok (.iload 4, 2) := dk_21 4 (dk_at dksX9_init_2_0 20 rfl rfl)
theorem dX9_init_2_22 : decode cX9_init_2 22 = .ok (.putfield 19, 3) := dk_181 0 19 (dk_at dksX9_init_2_1 0 rfl rfl)
theorem dX9_init_2_25 : decode cX9_init_2 25 = .ok (.aload_n 0, 1) := dk_42 (dk_at dksX9_init_2_1 3 rfl rfl)
theorem dX9_init_2_26 : decode cX9_init_2 26 = .ok (.iload 5, 2) := dk_21 5 (dk_at dksX9_init_2_1 4 rfl rfl)
theorem dX9_init_2_28 : decode cX9_init_2 28 = .ok (.putfield 22, 3) := dk_181 0 22 (dk_at dksX9_init_2_1 6 rfl rfl)
theorem dX9_init_2_31 : decode cX9_init_2 31 = .ok (.aload_n 0, 1) := dk_42 (dk_at dksX9_init_2_1 9 rfl rfl)
theorem dX9_init_2_32 : decode cX9_init_2 32 = .ok (.iload_n 3, 1) := dk_29 (dk_at dksX9_init_2_1 10 rfl rfl)
theorem dX9_init_2_33 : decode cX9_init_2 33 = .ok (.putfield 25, 3) := dk_181 0 25 (dk_at dksX9_init_2_1 11 rfl rfl)
theorem dX9_init_2_36 : decode cX9_init_2 36 = .ok (.return_, 1) := dk_177 (dk_at dksX9_init_2_1 14 rfl rfl)
abbrev cX9_wants : ByteArray := prog_20_method_4_code
def yX9_wants : MethodName := ⟨RX9, "wants", "(LTurningWheel$Pot;I)Z"⟩
def dkwX9_wants_1 : List UInt8 := [180, 0, 46, 42, 180, 0, 13, 161, 0, 7, 4, 167, 0, 4, 3, 172]
abbrev dktX9_wants_1 : List UInt8 := dkwX9_wants_1 ++ []
def dkwX9_wants_0 : List UInt8 := [42, 28, 182, 0, 31, 153, 0, 32, 43, 180, 0, 35, 182, 0, 41, 42, 180, 0, 7, 160, 0, 18, 43]
abbrev dktX9_wants_0 : List UInt8 := dkwX9_wants_0 ++ dktX9_wants_1
theorem dksX9_wants_0 : cX9_wants.data.toList.drop 0 = dktX9_wants_0 := by decide +kernel
theorem dksX9_wants_1 : cX9_wants.data.toList.drop 23 = dktX9_wants_1 := dk_seg dksX9_wants_0 23 rfl rfl
theorem dX9_wants_0 : decode cX9_wants 0 = .ok (.aload_n 0, 1) := dk_42 (dk_at dksX9_wants_0 0 rfl rfl)
theorem dX9_wants_1 : decode cX9_wants 1 = .ok (.iload_n 2, 1) := dk_28 (dk_at dksX9_wants_0 1 rfl rfl)
theorem dX9_wants_2 : decode cX9_wants 2 = .ok (.invokevirtual 31, 3) := dk_182 0 31 (dk_at dksX9_wants_0 2 rfl rfl)
theorem dX9_wants_5 : decode cX9_wants 5 = .ok (.ifCond .eq 32, 3) := dk_153 0 32 (dk_at dksX9_wants_0 5 rfl rfl)
theorem dX9_wants_8 : decode cX9_wants 8 = .ok (.aload_n 1, 1) := dk_43 (dk_at dksX9_wants_0 8 rfl rfl)
theorem dX9_wants_9 : decode cX9_wants 9 = .ok (.getfield 35, 3) := dk_180 0 35 (dk_at dksX9_wants_0 9 rfl rfl)
theorem dX9_wants_12 : decode cX9_wants 12 = .ok (.invokevirtual 41, 3) := dk_182 0 41 (dk_at dksX9_wants_0 12 rfl rfl)
theorem dX9_wants_15 : decode cX9_wants 15 = .ok (.aload_n 0, 1) := dk_42 (dk_at dksX9_wants_0 15 rfl rfl)
theorem dX9_wants_16 : decode cX9_wants 16 = .ok (.getfield 7, 3) := dk_180 0 7 (dk_at dksX9_wants_0 16 rfl rfl)
theorem dX9_wants_19 : decode cX9_wants 19 = .ok (.if_icmp .ne 18, 3) := dk_160 0 18 (dk_at dksX9_wants_0 19 rfl rfl)
theorem dX9_wants_22 : decode cX9_wants 22 = .ok (.aload_n 1, 1) := dk_43 (dk_at dksX9_wants_0 22 rfl rfl)
theorem dX9_wants_23 : decode cX9_wants 23 = .ok (.getfield 46, 3) := dk_180 0 46 (dk_at dksX9_wants_1 0 rfl rfl)
theorem dX9_wants_26 : decode cX9_wants 26 = .ok (.aload_n 0, 1) := dk_42 (dk_at dksX9_wants_1 3 rfl rfl)
theorem dX9_wants_27 : decode cX9_wants 27 = .ok (.getfield 13, 3) := dk_180 0 13 (dk_at dksX9_wants_1 4 rfl rfl)
theorem dX9_wants_30 : decode cX9_wants 30 = .ok (.if_icmp .lt 7, 3) := dk_161 0 7 (dk_at dksX9_wants_1 7 rfl rfl)
theorem dX9_wants_33 : decode cX9_wants 33 = .ok (.iconst 1, 1) := dk_4 (dk_at dksX9_wants_1 10 rfl rfl)
theorem dX9_wants_34 : decode cX9_wants 34 = .ok (.goto 4, 3) := dk_167 0 4 (dk_at dksX9_wants_1 11 rfl rfl)
theorem dX9_wants_37 : decode cX9_wants 37 = .ok (.iconst 0, 1) := dk_3 (dk_at dksX9_wants_1 14 rfl rfl)
theorem dX9_wants_38 : decode cX9_wants 38 = .ok (.ireturn, 1) := dk_172 (dk_at dksX9_wants_1 15 rfl rfl)
abbrev cX9_isOpen : ByteArray := prog_20_method_3_code
def yX9_isOpen : MethodName := ⟨RX9, "isOpen", "(I)Z"⟩
def dkwX9_isOpen_0 : List UInt8 := [42, 180, 0, 25, 158, 0, 15, 27, 42, 180, 0, 19, 163, 0, 7, 4, 167, 0, 4, 3, 172]
abbrev dktX9_isOpen_0 : List UInt8 := dkwX9_isOpen_0 ++ []
theorem dksX9_isOpen_0 : cX9_isOpen.data.toList.drop 0 = dktX9_isOpen_0 := by decide +kernel
theorem dX9_isOpen_0 : decode cX9_isOpen 0 = .ok (.aload_n 0, 1) := dk_42 (dk_at dksX9_isOpen_0 0 rfl rfl)
theorem dX9_isOpen_1 : decode cX9_isOpen 1 = .ok (.getfield 25, 3) := dk_180 0 25 (dk_at dksX9_isOpen_0 1 rfl rfl)
theorem dX9_isOpen_4 : decode cX9_isOpen 4 = .ok (.ifCond .le 15, 3) := dk_158 0 15 (dk_at dksX9_isOpen_0 4 rfl rfl)
theorem dX9_isOpen_7 : decode cX9_isOpen 7 = .ok (.iload_n 1, 1) := dk_27 (dk_at dksX9_isOpen_0 7 rfl rfl)
theorem dX9_isOpen_8 : decode cX9_isOpen 8 = .ok (.aload_n 0, 1) := dk_42 (dk_at dksX9_isOpen_0 8 rfl rfl)
theorem dX9_isOpen_9 : decode cX9_isOpen 9 = .ok (.getfield 19, 3) := dk_180 0 19 (dk_at dksX9_isOpen_0 9 rfl rfl)
theorem dX9_isOpen_12 : decode cX9_isOpen 12 = .ok (.if_icmp .gt 7, 3) := dk_163 0 7 (dk_at dksX9_isOpen_0 12 rfl rfl)
theorem dX9_isOpen_15 : decode cX9_isOpen 15 = .ok (.iconst 1, 1) := dk_4 (dk_at dksX9_isOpen_0 15 rfl rfl)
theorem dX9_isOpen_16 : decode cX9_isOpen 16 = .ok (.goto 4, 3) := dk_167 0 4 (dk_at dksX9_isOpen_0 16 rfl rfl)
theorem dX9_isOpen_19 : decode cX9_isOpen 19 = .ok (.iconst 0, 1) := dk_3 (dk_at dksX9_isOpen_0 19 rfl rfl)
theorem dX9_isOpen_20 : decode cX9_isOpen 20 = .ok (.ireturn, 1) := dk_172 (dk_at dksX9_isOpen_0 20 rfl rfl)
theorem q105 : (Jvm.Cond.initialized "TurningWheel$Order") ∈ lw_all := lw_g (lw_at lw_m1 22 rfl) rfl
theorem q453 : (Jvm.Cond.fieldLinkNest "TurningWheel$Order" (46 : Nat) "TurningWheel$Pot" "weight" "I" "TurningWheel") ∈ lw_tbl := lw_at lw_m2 130 rfl
theorem q473 : (Jvm.Cond.fieldLinkNest "TurningWheel$Order" (35 : Nat) "TurningWheel$Pot" "ware" "LTurningWheel$Ware;" "TurningWheel") ∈ lw_tbl := lw_at lw_m2 150 rfl
theorem q562 : (Jvm.Cond.selects "TurningWheel$Order" ({ cls := "java/lang/Object", name := "getClass", desc := "()Ljava/lang/Class;" } : Jvm.MethodName) ({ cls := "java/lang/Object", name := "getClass", desc := "()Ljava/lang/Class;" } : Jvm.MethodName)) ∈ lw_all := lw_g (lw_at lw_m2 239 rfl) rfl
theorem q610 : (Jvm.Cond.instantiable "TurningWheel$Order" (6 : Nat)) ∈ lw_all := lw_g (lw_at lw_m3 47 rfl) rfl
theorem q612 : (Jvm.Cond.instanceMethod ({ cls := "TurningWheel$Order", name := "<init>", desc := "(LTurningWheel$Order;)V" } : Jvm.MethodName)) ∈ lw_all := lw_g (lw_at lw_m3 49 rfl) rfl
theorem q613 : (Jvm.Cond.code ({ cls := "TurningWheel$Order", name := "<init>", desc := "(LTurningWheel$Order;)V" } : Jvm.MethodName) prog_20_method_2_code (2 : Nat) (Option.none : Option Jvm.ClassFile.FieldType)) ∈ lw_all := lw_g (lw_at lw_m3 50 rfl) rfl
theorem q614 : (Jvm.Cond.methodLink "TurningWheel$Order" (28 : Nat) ({ cls := "TurningWheel$Order", name := "<init>", desc := "(IIIII)V" } : Jvm.MethodName)) ∈ lw_all := lw_g (lw_at lw_m3 51 rfl) rfl
theorem q615 : (Jvm.Cond.instanceMethod ({ cls := "TurningWheel$Order", name := "<init>", desc := "(IIIII)V" } : Jvm.MethodName)) ∈ lw_all := lw_g (lw_at lw_m3 52 rfl) rfl
theorem q616 : (Jvm.Cond.code ({ cls := "TurningWheel$Order", name := "<init>", desc := "(IIIII)V" } : Jvm.MethodName) prog_20_method_1_code (6 : Nat) (Option.none : Option Jvm.ClassFile.FieldType)) ∈ lw_all := lw_g (lw_at lw_m3 53 rfl) rfl
theorem q617 : (Jvm.Cond.methodLink "TurningWheel$Order" (1 : Nat) ({ cls := "java/lang/Object", name := "<init>", desc := "()V" } : Jvm.MethodName)) ∈ lw_all := lw_g (lw_at lw_m3 54 rfl) rfl
theorem q618 : (Jvm.Cond.fieldLink "TurningWheel$Order" (7 : Nat) "TurningWheel$Order" "glaze" "I") ∈ lw_all := lw_g (lw_at lw_m3 55 rfl) rfl
theorem q620 : (Jvm.Cond.fieldLink "TurningWheel$Order" (13 : Nat) "TurningWheel$Order" "least" "I") ∈ lw_all := lw_g (lw_at lw_m3 57 rfl) rfl
theorem q622 : (Jvm.Cond.fieldLink "TurningWheel$Order" (16 : Nat) "TurningWheel$Order" "many" "I") ∈ lw_all := lw_g (lw_at lw_m3 59 rfl) rfl
theorem q624 : (Jvm.Cond.fieldLink "TurningWheel$Order" (19 : Nat) "TurningWheel$Order" "until" "I") ∈ lw_all := lw_g (lw_at lw_m3 61 rfl) rfl
theorem q626 : (Jvm.Cond.fieldLink "TurningWheel$Order" (22 : Nat) "TurningWheel$Order" "price" "I") ∈ lw_all := lw_g (lw_at lw_m3 63 rfl) rfl
theorem q629 : (Jvm.Cond.fieldLink "TurningWheel$Order" (25 : Nat) "TurningWheel$Order" "lacking" "I") ∈ lw_all := lw_g (lw_at lw_m3 66 rfl) rfl
theorem q632 : (Jvm.Cond.laysFinal "TurningWheel$Order" "TurningWheel$Order" "glaze" "I") ∈ lw_all := lw_g (lw_at lw_m3 69 rfl) rfl
theorem q633 : (Jvm.Cond.soleField "TurningWheel$Order" "glaze") ∈ lw_all := lw_g (lw_at lw_m3 70 rfl) rfl
theorem q634 : (Jvm.Cond.laysFinal "TurningWheel$Order" "TurningWheel$Order" "least" "I") ∈ lw_all := lw_g (lw_at lw_m3 71 rfl) rfl
theorem q635 : (Jvm.Cond.soleField "TurningWheel$Order" "least") ∈ lw_all := lw_g (lw_at lw_m3 72 rfl) rfl
theorem q636 : (Jvm.Cond.laysFinal "TurningWheel$Order" "TurningWheel$Order" "many" "I") ∈ lw_all := lw_g (lw_at lw_m3 73 rfl) rfl
theorem q637 : (Jvm.Cond.soleField "TurningWheel$Order" "many") ∈ lw_all := lw_g (lw_at lw_m3 74 rfl) rfl
theorem q638 : (Jvm.Cond.laysFinal "TurningWheel$Order" "TurningWheel$Order" "until" "I") ∈ lw_all := lw_g (lw_at lw_m3 75 rfl) rfl
theorem q639 : (Jvm.Cond.soleField "TurningWheel$Order" "until") ∈ lw_all := lw_g (lw_at lw_m3 76 rfl) rfl
theorem q640 : (Jvm.Cond.laysFinal "TurningWheel$Order" "TurningWheel$Order" "price" "I") ∈ lw_all := lw_g (lw_at lw_m3 77 rfl) rfl
theorem q641 : (Jvm.Cond.soleField "TurningWheel$Order" "price") ∈ lw_all := lw_g (lw_at lw_m3 78 rfl) rfl
theorem q642 : (Jvm.Cond.lays "TurningWheel$Order" "TurningWheel$Order" "lacking" "I") ∈ lw_all := lw_g (lw_at lw_m3 79 rfl) rfl
theorem q643 : (Jvm.Cond.soleField "TurningWheel$Order" "lacking") ∈ lw_all := lw_g (lw_at lw_m3 80 rfl) rfl
theorem q644 : (Jvm.Cond.superclass "TurningWheel$Order" "java/lang/Object") ∈ lw_all := lw_g (lw_at lw_m3 81 rfl) rfl
theorem q1872 : (Jvm.Cond.instanceMethod ({ cls := "TurningWheel$Order", name := "wants", desc := "(LTurningWheel$Pot;I)Z" } : Jvm.MethodName)) ∈ lw_all := lw_g (lw_at lw_m8 109 rfl) rfl
theorem q1873 : (Jvm.Cond.selects "TurningWheel$Order" ({ cls := "TurningWheel$Order", name := "wants", desc := "(LTurningWheel$Pot;I)Z" } : Jvm.MethodName) ({ cls := "TurningWheel$Order", name := "wants", desc := "(LTurningWheel$Pot;I)Z" } : Jvm.MethodName)) ∈ lw_all := lw_g (lw_at lw_m8 110 rfl) rfl
theorem q1874 : (Jvm.Cond.code ({ cls := "TurningWheel$Order", name := "wants", desc := "(LTurningWheel$Pot;I)Z" } : Jvm.MethodName) prog_20_method_4_code (3 : Nat) (Option.some Jvm.ClassFile.FieldType.boolean)) ∈ lw_all := lw_g (lw_at lw_m8 111 rfl) rfl
theorem q1875 : (Jvm.Cond.methodLink "TurningWheel$Order" (31 : Nat) ({ cls := "TurningWheel$Order", name := "isOpen", desc := "(I)Z" } : Jvm.MethodName)) ∈ lw_all := lw_g (lw_at lw_m8 112 rfl) rfl
theorem q1876 : (Jvm.Cond.instanceMethod ({ cls := "TurningWheel$Order", name := "isOpen", desc := "(I)Z" } : Jvm.MethodName)) ∈ lw_all := lw_g (lw_at lw_m8 113 rfl) rfl
theorem q1877 : (Jvm.Cond.selects "TurningWheel$Order" ({ cls := "TurningWheel$Order", name := "isOpen", desc := "(I)Z" } : Jvm.MethodName) ({ cls := "TurningWheel$Order", name := "isOpen", desc := "(I)Z" } : Jvm.MethodName)) ∈ lw_all := lw_g (lw_at lw_m8 114 rfl) rfl
theorem q1878 : (Jvm.Cond.code ({ cls := "TurningWheel$Order", name := "isOpen", desc := "(I)Z" } : Jvm.MethodName) prog_20_method_3_code (2 : Nat) (Option.some Jvm.ClassFile.FieldType.boolean)) ∈ lw_all := lw_g (lw_at lw_m8 115 rfl) rfl
theorem q1879 : (Jvm.Cond.methodLink "TurningWheel$Order" (41 : Nat) ({ cls := "TurningWheel$Ware", name := "glaze", desc := "()I" } : Jvm.MethodName)) ∈ lw_all := lw_g (lw_at lw_m8 116 rfl) rfl
theorem q3053 : (Jvm.Cond.castable "TurningWheel$Order" "java/lang/Object") ∈ lw_tbl := lw_at lw_m13 90 rfl
theorem in_X9 : ∀ w ∈ wsX90, w ∈ lw_all := lw_in wsX90 [632, 634, 636, 638, 640, 642] (by decide +kernel) (by decide +kernel)

/-! TurningWheel$Refused -/
set_option maxRecDepth 100000
def RX10 : String := "TurningWheel$Refused"
def TX10 : u_T := fun k => match k with
  | 0 => ("java/lang/Throwable", "cause", "Ljava/lang/Throwable;", false)
  | 1 => ("java/lang/Throwable", "stackTrace", "[Ljava/lang/StackTraceElement;", false)
  | 2 => ("java/lang/Throwable", "suppressedExceptions", "Ljava/util/List;", false)
  | 3 => ("java/lang/Throwable", "detailMessage", "Ljava/lang/String;", false)
  | 4 => ("java/lang/Throwable", "backtrace", "Ljava/lang/Object;", false)
  | 5 => ("java/lang/Throwable", "depth", "I", false)
  | 6 => ("TurningWheel$Refused", "reason", "I", true)
  | _ => ("TurningWheel$Refused", "detail", "I", true)
def tyX10 : Nat → FieldType := fun k => match k with
  | 0 => .object "java/lang/Throwable"
  | 1 => .array (.object "java/lang/StackTraceElement")
  | 2 => .object "java/util/List"
  | 3 => .object "java/lang/String"
  | 4 => .object "java/lang/Object"
  | 5 => .int
  | 6 => .int
  | _ => .int
abbrev wsX100 : List Cond := u_ws RX10 TX10 8
theorem nmX10 : ∀ a, a < 8 → ∀ b, b < 8 → a ≠ b → (TX10 a).2.1 ≠ (TX10 b).2.1 := by decide +kernel
theorem tyX10_ok : ∀ k, k < 8 → parseFieldDescriptor (TX10 k).2.2.1 = some (tyX10 k) := by decide +kernel
abbrev cX10_init : ByteArray := prog_26_method_2_code
def yX10_init : MethodName := ⟨RX10, "<init>", "(II)V"⟩
def dkwX10_init_0 : List UInt8 := [42, 27, 28, 1, 183, 0, 16, 177]
abbrev dktX10_init_0 : List UInt8 := dkwX10_init_0 ++ []
theorem dksX10_init_0 : cX10_init.data.toList.drop 0 = dktX10_init_0 := by decide +kernel
theorem dX10_init_0 : decode cX10_init 0 = .ok (.aload_n 0, 1) := dk_42 (dk_at dksX10_init_0 0 rfl rfl)
theorem dX10_init_1 : decode cX10_init 1 = .ok (.iload_n 1, 1) := dk_27 (dk_at dksX10_init_0 1 rfl rfl)
theorem dX10_init_2 : decode cX10_init 2 = .ok (.iload_n 2, 1) := dk_28 (dk_at dksX10_init_0 2 rfl rfl)
theorem dX10_init_3 : decode cX10_init 3 = .ok (.aconst_null, 1) := dk_1 (dk_at dksX10_init_0 3 rfl rfl)
theorem dX10_init_4 : decode cX10_init 4 = .ok (.invokespecial 16, 3) := dk_183 0 16 (dk_at dksX10_init_0 4 rfl rfl)
theorem dX10_init_7 : decode cX10_init 7 = .ok (.return_, 1) := dk_177 (dk_at dksX10_init_0 7 rfl rfl)
abbrev cX10_init_2 : ByteArray := prog_26_method_1_code
def yX10_init_2 : MethodName := ⟨RX10, "<init>", "(IILTurningWheel$Refused;)V"⟩
def dkwX10_init_2_0 : List UInt8 := [42, 1, 45, 3, 3, 183, 0, 1, 42, 27, 181, 0, 7, 42, 28, 181, 0, 13, 177]
abbrev dktX10_init_2_0 : List UInt8 := dkwX10_init_2_0 ++ []
theorem dksX10_init_2_0 : cX10_init_2.data.toList.drop 0 = dktX10_init_2_0 := by decide +kernel
theorem dX10_init_2_0 : decode cX10_init_2 0 = .ok (.aload_n 0, 1) := dk_42 (dk_at dksX10_init_2_0 0 rfl rfl)
theorem dX10_init_2_1 : decode cX10_init_2 1 = .ok (.aconst_null, 1) := dk_1 (dk_at dksX10_init_2_0 1 rfl rfl)
theorem dX10_init_2_2 : decode cX10_init_2 2 = .ok (.aload_n 3, 1) := dk_45 (dk_at dksX10_init_2_0 2 rfl rfl)
theorem dX10_init_2_3 : decode cX10_init_2 3 = .ok (.iconst 0, 1) := dk_3 (dk_at dksX10_init_2_0 3 rfl rfl)
theorem dX10_init_2_4 : decode cX10_init_2 4 = .ok (.iconst 0, 1) := dk_3 (dk_at dksX10_init_2_0 4 rfl rfl)
theorem dX10_init_2_5 : decode cX10_init_2 5 = .ok (.invokespecial 1, 3) := dk_183 0 1 (dk_at dksX10_init_2_0 5 rfl rfl)
theorem dX10_init_2_8 : decode cX10_init_2 8 = .ok (.aload_n 0, 1) := dk_42 (dk_at dksX10_init_2_0 8 rfl rfl)
theorem dX10_init_2_9 : decode cX10_init_2 9 = .ok (.iload_n 1, 1) := dk_27 (dk_at dksX10_init_2_0 9 rfl rfl)
theorem dX10_init_2_10 : decode cX10_init_2 10 = .ok (.putfield 7, 3) := dk_181 0 7 (dk_at dksX10_init_2_0 10 rfl rfl)
theorem dX10_init_2_13 : decode cX10_init_2 13 = .ok (.aload_n 0, 1) := dk_42 (dk_at dksX10_init_2_0 13 rfl rfl)
theorem dX10_init_2_14 : decode cX10_init_2 14 = .ok (.iload_n 2, 1) := dk_28 (dk_at dksX10_init_2_0 14 rfl rfl)
theorem dX10_init_2_15 : decode cX10_init_2 15 = .ok (.putfield 13, 3) := dk_181 0 13 (dk_at dksX10_init_2_0 15 rfl rfl)
theorem dX10_init_2_18 : decode cX10_init_2 18 = .ok (.return_, 1) := dk_177 (dk_at dksX10_init_2_0 18 rfl rfl)
abbrev cX10_behind : ByteArray := prog_26_method_4_code
def yX10_behind : MethodName := ⟨RX10, "behind", "(I)LTurningWheel$Refused;"⟩
def dkwX10_behind_1 : List UInt8 := [44, 192, 0, 8, 176]
abbrev dktX10_behind_1 : List UInt8 := dkwX10_behind_1 ++ []
def dkwX10_behind_0 : List UInt8 := [42, 77, 3, 62, 29, 27, 162, 0, 18, 44, 198, 0, 14, 44, 182, 0, 19, 77, 132, 3, 1, 167, 255, 239]
abbrev dktX10_behind_0 : List UInt8 := dkwX10_behind_0 ++ dktX10_behind_1
theorem dksX10_behind_0 : cX10_behind.data.toList.drop 0 = dktX10_behind_0 := by decide +kernel
theorem dksX10_behind_1 : cX10_behind.data.toList.drop 24 = dktX10_behind_1 := dk_seg dksX10_behind_0 24 rfl rfl
theorem dX10_behind_0 : decode cX10_behind 0 = .ok (.aload_n 0, 1) := dk_42 (dk_at dksX10_behind_0 0 rfl rfl)
theorem dX10_behind_1 : decode cX10_behind 1 = .ok (.astore_n 2, 1) := dk_77 (dk_at dksX10_behind_0 1 rfl rfl)
theorem dX10_behind_2 : decode cX10_behind 2 = .ok (.iconst 0, 1) := dk_3 (dk_at dksX10_behind_0 2 rfl rfl)
theorem dX10_behind_3 : decode cX10_behind 3 = .ok (.istore_n 3, 1) := dk_62 (dk_at dksX10_behind_0 3 rfl rfl)
theorem dX10_behind_4 : decode cX10_behind 4 = .ok (.iload_n 3, 1) := dk_29 (dk_at dksX10_behind_0 4 rfl rfl)
theorem dX10_behind_5 : decode cX10_behind 5 = .ok (.iload_n 1, 1) := dk_27 (dk_at dksX10_behind_0 5 rfl rfl)
theorem dX10_behind_6 : decode cX10_behind 6 = .ok (.if_icmp .ge 18, 3) := dk_162 0 18 (dk_at dksX10_behind_0 6 rfl rfl)
theorem dX10_behind_9 : decode cX10_behind 9 = .ok (.aload_n 2, 1) := dk_44 (dk_at dksX10_behind_0 9 rfl rfl)
theorem dX10_behind_10 : decode cX10_behind 10 = .ok (.ifnull 14, 3) := dk_198 0 14 (dk_at dksX10_behind_0 10 rfl rfl)
theorem dX10_behind_13 : decode cX10_behind 13 = .ok (.aload_n 2, 1) := dk_44 (dk_at dksX10_behind_0 13 rfl rfl)
theorem dX10_behind_14 : decode cX10_behind 14 = .ok (.invokevirtual 19, 3) := dk_182 0 19 (dk_at dksX10_behind_0 14 rfl rfl)
theorem dX10_behind_17 : decode cX10_behind 17 = .ok (.astore_n 2, 1) := dk_77 (dk_at dksX10_behind_0 17 rfl rfl)
theorem dX10_behind_18 : decode cX10_behind 18 = .ok (.iinc 3 1, 3) := dk_132 3 1 (dk_at dksX10_behind_0 18 rfl rfl)
theorem dX10_behind_21 : decode cX10_behind 21 = .ok (.goto (-17), 3) := dk_167 255 239 (dk_at dksX10_behind_0 21 rfl rfl)
theorem dX10_behind_24 : decode cX10_behind 24 = .ok (.aload_n 2, 1) := dk_44 (dk_at dksX10_behind_1 0 rfl rfl)
theorem dX10_behind_25 : decode cX10_behind 25 = .ok (.checkcast 8, 3) := dk_192 0 8 (dk_at dksX10_behind_1 1 rfl rfl)
theorem dX10_behind_28 : decode cX10_behind 28 = .ok (.areturn, 1) := dk_176 (dk_at dksX10_behind_1 4 rfl rfl)
abbrev cX10_told : ByteArray := prog_26_method_3_code
def yX10_told : MethodName := ⟨RX10, "told", "(Z)I"⟩
def dkwX10_told_0 : List UInt8 := [27, 153, 0, 10, 42, 180, 0, 13, 167, 0, 7, 42, 180, 0, 7, 172]
abbrev dktX10_told_0 : List UInt8 := dkwX10_told_0 ++ []
theorem dksX10_told_0 : cX10_told.data.toList.drop 0 = dktX10_told_0 := by decide +kernel
theorem dX10_told_0 : decode cX10_told 0 = .ok (.iload_n 1, 1) := dk_27 (dk_at dksX10_told_0 0 rfl rfl)
theorem dX10_told_1 : decode cX10_told 1 = .ok (.ifCond .eq 10, 3) := dk_153 0 10 (dk_at dksX10_told_0 1 rfl rfl)
theorem dX10_told_4 : decode cX10_told 4 = .ok (.aload_n 0, 1) := dk_42 (dk_at dksX10_told_0 4 rfl rfl)
theorem dX10_told_5 : decode cX10_told 5 = .ok (.getfield 13, 3) := dk_180 0 13 (dk_at dksX10_told_0 5 rfl rfl)
theorem dX10_told_8 : decode cX10_told 8 = .ok (.goto 7, 3) := dk_167 0 7 (dk_at dksX10_told_0 8 rfl rfl)
theorem dX10_told_11 : decode cX10_told 11 = .ok (.aload_n 0, 1) := dk_42 (dk_at dksX10_told_0 11 rfl rfl)
theorem dX10_told_12 : decode cX10_told 12 = .ok (.getfield 7, 3) := dk_180 0 7 (dk_at dksX10_told_0 12 rfl rfl)
theorem dX10_told_15 : decode cX10_told 15 = .ok (.ireturn, 1) := dk_172 (dk_at dksX10_told_0 15 rfl rfl)
theorem q125 : (Jvm.Cond.initialized "TurningWheel$Refused") ∈ lw_all := lw_g (lw_at lw_m1 42 rfl) rfl
theorem q568 : (Jvm.Cond.selects "TurningWheel$Refused" ({ cls := "java/lang/Object", name := "getClass", desc := "()Ljava/lang/Class;" } : Jvm.MethodName) ({ cls := "java/lang/Object", name := "getClass", desc := "()Ljava/lang/Class;" } : Jvm.MethodName)) ∈ lw_all := lw_g (lw_at lw_m3 5 rfl) rfl
theorem q849 : (Jvm.Cond.selects "TurningWheel$Refused" ({ cls := "java/lang/Throwable", name := "fillInStackTrace", desc := "()Ljava/lang/Throwable;" } : Jvm.MethodName) ({ cls := "java/lang/Throwable", name := "fillInStackTrace", desc := "()Ljava/lang/Throwable;" } : Jvm.MethodName)) ∈ lw_all := lw_g (lw_at lw_m4 46 rfl) rfl
theorem q876 : (Jvm.Cond.selects "TurningWheel$Refused" ({ cls := "java/lang/Throwable", name := "toString", desc := "()Ljava/lang/String;" } : Jvm.MethodName) ({ cls := "java/lang/Throwable", name := "toString", desc := "()Ljava/lang/String;" } : Jvm.MethodName)) ∈ lw_all := lw_g (lw_at lw_m4 73 rfl) rfl
theorem q888 : (Jvm.Cond.selects "TurningWheel$Refused" ({ cls := "java/lang/Throwable", name := "getLocalizedMessage", desc := "()Ljava/lang/String;" } : Jvm.MethodName) ({ cls := "java/lang/Throwable", name := "getLocalizedMessage", desc := "()Ljava/lang/String;" } : Jvm.MethodName)) ∈ lw_all := lw_g (lw_at lw_m4 85 rfl) rfl
theorem q899 : (Jvm.Cond.selects "TurningWheel$Refused" ({ cls := "java/lang/Throwable", name := "getMessage", desc := "()Ljava/lang/String;" } : Jvm.MethodName) ({ cls := "java/lang/Throwable", name := "getMessage", desc := "()Ljava/lang/String;" } : Jvm.MethodName)) ∈ lw_all := lw_g (lw_at lw_m4 96 rfl) rfl
theorem q1284 : (Jvm.Cond.instantiable "TurningWheel$Refused" (8 : Nat)) ∈ lw_all := lw_g (lw_at lw_m6 1 rfl) rfl
theorem q1285 : (Jvm.Cond.castable "TurningWheel$Refused" "TurningWheel$Refused") ∈ lw_tbl := lw_at lw_m6 2 rfl
theorem q1286 : (Jvm.Cond.selects "TurningWheel$Refused" ({ cls := "java/lang/Throwable", name := "fillInStackTrace", desc := "(I)Ljava/lang/Throwable;" } : Jvm.MethodName) ({ cls := "java/lang/Throwable", name := "fillInStackTrace", desc := "(I)Ljava/lang/Throwable;" } : Jvm.MethodName)) ∈ lw_all := lw_g (lw_at lw_m6 3 rfl) rfl
theorem q1287 : (Jvm.Cond.lays "TurningWheel$Refused" "java/lang/Throwable" "cause" "Ljava/lang/Throwable;") ∈ lw_all := lw_g (lw_at lw_m6 4 rfl) rfl
theorem q1288 : (Jvm.Cond.lays "TurningWheel$Refused" "java/lang/Throwable" "stackTrace" "[Ljava/lang/StackTraceElement;") ∈ lw_all := lw_g (lw_at lw_m6 5 rfl) rfl
theorem q1289 : (Jvm.Cond.lays "TurningWheel$Refused" "java/lang/Throwable" "suppressedExceptions" "Ljava/util/List;") ∈ lw_all := lw_g (lw_at lw_m6 6 rfl) rfl
theorem q1290 : (Jvm.Cond.lays "TurningWheel$Refused" "java/lang/Throwable" "detailMessage" "Ljava/lang/String;") ∈ lw_all := lw_g (lw_at lw_m6 7 rfl) rfl
theorem q1291 : (Jvm.Cond.lays "TurningWheel$Refused" "java/lang/Throwable" "backtrace" "Ljava/lang/Object;") ∈ lw_all := lw_g (lw_at lw_m6 8 rfl) rfl
theorem q1293 : (Jvm.Cond.instanceMethod ({ cls := "TurningWheel$Refused", name := "<init>", desc := "(II)V" } : Jvm.MethodName)) ∈ lw_all := lw_g (lw_at lw_m6 10 rfl) rfl
theorem q1294 : (Jvm.Cond.code ({ cls := "TurningWheel$Refused", name := "<init>", desc := "(II)V" } : Jvm.MethodName) prog_26_method_2_code (3 : Nat) (Option.none : Option Jvm.ClassFile.FieldType)) ∈ lw_all := lw_g (lw_at lw_m6 11 rfl) rfl
theorem q1295 : (Jvm.Cond.methodLink "TurningWheel$Refused" (16 : Nat) ({ cls := "TurningWheel$Refused", name := "<init>", desc := "(IILTurningWheel$Refused;)V" } : Jvm.MethodName)) ∈ lw_all := lw_g (lw_at lw_m6 12 rfl) rfl
theorem q1296 : (Jvm.Cond.instanceMethod ({ cls := "TurningWheel$Refused", name := "<init>", desc := "(IILTurningWheel$Refused;)V" } : Jvm.MethodName)) ∈ lw_all := lw_g (lw_at lw_m6 13 rfl) rfl
theorem q1297 : (Jvm.Cond.code ({ cls := "TurningWheel$Refused", name := "<init>", desc := "(IILTurningWheel$Refused;)V" } : Jvm.MethodName) prog_26_method_1_code (4 : Nat) (Option.none : Option Jvm.ClassFile.FieldType)) ∈ lw_all := lw_g (lw_at lw_m6 14 rfl) rfl
theorem q1298 : (Jvm.Cond.methodLink "TurningWheel$Refused" (1 : Nat) ({ cls := "java/lang/Exception", name := "<init>", desc := "(Ljava/lang/String;Ljava/lang/Throwable;ZZ)V" } : Jvm.MethodName)) ∈ lw_all := lw_g (lw_at lw_m6 15 rfl) rfl
theorem q1304 : (Jvm.Cond.fieldLink "TurningWheel$Refused" (7 : Nat) "TurningWheel$Refused" "reason" "I") ∈ lw_all := lw_g (lw_at lw_m6 21 rfl) rfl
theorem q1305 : (Jvm.Cond.fieldLink "TurningWheel$Refused" (13 : Nat) "TurningWheel$Refused" "detail" "I") ∈ lw_all := lw_g (lw_at lw_m6 22 rfl) rfl
theorem q1306 : (Jvm.Cond.laysFinal "TurningWheel$Refused" "TurningWheel$Refused" "reason" "I") ∈ lw_all := lw_g (lw_at lw_m6 23 rfl) rfl
theorem q1307 : (Jvm.Cond.soleField "TurningWheel$Refused" "reason") ∈ lw_all := lw_g (lw_at lw_m6 24 rfl) rfl
theorem q1308 : (Jvm.Cond.laysFinal "TurningWheel$Refused" "TurningWheel$Refused" "detail" "I") ∈ lw_all := lw_g (lw_at lw_m6 25 rfl) rfl
theorem q1309 : (Jvm.Cond.soleField "TurningWheel$Refused" "detail") ∈ lw_all := lw_g (lw_at lw_m6 26 rfl) rfl
theorem q1310 : (Jvm.Cond.lays "TurningWheel$Refused" "java/lang/Throwable" "depth" "I") ∈ lw_all := lw_g (lw_at lw_m6 27 rfl) rfl
theorem q1311 : (Jvm.Cond.superclass "TurningWheel$Refused" "java/lang/Exception") ∈ lw_all := lw_g (lw_at lw_m6 28 rfl) rfl
theorem q2568 : (Jvm.Cond.instanceMethod ({ cls := "TurningWheel$Refused", name := "behind", desc := "(I)LTurningWheel$Refused;" } : Jvm.MethodName)) ∈ lw_all := lw_g (lw_at lw_m11 85 rfl) rfl
theorem q2569 : (Jvm.Cond.selects "TurningWheel$Refused" ({ cls := "TurningWheel$Refused", name := "behind", desc := "(I)LTurningWheel$Refused;" } : Jvm.MethodName) ({ cls := "TurningWheel$Refused", name := "behind", desc := "(I)LTurningWheel$Refused;" } : Jvm.MethodName)) ∈ lw_all := lw_g (lw_at lw_m11 86 rfl) rfl
theorem q2570 : (Jvm.Cond.code ({ cls := "TurningWheel$Refused", name := "behind", desc := "(I)LTurningWheel$Refused;" } : Jvm.MethodName) prog_26_method_4_code (4 : Nat) (Option.some (Jvm.ClassFile.FieldType.object "TurningWheel$Refused"))) ∈ lw_all := lw_g (lw_at lw_m11 87 rfl) rfl
theorem q2571 : (Jvm.Cond.methodLink "TurningWheel$Refused" (19 : Nat) ({ cls := "java/lang/Throwable", name := "getCause", desc := "()Ljava/lang/Throwable;" } : Jvm.MethodName)) ∈ lw_all := lw_g (lw_at lw_m11 88 rfl) rfl
theorem q2576 : (Jvm.Cond.selects "TurningWheel$Refused" ({ cls := "java/lang/Throwable", name := "getCause", desc := "()Ljava/lang/Throwable;" } : Jvm.MethodName) ({ cls := "java/lang/Throwable", name := "getCause", desc := "()Ljava/lang/Throwable;" } : Jvm.MethodName)) ∈ lw_all := lw_g (lw_at lw_m11 93 rfl) rfl
theorem q2582 : (Jvm.Cond.classLink "TurningWheel$Refused" (8 : Nat) "TurningWheel$Refused") ∈ lw_all := lw_g (lw_at lw_m11 99 rfl) rfl
theorem q2584 : (Jvm.Cond.instanceMethod ({ cls := "TurningWheel$Refused", name := "told", desc := "(Z)I" } : Jvm.MethodName)) ∈ lw_all := lw_g (lw_at lw_m11 101 rfl) rfl
theorem q2585 : (Jvm.Cond.selects "TurningWheel$Refused" ({ cls := "TurningWheel$Refused", name := "told", desc := "(Z)I" } : Jvm.MethodName) ({ cls := "TurningWheel$Refused", name := "told", desc := "(Z)I" } : Jvm.MethodName)) ∈ lw_all := lw_g (lw_at lw_m11 102 rfl) rfl
theorem q2586 : (Jvm.Cond.code ({ cls := "TurningWheel$Refused", name := "told", desc := "(Z)I" } : Jvm.MethodName) prog_26_method_3_code (2 : Nat) (Option.some Jvm.ClassFile.FieldType.int)) ∈ lw_all := lw_g (lw_at lw_m11 103 rfl) rfl
theorem q3065 : (Jvm.Cond.castable "TurningWheel$Refused" "java/lang/Object") ∈ lw_tbl := lw_at lw_m13 102 rfl
theorem in_X10 : ∀ w ∈ wsX100, w ∈ lw_all := lw_in wsX100 [1287, 1288, 1289, 1290, 1291, 1310, 1306, 1308] (by decide +kernel) (by decide +kernel)

/-! TurningWheel$OutOfRange -/
set_option maxRecDepth 100000
def RX11 : String := "TurningWheel$OutOfRange"
def TX11 : u_T := fun k => match k with
  | 0 => ("java/lang/Throwable", "cause", "Ljava/lang/Throwable;", false)
  | 1 => ("java/lang/Throwable", "stackTrace", "[Ljava/lang/StackTraceElement;", false)
  | 2 => ("java/lang/Throwable", "suppressedExceptions", "Ljava/util/List;", false)
  | 3 => ("java/lang/Throwable", "detailMessage", "Ljava/lang/String;", false)
  | 4 => ("java/lang/Throwable", "backtrace", "Ljava/lang/Object;", false)
  | 5 => ("java/lang/Throwable", "depth", "I", false)
  | _ => ("TurningWheel$OutOfRange", "place", "I", true)
def tyX11 : Nat → FieldType := fun k => match k with
  | 0 => .object "java/lang/Throwable"
  | 1 => .array (.object "java/lang/StackTraceElement")
  | 2 => .object "java/util/List"
  | 3 => .object "java/lang/String"
  | 4 => .object "java/lang/Object"
  | 5 => .int
  | _ => .int
abbrev wsX110 : List Cond := u_ws RX11 TX11 7
theorem nmX11 : ∀ a, a < 7 → ∀ b, b < 7 → a ≠ b → (TX11 a).2.1 ≠ (TX11 b).2.1 := by decide +kernel
theorem tyX11_ok : ∀ k, k < 7 → parseFieldDescriptor (TX11 k).2.2.1 = some (tyX11 k) := by decide +kernel
abbrev cX11_init : ByteArray := prog_21_method_1_code
def yX11_init : MethodName := ⟨RX11, "<init>", "(I)V"⟩
def dkwX11_init_0 : List UInt8 := [42, 1, 1, 3, 3, 183, 0, 1, 42, 27, 181, 0, 7, 177]
abbrev dktX11_init_0 : List UInt8 := dkwX11_init_0 ++ []
theorem dksX11_init_0 : cX11_init.data.toList.drop 0 = dktX11_init_0 := by decide +kernel
theorem dX11_init_0 : decode cX11_init 0 = .ok (.aload_n 0, 1) := dk_42 (dk_at dksX11_init_0 0 rfl rfl)
theorem dX11_init_1 : decode cX11_init 1 = .ok (.aconst_null, 1) := dk_1 (dk_at dksX11_init_0 1 rfl rfl)
theorem dX11_init_2 : decode cX11_init 2 = .ok (.aconst_null, 1) := dk_1 (dk_at dksX11_init_0 2 rfl rfl)
theorem dX11_init_3 : decode cX11_init 3 = .ok (.iconst 0, 1) := dk_3 (dk_at dksX11_init_0 3 rfl rfl)
theorem dX11_init_4 : decode cX11_init 4 = .ok (.iconst 0, 1) := dk_3 (dk_at dksX11_init_0 4 rfl rfl)
theorem dX11_init_5 : decode cX11_init 5 = .ok (.invokespecial 1, 3) := dk_183 0 1 (dk_at dksX11_init_0 5 rfl rfl)
theorem dX11_init_8 : decode cX11_init 8 = .ok (.aload_n 0, 1) := dk_42 (dk_at dksX11_init_0 8 rfl rfl)
theorem dX11_init_9 : decode cX11_init 9 = .ok (.iload_n 1, 1) := dk_27 (dk_at dksX11_init_0 9 rfl rfl)
theorem dX11_init_10 : decode cX11_init 10 = .ok (.putfield 7, 3) := dk_181 0 7 (dk_at dksX11_init_0 10 rfl rfl)
theorem dX11_init_13 : decode cX11_init 13 = .ok (.return_, 1) := dk_177 (dk_at dksX11_init_0 13 rfl rfl)
theorem q131 : (Jvm.Cond.initialized "TurningWheel$OutOfRange") ∈ lw_all := lw_g (lw_at lw_m1 48 rfl) rfl
theorem q563 : (Jvm.Cond.selects "TurningWheel$OutOfRange" ({ cls := "java/lang/Object", name := "getClass", desc := "()Ljava/lang/Class;" } : Jvm.MethodName) ({ cls := "java/lang/Object", name := "getClass", desc := "()Ljava/lang/Class;" } : Jvm.MethodName)) ∈ lw_all := lw_g (lw_at lw_m3 0 rfl) rfl
theorem q848 : (Jvm.Cond.selects "TurningWheel$OutOfRange" ({ cls := "java/lang/Throwable", name := "fillInStackTrace", desc := "()Ljava/lang/Throwable;" } : Jvm.MethodName) ({ cls := "java/lang/Throwable", name := "fillInStackTrace", desc := "()Ljava/lang/Throwable;" } : Jvm.MethodName)) ∈ lw_all := lw_g (lw_at lw_m4 45 rfl) rfl
theorem q875 : (Jvm.Cond.selects "TurningWheel$OutOfRange" ({ cls := "java/lang/Throwable", name := "toString", desc := "()Ljava/lang/String;" } : Jvm.MethodName) ({ cls := "java/lang/Throwable", name := "toString", desc := "()Ljava/lang/String;" } : Jvm.MethodName)) ∈ lw_all := lw_g (lw_at lw_m4 72 rfl) rfl
theorem q887 : (Jvm.Cond.selects "TurningWheel$OutOfRange" ({ cls := "java/lang/Throwable", name := "getLocalizedMessage", desc := "()Ljava/lang/String;" } : Jvm.MethodName) ({ cls := "java/lang/Throwable", name := "getLocalizedMessage", desc := "()Ljava/lang/String;" } : Jvm.MethodName)) ∈ lw_all := lw_g (lw_at lw_m4 84 rfl) rfl
theorem q898 : (Jvm.Cond.selects "TurningWheel$OutOfRange" ({ cls := "java/lang/Throwable", name := "getMessage", desc := "()Ljava/lang/String;" } : Jvm.MethodName) ({ cls := "java/lang/Throwable", name := "getMessage", desc := "()Ljava/lang/String;" } : Jvm.MethodName)) ∈ lw_all := lw_g (lw_at lw_m4 95 rfl) rfl
theorem q1618 : (Jvm.Cond.instantiable "TurningWheel$OutOfRange" (7 : Nat)) ∈ lw_all := lw_g (lw_at lw_m7 95 rfl) rfl
theorem q1619 : (Jvm.Cond.castable "TurningWheel$OutOfRange" "TurningWheel$OutOfRange") ∈ lw_tbl := lw_at lw_m7 96 rfl
theorem q1620 : (Jvm.Cond.selects "TurningWheel$OutOfRange" ({ cls := "java/lang/Throwable", name := "fillInStackTrace", desc := "(I)Ljava/lang/Throwable;" } : Jvm.MethodName) ({ cls := "java/lang/Throwable", name := "fillInStackTrace", desc := "(I)Ljava/lang/Throwable;" } : Jvm.MethodName)) ∈ lw_all := lw_g (lw_at lw_m7 97 rfl) rfl
theorem q1621 : (Jvm.Cond.lays "TurningWheel$OutOfRange" "java/lang/Throwable" "cause" "Ljava/lang/Throwable;") ∈ lw_all := lw_g (lw_at lw_m7 98 rfl) rfl
theorem q1622 : (Jvm.Cond.lays "TurningWheel$OutOfRange" "java/lang/Throwable" "stackTrace" "[Ljava/lang/StackTraceElement;") ∈ lw_all := lw_g (lw_at lw_m7 99 rfl) rfl
theorem q1623 : (Jvm.Cond.lays "TurningWheel$OutOfRange" "java/lang/Throwable" "suppressedExceptions" "Ljava/util/List;") ∈ lw_all := lw_g (lw_at lw_m7 100 rfl) rfl
theorem q1624 : (Jvm.Cond.lays "TurningWheel$OutOfRange" "java/lang/Throwable" "detailMessage" "Ljava/lang/String;") ∈ lw_all := lw_g (lw_at lw_m7 101 rfl) rfl
theorem q1625 : (Jvm.Cond.lays "TurningWheel$OutOfRange" "java/lang/Throwable" "backtrace" "Ljava/lang/Object;") ∈ lw_all := lw_g (lw_at lw_m7 102 rfl) rfl
theorem q1627 : (Jvm.Cond.instanceMethod ({ cls := "TurningWheel$OutOfRange", name := "<init>", desc := "(I)V" } : Jvm.MethodName)) ∈ lw_all := lw_g (lw_at lw_m7 104 rfl) rfl
theorem q1628 : (Jvm.Cond.code ({ cls := "TurningWheel$OutOfRange", name := "<init>", desc := "(I)V" } : Jvm.MethodName) prog_21_method_1_code (2 : Nat) (Option.none : Option Jvm.ClassFile.FieldType)) ∈ lw_all := lw_g (lw_at lw_m7 105 rfl) rfl
theorem q1629 : (Jvm.Cond.methodLink "TurningWheel$OutOfRange" (1 : Nat) ({ cls := "java/lang/Exception", name := "<init>", desc := "(Ljava/lang/String;Ljava/lang/Throwable;ZZ)V" } : Jvm.MethodName)) ∈ lw_all := lw_g (lw_at lw_m7 106 rfl) rfl
theorem q1630 : (Jvm.Cond.fieldLink "TurningWheel$OutOfRange" (7 : Nat) "TurningWheel$OutOfRange" "place" "I") ∈ lw_all := lw_g (lw_at lw_m7 107 rfl) rfl
theorem q1632 : (Jvm.Cond.laysFinal "TurningWheel$OutOfRange" "TurningWheel$OutOfRange" "place" "I") ∈ lw_all := lw_g (lw_at lw_m7 109 rfl) rfl
theorem q1633 : (Jvm.Cond.soleField "TurningWheel$OutOfRange" "place") ∈ lw_all := lw_g (lw_at lw_m7 110 rfl) rfl
theorem q1634 : (Jvm.Cond.lays "TurningWheel$OutOfRange" "java/lang/Throwable" "depth" "I") ∈ lw_all := lw_g (lw_at lw_m7 111 rfl) rfl
theorem q1635 : (Jvm.Cond.superclass "TurningWheel$OutOfRange" "java/lang/Exception") ∈ lw_all := lw_g (lw_at lw_m7 112 rfl) rfl
theorem q2575 : (Jvm.Cond.selects "TurningWheel$OutOfRange" ({ cls := "java/lang/Throwable", name := "getCause", desc := "()Ljava/lang/Throwable;" } : Jvm.MethodName) ({ cls := "java/lang/Throwable", name := "getCause", desc := "()Ljava/lang/Throwable;" } : Jvm.MethodName)) ∈ lw_all := lw_g (lw_at lw_m11 92 rfl) rfl
theorem q3092 : (Jvm.Cond.castable "TurningWheel$OutOfRange" "java/lang/Object") ∈ lw_tbl := lw_at lw_m13 129 rfl
theorem in_X11 : ∀ w ∈ wsX110, w ∈ lw_all := lw_in wsX110 [1621, 1622, 1623, 1624, 1625, 1634, 1632] (by decide +kernel) (by decide +kernel)

/-! TurningWheel$Coated -/
set_option maxRecDepth 100000
def RX12 : String := "TurningWheel$Coated"
def TX12 : u_T := fun k => match k with
  | 0 => ("TurningWheel$Ware", "pot", "I", true)
  | 1 => ("TurningWheel$Coated", "glaze", "I", true)
  | _ => ("TurningWheel$Coated", "coats", "I", true)
def tyX12 : Nat → FieldType := fun k => match k with
  | 0 => .int
  | 1 => .int
  | _ => .int
abbrev wsX120 : List Cond := u_ws RX12 TX12 3
theorem nmX12 : ∀ a, a < 3 → ∀ b, b < 3 → a ≠ b → (TX12 a).2.1 ≠ (TX12 b).2.1 := by decide +kernel
theorem tyX12_ok : ∀ k, k < 3 → parseFieldDescriptor (TX12 k).2.2.1 = some (tyX12 k) := by decide +kernel
abbrev cX12_init : ByteArray := prog_15_method_1_code
def yX12_init : MethodName := ⟨RX12, "<init>", "(III)V"⟩
def dkwX12_init_0 : List UInt8 := [42, 27, 183, 0, 1, 42, 28, 181, 0, 7, 42, 29, 181, 0, 13, 177]
abbrev dktX12_init_0 : List UInt8 := dkwX12_init_0 ++ []
theorem dksX12_init_0 : cX12_init.data.toList.drop 0 = dktX12_init_0 := by decide +kernel
theorem dX12_init_0 : decode cX12_init 0 = .ok (.aload_n 0, 1) := dk_42 (dk_at dksX12_init_0 0 rfl rfl)
theorem dX12_init_1 : decode cX12_init 1 = .ok (.iload_n 1, 1) := dk_27 (dk_at dksX12_init_0 1 rfl rfl)
theorem dX12_init_2 : decode cX12_init 2 = .ok (.invokespecial 1, 3) := dk_183 0 1 (dk_at dksX12_init_0 2 rfl rfl)
theorem dX12_init_5 : decode cX12_init 5 = .ok (.aload_n 0, 1) := dk_42 (dk_at dksX12_init_0 5 rfl rfl)
theorem dX12_init_6 : decode cX12_init 6 = .ok (.iload_n 2, 1) := dk_28 (dk_at dksX12_init_0 6 rfl rfl)
theorem dX12_init_7 : decode cX12_init 7 = .ok (.putfield 7, 3) := dk_181 0 7 (dk_at dksX12_init_0 7 rfl rfl)
theorem dX12_init_10 : decode cX12_init 10 = .ok (.aload_n 0, 1) := dk_42 (dk_at dksX12_init_0 10 rfl rfl)
theorem dX12_init_11 : decode cX12_init 11 = .ok (.iload_n 3, 1) := dk_29 (dk_at dksX12_init_0 11 rfl rfl)
theorem dX12_init_12 : decode cX12_init 12 = .ok (.putfield 13, 3) := dk_181 0 13 (dk_at dksX12_init_0 12 rfl rfl)
theorem dX12_init_15 : decode cX12_init 15 = .ok (.return_, 1) := dk_177 (dk_at dksX12_init_0 15 rfl rfl)
abbrev cX12_coats : ByteArray := prog_15_method_3_code
def yX12_coats : MethodName := ⟨RX12, "coats", "()I"⟩
theorem dX12_coats_0 : decode cX12_coats 0 = .ok (.aload_n 0, 1) := by decide +kernel
theorem dX12_coats_1 : decode cX12_coats 1 = .ok (.getfield 13, 3) := by decide +kernel
theorem dX12_coats_4 : decode cX12_coats 4 = .ok (.ireturn, 1) := by decide +kernel
abbrev cX12_glaze : ByteArray := prog_15_method_2_code
def yX12_glaze : MethodName := ⟨RX12, "glaze", "()I"⟩
theorem dX12_glaze_0 : decode cX12_glaze 0 = .ok (.aload_n 0, 1) := by decide +kernel
theorem dX12_glaze_1 : decode cX12_glaze 1 = .ok (.getfield 7, 3) := by decide +kernel
theorem dX12_glaze_4 : decode cX12_glaze 4 = .ok (.ireturn, 1) := by decide +kernel
theorem q132 : (Jvm.Cond.initialized "TurningWheel$Coated") ∈ lw_all := lw_g (lw_at lw_m1 49 rfl) rfl
theorem q558 : (Jvm.Cond.selects "TurningWheel$Coated" ({ cls := "java/lang/Object", name := "getClass", desc := "()Ljava/lang/Class;" } : Jvm.MethodName) ({ cls := "java/lang/Object", name := "getClass", desc := "()Ljava/lang/Class;" } : Jvm.MethodName)) ∈ lw_all := lw_g (lw_at lw_m2 235 rfl) rfl
theorem q1663 : (Jvm.Cond.instantiable "TurningWheel$Coated" (3 : Nat)) ∈ lw_all := lw_g (lw_at lw_m7 140 rfl) rfl
theorem q1665 : (Jvm.Cond.instanceMethod ({ cls := "TurningWheel$Coated", name := "<init>", desc := "(III)V" } : Jvm.MethodName)) ∈ lw_all := lw_g (lw_at lw_m7 142 rfl) rfl
theorem q1666 : (Jvm.Cond.code ({ cls := "TurningWheel$Coated", name := "<init>", desc := "(III)V" } : Jvm.MethodName) prog_15_method_1_code (4 : Nat) (Option.none : Option Jvm.ClassFile.FieldType)) ∈ lw_all := lw_g (lw_at lw_m7 143 rfl) rfl
theorem q1667 : (Jvm.Cond.methodLink "TurningWheel$Coated" (1 : Nat) ({ cls := "TurningWheel$Ware", name := "<init>", desc := "(I)V" } : Jvm.MethodName)) ∈ lw_all := lw_g (lw_at lw_m7 144 rfl) rfl
theorem q1668 : (Jvm.Cond.fieldLink "TurningWheel$Coated" (7 : Nat) "TurningWheel$Coated" "glaze" "I") ∈ lw_all := lw_g (lw_at lw_m7 145 rfl) rfl
theorem q1669 : (Jvm.Cond.fieldLink "TurningWheel$Coated" (13 : Nat) "TurningWheel$Coated" "coats" "I") ∈ lw_all := lw_g (lw_at lw_m7 146 rfl) rfl
theorem q1670 : (Jvm.Cond.laysFinal "TurningWheel$Coated" "TurningWheel$Coated" "glaze" "I") ∈ lw_all := lw_g (lw_at lw_m7 147 rfl) rfl
theorem q1671 : (Jvm.Cond.soleField "TurningWheel$Coated" "glaze") ∈ lw_all := lw_g (lw_at lw_m7 148 rfl) rfl
theorem q1672 : (Jvm.Cond.laysFinal "TurningWheel$Coated" "TurningWheel$Coated" "coats" "I") ∈ lw_all := lw_g (lw_at lw_m7 149 rfl) rfl
theorem q1673 : (Jvm.Cond.soleField "TurningWheel$Coated" "coats") ∈ lw_all := lw_g (lw_at lw_m7 150 rfl) rfl
theorem q1674 : (Jvm.Cond.laysFinal "TurningWheel$Coated" "TurningWheel$Ware" "pot" "I") ∈ lw_all := lw_g (lw_at lw_m7 151 rfl) rfl
theorem q1675 : (Jvm.Cond.superclass "TurningWheel$Coated" "TurningWheel$Ware") ∈ lw_all := lw_g (lw_at lw_m7 152 rfl) rfl
theorem q1683 : (Jvm.Cond.selects "TurningWheel$Coated" ({ cls := "TurningWheel$Ware", name := "coats", desc := "()I" } : Jvm.MethodName) ({ cls := "TurningWheel$Coated", name := "coats", desc := "()I" } : Jvm.MethodName)) ∈ lw_all := lw_g (lw_at lw_m7 160 rfl) rfl
theorem q1684 : (Jvm.Cond.instanceMethod ({ cls := "TurningWheel$Coated", name := "coats", desc := "()I" } : Jvm.MethodName)) ∈ lw_all := lw_g (lw_at lw_m7 161 rfl) rfl
theorem q1685 : (Jvm.Cond.code ({ cls := "TurningWheel$Coated", name := "coats", desc := "()I" } : Jvm.MethodName) prog_15_method_3_code (1 : Nat) (Option.some Jvm.ClassFile.FieldType.int)) ∈ lw_all := lw_g (lw_at lw_m7 162 rfl) rfl
theorem q1692 : (Jvm.Cond.selects "TurningWheel$Coated" ({ cls := "TurningWheel$Ware", name := "glaze", desc := "()I" } : Jvm.MethodName) ({ cls := "TurningWheel$Coated", name := "glaze", desc := "()I" } : Jvm.MethodName)) ∈ lw_all := lw_g (lw_at lw_m7 169 rfl) rfl
theorem q1693 : (Jvm.Cond.instanceMethod ({ cls := "TurningWheel$Coated", name := "glaze", desc := "()I" } : Jvm.MethodName)) ∈ lw_all := lw_g (lw_at lw_m7 170 rfl) rfl
theorem q1694 : (Jvm.Cond.code ({ cls := "TurningWheel$Coated", name := "glaze", desc := "()I" } : Jvm.MethodName) prog_15_method_2_code (1 : Nat) (Option.some Jvm.ClassFile.FieldType.int)) ∈ lw_all := lw_g (lw_at lw_m7 171 rfl) rfl
theorem q1740 : (Jvm.Cond.selects "TurningWheel$Coated" ({ cls := "TurningWheel$Ware", name := "pot", desc := "()I" } : Jvm.MethodName) ({ cls := "TurningWheel$Ware", name := "pot", desc := "()I" } : Jvm.MethodName)) ∈ lw_all := lw_g (lw_at lw_m7 217 rfl) rfl
theorem q3040 : (Jvm.Cond.castable "TurningWheel$Coated" "java/lang/Object") ∈ lw_tbl := lw_at lw_m13 77 rfl
theorem q3042 : (Jvm.Cond.castable "TurningWheel$Coated" "TurningWheel$Ware") ∈ lw_tbl := lw_at lw_m13 79 rfl
theorem in_X12 : ∀ w ∈ wsX120, w ∈ lw_all := lw_in wsX120 [1674, 1670, 1672] (by decide +kernel) (by decide +kernel)

/-! TurningWheel$2 -/
set_option maxRecDepth 100000
def RX13 : String := "TurningWheel$2"
def TX13 : u_T := fun k => match k with
  | 0 => ("TurningWheel$Deed", "this$0", "LTurningWheel;", true)
  | 1 => ("TurningWheel$2", "val$hour", "I", true)
  | 2 => ("TurningWheel$2", "val$value", "I", true)
  | _ => ("TurningWheel$2", "this$0", "LTurningWheel;", true)
def tyX13 : Nat → FieldType := fun k => match k with
  | 0 => .object "TurningWheel"
  | 1 => .int
  | 2 => .int
  | _ => .object "TurningWheel"
abbrev wsX130 : List Cond := u_ws RX13 TX13 4
-- two fields of one name: no nmX13
theorem tyX13_ok : ∀ k, k < 4 → parseFieldDescriptor (TX13 k).2.2.1 = some (tyX13 k) := by decide +kernel
abbrev cX13_does : ByteArray := prog_5_method_2_code
def yX13_does : MethodName := ⟨RX13, "does", "(LTurningWheel$Pottery;)I"⟩
def dkwX13_does_1 : List UInt8 := [172]
abbrev dktX13_does_1 : List UInt8 := dkwX13_does_1 ++ []
def dkwX13_does_0 : List UInt8 := [43, 180, 0, 20, 42, 180, 0, 7, 46, 61, 43, 180, 0, 20, 42, 180, 0, 7, 42, 180, 0, 11, 79, 28]
abbrev dktX13_does_0 : List UInt8 := dkwX13_does_0 ++ dktX13_does_1
theorem dksX13_does_0 : cX13_does.data.toList.drop 0 = dktX13_does_0 := by decide +kernel
theorem dksX13_does_1 : cX13_does.data.toList.drop 24 = dktX13_does_1 := dk_seg dksX13_does_0 24 rfl rfl
theorem dX13_does_0 : decode cX13_does 0 = .ok (.aload_n 1, 1) := dk_43 (dk_at dksX13_does_0 0 rfl rfl)
theorem dX13_does_1 : decode cX13_does 1 = .ok (.getfield 20, 3) := dk_180 0 20 (dk_at dksX13_does_0 1 rfl rfl)
theorem dX13_does_4 : decode cX13_does 4 = .ok (.aload_n 0, 1) := dk_42 (dk_at dksX13_does_0 4 rfl rfl)
theorem dX13_does_5 : decode cX13_does 5 = .ok (.getfield 7, 3) := dk_180 0 7 (dk_at dksX13_does_0 5 rfl rfl)
theorem dX13_does_8 : decode cX13_does 8 = .ok (.iaload, 1) := dk_46 (dk_at dksX13_does_0 8 rfl rfl)
theorem dX13_does_9 : decode cX13_does 9 = .ok (.istore_n 2, 1) := dk_61 (dk_at dksX13_does_0 9 rfl rfl)
theorem dX13_does_10 : decode cX13_does 10 = .ok (.aload_n 1, 1) := dk_43 (dk_at dksX13_does_0 10 rfl rfl)
theorem dX13_does_11 : decode cX13_does 11 = .ok (.getfield 20, 3) := dk_180 0 20 (dk_at dksX13_does_0 11 rfl rfl)
theorem dX13_does_14 : decode cX13_does 14 = .ok (.aload_n 0, 1) := dk_42 (dk_at dksX13_does_0 14 rfl rfl)
theorem dX13_does_15 : decode cX13_does 15 = .ok (.getfield 7, 3) := dk_180 0 7 (dk_at dksX13_does_0 15 rfl rfl)
theorem dX13_does_18 : decode cX13_does 18 = .ok (.aload_n 0, 1) := dk_42 (dk_at dksX13_does_0 18 rfl rfl)
theorem dX13_does_19 : decode cX13_does 19 = .ok (.getfield 11, 3) := dk_180 0 11 (dk_at dksX13_does_0 19 rfl rfl)
theorem dX13_does_22 : decode cX13_does 22 = .ok (.iastore, 1) := dk_79 (dk_at dksX13_does_0 22 rfl rfl)
theorem dX13_does_23 : decode cX13_does 23 = .ok (.iload_n 2, 1) := dk_28 (dk_at dksX13_does_0 23 rfl rfl)
theorem dX13_does_24 : decode cX13_does 24 = .ok (.ireturn, 1) := dk_172 (dk_at dksX13_does_1 0 rfl rfl)
abbrev cX13_init : ByteArray := prog_5_method_1_code
def yX13_init : MethodName := ⟨RX13, "<init>", "(LTurningWheel;II)V"⟩
def dkwX13_init_0 : List UInt8 := [42, 43, 181, 0, 1, 42, 28, 181, 0, 7, 42, 29, 181, 0, 11, 42, 43, 183, 0, 14, 177]
abbrev dktX13_init_0 : List UInt8 := dkwX13_init_0 ++ []
theorem dksX13_init_0 : cX13_init.data.toList.drop 0 = dktX13_init_0 := by decide +kernel
theorem dX13_init_0 : decode cX13_init 0 = .ok (.aload_n 0, 1) := dk_42 (dk_at dksX13_init_0 0 rfl rfl)
theorem dX13_init_1 : decode cX13_init 1 = .ok (.aload_n 1, 1) := dk_43 (dk_at dksX13_init_0 1 rfl rfl)
theorem dX13_init_2 : decode cX13_init 2 = .ok (.putfield 1, 3) := dk_181 0 1 (dk_at dksX13_init_0 2 rfl rfl)
theorem dX13_init_5 : decode cX13_init 5 = .ok (.aload_n 0, 1) := dk_42 (dk_at dksX13_init_0 5 rfl rfl)
theorem dX13_init_6 : decode cX13_init 6 = .ok (.iload_n 2, 1) := dk_28 (dk_at dksX13_init_0 6 rfl rfl)
theorem dX13_init_7 : decode cX13_init 7 = .ok (.putfield 7, 3) := dk_181 0 7 (dk_at dksX13_init_0 7 rfl rfl)
theorem dX13_init_10 : decode cX13_init 10 = .ok (.aload_n 0, 1) := dk_42 (dk_at dksX13_init_0 10 rfl rfl)
theorem dX13_init_11 : decode cX13_init 11 = .ok (.iload_n 3, 1) := dk_29 (dk_at dksX13_init_0 11 rfl rfl)
theorem dX13_init_12 : decode cX13_init 12 = .ok (.putfield 11, 3) := dk_181 0 11 (dk_at dksX13_init_0 12 rfl rfl)
theorem dX13_init_15 : decode cX13_init 15 = .ok (.aload_n 0, 1) := dk_42 (dk_at dksX13_init_0 15 rfl rfl)
theorem dX13_init_16 : decode cX13_init 16 = .ok (.aload_n 1, 1) := dk_43 (dk_at dksX13_init_0 16 rfl rfl)
theorem dX13_init_17 : decode cX13_init 17 = .ok (.invokespecial 14, 3) := dk_183 0 14 (dk_at dksX13_init_0 17 rfl rfl)
theorem dX13_init_20 : decode cX13_init 20 = .ok (.return_, 1) := dk_177 (dk_at dksX13_init_0 20 rfl rfl)
theorem q136 : (Jvm.Cond.initialized "TurningWheel$2") ∈ lw_all := lw_g (lw_at lw_m1 53 rfl) rfl
theorem q249 : (Jvm.Cond.fieldLinkNest "TurningWheel$2" (20 : Nat) "TurningWheel$Pottery" "dryness" "[I" "TurningWheel") ∈ lw_tbl := lw_at lw_m1 166 rfl
theorem q548 : (Jvm.Cond.selects "TurningWheel$2" ({ cls := "java/lang/Object", name := "getClass", desc := "()Ljava/lang/Class;" } : Jvm.MethodName) ({ cls := "java/lang/Object", name := "getClass", desc := "()Ljava/lang/Class;" } : Jvm.MethodName)) ∈ lw_all := lw_g (lw_at lw_m2 225 rfl) rfl
theorem q1892 : (Jvm.Cond.selects "TurningWheel$2" ({ cls := "TurningWheel$Deed", name := "does", desc := "(LTurningWheel$Pottery;)I" } : Jvm.MethodName) ({ cls := "TurningWheel$2", name := "does", desc := "(LTurningWheel$Pottery;)I" } : Jvm.MethodName)) ∈ lw_all := lw_g (lw_at lw_m8 129 rfl) rfl
theorem q1893 : (Jvm.Cond.instanceMethod ({ cls := "TurningWheel$2", name := "does", desc := "(LTurningWheel$Pottery;)I" } : Jvm.MethodName)) ∈ lw_all := lw_g (lw_at lw_m8 130 rfl) rfl
theorem q1894 : (Jvm.Cond.code ({ cls := "TurningWheel$2", name := "does", desc := "(LTurningWheel$Pottery;)I" } : Jvm.MethodName) prog_5_method_2_code (3 : Nat) (Option.some Jvm.ClassFile.FieldType.int)) ∈ lw_all := lw_g (lw_at lw_m8 131 rfl) rfl
theorem q1972 : (Jvm.Cond.instantiable "TurningWheel$2" (4 : Nat)) ∈ lw_all := lw_g (lw_at lw_m8 209 rfl) rfl
theorem q1974 : (Jvm.Cond.instanceMethod ({ cls := "TurningWheel$2", name := "<init>", desc := "(LTurningWheel;II)V" } : Jvm.MethodName)) ∈ lw_all := lw_g (lw_at lw_m8 211 rfl) rfl
theorem q1975 : (Jvm.Cond.code ({ cls := "TurningWheel$2", name := "<init>", desc := "(LTurningWheel;II)V" } : Jvm.MethodName) prog_5_method_1_code (4 : Nat) (Option.none : Option Jvm.ClassFile.FieldType)) ∈ lw_all := lw_g (lw_at lw_m8 212 rfl) rfl
theorem q1976 : (Jvm.Cond.methodLinkNest "TurningWheel$2" (14 : Nat) ({ cls := "TurningWheel$Deed", name := "<init>", desc := "(LTurningWheel;)V" } : Jvm.MethodName) "TurningWheel") ∈ lw_tbl := lw_at lw_m8 213 rfl
theorem q1977 : (Jvm.Cond.fieldLink "TurningWheel$2" (7 : Nat) "TurningWheel$2" "val$hour" "I") ∈ lw_all := lw_g (lw_at lw_m8 214 rfl) rfl
theorem q1978 : (Jvm.Cond.fieldLink "TurningWheel$2" (11 : Nat) "TurningWheel$2" "val$value" "I") ∈ lw_all := lw_g (lw_at lw_m8 215 rfl) rfl
theorem q1979 : (Jvm.Cond.fieldLink "TurningWheel$2" (1 : Nat) "TurningWheel$2" "this$0" "LTurningWheel;") ∈ lw_all := lw_g (lw_at lw_m8 216 rfl) rfl
theorem q1980 : (Jvm.Cond.laysFinal "TurningWheel$2" "TurningWheel$2" "val$hour" "I") ∈ lw_all := lw_g (lw_at lw_m8 217 rfl) rfl
theorem q1981 : (Jvm.Cond.soleField "TurningWheel$2" "val$hour") ∈ lw_all := lw_g (lw_at lw_m8 218 rfl) rfl
theorem q1982 : (Jvm.Cond.laysFinal "TurningWheel$2" "TurningWheel$2" "val$value" "I") ∈ lw_all := lw_g (lw_at lw_m8 219 rfl) rfl
theorem q1983 : (Jvm.Cond.soleField "TurningWheel$2" "val$value") ∈ lw_all := lw_g (lw_at lw_m8 220 rfl) rfl
theorem q1984 : (Jvm.Cond.laysFinal "TurningWheel$2" "TurningWheel$2" "this$0" "LTurningWheel;") ∈ lw_all := lw_g (lw_at lw_m8 221 rfl) rfl
theorem q1985 : (Jvm.Cond.soleField "TurningWheel$2" "this$0") ∈ lw_all := lw_g (lw_at lw_m8 222 rfl) rfl
theorem q1986 : (Jvm.Cond.laysFinal "TurningWheel$2" "TurningWheel$Deed" "this$0" "LTurningWheel;") ∈ lw_all := lw_g (lw_at lw_m8 223 rfl) rfl
theorem q1987 : (Jvm.Cond.superclass "TurningWheel$2" "TurningWheel$Deed") ∈ lw_all := lw_g (lw_at lw_m8 224 rfl) rfl
theorem q1989 : (Jvm.Cond.sameMethod "TurningWheel$2" "TurningWheel$Deed" "done" "()I") ∈ lw_all := lw_g (lw_at lw_m8 226 rfl) rfl
theorem q1990 : (Jvm.Cond.selects "TurningWheel$2" ({ cls := "TurningWheel$2", name := "done", desc := "()I" } : Jvm.MethodName) ({ cls := "TurningWheel$Deed", name := "done", desc := "()I" } : Jvm.MethodName)) ∈ lw_all := lw_g (lw_at lw_m8 227 rfl) rfl
theorem q3062 : (Jvm.Cond.castable "TurningWheel$2" "java/lang/Object") ∈ lw_tbl := lw_at lw_m13 99 rfl
theorem in_X13 : ∀ w ∈ wsX130, w ∈ lw_all := lw_in wsX130 [1986, 1980, 1982, 1984] (by decide +kernel) (by decide +kernel)

/-! TurningWheel$3 -/
set_option maxRecDepth 100000
def RX14 : String := "TurningWheel$3"
def TX14 : u_T := fun k => match k with
  | 0 => ("TurningWheel$Deed", "this$0", "LTurningWheel;", true)
  | 1 => ("TurningWheel$3", "val$skill", "I", true)
  | _ => ("TurningWheel$3", "this$0", "LTurningWheel;", true)
def tyX14 : Nat → FieldType := fun k => match k with
  | 0 => .object "TurningWheel"
  | 1 => .int
  | _ => .object "TurningWheel"
abbrev wsX140 : List Cond := u_ws RX14 TX14 3
-- two fields of one name: no nmX14
theorem tyX14_ok : ∀ k, k < 3 → parseFieldDescriptor (TX14 k).2.2.1 = some (tyX14 k) := by decide +kernel
abbrev cX14_does : ByteArray := prog_6_method_2_code
def yX14_does : MethodName := ⟨RX14, "does", "(LTurningWheel$Pottery;)I"⟩
def dkwX14_does_0 : List UInt8 := [43, 42, 180, 0, 7, 182, 0, 17, 172]
abbrev dktX14_does_0 : List UInt8 := dkwX14_does_0 ++ []
theorem dksX14_does_0 : cX14_does.data.toList.drop 0 = dktX14_does_0 := by decide +kernel
theorem dX14_does_0 : decode cX14_does 0 = .ok (.aload_n 1, 1) := dk_43 (dk_at dksX14_does_0 0 rfl rfl)
theorem dX14_does_1 : decode cX14_does 1 = .ok (.aload_n 0, 1) := dk_42 (dk_at dksX14_does_0 1 rfl rfl)
theorem dX14_does_2 : decode cX14_does 2 = .ok (.getfield 7, 3) := dk_180 0 7 (dk_at dksX14_does_0 2 rfl rfl)
theorem dX14_does_5 : decode cX14_does 5 = .ok (.invokevirtual 17, 3) := dk_182 0 17 (dk_at dksX14_does_0 5 rfl rfl)
theorem dX14_does_8 : decode cX14_does 8 = .ok (.ireturn, 1) := dk_172 (dk_at dksX14_does_0 8 rfl rfl)
abbrev cX14_init : ByteArray := prog_6_method_1_code
def yX14_init : MethodName := ⟨RX14, "<init>", "(LTurningWheel;I)V"⟩
def dkwX14_init_0 : List UInt8 := [42, 43, 181, 0, 1, 42, 28, 181, 0, 7, 42, 43, 183, 0, 11, 177]
abbrev dktX14_init_0 : List UInt8 := dkwX14_init_0 ++ []
theorem dksX14_init_0 : cX14_init.data.toList.drop 0 = dktX14_init_0 := by decide +kernel
theorem dX14_init_0 : decode cX14_init 0 = .ok (.aload_n 0, 1) := dk_42 (dk_at dksX14_init_0 0 rfl rfl)
theorem dX14_init_1 : decode cX14_init 1 = .ok (.aload_n 1, 1) := dk_43 (dk_at dksX14_init_0 1 rfl rfl)
theorem dX14_init_2 : decode cX14_init 2 = .ok (.putfield 1, 3) := dk_181 0 1 (dk_at dksX14_init_0 2 rfl rfl)
theorem dX14_init_5 : decode cX14_init 5 = .ok (.aload_n 0, 1) := dk_42 (dk_at dksX14_init_0 5 rfl rfl)
theorem dX14_init_6 : decode cX14_init 6 = .ok (.iload_n 2, 1) := dk_28 (dk_at dksX14_init_0 6 rfl rfl)
theorem dX14_init_7 : decode cX14_init 7 = .ok (.putfield 7, 3) := dk_181 0 7 (dk_at dksX14_init_0 7 rfl rfl)
theorem dX14_init_10 : decode cX14_init 10 = .ok (.aload_n 0, 1) := dk_42 (dk_at dksX14_init_0 10 rfl rfl)
theorem dX14_init_11 : decode cX14_init 11 = .ok (.aload_n 1, 1) := dk_43 (dk_at dksX14_init_0 11 rfl rfl)
theorem dX14_init_12 : decode cX14_init 12 = .ok (.invokespecial 11, 3) := dk_183 0 11 (dk_at dksX14_init_0 12 rfl rfl)
theorem dX14_init_15 : decode cX14_init 15 = .ok (.return_, 1) := dk_177 (dk_at dksX14_init_0 15 rfl rfl)
theorem q137 : (Jvm.Cond.initialized "TurningWheel$3") ∈ lw_all := lw_g (lw_at lw_m1 54 rfl) rfl
theorem q549 : (Jvm.Cond.selects "TurningWheel$3" ({ cls := "java/lang/Object", name := "getClass", desc := "()Ljava/lang/Class;" } : Jvm.MethodName) ({ cls := "java/lang/Object", name := "getClass", desc := "()Ljava/lang/Class;" } : Jvm.MethodName)) ∈ lw_all := lw_g (lw_at lw_m2 226 rfl) rfl
theorem q1895 : (Jvm.Cond.selects "TurningWheel$3" ({ cls := "TurningWheel$Deed", name := "does", desc := "(LTurningWheel$Pottery;)I" } : Jvm.MethodName) ({ cls := "TurningWheel$3", name := "does", desc := "(LTurningWheel$Pottery;)I" } : Jvm.MethodName)) ∈ lw_all := lw_g (lw_at lw_m8 132 rfl) rfl
theorem q1896 : (Jvm.Cond.instanceMethod ({ cls := "TurningWheel$3", name := "does", desc := "(LTurningWheel$Pottery;)I" } : Jvm.MethodName)) ∈ lw_all := lw_g (lw_at lw_m8 133 rfl) rfl
theorem q1897 : (Jvm.Cond.code ({ cls := "TurningWheel$3", name := "does", desc := "(LTurningWheel$Pottery;)I" } : Jvm.MethodName) prog_6_method_2_code (2 : Nat) (Option.some Jvm.ClassFile.FieldType.int)) ∈ lw_all := lw_g (lw_at lw_m8 134 rfl) rfl
theorem q1898 : (Jvm.Cond.methodLink "TurningWheel$3" (17 : Nat) ({ cls := "TurningWheel$Pottery", name := "addsPotter", desc := "(I)I" } : Jvm.MethodName)) ∈ lw_all := lw_g (lw_at lw_m8 135 rfl) rfl
theorem q2000 : (Jvm.Cond.instantiable "TurningWheel$3" (3 : Nat)) ∈ lw_all := lw_g (lw_at lw_m8 237 rfl) rfl
theorem q2002 : (Jvm.Cond.instanceMethod ({ cls := "TurningWheel$3", name := "<init>", desc := "(LTurningWheel;I)V" } : Jvm.MethodName)) ∈ lw_all := lw_g (lw_at lw_m8 239 rfl) rfl
theorem q2003 : (Jvm.Cond.code ({ cls := "TurningWheel$3", name := "<init>", desc := "(LTurningWheel;I)V" } : Jvm.MethodName) prog_6_method_1_code (3 : Nat) (Option.none : Option Jvm.ClassFile.FieldType)) ∈ lw_all := lw_g (lw_at lw_m9 0 rfl) rfl
theorem q2004 : (Jvm.Cond.methodLinkNest "TurningWheel$3" (11 : Nat) ({ cls := "TurningWheel$Deed", name := "<init>", desc := "(LTurningWheel;)V" } : Jvm.MethodName) "TurningWheel") ∈ lw_tbl := lw_at lw_m9 1 rfl
theorem q2005 : (Jvm.Cond.fieldLink "TurningWheel$3" (7 : Nat) "TurningWheel$3" "val$skill" "I") ∈ lw_all := lw_g (lw_at lw_m9 2 rfl) rfl
theorem q2006 : (Jvm.Cond.fieldLink "TurningWheel$3" (1 : Nat) "TurningWheel$3" "this$0" "LTurningWheel;") ∈ lw_all := lw_g (lw_at lw_m9 3 rfl) rfl
theorem q2007 : (Jvm.Cond.laysFinal "TurningWheel$3" "TurningWheel$3" "val$skill" "I") ∈ lw_all := lw_g (lw_at lw_m9 4 rfl) rfl
theorem q2008 : (Jvm.Cond.soleField "TurningWheel$3" "val$skill") ∈ lw_all := lw_g (lw_at lw_m9 5 rfl) rfl
theorem q2009 : (Jvm.Cond.laysFinal "TurningWheel$3" "TurningWheel$3" "this$0" "LTurningWheel;") ∈ lw_all := lw_g (lw_at lw_m9 6 rfl) rfl
theorem q2010 : (Jvm.Cond.soleField "TurningWheel$3" "this$0") ∈ lw_all := lw_g (lw_at lw_m9 7 rfl) rfl
theorem q2011 : (Jvm.Cond.laysFinal "TurningWheel$3" "TurningWheel$Deed" "this$0" "LTurningWheel;") ∈ lw_all := lw_g (lw_at lw_m9 8 rfl) rfl
theorem q2012 : (Jvm.Cond.superclass "TurningWheel$3" "TurningWheel$Deed") ∈ lw_all := lw_g (lw_at lw_m9 9 rfl) rfl
theorem q2014 : (Jvm.Cond.sameMethod "TurningWheel$3" "TurningWheel$Deed" "done" "()I") ∈ lw_all := lw_g (lw_at lw_m9 11 rfl) rfl
theorem q2015 : (Jvm.Cond.selects "TurningWheel$3" ({ cls := "TurningWheel$3", name := "done", desc := "()I" } : Jvm.MethodName) ({ cls := "TurningWheel$Deed", name := "done", desc := "()I" } : Jvm.MethodName)) ∈ lw_all := lw_g (lw_at lw_m9 12 rfl) rfl
theorem q3063 : (Jvm.Cond.castable "TurningWheel$3" "java/lang/Object") ∈ lw_tbl := lw_at lw_m13 100 rfl
theorem in_X14 : ∀ w ∈ wsX140, w ∈ lw_all := lw_in wsX140 [2011, 2007, 2009] (by decide +kernel) (by decide +kernel)

/-! TurningWheel$4 -/
set_option maxRecDepth 100000
def RX15 : String := "TurningWheel$4"
def TX15 : u_T := fun k => match k with
  | 0 => ("TurningWheel$Deed", "this$0", "LTurningWheel;", true)
  | 1 => ("TurningWheel$4", "val$potter", "I", true)
  | 2 => ("TurningWheel$4", "val$weight", "I", true)
  | 3 => ("TurningWheel$4", "val$rim", "I", true)
  | _ => ("TurningWheel$4", "this$0", "LTurningWheel;", true)
def tyX15 : Nat → FieldType := fun k => match k with
  | 0 => .object "TurningWheel"
  | 1 => .int
  | 2 => .int
  | 3 => .int
  | _ => .object "TurningWheel"
abbrev wsX150 : List Cond := u_ws RX15 TX15 5
-- two fields of one name: no nmX15
theorem tyX15_ok : ∀ k, k < 5 → parseFieldDescriptor (TX15 k).2.2.1 = some (tyX15 k) := by decide +kernel
abbrev cX15_does : ByteArray := prog_7_method_2_code
def yX15_does : MethodName := ⟨RX15, "does", "(LTurningWheel$Pottery;)I"⟩
def dkwX15_does_0 : List UInt8 := [43, 42, 180, 0, 7, 42, 180, 0, 11, 42, 180, 0, 14, 182, 0, 23, 172]
abbrev dktX15_does_0 : List UInt8 := dkwX15_does_0 ++ []
theorem dksX15_does_0 : cX15_does.data.toList.drop 0 = dktX15_does_0 := by decide +kernel
theorem dX15_does_0 : decode cX15_does 0 = .ok (.aload_n 1, 1) := dk_43 (dk_at dksX15_does_0 0 rfl rfl)
theorem dX15_does_1 : decode cX15_does 1 = .ok (.aload_n 0, 1) := dk_42 (dk_at dksX15_does_0 1 rfl rfl)
theorem dX15_does_2 : decode cX15_does 2 = .ok (.getfield 7, 3) := dk_180 0 7 (dk_at dksX15_does_0 2 rfl rfl)
theorem dX15_does_5 : decode cX15_does 5 = .ok (.aload_n 0, 1) := dk_42 (dk_at dksX15_does_0 5 rfl rfl)
theorem dX15_does_6 : decode cX15_does 6 = .ok (.getfield 11, 3) := dk_180 0 11 (dk_at dksX15_does_0 6 rfl rfl)
theorem dX15_does_9 : decode cX15_does 9 = .ok (.aload_n 0, 1) := dk_42 (dk_at dksX15_does_0 9 rfl rfl)
theorem dX15_does_10 : decode cX15_does 10 = .ok (.getfield 14, 3) := dk_180 0 14 (dk_at dksX15_does_0 10 rfl rfl)
theorem dX15_does_13 : decode cX15_does 13 = .ok (.invokevirtual 23, 3) := dk_182 0 23 (dk_at dksX15_does_0 13 rfl rfl)
theorem dX15_does_16 : decode cX15_does 16 = .ok (.ireturn, 1) := dk_172 (dk_at dksX15_does_0 16 rfl rfl)
abbrev cX15_init : ByteArray := prog_7_method_1_code
def yX15_init : MethodName := ⟨RX15, "<init>", "(LTurningWheel;III)V"⟩
def dkwX15_init_1 : List UInt8 := [183, 0, 17, 177]
abbrev dktX15_init_1 : List UInt8 := dkwX15_init_1 ++ []
def dkwX15_init_0 : List UInt8 := [42, 43, 181, 0, 1, 42, 28, 181, 0, 7, 42, 29, 181, 0, 11, 42, 21, 4, 181, 0, 14, 42, 43]
abbrev dktX15_init_0 : List UInt8 := dkwX15_init_0 ++ dktX15_init_1
theorem dksX15_init_0 : cX15_init.data.toList.drop 0 = dktX15_init_0 := by decide +kernel
theorem dksX15_init_1 : cX15_init.data.toList.drop 23 = dktX15_init_1 := dk_seg dksX15_init_0 23 rfl rfl
theorem dX15_init_0 : decode cX15_init 0 = .ok (.aload_n 0, 1) := dk_42 (dk_at dksX15_init_0 0 rfl rfl)
theorem dX15_init_1 : decode cX15_init 1 = .ok (.aload_n 1, 1) := dk_43 (dk_at dksX15_init_0 1 rfl rfl)
theorem dX15_init_2 : decode cX15_init 2 = .ok (.putfield 1, 3) := dk_181 0 1 (dk_at dksX15_init_0 2 rfl rfl)
theorem dX15_init_5 : decode cX15_init 5 = .ok (.aload_n 0, 1) := dk_42 (dk_at dksX15_init_0 5 rfl rfl)
theorem dX15_init_6 : decode cX15_init 6 = .ok (.iload_n 2, 1) := dk_28 (dk_at dksX15_init_0 6 rfl rfl)
theorem dX15_init_7 : decode cX15_init 7 = .ok (.putfield 7, 3) := dk_181 0 7 (dk_at dksX15_init_0 7 rfl rfl)
theorem dX15_init_10 : decode cX15_init 10 = .ok (.aload_n 0, 1) := dk_42 (dk_at dksX15_init_0 10 rfl rfl)
theorem dX15_init_11 : decode cX15_init 11 = .ok (.iload_n 3, 1) := dk_29 (dk_at dksX15_init_0 11 rfl rfl)
theorem dX15_init_12 : decode cX15_init 12 = .ok (.putfield 11, 3) := dk_181 0 11 (dk_at dksX15_init_0 12 rfl rfl)
theorem dX15_init_15 : decode cX15_init 15 = .ok (.aload_n 0, 1) := dk_42 (dk_at dksX15_init_0 15 rfl rfl)
theorem dX15_init_16 : decode cX15_init 16 = .ok (.iload 4, 2) := dk_21 4 (dk_at dksX15_init_0 16 rfl rfl)
theorem dX15_init_18 : decode cX15_init 18 = .ok (.putfield 14, 3) := dk_181 0 14 (dk_at dksX15_init_0 18 rfl rfl)
theorem dX15_init_21 : decode cX15_init 21 = .ok (.aload_n 0, 1) := dk_42 (dk_at dksX15_init_0 21 rfl rfl)
theorem dX15_init_22 : decode cX15_init 22 = .ok (.aload_n 1, 1) := dk_43 (dk_at dksX15_init_0 22 rfl rfl)
theorem dX15_init_23 : decode cX15_init 23 = .ok (.invokespecial 17, 3) := dk_183 0 17 (dk_at dksX15_init_1 0 rfl rfl)
theorem dX15_init_26 : decode cX15_init 26 = .ok (.return_, 1) := dk_177 (dk_at dksX15_init_1 3 rfl rfl)
theorem q138 : (Jvm.Cond.initialized "TurningWheel$4") ∈ lw_all := lw_g (lw_at lw_m1 55 rfl) rfl
theorem q550 : (Jvm.Cond.selects "TurningWheel$4" ({ cls := "java/lang/Object", name := "getClass", desc := "()Ljava/lang/Class;" } : Jvm.MethodName) ({ cls := "java/lang/Object", name := "getClass", desc := "()Ljava/lang/Class;" } : Jvm.MethodName)) ∈ lw_all := lw_g (lw_at lw_m2 227 rfl) rfl
theorem q1903 : (Jvm.Cond.selects "TurningWheel$4" ({ cls := "TurningWheel$Deed", name := "does", desc := "(LTurningWheel$Pottery;)I" } : Jvm.MethodName) ({ cls := "TurningWheel$4", name := "does", desc := "(LTurningWheel$Pottery;)I" } : Jvm.MethodName)) ∈ lw_all := lw_g (lw_at lw_m8 140 rfl) rfl
theorem q1904 : (Jvm.Cond.instanceMethod ({ cls := "TurningWheel$4", name := "does", desc := "(LTurningWheel$Pottery;)I" } : Jvm.MethodName)) ∈ lw_all := lw_g (lw_at lw_m8 141 rfl) rfl
theorem q1905 : (Jvm.Cond.code ({ cls := "TurningWheel$4", name := "does", desc := "(LTurningWheel$Pottery;)I" } : Jvm.MethodName) prog_7_method_2_code (2 : Nat) (Option.some Jvm.ClassFile.FieldType.int)) ∈ lw_all := lw_g (lw_at lw_m8 142 rfl) rfl
theorem q1906 : (Jvm.Cond.methodLink "TurningWheel$4" (23 : Nat) ({ cls := "TurningWheel$Pottery", name := "addsPot", desc := "(III)I" } : Jvm.MethodName)) ∈ lw_all := lw_g (lw_at lw_m8 143 rfl) rfl
theorem q2021 : (Jvm.Cond.instantiable "TurningWheel$4" (5 : Nat)) ∈ lw_all := lw_g (lw_at lw_m9 18 rfl) rfl
theorem q2023 : (Jvm.Cond.instanceMethod ({ cls := "TurningWheel$4", name := "<init>", desc := "(LTurningWheel;III)V" } : Jvm.MethodName)) ∈ lw_all := lw_g (lw_at lw_m9 20 rfl) rfl
theorem q2024 : (Jvm.Cond.code ({ cls := "TurningWheel$4", name := "<init>", desc := "(LTurningWheel;III)V" } : Jvm.MethodName) prog_7_method_1_code (5 : Nat) (Option.none : Option Jvm.ClassFile.FieldType)) ∈ lw_all := lw_g (lw_at lw_m9 21 rfl) rfl
theorem q2025 : (Jvm.Cond.methodLinkNest "TurningWheel$4" (17 : Nat) ({ cls := "TurningWheel$Deed", name := "<init>", desc := "(LTurningWheel;)V" } : Jvm.MethodName) "TurningWheel") ∈ lw_tbl := lw_at lw_m9 22 rfl
theorem q2026 : (Jvm.Cond.fieldLink "TurningWheel$4" (7 : Nat) "TurningWheel$4" "val$potter" "I") ∈ lw_all := lw_g (lw_at lw_m9 23 rfl) rfl
theorem q2027 : (Jvm.Cond.fieldLink "TurningWheel$4" (11 : Nat) "TurningWheel$4" "val$weight" "I") ∈ lw_all := lw_g (lw_at lw_m9 24 rfl) rfl
theorem q2028 : (Jvm.Cond.fieldLink "TurningWheel$4" (14 : Nat) "TurningWheel$4" "val$rim" "I") ∈ lw_all := lw_g (lw_at lw_m9 25 rfl) rfl
theorem q2029 : (Jvm.Cond.fieldLink "TurningWheel$4" (1 : Nat) "TurningWheel$4" "this$0" "LTurningWheel;") ∈ lw_all := lw_g (lw_at lw_m9 26 rfl) rfl
theorem q2030 : (Jvm.Cond.laysFinal "TurningWheel$4" "TurningWheel$4" "val$potter" "I") ∈ lw_all := lw_g (lw_at lw_m9 27 rfl) rfl
theorem q2031 : (Jvm.Cond.soleField "TurningWheel$4" "val$potter") ∈ lw_all := lw_g (lw_at lw_m9 28 rfl) rfl
theorem q2032 : (Jvm.Cond.laysFinal "TurningWheel$4" "TurningWheel$4" "val$weight" "I") ∈ lw_all := lw_g (lw_at lw_m9 29 rfl) rfl
theorem q2033 : (Jvm.Cond.soleField "TurningWheel$4" "val$weight") ∈ lw_all := lw_g (lw_at lw_m9 30 rfl) rfl
theorem q2034 : (Jvm.Cond.laysFinal "TurningWheel$4" "TurningWheel$4" "val$rim" "I") ∈ lw_all := lw_g (lw_at lw_m9 31 rfl) rfl
theorem q2035 : (Jvm.Cond.soleField "TurningWheel$4" "val$rim") ∈ lw_all := lw_g (lw_at lw_m9 32 rfl) rfl
theorem q2036 : (Jvm.Cond.laysFinal "TurningWheel$4" "TurningWheel$4" "this$0" "LTurningWheel;") ∈ lw_all := lw_g (lw_at lw_m9 33 rfl) rfl
theorem q2037 : (Jvm.Cond.soleField "TurningWheel$4" "this$0") ∈ lw_all := lw_g (lw_at lw_m9 34 rfl) rfl
theorem q2038 : (Jvm.Cond.laysFinal "TurningWheel$4" "TurningWheel$Deed" "this$0" "LTurningWheel;") ∈ lw_all := lw_g (lw_at lw_m9 35 rfl) rfl
theorem q2039 : (Jvm.Cond.superclass "TurningWheel$4" "TurningWheel$Deed") ∈ lw_all := lw_g (lw_at lw_m9 36 rfl) rfl
theorem q2041 : (Jvm.Cond.sameMethod "TurningWheel$4" "TurningWheel$Deed" "done" "()I") ∈ lw_all := lw_g (lw_at lw_m9 38 rfl) rfl
theorem q2042 : (Jvm.Cond.selects "TurningWheel$4" ({ cls := "TurningWheel$4", name := "done", desc := "()I" } : Jvm.MethodName) ({ cls := "TurningWheel$Deed", name := "done", desc := "()I" } : Jvm.MethodName)) ∈ lw_all := lw_g (lw_at lw_m9 39 rfl) rfl
theorem q3064 : (Jvm.Cond.castable "TurningWheel$4" "java/lang/Object") ∈ lw_tbl := lw_at lw_m13 101 rfl
theorem in_X15 : ∀ w ∈ wsX150, w ∈ lw_all := lw_in wsX150 [2038, 2030, 2032, 2034, 2036] (by decide +kernel) (by decide +kernel)

/-! TurningWheel$5 -/
set_option maxRecDepth 100000
def RX16 : String := "TurningWheel$5"
def TX16 : u_T := fun k => match k with
  | 0 => ("TurningWheel$Deed", "this$0", "LTurningWheel;", true)
  | 1 => ("TurningWheel$5", "val$pot", "I", true)
  | 2 => ("TurningWheel$5", "val$is", "Z", true)
  | _ => ("TurningWheel$5", "this$0", "LTurningWheel;", true)
def tyX16 : Nat → FieldType := fun k => match k with
  | 0 => .object "TurningWheel"
  | 1 => .int
  | 2 => .boolean
  | _ => .object "TurningWheel"
abbrev wsX160 : List Cond := u_ws RX16 TX16 4
-- two fields of one name: no nmX16
theorem tyX16_ok : ∀ k, k < 4 → parseFieldDescriptor (TX16 k).2.2.1 = some (tyX16 k) := by decide +kernel
abbrev cX16_does : ByteArray := prog_8_method_2_code
def yX16_does : MethodName := ⟨RX16, "does", "(LTurningWheel$Pottery;)I"⟩
def dkwX16_does_0 : List UInt8 := [43, 42, 180, 0, 7, 42, 180, 0, 11, 182, 0, 21, 172]
abbrev dktX16_does_0 : List UInt8 := dkwX16_does_0 ++ []
theorem dksX16_does_0 : cX16_does.data.toList.drop 0 = dktX16_does_0 := by decide +kernel
theorem dX16_does_0 : decode cX16_does 0 = .ok (.aload_n 1, 1) := dk_43 (dk_at dksX16_does_0 0 rfl rfl)
theorem dX16_does_1 : decode cX16_does 1 = .ok (.aload_n 0, 1) := dk_42 (dk_at dksX16_does_0 1 rfl rfl)
theorem dX16_does_2 : decode cX16_does 2 = .ok (.getfield 7, 3) := dk_180 0 7 (dk_at dksX16_does_0 2 rfl rfl)
theorem dX16_does_5 : decode cX16_does 5 = .ok (.aload_n 0, 1) := dk_42 (dk_at dksX16_does_0 5 rfl rfl)
theorem dX16_does_6 : decode cX16_does 6 = .ok (.getfield 11, 3) := dk_180 0 11 (dk_at dksX16_does_0 6 rfl rfl)
theorem dX16_does_9 : decode cX16_does 9 = .ok (.invokevirtual 21, 3) := dk_182 0 21 (dk_at dksX16_does_0 9 rfl rfl)
theorem dX16_does_12 : decode cX16_does 12 = .ok (.ireturn, 1) := dk_172 (dk_at dksX16_does_0 12 rfl rfl)
abbrev cX16_init : ByteArray := prog_8_method_1_code
def yX16_init : MethodName := ⟨RX16, "<init>", "(LTurningWheel;IZ)V"⟩
def dkwX16_init_0 : List UInt8 := [42, 43, 181, 0, 1, 42, 28, 181, 0, 7, 42, 29, 181, 0, 11, 42, 43, 183, 0, 15, 177]
abbrev dktX16_init_0 : List UInt8 := dkwX16_init_0 ++ []
theorem dksX16_init_0 : cX16_init.data.toList.drop 0 = dktX16_init_0 := by decide +kernel
theorem dX16_init_0 : decode cX16_init 0 = .ok (.aload_n 0, 1) := dk_42 (dk_at dksX16_init_0 0 rfl rfl)
theorem dX16_init_1 : decode cX16_init 1 = .ok (.aload_n 1, 1) := dk_43 (dk_at dksX16_init_0 1 rfl rfl)
theorem dX16_init_2 : decode cX16_init 2 = .ok (.putfield 1, 3) := dk_181 0 1 (dk_at dksX16_init_0 2 rfl rfl)
theorem dX16_init_5 : decode cX16_init 5 = .ok (.aload_n 0, 1) := dk_42 (dk_at dksX16_init_0 5 rfl rfl)
theorem dX16_init_6 : decode cX16_init 6 = .ok (.iload_n 2, 1) := dk_28 (dk_at dksX16_init_0 6 rfl rfl)
theorem dX16_init_7 : decode cX16_init 7 = .ok (.putfield 7, 3) := dk_181 0 7 (dk_at dksX16_init_0 7 rfl rfl)
theorem dX16_init_10 : decode cX16_init 10 = .ok (.aload_n 0, 1) := dk_42 (dk_at dksX16_init_0 10 rfl rfl)
theorem dX16_init_11 : decode cX16_init 11 = .ok (.iload_n 3, 1) := dk_29 (dk_at dksX16_init_0 11 rfl rfl)
theorem dX16_init_12 : decode cX16_init 12 = .ok (.putfield 11, 3) := dk_181 0 11 (dk_at dksX16_init_0 12 rfl rfl)
theorem dX16_init_15 : decode cX16_init 15 = .ok (.aload_n 0, 1) := dk_42 (dk_at dksX16_init_0 15 rfl rfl)
theorem dX16_init_16 : decode cX16_init 16 = .ok (.aload_n 1, 1) := dk_43 (dk_at dksX16_init_0 16 rfl rfl)
theorem dX16_init_17 : decode cX16_init 17 = .ok (.invokespecial 15, 3) := dk_183 0 15 (dk_at dksX16_init_0 17 rfl rfl)
theorem dX16_init_20 : decode cX16_init 20 = .ok (.return_, 1) := dk_177 (dk_at dksX16_init_0 20 rfl rfl)
theorem q140 : (Jvm.Cond.initialized "TurningWheel$5") ∈ lw_all := lw_g (lw_at lw_m1 57 rfl) rfl
theorem q551 : (Jvm.Cond.selects "TurningWheel$5" ({ cls := "java/lang/Object", name := "getClass", desc := "()Ljava/lang/Class;" } : Jvm.MethodName) ({ cls := "java/lang/Object", name := "getClass", desc := "()Ljava/lang/Class;" } : Jvm.MethodName)) ∈ lw_all := lw_g (lw_at lw_m2 228 rfl) rfl
theorem q1907 : (Jvm.Cond.selects "TurningWheel$5" ({ cls := "TurningWheel$Deed", name := "does", desc := "(LTurningWheel$Pottery;)I" } : Jvm.MethodName) ({ cls := "TurningWheel$5", name := "does", desc := "(LTurningWheel$Pottery;)I" } : Jvm.MethodName)) ∈ lw_all := lw_g (lw_at lw_m8 144 rfl) rfl
theorem q1908 : (Jvm.Cond.instanceMethod ({ cls := "TurningWheel$5", name := "does", desc := "(LTurningWheel$Pottery;)I" } : Jvm.MethodName)) ∈ lw_all := lw_g (lw_at lw_m8 145 rfl) rfl
theorem q1909 : (Jvm.Cond.code ({ cls := "TurningWheel$5", name := "does", desc := "(LTurningWheel$Pottery;)I" } : Jvm.MethodName) prog_8_method_2_code (2 : Nat) (Option.some Jvm.ClassFile.FieldType.int)) ∈ lw_all := lw_g (lw_at lw_m8 146 rfl) rfl
theorem q1910 : (Jvm.Cond.methodLink "TurningWheel$5" (21 : Nat) ({ cls := "TurningWheel$Pottery", name := "covers", desc := "(IZ)I" } : Jvm.MethodName)) ∈ lw_all := lw_g (lw_at lw_m8 147 rfl) rfl
theorem q2048 : (Jvm.Cond.instantiable "TurningWheel$5" (4 : Nat)) ∈ lw_all := lw_g (lw_at lw_m9 45 rfl) rfl
theorem q2050 : (Jvm.Cond.instanceMethod ({ cls := "TurningWheel$5", name := "<init>", desc := "(LTurningWheel;IZ)V" } : Jvm.MethodName)) ∈ lw_all := lw_g (lw_at lw_m9 47 rfl) rfl
theorem q2051 : (Jvm.Cond.code ({ cls := "TurningWheel$5", name := "<init>", desc := "(LTurningWheel;IZ)V" } : Jvm.MethodName) prog_8_method_1_code (4 : Nat) (Option.none : Option Jvm.ClassFile.FieldType)) ∈ lw_all := lw_g (lw_at lw_m9 48 rfl) rfl
theorem q2052 : (Jvm.Cond.methodLinkNest "TurningWheel$5" (15 : Nat) ({ cls := "TurningWheel$Deed", name := "<init>", desc := "(LTurningWheel;)V" } : Jvm.MethodName) "TurningWheel") ∈ lw_tbl := lw_at lw_m9 49 rfl
theorem q2053 : (Jvm.Cond.fieldLink "TurningWheel$5" (7 : Nat) "TurningWheel$5" "val$pot" "I") ∈ lw_all := lw_g (lw_at lw_m9 50 rfl) rfl
theorem q2054 : (Jvm.Cond.fieldLink "TurningWheel$5" (11 : Nat) "TurningWheel$5" "val$is" "Z") ∈ lw_all := lw_g (lw_at lw_m9 51 rfl) rfl
theorem q2055 : (Jvm.Cond.fieldLink "TurningWheel$5" (1 : Nat) "TurningWheel$5" "this$0" "LTurningWheel;") ∈ lw_all := lw_g (lw_at lw_m9 52 rfl) rfl
theorem q2056 : (Jvm.Cond.laysFinal "TurningWheel$5" "TurningWheel$5" "val$pot" "I") ∈ lw_all := lw_g (lw_at lw_m9 53 rfl) rfl
theorem q2057 : (Jvm.Cond.soleField "TurningWheel$5" "val$pot") ∈ lw_all := lw_g (lw_at lw_m9 54 rfl) rfl
theorem q2058 : (Jvm.Cond.laysFinal "TurningWheel$5" "TurningWheel$5" "val$is" "Z") ∈ lw_all := lw_g (lw_at lw_m9 55 rfl) rfl
theorem q2059 : (Jvm.Cond.soleField "TurningWheel$5" "val$is") ∈ lw_all := lw_g (lw_at lw_m9 56 rfl) rfl
theorem q2060 : (Jvm.Cond.laysFinal "TurningWheel$5" "TurningWheel$5" "this$0" "LTurningWheel;") ∈ lw_all := lw_g (lw_at lw_m9 57 rfl) rfl
theorem q2061 : (Jvm.Cond.soleField "TurningWheel$5" "this$0") ∈ lw_all := lw_g (lw_at lw_m9 58 rfl) rfl
theorem q2062 : (Jvm.Cond.laysFinal "TurningWheel$5" "TurningWheel$Deed" "this$0" "LTurningWheel;") ∈ lw_all := lw_g (lw_at lw_m9 59 rfl) rfl
theorem q2063 : (Jvm.Cond.superclass "TurningWheel$5" "TurningWheel$Deed") ∈ lw_all := lw_g (lw_at lw_m9 60 rfl) rfl
theorem q2065 : (Jvm.Cond.sameMethod "TurningWheel$5" "TurningWheel$Deed" "done" "()I") ∈ lw_all := lw_g (lw_at lw_m9 62 rfl) rfl
theorem q2066 : (Jvm.Cond.selects "TurningWheel$5" ({ cls := "TurningWheel$5", name := "done", desc := "()I" } : Jvm.MethodName) ({ cls := "TurningWheel$Deed", name := "done", desc := "()I" } : Jvm.MethodName)) ∈ lw_all := lw_g (lw_at lw_m9 63 rfl) rfl
theorem q3066 : (Jvm.Cond.castable "TurningWheel$5" "java/lang/Object") ∈ lw_tbl := lw_at lw_m13 103 rfl
theorem in_X16 : ∀ w ∈ wsX160, w ∈ lw_all := lw_in wsX160 [2062, 2056, 2058, 2060] (by decide +kernel) (by decide +kernel)

/-! TurningWheel$6 -/
set_option maxRecDepth 100000
def RX17 : String := "TurningWheel$6"
def TX17 : u_T := fun k => match k with
  | 0 => ("TurningWheel$Deed", "this$0", "LTurningWheel;", true)
  | 1 => ("TurningWheel$6", "val$pot", "I", true)
  | 2 => ("TurningWheel$6", "val$glaze", "I", true)
  | 3 => ("TurningWheel$6", "val$coats", "I", true)
  | _ => ("TurningWheel$6", "this$0", "LTurningWheel;", true)
def tyX17 : Nat → FieldType := fun k => match k with
  | 0 => .object "TurningWheel"
  | 1 => .int
  | 2 => .int
  | 3 => .int
  | _ => .object "TurningWheel"
abbrev wsX170 : List Cond := u_ws RX17 TX17 5
-- two fields of one name: no nmX17
theorem tyX17_ok : ∀ k, k < 5 → parseFieldDescriptor (TX17 k).2.2.1 = some (tyX17 k) := by decide +kernel
abbrev cX17_does : ByteArray := prog_9_method_2_code
def yX17_does : MethodName := ⟨RX17, "does", "(LTurningWheel$Pottery;)I"⟩
def dkwX17_does_0 : List UInt8 := [43, 42, 180, 0, 7, 42, 180, 0, 11, 42, 180, 0, 14, 182, 0, 23, 172]
abbrev dktX17_does_0 : List UInt8 := dkwX17_does_0 ++ []
theorem dksX17_does_0 : cX17_does.data.toList.drop 0 = dktX17_does_0 := by decide +kernel
theorem dX17_does_0 : decode cX17_does 0 = .ok (.aload_n 1, 1) := dk_43 (dk_at dksX17_does_0 0 rfl rfl)
theorem dX17_does_1 : decode cX17_does 1 = .ok (.aload_n 0, 1) := dk_42 (dk_at dksX17_does_0 1 rfl rfl)
theorem dX17_does_2 : decode cX17_does 2 = .ok (.getfield 7, 3) := dk_180 0 7 (dk_at dksX17_does_0 2 rfl rfl)
theorem dX17_does_5 : decode cX17_does 5 = .ok (.aload_n 0, 1) := dk_42 (dk_at dksX17_does_0 5 rfl rfl)
theorem dX17_does_6 : decode cX17_does 6 = .ok (.getfield 11, 3) := dk_180 0 11 (dk_at dksX17_does_0 6 rfl rfl)
theorem dX17_does_9 : decode cX17_does 9 = .ok (.aload_n 0, 1) := dk_42 (dk_at dksX17_does_0 9 rfl rfl)
theorem dX17_does_10 : decode cX17_does 10 = .ok (.getfield 14, 3) := dk_180 0 14 (dk_at dksX17_does_0 10 rfl rfl)
theorem dX17_does_13 : decode cX17_does 13 = .ok (.invokevirtual 23, 3) := dk_182 0 23 (dk_at dksX17_does_0 13 rfl rfl)
theorem dX17_does_16 : decode cX17_does 16 = .ok (.ireturn, 1) := dk_172 (dk_at dksX17_does_0 16 rfl rfl)
abbrev cX17_init : ByteArray := prog_9_method_1_code
def yX17_init : MethodName := ⟨RX17, "<init>", "(LTurningWheel;III)V"⟩
def dkwX17_init_1 : List UInt8 := [183, 0, 17, 177]
abbrev dktX17_init_1 : List UInt8 := dkwX17_init_1 ++ []
def dkwX17_init_0 : List UInt8 := [42, 43, 181, 0, 1, 42, 28, 181, 0, 7, 42, 29, 181, 0, 11, 42, 21, 4, 181, 0, 14, 42, 43]
abbrev dktX17_init_0 : List UInt8 := dkwX17_init_0 ++ dktX17_init_1
theorem dksX17_init_0 : cX17_init.data.toList.drop 0 = dktX17_init_0 := by decide +kernel
theorem dksX17_init_1 : cX17_init.data.toList.drop 23 = dktX17_init_1 := dk_seg dksX17_init_0 23 rfl rfl
theorem dX17_init_0 : decode cX17_init 0 = .ok (.aload_n 0, 1) := dk_42 (dk_at dksX17_init_0 0 rfl rfl)
theorem dX17_init_1 : decode cX17_init 1 = .ok (.aload_n 1, 1) := dk_43 (dk_at dksX17_init_0 1 rfl rfl)
theorem dX17_init_2 : decode cX17_init 2 = .ok (.putfield 1, 3) := dk_181 0 1 (dk_at dksX17_init_0 2 rfl rfl)
theorem dX17_init_5 : decode cX17_init 5 = .ok (.aload_n 0, 1) := dk_42 (dk_at dksX17_init_0 5 rfl rfl)
theorem dX17_init_6 : decode cX17_init 6 = .ok (.iload_n 2, 1) := dk_28 (dk_at dksX17_init_0 6 rfl rfl)
theorem dX17_init_7 : decode cX17_init 7 = .ok (.putfield 7, 3) := dk_181 0 7 (dk_at dksX17_init_0 7 rfl rfl)
theorem dX17_init_10 : decode cX17_init 10 = .ok (.aload_n 0, 1) := dk_42 (dk_at dksX17_init_0 10 rfl rfl)
theorem dX17_init_11 : decode cX17_init 11 = .ok (.iload_n 3, 1) := dk_29 (dk_at dksX17_init_0 11 rfl rfl)
theorem dX17_init_12 : decode cX17_init 12 = .ok (.putfield 11, 3) := dk_181 0 11 (dk_at dksX17_init_0 12 rfl rfl)
theorem dX17_init_15 : decode cX17_init 15 = .ok (.aload_n 0, 1) := dk_42 (dk_at dksX17_init_0 15 rfl rfl)
theorem dX17_init_16 : decode cX17_init 16 = .ok (.iload 4, 2) := dk_21 4 (dk_at dksX17_init_0 16 rfl rfl)
theorem dX17_init_18 : decode cX17_init 18 = .ok (.putfield 14, 3) := dk_181 0 14 (dk_at dksX17_init_0 18 rfl rfl)
theorem dX17_init_21 : decode cX17_init 21 = .ok (.aload_n 0, 1) := dk_42 (dk_at dksX17_init_0 21 rfl rfl)
theorem dX17_init_22 : decode cX17_init 22 = .ok (.aload_n 1, 1) := dk_43 (dk_at dksX17_init_0 22 rfl rfl)
theorem dX17_init_23 : decode cX17_init 23 = .ok (.invokespecial 17, 3) := dk_183 0 17 (dk_at dksX17_init_1 0 rfl rfl)
theorem dX17_init_26 : decode cX17_init 26 = .ok (.return_, 1) := dk_177 (dk_at dksX17_init_1 3 rfl rfl)
theorem q141 : (Jvm.Cond.initialized "TurningWheel$6") ∈ lw_all := lw_g (lw_at lw_m1 58 rfl) rfl
theorem q552 : (Jvm.Cond.selects "TurningWheel$6" ({ cls := "java/lang/Object", name := "getClass", desc := "()Ljava/lang/Class;" } : Jvm.MethodName) ({ cls := "java/lang/Object", name := "getClass", desc := "()Ljava/lang/Class;" } : Jvm.MethodName)) ∈ lw_all := lw_g (lw_at lw_m2 229 rfl) rfl
theorem q1911 : (Jvm.Cond.selects "TurningWheel$6" ({ cls := "TurningWheel$Deed", name := "does", desc := "(LTurningWheel$Pottery;)I" } : Jvm.MethodName) ({ cls := "TurningWheel$6", name := "does", desc := "(LTurningWheel$Pottery;)I" } : Jvm.MethodName)) ∈ lw_all := lw_g (lw_at lw_m8 148 rfl) rfl
theorem q1912 : (Jvm.Cond.instanceMethod ({ cls := "TurningWheel$6", name := "does", desc := "(LTurningWheel$Pottery;)I" } : Jvm.MethodName)) ∈ lw_all := lw_g (lw_at lw_m8 149 rfl) rfl
theorem q1913 : (Jvm.Cond.code ({ cls := "TurningWheel$6", name := "does", desc := "(LTurningWheel$Pottery;)I" } : Jvm.MethodName) prog_9_method_2_code (2 : Nat) (Option.some Jvm.ClassFile.FieldType.int)) ∈ lw_all := lw_g (lw_at lw_m8 150 rfl) rfl
theorem q1914 : (Jvm.Cond.methodLink "TurningWheel$6" (23 : Nat) ({ cls := "TurningWheel$Pottery", name := "glazes", desc := "(III)I" } : Jvm.MethodName)) ∈ lw_all := lw_g (lw_at lw_m8 151 rfl) rfl
theorem q2072 : (Jvm.Cond.instantiable "TurningWheel$6" (5 : Nat)) ∈ lw_all := lw_g (lw_at lw_m9 69 rfl) rfl
theorem q2074 : (Jvm.Cond.instanceMethod ({ cls := "TurningWheel$6", name := "<init>", desc := "(LTurningWheel;III)V" } : Jvm.MethodName)) ∈ lw_all := lw_g (lw_at lw_m9 71 rfl) rfl
theorem q2075 : (Jvm.Cond.code ({ cls := "TurningWheel$6", name := "<init>", desc := "(LTurningWheel;III)V" } : Jvm.MethodName) prog_9_method_1_code (5 : Nat) (Option.none : Option Jvm.ClassFile.FieldType)) ∈ lw_all := lw_g (lw_at lw_m9 72 rfl) rfl
theorem q2076 : (Jvm.Cond.methodLinkNest "TurningWheel$6" (17 : Nat) ({ cls := "TurningWheel$Deed", name := "<init>", desc := "(LTurningWheel;)V" } : Jvm.MethodName) "TurningWheel") ∈ lw_tbl := lw_at lw_m9 73 rfl
theorem q2077 : (Jvm.Cond.fieldLink "TurningWheel$6" (7 : Nat) "TurningWheel$6" "val$pot" "I") ∈ lw_all := lw_g (lw_at lw_m9 74 rfl) rfl
theorem q2078 : (Jvm.Cond.fieldLink "TurningWheel$6" (11 : Nat) "TurningWheel$6" "val$glaze" "I") ∈ lw_all := lw_g (lw_at lw_m9 75 rfl) rfl
theorem q2079 : (Jvm.Cond.fieldLink "TurningWheel$6" (14 : Nat) "TurningWheel$6" "val$coats" "I") ∈ lw_all := lw_g (lw_at lw_m9 76 rfl) rfl
theorem q2080 : (Jvm.Cond.fieldLink "TurningWheel$6" (1 : Nat) "TurningWheel$6" "this$0" "LTurningWheel;") ∈ lw_all := lw_g (lw_at lw_m9 77 rfl) rfl
theorem q2081 : (Jvm.Cond.laysFinal "TurningWheel$6" "TurningWheel$6" "val$pot" "I") ∈ lw_all := lw_g (lw_at lw_m9 78 rfl) rfl
theorem q2082 : (Jvm.Cond.soleField "TurningWheel$6" "val$pot") ∈ lw_all := lw_g (lw_at lw_m9 79 rfl) rfl
theorem q2083 : (Jvm.Cond.laysFinal "TurningWheel$6" "TurningWheel$6" "val$glaze" "I") ∈ lw_all := lw_g (lw_at lw_m9 80 rfl) rfl
theorem q2084 : (Jvm.Cond.soleField "TurningWheel$6" "val$glaze") ∈ lw_all := lw_g (lw_at lw_m9 81 rfl) rfl
theorem q2085 : (Jvm.Cond.laysFinal "TurningWheel$6" "TurningWheel$6" "val$coats" "I") ∈ lw_all := lw_g (lw_at lw_m9 82 rfl) rfl
theorem q2086 : (Jvm.Cond.soleField "TurningWheel$6" "val$coats") ∈ lw_all := lw_g (lw_at lw_m9 83 rfl) rfl
theorem q2087 : (Jvm.Cond.laysFinal "TurningWheel$6" "TurningWheel$6" "this$0" "LTurningWheel;") ∈ lw_all := lw_g (lw_at lw_m9 84 rfl) rfl
theorem q2088 : (Jvm.Cond.soleField "TurningWheel$6" "this$0") ∈ lw_all := lw_g (lw_at lw_m9 85 rfl) rfl
theorem q2089 : (Jvm.Cond.laysFinal "TurningWheel$6" "TurningWheel$Deed" "this$0" "LTurningWheel;") ∈ lw_all := lw_g (lw_at lw_m9 86 rfl) rfl
theorem q2090 : (Jvm.Cond.superclass "TurningWheel$6" "TurningWheel$Deed") ∈ lw_all := lw_g (lw_at lw_m9 87 rfl) rfl
theorem q2092 : (Jvm.Cond.sameMethod "TurningWheel$6" "TurningWheel$Deed" "done" "()I") ∈ lw_all := lw_g (lw_at lw_m9 89 rfl) rfl
theorem q2093 : (Jvm.Cond.selects "TurningWheel$6" ({ cls := "TurningWheel$6", name := "done", desc := "()I" } : Jvm.MethodName) ({ cls := "TurningWheel$Deed", name := "done", desc := "()I" } : Jvm.MethodName)) ∈ lw_all := lw_g (lw_at lw_m9 90 rfl) rfl
theorem q3067 : (Jvm.Cond.castable "TurningWheel$6" "java/lang/Object") ∈ lw_tbl := lw_at lw_m13 104 rfl
theorem in_X17 : ∀ w ∈ wsX170, w ∈ lw_all := lw_in wsX170 [2089, 2081, 2083, 2085, 2087] (by decide +kernel) (by decide +kernel)

/-! TurningWheel$7 -/
set_option maxRecDepth 100000
def RX18 : String := "TurningWheel$7"
def TX18 : u_T := fun k => match k with
  | 0 => ("TurningWheel$Deed", "this$0", "LTurningWheel;", true)
  | 1 => ("TurningWheel$7", "val$pot", "I", true)
  | 2 => ("TurningWheel$7", "val$at", "I", true)
  | _ => ("TurningWheel$7", "this$0", "LTurningWheel;", true)
def tyX18 : Nat → FieldType := fun k => match k with
  | 0 => .object "TurningWheel"
  | 1 => .int
  | 2 => .int
  | _ => .object "TurningWheel"
abbrev wsX180 : List Cond := u_ws RX18 TX18 4
-- two fields of one name: no nmX18
theorem tyX18_ok : ∀ k, k < 4 → parseFieldDescriptor (TX18 k).2.2.1 = some (tyX18 k) := by decide +kernel
abbrev cX18_does : ByteArray := prog_10_method_2_code
def yX18_does : MethodName := ⟨RX18, "does", "(LTurningWheel$Pottery;)I"⟩
def dkwX18_does_0 : List UInt8 := [43, 42, 180, 0, 7, 42, 180, 0, 11, 182, 0, 20, 172]
abbrev dktX18_does_0 : List UInt8 := dkwX18_does_0 ++ []
theorem dksX18_does_0 : cX18_does.data.toList.drop 0 = dktX18_does_0 := by decide +kernel
theorem dX18_does_0 : decode cX18_does 0 = .ok (.aload_n 1, 1) := dk_43 (dk_at dksX18_does_0 0 rfl rfl)
theorem dX18_does_1 : decode cX18_does 1 = .ok (.aload_n 0, 1) := dk_42 (dk_at dksX18_does_0 1 rfl rfl)
theorem dX18_does_2 : decode cX18_does 2 = .ok (.getfield 7, 3) := dk_180 0 7 (dk_at dksX18_does_0 2 rfl rfl)
theorem dX18_does_5 : decode cX18_does 5 = .ok (.aload_n 0, 1) := dk_42 (dk_at dksX18_does_0 5 rfl rfl)
theorem dX18_does_6 : decode cX18_does 6 = .ok (.getfield 11, 3) := dk_180 0 11 (dk_at dksX18_does_0 6 rfl rfl)
theorem dX18_does_9 : decode cX18_does 9 = .ok (.invokevirtual 20, 3) := dk_182 0 20 (dk_at dksX18_does_0 9 rfl rfl)
theorem dX18_does_12 : decode cX18_does 12 = .ok (.ireturn, 1) := dk_172 (dk_at dksX18_does_0 12 rfl rfl)
abbrev cX18_init : ByteArray := prog_10_method_1_code
def yX18_init : MethodName := ⟨RX18, "<init>", "(LTurningWheel;II)V"⟩
def dkwX18_init_0 : List UInt8 := [42, 43, 181, 0, 1, 42, 28, 181, 0, 7, 42, 29, 181, 0, 11, 42, 43, 183, 0, 14, 177]
abbrev dktX18_init_0 : List UInt8 := dkwX18_init_0 ++ []
theorem dksX18_init_0 : cX18_init.data.toList.drop 0 = dktX18_init_0 := by decide +kernel
theorem dX18_init_0 : decode cX18_init 0 = .ok (.aload_n 0, 1) := dk_42 (dk_at dksX18_init_0 0 rfl rfl)
theorem dX18_init_1 : decode cX18_init 1 = .ok (.aload_n 1, 1) := dk_43 (dk_at dksX18_init_0 1 rfl rfl)
theorem dX18_init_2 : decode cX18_init 2 = .ok (.putfield 1, 3) := dk_181 0 1 (dk_at dksX18_init_0 2 rfl rfl)
theorem dX18_init_5 : decode cX18_init 5 = .ok (.aload_n 0, 1) := dk_42 (dk_at dksX18_init_0 5 rfl rfl)
theorem dX18_init_6 : decode cX18_init 6 = .ok (.iload_n 2, 1) := dk_28 (dk_at dksX18_init_0 6 rfl rfl)
theorem dX18_init_7 : decode cX18_init 7 = .ok (.putfield 7, 3) := dk_181 0 7 (dk_at dksX18_init_0 7 rfl rfl)
theorem dX18_init_10 : decode cX18_init 10 = .ok (.aload_n 0, 1) := dk_42 (dk_at dksX18_init_0 10 rfl rfl)
theorem dX18_init_11 : decode cX18_init 11 = .ok (.iload_n 3, 1) := dk_29 (dk_at dksX18_init_0 11 rfl rfl)
theorem dX18_init_12 : decode cX18_init 12 = .ok (.putfield 11, 3) := dk_181 0 11 (dk_at dksX18_init_0 12 rfl rfl)
theorem dX18_init_15 : decode cX18_init 15 = .ok (.aload_n 0, 1) := dk_42 (dk_at dksX18_init_0 15 rfl rfl)
theorem dX18_init_16 : decode cX18_init 16 = .ok (.aload_n 1, 1) := dk_43 (dk_at dksX18_init_0 16 rfl rfl)
theorem dX18_init_17 : decode cX18_init 17 = .ok (.invokespecial 14, 3) := dk_183 0 14 (dk_at dksX18_init_0 17 rfl rfl)
theorem dX18_init_20 : decode cX18_init 20 = .ok (.return_, 1) := dk_177 (dk_at dksX18_init_0 20 rfl rfl)
theorem q142 : (Jvm.Cond.initialized "TurningWheel$7") ∈ lw_all := lw_g (lw_at lw_m1 59 rfl) rfl
theorem q553 : (Jvm.Cond.selects "TurningWheel$7" ({ cls := "java/lang/Object", name := "getClass", desc := "()Ljava/lang/Class;" } : Jvm.MethodName) ({ cls := "java/lang/Object", name := "getClass", desc := "()Ljava/lang/Class;" } : Jvm.MethodName)) ∈ lw_all := lw_g (lw_at lw_m2 230 rfl) rfl
theorem q1915 : (Jvm.Cond.selects "TurningWheel$7" ({ cls := "TurningWheel$Deed", name := "does", desc := "(LTurningWheel$Pottery;)I" } : Jvm.MethodName) ({ cls := "TurningWheel$7", name := "does", desc := "(LTurningWheel$Pottery;)I" } : Jvm.MethodName)) ∈ lw_all := lw_g (lw_at lw_m8 152 rfl) rfl
theorem q1916 : (Jvm.Cond.instanceMethod ({ cls := "TurningWheel$7", name := "does", desc := "(LTurningWheel$Pottery;)I" } : Jvm.MethodName)) ∈ lw_all := lw_g (lw_at lw_m8 153 rfl) rfl
theorem q1917 : (Jvm.Cond.code ({ cls := "TurningWheel$7", name := "does", desc := "(LTurningWheel$Pottery;)I" } : Jvm.MethodName) prog_10_method_2_code (2 : Nat) (Option.some Jvm.ClassFile.FieldType.int)) ∈ lw_all := lw_g (lw_at lw_m8 154 rfl) rfl
theorem q1918 : (Jvm.Cond.methodLink "TurningWheel$7" (20 : Nat) ({ cls := "TurningWheel$Pottery", name := "places", desc := "(II)I" } : Jvm.MethodName)) ∈ lw_all := lw_g (lw_at lw_m8 155 rfl) rfl
theorem q2099 : (Jvm.Cond.instantiable "TurningWheel$7" (4 : Nat)) ∈ lw_all := lw_g (lw_at lw_m9 96 rfl) rfl
theorem q2101 : (Jvm.Cond.instanceMethod ({ cls := "TurningWheel$7", name := "<init>", desc := "(LTurningWheel;II)V" } : Jvm.MethodName)) ∈ lw_all := lw_g (lw_at lw_m9 98 rfl) rfl
theorem q2102 : (Jvm.Cond.code ({ cls := "TurningWheel$7", name := "<init>", desc := "(LTurningWheel;II)V" } : Jvm.MethodName) prog_10_method_1_code (4 : Nat) (Option.none : Option Jvm.ClassFile.FieldType)) ∈ lw_all := lw_g (lw_at lw_m9 99 rfl) rfl
theorem q2103 : (Jvm.Cond.methodLinkNest "TurningWheel$7" (14 : Nat) ({ cls := "TurningWheel$Deed", name := "<init>", desc := "(LTurningWheel;)V" } : Jvm.MethodName) "TurningWheel") ∈ lw_tbl := lw_at lw_m9 100 rfl
theorem q2104 : (Jvm.Cond.fieldLink "TurningWheel$7" (7 : Nat) "TurningWheel$7" "val$pot" "I") ∈ lw_all := lw_g (lw_at lw_m9 101 rfl) rfl
theorem q2105 : (Jvm.Cond.fieldLink "TurningWheel$7" (11 : Nat) "TurningWheel$7" "val$at" "I") ∈ lw_all := lw_g (lw_at lw_m9 102 rfl) rfl
theorem q2106 : (Jvm.Cond.fieldLink "TurningWheel$7" (1 : Nat) "TurningWheel$7" "this$0" "LTurningWheel;") ∈ lw_all := lw_g (lw_at lw_m9 103 rfl) rfl
theorem q2107 : (Jvm.Cond.laysFinal "TurningWheel$7" "TurningWheel$7" "val$pot" "I") ∈ lw_all := lw_g (lw_at lw_m9 104 rfl) rfl
theorem q2108 : (Jvm.Cond.soleField "TurningWheel$7" "val$pot") ∈ lw_all := lw_g (lw_at lw_m9 105 rfl) rfl
theorem q2109 : (Jvm.Cond.laysFinal "TurningWheel$7" "TurningWheel$7" "val$at" "I") ∈ lw_all := lw_g (lw_at lw_m9 106 rfl) rfl
theorem q2110 : (Jvm.Cond.soleField "TurningWheel$7" "val$at") ∈ lw_all := lw_g (lw_at lw_m9 107 rfl) rfl
theorem q2111 : (Jvm.Cond.laysFinal "TurningWheel$7" "TurningWheel$7" "this$0" "LTurningWheel;") ∈ lw_all := lw_g (lw_at lw_m9 108 rfl) rfl
theorem q2112 : (Jvm.Cond.soleField "TurningWheel$7" "this$0") ∈ lw_all := lw_g (lw_at lw_m9 109 rfl) rfl
theorem q2113 : (Jvm.Cond.laysFinal "TurningWheel$7" "TurningWheel$Deed" "this$0" "LTurningWheel;") ∈ lw_all := lw_g (lw_at lw_m9 110 rfl) rfl
theorem q2114 : (Jvm.Cond.superclass "TurningWheel$7" "TurningWheel$Deed") ∈ lw_all := lw_g (lw_at lw_m9 111 rfl) rfl
theorem q2116 : (Jvm.Cond.sameMethod "TurningWheel$7" "TurningWheel$Deed" "done" "()I") ∈ lw_all := lw_g (lw_at lw_m9 113 rfl) rfl
theorem q2117 : (Jvm.Cond.selects "TurningWheel$7" ({ cls := "TurningWheel$7", name := "done", desc := "()I" } : Jvm.MethodName) ({ cls := "TurningWheel$Deed", name := "done", desc := "()I" } : Jvm.MethodName)) ∈ lw_all := lw_g (lw_at lw_m9 114 rfl) rfl
theorem q3068 : (Jvm.Cond.castable "TurningWheel$7" "java/lang/Object") ∈ lw_tbl := lw_at lw_m13 105 rfl
theorem in_X18 : ∀ w ∈ wsX180, w ∈ lw_all := lw_in wsX180 [2113, 2107, 2109, 2111] (by decide +kernel) (by decide +kernel)

/-! TurningWheel$8 -/
set_option maxRecDepth 100000
def RX19 : String := "TurningWheel$8"
def TX19 : u_T := fun k => match k with
  | 0 => ("TurningWheel$Deed", "this$0", "LTurningWheel;", true)
  | _ => ("TurningWheel$8", "this$0", "LTurningWheel;", true)
def tyX19 : Nat → FieldType := fun k => match k with
  | 0 => .object "TurningWheel"
  | _ => .object "TurningWheel"
abbrev wsX190 : List Cond := u_ws RX19 TX19 2
-- two fields of one name: no nmX19
theorem tyX19_ok : ∀ k, k < 2 → parseFieldDescriptor (TX19 k).2.2.1 = some (tyX19 k) := by decide +kernel
abbrev cX19_does : ByteArray := prog_11_method_2_code
def yX19_does : MethodName := ⟨RX19, "does", "(LTurningWheel$Pottery;)I"⟩
theorem dX19_does_0 : decode cX19_does 0 = .ok (.aload_n 1, 1) := by decide +kernel
theorem dX19_does_1 : decode cX19_does 1 = .ok (.invokevirtual 13, 3) := by decide +kernel
theorem dX19_does_4 : decode cX19_does 4 = .ok (.ireturn, 1) := by decide +kernel
abbrev cX19_init : ByteArray := prog_11_method_1_code
def yX19_init : MethodName := ⟨RX19, "<init>", "(LTurningWheel;)V"⟩
def dkwX19_init_0 : List UInt8 := [42, 43, 181, 0, 1, 42, 43, 183, 0, 7, 177]
abbrev dktX19_init_0 : List UInt8 := dkwX19_init_0 ++ []
theorem dksX19_init_0 : cX19_init.data.toList.drop 0 = dktX19_init_0 := by decide +kernel
theorem dX19_init_0 : decode cX19_init 0 = .ok (.aload_n 0, 1) := dk_42 (dk_at dksX19_init_0 0 rfl rfl)
theorem dX19_init_1 : decode cX19_init 1 = .ok (.aload_n 1, 1) := dk_43 (dk_at dksX19_init_0 1 rfl rfl)
theorem dX19_init_2 : decode cX19_init 2 = .ok (.putfield 1, 3) := dk_181 0 1 (dk_at dksX19_init_0 2 rfl rfl)
theorem dX19_init_5 : decode cX19_init 5 = .ok (.aload_n 0, 1) := dk_42 (dk_at dksX19_init_0 5 rfl rfl)
theorem dX19_init_6 : decode cX19_init 6 = .ok (.aload_n 1, 1) := dk_43 (dk_at dksX19_init_0 6 rfl rfl)
theorem dX19_init_7 : decode cX19_init 7 = .ok (.invokespecial 7, 3) := dk_183 0 7 (dk_at dksX19_init_0 7 rfl rfl)
theorem dX19_init_10 : decode cX19_init 10 = .ok (.return_, 1) := dk_177 (dk_at dksX19_init_0 10 rfl rfl)
theorem q143 : (Jvm.Cond.initialized "TurningWheel$8") ∈ lw_all := lw_g (lw_at lw_m1 60 rfl) rfl
theorem q554 : (Jvm.Cond.selects "TurningWheel$8" ({ cls := "java/lang/Object", name := "getClass", desc := "()Ljava/lang/Class;" } : Jvm.MethodName) ({ cls := "java/lang/Object", name := "getClass", desc := "()Ljava/lang/Class;" } : Jvm.MethodName)) ∈ lw_all := lw_g (lw_at lw_m2 231 rfl) rfl
theorem q1919 : (Jvm.Cond.selects "TurningWheel$8" ({ cls := "TurningWheel$Deed", name := "does", desc := "(LTurningWheel$Pottery;)I" } : Jvm.MethodName) ({ cls := "TurningWheel$8", name := "does", desc := "(LTurningWheel$Pottery;)I" } : Jvm.MethodName)) ∈ lw_all := lw_g (lw_at lw_m8 156 rfl) rfl
theorem q1920 : (Jvm.Cond.instanceMethod ({ cls := "TurningWheel$8", name := "does", desc := "(LTurningWheel$Pottery;)I" } : Jvm.MethodName)) ∈ lw_all := lw_g (lw_at lw_m8 157 rfl) rfl
theorem q1921 : (Jvm.Cond.code ({ cls := "TurningWheel$8", name := "does", desc := "(LTurningWheel$Pottery;)I" } : Jvm.MethodName) prog_11_method_2_code (2 : Nat) (Option.some Jvm.ClassFile.FieldType.int)) ∈ lw_all := lw_g (lw_at lw_m8 158 rfl) rfl
theorem q1922 : (Jvm.Cond.methodLink "TurningWheel$8" (13 : Nat) ({ cls := "TurningWheel$Pottery", name := "fires", desc := "()I" } : Jvm.MethodName)) ∈ lw_all := lw_g (lw_at lw_m8 159 rfl) rfl
theorem q2123 : (Jvm.Cond.instantiable "TurningWheel$8" (2 : Nat)) ∈ lw_all := lw_g (lw_at lw_m9 120 rfl) rfl
theorem q2125 : (Jvm.Cond.instanceMethod ({ cls := "TurningWheel$8", name := "<init>", desc := "(LTurningWheel;)V" } : Jvm.MethodName)) ∈ lw_all := lw_g (lw_at lw_m9 122 rfl) rfl
theorem q2126 : (Jvm.Cond.code ({ cls := "TurningWheel$8", name := "<init>", desc := "(LTurningWheel;)V" } : Jvm.MethodName) prog_11_method_1_code (2 : Nat) (Option.none : Option Jvm.ClassFile.FieldType)) ∈ lw_all := lw_g (lw_at lw_m9 123 rfl) rfl
theorem q2127 : (Jvm.Cond.methodLinkNest "TurningWheel$8" (7 : Nat) ({ cls := "TurningWheel$Deed", name := "<init>", desc := "(LTurningWheel;)V" } : Jvm.MethodName) "TurningWheel") ∈ lw_tbl := lw_at lw_m9 124 rfl
theorem q2128 : (Jvm.Cond.fieldLink "TurningWheel$8" (1 : Nat) "TurningWheel$8" "this$0" "LTurningWheel;") ∈ lw_all := lw_g (lw_at lw_m9 125 rfl) rfl
theorem q2129 : (Jvm.Cond.laysFinal "TurningWheel$8" "TurningWheel$8" "this$0" "LTurningWheel;") ∈ lw_all := lw_g (lw_at lw_m9 126 rfl) rfl
theorem q2130 : (Jvm.Cond.soleField "TurningWheel$8" "this$0") ∈ lw_all := lw_g (lw_at lw_m9 127 rfl) rfl
theorem q2131 : (Jvm.Cond.laysFinal "TurningWheel$8" "TurningWheel$Deed" "this$0" "LTurningWheel;") ∈ lw_all := lw_g (lw_at lw_m9 128 rfl) rfl
theorem q2132 : (Jvm.Cond.superclass "TurningWheel$8" "TurningWheel$Deed") ∈ lw_all := lw_g (lw_at lw_m9 129 rfl) rfl
theorem q2134 : (Jvm.Cond.sameMethod "TurningWheel$8" "TurningWheel$Deed" "done" "()I") ∈ lw_all := lw_g (lw_at lw_m9 131 rfl) rfl
theorem q2135 : (Jvm.Cond.selects "TurningWheel$8" ({ cls := "TurningWheel$8", name := "done", desc := "()I" } : Jvm.MethodName) ({ cls := "TurningWheel$Deed", name := "done", desc := "()I" } : Jvm.MethodName)) ∈ lw_all := lw_g (lw_at lw_m9 132 rfl) rfl
theorem q3070 : (Jvm.Cond.castable "TurningWheel$8" "java/lang/Object") ∈ lw_tbl := lw_at lw_m13 107 rfl
theorem in_X19 : ∀ w ∈ wsX190, w ∈ lw_all := lw_in wsX190 [2131, 2129] (by decide +kernel) (by decide +kernel)

/-! TurningWheel$9 -/
set_option maxRecDepth 100000
def RX20 : String := "TurningWheel$9"
def TX20 : u_T := fun k => match k with
  | 0 => ("TurningWheel$Deed", "this$0", "LTurningWheel;", true)
  | 1 => ("TurningWheel$9", "val$glaze", "I", true)
  | 2 => ("TurningWheel$9", "val$least", "I", true)
  | 3 => ("TurningWheel$9", "val$many", "I", true)
  | 4 => ("TurningWheel$9", "val$until", "I", true)
  | 5 => ("TurningWheel$9", "val$price", "I", true)
  | _ => ("TurningWheel$9", "this$0", "LTurningWheel;", true)
def tyX20 : Nat → FieldType := fun k => match k with
  | 0 => .object "TurningWheel"
  | 1 => .int
  | 2 => .int
  | 3 => .int
  | 4 => .int
  | 5 => .int
  | _ => .object "TurningWheel"
abbrev wsX200 : List Cond := u_ws RX20 TX20 7
-- two fields of one name: no nmX20
theorem tyX20_ok : ∀ k, k < 7 → parseFieldDescriptor (TX20 k).2.2.1 = some (tyX20 k) := by decide +kernel
abbrev cX20_does : ByteArray := prog_12_method_2_code
def yX20_does : MethodName := ⟨RX20, "does", "(LTurningWheel$Pottery;)I"⟩
def dkwX20_does_1 : List UInt8 := [180, 0, 20, 183, 0, 31, 182, 0, 34, 172]
abbrev dktX20_does_1 : List UInt8 := dkwX20_does_1 ++ []
def dkwX20_does_0 : List UInt8 := [43, 187, 0, 29, 89, 42, 180, 0, 7, 42, 180, 0, 11, 42, 180, 0, 14, 42, 180, 0, 17, 42]
abbrev dktX20_does_0 : List UInt8 := dkwX20_does_0 ++ dktX20_does_1
theorem dksX20_does_0 : cX20_does.data.toList.drop 0 = dktX20_does_0 := by decide +kernel
theorem dksX20_does_1 : cX20_does.data.toList.drop 22 = dktX20_does_1 := dk_seg dksX20_does_0 22 rfl rfl
theorem dX20_does_0 : decode cX20_does 0 = .ok (.aload_n 1, 1) := dk_43 (dk_at dksX20_does_0 0 rfl rfl)
theorem dX20_does_1 : decode cX20_does 1 = .ok (.new 29, 3) := dk_187 0 29 (dk_at dksX20_does_0 1 rfl rfl)
theorem dX20_does_4 : decode cX20_does 4 = .ok (.dup, 1) := dk_89 (dk_at dksX20_does_0 4 rfl rfl)
theorem dX20_does_5 : decode cX20_does 5 = .ok (.aload_n 0, 1) := dk_42 (dk_at dksX20_does_0 5 rfl rfl)
theorem dX20_does_6 : decode cX20_does 6 = .ok (.getfield 7, 3) := dk_180 0 7 (dk_at dksX20_does_0 6 rfl rfl)
theorem dX20_does_9 : decode cX20_does 9 = .ok (.aload_n 0, 1) := dk_42 (dk_at dksX20_does_0 9 rfl rfl)
theorem dX20_does_10 : decode cX20_does 10 = .ok (.getfield 11, 3) := dk_180 0 11 (dk_at dksX20_does_0 10 rfl rfl)
theorem dX20_does_13 : decode cX20_does 13 = .ok (.aload_n 0, 1) := dk_42 (dk_at dksX20_does_0 13 rfl rfl)
theorem dX20_does_14 : decode cX20_does 14 = .ok (.getfield 14, 3) := dk_180 0 14 (dk_at dksX20_does_0 14 rfl rfl)
theorem dX20_does_17 : decode cX20_does 17 = .ok (.aload_n 0, 1) := dk_42 (dk_at dksX20_does_0 17 rfl rfl)
theorem dX20_does_18 : decode cX20_does 18 = .ok (.getfield 17, 3) := dk_180 0 17 (dk_at dksX20_does_0 18 rfl rfl)
theorem dX20_does_21 : decode cX20_does 21 = .ok (.aload_n 0, 1) := dk_42 (dk_at dksX20_does_0 21 rfl rfl)
theorem dX20_does_22 : decode cX20_does 22 = .ok (.getfield 20, 3) := dk_180 0 20 (dk_at dksX20_does_1 0 rfl rfl)
theorem dX20_does_25 : decode cX20_does 25 = .ok (.invokespecial 31, 3) := dk_183 0 31 (dk_at dksX20_does_1 3 rfl rfl)
theorem dX20_does_28 : decode cX20_does 28 = .ok (.invokevirtual 34, 3) := dk_182 0 34 (dk_at dksX20_does_1 6 rfl rfl)
theorem dX20_does_31 : decode cX20_does 31 = .ok (.ireturn, 1) := dk_172 (dk_at dksX20_does_1 9 rfl rfl)
abbrev cX20_init : ByteArray := prog_12_method_1_code
def yX20_init : MethodName := ⟨RX20, "<init>", "(LTurningWheel;IIIII)V"⟩
def dkwX20_init_1 : List UInt8 := [181, 0, 17, 42, 21, 6, 181, 0, 20, 42, 43, 183, 0, 23, 177]
abbrev dktX20_init_1 : List UInt8 := dkwX20_init_1 ++ []
def dkwX20_init_0 : List UInt8 := [42, 43, 181, 0, 1, 42, 28, 181, 0, 7, 42, 29, 181, 0, 11, 42, 21, 4, 181, 0, 14, 42, 21, 5]
abbrev dktX20_init_0 : List UInt8 := dkwX20_init_0 ++ dktX20_init_1
theorem dksX20_init_0 : cX20_init.data.toList.drop 0 = dktX20_init_0 := by decide +kernel
theorem dksX20_init_1 : cX20_init.data.toList.drop 24 = dktX20_init_1 := dk_seg dksX20_init_0 24 rfl rfl
theorem dX20_init_0 : decode cX20_init 0 = .ok (.aload_n 0, 1) := dk_42 (dk_at dksX20_init_0 0 rfl rfl)
theorem dX20_init_1 : decode cX20_init 1 = .ok (.aload_n 1, 1) := dk_43 (dk_at dksX20_init_0 1 rfl rfl)
theorem dX20_init_2 : decode cX20_init 2 = .ok (.putfield 1, 3) := dk_181 0 1 (dk_at dksX20_init_0 2 rfl rfl)
theorem dX20_init_5 : decode cX20_init 5 = .ok (.aload_n 0, 1) := dk_42 (dk_at dksX20_init_0 5 rfl rfl)
theorem dX20_init_6 : decode cX20_init 6 = .ok (.iload_n 2, 1) := dk_28 (dk_at dksX20_init_0 6 rfl rfl)
theorem dX20_init_7 : decode cX20_init 7 = .ok (.putfield 7, 3) := dk_181 0 7 (dk_at dksX20_init_0 7 rfl rfl)
theorem dX20_init_10 : decode cX20_init 10 = .ok (.aload_n 0, 1) := dk_42 (dk_at dksX20_init_0 10 rfl rfl)
theorem dX20_init_11 : decode cX20_init 11 = .ok (.iload_n 3, 1) := dk_29 (dk_at dksX20_init_0 11 rfl rfl)
theorem dX20_init_12 : decode cX20_init 12 = .ok (.putfield 11, 3) := dk_181 0 11 (dk_at dksX20_init_0 12 rfl rfl)
theorem dX20_init_15 : decode cX20_init 15 = .ok (.aload_n 0, 1) := dk_42 (dk_at dksX20_init_0 15 rfl rfl)
theorem dX20_init_16 : decode cX20_init 16 = .ok (.iload 4, 2) := dk_21 4 (dk_at dksX20_init_0 16 rfl rfl)
theorem dX20_init_18 : decode cX20_init 18 = .ok (.putfield 14, 3) := dk_181 0 14 (dk_at dksX20_init_0 18 rfl rfl)
theorem dX20_init_21 : decode cX20_init 21 = .ok (.aload_n 0, 1) := dk_42 (dk_at dksX20_init_0 21 rfl rfl)
theorem dX20_init_22 : decode cX20_init 22 = .ok (.iload 5, 2) := dk_21 5 (dk_at dksX20_init_0 22 rfl rfl)
theorem dX20_init_24 : decode cX20_init 24 = .ok (.putfield 17, 3) := dk_181 0 17 (dk_at dksX20_init_1 0 rfl rfl)
theorem dX20_init_27 : decode cX20_init 27 = .ok (.aload_n 0, 1) := dk_42 (dk_at dksX20_init_1 3 rfl rfl)
theorem dX20_init_28 : decode cX20_init 28 = .ok (.iload 6, 2) := dk_21 6 (dk_at dksX20_init_1 4 rfl rfl)
theorem dX20_init_30 : decode cX20_init 30 = .ok (.putfield 20, 3) := dk_181 0 20 (dk_at dksX20_init_1 6 rfl rfl)
theorem dX20_init_33 : decode cX20_init 33 = .ok (.aload_n 0, 1) := dk_42 (dk_at dksX20_init_1 9 rfl rfl)
theorem dX20_init_34 : decode cX20_init 34 = .ok (.aload_n 1, 1) := dk_43 (dk_at dksX20_init_1 10 rfl rfl)
theorem dX20_init_35 : decode cX20_init 35 = .ok (.invokespecial 23, 3) := dk_183 0 23 (dk_at dksX20_init_1 11 rfl rfl)
theorem dX20_init_38 : decode cX20_init 38 = .ok (.return_, 1) := dk_177 (dk_at dksX20_init_1 14 rfl rfl)
theorem q144 : (Jvm.Cond.initialized "TurningWheel$9") ∈ lw_all := lw_g (lw_at lw_m1 61 rfl) rfl
theorem q555 : (Jvm.Cond.selects "TurningWheel$9" ({ cls := "java/lang/Object", name := "getClass", desc := "()Ljava/lang/Class;" } : Jvm.MethodName) ({ cls := "java/lang/Object", name := "getClass", desc := "()Ljava/lang/Class;" } : Jvm.MethodName)) ∈ lw_all := lw_g (lw_at lw_m2 232 rfl) rfl
theorem q1923 : (Jvm.Cond.selects "TurningWheel$9" ({ cls := "TurningWheel$Deed", name := "does", desc := "(LTurningWheel$Pottery;)I" } : Jvm.MethodName) ({ cls := "TurningWheel$9", name := "does", desc := "(LTurningWheel$Pottery;)I" } : Jvm.MethodName)) ∈ lw_all := lw_g (lw_at lw_m8 160 rfl) rfl
theorem q1924 : (Jvm.Cond.instanceMethod ({ cls := "TurningWheel$9", name := "does", desc := "(LTurningWheel$Pottery;)I" } : Jvm.MethodName)) ∈ lw_all := lw_g (lw_at lw_m8 161 rfl) rfl
theorem q1925 : (Jvm.Cond.code ({ cls := "TurningWheel$9", name := "does", desc := "(LTurningWheel$Pottery;)I" } : Jvm.MethodName) prog_12_method_2_code (2 : Nat) (Option.some Jvm.ClassFile.FieldType.int)) ∈ lw_all := lw_g (lw_at lw_m8 162 rfl) rfl
theorem q1926 : (Jvm.Cond.classLink "TurningWheel$9" (29 : Nat) "TurningWheel$Order") ∈ lw_all := lw_g (lw_at lw_m8 163 rfl) rfl
theorem q1927 : (Jvm.Cond.methodLink "TurningWheel$9" (31 : Nat) ({ cls := "TurningWheel$Order", name := "<init>", desc := "(IIIII)V" } : Jvm.MethodName)) ∈ lw_all := lw_g (lw_at lw_m8 164 rfl) rfl
theorem q1928 : (Jvm.Cond.methodLink "TurningWheel$9" (34 : Nat) ({ cls := "TurningWheel$Pottery", name := "addsOrder", desc := "(LTurningWheel$Order;)I" } : Jvm.MethodName)) ∈ lw_all := lw_g (lw_at lw_m8 165 rfl) rfl
theorem q2141 : (Jvm.Cond.instantiable "TurningWheel$9" (7 : Nat)) ∈ lw_all := lw_g (lw_at lw_m9 138 rfl) rfl
theorem q2143 : (Jvm.Cond.instanceMethod ({ cls := "TurningWheel$9", name := "<init>", desc := "(LTurningWheel;IIIII)V" } : Jvm.MethodName)) ∈ lw_all := lw_g (lw_at lw_m9 140 rfl) rfl
theorem q2144 : (Jvm.Cond.code ({ cls := "TurningWheel$9", name := "<init>", desc := "(LTurningWheel;IIIII)V" } : Jvm.MethodName) prog_12_method_1_code (7 : Nat) (Option.none : Option Jvm.ClassFile.FieldType)) ∈ lw_all := lw_g (lw_at lw_m9 141 rfl) rfl
theorem q2145 : (Jvm.Cond.methodLinkNest "TurningWheel$9" (23 : Nat) ({ cls := "TurningWheel$Deed", name := "<init>", desc := "(LTurningWheel;)V" } : Jvm.MethodName) "TurningWheel") ∈ lw_tbl := lw_at lw_m9 142 rfl
theorem q2146 : (Jvm.Cond.fieldLink "TurningWheel$9" (7 : Nat) "TurningWheel$9" "val$glaze" "I") ∈ lw_all := lw_g (lw_at lw_m9 143 rfl) rfl
theorem q2147 : (Jvm.Cond.fieldLink "TurningWheel$9" (11 : Nat) "TurningWheel$9" "val$least" "I") ∈ lw_all := lw_g (lw_at lw_m9 144 rfl) rfl
theorem q2148 : (Jvm.Cond.fieldLink "TurningWheel$9" (14 : Nat) "TurningWheel$9" "val$many" "I") ∈ lw_all := lw_g (lw_at lw_m9 145 rfl) rfl
theorem q2149 : (Jvm.Cond.fieldLink "TurningWheel$9" (17 : Nat) "TurningWheel$9" "val$until" "I") ∈ lw_all := lw_g (lw_at lw_m9 146 rfl) rfl
theorem q2150 : (Jvm.Cond.fieldLink "TurningWheel$9" (20 : Nat) "TurningWheel$9" "val$price" "I") ∈ lw_all := lw_g (lw_at lw_m9 147 rfl) rfl
theorem q2151 : (Jvm.Cond.fieldLink "TurningWheel$9" (1 : Nat) "TurningWheel$9" "this$0" "LTurningWheel;") ∈ lw_all := lw_g (lw_at lw_m9 148 rfl) rfl
theorem q2152 : (Jvm.Cond.laysFinal "TurningWheel$9" "TurningWheel$9" "val$glaze" "I") ∈ lw_all := lw_g (lw_at lw_m9 149 rfl) rfl
theorem q2153 : (Jvm.Cond.soleField "TurningWheel$9" "val$glaze") ∈ lw_all := lw_g (lw_at lw_m9 150 rfl) rfl
theorem q2154 : (Jvm.Cond.laysFinal "TurningWheel$9" "TurningWheel$9" "val$least" "I") ∈ lw_all := lw_g (lw_at lw_m9 151 rfl) rfl
theorem q2155 : (Jvm.Cond.soleField "TurningWheel$9" "val$least") ∈ lw_all := lw_g (lw_at lw_m9 152 rfl) rfl
theorem q2156 : (Jvm.Cond.laysFinal "TurningWheel$9" "TurningWheel$9" "val$many" "I") ∈ lw_all := lw_g (lw_at lw_m9 153 rfl) rfl
theorem q2157 : (Jvm.Cond.soleField "TurningWheel$9" "val$many") ∈ lw_all := lw_g (lw_at lw_m9 154 rfl) rfl
theorem q2158 : (Jvm.Cond.laysFinal "TurningWheel$9" "TurningWheel$9" "val$until" "I") ∈ lw_all := lw_g (lw_at lw_m9 155 rfl) rfl
theorem q2159 : (Jvm.Cond.soleField "TurningWheel$9" "val$until") ∈ lw_all := lw_g (lw_at lw_m9 156 rfl) rfl
theorem q2160 : (Jvm.Cond.laysFinal "TurningWheel$9" "TurningWheel$9" "val$price" "I") ∈ lw_all := lw_g (lw_at lw_m9 157 rfl) rfl
theorem q2161 : (Jvm.Cond.soleField "TurningWheel$9" "val$price") ∈ lw_all := lw_g (lw_at lw_m9 158 rfl) rfl
theorem q2162 : (Jvm.Cond.laysFinal "TurningWheel$9" "TurningWheel$9" "this$0" "LTurningWheel;") ∈ lw_all := lw_g (lw_at lw_m9 159 rfl) rfl
theorem q2163 : (Jvm.Cond.soleField "TurningWheel$9" "this$0") ∈ lw_all := lw_g (lw_at lw_m9 160 rfl) rfl
theorem q2164 : (Jvm.Cond.laysFinal "TurningWheel$9" "TurningWheel$Deed" "this$0" "LTurningWheel;") ∈ lw_all := lw_g (lw_at lw_m9 161 rfl) rfl
theorem q2165 : (Jvm.Cond.superclass "TurningWheel$9" "TurningWheel$Deed") ∈ lw_all := lw_g (lw_at lw_m9 162 rfl) rfl
theorem q2167 : (Jvm.Cond.sameMethod "TurningWheel$9" "TurningWheel$Deed" "done" "()I") ∈ lw_all := lw_g (lw_at lw_m9 164 rfl) rfl
theorem q2168 : (Jvm.Cond.selects "TurningWheel$9" ({ cls := "TurningWheel$9", name := "done", desc := "()I" } : Jvm.MethodName) ({ cls := "TurningWheel$Deed", name := "done", desc := "()I" } : Jvm.MethodName)) ∈ lw_all := lw_g (lw_at lw_m9 165 rfl) rfl
theorem q3071 : (Jvm.Cond.castable "TurningWheel$9" "java/lang/Object") ∈ lw_tbl := lw_at lw_m13 108 rfl
theorem in_X20 : ∀ w ∈ wsX200, w ∈ lw_all := lw_in wsX200 [2164, 2152, 2154, 2156, 2158, 2160, 2162] (by decide +kernel) (by decide +kernel)

/-! TurningWheel$10 -/
set_option maxRecDepth 100000
def RX21 : String := "TurningWheel$10"
def TX21 : u_T := fun k => match k with
  | 0 => ("TurningWheel$Deed", "this$0", "LTurningWheel;", true)
  | 1 => ("TurningWheel$10", "val$hours", "I", true)
  | _ => ("TurningWheel$10", "this$0", "LTurningWheel;", true)
def tyX21 : Nat → FieldType := fun k => match k with
  | 0 => .object "TurningWheel"
  | 1 => .int
  | _ => .object "TurningWheel"
abbrev wsX210 : List Cond := u_ws RX21 TX21 3
-- two fields of one name: no nmX21
theorem tyX21_ok : ∀ k, k < 3 → parseFieldDescriptor (TX21 k).2.2.1 = some (tyX21 k) := by decide +kernel
abbrev cX21_does : ByteArray := prog_3_method_2_code
def yX21_does : MethodName := ⟨RX21, "does", "(LTurningWheel$Pottery;)I"⟩
def dkwX21_does_0 : List UInt8 := [43, 42, 180, 0, 7, 182, 0, 17, 172]
abbrev dktX21_does_0 : List UInt8 := dkwX21_does_0 ++ []
theorem dksX21_does_0 : cX21_does.data.toList.drop 0 = dktX21_does_0 := by decide +kernel
theorem dX21_does_0 : decode cX21_does 0 = .ok (.aload_n 1, 1) := dk_43 (dk_at dksX21_does_0 0 rfl rfl)
theorem dX21_does_1 : decode cX21_does 1 = .ok (.aload_n 0, 1) := dk_42 (dk_at dksX21_does_0 1 rfl rfl)
theorem dX21_does_2 : decode cX21_does 2 = .ok (.getfield 7, 3) := dk_180 0 7 (dk_at dksX21_does_0 2 rfl rfl)
theorem dX21_does_5 : decode cX21_does 5 = .ok (.invokevirtual 17, 3) := dk_182 0 17 (dk_at dksX21_does_0 5 rfl rfl)
theorem dX21_does_8 : decode cX21_does 8 = .ok (.ireturn, 1) := dk_172 (dk_at dksX21_does_0 8 rfl rfl)
abbrev cX21_init : ByteArray := prog_3_method_1_code
def yX21_init : MethodName := ⟨RX21, "<init>", "(LTurningWheel;I)V"⟩
def dkwX21_init_0 : List UInt8 := [42, 43, 181, 0, 1, 42, 28, 181, 0, 7, 42, 43, 183, 0, 11, 177]
abbrev dktX21_init_0 : List UInt8 := dkwX21_init_0 ++ []
theorem dksX21_init_0 : cX21_init.data.toList.drop 0 = dktX21_init_0 := by decide +kernel
theorem dX21_init_0 : decode cX21_init 0 = .ok (.aload_n 0, 1) := dk_42 (dk_at dksX21_init_0 0 rfl rfl)
theorem dX21_init_1 : decode cX21_init 1 = .ok (.aload_n 1, 1) := dk_43 (dk_at dksX21_init_0 1 rfl rfl)
theorem dX21_init_2 : decode cX21_init 2 = .ok (.putfield 1, 3) := dk_181 0 1 (dk_at dksX21_init_0 2 rfl rfl)
theorem dX21_init_5 : decode cX21_init 5 = .ok (.aload_n 0, 1) := dk_42 (dk_at dksX21_init_0 5 rfl rfl)
theorem dX21_init_6 : decode cX21_init 6 = .ok (.iload_n 2, 1) := dk_28 (dk_at dksX21_init_0 6 rfl rfl)
theorem dX21_init_7 : decode cX21_init 7 = .ok (.putfield 7, 3) := dk_181 0 7 (dk_at dksX21_init_0 7 rfl rfl)
theorem dX21_init_10 : decode cX21_init 10 = .ok (.aload_n 0, 1) := dk_42 (dk_at dksX21_init_0 10 rfl rfl)
theorem dX21_init_11 : decode cX21_init 11 = .ok (.aload_n 1, 1) := dk_43 (dk_at dksX21_init_0 11 rfl rfl)
theorem dX21_init_12 : decode cX21_init 12 = .ok (.invokespecial 11, 3) := dk_183 0 11 (dk_at dksX21_init_0 12 rfl rfl)
theorem dX21_init_15 : decode cX21_init 15 = .ok (.return_, 1) := dk_177 (dk_at dksX21_init_0 15 rfl rfl)
theorem q145 : (Jvm.Cond.initialized "TurningWheel$10") ∈ lw_all := lw_g (lw_at lw_m1 62 rfl) rfl
theorem q546 : (Jvm.Cond.selects "TurningWheel$10" ({ cls := "java/lang/Object", name := "getClass", desc := "()Ljava/lang/Class;" } : Jvm.MethodName) ({ cls := "java/lang/Object", name := "getClass", desc := "()Ljava/lang/Class;" } : Jvm.MethodName)) ∈ lw_all := lw_g (lw_at lw_m2 223 rfl) rfl
theorem q1276 : (Jvm.Cond.selects "TurningWheel$10" ({ cls := "TurningWheel$Deed", name := "does", desc := "(LTurningWheel$Pottery;)I" } : Jvm.MethodName) ({ cls := "TurningWheel$10", name := "does", desc := "(LTurningWheel$Pottery;)I" } : Jvm.MethodName)) ∈ lw_all := lw_g (lw_at lw_m5 233 rfl) rfl
theorem q1277 : (Jvm.Cond.instanceMethod ({ cls := "TurningWheel$10", name := "does", desc := "(LTurningWheel$Pottery;)I" } : Jvm.MethodName)) ∈ lw_all := lw_g (lw_at lw_m5 234 rfl) rfl
theorem q1278 : (Jvm.Cond.code ({ cls := "TurningWheel$10", name := "does", desc := "(LTurningWheel$Pottery;)I" } : Jvm.MethodName) prog_3_method_2_code (2 : Nat) (Option.some Jvm.ClassFile.FieldType.int)) ∈ lw_all := lw_g (lw_at lw_m5 235 rfl) rfl
theorem q1279 : (Jvm.Cond.methodLink "TurningWheel$10" (17 : Nat) ({ cls := "TurningWheel$Pottery", name := "passes", desc := "(I)I" } : Jvm.MethodName)) ∈ lw_all := lw_g (lw_at lw_m5 236 rfl) rfl
theorem q2174 : (Jvm.Cond.instantiable "TurningWheel$10" (3 : Nat)) ∈ lw_all := lw_g (lw_at lw_m9 171 rfl) rfl
theorem q2176 : (Jvm.Cond.instanceMethod ({ cls := "TurningWheel$10", name := "<init>", desc := "(LTurningWheel;I)V" } : Jvm.MethodName)) ∈ lw_all := lw_g (lw_at lw_m9 173 rfl) rfl
theorem q2177 : (Jvm.Cond.code ({ cls := "TurningWheel$10", name := "<init>", desc := "(LTurningWheel;I)V" } : Jvm.MethodName) prog_3_method_1_code (3 : Nat) (Option.none : Option Jvm.ClassFile.FieldType)) ∈ lw_all := lw_g (lw_at lw_m9 174 rfl) rfl
theorem q2178 : (Jvm.Cond.methodLinkNest "TurningWheel$10" (11 : Nat) ({ cls := "TurningWheel$Deed", name := "<init>", desc := "(LTurningWheel;)V" } : Jvm.MethodName) "TurningWheel") ∈ lw_tbl := lw_at lw_m9 175 rfl
theorem q2179 : (Jvm.Cond.fieldLink "TurningWheel$10" (7 : Nat) "TurningWheel$10" "val$hours" "I") ∈ lw_all := lw_g (lw_at lw_m9 176 rfl) rfl
theorem q2180 : (Jvm.Cond.fieldLink "TurningWheel$10" (1 : Nat) "TurningWheel$10" "this$0" "LTurningWheel;") ∈ lw_all := lw_g (lw_at lw_m9 177 rfl) rfl
theorem q2181 : (Jvm.Cond.laysFinal "TurningWheel$10" "TurningWheel$10" "val$hours" "I") ∈ lw_all := lw_g (lw_at lw_m9 178 rfl) rfl
theorem q2182 : (Jvm.Cond.soleField "TurningWheel$10" "val$hours") ∈ lw_all := lw_g (lw_at lw_m9 179 rfl) rfl
theorem q2183 : (Jvm.Cond.laysFinal "TurningWheel$10" "TurningWheel$10" "this$0" "LTurningWheel;") ∈ lw_all := lw_g (lw_at lw_m9 180 rfl) rfl
theorem q2184 : (Jvm.Cond.soleField "TurningWheel$10" "this$0") ∈ lw_all := lw_g (lw_at lw_m9 181 rfl) rfl
theorem q2185 : (Jvm.Cond.laysFinal "TurningWheel$10" "TurningWheel$Deed" "this$0" "LTurningWheel;") ∈ lw_all := lw_g (lw_at lw_m9 182 rfl) rfl
theorem q2186 : (Jvm.Cond.superclass "TurningWheel$10" "TurningWheel$Deed") ∈ lw_all := lw_g (lw_at lw_m9 183 rfl) rfl
theorem q2188 : (Jvm.Cond.sameMethod "TurningWheel$10" "TurningWheel$Deed" "done" "()I") ∈ lw_all := lw_g (lw_at lw_m9 185 rfl) rfl
theorem q2189 : (Jvm.Cond.selects "TurningWheel$10" ({ cls := "TurningWheel$10", name := "done", desc := "()I" } : Jvm.MethodName) ({ cls := "TurningWheel$Deed", name := "done", desc := "()I" } : Jvm.MethodName)) ∈ lw_all := lw_g (lw_at lw_m9 186 rfl) rfl
theorem q3073 : (Jvm.Cond.castable "TurningWheel$10" "java/lang/Object") ∈ lw_tbl := lw_at lw_m13 110 rfl
theorem in_X21 : ∀ w ∈ wsX210, w ∈ lw_all := lw_in wsX210 [2185, 2181, 2183] (by decide +kernel) (by decide +kernel)

/-! TurningWheel$Turn -/
set_option maxRecDepth 100000
def RX22 : String := "TurningWheel$Turn"
abbrev cX22_init : ByteArray := prog_29_method_1_code
def yX22_init : MethodName := ⟨RX22, "<init>", "(I)V"⟩
def dkwX22_init_0 : List UInt8 := [42, 183, 0, 1, 42, 27, 181, 0, 7, 177]
abbrev dktX22_init_0 : List UInt8 := dkwX22_init_0 ++ []
theorem dksX22_init_0 : cX22_init.data.toList.drop 0 = dktX22_init_0 := by decide +kernel
theorem dX22_init_0 : decode cX22_init 0 = .ok (.aload_n 0, 1) := dk_42 (dk_at dksX22_init_0 0 rfl rfl)
theorem dX22_init_1 : decode cX22_init 1 = .ok (.invokespecial 1, 3) := dk_183 0 1 (dk_at dksX22_init_0 1 rfl rfl)
theorem dX22_init_4 : decode cX22_init 4 = .ok (.aload_n 0, 1) := dk_42 (dk_at dksX22_init_0 4 rfl rfl)
theorem dX22_init_5 : decode cX22_init 5 = .ok (.iload_n 1, 1) := dk_27 (dk_at dksX22_init_0 5 rfl rfl)
theorem dX22_init_6 : decode cX22_init 6 = .ok (.putfield 7, 3) := dk_181 0 7 (dk_at dksX22_init_0 6 rfl rfl)
theorem dX22_init_9 : decode cX22_init 9 = .ok (.return_, 1) := dk_177 (dk_at dksX22_init_0 9 rfl rfl)
abbrev cX22_can : ByteArray := prog_29_method_2_code
def yX22_can : MethodName := ⟨RX22, "can", "(LTurningWheel$Pot;)Z"⟩
def dkwX22_can_0 : List UInt8 := [43, 180, 0, 13, 42, 180, 0, 7, 162, 0, 7, 4, 167, 0, 4, 3, 172]
abbrev dktX22_can_0 : List UInt8 := dkwX22_can_0 ++ []
theorem dksX22_can_0 : cX22_can.data.toList.drop 0 = dktX22_can_0 := by decide +kernel
theorem dX22_can_0 : decode cX22_can 0 = .ok (.aload_n 1, 1) := dk_43 (dk_at dksX22_can_0 0 rfl rfl)
theorem dX22_can_1 : decode cX22_can 1 = .ok (.getfield 13, 3) := dk_180 0 13 (dk_at dksX22_can_0 1 rfl rfl)
theorem dX22_can_4 : decode cX22_can 4 = .ok (.aload_n 0, 1) := dk_42 (dk_at dksX22_can_0 4 rfl rfl)
theorem dX22_can_5 : decode cX22_can 5 = .ok (.getfield 7, 3) := dk_180 0 7 (dk_at dksX22_can_0 5 rfl rfl)
theorem dX22_can_8 : decode cX22_can 8 = .ok (.if_icmp .ge 7, 3) := dk_162 0 7 (dk_at dksX22_can_0 8 rfl rfl)
theorem dX22_can_11 : decode cX22_can 11 = .ok (.iconst 1, 1) := dk_4 (dk_at dksX22_can_0 11 rfl rfl)
theorem dX22_can_12 : decode cX22_can 12 = .ok (.goto 4, 3) := dk_167 0 4 (dk_at dksX22_can_0 12 rfl rfl)
theorem dX22_can_15 : decode cX22_can 15 = .ok (.iconst 0, 1) := dk_3 (dk_at dksX22_can_0 15 rfl rfl)
theorem dX22_can_16 : decode cX22_can 16 = .ok (.ireturn, 1) := dk_172 (dk_at dksX22_can_0 16 rfl rfl)
abbrev cX22_isSo : ByteArray := prog_29_method_3_code
def yX22_isSo : MethodName := ⟨RX22, "isSo", "(LTurningWheel$Pot;)Z"⟩
def dkwX22_isSo_0 : List UInt8 := [43, 180, 0, 13, 42, 180, 0, 7, 161, 0, 7, 4, 167, 0, 4, 3, 172]
abbrev dktX22_isSo_0 : List UInt8 := dkwX22_isSo_0 ++ []
theorem dksX22_isSo_0 : cX22_isSo.data.toList.drop 0 = dktX22_isSo_0 := by decide +kernel
theorem dX22_isSo_0 : decode cX22_isSo 0 = .ok (.aload_n 1, 1) := dk_43 (dk_at dksX22_isSo_0 0 rfl rfl)
theorem dX22_isSo_1 : decode cX22_isSo 1 = .ok (.getfield 13, 3) := dk_180 0 13 (dk_at dksX22_isSo_0 1 rfl rfl)
theorem dX22_isSo_4 : decode cX22_isSo 4 = .ok (.aload_n 0, 1) := dk_42 (dk_at dksX22_isSo_0 4 rfl rfl)
theorem dX22_isSo_5 : decode cX22_isSo 5 = .ok (.getfield 7, 3) := dk_180 0 7 (dk_at dksX22_isSo_0 5 rfl rfl)
theorem dX22_isSo_8 : decode cX22_isSo 8 = .ok (.if_icmp .lt 7, 3) := dk_161 0 7 (dk_at dksX22_isSo_0 8 rfl rfl)
theorem dX22_isSo_11 : decode cX22_isSo 11 = .ok (.iconst 1, 1) := dk_4 (dk_at dksX22_isSo_0 11 rfl rfl)
theorem dX22_isSo_12 : decode cX22_isSo 12 = .ok (.goto 4, 3) := dk_167 0 4 (dk_at dksX22_isSo_0 12 rfl rfl)
theorem dX22_isSo_15 : decode cX22_isSo 15 = .ok (.iconst 0, 1) := dk_3 (dk_at dksX22_isSo_0 15 rfl rfl)
theorem dX22_isSo_16 : decode cX22_isSo 16 = .ok (.ireturn, 1) := dk_172 (dk_at dksX22_isSo_0 16 rfl rfl)
theorem q146 : (Jvm.Cond.initialized "TurningWheel$Turn") ∈ lw_all := lw_g (lw_at lw_m1 63 rfl) rfl
theorem q458 : (Jvm.Cond.fieldLinkNest "TurningWheel$Turn" (13 : Nat) "TurningWheel$Pot" "state" "I" "TurningWheel") ∈ lw_tbl := lw_at lw_m2 135 rfl
theorem q2270 : (Jvm.Cond.instanceMethod ({ cls := "TurningWheel$Turn", name := "<init>", desc := "(I)V" } : Jvm.MethodName)) ∈ lw_all := lw_g (lw_at lw_m10 27 rfl) rfl
theorem q2271 : (Jvm.Cond.code ({ cls := "TurningWheel$Turn", name := "<init>", desc := "(I)V" } : Jvm.MethodName) prog_29_method_1_code (2 : Nat) (Option.none : Option Jvm.ClassFile.FieldType)) ∈ lw_all := lw_g (lw_at lw_m10 28 rfl) rfl
theorem q2272 : (Jvm.Cond.methodLink "TurningWheel$Turn" (1 : Nat) ({ cls := "java/lang/Object", name := "<init>", desc := "()V" } : Jvm.MethodName)) ∈ lw_all := lw_g (lw_at lw_m10 29 rfl) rfl
theorem q2273 : (Jvm.Cond.fieldLink "TurningWheel$Turn" (7 : Nat) "TurningWheel$Turn" "state" "I") ∈ lw_all := lw_g (lw_at lw_m10 30 rfl) rfl
theorem q2275 : (Jvm.Cond.soleField "TurningWheel$Turn" "state") ∈ lw_all := lw_g (lw_at lw_m10 32 rfl) rfl
theorem q2360 : (Jvm.Cond.instanceMethod ({ cls := "TurningWheel$Turn", name := "can", desc := "(LTurningWheel$Pot;)Z" } : Jvm.MethodName)) ∈ lw_all := lw_g (lw_at lw_m10 117 rfl) rfl
theorem q2361 : (Jvm.Cond.sameMethod "TurningWheel$Turn" "TurningWheel$Turn" "can" "(LTurningWheel$Pot;)Z") ∈ lw_all := lw_g (lw_at lw_m10 118 rfl) rfl
theorem q2366 : (Jvm.Cond.code ({ cls := "TurningWheel$Turn", name := "can", desc := "(LTurningWheel$Pot;)Z" } : Jvm.MethodName) prog_29_method_2_code (2 : Nat) (Option.some Jvm.ClassFile.FieldType.boolean)) ∈ lw_all := lw_g (lw_at lw_m10 123 rfl) rfl
theorem q2369 : (Jvm.Cond.instanceMethod ({ cls := "TurningWheel$Turn", name := "isSo", desc := "(LTurningWheel$Pot;)Z" } : Jvm.MethodName)) ∈ lw_all := lw_g (lw_at lw_m10 126 rfl) rfl
theorem q2370 : (Jvm.Cond.sameMethod "TurningWheel$Turn" "TurningWheel$Turn" "isSo" "(LTurningWheel$Pot;)Z") ∈ lw_all := lw_g (lw_at lw_m10 127 rfl) rfl
theorem q2379 : (Jvm.Cond.code ({ cls := "TurningWheel$Turn", name := "isSo", desc := "(LTurningWheel$Pot;)Z" } : Jvm.MethodName) prog_29_method_3_code (2 : Nat) (Option.some Jvm.ClassFile.FieldType.boolean)) ∈ lw_all := lw_g (lw_at lw_m10 136 rfl) rfl

/-! TurningWheel$Starts -/
set_option maxRecDepth 100000
def RX23 : String := "TurningWheel$Starts"
def TX23 : u_T := fun k => match k with
  | _ => ("TurningWheel$Turn", "state", "I", true)
def tyX23 : Nat → FieldType := fun k => match k with
  | _ => .int
abbrev wsX230 : List Cond := u_ws RX23 TX23 1
theorem nmX23 : ∀ a, a < 1 → ∀ b, b < 1 → a ≠ b → (TX23 a).2.1 ≠ (TX23 b).2.1 := by decide +kernel
theorem tyX23_ok : ∀ k, k < 1 → parseFieldDescriptor (TX23 k).2.2.1 = some (tyX23 k) := by decide +kernel
abbrev cX23_init : ByteArray := prog_28_method_1_code
def yX23_init : MethodName := ⟨RX23, "<init>", "()V"⟩
def dkwX23_init_0 : List UInt8 := [42, 4, 183, 0, 3, 177]
abbrev dktX23_init_0 : List UInt8 := dkwX23_init_0 ++ []
theorem dksX23_init_0 : cX23_init.data.toList.drop 0 = dktX23_init_0 := by decide +kernel
theorem dX23_init_0 : decode cX23_init 0 = .ok (.aload_n 0, 1) := dk_42 (dk_at dksX23_init_0 0 rfl rfl)
theorem dX23_init_1 : decode cX23_init 1 = .ok (.iconst 1, 1) := dk_4 (dk_at dksX23_init_0 1 rfl rfl)
theorem dX23_init_2 : decode cX23_init 2 = .ok (.invokespecial 3, 3) := dk_183 0 3 (dk_at dksX23_init_0 2 rfl rfl)
theorem dX23_init_5 : decode cX23_init 5 = .ok (.return_, 1) := dk_177 (dk_at dksX23_init_0 5 rfl rfl)
theorem q147 : (Jvm.Cond.initialized "TurningWheel$Starts") ∈ lw_all := lw_g (lw_at lw_m1 64 rfl) rfl
theorem q570 : (Jvm.Cond.selects "TurningWheel$Starts" ({ cls := "java/lang/Object", name := "getClass", desc := "()Ljava/lang/Class;" } : Jvm.MethodName) ({ cls := "java/lang/Object", name := "getClass", desc := "()Ljava/lang/Class;" } : Jvm.MethodName)) ∈ lw_all := lw_g (lw_at lw_m3 7 rfl) rfl
theorem q2265 : (Jvm.Cond.instantiable "TurningWheel$Starts" (1 : Nat)) ∈ lw_all := lw_g (lw_at lw_m10 22 rfl) rfl
theorem q2267 : (Jvm.Cond.instanceMethod ({ cls := "TurningWheel$Starts", name := "<init>", desc := "()V" } : Jvm.MethodName)) ∈ lw_all := lw_g (lw_at lw_m10 24 rfl) rfl
theorem q2268 : (Jvm.Cond.code ({ cls := "TurningWheel$Starts", name := "<init>", desc := "()V" } : Jvm.MethodName) prog_28_method_1_code (1 : Nat) (Option.none : Option Jvm.ClassFile.FieldType)) ∈ lw_all := lw_g (lw_at lw_m10 25 rfl) rfl
theorem q2269 : (Jvm.Cond.methodLink "TurningWheel$Starts" (3 : Nat) ({ cls := "TurningWheel$Turn", name := "<init>", desc := "(I)V" } : Jvm.MethodName)) ∈ lw_all := lw_g (lw_at lw_m10 26 rfl) rfl
theorem q2274 : (Jvm.Cond.laysFinal "TurningWheel$Starts" "TurningWheel$Turn" "state" "I") ∈ lw_all := lw_g (lw_at lw_m10 31 rfl) rfl
theorem q2276 : (Jvm.Cond.superclass "TurningWheel$Starts" "TurningWheel$Turn") ∈ lw_all := lw_g (lw_at lw_m10 33 rfl) rfl
theorem q2365 : (Jvm.Cond.selects "TurningWheel$Starts" ({ cls := "TurningWheel$Turn", name := "can", desc := "(LTurningWheel$Pot;)Z" } : Jvm.MethodName) ({ cls := "TurningWheel$Turn", name := "can", desc := "(LTurningWheel$Pot;)Z" } : Jvm.MethodName)) ∈ lw_all := lw_g (lw_at lw_m10 122 rfl) rfl
theorem q2378 : (Jvm.Cond.selects "TurningWheel$Starts" ({ cls := "TurningWheel$Turn", name := "isSo", desc := "(LTurningWheel$Pot;)Z" } : Jvm.MethodName) ({ cls := "TurningWheel$Turn", name := "isSo", desc := "(LTurningWheel$Pot;)Z" } : Jvm.MethodName)) ∈ lw_all := lw_g (lw_at lw_m10 135 rfl) rfl
theorem q3032 : (Jvm.Cond.castable "TurningWheel$Starts" "TurningWheel$Turn") ∈ lw_tbl := lw_at lw_m13 69 rfl
theorem q3074 : (Jvm.Cond.castable "TurningWheel$Starts" "java/lang/Object") ∈ lw_tbl := lw_at lw_m13 111 rfl
theorem in_X23 : ∀ w ∈ wsX230, w ∈ lw_all := lw_in wsX230 [2274] (by decide +kernel) (by decide +kernel)

/-! TurningWheel$Ends -/
set_option maxRecDepth 100000
def RX24 : String := "TurningWheel$Ends"
def TX24 : u_T := fun k => match k with
  | _ => ("TurningWheel$Turn", "state", "I", true)
def tyX24 : Nat → FieldType := fun k => match k with
  | _ => .int
abbrev wsX240 : List Cond := u_ws RX24 TX24 1
theorem nmX24 : ∀ a, a < 1 → ∀ b, b < 1 → a ≠ b → (TX24 a).2.1 ≠ (TX24 b).2.1 := by decide +kernel
theorem tyX24_ok : ∀ k, k < 1 → parseFieldDescriptor (TX24 k).2.2.1 = some (tyX24 k) := by decide +kernel
abbrev cX24_init : ByteArray := prog_19_method_1_code
def yX24_init : MethodName := ⟨RX24, "<init>", "()V"⟩
def dkwX24_init_0 : List UInt8 := [42, 5, 183, 0, 3, 177]
abbrev dktX24_init_0 : List UInt8 := dkwX24_init_0 ++ []
theorem dksX24_init_0 : cX24_init.data.toList.drop 0 = dktX24_init_0 := by decide +kernel
theorem dX24_init_0 : decode cX24_init 0 = .ok (.aload_n 0, 1) := dk_42 (dk_at dksX24_init_0 0 rfl rfl)
theorem dX24_init_1 : decode cX24_init 1 = .ok (.iconst 2, 1) := dk_5 (dk_at dksX24_init_0 1 rfl rfl)
theorem dX24_init_2 : decode cX24_init 2 = .ok (.invokespecial 3, 3) := dk_183 0 3 (dk_at dksX24_init_0 2 rfl rfl)
theorem dX24_init_5 : decode cX24_init 5 = .ok (.return_, 1) := dk_177 (dk_at dksX24_init_0 5 rfl rfl)
theorem q148 : (Jvm.Cond.initialized "TurningWheel$Ends") ∈ lw_all := lw_g (lw_at lw_m1 65 rfl) rfl
theorem q561 : (Jvm.Cond.selects "TurningWheel$Ends" ({ cls := "java/lang/Object", name := "getClass", desc := "()Ljava/lang/Class;" } : Jvm.MethodName) ({ cls := "java/lang/Object", name := "getClass", desc := "()Ljava/lang/Class;" } : Jvm.MethodName)) ∈ lw_all := lw_g (lw_at lw_m2 238 rfl) rfl
theorem q2278 : (Jvm.Cond.instantiable "TurningWheel$Ends" (1 : Nat)) ∈ lw_all := lw_g (lw_at lw_m10 35 rfl) rfl
theorem q2280 : (Jvm.Cond.instanceMethod ({ cls := "TurningWheel$Ends", name := "<init>", desc := "()V" } : Jvm.MethodName)) ∈ lw_all := lw_g (lw_at lw_m10 37 rfl) rfl
theorem q2281 : (Jvm.Cond.code ({ cls := "TurningWheel$Ends", name := "<init>", desc := "()V" } : Jvm.MethodName) prog_19_method_1_code (1 : Nat) (Option.none : Option Jvm.ClassFile.FieldType)) ∈ lw_all := lw_g (lw_at lw_m10 38 rfl) rfl
theorem q2282 : (Jvm.Cond.methodLink "TurningWheel$Ends" (3 : Nat) ({ cls := "TurningWheel$Turn", name := "<init>", desc := "(I)V" } : Jvm.MethodName)) ∈ lw_all := lw_g (lw_at lw_m10 39 rfl) rfl
theorem q2283 : (Jvm.Cond.laysFinal "TurningWheel$Ends" "TurningWheel$Turn" "state" "I") ∈ lw_all := lw_g (lw_at lw_m10 40 rfl) rfl
theorem q2284 : (Jvm.Cond.superclass "TurningWheel$Ends" "TurningWheel$Turn") ∈ lw_all := lw_g (lw_at lw_m10 41 rfl) rfl
theorem q2364 : (Jvm.Cond.selects "TurningWheel$Ends" ({ cls := "TurningWheel$Turn", name := "can", desc := "(LTurningWheel$Pot;)Z" } : Jvm.MethodName) ({ cls := "TurningWheel$Turn", name := "can", desc := "(LTurningWheel$Pot;)Z" } : Jvm.MethodName)) ∈ lw_all := lw_g (lw_at lw_m10 121 rfl) rfl
theorem q2377 : (Jvm.Cond.selects "TurningWheel$Ends" ({ cls := "TurningWheel$Turn", name := "isSo", desc := "(LTurningWheel$Pot;)Z" } : Jvm.MethodName) ({ cls := "TurningWheel$Turn", name := "isSo", desc := "(LTurningWheel$Pot;)Z" } : Jvm.MethodName)) ∈ lw_all := lw_g (lw_at lw_m10 134 rfl) rfl
theorem q3031 : (Jvm.Cond.castable "TurningWheel$Ends" "TurningWheel$Turn") ∈ lw_tbl := lw_at lw_m13 68 rfl
theorem q3075 : (Jvm.Cond.castable "TurningWheel$Ends" "java/lang/Object") ∈ lw_tbl := lw_at lw_m13 112 rfl
theorem in_X24 : ∀ w ∈ wsX240, w ∈ lw_all := lw_in wsX240 [2283] (by decide +kernel) (by decide +kernel)

/-! TurningWheel$Breaks -/
set_option maxRecDepth 100000
def RX25 : String := "TurningWheel$Breaks"
def TX25 : u_T := fun k => match k with
  | 0 => ("TurningWheel$Turn", "state", "I", true)
  | _ => ("TurningWheel$Breaks", "cracks", "I", true)
def tyX25 : Nat → FieldType := fun k => match k with
  | 0 => .int
  | _ => .int
abbrev wsX250 : List Cond := u_ws RX25 TX25 2
theorem nmX25 : ∀ a, a < 2 → ∀ b, b < 2 → a ≠ b → (TX25 a).2.1 ≠ (TX25 b).2.1 := by decide +kernel
theorem tyX25_ok : ∀ k, k < 2 → parseFieldDescriptor (TX25 k).2.2.1 = some (tyX25 k) := by decide +kernel
abbrev cX25_init : ByteArray := prog_14_method_1_code
def yX25_init : MethodName := ⟨RX25, "<init>", "(LTurningWheel$Pot;)V"⟩
def dkwX25_init_0 : List UInt8 := [42, 6, 183, 0, 3, 42, 43, 180, 0, 9, 181, 0, 15, 177]
abbrev dktX25_init_0 : List UInt8 := dkwX25_init_0 ++ []
theorem dksX25_init_0 : cX25_init.data.toList.drop 0 = dktX25_init_0 := by decide +kernel
theorem dX25_init_0 : decode cX25_init 0 = .ok (.aload_n 0, 1) := dk_42 (dk_at dksX25_init_0 0 rfl rfl)
theorem dX25_init_1 : decode cX25_init 1 = .ok (.iconst 3, 1) := dk_6 (dk_at dksX25_init_0 1 rfl rfl)
theorem dX25_init_2 : decode cX25_init 2 = .ok (.invokespecial 3, 3) := dk_183 0 3 (dk_at dksX25_init_0 2 rfl rfl)
theorem dX25_init_5 : decode cX25_init 5 = .ok (.aload_n 0, 1) := dk_42 (dk_at dksX25_init_0 5 rfl rfl)
theorem dX25_init_6 : decode cX25_init 6 = .ok (.aload_n 1, 1) := dk_43 (dk_at dksX25_init_0 6 rfl rfl)
theorem dX25_init_7 : decode cX25_init 7 = .ok (.getfield 9, 3) := dk_180 0 9 (dk_at dksX25_init_0 7 rfl rfl)
theorem dX25_init_10 : decode cX25_init 10 = .ok (.putfield 15, 3) := dk_181 0 15 (dk_at dksX25_init_0 10 rfl rfl)
theorem dX25_init_13 : decode cX25_init 13 = .ok (.return_, 1) := dk_177 (dk_at dksX25_init_0 13 rfl rfl)
abbrev cX25_isSo : ByteArray := prog_14_method_2_code
def yX25_isSo : MethodName := ⟨RX25, "isSo", "(LTurningWheel$Pot;)Z"⟩
def dkwX25_isSo_0 : List UInt8 := [43, 180, 0, 9, 42, 180, 0, 15, 164, 0, 7, 4, 167, 0, 4, 3, 172]
abbrev dktX25_isSo_0 : List UInt8 := dkwX25_isSo_0 ++ []
theorem dksX25_isSo_0 : cX25_isSo.data.toList.drop 0 = dktX25_isSo_0 := by decide +kernel
theorem dX25_isSo_0 : decode cX25_isSo 0 = .ok (.aload_n 1, 1) := dk_43 (dk_at dksX25_isSo_0 0 rfl rfl)
theorem dX25_isSo_1 : decode cX25_isSo 1 = .ok (.getfield 9, 3) := dk_180 0 9 (dk_at dksX25_isSo_0 1 rfl rfl)
theorem dX25_isSo_4 : decode cX25_isSo 4 = .ok (.aload_n 0, 1) := dk_42 (dk_at dksX25_isSo_0 4 rfl rfl)
theorem dX25_isSo_5 : decode cX25_isSo 5 = .ok (.getfield 15, 3) := dk_180 0 15 (dk_at dksX25_isSo_0 5 rfl rfl)
theorem dX25_isSo_8 : decode cX25_isSo 8 = .ok (.if_icmp .le 7, 3) := dk_164 0 7 (dk_at dksX25_isSo_0 8 rfl rfl)
theorem dX25_isSo_11 : decode cX25_isSo 11 = .ok (.iconst 1, 1) := dk_4 (dk_at dksX25_isSo_0 11 rfl rfl)
theorem dX25_isSo_12 : decode cX25_isSo 12 = .ok (.goto 4, 3) := dk_167 0 4 (dk_at dksX25_isSo_0 12 rfl rfl)
theorem dX25_isSo_15 : decode cX25_isSo 15 = .ok (.iconst 0, 1) := dk_3 (dk_at dksX25_isSo_0 15 rfl rfl)
theorem dX25_isSo_16 : decode cX25_isSo 16 = .ok (.ireturn, 1) := dk_172 (dk_at dksX25_isSo_0 16 rfl rfl)
theorem q149 : (Jvm.Cond.initialized "TurningWheel$Breaks") ∈ lw_all := lw_g (lw_at lw_m1 66 rfl) rfl
theorem q463 : (Jvm.Cond.fieldLinkNest "TurningWheel$Breaks" (9 : Nat) "TurningWheel$Pot" "cracks" "I" "TurningWheel") ∈ lw_tbl := lw_at lw_m2 140 rfl
theorem q557 : (Jvm.Cond.selects "TurningWheel$Breaks" ({ cls := "java/lang/Object", name := "getClass", desc := "()Ljava/lang/Class;" } : Jvm.MethodName) ({ cls := "java/lang/Object", name := "getClass", desc := "()Ljava/lang/Class;" } : Jvm.MethodName)) ∈ lw_all := lw_g (lw_at lw_m2 234 rfl) rfl
theorem q2286 : (Jvm.Cond.instantiable "TurningWheel$Breaks" (2 : Nat)) ∈ lw_all := lw_g (lw_at lw_m10 43 rfl) rfl
theorem q2288 : (Jvm.Cond.instanceMethod ({ cls := "TurningWheel$Breaks", name := "<init>", desc := "(LTurningWheel$Pot;)V" } : Jvm.MethodName)) ∈ lw_all := lw_g (lw_at lw_m10 45 rfl) rfl
theorem q2289 : (Jvm.Cond.code ({ cls := "TurningWheel$Breaks", name := "<init>", desc := "(LTurningWheel$Pot;)V" } : Jvm.MethodName) prog_14_method_1_code (2 : Nat) (Option.none : Option Jvm.ClassFile.FieldType)) ∈ lw_all := lw_g (lw_at lw_m10 46 rfl) rfl
theorem q2290 : (Jvm.Cond.methodLink "TurningWheel$Breaks" (3 : Nat) ({ cls := "TurningWheel$Turn", name := "<init>", desc := "(I)V" } : Jvm.MethodName)) ∈ lw_all := lw_g (lw_at lw_m10 47 rfl) rfl
theorem q2291 : (Jvm.Cond.fieldLink "TurningWheel$Breaks" (15 : Nat) "TurningWheel$Breaks" "cracks" "I") ∈ lw_all := lw_g (lw_at lw_m10 48 rfl) rfl
theorem q2292 : (Jvm.Cond.laysFinal "TurningWheel$Breaks" "TurningWheel$Breaks" "cracks" "I") ∈ lw_all := lw_g (lw_at lw_m10 49 rfl) rfl
theorem q2293 : (Jvm.Cond.soleField "TurningWheel$Breaks" "cracks") ∈ lw_all := lw_g (lw_at lw_m10 50 rfl) rfl
theorem q2294 : (Jvm.Cond.laysFinal "TurningWheel$Breaks" "TurningWheel$Turn" "state" "I") ∈ lw_all := lw_g (lw_at lw_m10 51 rfl) rfl
theorem q2295 : (Jvm.Cond.superclass "TurningWheel$Breaks" "TurningWheel$Turn") ∈ lw_all := lw_g (lw_at lw_m10 52 rfl) rfl
theorem q2362 : (Jvm.Cond.selects "TurningWheel$Breaks" ({ cls := "TurningWheel$Turn", name := "can", desc := "(LTurningWheel$Pot;)Z" } : Jvm.MethodName) ({ cls := "TurningWheel$Turn", name := "can", desc := "(LTurningWheel$Pot;)Z" } : Jvm.MethodName)) ∈ lw_all := lw_g (lw_at lw_m10 119 rfl) rfl
theorem q2371 : (Jvm.Cond.selects "TurningWheel$Breaks" ({ cls := "TurningWheel$Turn", name := "isSo", desc := "(LTurningWheel$Pot;)Z" } : Jvm.MethodName) ({ cls := "TurningWheel$Breaks", name := "isSo", desc := "(LTurningWheel$Pot;)Z" } : Jvm.MethodName)) ∈ lw_all := lw_g (lw_at lw_m10 128 rfl) rfl
theorem q2372 : (Jvm.Cond.instanceMethod ({ cls := "TurningWheel$Breaks", name := "isSo", desc := "(LTurningWheel$Pot;)Z" } : Jvm.MethodName)) ∈ lw_all := lw_g (lw_at lw_m10 129 rfl) rfl
theorem q2373 : (Jvm.Cond.code ({ cls := "TurningWheel$Breaks", name := "isSo", desc := "(LTurningWheel$Pot;)Z" } : Jvm.MethodName) prog_14_method_2_code (2 : Nat) (Option.some Jvm.ClassFile.FieldType.boolean)) ∈ lw_all := lw_g (lw_at lw_m10 130 rfl) rfl
theorem q3029 : (Jvm.Cond.castable "TurningWheel$Breaks" "TurningWheel$Turn") ∈ lw_tbl := lw_at lw_m13 66 rfl
theorem q3076 : (Jvm.Cond.castable "TurningWheel$Breaks" "java/lang/Object") ∈ lw_tbl := lw_at lw_m13 113 rfl
theorem in_X25 : ∀ w ∈ wsX250, w ∈ lw_all := lw_in wsX250 [2294, 2292] (by decide +kernel) (by decide +kernel)

/-! TurningWheel$Dries -/
set_option maxRecDepth 100000
def RX26 : String := "TurningWheel$Dries"
def TX26 : u_T := fun k => match k with
  | _ => ("TurningWheel$Turn", "state", "I", true)
def tyX26 : Nat → FieldType := fun k => match k with
  | _ => .int
abbrev wsX260 : List Cond := u_ws RX26 TX26 1
theorem nmX26 : ∀ a, a < 1 → ∀ b, b < 1 → a ≠ b → (TX26 a).2.1 ≠ (TX26 b).2.1 := by decide +kernel
theorem tyX26_ok : ∀ k, k < 1 → parseFieldDescriptor (TX26 k).2.2.1 = some (tyX26 k) := by decide +kernel
abbrev cX26_init : ByteArray := prog_18_method_1_code
def yX26_init : MethodName := ⟨RX26, "<init>", "()V"⟩
def dkwX26_init_0 : List UInt8 := [42, 6, 183, 0, 3, 177]
abbrev dktX26_init_0 : List UInt8 := dkwX26_init_0 ++ []
theorem dksX26_init_0 : cX26_init.data.toList.drop 0 = dktX26_init_0 := by decide +kernel
theorem dX26_init_0 : decode cX26_init 0 = .ok (.aload_n 0, 1) := dk_42 (dk_at dksX26_init_0 0 rfl rfl)
theorem dX26_init_1 : decode cX26_init 1 = .ok (.iconst 3, 1) := dk_6 (dk_at dksX26_init_0 1 rfl rfl)
theorem dX26_init_2 : decode cX26_init 2 = .ok (.invokespecial 3, 3) := dk_183 0 3 (dk_at dksX26_init_0 2 rfl rfl)
theorem dX26_init_5 : decode cX26_init 5 = .ok (.return_, 1) := dk_177 (dk_at dksX26_init_0 5 rfl rfl)
abbrev cX26_isSo : ByteArray := prog_18_method_2_code
def yX26_isSo : MethodName := ⟨RX26, "isSo", "(LTurningWheel$Pot;)Z"⟩
def dkwX26_isSo_0 : List UInt8 := [43, 180, 0, 9, 6, 160, 0, 7, 4, 167, 0, 4, 3, 172]
abbrev dktX26_isSo_0 : List UInt8 := dkwX26_isSo_0 ++ []
theorem dksX26_isSo_0 : cX26_isSo.data.toList.drop 0 = dktX26_isSo_0 := by decide +kernel
theorem dX26_isSo_0 : decode cX26_isSo 0 = .ok (.aload_n 1, 1) := dk_43 (dk_at dksX26_isSo_0 0 rfl rfl)
theorem dX26_isSo_1 : decode cX26_isSo 1 = .ok (.getfield 9, 3) := dk_180 0 9 (dk_at dksX26_isSo_0 1 rfl rfl)
theorem dX26_isSo_4 : decode cX26_isSo 4 = .ok (.iconst 3, 1) := dk_6 (dk_at dksX26_isSo_0 4 rfl rfl)
theorem dX26_isSo_5 : decode cX26_isSo 5 = .ok (.if_icmp .ne 7, 3) := dk_160 0 7 (dk_at dksX26_isSo_0 5 rfl rfl)
theorem dX26_isSo_8 : decode cX26_isSo 8 = .ok (.iconst 1, 1) := dk_4 (dk_at dksX26_isSo_0 8 rfl rfl)
theorem dX26_isSo_9 : decode cX26_isSo 9 = .ok (.goto 4, 3) := dk_167 0 4 (dk_at dksX26_isSo_0 9 rfl rfl)
theorem dX26_isSo_12 : decode cX26_isSo 12 = .ok (.iconst 0, 1) := dk_3 (dk_at dksX26_isSo_0 12 rfl rfl)
theorem dX26_isSo_13 : decode cX26_isSo 13 = .ok (.ireturn, 1) := dk_172 (dk_at dksX26_isSo_0 13 rfl rfl)
theorem q150 : (Jvm.Cond.initialized "TurningWheel$Dries") ∈ lw_all := lw_g (lw_at lw_m1 67 rfl) rfl
theorem q459 : (Jvm.Cond.fieldLinkNest "TurningWheel$Dries" (9 : Nat) "TurningWheel$Pot" "state" "I" "TurningWheel") ∈ lw_tbl := lw_at lw_m2 136 rfl
theorem q560 : (Jvm.Cond.selects "TurningWheel$Dries" ({ cls := "java/lang/Object", name := "getClass", desc := "()Ljava/lang/Class;" } : Jvm.MethodName) ({ cls := "java/lang/Object", name := "getClass", desc := "()Ljava/lang/Class;" } : Jvm.MethodName)) ∈ lw_all := lw_g (lw_at lw_m2 237 rfl) rfl
theorem q2297 : (Jvm.Cond.instantiable "TurningWheel$Dries" (1 : Nat)) ∈ lw_all := lw_g (lw_at lw_m10 54 rfl) rfl
theorem q2299 : (Jvm.Cond.instanceMethod ({ cls := "TurningWheel$Dries", name := "<init>", desc := "()V" } : Jvm.MethodName)) ∈ lw_all := lw_g (lw_at lw_m10 56 rfl) rfl
theorem q2300 : (Jvm.Cond.code ({ cls := "TurningWheel$Dries", name := "<init>", desc := "()V" } : Jvm.MethodName) prog_18_method_1_code (1 : Nat) (Option.none : Option Jvm.ClassFile.FieldType)) ∈ lw_all := lw_g (lw_at lw_m10 57 rfl) rfl
theorem q2301 : (Jvm.Cond.methodLink "TurningWheel$Dries" (3 : Nat) ({ cls := "TurningWheel$Turn", name := "<init>", desc := "(I)V" } : Jvm.MethodName)) ∈ lw_all := lw_g (lw_at lw_m10 58 rfl) rfl
theorem q2302 : (Jvm.Cond.laysFinal "TurningWheel$Dries" "TurningWheel$Turn" "state" "I") ∈ lw_all := lw_g (lw_at lw_m10 59 rfl) rfl
theorem q2303 : (Jvm.Cond.superclass "TurningWheel$Dries" "TurningWheel$Turn") ∈ lw_all := lw_g (lw_at lw_m10 60 rfl) rfl
theorem q2363 : (Jvm.Cond.selects "TurningWheel$Dries" ({ cls := "TurningWheel$Turn", name := "can", desc := "(LTurningWheel$Pot;)Z" } : Jvm.MethodName) ({ cls := "TurningWheel$Turn", name := "can", desc := "(LTurningWheel$Pot;)Z" } : Jvm.MethodName)) ∈ lw_all := lw_g (lw_at lw_m10 120 rfl) rfl
theorem q2374 : (Jvm.Cond.selects "TurningWheel$Dries" ({ cls := "TurningWheel$Turn", name := "isSo", desc := "(LTurningWheel$Pot;)Z" } : Jvm.MethodName) ({ cls := "TurningWheel$Dries", name := "isSo", desc := "(LTurningWheel$Pot;)Z" } : Jvm.MethodName)) ∈ lw_all := lw_g (lw_at lw_m10 131 rfl) rfl
theorem q2375 : (Jvm.Cond.instanceMethod ({ cls := "TurningWheel$Dries", name := "isSo", desc := "(LTurningWheel$Pot;)Z" } : Jvm.MethodName)) ∈ lw_all := lw_g (lw_at lw_m10 132 rfl) rfl
theorem q2376 : (Jvm.Cond.code ({ cls := "TurningWheel$Dries", name := "isSo", desc := "(LTurningWheel$Pot;)Z" } : Jvm.MethodName) prog_18_method_2_code (2 : Nat) (Option.some Jvm.ClassFile.FieldType.boolean)) ∈ lw_all := lw_g (lw_at lw_m10 133 rfl) rfl
theorem q3030 : (Jvm.Cond.castable "TurningWheel$Dries" "TurningWheel$Turn") ∈ lw_tbl := lw_at lw_m13 67 rfl
theorem q3077 : (Jvm.Cond.castable "TurningWheel$Dries" "java/lang/Object") ∈ lw_tbl := lw_at lw_m13 114 rfl
theorem in_X26 : ∀ w ∈ wsX260, w ∈ lw_all := lw_in wsX260 [2302] (by decide +kernel) (by decide +kernel)

/-! TurningWheel$Reader -/
set_option maxRecDepth 100000
def RX27 : String := "TurningWheel$Reader"
def TX27 : u_T := fun k => match k with
  | 0 => ("TurningWheel$Reader", "at", "I", false)
  | _ => ("TurningWheel$Reader", "this$0", "LTurningWheel;", true)
def tyX27 : Nat → FieldType := fun k => match k with
  | 0 => .int
  | _ => .object "TurningWheel"
abbrev wsX270 : List Cond := u_ws RX27 TX27 2
theorem nmX27 : ∀ a, a < 2 → ∀ b, b < 2 → a ≠ b → (TX27 a).2.1 ≠ (TX27 b).2.1 := by decide +kernel
theorem tyX27_ok : ∀ k, k < 2 → parseFieldDescriptor (TX27 k).2.2.1 = some (tyX27 k) := by decide +kernel
abbrev cX27_init : ByteArray := prog_25_method_1_code
def yX27_init : MethodName := ⟨RX27, "<init>", "(LTurningWheel;)V"⟩
def dkwX27_init_0 : List UInt8 := [42, 43, 181, 0, 1, 42, 183, 0, 7, 177]
abbrev dktX27_init_0 : List UInt8 := dkwX27_init_0 ++ []
theorem dksX27_init_0 : cX27_init.data.toList.drop 0 = dktX27_init_0 := by decide +kernel
theorem dX27_init_0 : decode cX27_init 0 = .ok (.aload_n 0, 1) := dk_42 (dk_at dksX27_init_0 0 rfl rfl)
theorem dX27_init_1 : decode cX27_init 1 = .ok (.aload_n 1, 1) := dk_43 (dk_at dksX27_init_0 1 rfl rfl)
theorem dX27_init_2 : decode cX27_init 2 = .ok (.putfield 1, 3) := dk_181 0 1 (dk_at dksX27_init_0 2 rfl rfl)
theorem dX27_init_5 : decode cX27_init 5 = .ok (.aload_n 0, 1) := dk_42 (dk_at dksX27_init_0 5 rfl rfl)
theorem dX27_init_6 : decode cX27_init 6 = .ok (.invokespecial 7, 3) := dk_183 0 7 (dk_at dksX27_init_0 6 rfl rfl)
theorem dX27_init_9 : decode cX27_init 9 = .ok (.return_, 1) := dk_177 (dk_at dksX27_init_0 9 rfl rfl)
abbrev cX27_whole : ByteArray := prog_25_method_9_code
def yX27_whole : MethodName := ⟨RX27, "whole", "()Ljava/util/List;"⟩
def dkwX27_whole_3 : List UInt8 := [180, 0, 13, 183, 0, 32, 191, 43, 184, 0, 78, 176]
abbrev dktX27_whole_3 : List UInt8 := dkwX27_whole_3 ++ []
def dkwX27_whole_2 : List UInt8 := [167, 255, 228, 42, 180, 0, 13, 42, 180, 0, 1, 180, 0, 17, 162, 0, 15, 187, 0, 30, 89, 42]
abbrev dktX27_whole_2 : List UInt8 := dkwX27_whole_2 ++ dktX27_whole_3
def dkwX27_whole_1 : List UInt8 := [153, 0, 25, 42, 89, 180, 0, 13, 4, 96, 181, 0, 13, 43, 42, 182, 0, 70, 182, 0, 74, 87]
abbrev dktX27_whole_1 : List UInt8 := dkwX27_whole_1 ++ dktX27_whole_2
def dkwX27_whole_0 : List UInt8 := [187, 0, 67, 89, 183, 0, 69, 76, 43, 42, 182, 0, 70, 182, 0, 74, 87, 42, 16, 59, 182, 0, 26]
abbrev dktX27_whole_0 : List UInt8 := dkwX27_whole_0 ++ dktX27_whole_1
theorem dksX27_whole_0 : cX27_whole.data.toList.drop 0 = dktX27_whole_0 := by decide +kernel
theorem dksX27_whole_1 : cX27_whole.data.toList.drop 23 = dktX27_whole_1 := dk_seg dksX27_whole_0 23 rfl rfl
theorem dksX27_whole_2 : cX27_whole.data.toList.drop 45 = dktX27_whole_2 := dk_seg dksX27_whole_1 22 rfl rfl
theorem dksX27_whole_3 : cX27_whole.data.toList.drop 67 = dktX27_whole_3 := dk_seg dksX27_whole_2 22 rfl rfl
theorem dX27_whole_0 : decode cX27_whole 0 = .ok (.new 67, 3) := dk_187 0 67 (dk_at dksX27_whole_0 0 rfl rfl)
theorem dX27_whole_3 : decode cX27_whole 3 = .ok (.dup, 1) := dk_89 (dk_at dksX27_whole_0 3 rfl rfl)
theorem dX27_whole_4 : decode cX27_whole 4 = .ok (.invokespecial 69, 3) := dk_183 0 69 (dk_at dksX27_whole_0 4 rfl rfl)
theorem dX27_whole_7 : decode cX27_whole 7 = .ok (.astore_n 1, 1) := dk_76 (dk_at dksX27_whole_0 7 rfl rfl)
theorem dX27_whole_8 : decode cX27_whole 8 = .ok (.aload_n 1, 1) := dk_43 (dk_at dksX27_whole_0 8 rfl rfl)
theorem dX27_whole_9 : decode cX27_whole 9 = .ok (.aload_n 0, 1) := dk_42 (dk_at dksX27_whole_0 9 rfl rfl)
theorem dX27_whole_10 : decode cX27_whole 10 = .ok (.invokevirtual 70, 3) := dk_182 0 70 (dk_at dksX27_whole_0 10 rfl rfl)
theorem dX27_whole_13 : decode cX27_whole 13 = .ok (.invokevirtual 74, 3) := dk_182 0 74 (dk_at dksX27_whole_0 13 rfl rfl)
theorem dX27_whole_16 : decode cX27_whole 16 = .ok (.pop, 1) := dk_87 (dk_at dksX27_whole_0 16 rfl rfl)
theorem dX27_whole_17 : decode cX27_whole 17 = .ok (.aload_n 0, 1) := dk_42 (dk_at dksX27_whole_0 17 rfl rfl)
theorem dX27_whole_18 : decode cX27_whole 18 = .ok (.bipush 59, 2) := dk_16 59 (dk_at dksX27_whole_0 18 rfl rfl)
theorem dX27_whole_20 : decode cX27_whole 20 = .ok (.invokevirtual 26, 3) := dk_182 0 26 (dk_at dksX27_whole_0 20 rfl rfl)
theorem dX27_whole_23 : decode cX27_whole 23 = .ok (.ifCond .eq 25, 3) := dk_153 0 25 (dk_at dksX27_whole_1 0 rfl rfl)
theorem dX27_whole_26 : decode cX27_whole 26 = .ok (.aload_n 0, 1) := dk_42 (dk_at dksX27_whole_1 3 rfl rfl)
theorem dX27_whole_27 : decode cX27_whole 27 = .ok (.dup, 1) := dk_89 (dk_at dksX27_whole_1 4 rfl rfl)
theorem dX27_whole_28 : decode cX27_whole 28 = .ok (.getfield 13, 3) := dk_180 0 13 (dk_at dksX27_whole_1 5 rfl rfl)
theorem dX27_whole_31 : decode cX27_whole 31 = .ok (.iconst 1, 1) := dk_4 (dk_at dksX27_whole_1 8 rfl rfl)
theorem dX27_whole_32 : decode cX27_whole 32 = .ok (.iadd, 1) := dk_96 (dk_at dksX27_whole_1 9 rfl rfl)
theorem dX27_whole_33 : decode cX27_whole 33 = .ok (.putfield 13, 3) := dk_181 0 13 (dk_at dksX27_whole_1 10 rfl rfl)
theorem dX27_whole_36 : decode cX27_whole 36 = .ok (.aload_n 1, 1) := dk_43 (dk_at dksX27_whole_1 13 rfl rfl)
theorem dX27_whole_37 : decode cX27_whole 37 = .ok (.aload_n 0, 1) := dk_42 (dk_at dksX27_whole_1 14 rfl rfl)
theorem dX27_whole_38 : decode cX27_whole 38 = .ok (.invokevirtual 70, 3) := dk_182 0 70 (dk_at dksX27_whole_1 15 rfl rfl)
theorem dX27_whole_41 : decode cX27_whole 41 = .ok (.invokevirtual 74, 3) := dk_182 0 74 (dk_at dksX27_whole_1 18 rfl rfl)
theorem dX27_whole_44 : decode cX27_whole 44 = .ok (.pop, 1) := dk_87 (dk_at dksX27_whole_1 21 rfl rfl)
theorem dX27_whole_45 : decode cX27_whole 45 = .ok (.goto (-28), 3) := dk_167 255 228 (dk_at dksX27_whole_2 0 rfl rfl)
theorem dX27_whole_48 : decode cX27_whole 48 = .ok (.aload_n 0, 1) := dk_42 (dk_at dksX27_whole_2 3 rfl rfl)
theorem dX27_whole_49 : decode cX27_whole 49 = .ok (.getfield 13, 3) := dk_180 0 13 (dk_at dksX27_whole_2 4 rfl rfl)
theorem dX27_whole_52 : decode cX27_whole 52 = .ok (.aload_n 0, 1) := dk_42 (dk_at dksX27_whole_2 7 rfl rfl)
theorem dX27_whole_53 : decode cX27_whole 53 = .ok (.getfield 1, 3) := dk_180 0 1 (dk_at dksX27_whole_2 8 rfl rfl)
theorem dX27_whole_56 : decode cX27_whole 56 = .ok (.getfield 17, 3) := dk_180 0 17 (dk_at dksX27_whole_2 11 rfl rfl)
theorem dX27_whole_59 : decode cX27_whole 59 = .ok (.if_icmp .ge 15, 3) := dk_162 0 15 (dk_at dksX27_whole_2 14 rfl rfl)
theorem dX27_whole_62 : decode cX27_whole 62 = .ok (.new 30, 3) := dk_187 0 30 (dk_at dksX27_whole_2 17 rfl rfl)
theorem dX27_whole_65 : decode cX27_whole 65 = .ok (.dup, 1) := dk_89 (dk_at dksX27_whole_2 20 rfl rfl)
theorem dX27_whole_66 : decode cX27_whole 66 = .ok (.aload_n 0, 1) := dk_42 (dk_at dksX27_whole_2 21 rfl rfl)
theorem dX27_whole_67 : decode cX27_whole 67 = .ok (.getfield 13, 3) := dk_180 0 13 (dk_at dksX27_whole_3 0 rfl rfl)
theorem dX27_whole_70 : decode cX27_whole 70 = .ok (.invokespecial 32, 3) := dk_183 0 32 (dk_at dksX27_whole_3 3 rfl rfl)
theorem dX27_whole_73 : decode cX27_whole 73 = .ok (.athrow, 1) := dk_191 (dk_at dksX27_whole_3 6 rfl rfl)
theorem dX27_whole_74 : decode cX27_whole 74 = .ok (.aload_n 1, 1) := dk_43 (dk_at dksX27_whole_3 7 rfl rfl)
theorem dX27_whole_75 : decode cX27_whole 75 = .ok (.invokestatic 78, 3) := dk_184 0 78 (dk_at dksX27_whole_3 8 rfl rfl)
theorem dX27_whole_78 : decode cX27_whole 78 = .ok (.areturn, 1) := dk_176 (dk_at dksX27_whole_3 11 rfl rfl)
abbrev cX27_command : ByteArray := prog_25_method_8_code
def yX27_command : MethodName := ⟨RX27, "command", "()LTurningWheel$Command;"⟩
def dkwX27_command_11 : List UInt8 := [4, 100, 183, 0, 32, 191]
abbrev dktX27_command_11 : List UInt8 := dkwX27_command_11 ++ []
def dkwX27_command_10 : List UInt8 := [183, 0, 61, 176, 187, 0, 55, 89, 27, 3, 188, 10, 183, 0, 61, 176, 187, 0, 30, 89, 42, 180, 0, 13]
abbrev dktX27_command_10 : List UInt8 := dkwX27_command_10 ++ dktX27_command_11
def dkwX27_command_9 : List UInt8 := [187, 0, 55, 89, 27, 5, 188, 10, 89, 3, 42, 182, 0, 47, 79, 89, 4, 42, 16, 64, 182, 0, 57, 79]
abbrev dktX27_command_9 : List UInt8 := dkwX27_command_9 ++ dktX27_command_10
def dkwX27_command_8 : List UInt8 := [79, 89, 4, 42, 16, 61, 182, 0, 57, 79, 89, 5, 42, 16, 42, 182, 0, 57, 79, 183, 0, 61, 176]
abbrev dktX27_command_8 : List UInt8 := dkwX27_command_8 ++ dktX27_command_9
def dkwX27_command_7 : List UInt8 := [4, 42, 182, 0, 64, 79, 183, 0, 61, 176, 187, 0, 55, 89, 27, 6, 188, 10, 89, 3, 42, 182, 0, 47]
abbrev dktX27_command_7 : List UInt8 := dkwX27_command_7 ++ dktX27_command_8
def dkwX27_command_6 : List UInt8 := [182, 0, 47, 79, 183, 0, 61, 176, 187, 0, 55, 89, 27, 5, 188, 10, 89, 3, 42, 182, 0, 47, 79, 89]
abbrev dktX27_command_6 : List UInt8 := dkwX27_command_6 ++ dktX27_command_7
def dkwX27_command_5 : List UInt8 := [89, 5, 42, 16, 47, 182, 0, 57, 79, 183, 0, 61, 176, 187, 0, 55, 89, 27, 4, 188, 10, 89, 3, 42]
abbrev dktX27_command_5 : List UInt8 := dkwX27_command_5 ++ dktX27_command_6
def dkwX27_command_4 : List UInt8 := [187, 0, 55, 89, 27, 6, 188, 10, 89, 3, 42, 182, 0, 47, 79, 89, 4, 42, 16, 58, 182, 0, 57, 79]
abbrev dktX27_command_4 : List UInt8 := dkwX27_command_4 ++ dktX27_command_5
def dkwX27_command_3 : List UInt8 := [170, 0, 0, 0, 0, 229, 0, 0, 0, 99, 0, 0, 0, 112, 0, 0, 0, 126, 0, 0, 0, 229, 0, 0, 0, 229, 0, 0, 0, 217, 0, 0, 0, 152, 0, 0, 0, 107, 0, 0, 0, 229, 0, 0, 0, 229, 0, 0, 0, 189, 0, 0, 0, 229, 0, 0, 0, 229, 0, 0, 0, 229, 0, 0, 0, 229, 0, 0, 0, 70]
abbrev dktX27_command_3 : List UInt8 := dkwX27_command_3 ++ dktX27_command_4
def dkwX27_command_2 : List UInt8 := [181, 0, 13, 27]
abbrev dktX27_command_2 : List UInt8 := dkwX27_command_2 ++ dktX27_command_3
def dkwX27_command_1 : List UInt8 := [183, 0, 32, 191, 42, 180, 0, 1, 180, 0, 22, 42, 180, 0, 13, 52, 60, 42, 89, 180, 0, 13, 4, 96]
abbrev dktX27_command_1 : List UInt8 := dkwX27_command_1 ++ dktX27_command_2
def dkwX27_command_0 : List UInt8 := [42, 180, 0, 13, 42, 180, 0, 1, 180, 0, 17, 160, 0, 15, 187, 0, 30, 89, 42, 180, 0, 13]
abbrev dktX27_command_0 : List UInt8 := dkwX27_command_0 ++ dktX27_command_1
theorem dksX27_command_0 : cX27_command.data.toList.drop 0 = dktX27_command_0 := by decide +kernel
theorem dksX27_command_1 : cX27_command.data.toList.drop 22 = dktX27_command_1 := dk_seg dksX27_command_0 22 rfl rfl
theorem dksX27_command_2 : cX27_command.data.toList.drop 46 = dktX27_command_2 := dk_seg dksX27_command_1 24 rfl rfl
theorem dksX27_command_3 : cX27_command.data.toList.drop 50 = dktX27_command_3 := dk_seg dksX27_command_2 4 rfl rfl
theorem dksX27_command_4 : cX27_command.data.toList.drop 120 = dktX27_command_4 := dk_seg dksX27_command_3 70 rfl rfl
theorem dksX27_command_5 : cX27_command.data.toList.drop 144 = dktX27_command_5 := dk_seg dksX27_command_4 24 rfl rfl
theorem dksX27_command_6 : cX27_command.data.toList.drop 168 = dktX27_command_6 := dk_seg dksX27_command_5 24 rfl rfl
theorem dksX27_command_7 : cX27_command.data.toList.drop 192 = dktX27_command_7 := dk_seg dksX27_command_6 24 rfl rfl
theorem dksX27_command_8 : cX27_command.data.toList.drop 216 = dktX27_command_8 := dk_seg dksX27_command_7 24 rfl rfl
theorem dksX27_command_9 : cX27_command.data.toList.drop 239 = dktX27_command_9 := dk_seg dksX27_command_8 23 rfl rfl
theorem dksX27_command_10 : cX27_command.data.toList.drop 263 = dktX27_command_10 := dk_seg dksX27_command_9 24 rfl rfl
theorem dksX27_command_11 : cX27_command.data.toList.drop 287 = dktX27_command_11 := dk_seg dksX27_command_10 24 rfl rfl
theorem dX27_command_0 : decode cX27_command 0 = .ok (.aload_n 0, 1) := dk_42 (dk_at dksX27_command_0 0 rfl rfl)
theorem dX27_command_1 : decode cX27_command 1 = .ok (.getfield 13, 3) := dk_180 0 13 (dk_at dksX27_command_0 1 rfl rfl)
theorem dX27_command_4 : decode cX27_command 4 = .ok (.aload_n 0, 1) := dk_42 (dk_at dksX27_command_0 4 rfl rfl)
theorem dX27_command_5 : decode cX27_command 5 = .ok (.getfield 1, 3) := dk_180 0 1 (dk_at dksX27_command_0 5 rfl rfl)
theorem dX27_command_8 : decode cX27_command 8 = .ok (.getfield 17, 3) := dk_180 0 17 (dk_at dksX27_command_0 8 rfl rfl)
theorem dX27_command_11 : decode cX27_command 11 = .ok (.if_icmp .ne 15, 3) := dk_160 0 15 (dk_at dksX27_command_0 11 rfl rfl)
theorem dX27_command_14 : decode cX27_command 14 = .ok (.new 30, 3) := dk_187 0 30 (dk_at dksX27_command_0 14 rfl rfl)
theorem dX27_command_17 : decode cX27_command 17 = .ok (.dup, 1) := dk_89 (dk_at dksX27_command_0 17 rfl rfl)
theorem dX27_command_18 : decode cX27_command 18 = .ok (.aload_n 0, 1) := dk_42 (dk_at dksX27_command_0 18 rfl rfl)
theorem dX27_command_19 : decode cX27_command 19 = .ok (.getfield 13, 3) := dk_180 0 13 (dk_at dksX27_command_0 19 rfl rfl)
theorem dX27_command_22 : decode cX27_command 22 = .ok (.invokespecial 32, 3) := dk_183 0 32 (dk_at dksX27_command_1 0 rfl rfl)
theorem dX27_command_25 : decode cX27_command 25 = .ok (.athrow, 1) := dk_191 (dk_at dksX27_command_1 3 rfl rfl)
theorem dX27_command_26 : decode cX27_command 26 = .ok (.aload_n 0, 1) := dk_42 (dk_at dksX27_command_1 4 rfl rfl)
theorem dX27_command_27 : decode cX27_command 27 = .ok (.getfield 1, 3) := dk_180 0 1 (dk_at dksX27_command_1 5 rfl rfl)
theorem dX27_command_30 : decode cX27_command 30 = .ok (.getfield 22, 3) := dk_180 0 22 (dk_at dksX27_command_1 8 rfl rfl)
theorem dX27_command_33 : decode cX27_command 33 = .ok (.aload_n 0, 1) := dk_42 (dk_at dksX27_command_1 11 rfl rfl)
theorem dX27_command_34 : decode cX27_command 34 = .ok (.getfield 13, 3) := dk_180 0 13 (dk_at dksX27_command_1 12 rfl rfl)
theorem dX27_command_37 : decode cX27_command 37 = .ok (.caload, 1) := dk_52 (dk_at dksX27_command_1 15 rfl rfl)
theorem dX27_command_38 : decode cX27_command 38 = .ok (.istore_n 1, 1) := dk_60 (dk_at dksX27_command_1 16 rfl rfl)
theorem dX27_command_39 : decode cX27_command 39 = .ok (.aload_n 0, 1) := dk_42 (dk_at dksX27_command_1 17 rfl rfl)
theorem dX27_command_40 : decode cX27_command 40 = .ok (.dup, 1) := dk_89 (dk_at dksX27_command_1 18 rfl rfl)
theorem dX27_command_41 : decode cX27_command 41 = .ok (.getfield 13, 3) := dk_180 0 13 (dk_at dksX27_command_1 19 rfl rfl)
theorem dX27_command_44 : decode cX27_command 44 = .ok (.iconst 1, 1) := dk_4 (dk_at dksX27_command_1 22 rfl rfl)
theorem dX27_command_45 : decode cX27_command 45 = .ok (.iadd, 1) := dk_96 (dk_at dksX27_command_1 23 rfl rfl)
theorem dX27_command_46 : decode cX27_command 46 = .ok (.putfield 13, 3) := dk_181 0 13 (dk_at dksX27_command_2 0 rfl rfl)
theorem dX27_command_49 : decode cX27_command 49 = .ok (.iload_n 1, 1) := dk_27 (dk_at dksX27_command_2 3 rfl rfl)
theorem dX27_command_50 : decode cX27_command 50 = .ok (.tableswitch 229 99 112 #[126, 229, 229, 217, 152, 107, 229, 229, 189, 229, 229, 229, 229, 70], 70) := by decide +kernel
theorem dX27_command_120 : decode cX27_command 120 = .ok (.new 55, 3) := dk_187 0 55 (dk_at dksX27_command_4 0 rfl rfl)
theorem dX27_command_123 : decode cX27_command 123 = .ok (.dup, 1) := dk_89 (dk_at dksX27_command_4 3 rfl rfl)
theorem dX27_command_124 : decode cX27_command 124 = .ok (.iload_n 1, 1) := dk_27 (dk_at dksX27_command_4 4 rfl rfl)
theorem dX27_command_125 : decode cX27_command 125 = .ok (.iconst 3, 1) := dk_6 (dk_at dksX27_command_4 5 rfl rfl)
theorem dX27_command_126 : decode cX27_command 126 = .ok (.newarray .int, 2) := dk_188_10 (dk_at dksX27_command_4 6 rfl rfl)
theorem dX27_command_128 : decode cX27_command 128 = .ok (.dup, 1) := dk_89 (dk_at dksX27_command_4 8 rfl rfl)
theorem dX27_command_129 : decode cX27_command 129 = .ok (.iconst 0, 1) := dk_3 (dk_at dksX27_command_4 9 rfl rfl)
theorem dX27_command_130 : decode cX27_command 130 = .ok (.aload_n 0, 1) := dk_42 (dk_at dksX27_command_4 10 rfl rfl)
theorem dX27_command_131 : decode cX27_command 131 = .ok (.invokevirtual 47, 3) := dk_182 0 47 (dk_at dksX27_command_4 11 rfl rfl)
theorem dX27_command_134 : decode cX27_command 134 = .ok (.iastore, 1) := dk_79 (dk_at dksX27_command_4 14 rfl rfl)
theorem dX27_command_135 : decode cX27_command 135 = .ok (.dup, 1) := dk_89 (dk_at dksX27_command_4 15 rfl rfl)
theorem dX27_command_136 : decode cX27_command 136 = .ok (.iconst 1, 1) := dk_4 (dk_at dksX27_command_4 16 rfl rfl)
theorem dX27_command_137 : decode cX27_command 137 = .ok (.aload_n 0, 1) := dk_42 (dk_at dksX27_command_4 17 rfl rfl)
theorem dX27_command_138 : decode cX27_command 138 = .ok (.bipush 58, 2) := dk_16 58 (dk_at dksX27_command_4 18 rfl rfl)
theorem dX27_command_140 : decode cX27_command 140 = .ok (.invokevirtual 57, 3) := dk_182 0 57 (dk_at dksX27_command_4 20 rfl rfl)
theorem dX27_command_143 : decode cX27_command 143 = .ok (.iastore, 1) := dk_79 (dk_at dksX27_command_4 23 rfl rfl)
theorem dX27_command_144 : decode cX27_command 144 = .ok (.dup, 1) := dk_89 (dk_at dksX27_command_5 0 rfl rfl)
theorem dX27_command_145 : decode cX27_command 145 = .ok (.iconst 2, 1) := dk_5 (dk_at dksX27_command_5 1 rfl rfl)
theorem dX27_command_146 : decode cX27_command 146 = .ok (.aload_n 0, 1) := dk_42 (dk_at dksX27_command_5 2 rfl rfl)
theorem dX27_command_147 : decode cX27_command 147 = .ok (.bipush 47, 2) := dk_16 47 (dk_at dksX27_command_5 3 rfl rfl)
theorem dX27_command_149 : decode cX27_command 149 = .ok (.invokevirtual 57, 3) := dk_182 0 57 (dk_at dksX27_command_5 5 rfl rfl)
theorem dX27_command_152 : decode cX27_command 152 = .ok (.iastore, 1) := dk_79 (dk_at dksX27_command_5 8 rfl rfl)
theorem dX27_command_153 : decode cX27_command 153 = .ok (.invokespecial 61, 3) := dk_183 0 61 (dk_at dksX27_command_5 9 rfl rfl)
theorem dX27_command_156 : decode cX27_command 156 = .ok (.areturn, 1) := dk_176 (dk_at dksX27_command_5 12 rfl rfl)
theorem dX27_command_157 : decode cX27_command 157 = .ok (.new 55, 3) := dk_187 0 55 (dk_at dksX27_command_5 13 rfl rfl)
theorem dX27_command_160 : decode cX27_command 160 = .ok (.dup, 1) := dk_89 (dk_at dksX27_command_5 16 rfl rfl)
theorem dX27_command_161 : decode cX27_command 161 = .ok (.iload_n 1, 1) := dk_27 (dk_at dksX27_command_5 17 rfl rfl)
theorem dX27_command_162 : decode cX27_command 162 = .ok (.iconst 1, 1) := dk_4 (dk_at dksX27_command_5 18 rfl rfl)
theorem dX27_command_163 : decode cX27_command 163 = .ok (.newarray .int, 2) := dk_188_10 (dk_at dksX27_command_5 19 rfl rfl)
theorem dX27_command_165 : decode cX27_command 165 = .ok (.dup, 1) := dk_89 (dk_at dksX27_command_5 21 rfl rfl)
theorem dX27_command_166 : decode cX27_command 166 = .ok (.iconst 0, 1) := dk_3 (dk_at dksX27_command_5 22 rfl rfl)
theorem dX27_command_167 : decode cX27_command 167 = .ok (.aload_n 0, 1) := dk_42 (dk_at dksX27_command_5 23 rfl rfl)
theorem dX27_command_168 : decode cX27_command 168 = .ok (.invokevirtual 47, 3) := dk_182 0 47 (dk_at dksX27_command_6 0 rfl rfl)
theorem dX27_command_171 : decode cX27_command 171 = .ok (.iastore, 1) := dk_79 (dk_at dksX27_command_6 3 rfl rfl)
theorem dX27_command_172 : decode cX27_command 172 = .ok (.invokespecial 61, 3) := dk_183 0 61 (dk_at dksX27_command_6 4 rfl rfl)
theorem dX27_command_175 : decode cX27_command 175 = .ok (.areturn, 1) := dk_176 (dk_at dksX27_command_6 7 rfl rfl)
theorem dX27_command_176 : decode cX27_command 176 = .ok (.new 55, 3) := dk_187 0 55 (dk_at dksX27_command_6 8 rfl rfl)
theorem dX27_command_179 : decode cX27_command 179 = .ok (.dup, 1) := dk_89 (dk_at dksX27_command_6 11 rfl rfl)
theorem dX27_command_180 : decode cX27_command 180 = .ok (.iload_n 1, 1) := dk_27 (dk_at dksX27_command_6 12 rfl rfl)
theorem dX27_command_181 : decode cX27_command 181 = .ok (.iconst 2, 1) := dk_5 (dk_at dksX27_command_6 13 rfl rfl)
theorem dX27_command_182 : decode cX27_command 182 = .ok (.newarray .int, 2) := dk_188_10 (dk_at dksX27_command_6 14 rfl rfl)
theorem dX27_command_184 : decode cX27_command 184 = .ok (.dup, 1) := dk_89 (dk_at dksX27_command_6 16 rfl rfl)
theorem dX27_command_185 : decode cX27_command 185 = .ok (.iconst 0, 1) := dk_3 (dk_at dksX27_command_6 17 rfl rfl)
theorem dX27_command_186 : decode cX27_command 186 = .ok (.aload_n 0, 1) := dk_42 (dk_at dksX27_command_6 18 rfl rfl)
theorem dX27_command_187 : decode cX27_command 187 = .ok (.invokevirtual 47, 3) := dk_182 0 47 (dk_at dksX27_command_6 19 rfl rfl)
theorem dX27_command_190 : decode cX27_command 190 = .ok (.iastore, 1) := dk_79 (dk_at dksX27_command_6 22 rfl rfl)
theorem dX27_command_191 : decode cX27_command 191 = .ok (.dup, 1) := dk_89 (dk_at dksX27_command_6 23 rfl rfl)
theorem dX27_command_192 : decode cX27_command 192 = .ok (.iconst 1, 1) := dk_4 (dk_at dksX27_command_7 0 rfl rfl)
theorem dX27_command_193 : decode cX27_command 193 = .ok (.aload_n 0, 1) := dk_42 (dk_at dksX27_command_7 1 rfl rfl)
theorem dX27_command_194 : decode cX27_command 194 = .ok (.invokevirtual 64, 3) := dk_182 0 64 (dk_at dksX27_command_7 2 rfl rfl)
theorem dX27_command_197 : decode cX27_command 197 = .ok (.iastore, 1) := dk_79 (dk_at dksX27_command_7 5 rfl rfl)
theorem dX27_command_198 : decode cX27_command 198 = .ok (.invokespecial 61, 3) := dk_183 0 61 (dk_at dksX27_command_7 6 rfl rfl)
theorem dX27_command_201 : decode cX27_command 201 = .ok (.areturn, 1) := dk_176 (dk_at dksX27_command_7 9 rfl rfl)
theorem dX27_command_202 : decode cX27_command 202 = .ok (.new 55, 3) := dk_187 0 55 (dk_at dksX27_command_7 10 rfl rfl)
theorem dX27_command_205 : decode cX27_command 205 = .ok (.dup, 1) := dk_89 (dk_at dksX27_command_7 13 rfl rfl)
theorem dX27_command_206 : decode cX27_command 206 = .ok (.iload_n 1, 1) := dk_27 (dk_at dksX27_command_7 14 rfl rfl)
theorem dX27_command_207 : decode cX27_command 207 = .ok (.iconst 3, 1) := dk_6 (dk_at dksX27_command_7 15 rfl rfl)
theorem dX27_command_208 : decode cX27_command 208 = .ok (.newarray .int, 2) := dk_188_10 (dk_at dksX27_command_7 16 rfl rfl)
theorem dX27_command_210 : decode cX27_command 210 = .ok (.dup, 1) := dk_89 (dk_at dksX27_command_7 18 rfl rfl)
theorem dX27_command_211 : decode cX27_command 211 = .ok (.iconst 0, 1) := dk_3 (dk_at dksX27_command_7 19 rfl rfl)
theorem dX27_command_212 : decode cX27_command 212 = .ok (.aload_n 0, 1) := dk_42 (dk_at dksX27_command_7 20 rfl rfl)
theorem dX27_command_213 : decode cX27_command 213 = .ok (.invokevirtual 47, 3) := dk_182 0 47 (dk_at dksX27_command_7 21 rfl rfl)
theorem dX27_command_216 : decode cX27_command 216 = .ok (.iastore, 1) := dk_79 (dk_at dksX27_command_8 0 rfl rfl)
theorem dX27_command_217 : decode cX27_command 217 = .ok (.dup, 1) := dk_89 (dk_at dksX27_command_8 1 rfl rfl)
theorem dX27_command_218 : decode cX27_command 218 = .ok (.iconst 1, 1) := dk_4 (dk_at dksX27_command_8 2 rfl rfl)
theorem dX27_command_219 : decode cX27_command 219 = .ok (.aload_n 0, 1) := dk_42 (dk_at dksX27_command_8 3 rfl rfl)
theorem dX27_command_220 : decode cX27_command 220 = .ok (.bipush 61, 2) := dk_16 61 (dk_at dksX27_command_8 4 rfl rfl)
theorem dX27_command_222 : decode cX27_command 222 = .ok (.invokevirtual 57, 3) := dk_182 0 57 (dk_at dksX27_command_8 6 rfl rfl)
theorem dX27_command_225 : decode cX27_command 225 = .ok (.iastore, 1) := dk_79 (dk_at dksX27_command_8 9 rfl rfl)
theorem dX27_command_226 : decode cX27_command 226 = .ok (.dup, 1) := dk_89 (dk_at dksX27_command_8 10 rfl rfl)
theorem dX27_command_227 : decode cX27_command 227 = .ok (.iconst 2, 1) := dk_5 (dk_at dksX27_command_8 11 rfl rfl)
theorem dX27_command_228 : decode cX27_command 228 = .ok (.aload_n 0, 1) := dk_42 (dk_at dksX27_command_8 12 rfl rfl)
theorem dX27_command_229 : decode cX27_command 229 = .ok (.bipush 42, 2) := dk_16 42 (dk_at dksX27_command_8 13 rfl rfl)
theorem dX27_command_231 : decode cX27_command 231 = .ok (.invokevirtual 57, 3) := dk_182 0 57 (dk_at dksX27_command_8 15 rfl rfl)
theorem dX27_command_234 : decode cX27_command 234 = .ok (.iastore, 1) := dk_79 (dk_at dksX27_command_8 18 rfl rfl)
theorem dX27_command_235 : decode cX27_command 235 = .ok (.invokespecial 61, 3) := dk_183 0 61 (dk_at dksX27_command_8 19 rfl rfl)
theorem dX27_command_238 : decode cX27_command 238 = .ok (.areturn, 1) := dk_176 (dk_at dksX27_command_8 22 rfl rfl)
theorem dX27_command_239 : decode cX27_command 239 = .ok (.new 55, 3) := dk_187 0 55 (dk_at dksX27_command_9 0 rfl rfl)
theorem dX27_command_242 : decode cX27_command 242 = .ok (.dup, 1) := dk_89 (dk_at dksX27_command_9 3 rfl rfl)
theorem dX27_command_243 : decode cX27_command 243 = .ok (.iload_n 1, 1) := dk_27 (dk_at dksX27_command_9 4 rfl rfl)
theorem dX27_command_244 : decode cX27_command 244 = .ok (.iconst 2, 1) := dk_5 (dk_at dksX27_command_9 5 rfl rfl)
theorem dX27_command_245 : decode cX27_command 245 = .ok (.newarray .int, 2) := dk_188_10 (dk_at dksX27_command_9 6 rfl rfl)
theorem dX27_command_247 : decode cX27_command 247 = .ok (.dup, 1) := dk_89 (dk_at dksX27_command_9 8 rfl rfl)
theorem dX27_command_248 : decode cX27_command 248 = .ok (.iconst 0, 1) := dk_3 (dk_at dksX27_command_9 9 rfl rfl)
theorem dX27_command_249 : decode cX27_command 249 = .ok (.aload_n 0, 1) := dk_42 (dk_at dksX27_command_9 10 rfl rfl)
theorem dX27_command_250 : decode cX27_command 250 = .ok (.invokevirtual 47, 3) := dk_182 0 47 (dk_at dksX27_command_9 11 rfl rfl)
theorem dX27_command_253 : decode cX27_command 253 = .ok (.iastore, 1) := dk_79 (dk_at dksX27_command_9 14 rfl rfl)
theorem dX27_command_254 : decode cX27_command 254 = .ok (.dup, 1) := dk_89 (dk_at dksX27_command_9 15 rfl rfl)
theorem dX27_command_255 : decode cX27_command 255 = .ok (.iconst 1, 1) := dk_4 (dk_at dksX27_command_9 16 rfl rfl)
theorem dX27_command_256 : decode cX27_command 256 = .ok (.aload_n 0, 1) := dk_42 (dk_at dksX27_command_9 17 rfl rfl)
theorem dX27_command_257 : decode cX27_command 257 = .ok (.bipush 64, 2) := dk_16 64 (dk_at dksX27_command_9 18 rfl rfl)
theorem dX27_command_259 : decode cX27_command 259 = .ok (.invokevirtual 57, 3) := dk_182 0 57 (dk_at dksX27_command_9 20 rfl rfl)
theorem dX27_command_262 : decode cX27_command 262 = .ok (.iastore, 1) := dk_79 (dk_at dksX27_command_9 23 rfl rfl)
theorem dX27_command_263 : decode cX27_command 263 = .ok (.invokespecial 61, 3) := dk_183 0 61 (dk_at dksX27_command_10 0 rfl rfl)
theorem dX27_command_266 : decode cX27_command 266 = .ok (.areturn, 1) := dk_176 (dk_at dksX27_command_10 3 rfl rfl)
theorem dX27_command_267 : decode cX27_command 267 = .ok (.new 55, 3) := dk_187 0 55 (dk_at dksX27_command_10 4 rfl rfl)
theorem dX27_command_270 : decode cX27_command 270 = .ok (.dup, 1) := dk_89 (dk_at dksX27_command_10 7 rfl rfl)
theorem dX27_command_271 : decode cX27_command 271 = .ok (.iload_n 1, 1) := dk_27 (dk_at dksX27_command_10 8 rfl rfl)
theorem dX27_command_272 : decode cX27_command 272 = .ok (.iconst 0, 1) := dk_3 (dk_at dksX27_command_10 9 rfl rfl)
theorem dX27_command_273 : decode cX27_command 273 = .ok (.newarray .int, 2) := dk_188_10 (dk_at dksX27_command_10 10 rfl rfl)
theorem dX27_command_275 : decode cX27_command 275 = .ok (.invokespecial 61, 3) := dk_183 0 61 (dk_at dksX27_command_10 12 rfl rfl)
theorem dX27_command_278 : decode cX27_command 278 = .ok (.areturn, 1) := dk_176 (dk_at dksX27_command_10 15 rfl rfl)
theorem dX27_command_279 : decode cX27_command 279 = .ok (.new 30, 3) := dk_187 0 30 (dk_at dksX27_command_10 16 rfl rfl)
theorem dX27_command_282 : decode cX27_command 282 = .ok (.dup, 1) := dk_89 (dk_at dksX27_command_10 19 rfl rfl)
theorem dX27_command_283 : decode cX27_command 283 = .ok (.aload_n 0, 1) := dk_42 (dk_at dksX27_command_10 20 rfl rfl)
theorem dX27_command_284 : decode cX27_command 284 = .ok (.getfield 13, 3) := dk_180 0 13 (dk_at dksX27_command_10 21 rfl rfl)
theorem dX27_command_287 : decode cX27_command 287 = .ok (.iconst 1, 1) := dk_4 (dk_at dksX27_command_11 0 rfl rfl)
theorem dX27_command_288 : decode cX27_command 288 = .ok (.isub, 1) := dk_100 (dk_at dksX27_command_11 1 rfl rfl)
theorem dX27_command_289 : decode cX27_command 289 = .ok (.invokespecial 32, 3) := dk_183 0 32 (dk_at dksX27_command_11 2 rfl rfl)
theorem dX27_command_292 : decode cX27_command 292 = .ok (.athrow, 1) := dk_191 (dk_at dksX27_command_11 5 rfl rfl)
abbrev cX27_number : ByteArray := prog_25_method_5_code
def yX27_number : MethodName := ⟨RX27, "number", "()I"⟩
def dkwX27_number_3 : List UInt8 := [16, 48, 100, 60, 42, 89, 180, 0, 13, 4, 96, 181, 0, 13, 27, 172]
abbrev dktX27_number_3 : List UInt8 := dkwX27_number_3 ++ []
def dkwX27_number_2 : List UInt8 := [182, 0, 39, 153, 0, 34, 16, 10, 27, 104, 42, 180, 0, 1, 180, 0, 22, 42, 180, 0, 13, 52, 96]
abbrev dktX27_number_2 : List UInt8 := dkwX27_number_2 ++ dktX27_number_3
def dkwX27_number_1 : List UInt8 := [180, 0, 22, 42, 180, 0, 13, 52, 16, 48, 100, 60, 42, 89, 180, 0, 13, 4, 96, 181, 0, 13, 42]
abbrev dktX27_number_1 : List UInt8 := dkwX27_number_1 ++ dktX27_number_2
def dkwX27_number_0 : List UInt8 := [42, 182, 0, 39, 154, 0, 15, 187, 0, 30, 89, 42, 180, 0, 13, 183, 0, 32, 191, 42, 180, 0, 1]
abbrev dktX27_number_0 : List UInt8 := dkwX27_number_0 ++ dktX27_number_1
theorem dksX27_number_0 : cX27_number.data.toList.drop 0 = dktX27_number_0 := by decide +kernel
theorem dksX27_number_1 : cX27_number.data.toList.drop 23 = dktX27_number_1 := dk_seg dksX27_number_0 23 rfl rfl
theorem dksX27_number_2 : cX27_number.data.toList.drop 46 = dktX27_number_2 := dk_seg dksX27_number_1 23 rfl rfl
theorem dksX27_number_3 : cX27_number.data.toList.drop 69 = dktX27_number_3 := dk_seg dksX27_number_2 23 rfl rfl
theorem dX27_number_0 : decode cX27_number 0 = .ok (.aload_n 0, 1) := dk_42 (dk_at dksX27_number_0 0 rfl rfl)
theorem dX27_number_1 : decode cX27_number 1 = .ok (.invokevirtual 39, 3) := dk_182 0 39 (dk_at dksX27_number_0 1 rfl rfl)
theorem dX27_number_4 : decode cX27_number 4 = .ok (.ifCond .ne 15, 3) := dk_154 0 15 (dk_at dksX27_number_0 4 rfl rfl)
theorem dX27_number_7 : decode cX27_number 7 = .ok (.new 30, 3) := dk_187 0 30 (dk_at dksX27_number_0 7 rfl rfl)
theorem dX27_number_10 : decode cX27_number 10 = .ok (.dup, 1) := dk_89 (dk_at dksX27_number_0 10 rfl rfl)
theorem dX27_number_11 : decode cX27_number 11 = .ok (.aload_n 0, 1) := dk_42 (dk_at dksX27_number_0 11 rfl rfl)
theorem dX27_number_12 : decode cX27_number 12 = .ok (.getfield 13, 3) := dk_180 0 13 (dk_at dksX27_number_0 12 rfl rfl)
theorem dX27_number_15 : decode cX27_number 15 = .ok (.invokespecial 32, 3) := dk_183 0 32 (dk_at dksX27_number_0 15 rfl rfl)
theorem dX27_number_18 : decode cX27_number 18 = .ok (.athrow, 1) := dk_191 (dk_at dksX27_number_0 18 rfl rfl)
theorem dX27_number_19 : decode cX27_number 19 = .ok (.aload_n 0, 1) := dk_42 (dk_at dksX27_number_0 19 rfl rfl)
theorem dX27_number_20 : decode cX27_number 20 = .ok (.getfield 1, 3) := dk_180 0 1 (dk_at dksX27_number_0 20 rfl rfl)
theorem dX27_number_23 : decode cX27_number 23 = .ok (.getfield 22, 3) := dk_180 0 22 (dk_at dksX27_number_1 0 rfl rfl)
theorem dX27_number_26 : decode cX27_number 26 = .ok (.aload_n 0, 1) := dk_42 (dk_at dksX27_number_1 3 rfl rfl)
theorem dX27_number_27 : decode cX27_number 27 = .ok (.getfield 13, 3) := dk_180 0 13 (dk_at dksX27_number_1 4 rfl rfl)
theorem dX27_number_30 : decode cX27_number 30 = .ok (.caload, 1) := dk_52 (dk_at dksX27_number_1 7 rfl rfl)
theorem dX27_number_31 : decode cX27_number 31 = .ok (.bipush 48, 2) := dk_16 48 (dk_at dksX27_number_1 8 rfl rfl)
theorem dX27_number_33 : decode cX27_number 33 = .ok (.isub, 1) := dk_100 (dk_at dksX27_number_1 10 rfl rfl)
theorem dX27_number_34 : decode cX27_number 34 = .ok (.istore_n 1, 1) := dk_60 (dk_at dksX27_number_1 11 rfl rfl)
theorem dX27_number_35 : decode cX27_number 35 = .ok (.aload_n 0, 1) := dk_42 (dk_at dksX27_number_1 12 rfl rfl)
theorem dX27_number_36 : decode cX27_number 36 = .ok (.dup, 1) := dk_89 (dk_at dksX27_number_1 13 rfl rfl)
theorem dX27_number_37 : decode cX27_number 37 = .ok (.getfield 13, 3) := dk_180 0 13 (dk_at dksX27_number_1 14 rfl rfl)
theorem dX27_number_40 : decode cX27_number 40 = .ok (.iconst 1, 1) := dk_4 (dk_at dksX27_number_1 17 rfl rfl)
theorem dX27_number_41 : decode cX27_number 41 = .ok (.iadd, 1) := dk_96 (dk_at dksX27_number_1 18 rfl rfl)
theorem dX27_number_42 : decode cX27_number 42 = .ok (.putfield 13, 3) := dk_181 0 13 (dk_at dksX27_number_1 19 rfl rfl)
theorem dX27_number_45 : decode cX27_number 45 = .ok (.aload_n 0, 1) := dk_42 (dk_at dksX27_number_1 22 rfl rfl)
theorem dX27_number_46 : decode cX27_number 46 = .ok (.invokevirtual 39, 3) := dk_182 0 39 (dk_at dksX27_number_2 0 rfl rfl)
theorem dX27_number_49 : decode cX27_number 49 = .ok (.ifCond .eq 34, 3) := dk_153 0 34 (dk_at dksX27_number_2 3 rfl rfl)
theorem dX27_number_52 : decode cX27_number 52 = .ok (.bipush 10, 2) := dk_16 10 (dk_at dksX27_number_2 6 rfl rfl)
theorem dX27_number_54 : decode cX27_number 54 = .ok (.iload_n 1, 1) := dk_27 (dk_at dksX27_number_2 8 rfl rfl)
theorem dX27_number_55 : decode cX27_number 55 = .ok (.imul, 1) := dk_104 (dk_at dksX27_number_2 9 rfl rfl)
theorem dX27_number_56 : decode cX27_number 56 = .ok (.aload_n 0, 1) := dk_42 (dk_at dksX27_number_2 10 rfl rfl)
theorem dX27_number_57 : decode cX27_number 57 = .ok (.getfield 1, 3) := dk_180 0 1 (dk_at dksX27_number_2 11 rfl rfl)
theorem dX27_number_60 : decode cX27_number 60 = .ok (.getfield 22, 3) := dk_180 0 22 (dk_at dksX27_number_2 14 rfl rfl)
theorem dX27_number_63 : decode cX27_number 63 = .ok (.aload_n 0, 1) := dk_42 (dk_at dksX27_number_2 17 rfl rfl)
theorem dX27_number_64 : decode cX27_number 64 = .ok (.getfield 13, 3) := dk_180 0 13 (dk_at dksX27_number_2 18 rfl rfl)
theorem dX27_number_67 : decode cX27_number 67 = .ok (.caload, 1) := dk_52 (dk_at dksX27_number_2 21 rfl rfl)
theorem dX27_number_68 : decode cX27_number 68 = .ok (.iadd, 1) := dk_96 (dk_at dksX27_number_2 22 rfl rfl)
theorem dX27_number_69 : decode cX27_number 69 = .ok (.bipush 48, 2) := dk_16 48 (dk_at dksX27_number_3 0 rfl rfl)
theorem dX27_number_71 : decode cX27_number 71 = .ok (.isub, 1) := dk_100 (dk_at dksX27_number_3 2 rfl rfl)
theorem dX27_number_72 : decode cX27_number 72 = .ok (.istore_n 1, 1) := dk_60 (dk_at dksX27_number_3 3 rfl rfl)
theorem dX27_number_73 : decode cX27_number 73 = .ok (.aload_n 0, 1) := dk_42 (dk_at dksX27_number_3 4 rfl rfl)
theorem dX27_number_74 : decode cX27_number 74 = .ok (.dup, 1) := dk_89 (dk_at dksX27_number_3 5 rfl rfl)
theorem dX27_number_75 : decode cX27_number 75 = .ok (.getfield 13, 3) := dk_180 0 13 (dk_at dksX27_number_3 6 rfl rfl)
theorem dX27_number_78 : decode cX27_number 78 = .ok (.iconst 1, 1) := dk_4 (dk_at dksX27_number_3 9 rfl rfl)
theorem dX27_number_79 : decode cX27_number 79 = .ok (.iadd, 1) := dk_96 (dk_at dksX27_number_3 10 rfl rfl)
theorem dX27_number_80 : decode cX27_number 80 = .ok (.putfield 13, 3) := dk_181 0 13 (dk_at dksX27_number_3 11 rfl rfl)
theorem dX27_number_83 : decode cX27_number 83 = .ok (.iload_n 1, 1) := dk_27 (dk_at dksX27_number_3 14 rfl rfl)
theorem dX27_number_84 : decode cX27_number 84 = .ok (.ireturn, 1) := dk_172 (dk_at dksX27_number_3 15 rfl rfl)
abbrev cX27_isDigit : ByteArray := prog_25_method_4_code
def yX27_isDigit : MethodName := ⟨RX27, "isDigit", "()Z"⟩
def dkwX27_isDigit_1 : List UInt8 := [180, 0, 13, 52, 16, 48, 16, 57, 184, 0, 35, 153, 0, 7, 4, 167, 0, 4, 3, 172]
abbrev dktX27_isDigit_1 : List UInt8 := dkwX27_isDigit_1 ++ []
def dkwX27_isDigit_0 : List UInt8 := [42, 180, 0, 13, 42, 180, 0, 1, 180, 0, 17, 162, 0, 29, 42, 180, 0, 1, 180, 0, 22, 42]
abbrev dktX27_isDigit_0 : List UInt8 := dkwX27_isDigit_0 ++ dktX27_isDigit_1
theorem dksX27_isDigit_0 : cX27_isDigit.data.toList.drop 0 = dktX27_isDigit_0 := by decide +kernel
theorem dksX27_isDigit_1 : cX27_isDigit.data.toList.drop 22 = dktX27_isDigit_1 := dk_seg dksX27_isDigit_0 22 rfl rfl
theorem dX27_isDigit_0 : decode cX27_isDigit 0 = .ok (.aload_n 0, 1) := dk_42 (dk_at dksX27_isDigit_0 0 rfl rfl)
theorem dX27_isDigit_1 : decode cX27_isDigit 1 = .ok (.getfield 13, 3) := dk_180 0 13 (dk_at dksX27_isDigit_0 1 rfl rfl)
theorem dX27_isDigit_4 : decode cX27_isDigit 4 = .ok (.aload_n 0, 1) := dk_42 (dk_at dksX27_isDigit_0 4 rfl rfl)
theorem dX27_isDigit_5 : decode cX27_isDigit 5 = .ok (.getfield 1, 3) := dk_180 0 1 (dk_at dksX27_isDigit_0 5 rfl rfl)
theorem dX27_isDigit_8 : decode cX27_isDigit 8 = .ok (.getfield 17, 3) := dk_180 0 17 (dk_at dksX27_isDigit_0 8 rfl rfl)
theorem dX27_isDigit_11 : decode cX27_isDigit 11 = .ok (.if_icmp .ge 29, 3) := dk_162 0 29 (dk_at dksX27_isDigit_0 11 rfl rfl)
theorem dX27_isDigit_14 : decode cX27_isDigit 14 = .ok (.aload_n 0, 1) := dk_42 (dk_at dksX27_isDigit_0 14 rfl rfl)
theorem dX27_isDigit_15 : decode cX27_isDigit 15 = .ok (.getfield 1, 3) := dk_180 0 1 (dk_at dksX27_isDigit_0 15 rfl rfl)
theorem dX27_isDigit_18 : decode cX27_isDigit 18 = .ok (.getfield 22, 3) := dk_180 0 22 (dk_at dksX27_isDigit_0 18 rfl rfl)
theorem dX27_isDigit_21 : decode cX27_isDigit 21 = .ok (.aload_n 0, 1) := dk_42 (dk_at dksX27_isDigit_0 21 rfl rfl)
theorem dX27_isDigit_22 : decode cX27_isDigit 22 = .ok (.getfield 13, 3) := dk_180 0 13 (dk_at dksX27_isDigit_1 0 rfl rfl)
theorem dX27_isDigit_25 : decode cX27_isDigit 25 = .ok (.caload, 1) := dk_52 (dk_at dksX27_isDigit_1 3 rfl rfl)
theorem dX27_isDigit_26 : decode cX27_isDigit 26 = .ok (.bipush 48, 2) := dk_16 48 (dk_at dksX27_isDigit_1 4 rfl rfl)
theorem dX27_isDigit_28 : decode cX27_isDigit 28 = .ok (.bipush 57, 2) := dk_16 57 (dk_at dksX27_isDigit_1 6 rfl rfl)
theorem dX27_isDigit_30 : decode cX27_isDigit 30 = .ok (.invokestatic 35, 3) := dk_184 0 35 (dk_at dksX27_isDigit_1 8 rfl rfl)
theorem dX27_isDigit_33 : decode cX27_isDigit 33 = .ok (.ifCond .eq 7, 3) := dk_153 0 7 (dk_at dksX27_isDigit_1 11 rfl rfl)
theorem dX27_isDigit_36 : decode cX27_isDigit 36 = .ok (.iconst 1, 1) := dk_4 (dk_at dksX27_isDigit_1 14 rfl rfl)
theorem dX27_isDigit_37 : decode cX27_isDigit 37 = .ok (.goto 4, 3) := dk_167 0 4 (dk_at dksX27_isDigit_1 15 rfl rfl)
theorem dX27_isDigit_40 : decode cX27_isDigit 40 = .ok (.iconst 0, 1) := dk_3 (dk_at dksX27_isDigit_1 18 rfl rfl)
theorem dX27_isDigit_41 : decode cX27_isDigit 41 = .ok (.ireturn, 1) := dk_172 (dk_at dksX27_isDigit_1 19 rfl rfl)
abbrev cX27_numberBehind : ByteArray := prog_25_method_6_code
def yX27_numberBehind : MethodName := ⟨RX27, "numberBehind", "(C)I"⟩
def dkwX27_numberBehind_0 : List UInt8 := [42, 27, 182, 0, 43, 42, 182, 0, 47, 172]
abbrev dktX27_numberBehind_0 : List UInt8 := dkwX27_numberBehind_0 ++ []
theorem dksX27_numberBehind_0 : cX27_numberBehind.data.toList.drop 0 = dktX27_numberBehind_0 := by decide +kernel
theorem dX27_numberBehind_0 : decode cX27_numberBehind 0 = .ok (.aload_n 0, 1) := dk_42 (dk_at dksX27_numberBehind_0 0 rfl rfl)
theorem dX27_numberBehind_1 : decode cX27_numberBehind 1 = .ok (.iload_n 1, 1) := dk_27 (dk_at dksX27_numberBehind_0 1 rfl rfl)
theorem dX27_numberBehind_2 : decode cX27_numberBehind 2 = .ok (.invokevirtual 43, 3) := dk_182 0 43 (dk_at dksX27_numberBehind_0 2 rfl rfl)
theorem dX27_numberBehind_5 : decode cX27_numberBehind 5 = .ok (.aload_n 0, 1) := dk_42 (dk_at dksX27_numberBehind_0 5 rfl rfl)
theorem dX27_numberBehind_6 : decode cX27_numberBehind 6 = .ok (.invokevirtual 47, 3) := dk_182 0 47 (dk_at dksX27_numberBehind_0 6 rfl rfl)
theorem dX27_numberBehind_9 : decode cX27_numberBehind 9 = .ok (.ireturn, 1) := dk_172 (dk_at dksX27_numberBehind_0 9 rfl rfl)
abbrev cX27_takes : ByteArray := prog_25_method_3_code
def yX27_takes : MethodName := ⟨RX27, "takes", "(C)V"⟩
def dkwX27_takes_1 : List UInt8 := [180, 0, 13, 4, 96, 181, 0, 13, 177]
abbrev dktX27_takes_1 : List UInt8 := dkwX27_takes_1 ++ []
def dkwX27_takes_0 : List UInt8 := [42, 27, 182, 0, 26, 154, 0, 15, 187, 0, 30, 89, 42, 180, 0, 13, 183, 0, 32, 191, 42, 89]
abbrev dktX27_takes_0 : List UInt8 := dkwX27_takes_0 ++ dktX27_takes_1
theorem dksX27_takes_0 : cX27_takes.data.toList.drop 0 = dktX27_takes_0 := by decide +kernel
theorem dksX27_takes_1 : cX27_takes.data.toList.drop 22 = dktX27_takes_1 := dk_seg dksX27_takes_0 22 rfl rfl
theorem dX27_takes_0 : decode cX27_takes 0 = .ok (.aload_n 0, 1) := dk_42 (dk_at dksX27_takes_0 0 rfl rfl)
theorem dX27_takes_1 : decode cX27_takes 1 = .ok (.iload_n 1, 1) := dk_27 (dk_at dksX27_takes_0 1 rfl rfl)
theorem dX27_takes_2 : decode cX27_takes 2 = .ok (.invokevirtual 26, 3) := dk_182 0 26 (dk_at dksX27_takes_0 2 rfl rfl)
theorem dX27_takes_5 : decode cX27_takes 5 = .ok (.ifCond .ne 15, 3) := dk_154 0 15 (dk_at dksX27_takes_0 5 rfl rfl)
theorem dX27_takes_8 : decode cX27_takes 8 = .ok (.new 30, 3) := dk_187 0 30 (dk_at dksX27_takes_0 8 rfl rfl)
theorem dX27_takes_11 : decode cX27_takes 11 = .ok (.dup, 1) := dk_89 (dk_at dksX27_takes_0 11 rfl rfl)
theorem dX27_takes_12 : decode cX27_takes 12 = .ok (.aload_n 0, 1) := dk_42 (dk_at dksX27_takes_0 12 rfl rfl)
theorem dX27_takes_13 : decode cX27_takes 13 = .ok (.getfield 13, 3) := dk_180 0 13 (dk_at dksX27_takes_0 13 rfl rfl)
theorem dX27_takes_16 : decode cX27_takes 16 = .ok (.invokespecial 32, 3) := dk_183 0 32 (dk_at dksX27_takes_0 16 rfl rfl)
theorem dX27_takes_19 : decode cX27_takes 19 = .ok (.athrow, 1) := dk_191 (dk_at dksX27_takes_0 19 rfl rfl)
theorem dX27_takes_20 : decode cX27_takes 20 = .ok (.aload_n 0, 1) := dk_42 (dk_at dksX27_takes_0 20 rfl rfl)
theorem dX27_takes_21 : decode cX27_takes 21 = .ok (.dup, 1) := dk_89 (dk_at dksX27_takes_0 21 rfl rfl)
theorem dX27_takes_22 : decode cX27_takes 22 = .ok (.getfield 13, 3) := dk_180 0 13 (dk_at dksX27_takes_1 0 rfl rfl)
theorem dX27_takes_25 : decode cX27_takes 25 = .ok (.iconst 1, 1) := dk_4 (dk_at dksX27_takes_1 3 rfl rfl)
theorem dX27_takes_26 : decode cX27_takes 26 = .ok (.iadd, 1) := dk_96 (dk_at dksX27_takes_1 4 rfl rfl)
theorem dX27_takes_27 : decode cX27_takes 27 = .ok (.putfield 13, 3) := dk_181 0 13 (dk_at dksX27_takes_1 5 rfl rfl)
theorem dX27_takes_30 : decode cX27_takes 30 = .ok (.return_, 1) := dk_177 (dk_at dksX27_takes_1 8 rfl rfl)
abbrev cX27_isSign : ByteArray := prog_25_method_2_code
def yX27_isSign : MethodName := ⟨RX27, "isSign", "(C)Z"⟩
def dkwX27_isSign_1 : List UInt8 := [180, 0, 13, 52, 27, 160, 0, 7, 4, 167, 0, 4, 3, 172]
abbrev dktX27_isSign_1 : List UInt8 := dkwX27_isSign_1 ++ []
def dkwX27_isSign_0 : List UInt8 := [42, 180, 0, 13, 42, 180, 0, 1, 180, 0, 17, 162, 0, 23, 42, 180, 0, 1, 180, 0, 22, 42]
abbrev dktX27_isSign_0 : List UInt8 := dkwX27_isSign_0 ++ dktX27_isSign_1
theorem dksX27_isSign_0 : cX27_isSign.data.toList.drop 0 = dktX27_isSign_0 := by decide +kernel
theorem dksX27_isSign_1 : cX27_isSign.data.toList.drop 22 = dktX27_isSign_1 := dk_seg dksX27_isSign_0 22 rfl rfl
theorem dX27_isSign_0 : decode cX27_isSign 0 = .ok (.aload_n 0, 1) := dk_42 (dk_at dksX27_isSign_0 0 rfl rfl)
theorem dX27_isSign_1 : decode cX27_isSign 1 = .ok (.getfield 13, 3) := dk_180 0 13 (dk_at dksX27_isSign_0 1 rfl rfl)
theorem dX27_isSign_4 : decode cX27_isSign 4 = .ok (.aload_n 0, 1) := dk_42 (dk_at dksX27_isSign_0 4 rfl rfl)
theorem dX27_isSign_5 : decode cX27_isSign 5 = .ok (.getfield 1, 3) := dk_180 0 1 (dk_at dksX27_isSign_0 5 rfl rfl)
theorem dX27_isSign_8 : decode cX27_isSign 8 = .ok (.getfield 17, 3) := dk_180 0 17 (dk_at dksX27_isSign_0 8 rfl rfl)
theorem dX27_isSign_11 : decode cX27_isSign 11 = .ok (.if_icmp .ge 23, 3) := dk_162 0 23 (dk_at dksX27_isSign_0 11 rfl rfl)
theorem dX27_isSign_14 : decode cX27_isSign 14 = .ok (.aload_n 0, 1) := dk_42 (dk_at dksX27_isSign_0 14 rfl rfl)
theorem dX27_isSign_15 : decode cX27_isSign 15 = .ok (.getfield 1, 3) := dk_180 0 1 (dk_at dksX27_isSign_0 15 rfl rfl)
theorem dX27_isSign_18 : decode cX27_isSign 18 = .ok (.getfield 22, 3) := dk_180 0 22 (dk_at dksX27_isSign_0 18 rfl rfl)
theorem dX27_isSign_21 : decode cX27_isSign 21 = .ok (.aload_n 0, 1) := dk_42 (dk_at dksX27_isSign_0 21 rfl rfl)
theorem dX27_isSign_22 : decode cX27_isSign 22 = .ok (.getfield 13, 3) := dk_180 0 13 (dk_at dksX27_isSign_1 0 rfl rfl)
theorem dX27_isSign_25 : decode cX27_isSign 25 = .ok (.caload, 1) := dk_52 (dk_at dksX27_isSign_1 3 rfl rfl)
theorem dX27_isSign_26 : decode cX27_isSign 26 = .ok (.iload_n 1, 1) := dk_27 (dk_at dksX27_isSign_1 4 rfl rfl)
theorem dX27_isSign_27 : decode cX27_isSign 27 = .ok (.if_icmp .ne 7, 3) := dk_160 0 7 (dk_at dksX27_isSign_1 5 rfl rfl)
theorem dX27_isSign_30 : decode cX27_isSign 30 = .ok (.iconst 1, 1) := dk_4 (dk_at dksX27_isSign_1 8 rfl rfl)
theorem dX27_isSign_31 : decode cX27_isSign 31 = .ok (.goto 4, 3) := dk_167 0 4 (dk_at dksX27_isSign_1 9 rfl rfl)
theorem dX27_isSign_34 : decode cX27_isSign 34 = .ok (.iconst 0, 1) := dk_3 (dk_at dksX27_isSign_1 12 rfl rfl)
theorem dX27_isSign_35 : decode cX27_isSign 35 = .ok (.ireturn, 1) := dk_172 (dk_at dksX27_isSign_1 13 rfl rfl)
abbrev cX27_plus : ByteArray := prog_25_method_7_code
def yX27_plus : MethodName := ⟨RX27, "plus", "()I"⟩
def dkwX27_plus_2 : List UInt8 := [42, 180, 0, 13, 4, 100, 52, 16, 43, 160, 0, 7, 4, 167, 0, 4, 3, 184, 0, 51, 172]
abbrev dktX27_plus_2 : List UInt8 := dkwX27_plus_2 ++ []
def dkwX27_plus_1 : List UInt8 := [180, 0, 13, 183, 0, 32, 191, 42, 89, 180, 0, 13, 4, 96, 181, 0, 13, 42, 180, 0, 1, 180, 0, 22]
abbrev dktX27_plus_1 : List UInt8 := dkwX27_plus_1 ++ dktX27_plus_2
def dkwX27_plus_0 : List UInt8 := [42, 16, 43, 182, 0, 26, 154, 0, 24, 42, 16, 45, 182, 0, 26, 154, 0, 15, 187, 0, 30, 89, 42]
abbrev dktX27_plus_0 : List UInt8 := dkwX27_plus_0 ++ dktX27_plus_1
theorem dksX27_plus_0 : cX27_plus.data.toList.drop 0 = dktX27_plus_0 := by decide +kernel
theorem dksX27_plus_1 : cX27_plus.data.toList.drop 23 = dktX27_plus_1 := dk_seg dksX27_plus_0 23 rfl rfl
theorem dksX27_plus_2 : cX27_plus.data.toList.drop 47 = dktX27_plus_2 := dk_seg dksX27_plus_1 24 rfl rfl
theorem dX27_plus_0 : decode cX27_plus 0 = .ok (.aload_n 0, 1) := dk_42 (dk_at dksX27_plus_0 0 rfl rfl)
theorem dX27_plus_1 : decode cX27_plus 1 = .ok (.bipush 43, 2) := dk_16 43 (dk_at dksX27_plus_0 1 rfl rfl)
theorem dX27_plus_3 : decode cX27_plus 3 = .ok (.invokevirtual 26, 3) := dk_182 0 26 (dk_at dksX27_plus_0 3 rfl rfl)
theorem dX27_plus_6 : decode cX27_plus 6 = .ok (.ifCond .ne 24, 3) := dk_154 0 24 (dk_at dksX27_plus_0 6 rfl rfl)
theorem dX27_plus_9 : decode cX27_plus 9 = .ok (.aload_n 0, 1) := dk_42 (dk_at dksX27_plus_0 9 rfl rfl)
theorem dX27_plus_10 : decode cX27_plus 10 = .ok (.bipush 45, 2) := dk_16 45 (dk_at dksX27_plus_0 10 rfl rfl)
theorem dX27_plus_12 : decode cX27_plus 12 = .ok (.invokevirtual 26, 3) := dk_182 0 26 (dk_at dksX27_plus_0 12 rfl rfl)
theorem dX27_plus_15 : decode cX27_plus 15 = .ok (.ifCond .ne 15, 3) := dk_154 0 15 (dk_at dksX27_plus_0 15 rfl rfl)
theorem dX27_plus_18 : decode cX27_plus 18 = .ok (.new 30, 3) := dk_187 0 30 (dk_at dksX27_plus_0 18 rfl rfl)
theorem dX27_plus_21 : decode cX27_plus 21 = .ok (.dup, 1) := dk_89 (dk_at dksX27_plus_0 21 rfl rfl)
theorem dX27_plus_22 : decode cX27_plus 22 = .ok (.aload_n 0, 1) := dk_42 (dk_at dksX27_plus_0 22 rfl rfl)
theorem dX27_plus_23 : decode cX27_plus 23 = .ok (.getfield 13, 3) := dk_180 0 13 (dk_at dksX27_plus_1 0 rfl rfl)
theorem dX27_plus_26 : decode cX27_plus 26 = .ok (.invokespecial 32, 3) := dk_183 0 32 (dk_at dksX27_plus_1 3 rfl rfl)
theorem dX27_plus_29 : decode cX27_plus 29 = .ok (.athrow, 1) := dk_191 (dk_at dksX27_plus_1 6 rfl rfl)
theorem dX27_plus_30 : decode cX27_plus 30 = .ok (.aload_n 0, 1) := dk_42 (dk_at dksX27_plus_1 7 rfl rfl)
theorem dX27_plus_31 : decode cX27_plus 31 = .ok (.dup, 1) := dk_89 (dk_at dksX27_plus_1 8 rfl rfl)
theorem dX27_plus_32 : decode cX27_plus 32 = .ok (.getfield 13, 3) := dk_180 0 13 (dk_at dksX27_plus_1 9 rfl rfl)
theorem dX27_plus_35 : decode cX27_plus 35 = .ok (.iconst 1, 1) := dk_4 (dk_at dksX27_plus_1 12 rfl rfl)
theorem dX27_plus_36 : decode cX27_plus 36 = .ok (.iadd, 1) := dk_96 (dk_at dksX27_plus_1 13 rfl rfl)
theorem dX27_plus_37 : decode cX27_plus 37 = .ok (.putfield 13, 3) := dk_181 0 13 (dk_at dksX27_plus_1 14 rfl rfl)
theorem dX27_plus_40 : decode cX27_plus 40 = .ok (.aload_n 0, 1) := dk_42 (dk_at dksX27_plus_1 17 rfl rfl)
theorem dX27_plus_41 : decode cX27_plus 41 = .ok (.getfield 1, 3) := dk_180 0 1 (dk_at dksX27_plus_1 18 rfl rfl)
theorem dX27_plus_44 : decode cX27_plus 44 = .ok (.getfield 22, 3) := dk_180 0 22 (dk_at dksX27_plus_1 21 rfl rfl)
theorem dX27_plus_47 : decode cX27_plus 47 = .ok (.aload_n 0, 1) := dk_42 (dk_at dksX27_plus_2 0 rfl rfl)
theorem dX27_plus_48 : decode cX27_plus 48 = .ok (.getfield 13, 3) := dk_180 0 13 (dk_at dksX27_plus_2 1 rfl rfl)
theorem dX27_plus_51 : decode cX27_plus 51 = .ok (.iconst 1, 1) := dk_4 (dk_at dksX27_plus_2 4 rfl rfl)
theorem dX27_plus_52 : decode cX27_plus 52 = .ok (.isub, 1) := dk_100 (dk_at dksX27_plus_2 5 rfl rfl)
theorem dX27_plus_53 : decode cX27_plus 53 = .ok (.caload, 1) := dk_52 (dk_at dksX27_plus_2 6 rfl rfl)
theorem dX27_plus_54 : decode cX27_plus 54 = .ok (.bipush 43, 2) := dk_16 43 (dk_at dksX27_plus_2 7 rfl rfl)
theorem dX27_plus_56 : decode cX27_plus 56 = .ok (.if_icmp .ne 7, 3) := dk_160 0 7 (dk_at dksX27_plus_2 9 rfl rfl)
theorem dX27_plus_59 : decode cX27_plus 59 = .ok (.iconst 1, 1) := dk_4 (dk_at dksX27_plus_2 12 rfl rfl)
theorem dX27_plus_60 : decode cX27_plus 60 = .ok (.goto 4, 3) := dk_167 0 4 (dk_at dksX27_plus_2 13 rfl rfl)
theorem dX27_plus_63 : decode cX27_plus 63 = .ok (.iconst 0, 1) := dk_3 (dk_at dksX27_plus_2 16 rfl rfl)
theorem dX27_plus_64 : decode cX27_plus 64 = .ok (.invokestatic 51, 3) := dk_184 0 51 (dk_at dksX27_plus_2 17 rfl rfl)
theorem dX27_plus_67 : decode cX27_plus 67 = .ok (.ireturn, 1) := dk_172 (dk_at dksX27_plus_2 20 rfl rfl)
theorem q156 : (Jvm.Cond.initialized "TurningWheel$Reader") ∈ lw_all := lw_g (lw_at lw_m1 73 rfl) rfl
theorem q324 : (Jvm.Cond.fieldLinkNest "TurningWheel$Reader" (22 : Nat) "TurningWheel" "input" "[C" "TurningWheel") ∈ lw_tbl := lw_at lw_m2 1 rfl
theorem q326 : (Jvm.Cond.fieldLinkNest "TurningWheel$Reader" (17 : Nat) "TurningWheel" "fed" "I" "TurningWheel") ∈ lw_tbl := lw_at lw_m2 3 rfl
theorem q567 : (Jvm.Cond.selects "TurningWheel$Reader" ({ cls := "java/lang/Object", name := "getClass", desc := "()Ljava/lang/Class;" } : Jvm.MethodName) ({ cls := "java/lang/Object", name := "getClass", desc := "()Ljava/lang/Class;" } : Jvm.MethodName)) ∈ lw_all := lw_g (lw_at lw_m3 4 rfl) rfl
theorem q2416 : (Jvm.Cond.instantiable "TurningWheel$Reader" (2 : Nat)) ∈ lw_all := lw_g (lw_at lw_m10 173 rfl) rfl
theorem q2418 : (Jvm.Cond.instanceMethod ({ cls := "TurningWheel$Reader", name := "<init>", desc := "(LTurningWheel;)V" } : Jvm.MethodName)) ∈ lw_all := lw_g (lw_at lw_m10 175 rfl) rfl
theorem q2419 : (Jvm.Cond.code ({ cls := "TurningWheel$Reader", name := "<init>", desc := "(LTurningWheel;)V" } : Jvm.MethodName) prog_25_method_1_code (2 : Nat) (Option.none : Option Jvm.ClassFile.FieldType)) ∈ lw_all := lw_g (lw_at lw_m10 176 rfl) rfl
theorem q2420 : (Jvm.Cond.methodLink "TurningWheel$Reader" (7 : Nat) ({ cls := "java/lang/Object", name := "<init>", desc := "()V" } : Jvm.MethodName)) ∈ lw_all := lw_g (lw_at lw_m10 177 rfl) rfl
theorem q2421 : (Jvm.Cond.fieldLink "TurningWheel$Reader" (13 : Nat) "TurningWheel$Reader" "at" "I") ∈ lw_all := lw_g (lw_at lw_m10 178 rfl) rfl
theorem q2422 : (Jvm.Cond.fieldLink "TurningWheel$Reader" (1 : Nat) "TurningWheel$Reader" "this$0" "LTurningWheel;") ∈ lw_all := lw_g (lw_at lw_m10 179 rfl) rfl
theorem q2423 : (Jvm.Cond.lays "TurningWheel$Reader" "TurningWheel$Reader" "at" "I") ∈ lw_all := lw_g (lw_at lw_m10 180 rfl) rfl
theorem q2424 : (Jvm.Cond.soleField "TurningWheel$Reader" "at") ∈ lw_all := lw_g (lw_at lw_m10 181 rfl) rfl
theorem q2425 : (Jvm.Cond.laysFinal "TurningWheel$Reader" "TurningWheel$Reader" "this$0" "LTurningWheel;") ∈ lw_all := lw_g (lw_at lw_m10 182 rfl) rfl
theorem q2426 : (Jvm.Cond.soleField "TurningWheel$Reader" "this$0") ∈ lw_all := lw_g (lw_at lw_m10 183 rfl) rfl
theorem q2427 : (Jvm.Cond.superclass "TurningWheel$Reader" "java/lang/Object") ∈ lw_all := lw_g (lw_at lw_m10 184 rfl) rfl
theorem q2429 : (Jvm.Cond.instanceMethod ({ cls := "TurningWheel$Reader", name := "whole", desc := "()Ljava/util/List;" } : Jvm.MethodName)) ∈ lw_all := lw_g (lw_at lw_m10 186 rfl) rfl
theorem q2430 : (Jvm.Cond.selects "TurningWheel$Reader" ({ cls := "TurningWheel$Reader", name := "whole", desc := "()Ljava/util/List;" } : Jvm.MethodName) ({ cls := "TurningWheel$Reader", name := "whole", desc := "()Ljava/util/List;" } : Jvm.MethodName)) ∈ lw_all := lw_g (lw_at lw_m10 187 rfl) rfl
theorem q2431 : (Jvm.Cond.code ({ cls := "TurningWheel$Reader", name := "whole", desc := "()Ljava/util/List;" } : Jvm.MethodName) prog_25_method_9_code (2 : Nat) (Option.some (Jvm.ClassFile.FieldType.object "java/util/List"))) ∈ lw_all := lw_g (lw_at lw_m10 188 rfl) rfl
theorem q2432 : (Jvm.Cond.classLink "TurningWheel$Reader" (67 : Nat) "java/util/ArrayList") ∈ lw_all := lw_g (lw_at lw_m10 189 rfl) rfl
theorem q2433 : (Jvm.Cond.methodLink "TurningWheel$Reader" (69 : Nat) ({ cls := "java/util/ArrayList", name := "<init>", desc := "()V" } : Jvm.MethodName)) ∈ lw_all := lw_g (lw_at lw_m10 190 rfl) rfl
theorem q2434 : (Jvm.Cond.methodLink "TurningWheel$Reader" (70 : Nat) ({ cls := "TurningWheel$Reader", name := "command", desc := "()LTurningWheel$Command;" } : Jvm.MethodName)) ∈ lw_all := lw_g (lw_at lw_m10 191 rfl) rfl
theorem q2435 : (Jvm.Cond.privateMethod ({ cls := "TurningWheel$Reader", name := "command", desc := "()LTurningWheel$Command;" } : Jvm.MethodName)) ∈ lw_tbl := lw_at lw_m10 192 rfl
theorem q2436 : (Jvm.Cond.instanceMethod ({ cls := "TurningWheel$Reader", name := "command", desc := "()LTurningWheel$Command;" } : Jvm.MethodName)) ∈ lw_all := lw_g (lw_at lw_m10 193 rfl) rfl
theorem q2437 : (Jvm.Cond.code ({ cls := "TurningWheel$Reader", name := "command", desc := "()LTurningWheel$Command;" } : Jvm.MethodName) prog_25_method_8_code (2 : Nat) (Option.some (Jvm.ClassFile.FieldType.object "TurningWheel$Command"))) ∈ lw_all := lw_g (lw_at lw_m10 194 rfl) rfl
theorem q2438 : (Jvm.Cond.classLink "TurningWheel$Reader" (30 : Nat) "TurningWheel$BadSign") ∈ lw_all := lw_g (lw_at lw_m10 195 rfl) rfl
theorem q2447 : (Jvm.Cond.methodLink "TurningWheel$Reader" (32 : Nat) ({ cls := "TurningWheel$BadSign", name := "<init>", desc := "(I)V" } : Jvm.MethodName)) ∈ lw_all := lw_g (lw_at lw_m10 204 rfl) rfl
theorem q2457 : (Jvm.Cond.classLink "TurningWheel$Reader" (55 : Nat) "TurningWheel$Command") ∈ lw_all := lw_g (lw_at lw_m10 214 rfl) rfl
theorem q2459 : (Jvm.Cond.methodLink "TurningWheel$Reader" (47 : Nat) ({ cls := "TurningWheel$Reader", name := "number", desc := "()I" } : Jvm.MethodName)) ∈ lw_all := lw_g (lw_at lw_m10 216 rfl) rfl
theorem q2460 : (Jvm.Cond.privateMethod ({ cls := "TurningWheel$Reader", name := "number", desc := "()I" } : Jvm.MethodName)) ∈ lw_tbl := lw_at lw_m10 217 rfl
theorem q2461 : (Jvm.Cond.instanceMethod ({ cls := "TurningWheel$Reader", name := "number", desc := "()I" } : Jvm.MethodName)) ∈ lw_all := lw_g (lw_at lw_m10 218 rfl) rfl
theorem q2462 : (Jvm.Cond.code ({ cls := "TurningWheel$Reader", name := "number", desc := "()I" } : Jvm.MethodName) prog_25_method_5_code (2 : Nat) (Option.some Jvm.ClassFile.FieldType.int)) ∈ lw_all := lw_g (lw_at lw_m10 219 rfl) rfl
theorem q2463 : (Jvm.Cond.methodLink "TurningWheel$Reader" (39 : Nat) ({ cls := "TurningWheel$Reader", name := "isDigit", desc := "()Z" } : Jvm.MethodName)) ∈ lw_all := lw_g (lw_at lw_m10 220 rfl) rfl
theorem q2464 : (Jvm.Cond.privateMethod ({ cls := "TurningWheel$Reader", name := "isDigit", desc := "()Z" } : Jvm.MethodName)) ∈ lw_tbl := lw_at lw_m10 221 rfl
theorem q2465 : (Jvm.Cond.instanceMethod ({ cls := "TurningWheel$Reader", name := "isDigit", desc := "()Z" } : Jvm.MethodName)) ∈ lw_all := lw_g (lw_at lw_m10 222 rfl) rfl
theorem q2466 : (Jvm.Cond.code ({ cls := "TurningWheel$Reader", name := "isDigit", desc := "()Z" } : Jvm.MethodName) prog_25_method_4_code (1 : Nat) (Option.some Jvm.ClassFile.FieldType.boolean)) ∈ lw_all := lw_g (lw_at lw_m10 223 rfl) rfl
theorem q2467 : (Jvm.Cond.methodLinkNest "TurningWheel$Reader" (35 : Nat) ({ cls := "TurningWheel", name := "in", desc := "(III)Z" } : Jvm.MethodName) "TurningWheel") ∈ lw_tbl := lw_at lw_m10 224 rfl
theorem q2468 : (Jvm.Cond.methodLink "TurningWheel$Reader" (57 : Nat) ({ cls := "TurningWheel$Reader", name := "numberBehind", desc := "(C)I" } : Jvm.MethodName)) ∈ lw_all := lw_g (lw_at lw_m10 225 rfl) rfl
theorem q2469 : (Jvm.Cond.privateMethod ({ cls := "TurningWheel$Reader", name := "numberBehind", desc := "(C)I" } : Jvm.MethodName)) ∈ lw_tbl := lw_at lw_m10 226 rfl
theorem q2470 : (Jvm.Cond.instanceMethod ({ cls := "TurningWheel$Reader", name := "numberBehind", desc := "(C)I" } : Jvm.MethodName)) ∈ lw_all := lw_g (lw_at lw_m10 227 rfl) rfl
theorem q2471 : (Jvm.Cond.code ({ cls := "TurningWheel$Reader", name := "numberBehind", desc := "(C)I" } : Jvm.MethodName) prog_25_method_6_code (2 : Nat) (Option.some Jvm.ClassFile.FieldType.int)) ∈ lw_all := lw_g (lw_at lw_m10 228 rfl) rfl
theorem q2472 : (Jvm.Cond.methodLink "TurningWheel$Reader" (43 : Nat) ({ cls := "TurningWheel$Reader", name := "takes", desc := "(C)V" } : Jvm.MethodName)) ∈ lw_all := lw_g (lw_at lw_m10 229 rfl) rfl
theorem q2473 : (Jvm.Cond.privateMethod ({ cls := "TurningWheel$Reader", name := "takes", desc := "(C)V" } : Jvm.MethodName)) ∈ lw_tbl := lw_at lw_m10 230 rfl
theorem q2474 : (Jvm.Cond.instanceMethod ({ cls := "TurningWheel$Reader", name := "takes", desc := "(C)V" } : Jvm.MethodName)) ∈ lw_all := lw_g (lw_at lw_m10 231 rfl) rfl
theorem q2475 : (Jvm.Cond.code ({ cls := "TurningWheel$Reader", name := "takes", desc := "(C)V" } : Jvm.MethodName) prog_25_method_3_code (2 : Nat) (Option.none : Option Jvm.ClassFile.FieldType)) ∈ lw_all := lw_g (lw_at lw_m10 232 rfl) rfl
theorem q2476 : (Jvm.Cond.methodLink "TurningWheel$Reader" (26 : Nat) ({ cls := "TurningWheel$Reader", name := "isSign", desc := "(C)Z" } : Jvm.MethodName)) ∈ lw_all := lw_g (lw_at lw_m10 233 rfl) rfl
theorem q2477 : (Jvm.Cond.privateMethod ({ cls := "TurningWheel$Reader", name := "isSign", desc := "(C)Z" } : Jvm.MethodName)) ∈ lw_tbl := lw_at lw_m10 234 rfl
theorem q2478 : (Jvm.Cond.instanceMethod ({ cls := "TurningWheel$Reader", name := "isSign", desc := "(C)Z" } : Jvm.MethodName)) ∈ lw_all := lw_g (lw_at lw_m10 235 rfl) rfl
theorem q2479 : (Jvm.Cond.code ({ cls := "TurningWheel$Reader", name := "isSign", desc := "(C)Z" } : Jvm.MethodName) prog_25_method_2_code (2 : Nat) (Option.some Jvm.ClassFile.FieldType.boolean)) ∈ lw_all := lw_g (lw_at lw_m10 236 rfl) rfl
theorem q2480 : (Jvm.Cond.methodLink "TurningWheel$Reader" (61 : Nat) ({ cls := "TurningWheel$Command", name := "<init>", desc := "(C[I)V" } : Jvm.MethodName)) ∈ lw_all := lw_g (lw_at lw_m10 237 rfl) rfl
theorem q2493 : (Jvm.Cond.methodLink "TurningWheel$Reader" (64 : Nat) ({ cls := "TurningWheel$Reader", name := "plus", desc := "()I" } : Jvm.MethodName)) ∈ lw_all := lw_g (lw_at lw_m11 10 rfl) rfl
theorem q2494 : (Jvm.Cond.privateMethod ({ cls := "TurningWheel$Reader", name := "plus", desc := "()I" } : Jvm.MethodName)) ∈ lw_tbl := lw_at lw_m11 11 rfl
theorem q2495 : (Jvm.Cond.instanceMethod ({ cls := "TurningWheel$Reader", name := "plus", desc := "()I" } : Jvm.MethodName)) ∈ lw_all := lw_g (lw_at lw_m11 12 rfl) rfl
theorem q2496 : (Jvm.Cond.code ({ cls := "TurningWheel$Reader", name := "plus", desc := "()I" } : Jvm.MethodName) prog_25_method_7_code (1 : Nat) (Option.some Jvm.ClassFile.FieldType.int)) ∈ lw_all := lw_g (lw_at lw_m11 13 rfl) rfl
theorem q2497 : (Jvm.Cond.methodLinkNest "TurningWheel$Reader" (51 : Nat) ({ cls := "TurningWheel", name := "bit", desc := "(Z)I" } : Jvm.MethodName) "TurningWheel") ∈ lw_tbl := lw_at lw_m11 14 rfl
theorem q2498 : (Jvm.Cond.methodLink "TurningWheel$Reader" (74 : Nat) ({ cls := "java/util/ArrayList", name := "add", desc := "(Ljava/lang/Object;)Z" } : Jvm.MethodName)) ∈ lw_all := lw_g (lw_at lw_m11 15 rfl) rfl
theorem q2499 : (Jvm.Cond.methodLink "TurningWheel$Reader" (78 : Nat) ({ cls := "java/util/Collections", name := "unmodifiableList", desc := "(Ljava/util/List;)Ljava/util/List;" } : Jvm.MethodName)) ∈ lw_all := lw_g (lw_at lw_m11 16 rfl) rfl
theorem q3082 : (Jvm.Cond.castable "TurningWheel$Reader" "java/lang/Object") ∈ lw_tbl := lw_at lw_m13 119 rfl
theorem in_X27 : ∀ w ∈ wsX270, w ∈ lw_all := lw_in wsX270 [2423, 2425] (by decide +kernel) (by decide +kernel)

/-! TurningWheel$BadSign -/
set_option maxRecDepth 100000
def RX28 : String := "TurningWheel$BadSign"
def TX28 : u_T := fun k => match k with
  | 0 => ("java/lang/Throwable", "cause", "Ljava/lang/Throwable;", false)
  | 1 => ("java/lang/Throwable", "stackTrace", "[Ljava/lang/StackTraceElement;", false)
  | 2 => ("java/lang/Throwable", "suppressedExceptions", "Ljava/util/List;", false)
  | 3 => ("java/lang/Throwable", "detailMessage", "Ljava/lang/String;", false)
  | 4 => ("java/lang/Throwable", "backtrace", "Ljava/lang/Object;", false)
  | 5 => ("java/lang/Throwable", "depth", "I", false)
  | _ => ("TurningWheel$BadSign", "place", "I", true)
def tyX28 : Nat → FieldType := fun k => match k with
  | 0 => .object "java/lang/Throwable"
  | 1 => .array (.object "java/lang/StackTraceElement")
  | 2 => .object "java/util/List"
  | 3 => .object "java/lang/String"
  | 4 => .object "java/lang/Object"
  | 5 => .int
  | _ => .int
abbrev wsX280 : List Cond := u_ws RX28 TX28 7
theorem nmX28 : ∀ a, a < 7 → ∀ b, b < 7 → a ≠ b → (TX28 a).2.1 ≠ (TX28 b).2.1 := by decide +kernel
theorem tyX28_ok : ∀ k, k < 7 → parseFieldDescriptor (TX28 k).2.2.1 = some (tyX28 k) := by decide +kernel
abbrev cX28_init : ByteArray := prog_13_method_1_code
def yX28_init : MethodName := ⟨RX28, "<init>", "(I)V"⟩
def dkwX28_init_0 : List UInt8 := [42, 1, 1, 3, 3, 183, 0, 1, 42, 27, 181, 0, 7, 177]
abbrev dktX28_init_0 : List UInt8 := dkwX28_init_0 ++ []
theorem dksX28_init_0 : cX28_init.data.toList.drop 0 = dktX28_init_0 := by decide +kernel
theorem dX28_init_0 : decode cX28_init 0 = .ok (.aload_n 0, 1) := dk_42 (dk_at dksX28_init_0 0 rfl rfl)
theorem dX28_init_1 : decode cX28_init 1 = .ok (.aconst_null, 1) := dk_1 (dk_at dksX28_init_0 1 rfl rfl)
theorem dX28_init_2 : decode cX28_init 2 = .ok (.aconst_null, 1) := dk_1 (dk_at dksX28_init_0 2 rfl rfl)
theorem dX28_init_3 : decode cX28_init 3 = .ok (.iconst 0, 1) := dk_3 (dk_at dksX28_init_0 3 rfl rfl)
theorem dX28_init_4 : decode cX28_init 4 = .ok (.iconst 0, 1) := dk_3 (dk_at dksX28_init_0 4 rfl rfl)
theorem dX28_init_5 : decode cX28_init 5 = .ok (.invokespecial 1, 3) := dk_183 0 1 (dk_at dksX28_init_0 5 rfl rfl)
theorem dX28_init_8 : decode cX28_init 8 = .ok (.aload_n 0, 1) := dk_42 (dk_at dksX28_init_0 8 rfl rfl)
theorem dX28_init_9 : decode cX28_init 9 = .ok (.iload_n 1, 1) := dk_27 (dk_at dksX28_init_0 9 rfl rfl)
theorem dX28_init_10 : decode cX28_init 10 = .ok (.putfield 7, 3) := dk_181 0 7 (dk_at dksX28_init_0 10 rfl rfl)
theorem dX28_init_13 : decode cX28_init 13 = .ok (.return_, 1) := dk_177 (dk_at dksX28_init_0 13 rfl rfl)
theorem q157 : (Jvm.Cond.initialized "TurningWheel$BadSign") ∈ lw_all := lw_g (lw_at lw_m1 74 rfl) rfl
theorem q556 : (Jvm.Cond.selects "TurningWheel$BadSign" ({ cls := "java/lang/Object", name := "getClass", desc := "()Ljava/lang/Class;" } : Jvm.MethodName) ({ cls := "java/lang/Object", name := "getClass", desc := "()Ljava/lang/Class;" } : Jvm.MethodName)) ∈ lw_all := lw_g (lw_at lw_m2 233 rfl) rfl
theorem q847 : (Jvm.Cond.selects "TurningWheel$BadSign" ({ cls := "java/lang/Throwable", name := "fillInStackTrace", desc := "()Ljava/lang/Throwable;" } : Jvm.MethodName) ({ cls := "java/lang/Throwable", name := "fillInStackTrace", desc := "()Ljava/lang/Throwable;" } : Jvm.MethodName)) ∈ lw_all := lw_g (lw_at lw_m4 44 rfl) rfl
theorem q874 : (Jvm.Cond.selects "TurningWheel$BadSign" ({ cls := "java/lang/Throwable", name := "toString", desc := "()Ljava/lang/String;" } : Jvm.MethodName) ({ cls := "java/lang/Throwable", name := "toString", desc := "()Ljava/lang/String;" } : Jvm.MethodName)) ∈ lw_all := lw_g (lw_at lw_m4 71 rfl) rfl
theorem q886 : (Jvm.Cond.selects "TurningWheel$BadSign" ({ cls := "java/lang/Throwable", name := "getLocalizedMessage", desc := "()Ljava/lang/String;" } : Jvm.MethodName) ({ cls := "java/lang/Throwable", name := "getLocalizedMessage", desc := "()Ljava/lang/String;" } : Jvm.MethodName)) ∈ lw_all := lw_g (lw_at lw_m4 83 rfl) rfl
theorem q897 : (Jvm.Cond.selects "TurningWheel$BadSign" ({ cls := "java/lang/Throwable", name := "getMessage", desc := "()Ljava/lang/String;" } : Jvm.MethodName) ({ cls := "java/lang/Throwable", name := "getMessage", desc := "()Ljava/lang/String;" } : Jvm.MethodName)) ∈ lw_all := lw_g (lw_at lw_m4 94 rfl) rfl
theorem q2439 : (Jvm.Cond.instantiable "TurningWheel$BadSign" (7 : Nat)) ∈ lw_all := lw_g (lw_at lw_m10 196 rfl) rfl
theorem q2440 : (Jvm.Cond.castable "TurningWheel$BadSign" "TurningWheel$BadSign") ∈ lw_tbl := lw_at lw_m10 197 rfl
theorem q2441 : (Jvm.Cond.selects "TurningWheel$BadSign" ({ cls := "java/lang/Throwable", name := "fillInStackTrace", desc := "(I)Ljava/lang/Throwable;" } : Jvm.MethodName) ({ cls := "java/lang/Throwable", name := "fillInStackTrace", desc := "(I)Ljava/lang/Throwable;" } : Jvm.MethodName)) ∈ lw_all := lw_g (lw_at lw_m10 198 rfl) rfl
theorem q2442 : (Jvm.Cond.lays "TurningWheel$BadSign" "java/lang/Throwable" "cause" "Ljava/lang/Throwable;") ∈ lw_all := lw_g (lw_at lw_m10 199 rfl) rfl
theorem q2443 : (Jvm.Cond.lays "TurningWheel$BadSign" "java/lang/Throwable" "stackTrace" "[Ljava/lang/StackTraceElement;") ∈ lw_all := lw_g (lw_at lw_m10 200 rfl) rfl
theorem q2444 : (Jvm.Cond.lays "TurningWheel$BadSign" "java/lang/Throwable" "suppressedExceptions" "Ljava/util/List;") ∈ lw_all := lw_g (lw_at lw_m10 201 rfl) rfl
theorem q2445 : (Jvm.Cond.lays "TurningWheel$BadSign" "java/lang/Throwable" "detailMessage" "Ljava/lang/String;") ∈ lw_all := lw_g (lw_at lw_m10 202 rfl) rfl
theorem q2446 : (Jvm.Cond.lays "TurningWheel$BadSign" "java/lang/Throwable" "backtrace" "Ljava/lang/Object;") ∈ lw_all := lw_g (lw_at lw_m10 203 rfl) rfl
theorem q2448 : (Jvm.Cond.instanceMethod ({ cls := "TurningWheel$BadSign", name := "<init>", desc := "(I)V" } : Jvm.MethodName)) ∈ lw_all := lw_g (lw_at lw_m10 205 rfl) rfl
theorem q2449 : (Jvm.Cond.code ({ cls := "TurningWheel$BadSign", name := "<init>", desc := "(I)V" } : Jvm.MethodName) prog_13_method_1_code (2 : Nat) (Option.none : Option Jvm.ClassFile.FieldType)) ∈ lw_all := lw_g (lw_at lw_m10 206 rfl) rfl
theorem q2450 : (Jvm.Cond.methodLink "TurningWheel$BadSign" (1 : Nat) ({ cls := "java/lang/Exception", name := "<init>", desc := "(Ljava/lang/String;Ljava/lang/Throwable;ZZ)V" } : Jvm.MethodName)) ∈ lw_all := lw_g (lw_at lw_m10 207 rfl) rfl
theorem q2451 : (Jvm.Cond.fieldLink "TurningWheel$BadSign" (7 : Nat) "TurningWheel$BadSign" "place" "I") ∈ lw_all := lw_g (lw_at lw_m10 208 rfl) rfl
theorem q2453 : (Jvm.Cond.laysFinal "TurningWheel$BadSign" "TurningWheel$BadSign" "place" "I") ∈ lw_all := lw_g (lw_at lw_m10 210 rfl) rfl
theorem q2454 : (Jvm.Cond.soleField "TurningWheel$BadSign" "place") ∈ lw_all := lw_g (lw_at lw_m10 211 rfl) rfl
theorem q2455 : (Jvm.Cond.lays "TurningWheel$BadSign" "java/lang/Throwable" "depth" "I") ∈ lw_all := lw_g (lw_at lw_m10 212 rfl) rfl
theorem q2456 : (Jvm.Cond.superclass "TurningWheel$BadSign" "java/lang/Exception") ∈ lw_all := lw_g (lw_at lw_m10 213 rfl) rfl
theorem q2574 : (Jvm.Cond.selects "TurningWheel$BadSign" ({ cls := "java/lang/Throwable", name := "getCause", desc := "()Ljava/lang/Throwable;" } : Jvm.MethodName) ({ cls := "java/lang/Throwable", name := "getCause", desc := "()Ljava/lang/Throwable;" } : Jvm.MethodName)) ∈ lw_all := lw_g (lw_at lw_m11 91 rfl) rfl
theorem q3083 : (Jvm.Cond.castable "TurningWheel$BadSign" "java/lang/Object") ∈ lw_tbl := lw_at lw_m13 120 rfl
theorem in_X28 : ∀ w ∈ wsX280, w ∈ lw_all := lw_in wsX280 [2442, 2443, 2444, 2445, 2446, 2455, 2453] (by decide +kernel) (by decide +kernel)

/-! TurningWheel$Command -/
set_option maxRecDepth 100000
def RX29 : String := "TurningWheel$Command"
def TX29 : u_T := fun k => match k with
  | 0 => ("TurningWheel$Command", "letter", "C", true)
  | _ => ("TurningWheel$Command", "numbers", "[I", true)
def tyX29 : Nat → FieldType := fun k => match k with
  | 0 => .char
  | _ => .array .int
abbrev wsX290 : List Cond := u_ws RX29 TX29 2
theorem nmX29 : ∀ a, a < 2 → ∀ b, b < 2 → a ≠ b → (TX29 a).2.1 ≠ (TX29 b).2.1 := by decide +kernel
theorem tyX29_ok : ∀ k, k < 2 → parseFieldDescriptor (TX29 k).2.2.1 = some (tyX29 k) := by decide +kernel
abbrev cX29_init : ByteArray := prog_16_method_1_code
def yX29_init : MethodName := ⟨RX29, "<init>", "(C[I)V"⟩
def dkwX29_init_0 : List UInt8 := [42, 183, 0, 1, 42, 27, 181, 0, 7, 42, 44, 181, 0, 13, 177]
abbrev dktX29_init_0 : List UInt8 := dkwX29_init_0 ++ []
theorem dksX29_init_0 : cX29_init.data.toList.drop 0 = dktX29_init_0 := by decide +kernel
theorem dX29_init_0 : decode cX29_init 0 = .ok (.aload_n 0, 1) := dk_42 (dk_at dksX29_init_0 0 rfl rfl)
theorem dX29_init_1 : decode cX29_init 1 = .ok (.invokespecial 1, 3) := dk_183 0 1 (dk_at dksX29_init_0 1 rfl rfl)
theorem dX29_init_4 : decode cX29_init 4 = .ok (.aload_n 0, 1) := dk_42 (dk_at dksX29_init_0 4 rfl rfl)
theorem dX29_init_5 : decode cX29_init 5 = .ok (.iload_n 1, 1) := dk_27 (dk_at dksX29_init_0 5 rfl rfl)
theorem dX29_init_6 : decode cX29_init 6 = .ok (.putfield 7, 3) := dk_181 0 7 (dk_at dksX29_init_0 6 rfl rfl)
theorem dX29_init_9 : decode cX29_init 9 = .ok (.aload_n 0, 1) := dk_42 (dk_at dksX29_init_0 9 rfl rfl)
theorem dX29_init_10 : decode cX29_init 10 = .ok (.aload_n 2, 1) := dk_44 (dk_at dksX29_init_0 10 rfl rfl)
theorem dX29_init_11 : decode cX29_init 11 = .ok (.putfield 13, 3) := dk_181 0 13 (dk_at dksX29_init_0 11 rfl rfl)
theorem dX29_init_14 : decode cX29_init 14 = .ok (.return_, 1) := dk_177 (dk_at dksX29_init_0 14 rfl rfl)
theorem q158 : (Jvm.Cond.initialized "TurningWheel$Command") ∈ lw_all := lw_g (lw_at lw_m1 75 rfl) rfl
theorem q559 : (Jvm.Cond.selects "TurningWheel$Command" ({ cls := "java/lang/Object", name := "getClass", desc := "()Ljava/lang/Class;" } : Jvm.MethodName) ({ cls := "java/lang/Object", name := "getClass", desc := "()Ljava/lang/Class;" } : Jvm.MethodName)) ∈ lw_all := lw_g (lw_at lw_m2 236 rfl) rfl
theorem q2458 : (Jvm.Cond.instantiable "TurningWheel$Command" (2 : Nat)) ∈ lw_all := lw_g (lw_at lw_m10 215 rfl) rfl
theorem q2481 : (Jvm.Cond.instanceMethod ({ cls := "TurningWheel$Command", name := "<init>", desc := "(C[I)V" } : Jvm.MethodName)) ∈ lw_all := lw_g (lw_at lw_m10 238 rfl) rfl
theorem q2482 : (Jvm.Cond.code ({ cls := "TurningWheel$Command", name := "<init>", desc := "(C[I)V" } : Jvm.MethodName) prog_16_method_1_code (3 : Nat) (Option.none : Option Jvm.ClassFile.FieldType)) ∈ lw_all := lw_g (lw_at lw_m10 239 rfl) rfl
theorem q2483 : (Jvm.Cond.methodLink "TurningWheel$Command" (1 : Nat) ({ cls := "java/lang/Object", name := "<init>", desc := "()V" } : Jvm.MethodName)) ∈ lw_all := lw_g (lw_at lw_m11 0 rfl) rfl
theorem q2484 : (Jvm.Cond.fieldLink "TurningWheel$Command" (7 : Nat) "TurningWheel$Command" "letter" "C") ∈ lw_all := lw_g (lw_at lw_m11 1 rfl) rfl
theorem q2486 : (Jvm.Cond.fieldLink "TurningWheel$Command" (13 : Nat) "TurningWheel$Command" "numbers" "[I") ∈ lw_all := lw_g (lw_at lw_m11 3 rfl) rfl
theorem q2488 : (Jvm.Cond.laysFinal "TurningWheel$Command" "TurningWheel$Command" "letter" "C") ∈ lw_all := lw_g (lw_at lw_m11 5 rfl) rfl
theorem q2489 : (Jvm.Cond.soleField "TurningWheel$Command" "letter") ∈ lw_all := lw_g (lw_at lw_m11 6 rfl) rfl
theorem q2490 : (Jvm.Cond.laysFinal "TurningWheel$Command" "TurningWheel$Command" "numbers" "[I") ∈ lw_all := lw_g (lw_at lw_m11 7 rfl) rfl
theorem q2491 : (Jvm.Cond.soleField "TurningWheel$Command" "numbers") ∈ lw_all := lw_g (lw_at lw_m11 8 rfl) rfl
theorem q2492 : (Jvm.Cond.superclass "TurningWheel$Command" "java/lang/Object") ∈ lw_all := lw_g (lw_at lw_m11 9 rfl) rfl
theorem q3084 : (Jvm.Cond.castable "TurningWheel$Command" "java/lang/Object") ∈ lw_tbl := lw_at lw_m13 121 rfl
theorem in_X29 : ∀ w ∈ wsX290, w ∈ lw_all := lw_in wsX290 [2488, 2490] (by decide +kernel) (by decide +kernel)

/-! TurningWheel$11 -/
set_option maxRecDepth 100000
def RX30 : String := "TurningWheel$11"
def TX30 : u_T := fun k => match k with
  | 0 => ("TurningWheel$Deed", "this$0", "LTurningWheel;", true)
  | 1 => ("TurningWheel$11", "val$all", "Ljava/util/List;", true)
  | _ => ("TurningWheel$11", "this$0", "LTurningWheel;", true)
def tyX30 : Nat → FieldType := fun k => match k with
  | 0 => .object "TurningWheel"
  | 1 => .object "java/util/List"
  | _ => .object "TurningWheel"
abbrev wsX300 : List Cond := u_ws RX30 TX30 3
-- two fields of one name: no nmX30
theorem tyX30_ok : ∀ k, k < 3 → parseFieldDescriptor (TX30 k).2.2.1 = some (tyX30 k) := by decide +kernel
abbrev cX30_does : ByteArray := prog_4_method_2_code
def yX30_does : MethodName := ⟨RX30, "does", "(LTurningWheel$Pottery;)I"⟩
def dkwX30_does_0 : List UInt8 := [43, 42, 180, 0, 7, 184, 0, 17, 172]
abbrev dktX30_does_0 : List UInt8 := dkwX30_does_0 ++ []
theorem dksX30_does_0 : cX30_does.data.toList.drop 0 = dktX30_does_0 := by decide +kernel
theorem dX30_does_0 : decode cX30_does 0 = .ok (.aload_n 1, 1) := dk_43 (dk_at dksX30_does_0 0 rfl rfl)
theorem dX30_does_1 : decode cX30_does 1 = .ok (.aload_n 0, 1) := dk_42 (dk_at dksX30_does_0 1 rfl rfl)
theorem dX30_does_2 : decode cX30_does 2 = .ok (.getfield 7, 3) := dk_180 0 7 (dk_at dksX30_does_0 2 rfl rfl)
theorem dX30_does_5 : decode cX30_does 5 = .ok (.invokestatic 17, 3) := dk_184 0 17 (dk_at dksX30_does_0 5 rfl rfl)
theorem dX30_does_8 : decode cX30_does 8 = .ok (.ireturn, 1) := dk_172 (dk_at dksX30_does_0 8 rfl rfl)
abbrev cX30_init : ByteArray := prog_4_method_1_code
def yX30_init : MethodName := ⟨RX30, "<init>", "(LTurningWheel;Ljava/util/List;)V"⟩
def dkwX30_init_0 : List UInt8 := [42, 43, 181, 0, 1, 42, 44, 181, 0, 7, 42, 43, 183, 0, 11, 177]
abbrev dktX30_init_0 : List UInt8 := dkwX30_init_0 ++ []
theorem dksX30_init_0 : cX30_init.data.toList.drop 0 = dktX30_init_0 := by decide +kernel
theorem dX30_init_0 : decode cX30_init 0 = .ok (.aload_n 0, 1) := dk_42 (dk_at dksX30_init_0 0 rfl rfl)
theorem dX30_init_1 : decode cX30_init 1 = .ok (.aload_n 1, 1) := dk_43 (dk_at dksX30_init_0 1 rfl rfl)
theorem dX30_init_2 : decode cX30_init 2 = .ok (.putfield 1, 3) := dk_181 0 1 (dk_at dksX30_init_0 2 rfl rfl)
theorem dX30_init_5 : decode cX30_init 5 = .ok (.aload_n 0, 1) := dk_42 (dk_at dksX30_init_0 5 rfl rfl)
theorem dX30_init_6 : decode cX30_init 6 = .ok (.aload_n 2, 1) := dk_44 (dk_at dksX30_init_0 6 rfl rfl)
theorem dX30_init_7 : decode cX30_init 7 = .ok (.putfield 7, 3) := dk_181 0 7 (dk_at dksX30_init_0 7 rfl rfl)
theorem dX30_init_10 : decode cX30_init 10 = .ok (.aload_n 0, 1) := dk_42 (dk_at dksX30_init_0 10 rfl rfl)
theorem dX30_init_11 : decode cX30_init 11 = .ok (.aload_n 1, 1) := dk_43 (dk_at dksX30_init_0 11 rfl rfl)
theorem dX30_init_12 : decode cX30_init 12 = .ok (.invokespecial 11, 3) := dk_183 0 11 (dk_at dksX30_init_0 12 rfl rfl)
theorem dX30_init_15 : decode cX30_init 15 = .ok (.return_, 1) := dk_177 (dk_at dksX30_init_0 15 rfl rfl)
theorem q163 : (Jvm.Cond.initialized "TurningWheel$11") ∈ lw_all := lw_g (lw_at lw_m1 80 rfl) rfl
theorem q547 : (Jvm.Cond.selects "TurningWheel$11" ({ cls := "java/lang/Object", name := "getClass", desc := "()Ljava/lang/Class;" } : Jvm.MethodName) ({ cls := "java/lang/Object", name := "getClass", desc := "()Ljava/lang/Class;" } : Jvm.MethodName)) ∈ lw_all := lw_g (lw_at lw_m2 224 rfl) rfl
theorem q1479 : (Jvm.Cond.selects "TurningWheel$11" ({ cls := "TurningWheel$Deed", name := "does", desc := "(LTurningWheel$Pottery;)I" } : Jvm.MethodName) ({ cls := "TurningWheel$11", name := "does", desc := "(LTurningWheel$Pottery;)I" } : Jvm.MethodName)) ∈ lw_all := lw_g (lw_at lw_m6 196 rfl) rfl
theorem q1480 : (Jvm.Cond.instanceMethod ({ cls := "TurningWheel$11", name := "does", desc := "(LTurningWheel$Pottery;)I" } : Jvm.MethodName)) ∈ lw_all := lw_g (lw_at lw_m6 197 rfl) rfl
theorem q1481 : (Jvm.Cond.code ({ cls := "TurningWheel$11", name := "does", desc := "(LTurningWheel$Pottery;)I" } : Jvm.MethodName) prog_4_method_2_code (2 : Nat) (Option.some Jvm.ClassFile.FieldType.int)) ∈ lw_all := lw_g (lw_at lw_m6 198 rfl) rfl
theorem q1482 : (Jvm.Cond.methodLinkNest "TurningWheel$11" (17 : Nat) ({ cls := "TurningWheel", name := "doesAll", desc := "(LTurningWheel$Pottery;Ljava/util/List;)I" } : Jvm.MethodName) "TurningWheel") ∈ lw_tbl := lw_at lw_m6 199 rfl
theorem q2543 : (Jvm.Cond.instantiable "TurningWheel$11" (3 : Nat)) ∈ lw_all := lw_g (lw_at lw_m11 60 rfl) rfl
theorem q2545 : (Jvm.Cond.instanceMethod ({ cls := "TurningWheel$11", name := "<init>", desc := "(LTurningWheel;Ljava/util/List;)V" } : Jvm.MethodName)) ∈ lw_all := lw_g (lw_at lw_m11 62 rfl) rfl
theorem q2546 : (Jvm.Cond.code ({ cls := "TurningWheel$11", name := "<init>", desc := "(LTurningWheel;Ljava/util/List;)V" } : Jvm.MethodName) prog_4_method_1_code (3 : Nat) (Option.none : Option Jvm.ClassFile.FieldType)) ∈ lw_all := lw_g (lw_at lw_m11 63 rfl) rfl
theorem q2547 : (Jvm.Cond.methodLinkNest "TurningWheel$11" (11 : Nat) ({ cls := "TurningWheel$Deed", name := "<init>", desc := "(LTurningWheel;)V" } : Jvm.MethodName) "TurningWheel") ∈ lw_tbl := lw_at lw_m11 64 rfl
theorem q2548 : (Jvm.Cond.fieldLink "TurningWheel$11" (7 : Nat) "TurningWheel$11" "val$all" "Ljava/util/List;") ∈ lw_all := lw_g (lw_at lw_m11 65 rfl) rfl
theorem q2549 : (Jvm.Cond.fieldLink "TurningWheel$11" (1 : Nat) "TurningWheel$11" "this$0" "LTurningWheel;") ∈ lw_all := lw_g (lw_at lw_m11 66 rfl) rfl
theorem q2550 : (Jvm.Cond.laysFinal "TurningWheel$11" "TurningWheel$11" "val$all" "Ljava/util/List;") ∈ lw_all := lw_g (lw_at lw_m11 67 rfl) rfl
theorem q2551 : (Jvm.Cond.soleField "TurningWheel$11" "val$all") ∈ lw_all := lw_g (lw_at lw_m11 68 rfl) rfl
theorem q2552 : (Jvm.Cond.laysFinal "TurningWheel$11" "TurningWheel$11" "this$0" "LTurningWheel;") ∈ lw_all := lw_g (lw_at lw_m11 69 rfl) rfl
theorem q2553 : (Jvm.Cond.soleField "TurningWheel$11" "this$0") ∈ lw_all := lw_g (lw_at lw_m11 70 rfl) rfl
theorem q2554 : (Jvm.Cond.laysFinal "TurningWheel$11" "TurningWheel$Deed" "this$0" "LTurningWheel;") ∈ lw_all := lw_g (lw_at lw_m11 71 rfl) rfl
theorem q2555 : (Jvm.Cond.superclass "TurningWheel$11" "TurningWheel$Deed") ∈ lw_all := lw_g (lw_at lw_m11 72 rfl) rfl
theorem q2557 : (Jvm.Cond.sameMethod "TurningWheel$11" "TurningWheel$Deed" "done" "()I") ∈ lw_all := lw_g (lw_at lw_m11 74 rfl) rfl
theorem q2558 : (Jvm.Cond.selects "TurningWheel$11" ({ cls := "TurningWheel$11", name := "done", desc := "()I" } : Jvm.MethodName) ({ cls := "TurningWheel$Deed", name := "done", desc := "()I" } : Jvm.MethodName)) ∈ lw_all := lw_g (lw_at lw_m11 75 rfl) rfl
theorem q3087 : (Jvm.Cond.castable "TurningWheel$11" "java/lang/Object") ∈ lw_tbl := lw_at lw_m13 124 rfl
theorem in_X30 : ∀ w ∈ wsX300, w ∈ lw_all := lw_in wsX300 [2554, 2550, 2552] (by decide +kernel) (by decide +kernel)

