/-! java/util/AbstractCollection -/
set_option maxRecDepth 100000
def RJ0 : String := "java/util/AbstractCollection"
abbrev cJ0_init : ByteArray := prog_58_method_1_code
def yJ0_init : MethodName := ⟨RJ0, "<init>", "()V"⟩
theorem dJ0_init_0 : decode cJ0_init 0 = .ok (.aload_n 0, 1) := by decide +kernel
theorem dJ0_init_1 : decode cJ0_init 1 = .ok (.invokespecial 1, 3) := by decide +kernel
theorem dJ0_init_4 : decode cJ0_init 4 = .ok (.return_, 1) := by decide +kernel
abbrev cJ0_isEmpty : ByteArray := prog_58_method_4_code
def yJ0_isEmpty : MethodName := ⟨RJ0, "isEmpty", "()Z"⟩
def dkwJ0_isEmpty_0 : List UInt8 := [42, 182, 0, 7, 154, 0, 7, 4, 167, 0, 4, 3, 172]
abbrev dktJ0_isEmpty_0 : List UInt8 := dkwJ0_isEmpty_0 ++ []
theorem dksJ0_isEmpty_0 : cJ0_isEmpty.data.toList.drop 0 = dktJ0_isEmpty_0 := by decide +kernel
theorem dJ0_isEmpty_0 : decode cJ0_isEmpty 0 = .ok (.aload_n 0, 1) := dk_42 (dk_at dksJ0_isEmpty_0 0 rfl rfl)
theorem dJ0_isEmpty_1 : decode cJ0_isEmpty 1 = .ok (.invokevirtual 7, 3) := dk_182 0 7 (dk_at dksJ0_isEmpty_0 1 rfl rfl)
theorem dJ0_isEmpty_4 : decode cJ0_isEmpty 4 = .ok (.ifCond .ne 7, 3) := dk_154 0 7 (dk_at dksJ0_isEmpty_0 4 rfl rfl)
theorem dJ0_isEmpty_7 : decode cJ0_isEmpty 7 = .ok (.iconst 1, 1) := dk_4 (dk_at dksJ0_isEmpty_0 7 rfl rfl)
theorem dJ0_isEmpty_8 : decode cJ0_isEmpty 8 = .ok (.goto 4, 3) := dk_167 0 4 (dk_at dksJ0_isEmpty_0 8 rfl rfl)
theorem dJ0_isEmpty_11 : decode cJ0_isEmpty 11 = .ok (.iconst 0, 1) := dk_3 (dk_at dksJ0_isEmpty_0 11 rfl rfl)
theorem dJ0_isEmpty_12 : decode cJ0_isEmpty 12 = .ok (.ireturn, 1) := dk_172 (dk_at dksJ0_isEmpty_0 12 rfl rfl)
theorem q86 : (Jvm.Cond.initialized "java/util/AbstractCollection") ∈ lw_all := lw_g (lw_at lw_m1 3 rfl) rfl
theorem q187 : (Jvm.Cond.instanceMethod ({ cls := "java/util/AbstractCollection", name := "<init>", desc := "()V" } : Jvm.MethodName)) ∈ lw_all := lw_g (lw_at lw_m1 104 rfl) rfl
theorem q188 : (Jvm.Cond.code ({ cls := "java/util/AbstractCollection", name := "<init>", desc := "()V" } : Jvm.MethodName) prog_58_method_1_code (1 : Nat) (Option.none : Option Jvm.ClassFile.FieldType)) ∈ lw_all := lw_g (lw_at lw_m1 105 rfl) rfl
theorem q189 : (Jvm.Cond.methodLink "java/util/AbstractCollection" (1 : Nat) ({ cls := "java/lang/Object", name := "<init>", desc := "()V" } : Jvm.MethodName)) ∈ lw_all := lw_g (lw_at lw_m1 106 rfl) rfl
theorem q744 : (Jvm.Cond.declares ({ cls := "java/util/AbstractCollection", name := "size", desc := "()I" } : Jvm.MethodName)) ∈ lw_tbl := lw_at lw_m3 181 rfl
theorem q1348 : (Jvm.Cond.declares ({ cls := "java/util/AbstractCollection", name := "isEmpty", desc := "()Z" } : Jvm.MethodName)) ∈ lw_tbl := lw_at lw_m6 65 rfl
theorem q1350 : (Jvm.Cond.instanceMethod ({ cls := "java/util/AbstractCollection", name := "isEmpty", desc := "()Z" } : Jvm.MethodName)) ∈ lw_all := lw_g (lw_at lw_m6 67 rfl) rfl
theorem q1351 : (Jvm.Cond.code ({ cls := "java/util/AbstractCollection", name := "isEmpty", desc := "()Z" } : Jvm.MethodName) prog_58_method_4_code (1 : Nat) (Option.some Jvm.ClassFile.FieldType.boolean)) ∈ lw_all := lw_g (lw_at lw_m6 68 rfl) rfl
theorem q1352 : (Jvm.Cond.methodLink "java/util/AbstractCollection" (7 : Nat) ({ cls := "java/util/AbstractCollection", name := "size", desc := "()I" } : Jvm.MethodName)) ∈ lw_all := lw_g (lw_at lw_m6 69 rfl) rfl
theorem q3018 : (Jvm.Cond.sameMethod "java/util/AbstractCollection" "java/util/AbstractCollection" "size" "()I") ∈ lw_all := lw_g (lw_at lw_m13 55 rfl) rfl

/-! java/util/AbstractList -/
set_option maxRecDepth 100000
def RJ1 : String := "java/util/AbstractList"
abbrev cJ1_init : ByteArray := prog_59_method_1_code
def yJ1_init : MethodName := ⟨RJ1, "<init>", "()V"⟩
def dkwJ1_init_0 : List UInt8 := [42, 183, 0, 1, 42, 3, 181, 0, 7, 177]
abbrev dktJ1_init_0 : List UInt8 := dkwJ1_init_0 ++ []
theorem dksJ1_init_0 : cJ1_init.data.toList.drop 0 = dktJ1_init_0 := by decide +kernel
theorem dJ1_init_0 : decode cJ1_init 0 = .ok (.aload_n 0, 1) := dk_42 (dk_at dksJ1_init_0 0 rfl rfl)
theorem dJ1_init_1 : decode cJ1_init 1 = .ok (.invokespecial 1, 3) := dk_183 0 1 (dk_at dksJ1_init_0 1 rfl rfl)
theorem dJ1_init_4 : decode cJ1_init 4 = .ok (.aload_n 0, 1) := dk_42 (dk_at dksJ1_init_0 4 rfl rfl)
theorem dJ1_init_5 : decode cJ1_init 5 = .ok (.iconst 0, 1) := dk_3 (dk_at dksJ1_init_0 5 rfl rfl)
theorem dJ1_init_6 : decode cJ1_init 6 = .ok (.putfield 7, 3) := dk_181 0 7 (dk_at dksJ1_init_0 6 rfl rfl)
theorem dJ1_init_9 : decode cJ1_init 9 = .ok (.return_, 1) := dk_177 (dk_at dksJ1_init_0 9 rfl rfl)
abbrev cJ1_listIterator : ByteArray := prog_59_method_12_code
def yJ1_listIterator : MethodName := ⟨RJ1, "listIterator", "()Ljava/util/ListIterator;"⟩
def dkwJ1_listIterator_0 : List UInt8 := [42, 3, 182, 0, 47, 176]
abbrev dktJ1_listIterator_0 : List UInt8 := dkwJ1_listIterator_0 ++ []
theorem dksJ1_listIterator_0 : cJ1_listIterator.data.toList.drop 0 = dktJ1_listIterator_0 := by decide +kernel
theorem dJ1_listIterator_0 : decode cJ1_listIterator 0 = .ok (.aload_n 0, 1) := dk_42 (dk_at dksJ1_listIterator_0 0 rfl rfl)
theorem dJ1_listIterator_1 : decode cJ1_listIterator 1 = .ok (.iconst 0, 1) := dk_3 (dk_at dksJ1_listIterator_0 1 rfl rfl)
theorem dJ1_listIterator_2 : decode cJ1_listIterator 2 = .ok (.invokevirtual 47, 3) := dk_182 0 47 (dk_at dksJ1_listIterator_0 2 rfl rfl)
theorem dJ1_listIterator_5 : decode cJ1_listIterator 5 = .ok (.areturn, 1) := dk_176 (dk_at dksJ1_listIterator_0 5 rfl rfl)
theorem q87 : (Jvm.Cond.initialized "java/util/AbstractList") ∈ lw_all := lw_g (lw_at lw_m1 4 rfl) rfl
theorem q184 : (Jvm.Cond.instanceMethod ({ cls := "java/util/AbstractList", name := "<init>", desc := "()V" } : Jvm.MethodName)) ∈ lw_all := lw_g (lw_at lw_m1 101 rfl) rfl
theorem q185 : (Jvm.Cond.code ({ cls := "java/util/AbstractList", name := "<init>", desc := "()V" } : Jvm.MethodName) prog_59_method_1_code (1 : Nat) (Option.none : Option Jvm.ClassFile.FieldType)) ∈ lw_all := lw_g (lw_at lw_m1 102 rfl) rfl
theorem q186 : (Jvm.Cond.methodLink "java/util/AbstractList" (1 : Nat) ({ cls := "java/util/AbstractCollection", name := "<init>", desc := "()V" } : Jvm.MethodName)) ∈ lw_all := lw_g (lw_at lw_m1 103 rfl) rfl
theorem q196 : (Jvm.Cond.fieldLink "java/util/AbstractList" (7 : Nat) "java/util/AbstractList" "modCount" "I") ∈ lw_all := lw_g (lw_at lw_m1 113 rfl) rfl
theorem q209 : (Jvm.Cond.soleField "java/util/AbstractList" "modCount") ∈ lw_all := lw_g (lw_at lw_m1 126 rfl) rfl
theorem q653 : (Jvm.Cond.declares ({ cls := "java/util/AbstractList", name := "listIterator", desc := "()Ljava/util/ListIterator;" } : Jvm.MethodName)) ∈ lw_tbl := lw_at lw_m3 90 rfl
theorem q655 : (Jvm.Cond.instanceMethod ({ cls := "java/util/AbstractList", name := "listIterator", desc := "()Ljava/util/ListIterator;" } : Jvm.MethodName)) ∈ lw_all := lw_g (lw_at lw_m3 92 rfl) rfl
theorem q656 : (Jvm.Cond.code ({ cls := "java/util/AbstractList", name := "listIterator", desc := "()Ljava/util/ListIterator;" } : Jvm.MethodName) prog_59_method_12_code (1 : Nat) (Option.some (Jvm.ClassFile.FieldType.object "java/util/ListIterator"))) ∈ lw_all := lw_g (lw_at lw_m3 93 rfl) rfl
theorem q657 : (Jvm.Cond.methodLink "java/util/AbstractList" (47 : Nat) ({ cls := "java/util/AbstractList", name := "listIterator", desc := "(I)Ljava/util/ListIterator;" } : Jvm.MethodName)) ∈ lw_all := lw_g (lw_at lw_m3 94 rfl) rfl
theorem q658 : (Jvm.Cond.instanceMethod ({ cls := "java/util/AbstractList", name := "listIterator", desc := "(I)Ljava/util/ListIterator;" } : Jvm.MethodName)) ∈ lw_all := lw_g (lw_at lw_m3 95 rfl) rfl
theorem q659 : (Jvm.Cond.sameMethod "java/util/AbstractList" "java/util/AbstractList" "listIterator" "(I)Ljava/util/ListIterator;") ∈ lw_all := lw_g (lw_at lw_m3 96 rfl) rfl
theorem q731 : (Jvm.Cond.declares ({ cls := "java/util/AbstractList", name := "listIterator", desc := "(I)Ljava/util/ListIterator;" } : Jvm.MethodName)) ∈ lw_tbl := lw_at lw_m3 168 rfl
theorem q743 : (Jvm.Cond.sameMethod "java/util/AbstractList" "java/util/AbstractCollection" "size" "()I") ∈ lw_all := lw_g (lw_at lw_m3 180 rfl) rfl
theorem q799 : (Jvm.Cond.declares ({ cls := "java/util/AbstractList", name := "get", desc := "(I)Ljava/lang/Object;" } : Jvm.MethodName)) ∈ lw_tbl := lw_at lw_m3 236 rfl
theorem q800 : (Jvm.Cond.sameMethod "java/util/AbstractList" "java/util/AbstractList" "get" "(I)Ljava/lang/Object;") ∈ lw_all := lw_g (lw_at lw_m3 237 rfl) rfl
theorem q1391 : (Jvm.Cond.instanceMethod ({ cls := "java/util/AbstractList", name := "remove", desc := "(I)Ljava/lang/Object;" } : Jvm.MethodName)) ∈ lw_all := lw_g (lw_at lw_m6 108 rfl) rfl
theorem q1392 : (Jvm.Cond.sameMethod "java/util/AbstractList" "java/util/AbstractList" "remove" "(I)Ljava/lang/Object;") ∈ lw_all := lw_g (lw_at lw_m6 109 rfl) rfl
theorem q1408 : (Jvm.Cond.declares ({ cls := "java/util/AbstractList", name := "remove", desc := "(I)Ljava/lang/Object;" } : Jvm.MethodName)) ∈ lw_tbl := lw_at lw_m6 125 rfl

/-! java/util/ArrayList -/
set_option maxRecDepth 100000
def RJ2 : String := "java/util/ArrayList"
def TJ2 : u_T := fun k => match k with
  | 0 => ("java/util/AbstractList", "modCount", "I", false)
  | 1 => ("java/util/ArrayList", "elementData", "[Ljava/lang/Object;", false)
  | _ => ("java/util/ArrayList", "size", "I", false)
def tyJ2 : Nat → FieldType := fun k => match k with
  | 0 => .int
  | 1 => .array (.object "java/lang/Object")
  | _ => .int
abbrev wsJ20 : List Cond := u_ws RJ2 TJ2 3
theorem nmJ2 : ∀ a, a < 3 → ∀ b, b < 3 → a ≠ b → (TJ2 a).2.1 ≠ (TJ2 b).2.1 := by decide +kernel
theorem tyJ2_ok : ∀ k, k < 3 → parseFieldDescriptor (TJ2 k).2.2.1 = some (tyJ2 k) := by decide +kernel
abbrev cJ2_init : ByteArray := prog_65_method_2_code
def yJ2_init : MethodName := ⟨RJ2, "<init>", "()V"⟩
def dkwJ2_init_0 : List UInt8 := [42, 183, 0, 1, 42, 178, 0, 39, 181, 0, 9, 177]
abbrev dktJ2_init_0 : List UInt8 := dkwJ2_init_0 ++ []
theorem dksJ2_init_0 : cJ2_init.data.toList.drop 0 = dktJ2_init_0 := by decide +kernel
theorem dJ2_init_0 : decode cJ2_init 0 = .ok (.aload_n 0, 1) := dk_42 (dk_at dksJ2_init_0 0 rfl rfl)
theorem dJ2_init_1 : decode cJ2_init 1 = .ok (.invokespecial 1, 3) := dk_183 0 1 (dk_at dksJ2_init_0 1 rfl rfl)
theorem dJ2_init_4 : decode cJ2_init 4 = .ok (.aload_n 0, 1) := dk_42 (dk_at dksJ2_init_0 4 rfl rfl)
theorem dJ2_init_5 : decode cJ2_init 5 = .ok (.getstatic 39, 3) := dk_178 0 39 (dk_at dksJ2_init_0 5 rfl rfl)
theorem dJ2_init_8 : decode cJ2_init 8 = .ok (.putfield 9, 3) := dk_181 0 9 (dk_at dksJ2_init_0 8 rfl rfl)
theorem dJ2_init_11 : decode cJ2_init 11 = .ok (.return_, 1) := dk_177 (dk_at dksJ2_init_0 11 rfl rfl)
abbrev cJ2_size : ByteArray := prog_65_method_8_code
def yJ2_size : MethodName := ⟨RJ2, "size", "()I"⟩
theorem dJ2_size_0 : decode cJ2_size 0 = .ok (.aload_n 0, 1) := by decide +kernel
theorem dJ2_size_1 : decode cJ2_size 1 = .ok (.getfield 48, 3) := by decide +kernel
theorem dJ2_size_4 : decode cJ2_size 4 = .ok (.ireturn, 1) := by decide +kernel
abbrev cJ2_get : ByteArray := prog_65_method_20_code
def yJ2_get : MethodName := ⟨RJ2, "get", "(I)Ljava/lang/Object;"⟩
def dkwJ2_get_0 : List UInt8 := [27, 42, 180, 0, 48, 184, 0, 118, 87, 42, 27, 182, 0, 123, 176]
abbrev dktJ2_get_0 : List UInt8 := dkwJ2_get_0 ++ []
theorem dksJ2_get_0 : cJ2_get.data.toList.drop 0 = dktJ2_get_0 := by decide +kernel
theorem dJ2_get_0 : decode cJ2_get 0 = .ok (.iload_n 1, 1) := dk_27 (dk_at dksJ2_get_0 0 rfl rfl)
theorem dJ2_get_1 : decode cJ2_get 1 = .ok (.aload_n 0, 1) := dk_42 (dk_at dksJ2_get_0 1 rfl rfl)
theorem dJ2_get_2 : decode cJ2_get 2 = .ok (.getfield 48, 3) := dk_180 0 48 (dk_at dksJ2_get_0 2 rfl rfl)
theorem dJ2_get_5 : decode cJ2_get 5 = .ok (.invokestatic 118, 3) := dk_184 0 118 (dk_at dksJ2_get_0 5 rfl rfl)
theorem dJ2_get_8 : decode cJ2_get 8 = .ok (.pop, 1) := dk_87 (dk_at dksJ2_get_0 8 rfl rfl)
theorem dJ2_get_9 : decode cJ2_get 9 = .ok (.aload_n 0, 1) := dk_42 (dk_at dksJ2_get_0 9 rfl rfl)
theorem dJ2_get_10 : decode cJ2_get 10 = .ok (.iload_n 1, 1) := dk_27 (dk_at dksJ2_get_0 10 rfl rfl)
theorem dJ2_get_11 : decode cJ2_get 11 = .ok (.invokevirtual 123, 3) := dk_182 0 123 (dk_at dksJ2_get_0 11 rfl rfl)
theorem dJ2_get_14 : decode cJ2_get 14 = .ok (.areturn, 1) := dk_176 (dk_at dksJ2_get_0 14 rfl rfl)
abbrev cJ2_elementData : ByteArray := prog_65_method_18_code
def yJ2_elementData : MethodName := ⟨RJ2, "elementData", "(I)Ljava/lang/Object;"⟩
def dkwJ2_elementData_0 : List UInt8 := [42, 180, 0, 9, 27, 50, 176]
abbrev dktJ2_elementData_0 : List UInt8 := dkwJ2_elementData_0 ++ []
theorem dksJ2_elementData_0 : cJ2_elementData.data.toList.drop 0 = dktJ2_elementData_0 := by decide +kernel
theorem dJ2_elementData_0 : decode cJ2_elementData 0 = .ok (.aload_n 0, 1) := dk_42 (dk_at dksJ2_elementData_0 0 rfl rfl)
theorem dJ2_elementData_1 : decode cJ2_elementData 1 = .ok (.getfield 9, 3) := dk_180 0 9 (dk_at dksJ2_elementData_0 1 rfl rfl)
theorem dJ2_elementData_4 : decode cJ2_elementData 4 = .ok (.iload_n 1, 1) := dk_27 (dk_at dksJ2_elementData_0 4 rfl rfl)
theorem dJ2_elementData_5 : decode cJ2_elementData 5 = .ok (.aaload, 1) := dk_50 (dk_at dksJ2_elementData_0 5 rfl rfl)
theorem dJ2_elementData_6 : decode cJ2_elementData 6 = .ok (.areturn, 1) := dk_176 (dk_at dksJ2_elementData_0 6 rfl rfl)
abbrev cJ2_add : ByteArray := prog_65_method_25_code
def yJ2_add : MethodName := ⟨RJ2, "add", "(Ljava/lang/Object;)Z"⟩
def dkwJ2_add_1 : List UInt8 := [172]
abbrev dktJ2_add_1 : List UInt8 := dkwJ2_add_1 ++ []
def dkwJ2_add_0 : List UInt8 := [42, 89, 180, 0, 63, 4, 96, 181, 0, 63, 42, 43, 42, 180, 0, 9, 42, 180, 0, 48, 182, 0, 131, 4]
abbrev dktJ2_add_0 : List UInt8 := dkwJ2_add_0 ++ dktJ2_add_1
theorem dksJ2_add_0 : cJ2_add.data.toList.drop 0 = dktJ2_add_0 := by decide +kernel
theorem dksJ2_add_1 : cJ2_add.data.toList.drop 24 = dktJ2_add_1 := dk_seg dksJ2_add_0 24 rfl rfl
theorem dJ2_add_0 : decode cJ2_add 0 = .ok (.aload_n 0, 1) := dk_42 (dk_at dksJ2_add_0 0 rfl rfl)
theorem dJ2_add_1 : decode cJ2_add 1 = .ok (.dup, 1) := dk_89 (dk_at dksJ2_add_0 1 rfl rfl)
theorem dJ2_add_2 : decode cJ2_add 2 = .ok (.getfield 63, 3) := dk_180 0 63 (dk_at dksJ2_add_0 2 rfl rfl)
theorem dJ2_add_5 : decode cJ2_add 5 = .ok (.iconst 1, 1) := dk_4 (dk_at dksJ2_add_0 5 rfl rfl)
theorem dJ2_add_6 : decode cJ2_add 6 = .ok (.iadd, 1) := dk_96 (dk_at dksJ2_add_0 6 rfl rfl)
theorem dJ2_add_7 : decode cJ2_add 7 = .ok (.putfield 63, 3) := dk_181 0 63 (dk_at dksJ2_add_0 7 rfl rfl)
theorem dJ2_add_10 : decode cJ2_add 10 = .ok (.aload_n 0, 1) := dk_42 (dk_at dksJ2_add_0 10 rfl rfl)
theorem dJ2_add_11 : decode cJ2_add 11 = .ok (.aload_n 1, 1) := dk_43 (dk_at dksJ2_add_0 11 rfl rfl)
theorem dJ2_add_12 : decode cJ2_add 12 = .ok (.aload_n 0, 1) := dk_42 (dk_at dksJ2_add_0 12 rfl rfl)
theorem dJ2_add_13 : decode cJ2_add 13 = .ok (.getfield 9, 3) := dk_180 0 9 (dk_at dksJ2_add_0 13 rfl rfl)
theorem dJ2_add_16 : decode cJ2_add 16 = .ok (.aload_n 0, 1) := dk_42 (dk_at dksJ2_add_0 16 rfl rfl)
theorem dJ2_add_17 : decode cJ2_add 17 = .ok (.getfield 48, 3) := dk_180 0 48 (dk_at dksJ2_add_0 17 rfl rfl)
theorem dJ2_add_20 : decode cJ2_add 20 = .ok (.invokevirtual 131, 3) := dk_182 0 131 (dk_at dksJ2_add_0 20 rfl rfl)
theorem dJ2_add_23 : decode cJ2_add 23 = .ok (.iconst 1, 1) := dk_4 (dk_at dksJ2_add_0 23 rfl rfl)
theorem dJ2_add_24 : decode cJ2_add 24 = .ok (.ireturn, 1) := dk_172 (dk_at dksJ2_add_1 0 rfl rfl)
abbrev cJ2_add_2 : ByteArray := prog_65_method_24_code
def yJ2_add_2 : MethodName := ⟨RJ2, "add", "(Ljava/lang/Object;[Ljava/lang/Object;I)V"⟩
def dkwJ2_add_2_0 : List UInt8 := [29, 44, 190, 160, 0, 8, 42, 182, 0, 129, 77, 44, 29, 43, 83, 42, 29, 4, 96, 181, 0, 48, 177]
abbrev dktJ2_add_2_0 : List UInt8 := dkwJ2_add_2_0 ++ []
theorem dksJ2_add_2_0 : cJ2_add_2.data.toList.drop 0 = dktJ2_add_2_0 := by decide +kernel
theorem dJ2_add_2_0 : decode cJ2_add_2 0 = .ok (.iload_n 3, 1) := dk_29 (dk_at dksJ2_add_2_0 0 rfl rfl)
theorem dJ2_add_2_1 : decode cJ2_add_2 1 = .ok (.aload_n 2, 1) := dk_44 (dk_at dksJ2_add_2_0 1 rfl rfl)
theorem dJ2_add_2_2 : decode cJ2_add_2 2 = .ok (.arraylength, 1) := dk_190 (dk_at dksJ2_add_2_0 2 rfl rfl)
theorem dJ2_add_2_3 : decode cJ2_add_2 3 = .ok (.if_icmp .ne 8, 3) := dk_160 0 8 (dk_at dksJ2_add_2_0 3 rfl rfl)
theorem dJ2_add_2_6 : decode cJ2_add_2 6 = .ok (.aload_n 0, 1) := dk_42 (dk_at dksJ2_add_2_0 6 rfl rfl)
theorem dJ2_add_2_7 : decode cJ2_add_2 7 = .ok (.invokevirtual 129, 3) := dk_182 0 129 (dk_at dksJ2_add_2_0 7 rfl rfl)
theorem dJ2_add_2_10 : decode cJ2_add_2 10 = .ok (.astore_n 2, 1) := dk_77 (dk_at dksJ2_add_2_0 10 rfl rfl)
theorem dJ2_add_2_11 : decode cJ2_add_2 11 = .ok (.aload_n 2, 1) := dk_44 (dk_at dksJ2_add_2_0 11 rfl rfl)
theorem dJ2_add_2_12 : decode cJ2_add_2 12 = .ok (.iload_n 3, 1) := dk_29 (dk_at dksJ2_add_2_0 12 rfl rfl)
theorem dJ2_add_2_13 : decode cJ2_add_2 13 = .ok (.aload_n 1, 1) := dk_43 (dk_at dksJ2_add_2_0 13 rfl rfl)
theorem dJ2_add_2_14 : decode cJ2_add_2 14 = .ok (.aastore, 1) := dk_83 (dk_at dksJ2_add_2_0 14 rfl rfl)
theorem dJ2_add_2_15 : decode cJ2_add_2 15 = .ok (.aload_n 0, 1) := dk_42 (dk_at dksJ2_add_2_0 15 rfl rfl)
theorem dJ2_add_2_16 : decode cJ2_add_2 16 = .ok (.iload_n 3, 1) := dk_29 (dk_at dksJ2_add_2_0 16 rfl rfl)
theorem dJ2_add_2_17 : decode cJ2_add_2 17 = .ok (.iconst 1, 1) := dk_4 (dk_at dksJ2_add_2_0 17 rfl rfl)
theorem dJ2_add_2_18 : decode cJ2_add_2 18 = .ok (.iadd, 1) := dk_96 (dk_at dksJ2_add_2_0 18 rfl rfl)
theorem dJ2_add_2_19 : decode cJ2_add_2 19 = .ok (.putfield 48, 3) := dk_181 0 48 (dk_at dksJ2_add_2_0 19 rfl rfl)
theorem dJ2_add_2_22 : decode cJ2_add_2 22 = .ok (.return_, 1) := dk_177 (dk_at dksJ2_add_2_0 22 rfl rfl)
abbrev cJ2_grow : ByteArray := prog_65_method_7_code
def yJ2_grow : MethodName := ⟨RJ2, "grow", "()[Ljava/lang/Object;"⟩
def dkwJ2_grow_0 : List UInt8 := [42, 42, 180, 0, 48, 4, 96, 182, 0, 69, 176]
abbrev dktJ2_grow_0 : List UInt8 := dkwJ2_grow_0 ++ []
theorem dksJ2_grow_0 : cJ2_grow.data.toList.drop 0 = dktJ2_grow_0 := by decide +kernel
theorem dJ2_grow_0 : decode cJ2_grow 0 = .ok (.aload_n 0, 1) := dk_42 (dk_at dksJ2_grow_0 0 rfl rfl)
theorem dJ2_grow_1 : decode cJ2_grow 1 = .ok (.aload_n 0, 1) := dk_42 (dk_at dksJ2_grow_0 1 rfl rfl)
theorem dJ2_grow_2 : decode cJ2_grow 2 = .ok (.getfield 48, 3) := dk_180 0 48 (dk_at dksJ2_grow_0 2 rfl rfl)
theorem dJ2_grow_5 : decode cJ2_grow 5 = .ok (.iconst 1, 1) := dk_4 (dk_at dksJ2_grow_0 5 rfl rfl)
theorem dJ2_grow_6 : decode cJ2_grow 6 = .ok (.iadd, 1) := dk_96 (dk_at dksJ2_grow_0 6 rfl rfl)
theorem dJ2_grow_7 : decode cJ2_grow 7 = .ok (.invokevirtual 69, 3) := dk_182 0 69 (dk_at dksJ2_grow_0 7 rfl rfl)
theorem dJ2_grow_10 : decode cJ2_grow 10 = .ok (.areturn, 1) := dk_176 (dk_at dksJ2_grow_0 10 rfl rfl)
abbrev cJ2_grow_2 : ByteArray := prog_65_method_6_code
def yJ2_grow_2 : MethodName := ⟨RJ2, "grow", "(I)[Ljava/lang/Object;"⟩
def dkwJ2_grow_2_2 : List UInt8 := [27, 184, 0, 79, 189, 0, 7, 90, 181, 0, 9, 176]
abbrev dktJ2_grow_2_2 : List UInt8 := dkwJ2_grow_2_2 ++ []
def dkwJ2_grow_2_1 : List UInt8 := [28, 4, 122, 184, 0, 73, 62, 42, 42, 180, 0, 9, 29, 184, 0, 66, 90, 181, 0, 9, 176, 42, 16, 10]
abbrev dktJ2_grow_2_1 : List UInt8 := dkwJ2_grow_2_1 ++ dktJ2_grow_2_2
def dkwJ2_grow_2_0 : List UInt8 := [42, 180, 0, 9, 190, 61, 28, 157, 0, 13, 42, 180, 0, 9, 178, 0, 39, 165, 0, 28, 28, 27, 28, 100]
abbrev dktJ2_grow_2_0 : List UInt8 := dkwJ2_grow_2_0 ++ dktJ2_grow_2_1
theorem dksJ2_grow_2_0 : cJ2_grow_2.data.toList.drop 0 = dktJ2_grow_2_0 := by decide +kernel
theorem dksJ2_grow_2_1 : cJ2_grow_2.data.toList.drop 24 = dktJ2_grow_2_1 := dk_seg dksJ2_grow_2_0 24 rfl rfl
theorem dksJ2_grow_2_2 : cJ2_grow_2.data.toList.drop 48 = dktJ2_grow_2_2 := dk_seg dksJ2_grow_2_1 24 rfl rfl
theorem dJ2_grow_2_0 : decode cJ2_grow_2 0 = .ok (.aload_n 0, 1) := dk_42 (dk_at dksJ2_grow_2_0 0 rfl rfl)
theorem dJ2_grow_2_1 : decode cJ2_grow_2 1 = .ok (.getfield 9, 3) := dk_180 0 9 (dk_at dksJ2_grow_2_0 1 rfl rfl)
theorem dJ2_grow_2_4 : decode cJ2_grow_2 4 = .ok (.arraylength, 1) := dk_190 (dk_at dksJ2_grow_2_0 4 rfl rfl)
theorem dJ2_grow_2_5 : decode cJ2_grow_2 5 = .ok (.istore_n 2, 1) := dk_61 (dk_at dksJ2_grow_2_0 5 rfl rfl)
theorem dJ2_grow_2_6 : decode cJ2_grow_2 6 = .ok (.iload_n 2, 1) := dk_28 (dk_at dksJ2_grow_2_0 6 rfl rfl)
theorem dJ2_grow_2_7 : decode cJ2_grow_2 7 = .ok (.ifCond .gt 13, 3) := dk_157 0 13 (dk_at dksJ2_grow_2_0 7 rfl rfl)
theorem dJ2_grow_2_10 : decode cJ2_grow_2 10 = .ok (.aload_n 0, 1) := dk_42 (dk_at dksJ2_grow_2_0 10 rfl rfl)
theorem dJ2_grow_2_11 : decode cJ2_grow_2 11 = .ok (.getfield 9, 3) := dk_180 0 9 (dk_at dksJ2_grow_2_0 11 rfl rfl)
theorem dJ2_grow_2_14 : decode cJ2_grow_2 14 = .ok (.getstatic 39, 3) := dk_178 0 39 (dk_at dksJ2_grow_2_0 14 rfl rfl)
theorem dJ2_grow_2_17 : decode cJ2_grow_2 17 = .ok (.if_acmp .eq 28, 3) := dk_165 0 28 (dk_at dksJ2_grow_2_0 17 rfl rfl)
theorem dJ2_grow_2_20 : decode cJ2_grow_2 20 = .ok (.iload_n 2, 1) := dk_28 (dk_at dksJ2_grow_2_0 20 rfl rfl)
theorem dJ2_grow_2_21 : decode cJ2_grow_2 21 = .ok (.iload_n 1, 1) := dk_27 (dk_at dksJ2_grow_2_0 21 rfl rfl)
theorem dJ2_grow_2_22 : decode cJ2_grow_2 22 = .ok (.iload_n 2, 1) := dk_28 (dk_at dksJ2_grow_2_0 22 rfl rfl)
theorem dJ2_grow_2_23 : decode cJ2_grow_2 23 = .ok (.isub, 1) := dk_100 (dk_at dksJ2_grow_2_0 23 rfl rfl)
theorem dJ2_grow_2_24 : decode cJ2_grow_2 24 = .ok (.iload_n 2, 1) := dk_28 (dk_at dksJ2_grow_2_1 0 rfl rfl)
theorem dJ2_grow_2_25 : decode cJ2_grow_2 25 = .ok (.iconst 1, 1) := dk_4 (dk_at dksJ2_grow_2_1 1 rfl rfl)
theorem dJ2_grow_2_26 : decode cJ2_grow_2 26 = .ok (.ishr, 1) := dk_122 (dk_at dksJ2_grow_2_1 2 rfl rfl)
theorem dJ2_grow_2_27 : decode cJ2_grow_2 27 = .ok (.invokestatic 73, 3) := dk_184 0 73 (dk_at dksJ2_grow_2_1 3 rfl rfl)
theorem dJ2_grow_2_30 : decode cJ2_grow_2 30 = .ok (.istore_n 3, 1) := dk_62 (dk_at dksJ2_grow_2_1 6 rfl rfl)
theorem dJ2_grow_2_31 : decode cJ2_grow_2 31 = .ok (.aload_n 0, 1) := dk_42 (dk_at dksJ2_grow_2_1 7 rfl rfl)
theorem dJ2_grow_2_32 : decode cJ2_grow_2 32 = .ok (.aload_n 0, 1) := dk_42 (dk_at dksJ2_grow_2_1 8 rfl rfl)
theorem dJ2_grow_2_33 : decode cJ2_grow_2 33 = .ok (.getfield 9, 3) := dk_180 0 9 (dk_at dksJ2_grow_2_1 9 rfl rfl)
theorem dJ2_grow_2_36 : decode cJ2_grow_2 36 = .ok (.iload_n 3, 1) := dk_29 (dk_at dksJ2_grow_2_1 12 rfl rfl)
theorem dJ2_grow_2_37 : decode cJ2_grow_2 37 = .ok (.invokestatic 66, 3) := dk_184 0 66 (dk_at dksJ2_grow_2_1 13 rfl rfl)
theorem dJ2_grow_2_40 : decode cJ2_grow_2 40 = .ok (.dup_x1, 1) := dk_90 (dk_at dksJ2_grow_2_1 16 rfl rfl)
theorem dJ2_grow_2_41 : decode cJ2_grow_2 41 = .ok (.putfield 9, 3) := dk_181 0 9 (dk_at dksJ2_grow_2_1 17 rfl rfl)
theorem dJ2_grow_2_44 : decode cJ2_grow_2 44 = .ok (.areturn, 1) := dk_176 (dk_at dksJ2_grow_2_1 20 rfl rfl)
theorem dJ2_grow_2_45 : decode cJ2_grow_2 45 = .ok (.aload_n 0, 1) := dk_42 (dk_at dksJ2_grow_2_1 21 rfl rfl)
theorem dJ2_grow_2_46 : decode cJ2_grow_2 46 = .ok (.bipush 10, 2) := dk_16 10 (dk_at dksJ2_grow_2_1 22 rfl rfl)
theorem dJ2_grow_2_48 : decode cJ2_grow_2 48 = .ok (.iload_n 1, 1) := dk_27 (dk_at dksJ2_grow_2_2 0 rfl rfl)
theorem dJ2_grow_2_49 : decode cJ2_grow_2 49 = .ok (.invokestatic 79, 3) := dk_184 0 79 (dk_at dksJ2_grow_2_2 1 rfl rfl)
theorem dJ2_grow_2_52 : decode cJ2_grow_2 52 = .ok (.anewarray 7, 3) := dk_189 0 7 (dk_at dksJ2_grow_2_2 4 rfl rfl)
theorem dJ2_grow_2_55 : decode cJ2_grow_2 55 = .ok (.dup_x1, 1) := dk_90 (dk_at dksJ2_grow_2_2 7 rfl rfl)
theorem dJ2_grow_2_56 : decode cJ2_grow_2 56 = .ok (.putfield 9, 3) := dk_181 0 9 (dk_at dksJ2_grow_2_2 8 rfl rfl)
theorem dJ2_grow_2_59 : decode cJ2_grow_2 59 = .ok (.areturn, 1) := dk_176 (dk_at dksJ2_grow_2_2 11 rfl rfl)
abbrev cJ2_listIterator : ByteArray := prog_65_method_53_code
def yJ2_listIterator : MethodName := ⟨RJ2, "listIterator", "(I)Ljava/util/ListIterator;"⟩
def dkwJ2_listIterator_0 : List UInt8 := [42, 27, 182, 0, 135, 187, 1, 6, 89, 42, 27, 183, 1, 8, 176]
abbrev dktJ2_listIterator_0 : List UInt8 := dkwJ2_listIterator_0 ++ []
theorem dksJ2_listIterator_0 : cJ2_listIterator.data.toList.drop 0 = dktJ2_listIterator_0 := by decide +kernel
theorem dJ2_listIterator_0 : decode cJ2_listIterator 0 = .ok (.aload_n 0, 1) := dk_42 (dk_at dksJ2_listIterator_0 0 rfl rfl)
theorem dJ2_listIterator_1 : decode cJ2_listIterator 1 = .ok (.iload_n 1, 1) := dk_27 (dk_at dksJ2_listIterator_0 1 rfl rfl)
theorem dJ2_listIterator_2 : decode cJ2_listIterator 2 = .ok (.invokevirtual 135, 3) := dk_182 0 135 (dk_at dksJ2_listIterator_0 2 rfl rfl)
theorem dJ2_listIterator_5 : decode cJ2_listIterator 5 = .ok (.new 262, 3) := dk_187 1 6 (dk_at dksJ2_listIterator_0 5 rfl rfl)
theorem dJ2_listIterator_8 : decode cJ2_listIterator 8 = .ok (.dup, 1) := dk_89 (dk_at dksJ2_listIterator_0 8 rfl rfl)
theorem dJ2_listIterator_9 : decode cJ2_listIterator 9 = .ok (.aload_n 0, 1) := dk_42 (dk_at dksJ2_listIterator_0 9 rfl rfl)
theorem dJ2_listIterator_10 : decode cJ2_listIterator 10 = .ok (.iload_n 1, 1) := dk_27 (dk_at dksJ2_listIterator_0 10 rfl rfl)
theorem dJ2_listIterator_11 : decode cJ2_listIterator 11 = .ok (.invokespecial 264, 3) := dk_183 1 8 (dk_at dksJ2_listIterator_0 11 rfl rfl)
theorem dJ2_listIterator_14 : decode cJ2_listIterator 14 = .ok (.areturn, 1) := dk_176 (dk_at dksJ2_listIterator_0 14 rfl rfl)
abbrev cJ2_rangeCheckForAdd : ByteArray := prog_65_method_45_code
def yJ2_rangeCheckForAdd : MethodName := ⟨RJ2, "rangeCheckForAdd", "(I)V"⟩
def dkwJ2_rangeCheckForAdd_1 : List UInt8 := [191, 177]
abbrev dktJ2_rangeCheckForAdd_1 : List UInt8 := dkwJ2_rangeCheckForAdd_1 ++ []
def dkwJ2_rangeCheckForAdd_0 : List UInt8 := [27, 42, 180, 0, 48, 163, 0, 7, 27, 156, 0, 16, 187, 0, 187, 89, 42, 27, 182, 0, 198, 183, 0, 193]
abbrev dktJ2_rangeCheckForAdd_0 : List UInt8 := dkwJ2_rangeCheckForAdd_0 ++ dktJ2_rangeCheckForAdd_1
theorem dksJ2_rangeCheckForAdd_0 : cJ2_rangeCheckForAdd.data.toList.drop 0 = dktJ2_rangeCheckForAdd_0 := by decide +kernel
theorem dksJ2_rangeCheckForAdd_1 : cJ2_rangeCheckForAdd.data.toList.drop 24 = dktJ2_rangeCheckForAdd_1 := dk_seg dksJ2_rangeCheckForAdd_0 24 rfl rfl
theorem dJ2_rangeCheckForAdd_0 : decode cJ2_rangeCheckForAdd 0 = .ok (.iload_n 1, 1) := dk_27 (dk_at dksJ2_rangeCheckForAdd_0 0 rfl rfl)
theorem dJ2_rangeCheckForAdd_1 : decode cJ2_rangeCheckForAdd 1 = .ok (.aload_n 0, 1) := dk_42 (dk_at dksJ2_rangeCheckForAdd_0 1 rfl rfl)
theorem dJ2_rangeCheckForAdd_2 : decode cJ2_rangeCheckForAdd 2 = .ok (.getfield 48, 3) := dk_180 0 48 (dk_at dksJ2_rangeCheckForAdd_0 2 rfl rfl)
theorem dJ2_rangeCheckForAdd_5 : decode cJ2_rangeCheckForAdd 5 = .ok (.if_icmp .gt 7, 3) := dk_163 0 7 (dk_at dksJ2_rangeCheckForAdd_0 5 rfl rfl)
theorem dJ2_rangeCheckForAdd_8 : decode cJ2_rangeCheckForAdd 8 = .ok (.iload_n 1, 1) := dk_27 (dk_at dksJ2_rangeCheckForAdd_0 8 rfl rfl)
theorem dJ2_rangeCheckForAdd_9 : decode cJ2_rangeCheckForAdd 9 = .ok (.ifCond .ge 16, 3) := dk_156 0 16 (dk_at dksJ2_rangeCheckForAdd_0 9 rfl rfl)
theorem dJ2_rangeCheckForAdd_12 : decode cJ2_rangeCheckForAdd 12 = .ok (.new 187, 3) := dk_187 0 187 (dk_at dksJ2_rangeCheckForAdd_0 12 rfl rfl)
theorem dJ2_rangeCheckForAdd_15 : decode cJ2_rangeCheckForAdd 15 = .ok (.dup, 1) := dk_89 (dk_at dksJ2_rangeCheckForAdd_0 15 rfl rfl)
theorem dJ2_rangeCheckForAdd_16 : decode cJ2_rangeCheckForAdd 16 = .ok (.aload_n 0, 1) := dk_42 (dk_at dksJ2_rangeCheckForAdd_0 16 rfl rfl)
theorem dJ2_rangeCheckForAdd_17 : decode cJ2_rangeCheckForAdd 17 = .ok (.iload_n 1, 1) := dk_27 (dk_at dksJ2_rangeCheckForAdd_0 17 rfl rfl)
theorem dJ2_rangeCheckForAdd_18 : decode cJ2_rangeCheckForAdd 18 = .ok (.invokevirtual 198, 3) := dk_182 0 198 (dk_at dksJ2_rangeCheckForAdd_0 18 rfl rfl)
theorem dJ2_rangeCheckForAdd_21 : decode cJ2_rangeCheckForAdd 21 = .ok (.invokespecial 193, 3) := dk_183 0 193 (dk_at dksJ2_rangeCheckForAdd_0 21 rfl rfl)
theorem dJ2_rangeCheckForAdd_24 : decode cJ2_rangeCheckForAdd 24 = .ok (.athrow, 1) := dk_191 (dk_at dksJ2_rangeCheckForAdd_1 0 rfl rfl)
theorem dJ2_rangeCheckForAdd_25 : decode cJ2_rangeCheckForAdd 25 = .ok (.return_, 1) := dk_177 (dk_at dksJ2_rangeCheckForAdd_1 1 rfl rfl)
abbrev cJ2_remove : ByteArray := prog_65_method_29_code
def yJ2_remove : MethodName := ⟨RJ2, "remove", "(I)Ljava/lang/Object;"⟩
def dkwJ2_remove_1 : List UInt8 := [45, 176]
abbrev dktJ2_remove_1 : List UInt8 := dkwJ2_remove_1 ++ []
def dkwJ2_remove_0 : List UInt8 := [27, 42, 180, 0, 48, 184, 0, 118, 87, 42, 180, 0, 9, 77, 44, 27, 50, 78, 42, 44, 27, 182, 0, 144]
abbrev dktJ2_remove_0 : List UInt8 := dkwJ2_remove_0 ++ dktJ2_remove_1
theorem dksJ2_remove_0 : cJ2_remove.data.toList.drop 0 = dktJ2_remove_0 := by decide +kernel
theorem dksJ2_remove_1 : cJ2_remove.data.toList.drop 24 = dktJ2_remove_1 := dk_seg dksJ2_remove_0 24 rfl rfl
theorem dJ2_remove_0 : decode cJ2_remove 0 = .ok (.iload_n 1, 1) := dk_27 (dk_at dksJ2_remove_0 0 rfl rfl)
theorem dJ2_remove_1 : decode cJ2_remove 1 = .ok (.aload_n 0, 1) := dk_42 (dk_at dksJ2_remove_0 1 rfl rfl)
theorem dJ2_remove_2 : decode cJ2_remove 2 = .ok (.getfield 48, 3) := dk_180 0 48 (dk_at dksJ2_remove_0 2 rfl rfl)
theorem dJ2_remove_5 : decode cJ2_remove 5 = .ok (.invokestatic 118, 3) := dk_184 0 118 (dk_at dksJ2_remove_0 5 rfl rfl)
theorem dJ2_remove_8 : decode cJ2_remove 8 = .ok (.pop, 1) := dk_87 (dk_at dksJ2_remove_0 8 rfl rfl)
theorem dJ2_remove_9 : decode cJ2_remove 9 = .ok (.aload_n 0, 1) := dk_42 (dk_at dksJ2_remove_0 9 rfl rfl)
theorem dJ2_remove_10 : decode cJ2_remove 10 = .ok (.getfield 9, 3) := dk_180 0 9 (dk_at dksJ2_remove_0 10 rfl rfl)
theorem dJ2_remove_13 : decode cJ2_remove 13 = .ok (.astore_n 2, 1) := dk_77 (dk_at dksJ2_remove_0 13 rfl rfl)
theorem dJ2_remove_14 : decode cJ2_remove 14 = .ok (.aload_n 2, 1) := dk_44 (dk_at dksJ2_remove_0 14 rfl rfl)
theorem dJ2_remove_15 : decode cJ2_remove 15 = .ok (.iload_n 1, 1) := dk_27 (dk_at dksJ2_remove_0 15 rfl rfl)
theorem dJ2_remove_16 : decode cJ2_remove 16 = .ok (.aaload, 1) := dk_50 (dk_at dksJ2_remove_0 16 rfl rfl)
theorem dJ2_remove_17 : decode cJ2_remove 17 = .ok (.astore_n 3, 1) := dk_78 (dk_at dksJ2_remove_0 17 rfl rfl)
theorem dJ2_remove_18 : decode cJ2_remove 18 = .ok (.aload_n 0, 1) := dk_42 (dk_at dksJ2_remove_0 18 rfl rfl)
theorem dJ2_remove_19 : decode cJ2_remove 19 = .ok (.aload_n 2, 1) := dk_44 (dk_at dksJ2_remove_0 19 rfl rfl)
theorem dJ2_remove_20 : decode cJ2_remove 20 = .ok (.iload_n 1, 1) := dk_27 (dk_at dksJ2_remove_0 20 rfl rfl)
theorem dJ2_remove_21 : decode cJ2_remove 21 = .ok (.invokevirtual 144, 3) := dk_182 0 144 (dk_at dksJ2_remove_0 21 rfl rfl)
theorem dJ2_remove_24 : decode cJ2_remove 24 = .ok (.aload_n 3, 1) := dk_45 (dk_at dksJ2_remove_1 0 rfl rfl)
theorem dJ2_remove_25 : decode cJ2_remove 25 = .ok (.areturn, 1) := dk_176 (dk_at dksJ2_remove_1 1 rfl rfl)
abbrev cJ2_fastRemove : ByteArray := prog_65_method_39_code
def yJ2_fastRemove : MethodName := ⟨RJ2, "fastRemove", "([Ljava/lang/Object;I)V"⟩
def dkwJ2_fastRemove_1 : List UInt8 := [4, 96, 43, 28, 29, 28, 100, 184, 0, 112, 43, 42, 29, 90, 181, 0, 48, 1, 83, 177]
abbrev dktJ2_fastRemove_1 : List UInt8 := dkwJ2_fastRemove_1 ++ []
def dkwJ2_fastRemove_0 : List UInt8 := [42, 89, 180, 0, 63, 4, 96, 181, 0, 63, 42, 180, 0, 48, 4, 100, 89, 62, 28, 164, 0, 15, 43, 28]
abbrev dktJ2_fastRemove_0 : List UInt8 := dkwJ2_fastRemove_0 ++ dktJ2_fastRemove_1
theorem dksJ2_fastRemove_0 : cJ2_fastRemove.data.toList.drop 0 = dktJ2_fastRemove_0 := by decide +kernel
theorem dksJ2_fastRemove_1 : cJ2_fastRemove.data.toList.drop 24 = dktJ2_fastRemove_1 := dk_seg dksJ2_fastRemove_0 24 rfl rfl
theorem dJ2_fastRemove_0 : decode cJ2_fastRemove 0 = .ok (.aload_n 0, 1) := dk_42 (dk_at dksJ2_fastRemove_0 0 rfl rfl)
theorem dJ2_fastRemove_1 : decode cJ2_fastRemove 1 = .ok (.dup, 1) := dk_89 (dk_at dksJ2_fastRemove_0 1 rfl rfl)
theorem dJ2_fastRemove_2 : decode cJ2_fastRemove 2 = .ok (.getfield 63, 3) := dk_180 0 63 (dk_at dksJ2_fastRemove_0 2 rfl rfl)
theorem dJ2_fastRemove_5 : decode cJ2_fastRemove 5 = .ok (.iconst 1, 1) := dk_4 (dk_at dksJ2_fastRemove_0 5 rfl rfl)
theorem dJ2_fastRemove_6 : decode cJ2_fastRemove 6 = .ok (.iadd, 1) := dk_96 (dk_at dksJ2_fastRemove_0 6 rfl rfl)
theorem dJ2_fastRemove_7 : decode cJ2_fastRemove 7 = .ok (.putfield 63, 3) := dk_181 0 63 (dk_at dksJ2_fastRemove_0 7 rfl rfl)
theorem dJ2_fastRemove_10 : decode cJ2_fastRemove 10 = .ok (.aload_n 0, 1) := dk_42 (dk_at dksJ2_fastRemove_0 10 rfl rfl)
theorem dJ2_fastRemove_11 : decode cJ2_fastRemove 11 = .ok (.getfield 48, 3) := dk_180 0 48 (dk_at dksJ2_fastRemove_0 11 rfl rfl)
theorem dJ2_fastRemove_14 : decode cJ2_fastRemove 14 = .ok (.iconst 1, 1) := dk_4 (dk_at dksJ2_fastRemove_0 14 rfl rfl)
theorem dJ2_fastRemove_15 : decode cJ2_fastRemove 15 = .ok (.isub, 1) := dk_100 (dk_at dksJ2_fastRemove_0 15 rfl rfl)
theorem dJ2_fastRemove_16 : decode cJ2_fastRemove 16 = .ok (.dup, 1) := dk_89 (dk_at dksJ2_fastRemove_0 16 rfl rfl)
theorem dJ2_fastRemove_17 : decode cJ2_fastRemove 17 = .ok (.istore_n 3, 1) := dk_62 (dk_at dksJ2_fastRemove_0 17 rfl rfl)
theorem dJ2_fastRemove_18 : decode cJ2_fastRemove 18 = .ok (.iload_n 2, 1) := dk_28 (dk_at dksJ2_fastRemove_0 18 rfl rfl)
theorem dJ2_fastRemove_19 : decode cJ2_fastRemove 19 = .ok (.if_icmp .le 15, 3) := dk_164 0 15 (dk_at dksJ2_fastRemove_0 19 rfl rfl)
theorem dJ2_fastRemove_22 : decode cJ2_fastRemove 22 = .ok (.aload_n 1, 1) := dk_43 (dk_at dksJ2_fastRemove_0 22 rfl rfl)
theorem dJ2_fastRemove_23 : decode cJ2_fastRemove 23 = .ok (.iload_n 2, 1) := dk_28 (dk_at dksJ2_fastRemove_0 23 rfl rfl)
theorem dJ2_fastRemove_24 : decode cJ2_fastRemove 24 = .ok (.iconst 1, 1) := dk_4 (dk_at dksJ2_fastRemove_1 0 rfl rfl)
theorem dJ2_fastRemove_25 : decode cJ2_fastRemove 25 = .ok (.iadd, 1) := dk_96 (dk_at dksJ2_fastRemove_1 1 rfl rfl)
theorem dJ2_fastRemove_26 : decode cJ2_fastRemove 26 = .ok (.aload_n 1, 1) := dk_43 (dk_at dksJ2_fastRemove_1 2 rfl rfl)
theorem dJ2_fastRemove_27 : decode cJ2_fastRemove 27 = .ok (.iload_n 2, 1) := dk_28 (dk_at dksJ2_fastRemove_1 3 rfl rfl)
theorem dJ2_fastRemove_28 : decode cJ2_fastRemove 28 = .ok (.iload_n 3, 1) := dk_29 (dk_at dksJ2_fastRemove_1 4 rfl rfl)
theorem dJ2_fastRemove_29 : decode cJ2_fastRemove 29 = .ok (.iload_n 2, 1) := dk_28 (dk_at dksJ2_fastRemove_1 5 rfl rfl)
theorem dJ2_fastRemove_30 : decode cJ2_fastRemove 30 = .ok (.isub, 1) := dk_100 (dk_at dksJ2_fastRemove_1 6 rfl rfl)
theorem dJ2_fastRemove_31 : decode cJ2_fastRemove 31 = .ok (.invokestatic 112, 3) := dk_184 0 112 (dk_at dksJ2_fastRemove_1 7 rfl rfl)
theorem dJ2_fastRemove_34 : decode cJ2_fastRemove 34 = .ok (.aload_n 1, 1) := dk_43 (dk_at dksJ2_fastRemove_1 10 rfl rfl)
theorem dJ2_fastRemove_35 : decode cJ2_fastRemove 35 = .ok (.aload_n 0, 1) := dk_42 (dk_at dksJ2_fastRemove_1 11 rfl rfl)
theorem dJ2_fastRemove_36 : decode cJ2_fastRemove 36 = .ok (.iload_n 3, 1) := dk_29 (dk_at dksJ2_fastRemove_1 12 rfl rfl)
theorem dJ2_fastRemove_37 : decode cJ2_fastRemove 37 = .ok (.dup_x1, 1) := dk_90 (dk_at dksJ2_fastRemove_1 13 rfl rfl)
theorem dJ2_fastRemove_38 : decode cJ2_fastRemove 38 = .ok (.putfield 48, 3) := dk_181 0 48 (dk_at dksJ2_fastRemove_1 14 rfl rfl)
theorem dJ2_fastRemove_41 : decode cJ2_fastRemove 41 = .ok (.aconst_null, 1) := dk_1 (dk_at dksJ2_fastRemove_1 17 rfl rfl)
theorem dJ2_fastRemove_42 : decode cJ2_fastRemove 42 = .ok (.aastore, 1) := dk_83 (dk_at dksJ2_fastRemove_1 18 rfl rfl)
theorem dJ2_fastRemove_43 : decode cJ2_fastRemove 43 = .ok (.return_, 1) := dk_177 (dk_at dksJ2_fastRemove_1 19 rfl rfl)
abbrev cJ2_iterator : ByteArray := prog_65_method_55_code
def yJ2_iterator : MethodName := ⟨RJ2, "iterator", "()Ljava/util/Iterator;"⟩
def dkwJ2_iterator_0 : List UInt8 := [187, 1, 11, 89, 42, 183, 1, 13, 176]
abbrev dktJ2_iterator_0 : List UInt8 := dkwJ2_iterator_0 ++ []
theorem dksJ2_iterator_0 : cJ2_iterator.data.toList.drop 0 = dktJ2_iterator_0 := by decide +kernel
theorem dJ2_iterator_0 : decode cJ2_iterator 0 = .ok (.new 267, 3) := dk_187 1 11 (dk_at dksJ2_iterator_0 0 rfl rfl)
theorem dJ2_iterator_3 : decode cJ2_iterator 3 = .ok (.dup, 1) := dk_89 (dk_at dksJ2_iterator_0 3 rfl rfl)
theorem dJ2_iterator_4 : decode cJ2_iterator 4 = .ok (.aload_n 0, 1) := dk_42 (dk_at dksJ2_iterator_0 4 rfl rfl)
theorem dJ2_iterator_5 : decode cJ2_iterator 5 = .ok (.invokespecial 269, 3) := dk_183 1 13 (dk_at dksJ2_iterator_0 5 rfl rfl)
theorem dJ2_iterator_8 : decode cJ2_iterator 8 = .ok (.areturn, 1) := dk_176 (dk_at dksJ2_iterator_0 8 rfl rfl)
theorem q88 : (Jvm.Cond.initialized "java/util/ArrayList") ∈ lw_all := lw_g (lw_at lw_m1 5 rfl) rfl
theorem q179 : (Jvm.Cond.instantiable "java/util/ArrayList" (3 : Nat)) ∈ lw_all := lw_g (lw_at lw_m1 96 rfl) rfl
theorem q181 : (Jvm.Cond.instanceMethod ({ cls := "java/util/ArrayList", name := "<init>", desc := "()V" } : Jvm.MethodName)) ∈ lw_all := lw_g (lw_at lw_m1 98 rfl) rfl
theorem q182 : (Jvm.Cond.code ({ cls := "java/util/ArrayList", name := "<init>", desc := "()V" } : Jvm.MethodName) prog_65_method_2_code (1 : Nat) (Option.none : Option Jvm.ClassFile.FieldType)) ∈ lw_all := lw_g (lw_at lw_m1 99 rfl) rfl
theorem q183 : (Jvm.Cond.methodLink "java/util/ArrayList" (1 : Nat) ({ cls := "java/util/AbstractList", name := "<init>", desc := "()V" } : Jvm.MethodName)) ∈ lw_all := lw_g (lw_at lw_m1 100 rfl) rfl
theorem q190 : (Jvm.Cond.fieldLink "java/util/ArrayList" (39 : Nat) "java/util/ArrayList" "DEFAULTCAPACITY_EMPTY_ELEMENTDATA" "[Ljava/lang/Object;") ∈ lw_all := lw_g (lw_at lw_m1 107 rfl) rfl
theorem q191 : (Jvm.Cond.laysStatic "java/util/ArrayList" "DEFAULTCAPACITY_EMPTY_ELEMENTDATA" "[Ljava/lang/Object;") ∈ lw_tbl := lw_at lw_m1 108 rfl
theorem q192 : (Jvm.Cond.fieldLink "java/util/ArrayList" (9 : Nat) "java/util/ArrayList" "elementData" "[Ljava/lang/Object;") ∈ lw_all := lw_g (lw_at lw_m1 109 rfl) rfl
theorem q195 : (Jvm.Cond.fieldLink "java/util/ArrayList" (48 : Nat) "java/util/ArrayList" "size" "I") ∈ lw_all := lw_g (lw_at lw_m1 112 rfl) rfl
theorem q200 : (Jvm.Cond.sameField "java/util/ArrayList" "java/util/AbstractList" "modCount" "I") ∈ lw_all := lw_g (lw_at lw_m1 117 rfl) rfl
theorem q203 : (Jvm.Cond.fieldLink "java/util/ArrayList" (63 : Nat) "java/util/ArrayList" "modCount" "I") ∈ lw_all := lw_g (lw_at lw_m1 120 rfl) rfl
theorem q204 : (Jvm.Cond.lays "java/util/ArrayList" "java/util/ArrayList" "elementData" "[Ljava/lang/Object;") ∈ lw_all := lw_g (lw_at lw_m1 121 rfl) rfl
theorem q205 : (Jvm.Cond.soleField "java/util/ArrayList" "elementData") ∈ lw_all := lw_g (lw_at lw_m1 122 rfl) rfl
theorem q206 : (Jvm.Cond.lays "java/util/ArrayList" "java/util/ArrayList" "size" "I") ∈ lw_all := lw_g (lw_at lw_m1 123 rfl) rfl
theorem q207 : (Jvm.Cond.soleField "java/util/ArrayList" "size") ∈ lw_all := lw_g (lw_at lw_m1 124 rfl) rfl
theorem q208 : (Jvm.Cond.lays "java/util/ArrayList" "java/util/AbstractList" "modCount" "I") ∈ lw_all := lw_g (lw_at lw_m1 125 rfl) rfl
theorem q210 : (Jvm.Cond.superclass "java/util/ArrayList" "java/util/AbstractList") ∈ lw_all := lw_g (lw_at lw_m1 127 rfl) rfl
theorem q350 : (Jvm.Cond.instanceMethod ({ cls := "java/util/ArrayList", name := "size", desc := "()I" } : Jvm.MethodName)) ∈ lw_all := lw_g (lw_at lw_m2 27 rfl) rfl
theorem q351 : (Jvm.Cond.selects "java/util/ArrayList" ({ cls := "java/util/ArrayList", name := "size", desc := "()I" } : Jvm.MethodName) ({ cls := "java/util/ArrayList", name := "size", desc := "()I" } : Jvm.MethodName)) ∈ lw_all := lw_g (lw_at lw_m2 28 rfl) rfl
theorem q352 : (Jvm.Cond.code ({ cls := "java/util/ArrayList", name := "size", desc := "()I" } : Jvm.MethodName) prog_65_method_8_code (1 : Nat) (Option.some Jvm.ClassFile.FieldType.int)) ∈ lw_all := lw_g (lw_at lw_m2 29 rfl) rfl
theorem q414 : (Jvm.Cond.instanceMethod ({ cls := "java/util/ArrayList", name := "get", desc := "(I)Ljava/lang/Object;" } : Jvm.MethodName)) ∈ lw_all := lw_g (lw_at lw_m2 91 rfl) rfl
theorem q415 : (Jvm.Cond.selects "java/util/ArrayList" ({ cls := "java/util/ArrayList", name := "get", desc := "(I)Ljava/lang/Object;" } : Jvm.MethodName) ({ cls := "java/util/ArrayList", name := "get", desc := "(I)Ljava/lang/Object;" } : Jvm.MethodName)) ∈ lw_all := lw_g (lw_at lw_m2 92 rfl) rfl
theorem q416 : (Jvm.Cond.code ({ cls := "java/util/ArrayList", name := "get", desc := "(I)Ljava/lang/Object;" } : Jvm.MethodName) prog_65_method_20_code (2 : Nat) (Option.some (Jvm.ClassFile.FieldType.object "java/lang/Object"))) ∈ lw_all := lw_g (lw_at lw_m2 93 rfl) rfl
theorem q417 : (Jvm.Cond.methodLink "java/util/ArrayList" (118 : Nat) ({ cls := "java/util/Objects", name := "checkIndex", desc := "(II)I" } : Jvm.MethodName)) ∈ lw_all := lw_g (lw_at lw_m2 94 rfl) rfl
theorem q423 : (Jvm.Cond.methodLink "java/util/ArrayList" (123 : Nat) ({ cls := "java/util/ArrayList", name := "elementData", desc := "(I)Ljava/lang/Object;" } : Jvm.MethodName)) ∈ lw_all := lw_g (lw_at lw_m2 100 rfl) rfl
theorem q424 : (Jvm.Cond.instanceMethod ({ cls := "java/util/ArrayList", name := "elementData", desc := "(I)Ljava/lang/Object;" } : Jvm.MethodName)) ∈ lw_all := lw_g (lw_at lw_m2 101 rfl) rfl
theorem q425 : (Jvm.Cond.selects "java/util/ArrayList" ({ cls := "java/util/ArrayList", name := "elementData", desc := "(I)Ljava/lang/Object;" } : Jvm.MethodName) ({ cls := "java/util/ArrayList", name := "elementData", desc := "(I)Ljava/lang/Object;" } : Jvm.MethodName)) ∈ lw_all := lw_g (lw_at lw_m2 102 rfl) rfl
theorem q426 : (Jvm.Cond.code ({ cls := "java/util/ArrayList", name := "elementData", desc := "(I)Ljava/lang/Object;" } : Jvm.MethodName) prog_65_method_18_code (2 : Nat) (Option.some (Jvm.ClassFile.FieldType.object "java/lang/Object"))) ∈ lw_all := lw_g (lw_at lw_m2 103 rfl) rfl
theorem q513 : (Jvm.Cond.instanceMethod ({ cls := "java/util/ArrayList", name := "add", desc := "(Ljava/lang/Object;)Z" } : Jvm.MethodName)) ∈ lw_all := lw_g (lw_at lw_m2 190 rfl) rfl
theorem q514 : (Jvm.Cond.selects "java/util/ArrayList" ({ cls := "java/util/ArrayList", name := "add", desc := "(Ljava/lang/Object;)Z" } : Jvm.MethodName) ({ cls := "java/util/ArrayList", name := "add", desc := "(Ljava/lang/Object;)Z" } : Jvm.MethodName)) ∈ lw_all := lw_g (lw_at lw_m2 191 rfl) rfl
theorem q515 : (Jvm.Cond.code ({ cls := "java/util/ArrayList", name := "add", desc := "(Ljava/lang/Object;)Z" } : Jvm.MethodName) prog_65_method_25_code (2 : Nat) (Option.some Jvm.ClassFile.FieldType.boolean)) ∈ lw_all := lw_g (lw_at lw_m2 192 rfl) rfl
theorem q516 : (Jvm.Cond.methodLink "java/util/ArrayList" (131 : Nat) ({ cls := "java/util/ArrayList", name := "add", desc := "(Ljava/lang/Object;[Ljava/lang/Object;I)V" } : Jvm.MethodName)) ∈ lw_all := lw_g (lw_at lw_m2 193 rfl) rfl
theorem q517 : (Jvm.Cond.privateMethod ({ cls := "java/util/ArrayList", name := "add", desc := "(Ljava/lang/Object;[Ljava/lang/Object;I)V" } : Jvm.MethodName)) ∈ lw_tbl := lw_at lw_m2 194 rfl
theorem q518 : (Jvm.Cond.instanceMethod ({ cls := "java/util/ArrayList", name := "add", desc := "(Ljava/lang/Object;[Ljava/lang/Object;I)V" } : Jvm.MethodName)) ∈ lw_all := lw_g (lw_at lw_m2 195 rfl) rfl
theorem q519 : (Jvm.Cond.code ({ cls := "java/util/ArrayList", name := "add", desc := "(Ljava/lang/Object;[Ljava/lang/Object;I)V" } : Jvm.MethodName) prog_65_method_24_code (4 : Nat) (Option.none : Option Jvm.ClassFile.FieldType)) ∈ lw_all := lw_g (lw_at lw_m2 196 rfl) rfl
theorem q520 : (Jvm.Cond.methodLink "java/util/ArrayList" (129 : Nat) ({ cls := "java/util/ArrayList", name := "grow", desc := "()[Ljava/lang/Object;" } : Jvm.MethodName)) ∈ lw_all := lw_g (lw_at lw_m2 197 rfl) rfl
theorem q521 : (Jvm.Cond.privateMethod ({ cls := "java/util/ArrayList", name := "grow", desc := "()[Ljava/lang/Object;" } : Jvm.MethodName)) ∈ lw_tbl := lw_at lw_m2 198 rfl
theorem q522 : (Jvm.Cond.instanceMethod ({ cls := "java/util/ArrayList", name := "grow", desc := "()[Ljava/lang/Object;" } : Jvm.MethodName)) ∈ lw_all := lw_g (lw_at lw_m2 199 rfl) rfl
theorem q523 : (Jvm.Cond.code ({ cls := "java/util/ArrayList", name := "grow", desc := "()[Ljava/lang/Object;" } : Jvm.MethodName) prog_65_method_7_code (1 : Nat) (Option.some (Jvm.ClassFile.FieldType.array (Jvm.ClassFile.FieldType.object "java/lang/Object")))) ∈ lw_all := lw_g (lw_at lw_m2 200 rfl) rfl
theorem q524 : (Jvm.Cond.methodLink "java/util/ArrayList" (69 : Nat) ({ cls := "java/util/ArrayList", name := "grow", desc := "(I)[Ljava/lang/Object;" } : Jvm.MethodName)) ∈ lw_all := lw_g (lw_at lw_m2 201 rfl) rfl
theorem q525 : (Jvm.Cond.privateMethod ({ cls := "java/util/ArrayList", name := "grow", desc := "(I)[Ljava/lang/Object;" } : Jvm.MethodName)) ∈ lw_tbl := lw_at lw_m2 202 rfl
theorem q526 : (Jvm.Cond.instanceMethod ({ cls := "java/util/ArrayList", name := "grow", desc := "(I)[Ljava/lang/Object;" } : Jvm.MethodName)) ∈ lw_all := lw_g (lw_at lw_m2 203 rfl) rfl
theorem q527 : (Jvm.Cond.code ({ cls := "java/util/ArrayList", name := "grow", desc := "(I)[Ljava/lang/Object;" } : Jvm.MethodName) prog_65_method_6_code (4 : Nat) (Option.some (Jvm.ClassFile.FieldType.array (Jvm.ClassFile.FieldType.object "java/lang/Object")))) ∈ lw_all := lw_g (lw_at lw_m2 204 rfl) rfl
theorem q528 : (Jvm.Cond.methodLink "java/util/ArrayList" (73 : Nat) ({ cls := "jdk/internal/util/ArraysSupport", name := "newLength", desc := "(III)I" } : Jvm.MethodName)) ∈ lw_all := lw_g (lw_at lw_m2 205 rfl) rfl
theorem q538 : (Jvm.Cond.methodLink "java/util/ArrayList" (66 : Nat) ({ cls := "java/util/Arrays", name := "copyOf", desc := "([Ljava/lang/Object;I)[Ljava/lang/Object;" } : Jvm.MethodName)) ∈ lw_all := lw_g (lw_at lw_m2 215 rfl) rfl
theorem q580 : (Jvm.Cond.selects "java/util/ArrayList" ({ cls := "java/lang/Object", name := "getClass", desc := "()Ljava/lang/Class;" } : Jvm.MethodName) ({ cls := "java/lang/Object", name := "getClass", desc := "()Ljava/lang/Class;" } : Jvm.MethodName)) ∈ lw_all := lw_g (lw_at lw_m3 17 rfl) rfl
theorem q607 : (Jvm.Cond.methodLink "java/util/ArrayList" (79 : Nat) ({ cls := "java/lang/Math", name := "max", desc := "(II)I" } : Jvm.MethodName)) ∈ lw_all := lw_g (lw_at lw_m3 44 rfl) rfl
theorem q608 : (Jvm.Cond.classLink "java/util/ArrayList" (7 : Nat) "java/lang/Object") ∈ lw_all := lw_g (lw_at lw_m3 45 rfl) rfl
theorem q660 : (Jvm.Cond.selects "java/util/ArrayList" ({ cls := "java/util/AbstractList", name := "listIterator", desc := "(I)Ljava/util/ListIterator;" } : Jvm.MethodName) ({ cls := "java/util/ArrayList", name := "listIterator", desc := "(I)Ljava/util/ListIterator;" } : Jvm.MethodName)) ∈ lw_all := lw_g (lw_at lw_m3 97 rfl) rfl
theorem q661 : (Jvm.Cond.instanceMethod ({ cls := "java/util/ArrayList", name := "listIterator", desc := "(I)Ljava/util/ListIterator;" } : Jvm.MethodName)) ∈ lw_all := lw_g (lw_at lw_m3 98 rfl) rfl
theorem q662 : (Jvm.Cond.code ({ cls := "java/util/ArrayList", name := "listIterator", desc := "(I)Ljava/util/ListIterator;" } : Jvm.MethodName) prog_65_method_53_code (2 : Nat) (Option.some (Jvm.ClassFile.FieldType.object "java/util/ListIterator"))) ∈ lw_all := lw_g (lw_at lw_m3 99 rfl) rfl
theorem q663 : (Jvm.Cond.methodLink "java/util/ArrayList" (135 : Nat) ({ cls := "java/util/ArrayList", name := "rangeCheckForAdd", desc := "(I)V" } : Jvm.MethodName)) ∈ lw_all := lw_g (lw_at lw_m3 100 rfl) rfl
theorem q664 : (Jvm.Cond.privateMethod ({ cls := "java/util/ArrayList", name := "rangeCheckForAdd", desc := "(I)V" } : Jvm.MethodName)) ∈ lw_tbl := lw_at lw_m3 101 rfl
theorem q665 : (Jvm.Cond.instanceMethod ({ cls := "java/util/ArrayList", name := "rangeCheckForAdd", desc := "(I)V" } : Jvm.MethodName)) ∈ lw_all := lw_g (lw_at lw_m3 102 rfl) rfl
theorem q666 : (Jvm.Cond.code ({ cls := "java/util/ArrayList", name := "rangeCheckForAdd", desc := "(I)V" } : Jvm.MethodName) prog_65_method_45_code (2 : Nat) (Option.none : Option Jvm.ClassFile.FieldType)) ∈ lw_all := lw_g (lw_at lw_m3 103 rfl) rfl
theorem q667 : (Jvm.Cond.classLink "java/util/ArrayList" (262 : Nat) "java/util/ArrayList$ListItr") ∈ lw_all := lw_g (lw_at lw_m3 104 rfl) rfl
theorem q669 : (Jvm.Cond.methodLink "java/util/ArrayList" (264 : Nat) ({ cls := "java/util/ArrayList$ListItr", name := "<init>", desc := "(Ljava/util/ArrayList;I)V" } : Jvm.MethodName)) ∈ lw_all := lw_g (lw_at lw_m3 106 rfl) rfl
theorem q745 : (Jvm.Cond.selects "java/util/ArrayList" ({ cls := "java/util/AbstractList", name := "size", desc := "()I" } : Jvm.MethodName) ({ cls := "java/util/ArrayList", name := "size", desc := "()I" } : Jvm.MethodName)) ∈ lw_all := lw_g (lw_at lw_m3 182 rfl) rfl
theorem q801 : (Jvm.Cond.selects "java/util/ArrayList" ({ cls := "java/util/AbstractList", name := "get", desc := "(I)Ljava/lang/Object;" } : Jvm.MethodName) ({ cls := "java/util/ArrayList", name := "get", desc := "(I)Ljava/lang/Object;" } : Jvm.MethodName)) ∈ lw_all := lw_g (lw_at lw_m3 238 rfl) rfl
theorem q1150 : (Jvm.Cond.castable "java/util/ArrayList" "java/util/List") ∈ lw_tbl := lw_at lw_m5 107 rfl
theorem q1151 : (Jvm.Cond.selects "java/util/ArrayList" ({ cls := "java/util/List", name := "get", desc := "(I)Ljava/lang/Object;" } : Jvm.MethodName) ({ cls := "java/util/ArrayList", name := "get", desc := "(I)Ljava/lang/Object;" } : Jvm.MethodName)) ∈ lw_all := lw_g (lw_at lw_m5 108 rfl) rfl
theorem q1152 : (Jvm.Cond.unhidden "java/util/ArrayList" "get" "(I)Ljava/lang/Object;") ∈ lw_tbl := lw_at lw_m5 109 rfl
theorem q1153 : (Jvm.Cond.publicMethod ({ cls := "java/util/ArrayList", name := "get", desc := "(I)Ljava/lang/Object;" } : Jvm.MethodName)) ∈ lw_tbl := lw_at lw_m5 110 rfl
theorem q1393 : (Jvm.Cond.selects "java/util/ArrayList" ({ cls := "java/util/AbstractList", name := "remove", desc := "(I)Ljava/lang/Object;" } : Jvm.MethodName) ({ cls := "java/util/ArrayList", name := "remove", desc := "(I)Ljava/lang/Object;" } : Jvm.MethodName)) ∈ lw_all := lw_g (lw_at lw_m6 110 rfl) rfl
theorem q1394 : (Jvm.Cond.instanceMethod ({ cls := "java/util/ArrayList", name := "remove", desc := "(I)Ljava/lang/Object;" } : Jvm.MethodName)) ∈ lw_all := lw_g (lw_at lw_m6 111 rfl) rfl
theorem q1395 : (Jvm.Cond.code ({ cls := "java/util/ArrayList", name := "remove", desc := "(I)Ljava/lang/Object;" } : Jvm.MethodName) prog_65_method_29_code (4 : Nat) (Option.some (Jvm.ClassFile.FieldType.object "java/lang/Object"))) ∈ lw_all := lw_g (lw_at lw_m6 112 rfl) rfl
theorem q1396 : (Jvm.Cond.methodLink "java/util/ArrayList" (144 : Nat) ({ cls := "java/util/ArrayList", name := "fastRemove", desc := "([Ljava/lang/Object;I)V" } : Jvm.MethodName)) ∈ lw_all := lw_g (lw_at lw_m6 113 rfl) rfl
theorem q1397 : (Jvm.Cond.privateMethod ({ cls := "java/util/ArrayList", name := "fastRemove", desc := "([Ljava/lang/Object;I)V" } : Jvm.MethodName)) ∈ lw_tbl := lw_at lw_m6 114 rfl
theorem q1398 : (Jvm.Cond.instanceMethod ({ cls := "java/util/ArrayList", name := "fastRemove", desc := "([Ljava/lang/Object;I)V" } : Jvm.MethodName)) ∈ lw_all := lw_g (lw_at lw_m6 115 rfl) rfl
theorem q1399 : (Jvm.Cond.code ({ cls := "java/util/ArrayList", name := "fastRemove", desc := "([Ljava/lang/Object;I)V" } : Jvm.MethodName) prog_65_method_39_code (4 : Nat) (Option.none : Option Jvm.ClassFile.FieldType)) ∈ lw_all := lw_g (lw_at lw_m6 116 rfl) rfl
theorem q1400 : (Jvm.Cond.methodLink "java/util/ArrayList" (112 : Nat) ({ cls := "java/lang/System", name := "arraycopy", desc := "(Ljava/lang/Object;ILjava/lang/Object;II)V" } : Jvm.MethodName)) ∈ lw_all := lw_g (lw_at lw_m6 117 rfl) rfl
theorem q1491 : (Jvm.Cond.selects "java/util/ArrayList" ({ cls := "java/util/List", name := "iterator", desc := "()Ljava/util/Iterator;" } : Jvm.MethodName) ({ cls := "java/util/ArrayList", name := "iterator", desc := "()Ljava/util/Iterator;" } : Jvm.MethodName)) ∈ lw_all := lw_g (lw_at lw_m6 208 rfl) rfl
theorem q1492 : (Jvm.Cond.unhidden "java/util/ArrayList" "iterator" "()Ljava/util/Iterator;") ∈ lw_tbl := lw_at lw_m6 209 rfl
theorem q1493 : (Jvm.Cond.instanceMethod ({ cls := "java/util/ArrayList", name := "iterator", desc := "()Ljava/util/Iterator;" } : Jvm.MethodName)) ∈ lw_all := lw_g (lw_at lw_m6 210 rfl) rfl
theorem q1494 : (Jvm.Cond.publicMethod ({ cls := "java/util/ArrayList", name := "iterator", desc := "()Ljava/util/Iterator;" } : Jvm.MethodName)) ∈ lw_tbl := lw_at lw_m6 211 rfl
theorem q1495 : (Jvm.Cond.code ({ cls := "java/util/ArrayList", name := "iterator", desc := "()Ljava/util/Iterator;" } : Jvm.MethodName) prog_65_method_55_code (1 : Nat) (Option.some (Jvm.ClassFile.FieldType.object "java/util/Iterator"))) ∈ lw_all := lw_g (lw_at lw_m6 212 rfl) rfl
theorem q1496 : (Jvm.Cond.classLink "java/util/ArrayList" (267 : Nat) "java/util/ArrayList$Itr") ∈ lw_all := lw_g (lw_at lw_m6 213 rfl) rfl
theorem q1498 : (Jvm.Cond.methodLink "java/util/ArrayList" (269 : Nat) ({ cls := "java/util/ArrayList$Itr", name := "<init>", desc := "(Ljava/util/ArrayList;)V" } : Jvm.MethodName)) ∈ lw_all := lw_g (lw_at lw_m6 215 rfl) rfl
theorem q1545 : (Jvm.Cond.castable "java/util/ArrayList" "java/util/Collection") ∈ lw_tbl := lw_at lw_m7 22 rfl
theorem q1546 : (Jvm.Cond.selects "java/util/ArrayList" ({ cls := "java/util/Collection", name := "iterator", desc := "()Ljava/util/Iterator;" } : Jvm.MethodName) ({ cls := "java/util/ArrayList", name := "iterator", desc := "()Ljava/util/Iterator;" } : Jvm.MethodName)) ∈ lw_all := lw_g (lw_at lw_m7 23 rfl) rfl
theorem q2506 : (Jvm.Cond.unhidden "java/util/ArrayList" "getClass" "()Ljava/lang/Class;") ∈ lw_tbl := lw_at lw_m11 23 rfl
theorem q3020 : (Jvm.Cond.selects "java/util/ArrayList" ({ cls := "java/util/AbstractCollection", name := "size", desc := "()I" } : Jvm.MethodName) ({ cls := "java/util/ArrayList", name := "size", desc := "()I" } : Jvm.MethodName)) ∈ lw_all := lw_g (lw_at lw_m13 57 rfl) rfl
theorem q3024 : (Jvm.Cond.selects "java/util/ArrayList" ({ cls := "java/util/ArrayList", name := "remove", desc := "(I)Ljava/lang/Object;" } : Jvm.MethodName) ({ cls := "java/util/ArrayList", name := "remove", desc := "(I)Ljava/lang/Object;" } : Jvm.MethodName)) ∈ lw_all := lw_g (lw_at lw_m13 61 rfl) rfl
theorem q3033 : (Jvm.Cond.castable "java/util/ArrayList" "java/util/RandomAccess") ∈ lw_tbl := lw_at lw_m13 70 rfl
theorem q3045 : (Jvm.Cond.castable "java/util/ArrayList" "java/lang/Object") ∈ lw_tbl := lw_at lw_m13 82 rfl
theorem in_J2 : ∀ w ∈ wsJ20, w ∈ lw_all := lw_in wsJ20 [208, 204, 206] (by decide +kernel) (by decide +kernel)

/-! java/util/AbstractSequentialList -/
set_option maxRecDepth 100000
def RJ3 : String := "java/util/AbstractSequentialList"
abbrev cJ3_init : ByteArray := prog_62_method_1_code
def yJ3_init : MethodName := ⟨RJ3, "<init>", "()V"⟩
theorem dJ3_init_0 : decode cJ3_init 0 = .ok (.aload_n 0, 1) := by decide +kernel
theorem dJ3_init_1 : decode cJ3_init 1 = .ok (.invokespecial 1, 3) := by decide +kernel
theorem dJ3_init_4 : decode cJ3_init 4 = .ok (.return_, 1) := by decide +kernel
abbrev cJ3_iterator : ByteArray := prog_62_method_7_code
def yJ3_iterator : MethodName := ⟨RJ3, "iterator", "()Ljava/util/Iterator;"⟩
theorem dJ3_iterator_0 : decode cJ3_iterator 0 = .ok (.aload_n 0, 1) := by decide +kernel
theorem dJ3_iterator_1 : decode cJ3_iterator 1 = .ok (.invokevirtual 65, 3) := by decide +kernel
theorem dJ3_iterator_4 : decode cJ3_iterator 4 = .ok (.areturn, 1) := by decide +kernel
theorem q89 : (Jvm.Cond.initialized "java/util/AbstractSequentialList") ∈ lw_all := lw_g (lw_at lw_m1 6 rfl) rfl
theorem q218 : (Jvm.Cond.instanceMethod ({ cls := "java/util/AbstractSequentialList", name := "<init>", desc := "()V" } : Jvm.MethodName)) ∈ lw_all := lw_g (lw_at lw_m1 135 rfl) rfl
theorem q219 : (Jvm.Cond.code ({ cls := "java/util/AbstractSequentialList", name := "<init>", desc := "()V" } : Jvm.MethodName) prog_62_method_1_code (1 : Nat) (Option.none : Option Jvm.ClassFile.FieldType)) ∈ lw_all := lw_g (lw_at lw_m1 136 rfl) rfl
theorem q220 : (Jvm.Cond.methodLink "java/util/AbstractSequentialList" (1 : Nat) ({ cls := "java/util/AbstractList", name := "<init>", desc := "()V" } : Jvm.MethodName)) ∈ lw_all := lw_g (lw_at lw_m1 137 rfl) rfl
theorem q647 : (Jvm.Cond.declares ({ cls := "java/util/AbstractSequentialList", name := "iterator", desc := "()Ljava/util/Iterator;" } : Jvm.MethodName)) ∈ lw_tbl := lw_at lw_m3 84 rfl
theorem q649 : (Jvm.Cond.instanceMethod ({ cls := "java/util/AbstractSequentialList", name := "iterator", desc := "()Ljava/util/Iterator;" } : Jvm.MethodName)) ∈ lw_all := lw_g (lw_at lw_m3 86 rfl) rfl
theorem q650 : (Jvm.Cond.code ({ cls := "java/util/AbstractSequentialList", name := "iterator", desc := "()Ljava/util/Iterator;" } : Jvm.MethodName) prog_62_method_7_code (1 : Nat) (Option.some (Jvm.ClassFile.FieldType.object "java/util/Iterator"))) ∈ lw_all := lw_g (lw_at lw_m3 87 rfl) rfl
theorem q651 : (Jvm.Cond.methodLink "java/util/AbstractSequentialList" (65 : Nat) ({ cls := "java/util/AbstractSequentialList", name := "listIterator", desc := "()Ljava/util/ListIterator;" } : Jvm.MethodName)) ∈ lw_all := lw_g (lw_at lw_m3 88 rfl) rfl
theorem q652 : (Jvm.Cond.sameMethod "java/util/AbstractSequentialList" "java/util/AbstractList" "listIterator" "()Ljava/util/ListIterator;") ∈ lw_all := lw_g (lw_at lw_m3 89 rfl) rfl
theorem q1587 : (Jvm.Cond.publicMethod ({ cls := "java/util/AbstractSequentialList", name := "iterator", desc := "()Ljava/util/Iterator;" } : Jvm.MethodName)) ∈ lw_tbl := lw_at lw_m7 64 rfl

/-! java/util/LinkedList -/
set_option maxRecDepth 100000
def RJ4 : String := "java/util/LinkedList"
def TJ4 : u_T := fun k => match k with
  | 0 => ("java/util/AbstractList", "modCount", "I", false)
  | 1 => ("java/util/LinkedList", "size", "I", false)
  | 2 => ("java/util/LinkedList", "first", "Ljava/util/LinkedList$Node;", false)
  | _ => ("java/util/LinkedList", "last", "Ljava/util/LinkedList$Node;", false)
def tyJ4 : Nat → FieldType := fun k => match k with
  | 0 => .int
  | 1 => .int
  | 2 => .object "java/util/LinkedList$Node"
  | _ => .object "java/util/LinkedList$Node"
abbrev wsJ40 : List Cond := u_ws RJ4 TJ4 4
theorem nmJ4 : ∀ a, a < 4 → ∀ b, b < 4 → a ≠ b → (TJ4 a).2.1 ≠ (TJ4 b).2.1 := by decide +kernel
theorem tyJ4_ok : ∀ k, k < 4 → parseFieldDescriptor (TJ4 k).2.2.1 = some (tyJ4 k) := by decide +kernel
abbrev cJ4_init : ByteArray := prog_85_method_1_code
def yJ4_init : MethodName := ⟨RJ4, "<init>", "()V"⟩
def dkwJ4_init_0 : List UInt8 := [42, 183, 0, 1, 42, 3, 181, 0, 7, 177]
abbrev dktJ4_init_0 : List UInt8 := dkwJ4_init_0 ++ []
theorem dksJ4_init_0 : cJ4_init.data.toList.drop 0 = dktJ4_init_0 := by decide +kernel
theorem dJ4_init_0 : decode cJ4_init 0 = .ok (.aload_n 0, 1) := dk_42 (dk_at dksJ4_init_0 0 rfl rfl)
theorem dJ4_init_1 : decode cJ4_init 1 = .ok (.invokespecial 1, 3) := dk_183 0 1 (dk_at dksJ4_init_0 1 rfl rfl)
theorem dJ4_init_4 : decode cJ4_init 4 = .ok (.aload_n 0, 1) := dk_42 (dk_at dksJ4_init_0 4 rfl rfl)
theorem dJ4_init_5 : decode cJ4_init 5 = .ok (.iconst 0, 1) := dk_3 (dk_at dksJ4_init_0 5 rfl rfl)
theorem dJ4_init_6 : decode cJ4_init 6 = .ok (.putfield 7, 3) := dk_181 0 7 (dk_at dksJ4_init_0 6 rfl rfl)
theorem dJ4_init_9 : decode cJ4_init 9 = .ok (.return_, 1) := dk_177 (dk_at dksJ4_init_0 9 rfl rfl)
abbrev cJ4_listIterator : ByteArray := prog_85_method_49_code
def yJ4_listIterator : MethodName := ⟨RJ4, "listIterator", "(I)Ljava/util/ListIterator;"⟩
def dkwJ4_listIterator_0 : List UInt8 := [42, 27, 182, 0, 76, 187, 0, 150, 89, 42, 27, 183, 0, 152, 176]
abbrev dktJ4_listIterator_0 : List UInt8 := dkwJ4_listIterator_0 ++ []
theorem dksJ4_listIterator_0 : cJ4_listIterator.data.toList.drop 0 = dktJ4_listIterator_0 := by decide +kernel
theorem dJ4_listIterator_0 : decode cJ4_listIterator 0 = .ok (.aload_n 0, 1) := dk_42 (dk_at dksJ4_listIterator_0 0 rfl rfl)
theorem dJ4_listIterator_1 : decode cJ4_listIterator 1 = .ok (.iload_n 1, 1) := dk_27 (dk_at dksJ4_listIterator_0 1 rfl rfl)
theorem dJ4_listIterator_2 : decode cJ4_listIterator 2 = .ok (.invokevirtual 76, 3) := dk_182 0 76 (dk_at dksJ4_listIterator_0 2 rfl rfl)
theorem dJ4_listIterator_5 : decode cJ4_listIterator 5 = .ok (.new 150, 3) := dk_187 0 150 (dk_at dksJ4_listIterator_0 5 rfl rfl)
theorem dJ4_listIterator_8 : decode cJ4_listIterator 8 = .ok (.dup, 1) := dk_89 (dk_at dksJ4_listIterator_0 8 rfl rfl)
theorem dJ4_listIterator_9 : decode cJ4_listIterator 9 = .ok (.aload_n 0, 1) := dk_42 (dk_at dksJ4_listIterator_0 9 rfl rfl)
theorem dJ4_listIterator_10 : decode cJ4_listIterator 10 = .ok (.iload_n 1, 1) := dk_27 (dk_at dksJ4_listIterator_0 10 rfl rfl)
theorem dJ4_listIterator_11 : decode cJ4_listIterator 11 = .ok (.invokespecial 152, 3) := dk_183 0 152 (dk_at dksJ4_listIterator_0 11 rfl rfl)
theorem dJ4_listIterator_14 : decode cJ4_listIterator 14 = .ok (.areturn, 1) := dk_176 (dk_at dksJ4_listIterator_0 14 rfl rfl)
abbrev cJ4_checkPositionIndex : ByteArray := prog_85_method_30_code
def yJ4_checkPositionIndex : MethodName := ⟨RJ4, "checkPositionIndex", "(I)V"⟩
def dkwJ4_checkPositionIndex_0 : List UInt8 := [42, 27, 182, 0, 128, 154, 0, 16, 187, 0, 119, 89, 42, 27, 182, 0, 121, 183, 0, 125, 191, 177]
abbrev dktJ4_checkPositionIndex_0 : List UInt8 := dkwJ4_checkPositionIndex_0 ++ []
theorem dksJ4_checkPositionIndex_0 : cJ4_checkPositionIndex.data.toList.drop 0 = dktJ4_checkPositionIndex_0 := by decide +kernel
theorem dJ4_checkPositionIndex_0 : decode cJ4_checkPositionIndex 0 = .ok (.aload_n 0, 1) := dk_42 (dk_at dksJ4_checkPositionIndex_0 0 rfl rfl)
theorem dJ4_checkPositionIndex_1 : decode cJ4_checkPositionIndex 1 = .ok (.iload_n 1, 1) := dk_27 (dk_at dksJ4_checkPositionIndex_0 1 rfl rfl)
theorem dJ4_checkPositionIndex_2 : decode cJ4_checkPositionIndex 2 = .ok (.invokevirtual 128, 3) := dk_182 0 128 (dk_at dksJ4_checkPositionIndex_0 2 rfl rfl)
theorem dJ4_checkPositionIndex_5 : decode cJ4_checkPositionIndex 5 = .ok (.ifCond .ne 16, 3) := dk_154 0 16 (dk_at dksJ4_checkPositionIndex_0 5 rfl rfl)
theorem dJ4_checkPositionIndex_8 : decode cJ4_checkPositionIndex 8 = .ok (.new 119, 3) := dk_187 0 119 (dk_at dksJ4_checkPositionIndex_0 8 rfl rfl)
theorem dJ4_checkPositionIndex_11 : decode cJ4_checkPositionIndex 11 = .ok (.dup, 1) := dk_89 (dk_at dksJ4_checkPositionIndex_0 11 rfl rfl)
theorem dJ4_checkPositionIndex_12 : decode cJ4_checkPositionIndex 12 = .ok (.aload_n 0, 1) := dk_42 (dk_at dksJ4_checkPositionIndex_0 12 rfl rfl)
theorem dJ4_checkPositionIndex_13 : decode cJ4_checkPositionIndex 13 = .ok (.iload_n 1, 1) := dk_27 (dk_at dksJ4_checkPositionIndex_0 13 rfl rfl)
theorem dJ4_checkPositionIndex_14 : decode cJ4_checkPositionIndex 14 = .ok (.invokevirtual 121, 3) := dk_182 0 121 (dk_at dksJ4_checkPositionIndex_0 14 rfl rfl)
theorem dJ4_checkPositionIndex_17 : decode cJ4_checkPositionIndex 17 = .ok (.invokespecial 125, 3) := dk_183 0 125 (dk_at dksJ4_checkPositionIndex_0 17 rfl rfl)
theorem dJ4_checkPositionIndex_20 : decode cJ4_checkPositionIndex 20 = .ok (.athrow, 1) := dk_191 (dk_at dksJ4_checkPositionIndex_0 20 rfl rfl)
theorem dJ4_checkPositionIndex_21 : decode cJ4_checkPositionIndex 21 = .ok (.return_, 1) := dk_177 (dk_at dksJ4_checkPositionIndex_0 21 rfl rfl)
abbrev cJ4_isPositionIndex : ByteArray := prog_85_method_27_code
def yJ4_isPositionIndex : MethodName := ⟨RJ4, "isPositionIndex", "(I)Z"⟩
def dkwJ4_isPositionIndex_0 : List UInt8 := [27, 155, 0, 15, 27, 42, 180, 0, 7, 163, 0, 7, 4, 167, 0, 4, 3, 172]
abbrev dktJ4_isPositionIndex_0 : List UInt8 := dkwJ4_isPositionIndex_0 ++ []
theorem dksJ4_isPositionIndex_0 : cJ4_isPositionIndex.data.toList.drop 0 = dktJ4_isPositionIndex_0 := by decide +kernel
theorem dJ4_isPositionIndex_0 : decode cJ4_isPositionIndex 0 = .ok (.iload_n 1, 1) := dk_27 (dk_at dksJ4_isPositionIndex_0 0 rfl rfl)
theorem dJ4_isPositionIndex_1 : decode cJ4_isPositionIndex 1 = .ok (.ifCond .lt 15, 3) := dk_155 0 15 (dk_at dksJ4_isPositionIndex_0 1 rfl rfl)
theorem dJ4_isPositionIndex_4 : decode cJ4_isPositionIndex 4 = .ok (.iload_n 1, 1) := dk_27 (dk_at dksJ4_isPositionIndex_0 4 rfl rfl)
theorem dJ4_isPositionIndex_5 : decode cJ4_isPositionIndex 5 = .ok (.aload_n 0, 1) := dk_42 (dk_at dksJ4_isPositionIndex_0 5 rfl rfl)
theorem dJ4_isPositionIndex_6 : decode cJ4_isPositionIndex 6 = .ok (.getfield 7, 3) := dk_180 0 7 (dk_at dksJ4_isPositionIndex_0 6 rfl rfl)
theorem dJ4_isPositionIndex_9 : decode cJ4_isPositionIndex 9 = .ok (.if_icmp .gt 7, 3) := dk_163 0 7 (dk_at dksJ4_isPositionIndex_0 9 rfl rfl)
theorem dJ4_isPositionIndex_12 : decode cJ4_isPositionIndex 12 = .ok (.iconst 1, 1) := dk_4 (dk_at dksJ4_isPositionIndex_0 12 rfl rfl)
theorem dJ4_isPositionIndex_13 : decode cJ4_isPositionIndex 13 = .ok (.goto 4, 3) := dk_167 0 4 (dk_at dksJ4_isPositionIndex_0 13 rfl rfl)
theorem dJ4_isPositionIndex_16 : decode cJ4_isPositionIndex 16 = .ok (.iconst 0, 1) := dk_3 (dk_at dksJ4_isPositionIndex_0 16 rfl rfl)
theorem dJ4_isPositionIndex_17 : decode cJ4_isPositionIndex 17 = .ok (.ireturn, 1) := dk_172 (dk_at dksJ4_isPositionIndex_0 17 rfl rfl)
abbrev cJ4_node : ByteArray := prog_85_method_31_code
def yJ4_node : MethodName := ⟨RJ4, "node", "(I)Ljava/util/LinkedList$Node;"⟩
def dkwJ4_node_2 : List UInt8 := [29, 27, 164, 0, 14, 44, 180, 0, 30, 77, 132, 3, 255, 167, 255, 243, 44, 176]
abbrev dktJ4_node_2 : List UInt8 := dkwJ4_node_2 ++ []
def dkwJ4_node_1 : List UInt8 := [180, 0, 36, 77, 132, 3, 1, 167, 255, 243, 44, 176, 42, 180, 0, 27, 77, 42, 180, 0, 7, 4, 100, 62]
abbrev dktJ4_node_1 : List UInt8 := dkwJ4_node_1 ++ dktJ4_node_2
def dkwJ4_node_0 : List UInt8 := [27, 42, 180, 0, 7, 4, 122, 162, 0, 28, 42, 180, 0, 18, 77, 3, 62, 29, 27, 162, 0, 14, 44]
abbrev dktJ4_node_0 : List UInt8 := dkwJ4_node_0 ++ dktJ4_node_1
theorem dksJ4_node_0 : cJ4_node.data.toList.drop 0 = dktJ4_node_0 := by decide +kernel
theorem dksJ4_node_1 : cJ4_node.data.toList.drop 23 = dktJ4_node_1 := dk_seg dksJ4_node_0 23 rfl rfl
theorem dksJ4_node_2 : cJ4_node.data.toList.drop 47 = dktJ4_node_2 := dk_seg dksJ4_node_1 24 rfl rfl
theorem dJ4_node_0 : decode cJ4_node 0 = .ok (.iload_n 1, 1) := dk_27 (dk_at dksJ4_node_0 0 rfl rfl)
theorem dJ4_node_1 : decode cJ4_node 1 = .ok (.aload_n 0, 1) := dk_42 (dk_at dksJ4_node_0 1 rfl rfl)
theorem dJ4_node_2 : decode cJ4_node 2 = .ok (.getfield 7, 3) := dk_180 0 7 (dk_at dksJ4_node_0 2 rfl rfl)
theorem dJ4_node_5 : decode cJ4_node 5 = .ok (.iconst 1, 1) := dk_4 (dk_at dksJ4_node_0 5 rfl rfl)
theorem dJ4_node_6 : decode cJ4_node 6 = .ok (.ishr, 1) := dk_122 (dk_at dksJ4_node_0 6 rfl rfl)
theorem dJ4_node_7 : decode cJ4_node 7 = .ok (.if_icmp .ge 28, 3) := dk_162 0 28 (dk_at dksJ4_node_0 7 rfl rfl)
theorem dJ4_node_10 : decode cJ4_node 10 = .ok (.aload_n 0, 1) := dk_42 (dk_at dksJ4_node_0 10 rfl rfl)
theorem dJ4_node_11 : decode cJ4_node 11 = .ok (.getfield 18, 3) := dk_180 0 18 (dk_at dksJ4_node_0 11 rfl rfl)
theorem dJ4_node_14 : decode cJ4_node 14 = .ok (.astore_n 2, 1) := dk_77 (dk_at dksJ4_node_0 14 rfl rfl)
theorem dJ4_node_15 : decode cJ4_node 15 = .ok (.iconst 0, 1) := dk_3 (dk_at dksJ4_node_0 15 rfl rfl)
theorem dJ4_node_16 : decode cJ4_node 16 = .ok (.istore_n 3, 1) := dk_62 (dk_at dksJ4_node_0 16 rfl rfl)
theorem dJ4_node_17 : decode cJ4_node 17 = .ok (.iload_n 3, 1) := dk_29 (dk_at dksJ4_node_0 17 rfl rfl)
theorem dJ4_node_18 : decode cJ4_node 18 = .ok (.iload_n 1, 1) := dk_27 (dk_at dksJ4_node_0 18 rfl rfl)
theorem dJ4_node_19 : decode cJ4_node 19 = .ok (.if_icmp .ge 14, 3) := dk_162 0 14 (dk_at dksJ4_node_0 19 rfl rfl)
theorem dJ4_node_22 : decode cJ4_node 22 = .ok (.aload_n 2, 1) := dk_44 (dk_at dksJ4_node_0 22 rfl rfl)
theorem dJ4_node_23 : decode cJ4_node 23 = .ok (.getfield 36, 3) := dk_180 0 36 (dk_at dksJ4_node_1 0 rfl rfl)
theorem dJ4_node_26 : decode cJ4_node 26 = .ok (.astore_n 2, 1) := dk_77 (dk_at dksJ4_node_1 3 rfl rfl)
theorem dJ4_node_27 : decode cJ4_node 27 = .ok (.iinc 3 1, 3) := dk_132 3 1 (dk_at dksJ4_node_1 4 rfl rfl)
theorem dJ4_node_30 : decode cJ4_node 30 = .ok (.goto (-13), 3) := dk_167 255 243 (dk_at dksJ4_node_1 7 rfl rfl)
theorem dJ4_node_33 : decode cJ4_node 33 = .ok (.aload_n 2, 1) := dk_44 (dk_at dksJ4_node_1 10 rfl rfl)
theorem dJ4_node_34 : decode cJ4_node 34 = .ok (.areturn, 1) := dk_176 (dk_at dksJ4_node_1 11 rfl rfl)
theorem dJ4_node_35 : decode cJ4_node 35 = .ok (.aload_n 0, 1) := dk_42 (dk_at dksJ4_node_1 12 rfl rfl)
theorem dJ4_node_36 : decode cJ4_node 36 = .ok (.getfield 27, 3) := dk_180 0 27 (dk_at dksJ4_node_1 13 rfl rfl)
theorem dJ4_node_39 : decode cJ4_node 39 = .ok (.astore_n 2, 1) := dk_77 (dk_at dksJ4_node_1 16 rfl rfl)
theorem dJ4_node_40 : decode cJ4_node 40 = .ok (.aload_n 0, 1) := dk_42 (dk_at dksJ4_node_1 17 rfl rfl)
theorem dJ4_node_41 : decode cJ4_node 41 = .ok (.getfield 7, 3) := dk_180 0 7 (dk_at dksJ4_node_1 18 rfl rfl)
theorem dJ4_node_44 : decode cJ4_node 44 = .ok (.iconst 1, 1) := dk_4 (dk_at dksJ4_node_1 21 rfl rfl)
theorem dJ4_node_45 : decode cJ4_node 45 = .ok (.isub, 1) := dk_100 (dk_at dksJ4_node_1 22 rfl rfl)
theorem dJ4_node_46 : decode cJ4_node 46 = .ok (.istore_n 3, 1) := dk_62 (dk_at dksJ4_node_1 23 rfl rfl)
theorem dJ4_node_47 : decode cJ4_node 47 = .ok (.iload_n 3, 1) := dk_29 (dk_at dksJ4_node_2 0 rfl rfl)
theorem dJ4_node_48 : decode cJ4_node 48 = .ok (.iload_n 1, 1) := dk_27 (dk_at dksJ4_node_2 1 rfl rfl)
theorem dJ4_node_49 : decode cJ4_node 49 = .ok (.if_icmp .le 14, 3) := dk_164 0 14 (dk_at dksJ4_node_2 2 rfl rfl)
theorem dJ4_node_52 : decode cJ4_node 52 = .ok (.aload_n 2, 1) := dk_44 (dk_at dksJ4_node_2 5 rfl rfl)
theorem dJ4_node_53 : decode cJ4_node 53 = .ok (.getfield 30, 3) := dk_180 0 30 (dk_at dksJ4_node_2 6 rfl rfl)
theorem dJ4_node_56 : decode cJ4_node 56 = .ok (.astore_n 2, 1) := dk_77 (dk_at dksJ4_node_2 9 rfl rfl)
theorem dJ4_node_57 : decode cJ4_node 57 = .ok (.iinc 3 (-1), 3) := dk_132 3 255 (dk_at dksJ4_node_2 10 rfl rfl)
theorem dJ4_node_60 : decode cJ4_node 60 = .ok (.goto (-13), 3) := dk_167 255 243 (dk_at dksJ4_node_2 13 rfl rfl)
theorem dJ4_node_63 : decode cJ4_node 63 = .ok (.aload_n 2, 1) := dk_44 (dk_at dksJ4_node_2 16 rfl rfl)
theorem dJ4_node_64 : decode cJ4_node 64 = .ok (.areturn, 1) := dk_176 (dk_at dksJ4_node_2 17 rfl rfl)
abbrev cJ4_size : ByteArray := prog_85_method_16_code
def yJ4_size : MethodName := ⟨RJ4, "size", "()I"⟩
theorem dJ4_size_0 : decode cJ4_size 0 = .ok (.aload_n 0, 1) := by decide +kernel
theorem dJ4_size_1 : decode cJ4_size 1 = .ok (.getfield 7, 3) := by decide +kernel
theorem dJ4_size_4 : decode cJ4_size 4 = .ok (.ireturn, 1) := by decide +kernel
abbrev cJ4_get : ByteArray := prog_85_method_22_code
def yJ4_get : MethodName := ⟨RJ4, "get", "(I)Ljava/lang/Object;"⟩
def dkwJ4_get_0 : List UInt8 := [42, 27, 182, 0, 90, 42, 27, 182, 0, 86, 180, 0, 39, 176]
abbrev dktJ4_get_0 : List UInt8 := dkwJ4_get_0 ++ []
theorem dksJ4_get_0 : cJ4_get.data.toList.drop 0 = dktJ4_get_0 := by decide +kernel
theorem dJ4_get_0 : decode cJ4_get 0 = .ok (.aload_n 0, 1) := dk_42 (dk_at dksJ4_get_0 0 rfl rfl)
theorem dJ4_get_1 : decode cJ4_get 1 = .ok (.iload_n 1, 1) := dk_27 (dk_at dksJ4_get_0 1 rfl rfl)
theorem dJ4_get_2 : decode cJ4_get 2 = .ok (.invokevirtual 90, 3) := dk_182 0 90 (dk_at dksJ4_get_0 2 rfl rfl)
theorem dJ4_get_5 : decode cJ4_get 5 = .ok (.aload_n 0, 1) := dk_42 (dk_at dksJ4_get_0 5 rfl rfl)
theorem dJ4_get_6 : decode cJ4_get 6 = .ok (.iload_n 1, 1) := dk_27 (dk_at dksJ4_get_0 6 rfl rfl)
theorem dJ4_get_7 : decode cJ4_get 7 = .ok (.invokevirtual 86, 3) := dk_182 0 86 (dk_at dksJ4_get_0 7 rfl rfl)
theorem dJ4_get_10 : decode cJ4_get 10 = .ok (.getfield 39, 3) := dk_180 0 39 (dk_at dksJ4_get_0 10 rfl rfl)
theorem dJ4_get_13 : decode cJ4_get 13 = .ok (.areturn, 1) := dk_176 (dk_at dksJ4_get_0 13 rfl rfl)
abbrev cJ4_checkElementIndex : ByteArray := prog_85_method_29_code
def yJ4_checkElementIndex : MethodName := ⟨RJ4, "checkElementIndex", "(I)V"⟩
def dkwJ4_checkElementIndex_0 : List UInt8 := [42, 27, 182, 0, 115, 154, 0, 16, 187, 0, 119, 89, 42, 27, 182, 0, 121, 183, 0, 125, 191, 177]
abbrev dktJ4_checkElementIndex_0 : List UInt8 := dkwJ4_checkElementIndex_0 ++ []
theorem dksJ4_checkElementIndex_0 : cJ4_checkElementIndex.data.toList.drop 0 = dktJ4_checkElementIndex_0 := by decide +kernel
theorem dJ4_checkElementIndex_0 : decode cJ4_checkElementIndex 0 = .ok (.aload_n 0, 1) := dk_42 (dk_at dksJ4_checkElementIndex_0 0 rfl rfl)
theorem dJ4_checkElementIndex_1 : decode cJ4_checkElementIndex 1 = .ok (.iload_n 1, 1) := dk_27 (dk_at dksJ4_checkElementIndex_0 1 rfl rfl)
theorem dJ4_checkElementIndex_2 : decode cJ4_checkElementIndex 2 = .ok (.invokevirtual 115, 3) := dk_182 0 115 (dk_at dksJ4_checkElementIndex_0 2 rfl rfl)
theorem dJ4_checkElementIndex_5 : decode cJ4_checkElementIndex 5 = .ok (.ifCond .ne 16, 3) := dk_154 0 16 (dk_at dksJ4_checkElementIndex_0 5 rfl rfl)
theorem dJ4_checkElementIndex_8 : decode cJ4_checkElementIndex 8 = .ok (.new 119, 3) := dk_187 0 119 (dk_at dksJ4_checkElementIndex_0 8 rfl rfl)
theorem dJ4_checkElementIndex_11 : decode cJ4_checkElementIndex 11 = .ok (.dup, 1) := dk_89 (dk_at dksJ4_checkElementIndex_0 11 rfl rfl)
theorem dJ4_checkElementIndex_12 : decode cJ4_checkElementIndex 12 = .ok (.aload_n 0, 1) := dk_42 (dk_at dksJ4_checkElementIndex_0 12 rfl rfl)
theorem dJ4_checkElementIndex_13 : decode cJ4_checkElementIndex 13 = .ok (.iload_n 1, 1) := dk_27 (dk_at dksJ4_checkElementIndex_0 13 rfl rfl)
theorem dJ4_checkElementIndex_14 : decode cJ4_checkElementIndex 14 = .ok (.invokevirtual 121, 3) := dk_182 0 121 (dk_at dksJ4_checkElementIndex_0 14 rfl rfl)
theorem dJ4_checkElementIndex_17 : decode cJ4_checkElementIndex 17 = .ok (.invokespecial 125, 3) := dk_183 0 125 (dk_at dksJ4_checkElementIndex_0 17 rfl rfl)
theorem dJ4_checkElementIndex_20 : decode cJ4_checkElementIndex 20 = .ok (.athrow, 1) := dk_191 (dk_at dksJ4_checkElementIndex_0 20 rfl rfl)
theorem dJ4_checkElementIndex_21 : decode cJ4_checkElementIndex 21 = .ok (.return_, 1) := dk_177 (dk_at dksJ4_checkElementIndex_0 21 rfl rfl)
abbrev cJ4_isElementIndex : ByteArray := prog_85_method_26_code
def yJ4_isElementIndex : MethodName := ⟨RJ4, "isElementIndex", "(I)Z"⟩
def dkwJ4_isElementIndex_0 : List UInt8 := [27, 155, 0, 15, 27, 42, 180, 0, 7, 162, 0, 7, 4, 167, 0, 4, 3, 172]
abbrev dktJ4_isElementIndex_0 : List UInt8 := dkwJ4_isElementIndex_0 ++ []
theorem dksJ4_isElementIndex_0 : cJ4_isElementIndex.data.toList.drop 0 = dktJ4_isElementIndex_0 := by decide +kernel
theorem dJ4_isElementIndex_0 : decode cJ4_isElementIndex 0 = .ok (.iload_n 1, 1) := dk_27 (dk_at dksJ4_isElementIndex_0 0 rfl rfl)
theorem dJ4_isElementIndex_1 : decode cJ4_isElementIndex 1 = .ok (.ifCond .lt 15, 3) := dk_155 0 15 (dk_at dksJ4_isElementIndex_0 1 rfl rfl)
theorem dJ4_isElementIndex_4 : decode cJ4_isElementIndex 4 = .ok (.iload_n 1, 1) := dk_27 (dk_at dksJ4_isElementIndex_0 4 rfl rfl)
theorem dJ4_isElementIndex_5 : decode cJ4_isElementIndex 5 = .ok (.aload_n 0, 1) := dk_42 (dk_at dksJ4_isElementIndex_0 5 rfl rfl)
theorem dJ4_isElementIndex_6 : decode cJ4_isElementIndex 6 = .ok (.getfield 7, 3) := dk_180 0 7 (dk_at dksJ4_isElementIndex_0 6 rfl rfl)
theorem dJ4_isElementIndex_9 : decode cJ4_isElementIndex 9 = .ok (.if_icmp .ge 7, 3) := dk_162 0 7 (dk_at dksJ4_isElementIndex_0 9 rfl rfl)
theorem dJ4_isElementIndex_12 : decode cJ4_isElementIndex 12 = .ok (.iconst 1, 1) := dk_4 (dk_at dksJ4_isElementIndex_0 12 rfl rfl)
theorem dJ4_isElementIndex_13 : decode cJ4_isElementIndex 13 = .ok (.goto 4, 3) := dk_167 0 4 (dk_at dksJ4_isElementIndex_0 13 rfl rfl)
theorem dJ4_isElementIndex_16 : decode cJ4_isElementIndex 16 = .ok (.iconst 0, 1) := dk_3 (dk_at dksJ4_isElementIndex_0 16 rfl rfl)
theorem dJ4_isElementIndex_17 : decode cJ4_isElementIndex 17 = .ok (.ireturn, 1) := dk_172 (dk_at dksJ4_isElementIndex_0 17 rfl rfl)
abbrev cJ4_addLast : ByteArray := prog_85_method_14_code
def yJ4_addLast : MethodName := ⟨RJ4, "addLast", "(Ljava/lang/Object;)V"⟩
def dkwJ4_addLast_0 : List UInt8 := [42, 43, 182, 0, 57, 177]
abbrev dktJ4_addLast_0 : List UInt8 := dkwJ4_addLast_0 ++ []
theorem dksJ4_addLast_0 : cJ4_addLast.data.toList.drop 0 = dktJ4_addLast_0 := by decide +kernel
theorem dJ4_addLast_0 : decode cJ4_addLast 0 = .ok (.aload_n 0, 1) := dk_42 (dk_at dksJ4_addLast_0 0 rfl rfl)
theorem dJ4_addLast_1 : decode cJ4_addLast 1 = .ok (.aload_n 1, 1) := dk_43 (dk_at dksJ4_addLast_0 1 rfl rfl)
theorem dJ4_addLast_2 : decode cJ4_addLast 2 = .ok (.invokevirtual 57, 3) := dk_182 0 57 (dk_at dksJ4_addLast_0 2 rfl rfl)
theorem dJ4_addLast_5 : decode cJ4_addLast 5 = .ok (.return_, 1) := dk_177 (dk_at dksJ4_addLast_0 5 rfl rfl)
abbrev cJ4_linkLast : ByteArray := prog_85_method_4_code
def yJ4_linkLast : MethodName := ⟨RJ4, "linkLast", "(Ljava/lang/Object;)V"⟩
def dkwJ4_linkLast_2 : List UInt8 := [181, 0, 7, 42, 89, 180, 0, 33, 4, 96, 181, 0, 33, 177]
abbrev dktJ4_linkLast_2 : List UInt8 := dkwJ4_linkLast_2 ++ []
def dkwJ4_linkLast_1 : List UInt8 := [199, 0, 11, 42, 45, 181, 0, 18, 167, 0, 8, 44, 45, 181, 0, 36, 42, 89, 180, 0, 7, 4, 96]
abbrev dktJ4_linkLast_1 : List UInt8 := dkwJ4_linkLast_1 ++ dktJ4_linkLast_2
def dkwJ4_linkLast_0 : List UInt8 := [42, 180, 0, 27, 77, 187, 0, 22, 89, 44, 43, 1, 183, 0, 24, 78, 42, 45, 181, 0, 27, 44]
abbrev dktJ4_linkLast_0 : List UInt8 := dkwJ4_linkLast_0 ++ dktJ4_linkLast_1
theorem dksJ4_linkLast_0 : cJ4_linkLast.data.toList.drop 0 = dktJ4_linkLast_0 := by decide +kernel
theorem dksJ4_linkLast_1 : cJ4_linkLast.data.toList.drop 22 = dktJ4_linkLast_1 := dk_seg dksJ4_linkLast_0 22 rfl rfl
theorem dksJ4_linkLast_2 : cJ4_linkLast.data.toList.drop 45 = dktJ4_linkLast_2 := dk_seg dksJ4_linkLast_1 23 rfl rfl
theorem dJ4_linkLast_0 : decode cJ4_linkLast 0 = .ok (.aload_n 0, 1) := dk_42 (dk_at dksJ4_linkLast_0 0 rfl rfl)
theorem dJ4_linkLast_1 : decode cJ4_linkLast 1 = .ok (.getfield 27, 3) := dk_180 0 27 (dk_at dksJ4_linkLast_0 1 rfl rfl)
theorem dJ4_linkLast_4 : decode cJ4_linkLast 4 = .ok (.astore_n 2, 1) := dk_77 (dk_at dksJ4_linkLast_0 4 rfl rfl)
theorem dJ4_linkLast_5 : decode cJ4_linkLast 5 = .ok (.new 22, 3) := dk_187 0 22 (dk_at dksJ4_linkLast_0 5 rfl rfl)
theorem dJ4_linkLast_8 : decode cJ4_linkLast 8 = .ok (.dup, 1) := dk_89 (dk_at dksJ4_linkLast_0 8 rfl rfl)
theorem dJ4_linkLast_9 : decode cJ4_linkLast 9 = .ok (.aload_n 2, 1) := dk_44 (dk_at dksJ4_linkLast_0 9 rfl rfl)
theorem dJ4_linkLast_10 : decode cJ4_linkLast 10 = .ok (.aload_n 1, 1) := dk_43 (dk_at dksJ4_linkLast_0 10 rfl rfl)
theorem dJ4_linkLast_11 : decode cJ4_linkLast 11 = .ok (.aconst_null, 1) := dk_1 (dk_at dksJ4_linkLast_0 11 rfl rfl)
theorem dJ4_linkLast_12 : decode cJ4_linkLast 12 = .ok (.invokespecial 24, 3) := dk_183 0 24 (dk_at dksJ4_linkLast_0 12 rfl rfl)
theorem dJ4_linkLast_15 : decode cJ4_linkLast 15 = .ok (.astore_n 3, 1) := dk_78 (dk_at dksJ4_linkLast_0 15 rfl rfl)
theorem dJ4_linkLast_16 : decode cJ4_linkLast 16 = .ok (.aload_n 0, 1) := dk_42 (dk_at dksJ4_linkLast_0 16 rfl rfl)
theorem dJ4_linkLast_17 : decode cJ4_linkLast 17 = .ok (.aload_n 3, 1) := dk_45 (dk_at dksJ4_linkLast_0 17 rfl rfl)
theorem dJ4_linkLast_18 : decode cJ4_linkLast 18 = .ok (.putfield 27, 3) := dk_181 0 27 (dk_at dksJ4_linkLast_0 18 rfl rfl)
theorem dJ4_linkLast_21 : decode cJ4_linkLast 21 = .ok (.aload_n 2, 1) := dk_44 (dk_at dksJ4_linkLast_0 21 rfl rfl)
theorem dJ4_linkLast_22 : decode cJ4_linkLast 22 = .ok (.ifnonnull 11, 3) := dk_199 0 11 (dk_at dksJ4_linkLast_1 0 rfl rfl)
theorem dJ4_linkLast_25 : decode cJ4_linkLast 25 = .ok (.aload_n 0, 1) := dk_42 (dk_at dksJ4_linkLast_1 3 rfl rfl)
theorem dJ4_linkLast_26 : decode cJ4_linkLast 26 = .ok (.aload_n 3, 1) := dk_45 (dk_at dksJ4_linkLast_1 4 rfl rfl)
theorem dJ4_linkLast_27 : decode cJ4_linkLast 27 = .ok (.putfield 18, 3) := dk_181 0 18 (dk_at dksJ4_linkLast_1 5 rfl rfl)
theorem dJ4_linkLast_30 : decode cJ4_linkLast 30 = .ok (.goto 8, 3) := dk_167 0 8 (dk_at dksJ4_linkLast_1 8 rfl rfl)
theorem dJ4_linkLast_33 : decode cJ4_linkLast 33 = .ok (.aload_n 2, 1) := dk_44 (dk_at dksJ4_linkLast_1 11 rfl rfl)
theorem dJ4_linkLast_34 : decode cJ4_linkLast 34 = .ok (.aload_n 3, 1) := dk_45 (dk_at dksJ4_linkLast_1 12 rfl rfl)
theorem dJ4_linkLast_35 : decode cJ4_linkLast 35 = .ok (.putfield 36, 3) := dk_181 0 36 (dk_at dksJ4_linkLast_1 13 rfl rfl)
theorem dJ4_linkLast_38 : decode cJ4_linkLast 38 = .ok (.aload_n 0, 1) := dk_42 (dk_at dksJ4_linkLast_1 16 rfl rfl)
theorem dJ4_linkLast_39 : decode cJ4_linkLast 39 = .ok (.dup, 1) := dk_89 (dk_at dksJ4_linkLast_1 17 rfl rfl)
theorem dJ4_linkLast_40 : decode cJ4_linkLast 40 = .ok (.getfield 7, 3) := dk_180 0 7 (dk_at dksJ4_linkLast_1 18 rfl rfl)
theorem dJ4_linkLast_43 : decode cJ4_linkLast 43 = .ok (.iconst 1, 1) := dk_4 (dk_at dksJ4_linkLast_1 21 rfl rfl)
theorem dJ4_linkLast_44 : decode cJ4_linkLast 44 = .ok (.iadd, 1) := dk_96 (dk_at dksJ4_linkLast_1 22 rfl rfl)
theorem dJ4_linkLast_45 : decode cJ4_linkLast 45 = .ok (.putfield 7, 3) := dk_181 0 7 (dk_at dksJ4_linkLast_2 0 rfl rfl)
theorem dJ4_linkLast_48 : decode cJ4_linkLast 48 = .ok (.aload_n 0, 1) := dk_42 (dk_at dksJ4_linkLast_2 3 rfl rfl)
theorem dJ4_linkLast_49 : decode cJ4_linkLast 49 = .ok (.dup, 1) := dk_89 (dk_at dksJ4_linkLast_2 4 rfl rfl)
theorem dJ4_linkLast_50 : decode cJ4_linkLast 50 = .ok (.getfield 33, 3) := dk_180 0 33 (dk_at dksJ4_linkLast_2 5 rfl rfl)
theorem dJ4_linkLast_53 : decode cJ4_linkLast 53 = .ok (.iconst 1, 1) := dk_4 (dk_at dksJ4_linkLast_2 8 rfl rfl)
theorem dJ4_linkLast_54 : decode cJ4_linkLast 54 = .ok (.iadd, 1) := dk_96 (dk_at dksJ4_linkLast_2 9 rfl rfl)
theorem dJ4_linkLast_55 : decode cJ4_linkLast 55 = .ok (.putfield 33, 3) := dk_181 0 33 (dk_at dksJ4_linkLast_2 10 rfl rfl)
theorem dJ4_linkLast_58 : decode cJ4_linkLast 58 = .ok (.return_, 1) := dk_177 (dk_at dksJ4_linkLast_2 13 rfl rfl)
abbrev cJ4_remove : ByteArray := prog_85_method_25_code
def yJ4_remove : MethodName := ⟨RJ4, "remove", "(I)Ljava/lang/Object;"⟩
def dkwJ4_remove_0 : List UInt8 := [42, 27, 182, 0, 90, 42, 42, 27, 182, 0, 86, 182, 0, 64, 176]
abbrev dktJ4_remove_0 : List UInt8 := dkwJ4_remove_0 ++ []
theorem dksJ4_remove_0 : cJ4_remove.data.toList.drop 0 = dktJ4_remove_0 := by decide +kernel
theorem dJ4_remove_0 : decode cJ4_remove 0 = .ok (.aload_n 0, 1) := dk_42 (dk_at dksJ4_remove_0 0 rfl rfl)
theorem dJ4_remove_1 : decode cJ4_remove 1 = .ok (.iload_n 1, 1) := dk_27 (dk_at dksJ4_remove_0 1 rfl rfl)
theorem dJ4_remove_2 : decode cJ4_remove 2 = .ok (.invokevirtual 90, 3) := dk_182 0 90 (dk_at dksJ4_remove_0 2 rfl rfl)
theorem dJ4_remove_5 : decode cJ4_remove 5 = .ok (.aload_n 0, 1) := dk_42 (dk_at dksJ4_remove_0 5 rfl rfl)
theorem dJ4_remove_6 : decode cJ4_remove 6 = .ok (.aload_n 0, 1) := dk_42 (dk_at dksJ4_remove_0 6 rfl rfl)
theorem dJ4_remove_7 : decode cJ4_remove 7 = .ok (.iload_n 1, 1) := dk_27 (dk_at dksJ4_remove_0 7 rfl rfl)
theorem dJ4_remove_8 : decode cJ4_remove 8 = .ok (.invokevirtual 86, 3) := dk_182 0 86 (dk_at dksJ4_remove_0 8 rfl rfl)
theorem dJ4_remove_11 : decode cJ4_remove 11 = .ok (.invokevirtual 64, 3) := dk_182 0 64 (dk_at dksJ4_remove_0 11 rfl rfl)
theorem dJ4_remove_14 : decode cJ4_remove 14 = .ok (.areturn, 1) := dk_176 (dk_at dksJ4_remove_0 14 rfl rfl)
abbrev cJ4_unlink : ByteArray := prog_85_method_8_code
def yJ4_unlink : MethodName := ⟨RJ4, "unlink", "(Ljava/util/LinkedList$Node;)Ljava/lang/Object;"⟩
def dkwJ4_unlink_3 : List UInt8 := [180, 0, 7, 4, 100, 181, 0, 7, 42, 89, 180, 0, 33, 4, 96, 181, 0, 33, 44, 176]
abbrev dktJ4_unlink_3 : List UInt8 := dkwJ4_unlink_3 ++ []
def dkwJ4_unlink_2 : List UInt8 := [181, 0, 27, 167, 0, 14, 45, 25, 4, 181, 0, 30, 43, 1, 181, 0, 36, 43, 1, 181, 0, 39, 42, 89]
abbrev dktJ4_unlink_2 : List UInt8 := dkwJ4_unlink_2 ++ dktJ4_unlink_3
def dkwJ4_unlink_1 : List UInt8 := [181, 0, 18, 167, 0, 14, 25, 4, 45, 181, 0, 36, 43, 1, 181, 0, 30, 45, 199, 0, 12, 42, 25, 4]
abbrev dktJ4_unlink_1 : List UInt8 := dkwJ4_unlink_1 ++ dktJ4_unlink_2
def dkwJ4_unlink_0 : List UInt8 := [43, 180, 0, 39, 77, 43, 180, 0, 36, 78, 43, 180, 0, 30, 58, 4, 25, 4, 199, 0, 11, 42, 45]
abbrev dktJ4_unlink_0 : List UInt8 := dkwJ4_unlink_0 ++ dktJ4_unlink_1
theorem dksJ4_unlink_0 : cJ4_unlink.data.toList.drop 0 = dktJ4_unlink_0 := by decide +kernel
theorem dksJ4_unlink_1 : cJ4_unlink.data.toList.drop 23 = dktJ4_unlink_1 := dk_seg dksJ4_unlink_0 23 rfl rfl
theorem dksJ4_unlink_2 : cJ4_unlink.data.toList.drop 47 = dktJ4_unlink_2 := dk_seg dksJ4_unlink_1 24 rfl rfl
theorem dksJ4_unlink_3 : cJ4_unlink.data.toList.drop 71 = dktJ4_unlink_3 := dk_seg dksJ4_unlink_2 24 rfl rfl
theorem dJ4_unlink_0 : decode cJ4_unlink 0 = .ok (.aload_n 1, 1) := dk_43 (dk_at dksJ4_unlink_0 0 rfl rfl)
theorem dJ4_unlink_1 : decode cJ4_unlink 1 = .ok (.getfield 39, 3) := dk_180 0 39 (dk_at dksJ4_unlink_0 1 rfl rfl)
theorem dJ4_unlink_4 : decode cJ4_unlink 4 = .ok (.astore_n 2, 1) := dk_77 (dk_at dksJ4_unlink_0 4 rfl rfl)
theorem dJ4_unlink_5 : decode cJ4_unlink 5 = .ok (.aload_n 1, 1) := dk_43 (dk_at dksJ4_unlink_0 5 rfl rfl)
theorem dJ4_unlink_6 : decode cJ4_unlink 6 = .ok (.getfield 36, 3) := dk_180 0 36 (dk_at dksJ4_unlink_0 6 rfl rfl)
theorem dJ4_unlink_9 : decode cJ4_unlink 9 = .ok (.astore_n 3, 1) := dk_78 (dk_at dksJ4_unlink_0 9 rfl rfl)
theorem dJ4_unlink_10 : decode cJ4_unlink 10 = .ok (.aload_n 1, 1) := dk_43 (dk_at dksJ4_unlink_0 10 rfl rfl)
theorem dJ4_unlink_11 : decode cJ4_unlink 11 = .ok (.getfield 30, 3) := dk_180 0 30 (dk_at dksJ4_unlink_0 11 rfl rfl)
theorem dJ4_unlink_14 : decode cJ4_unlink 14 = .ok (.astore 4, 2) := dk_58 4 (dk_at dksJ4_unlink_0 14 rfl rfl)
theorem dJ4_unlink_16 : decode cJ4_unlink 16 = .ok (.aload 4, 2) := dk_25 4 (dk_at dksJ4_unlink_0 16 rfl rfl)
theorem dJ4_unlink_18 : decode cJ4_unlink 18 = .ok (.ifnonnull 11, 3) := dk_199 0 11 (dk_at dksJ4_unlink_0 18 rfl rfl)
theorem dJ4_unlink_21 : decode cJ4_unlink 21 = .ok (.aload_n 0, 1) := dk_42 (dk_at dksJ4_unlink_0 21 rfl rfl)
theorem dJ4_unlink_22 : decode cJ4_unlink 22 = .ok (.aload_n 3, 1) := dk_45 (dk_at dksJ4_unlink_0 22 rfl rfl)
theorem dJ4_unlink_23 : decode cJ4_unlink 23 = .ok (.putfield 18, 3) := dk_181 0 18 (dk_at dksJ4_unlink_1 0 rfl rfl)
theorem dJ4_unlink_26 : decode cJ4_unlink 26 = .ok (.goto 14, 3) := dk_167 0 14 (dk_at dksJ4_unlink_1 3 rfl rfl)
theorem dJ4_unlink_29 : decode cJ4_unlink 29 = .ok (.aload 4, 2) := dk_25 4 (dk_at dksJ4_unlink_1 6 rfl rfl)
theorem dJ4_unlink_31 : decode cJ4_unlink 31 = .ok (.aload_n 3, 1) := dk_45 (dk_at dksJ4_unlink_1 8 rfl rfl)
theorem dJ4_unlink_32 : decode cJ4_unlink 32 = .ok (.putfield 36, 3) := dk_181 0 36 (dk_at dksJ4_unlink_1 9 rfl rfl)
theorem dJ4_unlink_35 : decode cJ4_unlink 35 = .ok (.aload_n 1, 1) := dk_43 (dk_at dksJ4_unlink_1 12 rfl rfl)
theorem dJ4_unlink_36 : decode cJ4_unlink 36 = .ok (.aconst_null, 1) := dk_1 (dk_at dksJ4_unlink_1 13 rfl rfl)
theorem dJ4_unlink_37 : decode cJ4_unlink 37 = .ok (.putfield 30, 3) := dk_181 0 30 (dk_at dksJ4_unlink_1 14 rfl rfl)
theorem dJ4_unlink_40 : decode cJ4_unlink 40 = .ok (.aload_n 3, 1) := dk_45 (dk_at dksJ4_unlink_1 17 rfl rfl)
theorem dJ4_unlink_41 : decode cJ4_unlink 41 = .ok (.ifnonnull 12, 3) := dk_199 0 12 (dk_at dksJ4_unlink_1 18 rfl rfl)
theorem dJ4_unlink_44 : decode cJ4_unlink 44 = .ok (.aload_n 0, 1) := dk_42 (dk_at dksJ4_unlink_1 21 rfl rfl)
theorem dJ4_unlink_45 : decode cJ4_unlink 45 = .ok (.aload 4, 2) := dk_25 4 (dk_at dksJ4_unlink_1 22 rfl rfl)
theorem dJ4_unlink_47 : decode cJ4_unlink 47 = .ok (.putfield 27, 3) := dk_181 0 27 (dk_at dksJ4_unlink_2 0 rfl rfl)
theorem dJ4_unlink_50 : decode cJ4_unlink 50 = .ok (.goto 14, 3) := dk_167 0 14 (dk_at dksJ4_unlink_2 3 rfl rfl)
theorem dJ4_unlink_53 : decode cJ4_unlink 53 = .ok (.aload_n 3, 1) := dk_45 (dk_at dksJ4_unlink_2 6 rfl rfl)
theorem dJ4_unlink_54 : decode cJ4_unlink 54 = .ok (.aload 4, 2) := dk_25 4 (dk_at dksJ4_unlink_2 7 rfl rfl)
theorem dJ4_unlink_56 : decode cJ4_unlink 56 = .ok (.putfield 30, 3) := dk_181 0 30 (dk_at dksJ4_unlink_2 9 rfl rfl)
theorem dJ4_unlink_59 : decode cJ4_unlink 59 = .ok (.aload_n 1, 1) := dk_43 (dk_at dksJ4_unlink_2 12 rfl rfl)
theorem dJ4_unlink_60 : decode cJ4_unlink 60 = .ok (.aconst_null, 1) := dk_1 (dk_at dksJ4_unlink_2 13 rfl rfl)
theorem dJ4_unlink_61 : decode cJ4_unlink 61 = .ok (.putfield 36, 3) := dk_181 0 36 (dk_at dksJ4_unlink_2 14 rfl rfl)
theorem dJ4_unlink_64 : decode cJ4_unlink 64 = .ok (.aload_n 1, 1) := dk_43 (dk_at dksJ4_unlink_2 17 rfl rfl)
theorem dJ4_unlink_65 : decode cJ4_unlink 65 = .ok (.aconst_null, 1) := dk_1 (dk_at dksJ4_unlink_2 18 rfl rfl)
theorem dJ4_unlink_66 : decode cJ4_unlink 66 = .ok (.putfield 39, 3) := dk_181 0 39 (dk_at dksJ4_unlink_2 19 rfl rfl)
theorem dJ4_unlink_69 : decode cJ4_unlink 69 = .ok (.aload_n 0, 1) := dk_42 (dk_at dksJ4_unlink_2 22 rfl rfl)
theorem dJ4_unlink_70 : decode cJ4_unlink 70 = .ok (.dup, 1) := dk_89 (dk_at dksJ4_unlink_2 23 rfl rfl)
theorem dJ4_unlink_71 : decode cJ4_unlink 71 = .ok (.getfield 7, 3) := dk_180 0 7 (dk_at dksJ4_unlink_3 0 rfl rfl)
theorem dJ4_unlink_74 : decode cJ4_unlink 74 = .ok (.iconst 1, 1) := dk_4 (dk_at dksJ4_unlink_3 3 rfl rfl)
theorem dJ4_unlink_75 : decode cJ4_unlink 75 = .ok (.isub, 1) := dk_100 (dk_at dksJ4_unlink_3 4 rfl rfl)
theorem dJ4_unlink_76 : decode cJ4_unlink 76 = .ok (.putfield 7, 3) := dk_181 0 7 (dk_at dksJ4_unlink_3 5 rfl rfl)
theorem dJ4_unlink_79 : decode cJ4_unlink 79 = .ok (.aload_n 0, 1) := dk_42 (dk_at dksJ4_unlink_3 8 rfl rfl)
theorem dJ4_unlink_80 : decode cJ4_unlink 80 = .ok (.dup, 1) := dk_89 (dk_at dksJ4_unlink_3 9 rfl rfl)
theorem dJ4_unlink_81 : decode cJ4_unlink 81 = .ok (.getfield 33, 3) := dk_180 0 33 (dk_at dksJ4_unlink_3 10 rfl rfl)
theorem dJ4_unlink_84 : decode cJ4_unlink 84 = .ok (.iconst 1, 1) := dk_4 (dk_at dksJ4_unlink_3 13 rfl rfl)
theorem dJ4_unlink_85 : decode cJ4_unlink 85 = .ok (.iadd, 1) := dk_96 (dk_at dksJ4_unlink_3 14 rfl rfl)
theorem dJ4_unlink_86 : decode cJ4_unlink 86 = .ok (.putfield 33, 3) := dk_181 0 33 (dk_at dksJ4_unlink_3 15 rfl rfl)
theorem dJ4_unlink_89 : decode cJ4_unlink 89 = .ok (.aload_n 2, 1) := dk_44 (dk_at dksJ4_unlink_3 18 rfl rfl)
theorem dJ4_unlink_90 : decode cJ4_unlink 90 = .ok (.areturn, 1) := dk_176 (dk_at dksJ4_unlink_3 19 rfl rfl)
abbrev cJ4_removeFirst : ByteArray := prog_85_method_11_code
def yJ4_removeFirst : MethodName := ⟨RJ4, "removeFirst", "()Ljava/lang/Object;"⟩
def dkwJ4_removeFirst_0 : List UInt8 := [42, 180, 0, 18, 76, 43, 199, 0, 11, 187, 0, 43, 89, 183, 0, 45, 191, 42, 43, 182, 0, 46, 176]
abbrev dktJ4_removeFirst_0 : List UInt8 := dkwJ4_removeFirst_0 ++ []
theorem dksJ4_removeFirst_0 : cJ4_removeFirst.data.toList.drop 0 = dktJ4_removeFirst_0 := by decide +kernel
theorem dJ4_removeFirst_0 : decode cJ4_removeFirst 0 = .ok (.aload_n 0, 1) := dk_42 (dk_at dksJ4_removeFirst_0 0 rfl rfl)
theorem dJ4_removeFirst_1 : decode cJ4_removeFirst 1 = .ok (.getfield 18, 3) := dk_180 0 18 (dk_at dksJ4_removeFirst_0 1 rfl rfl)
theorem dJ4_removeFirst_4 : decode cJ4_removeFirst 4 = .ok (.astore_n 1, 1) := dk_76 (dk_at dksJ4_removeFirst_0 4 rfl rfl)
theorem dJ4_removeFirst_5 : decode cJ4_removeFirst 5 = .ok (.aload_n 1, 1) := dk_43 (dk_at dksJ4_removeFirst_0 5 rfl rfl)
theorem dJ4_removeFirst_6 : decode cJ4_removeFirst 6 = .ok (.ifnonnull 11, 3) := dk_199 0 11 (dk_at dksJ4_removeFirst_0 6 rfl rfl)
theorem dJ4_removeFirst_9 : decode cJ4_removeFirst 9 = .ok (.new 43, 3) := dk_187 0 43 (dk_at dksJ4_removeFirst_0 9 rfl rfl)
theorem dJ4_removeFirst_12 : decode cJ4_removeFirst 12 = .ok (.dup, 1) := dk_89 (dk_at dksJ4_removeFirst_0 12 rfl rfl)
theorem dJ4_removeFirst_13 : decode cJ4_removeFirst 13 = .ok (.invokespecial 45, 3) := dk_183 0 45 (dk_at dksJ4_removeFirst_0 13 rfl rfl)
theorem dJ4_removeFirst_16 : decode cJ4_removeFirst 16 = .ok (.athrow, 1) := dk_191 (dk_at dksJ4_removeFirst_0 16 rfl rfl)
theorem dJ4_removeFirst_17 : decode cJ4_removeFirst 17 = .ok (.aload_n 0, 1) := dk_42 (dk_at dksJ4_removeFirst_0 17 rfl rfl)
theorem dJ4_removeFirst_18 : decode cJ4_removeFirst 18 = .ok (.aload_n 1, 1) := dk_43 (dk_at dksJ4_removeFirst_0 18 rfl rfl)
theorem dJ4_removeFirst_19 : decode cJ4_removeFirst 19 = .ok (.invokevirtual 46, 3) := dk_182 0 46 (dk_at dksJ4_removeFirst_0 19 rfl rfl)
theorem dJ4_removeFirst_22 : decode cJ4_removeFirst 22 = .ok (.areturn, 1) := dk_176 (dk_at dksJ4_removeFirst_0 22 rfl rfl)
abbrev cJ4_unlinkFirst : ByteArray := prog_85_method_6_code
def yJ4_unlinkFirst : MethodName := ⟨RJ4, "unlinkFirst", "(Ljava/util/LinkedList$Node;)Ljava/lang/Object;"⟩
def dkwJ4_unlinkFirst_2 : List UInt8 := [180, 0, 7, 4, 100, 181, 0, 7, 42, 89, 180, 0, 33, 4, 96, 181, 0, 33, 44, 176]
abbrev dktJ4_unlinkFirst_2 : List UInt8 := dkwJ4_unlinkFirst_2 ++ []
def dkwJ4_unlinkFirst_1 : List UInt8 := [181, 0, 18, 45, 199, 0, 11, 42, 1, 181, 0, 27, 167, 0, 8, 45, 1, 181, 0, 30, 42, 89]
abbrev dktJ4_unlinkFirst_1 : List UInt8 := dkwJ4_unlinkFirst_1 ++ dktJ4_unlinkFirst_2
def dkwJ4_unlinkFirst_0 : List UInt8 := [43, 180, 0, 39, 77, 43, 180, 0, 36, 78, 43, 1, 181, 0, 39, 43, 1, 181, 0, 36, 42, 45]
abbrev dktJ4_unlinkFirst_0 : List UInt8 := dkwJ4_unlinkFirst_0 ++ dktJ4_unlinkFirst_1
theorem dksJ4_unlinkFirst_0 : cJ4_unlinkFirst.data.toList.drop 0 = dktJ4_unlinkFirst_0 := by decide +kernel
theorem dksJ4_unlinkFirst_1 : cJ4_unlinkFirst.data.toList.drop 22 = dktJ4_unlinkFirst_1 := dk_seg dksJ4_unlinkFirst_0 22 rfl rfl
theorem dksJ4_unlinkFirst_2 : cJ4_unlinkFirst.data.toList.drop 44 = dktJ4_unlinkFirst_2 := dk_seg dksJ4_unlinkFirst_1 22 rfl rfl
theorem dJ4_unlinkFirst_0 : decode cJ4_unlinkFirst 0 = .ok (.aload_n 1, 1) := dk_43 (dk_at dksJ4_unlinkFirst_0 0 rfl rfl)
theorem dJ4_unlinkFirst_1 : decode cJ4_unlinkFirst 1 = .ok (.getfield 39, 3) := dk_180 0 39 (dk_at dksJ4_unlinkFirst_0 1 rfl rfl)
theorem dJ4_unlinkFirst_4 : decode cJ4_unlinkFirst 4 = .ok (.astore_n 2, 1) := dk_77 (dk_at dksJ4_unlinkFirst_0 4 rfl rfl)
theorem dJ4_unlinkFirst_5 : decode cJ4_unlinkFirst 5 = .ok (.aload_n 1, 1) := dk_43 (dk_at dksJ4_unlinkFirst_0 5 rfl rfl)
theorem dJ4_unlinkFirst_6 : decode cJ4_unlinkFirst 6 = .ok (.getfield 36, 3) := dk_180 0 36 (dk_at dksJ4_unlinkFirst_0 6 rfl rfl)
theorem dJ4_unlinkFirst_9 : decode cJ4_unlinkFirst 9 = .ok (.astore_n 3, 1) := dk_78 (dk_at dksJ4_unlinkFirst_0 9 rfl rfl)
theorem dJ4_unlinkFirst_10 : decode cJ4_unlinkFirst 10 = .ok (.aload_n 1, 1) := dk_43 (dk_at dksJ4_unlinkFirst_0 10 rfl rfl)
theorem dJ4_unlinkFirst_11 : decode cJ4_unlinkFirst 11 = .ok (.aconst_null, 1) := dk_1 (dk_at dksJ4_unlinkFirst_0 11 rfl rfl)
theorem dJ4_unlinkFirst_12 : decode cJ4_unlinkFirst 12 = .ok (.putfield 39, 3) := dk_181 0 39 (dk_at dksJ4_unlinkFirst_0 12 rfl rfl)
theorem dJ4_unlinkFirst_15 : decode cJ4_unlinkFirst 15 = .ok (.aload_n 1, 1) := dk_43 (dk_at dksJ4_unlinkFirst_0 15 rfl rfl)
theorem dJ4_unlinkFirst_16 : decode cJ4_unlinkFirst 16 = .ok (.aconst_null, 1) := dk_1 (dk_at dksJ4_unlinkFirst_0 16 rfl rfl)
theorem dJ4_unlinkFirst_17 : decode cJ4_unlinkFirst 17 = .ok (.putfield 36, 3) := dk_181 0 36 (dk_at dksJ4_unlinkFirst_0 17 rfl rfl)
theorem dJ4_unlinkFirst_20 : decode cJ4_unlinkFirst 20 = .ok (.aload_n 0, 1) := dk_42 (dk_at dksJ4_unlinkFirst_0 20 rfl rfl)
theorem dJ4_unlinkFirst_21 : decode cJ4_unlinkFirst 21 = .ok (.aload_n 3, 1) := dk_45 (dk_at dksJ4_unlinkFirst_0 21 rfl rfl)
theorem dJ4_unlinkFirst_22 : decode cJ4_unlinkFirst 22 = .ok (.putfield 18, 3) := dk_181 0 18 (dk_at dksJ4_unlinkFirst_1 0 rfl rfl)
theorem dJ4_unlinkFirst_25 : decode cJ4_unlinkFirst 25 = .ok (.aload_n 3, 1) := dk_45 (dk_at dksJ4_unlinkFirst_1 3 rfl rfl)
theorem dJ4_unlinkFirst_26 : decode cJ4_unlinkFirst 26 = .ok (.ifnonnull 11, 3) := dk_199 0 11 (dk_at dksJ4_unlinkFirst_1 4 rfl rfl)
theorem dJ4_unlinkFirst_29 : decode cJ4_unlinkFirst 29 = .ok (.aload_n 0, 1) := dk_42 (dk_at dksJ4_unlinkFirst_1 7 rfl rfl)
theorem dJ4_unlinkFirst_30 : decode cJ4_unlinkFirst 30 = .ok (.aconst_null, 1) := dk_1 (dk_at dksJ4_unlinkFirst_1 8 rfl rfl)
theorem dJ4_unlinkFirst_31 : decode cJ4_unlinkFirst 31 = .ok (.putfield 27, 3) := dk_181 0 27 (dk_at dksJ4_unlinkFirst_1 9 rfl rfl)
theorem dJ4_unlinkFirst_34 : decode cJ4_unlinkFirst 34 = .ok (.goto 8, 3) := dk_167 0 8 (dk_at dksJ4_unlinkFirst_1 12 rfl rfl)
theorem dJ4_unlinkFirst_37 : decode cJ4_unlinkFirst 37 = .ok (.aload_n 3, 1) := dk_45 (dk_at dksJ4_unlinkFirst_1 15 rfl rfl)
theorem dJ4_unlinkFirst_38 : decode cJ4_unlinkFirst 38 = .ok (.aconst_null, 1) := dk_1 (dk_at dksJ4_unlinkFirst_1 16 rfl rfl)
theorem dJ4_unlinkFirst_39 : decode cJ4_unlinkFirst 39 = .ok (.putfield 30, 3) := dk_181 0 30 (dk_at dksJ4_unlinkFirst_1 17 rfl rfl)
theorem dJ4_unlinkFirst_42 : decode cJ4_unlinkFirst 42 = .ok (.aload_n 0, 1) := dk_42 (dk_at dksJ4_unlinkFirst_1 20 rfl rfl)
theorem dJ4_unlinkFirst_43 : decode cJ4_unlinkFirst 43 = .ok (.dup, 1) := dk_89 (dk_at dksJ4_unlinkFirst_1 21 rfl rfl)
theorem dJ4_unlinkFirst_44 : decode cJ4_unlinkFirst 44 = .ok (.getfield 7, 3) := dk_180 0 7 (dk_at dksJ4_unlinkFirst_2 0 rfl rfl)
theorem dJ4_unlinkFirst_47 : decode cJ4_unlinkFirst 47 = .ok (.iconst 1, 1) := dk_4 (dk_at dksJ4_unlinkFirst_2 3 rfl rfl)
theorem dJ4_unlinkFirst_48 : decode cJ4_unlinkFirst 48 = .ok (.isub, 1) := dk_100 (dk_at dksJ4_unlinkFirst_2 4 rfl rfl)
theorem dJ4_unlinkFirst_49 : decode cJ4_unlinkFirst 49 = .ok (.putfield 7, 3) := dk_181 0 7 (dk_at dksJ4_unlinkFirst_2 5 rfl rfl)
theorem dJ4_unlinkFirst_52 : decode cJ4_unlinkFirst 52 = .ok (.aload_n 0, 1) := dk_42 (dk_at dksJ4_unlinkFirst_2 8 rfl rfl)
theorem dJ4_unlinkFirst_53 : decode cJ4_unlinkFirst 53 = .ok (.dup, 1) := dk_89 (dk_at dksJ4_unlinkFirst_2 9 rfl rfl)
theorem dJ4_unlinkFirst_54 : decode cJ4_unlinkFirst 54 = .ok (.getfield 33, 3) := dk_180 0 33 (dk_at dksJ4_unlinkFirst_2 10 rfl rfl)
theorem dJ4_unlinkFirst_57 : decode cJ4_unlinkFirst 57 = .ok (.iconst 1, 1) := dk_4 (dk_at dksJ4_unlinkFirst_2 13 rfl rfl)
theorem dJ4_unlinkFirst_58 : decode cJ4_unlinkFirst 58 = .ok (.iadd, 1) := dk_96 (dk_at dksJ4_unlinkFirst_2 14 rfl rfl)
theorem dJ4_unlinkFirst_59 : decode cJ4_unlinkFirst 59 = .ok (.putfield 33, 3) := dk_181 0 33 (dk_at dksJ4_unlinkFirst_2 15 rfl rfl)
theorem dJ4_unlinkFirst_62 : decode cJ4_unlinkFirst 62 = .ok (.aload_n 2, 1) := dk_44 (dk_at dksJ4_unlinkFirst_2 18 rfl rfl)
theorem dJ4_unlinkFirst_63 : decode cJ4_unlinkFirst 63 = .ok (.areturn, 1) := dk_176 (dk_at dksJ4_unlinkFirst_2 19 rfl rfl)
theorem q90 : (Jvm.Cond.initialized "java/util/LinkedList") ∈ lw_all := lw_g (lw_at lw_m1 7 rfl) rfl
theorem q198 : (Jvm.Cond.sameField "java/util/LinkedList" "java/util/AbstractList" "modCount" "I") ∈ lw_all := lw_g (lw_at lw_m1 115 rfl) rfl
theorem q202 : (Jvm.Cond.fieldLink "java/util/LinkedList" (33 : Nat) "java/util/LinkedList" "modCount" "I") ∈ lw_all := lw_g (lw_at lw_m1 119 rfl) rfl
theorem q213 : (Jvm.Cond.instantiable "java/util/LinkedList" (4 : Nat)) ∈ lw_all := lw_g (lw_at lw_m1 130 rfl) rfl
theorem q215 : (Jvm.Cond.instanceMethod ({ cls := "java/util/LinkedList", name := "<init>", desc := "()V" } : Jvm.MethodName)) ∈ lw_all := lw_g (lw_at lw_m1 132 rfl) rfl
theorem q216 : (Jvm.Cond.code ({ cls := "java/util/LinkedList", name := "<init>", desc := "()V" } : Jvm.MethodName) prog_85_method_1_code (1 : Nat) (Option.none : Option Jvm.ClassFile.FieldType)) ∈ lw_all := lw_g (lw_at lw_m1 133 rfl) rfl
theorem q217 : (Jvm.Cond.methodLink "java/util/LinkedList" (1 : Nat) ({ cls := "java/util/AbstractSequentialList", name := "<init>", desc := "()V" } : Jvm.MethodName)) ∈ lw_all := lw_g (lw_at lw_m1 134 rfl) rfl
theorem q221 : (Jvm.Cond.fieldLink "java/util/LinkedList" (7 : Nat) "java/util/LinkedList" "size" "I") ∈ lw_all := lw_g (lw_at lw_m1 138 rfl) rfl
theorem q223 : (Jvm.Cond.fieldLink "java/util/LinkedList" (18 : Nat) "java/util/LinkedList" "first" "Ljava/util/LinkedList$Node;") ∈ lw_all := lw_g (lw_at lw_m1 140 rfl) rfl
theorem q224 : (Jvm.Cond.fieldLink "java/util/LinkedList" (27 : Nat) "java/util/LinkedList" "last" "Ljava/util/LinkedList$Node;") ∈ lw_all := lw_g (lw_at lw_m1 141 rfl) rfl
theorem q225 : (Jvm.Cond.lays "java/util/LinkedList" "java/util/LinkedList" "size" "I") ∈ lw_all := lw_g (lw_at lw_m1 142 rfl) rfl
theorem q226 : (Jvm.Cond.soleField "java/util/LinkedList" "size") ∈ lw_all := lw_g (lw_at lw_m1 143 rfl) rfl
theorem q227 : (Jvm.Cond.lays "java/util/LinkedList" "java/util/LinkedList" "first" "Ljava/util/LinkedList$Node;") ∈ lw_all := lw_g (lw_at lw_m1 144 rfl) rfl
theorem q228 : (Jvm.Cond.soleField "java/util/LinkedList" "first") ∈ lw_all := lw_g (lw_at lw_m1 145 rfl) rfl
theorem q229 : (Jvm.Cond.lays "java/util/LinkedList" "java/util/LinkedList" "last" "Ljava/util/LinkedList$Node;") ∈ lw_all := lw_g (lw_at lw_m1 146 rfl) rfl
theorem q230 : (Jvm.Cond.soleField "java/util/LinkedList" "last") ∈ lw_all := lw_g (lw_at lw_m1 147 rfl) rfl
theorem q231 : (Jvm.Cond.lays "java/util/LinkedList" "java/util/AbstractList" "modCount" "I") ∈ lw_all := lw_g (lw_at lw_m1 148 rfl) rfl
theorem q232 : (Jvm.Cond.superclass "java/util/LinkedList" "java/util/AbstractSequentialList") ∈ lw_all := lw_g (lw_at lw_m1 149 rfl) rfl
theorem q591 : (Jvm.Cond.selects "java/util/LinkedList" ({ cls := "java/lang/Object", name := "getClass", desc := "()Ljava/lang/Class;" } : Jvm.MethodName) ({ cls := "java/lang/Object", name := "getClass", desc := "()Ljava/lang/Class;" } : Jvm.MethodName)) ∈ lw_all := lw_g (lw_at lw_m3 28 rfl) rfl
theorem q646 : (Jvm.Cond.sameMethod "java/util/LinkedList" "java/util/AbstractSequentialList" "iterator" "()Ljava/util/Iterator;") ∈ lw_all := lw_g (lw_at lw_m3 83 rfl) rfl
theorem q648 : (Jvm.Cond.selects "java/util/LinkedList" ({ cls := "java/util/LinkedList", name := "iterator", desc := "()Ljava/util/Iterator;" } : Jvm.MethodName) ({ cls := "java/util/AbstractSequentialList", name := "iterator", desc := "()Ljava/util/Iterator;" } : Jvm.MethodName)) ∈ lw_all := lw_g (lw_at lw_m3 85 rfl) rfl
theorem q654 : (Jvm.Cond.selects "java/util/LinkedList" ({ cls := "java/util/AbstractSequentialList", name := "listIterator", desc := "()Ljava/util/ListIterator;" } : Jvm.MethodName) ({ cls := "java/util/AbstractList", name := "listIterator", desc := "()Ljava/util/ListIterator;" } : Jvm.MethodName)) ∈ lw_all := lw_g (lw_at lw_m3 91 rfl) rfl
theorem q694 : (Jvm.Cond.selects "java/util/LinkedList" ({ cls := "java/util/AbstractList", name := "listIterator", desc := "(I)Ljava/util/ListIterator;" } : Jvm.MethodName) ({ cls := "java/util/LinkedList", name := "listIterator", desc := "(I)Ljava/util/ListIterator;" } : Jvm.MethodName)) ∈ lw_all := lw_g (lw_at lw_m3 131 rfl) rfl
theorem q695 : (Jvm.Cond.instanceMethod ({ cls := "java/util/LinkedList", name := "listIterator", desc := "(I)Ljava/util/ListIterator;" } : Jvm.MethodName)) ∈ lw_all := lw_g (lw_at lw_m3 132 rfl) rfl
theorem q696 : (Jvm.Cond.code ({ cls := "java/util/LinkedList", name := "listIterator", desc := "(I)Ljava/util/ListIterator;" } : Jvm.MethodName) prog_85_method_49_code (2 : Nat) (Option.some (Jvm.ClassFile.FieldType.object "java/util/ListIterator"))) ∈ lw_all := lw_g (lw_at lw_m3 133 rfl) rfl
theorem q697 : (Jvm.Cond.methodLink "java/util/LinkedList" (76 : Nat) ({ cls := "java/util/LinkedList", name := "checkPositionIndex", desc := "(I)V" } : Jvm.MethodName)) ∈ lw_all := lw_g (lw_at lw_m3 134 rfl) rfl
theorem q698 : (Jvm.Cond.privateMethod ({ cls := "java/util/LinkedList", name := "checkPositionIndex", desc := "(I)V" } : Jvm.MethodName)) ∈ lw_tbl := lw_at lw_m3 135 rfl
theorem q699 : (Jvm.Cond.instanceMethod ({ cls := "java/util/LinkedList", name := "checkPositionIndex", desc := "(I)V" } : Jvm.MethodName)) ∈ lw_all := lw_g (lw_at lw_m3 136 rfl) rfl
theorem q700 : (Jvm.Cond.code ({ cls := "java/util/LinkedList", name := "checkPositionIndex", desc := "(I)V" } : Jvm.MethodName) prog_85_method_30_code (2 : Nat) (Option.none : Option Jvm.ClassFile.FieldType)) ∈ lw_all := lw_g (lw_at lw_m3 137 rfl) rfl
theorem q701 : (Jvm.Cond.methodLink "java/util/LinkedList" (128 : Nat) ({ cls := "java/util/LinkedList", name := "isPositionIndex", desc := "(I)Z" } : Jvm.MethodName)) ∈ lw_all := lw_g (lw_at lw_m3 138 rfl) rfl
theorem q702 : (Jvm.Cond.privateMethod ({ cls := "java/util/LinkedList", name := "isPositionIndex", desc := "(I)Z" } : Jvm.MethodName)) ∈ lw_tbl := lw_at lw_m3 139 rfl
theorem q703 : (Jvm.Cond.instanceMethod ({ cls := "java/util/LinkedList", name := "isPositionIndex", desc := "(I)Z" } : Jvm.MethodName)) ∈ lw_all := lw_g (lw_at lw_m3 140 rfl) rfl
theorem q704 : (Jvm.Cond.code ({ cls := "java/util/LinkedList", name := "isPositionIndex", desc := "(I)Z" } : Jvm.MethodName) prog_85_method_27_code (2 : Nat) (Option.some Jvm.ClassFile.FieldType.boolean)) ∈ lw_all := lw_g (lw_at lw_m3 141 rfl) rfl
theorem q705 : (Jvm.Cond.classLink "java/util/LinkedList" (150 : Nat) "java/util/LinkedList$ListItr") ∈ lw_all := lw_g (lw_at lw_m3 142 rfl) rfl
theorem q707 : (Jvm.Cond.methodLink "java/util/LinkedList" (152 : Nat) ({ cls := "java/util/LinkedList$ListItr", name := "<init>", desc := "(Ljava/util/LinkedList;I)V" } : Jvm.MethodName)) ∈ lw_all := lw_g (lw_at lw_m3 144 rfl) rfl
theorem q712 : (Jvm.Cond.instanceMethod ({ cls := "java/util/LinkedList", name := "node", desc := "(I)Ljava/util/LinkedList$Node;" } : Jvm.MethodName)) ∈ lw_all := lw_g (lw_at lw_m3 149 rfl) rfl
theorem q713 : (Jvm.Cond.selects "java/util/LinkedList" ({ cls := "java/util/LinkedList", name := "node", desc := "(I)Ljava/util/LinkedList$Node;" } : Jvm.MethodName) ({ cls := "java/util/LinkedList", name := "node", desc := "(I)Ljava/util/LinkedList$Node;" } : Jvm.MethodName)) ∈ lw_all := lw_g (lw_at lw_m3 150 rfl) rfl
theorem q714 : (Jvm.Cond.code ({ cls := "java/util/LinkedList", name := "node", desc := "(I)Ljava/util/LinkedList$Node;" } : Jvm.MethodName) prog_85_method_31_code (4 : Nat) (Option.some (Jvm.ClassFile.FieldType.object "java/util/LinkedList$Node"))) ∈ lw_all := lw_g (lw_at lw_m3 151 rfl) rfl
theorem q746 : (Jvm.Cond.selects "java/util/LinkedList" ({ cls := "java/util/AbstractList", name := "size", desc := "()I" } : Jvm.MethodName) ({ cls := "java/util/LinkedList", name := "size", desc := "()I" } : Jvm.MethodName)) ∈ lw_all := lw_g (lw_at lw_m3 183 rfl) rfl
theorem q747 : (Jvm.Cond.instanceMethod ({ cls := "java/util/LinkedList", name := "size", desc := "()I" } : Jvm.MethodName)) ∈ lw_all := lw_g (lw_at lw_m3 184 rfl) rfl
theorem q748 : (Jvm.Cond.code ({ cls := "java/util/LinkedList", name := "size", desc := "()I" } : Jvm.MethodName) prog_85_method_16_code (1 : Nat) (Option.some Jvm.ClassFile.FieldType.int)) ∈ lw_all := lw_g (lw_at lw_m3 185 rfl) rfl
theorem q802 : (Jvm.Cond.selects "java/util/LinkedList" ({ cls := "java/util/AbstractList", name := "get", desc := "(I)Ljava/lang/Object;" } : Jvm.MethodName) ({ cls := "java/util/LinkedList", name := "get", desc := "(I)Ljava/lang/Object;" } : Jvm.MethodName)) ∈ lw_all := lw_g (lw_at lw_m3 239 rfl) rfl
theorem q803 : (Jvm.Cond.instanceMethod ({ cls := "java/util/LinkedList", name := "get", desc := "(I)Ljava/lang/Object;" } : Jvm.MethodName)) ∈ lw_all := lw_g (lw_at lw_m4 0 rfl) rfl
theorem q804 : (Jvm.Cond.code ({ cls := "java/util/LinkedList", name := "get", desc := "(I)Ljava/lang/Object;" } : Jvm.MethodName) prog_85_method_22_code (2 : Nat) (Option.some (Jvm.ClassFile.FieldType.object "java/lang/Object"))) ∈ lw_all := lw_g (lw_at lw_m4 1 rfl) rfl
theorem q805 : (Jvm.Cond.methodLink "java/util/LinkedList" (90 : Nat) ({ cls := "java/util/LinkedList", name := "checkElementIndex", desc := "(I)V" } : Jvm.MethodName)) ∈ lw_all := lw_g (lw_at lw_m4 2 rfl) rfl
theorem q806 : (Jvm.Cond.privateMethod ({ cls := "java/util/LinkedList", name := "checkElementIndex", desc := "(I)V" } : Jvm.MethodName)) ∈ lw_tbl := lw_at lw_m4 3 rfl
theorem q807 : (Jvm.Cond.instanceMethod ({ cls := "java/util/LinkedList", name := "checkElementIndex", desc := "(I)V" } : Jvm.MethodName)) ∈ lw_all := lw_g (lw_at lw_m4 4 rfl) rfl
theorem q808 : (Jvm.Cond.code ({ cls := "java/util/LinkedList", name := "checkElementIndex", desc := "(I)V" } : Jvm.MethodName) prog_85_method_29_code (2 : Nat) (Option.none : Option Jvm.ClassFile.FieldType)) ∈ lw_all := lw_g (lw_at lw_m4 5 rfl) rfl
theorem q809 : (Jvm.Cond.methodLink "java/util/LinkedList" (115 : Nat) ({ cls := "java/util/LinkedList", name := "isElementIndex", desc := "(I)Z" } : Jvm.MethodName)) ∈ lw_all := lw_g (lw_at lw_m4 6 rfl) rfl
theorem q810 : (Jvm.Cond.privateMethod ({ cls := "java/util/LinkedList", name := "isElementIndex", desc := "(I)Z" } : Jvm.MethodName)) ∈ lw_tbl := lw_at lw_m4 7 rfl
theorem q811 : (Jvm.Cond.instanceMethod ({ cls := "java/util/LinkedList", name := "isElementIndex", desc := "(I)Z" } : Jvm.MethodName)) ∈ lw_all := lw_g (lw_at lw_m4 8 rfl) rfl
theorem q812 : (Jvm.Cond.code ({ cls := "java/util/LinkedList", name := "isElementIndex", desc := "(I)Z" } : Jvm.MethodName) prog_85_method_26_code (2 : Nat) (Option.some Jvm.ClassFile.FieldType.boolean)) ∈ lw_all := lw_g (lw_at lw_m4 9 rfl) rfl
theorem q813 : (Jvm.Cond.methodLink "java/util/LinkedList" (86 : Nat) ({ cls := "java/util/LinkedList", name := "node", desc := "(I)Ljava/util/LinkedList$Node;" } : Jvm.MethodName)) ∈ lw_all := lw_g (lw_at lw_m4 10 rfl) rfl
theorem q1179 : (Jvm.Cond.castable "java/util/LinkedList" "java/util/List") ∈ lw_tbl := lw_at lw_m5 136 rfl
theorem q1180 : (Jvm.Cond.selects "java/util/LinkedList" ({ cls := "java/util/List", name := "get", desc := "(I)Ljava/lang/Object;" } : Jvm.MethodName) ({ cls := "java/util/LinkedList", name := "get", desc := "(I)Ljava/lang/Object;" } : Jvm.MethodName)) ∈ lw_all := lw_g (lw_at lw_m5 137 rfl) rfl
theorem q1181 : (Jvm.Cond.unhidden "java/util/LinkedList" "get" "(I)Ljava/lang/Object;") ∈ lw_tbl := lw_at lw_m5 138 rfl
theorem q1182 : (Jvm.Cond.publicMethod ({ cls := "java/util/LinkedList", name := "get", desc := "(I)Ljava/lang/Object;" } : Jvm.MethodName)) ∈ lw_tbl := lw_at lw_m5 139 rfl
theorem q1230 : (Jvm.Cond.instanceMethod ({ cls := "java/util/LinkedList", name := "addLast", desc := "(Ljava/lang/Object;)V" } : Jvm.MethodName)) ∈ lw_all := lw_g (lw_at lw_m5 187 rfl) rfl
theorem q1231 : (Jvm.Cond.selects "java/util/LinkedList" ({ cls := "java/util/LinkedList", name := "addLast", desc := "(Ljava/lang/Object;)V" } : Jvm.MethodName) ({ cls := "java/util/LinkedList", name := "addLast", desc := "(Ljava/lang/Object;)V" } : Jvm.MethodName)) ∈ lw_all := lw_g (lw_at lw_m5 188 rfl) rfl
theorem q1232 : (Jvm.Cond.code ({ cls := "java/util/LinkedList", name := "addLast", desc := "(Ljava/lang/Object;)V" } : Jvm.MethodName) prog_85_method_14_code (2 : Nat) (Option.none : Option Jvm.ClassFile.FieldType)) ∈ lw_all := lw_g (lw_at lw_m5 189 rfl) rfl
theorem q1233 : (Jvm.Cond.methodLink "java/util/LinkedList" (57 : Nat) ({ cls := "java/util/LinkedList", name := "linkLast", desc := "(Ljava/lang/Object;)V" } : Jvm.MethodName)) ∈ lw_all := lw_g (lw_at lw_m5 190 rfl) rfl
theorem q1234 : (Jvm.Cond.instanceMethod ({ cls := "java/util/LinkedList", name := "linkLast", desc := "(Ljava/lang/Object;)V" } : Jvm.MethodName)) ∈ lw_all := lw_g (lw_at lw_m5 191 rfl) rfl
theorem q1235 : (Jvm.Cond.selects "java/util/LinkedList" ({ cls := "java/util/LinkedList", name := "linkLast", desc := "(Ljava/lang/Object;)V" } : Jvm.MethodName) ({ cls := "java/util/LinkedList", name := "linkLast", desc := "(Ljava/lang/Object;)V" } : Jvm.MethodName)) ∈ lw_all := lw_g (lw_at lw_m5 192 rfl) rfl
theorem q1236 : (Jvm.Cond.code ({ cls := "java/util/LinkedList", name := "linkLast", desc := "(Ljava/lang/Object;)V" } : Jvm.MethodName) prog_85_method_4_code (4 : Nat) (Option.none : Option Jvm.ClassFile.FieldType)) ∈ lw_all := lw_g (lw_at lw_m5 193 rfl) rfl
theorem q1237 : (Jvm.Cond.classLink "java/util/LinkedList" (22 : Nat) "java/util/LinkedList$Node") ∈ lw_all := lw_g (lw_at lw_m5 194 rfl) rfl
theorem q1239 : (Jvm.Cond.methodLink "java/util/LinkedList" (24 : Nat) ({ cls := "java/util/LinkedList$Node", name := "<init>", desc := "(Ljava/util/LinkedList$Node;Ljava/lang/Object;Ljava/util/LinkedList$Node;)V" } : Jvm.MethodName)) ∈ lw_all := lw_g (lw_at lw_m5 196 rfl) rfl
theorem q1245 : (Jvm.Cond.fieldLink "java/util/LinkedList" (39 : Nat) "java/util/LinkedList$Node" "item" "Ljava/lang/Object;") ∈ lw_all := lw_g (lw_at lw_m5 202 rfl) rfl
theorem q1248 : (Jvm.Cond.fieldLink "java/util/LinkedList" (36 : Nat) "java/util/LinkedList$Node" "next" "Ljava/util/LinkedList$Node;") ∈ lw_all := lw_g (lw_at lw_m5 205 rfl) rfl
theorem q1250 : (Jvm.Cond.fieldLink "java/util/LinkedList" (30 : Nat) "java/util/LinkedList$Node" "prev" "Ljava/util/LinkedList$Node;") ∈ lw_all := lw_g (lw_at lw_m5 207 rfl) rfl
theorem q1347 : (Jvm.Cond.sameMethod "java/util/LinkedList" "java/util/AbstractCollection" "isEmpty" "()Z") ∈ lw_all := lw_g (lw_at lw_m6 64 rfl) rfl
theorem q1349 : (Jvm.Cond.selects "java/util/LinkedList" ({ cls := "java/util/LinkedList", name := "isEmpty", desc := "()Z" } : Jvm.MethodName) ({ cls := "java/util/AbstractCollection", name := "isEmpty", desc := "()Z" } : Jvm.MethodName)) ∈ lw_all := lw_g (lw_at lw_m6 66 rfl) rfl
theorem q1401 : (Jvm.Cond.selects "java/util/LinkedList" ({ cls := "java/util/AbstractList", name := "remove", desc := "(I)Ljava/lang/Object;" } : Jvm.MethodName) ({ cls := "java/util/LinkedList", name := "remove", desc := "(I)Ljava/lang/Object;" } : Jvm.MethodName)) ∈ lw_all := lw_g (lw_at lw_m6 118 rfl) rfl
theorem q1402 : (Jvm.Cond.instanceMethod ({ cls := "java/util/LinkedList", name := "remove", desc := "(I)Ljava/lang/Object;" } : Jvm.MethodName)) ∈ lw_all := lw_g (lw_at lw_m6 119 rfl) rfl
theorem q1403 : (Jvm.Cond.code ({ cls := "java/util/LinkedList", name := "remove", desc := "(I)Ljava/lang/Object;" } : Jvm.MethodName) prog_85_method_25_code (2 : Nat) (Option.some (Jvm.ClassFile.FieldType.object "java/lang/Object"))) ∈ lw_all := lw_g (lw_at lw_m6 120 rfl) rfl
theorem q1404 : (Jvm.Cond.methodLink "java/util/LinkedList" (64 : Nat) ({ cls := "java/util/LinkedList", name := "unlink", desc := "(Ljava/util/LinkedList$Node;)Ljava/lang/Object;" } : Jvm.MethodName)) ∈ lw_all := lw_g (lw_at lw_m6 121 rfl) rfl
theorem q1405 : (Jvm.Cond.instanceMethod ({ cls := "java/util/LinkedList", name := "unlink", desc := "(Ljava/util/LinkedList$Node;)Ljava/lang/Object;" } : Jvm.MethodName)) ∈ lw_all := lw_g (lw_at lw_m6 122 rfl) rfl
theorem q1406 : (Jvm.Cond.selects "java/util/LinkedList" ({ cls := "java/util/LinkedList", name := "unlink", desc := "(Ljava/util/LinkedList$Node;)Ljava/lang/Object;" } : Jvm.MethodName) ({ cls := "java/util/LinkedList", name := "unlink", desc := "(Ljava/util/LinkedList$Node;)Ljava/lang/Object;" } : Jvm.MethodName)) ∈ lw_all := lw_g (lw_at lw_m6 123 rfl) rfl
theorem q1407 : (Jvm.Cond.code ({ cls := "java/util/LinkedList", name := "unlink", desc := "(Ljava/util/LinkedList$Node;)Ljava/lang/Object;" } : Jvm.MethodName) prog_85_method_8_code (5 : Nat) (Option.some (Jvm.ClassFile.FieldType.object "java/lang/Object"))) ∈ lw_all := lw_g (lw_at lw_m6 124 rfl) rfl
theorem q1472 : (Jvm.Cond.instanceMethod ({ cls := "java/util/LinkedList", name := "removeFirst", desc := "()Ljava/lang/Object;" } : Jvm.MethodName)) ∈ lw_all := lw_g (lw_at lw_m6 189 rfl) rfl
theorem q1473 : (Jvm.Cond.selects "java/util/LinkedList" ({ cls := "java/util/LinkedList", name := "removeFirst", desc := "()Ljava/lang/Object;" } : Jvm.MethodName) ({ cls := "java/util/LinkedList", name := "removeFirst", desc := "()Ljava/lang/Object;" } : Jvm.MethodName)) ∈ lw_all := lw_g (lw_at lw_m6 190 rfl) rfl
theorem q1474 : (Jvm.Cond.code ({ cls := "java/util/LinkedList", name := "removeFirst", desc := "()Ljava/lang/Object;" } : Jvm.MethodName) prog_85_method_11_code (2 : Nat) (Option.some (Jvm.ClassFile.FieldType.object "java/lang/Object"))) ∈ lw_all := lw_g (lw_at lw_m6 191 rfl) rfl
theorem q1475 : (Jvm.Cond.methodLink "java/util/LinkedList" (46 : Nat) ({ cls := "java/util/LinkedList", name := "unlinkFirst", desc := "(Ljava/util/LinkedList$Node;)Ljava/lang/Object;" } : Jvm.MethodName)) ∈ lw_all := lw_g (lw_at lw_m6 192 rfl) rfl
theorem q1476 : (Jvm.Cond.privateMethod ({ cls := "java/util/LinkedList", name := "unlinkFirst", desc := "(Ljava/util/LinkedList$Node;)Ljava/lang/Object;" } : Jvm.MethodName)) ∈ lw_tbl := lw_at lw_m6 193 rfl
theorem q1477 : (Jvm.Cond.instanceMethod ({ cls := "java/util/LinkedList", name := "unlinkFirst", desc := "(Ljava/util/LinkedList$Node;)Ljava/lang/Object;" } : Jvm.MethodName)) ∈ lw_all := lw_g (lw_at lw_m6 194 rfl) rfl
theorem q1478 : (Jvm.Cond.code ({ cls := "java/util/LinkedList", name := "unlinkFirst", desc := "(Ljava/util/LinkedList$Node;)Ljava/lang/Object;" } : Jvm.MethodName) prog_85_method_6_code (4 : Nat) (Option.some (Jvm.ClassFile.FieldType.object "java/lang/Object"))) ∈ lw_all := lw_g (lw_at lw_m6 195 rfl) rfl
theorem q1584 : (Jvm.Cond.castable "java/util/LinkedList" "java/util/Collection") ∈ lw_tbl := lw_at lw_m7 61 rfl
theorem q1585 : (Jvm.Cond.selects "java/util/LinkedList" ({ cls := "java/util/Collection", name := "iterator", desc := "()Ljava/util/Iterator;" } : Jvm.MethodName) ({ cls := "java/util/AbstractSequentialList", name := "iterator", desc := "()Ljava/util/Iterator;" } : Jvm.MethodName)) ∈ lw_all := lw_g (lw_at lw_m7 62 rfl) rfl
theorem q1586 : (Jvm.Cond.unhidden "java/util/LinkedList" "iterator" "()Ljava/util/Iterator;") ∈ lw_tbl := lw_at lw_m7 63 rfl
theorem q1598 : (Jvm.Cond.selects "java/util/LinkedList" ({ cls := "java/util/List", name := "iterator", desc := "()Ljava/util/Iterator;" } : Jvm.MethodName) ({ cls := "java/util/AbstractSequentialList", name := "iterator", desc := "()Ljava/util/Iterator;" } : Jvm.MethodName)) ∈ lw_all := lw_g (lw_at lw_m7 75 rfl) rfl
theorem q2512 : (Jvm.Cond.unhidden "java/util/LinkedList" "getClass" "()Ljava/lang/Class;") ∈ lw_tbl := lw_at lw_m11 29 rfl
theorem q3023 : (Jvm.Cond.selects "java/util/LinkedList" ({ cls := "java/util/AbstractCollection", name := "size", desc := "()I" } : Jvm.MethodName) ({ cls := "java/util/LinkedList", name := "size", desc := "()I" } : Jvm.MethodName)) ∈ lw_all := lw_g (lw_at lw_m13 60 rfl) rfl
theorem q3026 : (Jvm.Cond.selects "java/util/LinkedList" ({ cls := "java/util/LinkedList", name := "size", desc := "()I" } : Jvm.MethodName) ({ cls := "java/util/LinkedList", name := "size", desc := "()I" } : Jvm.MethodName)) ∈ lw_all := lw_g (lw_at lw_m13 63 rfl) rfl
theorem q3027 : (Jvm.Cond.selects "java/util/LinkedList" ({ cls := "java/util/LinkedList", name := "get", desc := "(I)Ljava/lang/Object;" } : Jvm.MethodName) ({ cls := "java/util/LinkedList", name := "get", desc := "(I)Ljava/lang/Object;" } : Jvm.MethodName)) ∈ lw_all := lw_g (lw_at lw_m13 64 rfl) rfl
theorem q3046 : (Jvm.Cond.castable "java/util/LinkedList" "java/lang/Object") ∈ lw_tbl := lw_at lw_m13 83 rfl
theorem in_J4 : ∀ w ∈ wsJ40, w ∈ lw_all := lw_in wsJ40 [231, 225, 227, 229] (by decide +kernel) (by decide +kernel)

/-! java/util/ArrayDeque -/
set_option maxRecDepth 100000
def RJ5 : String := "java/util/ArrayDeque"
def TJ5 : u_T := fun k => match k with
  | 0 => ("java/util/ArrayDeque", "elements", "[Ljava/lang/Object;", false)
  | 1 => ("java/util/ArrayDeque", "head", "I", false)
  | _ => ("java/util/ArrayDeque", "tail", "I", false)
def tyJ5 : Nat → FieldType := fun k => match k with
  | 0 => .array (.object "java/lang/Object")
  | 1 => .int
  | _ => .int
abbrev wsJ50 : List Cond := u_ws RJ5 TJ5 3
theorem nmJ5 : ∀ a, a < 3 → ∀ b, b < 3 → a ≠ b → (TJ5 a).2.1 ≠ (TJ5 b).2.1 := by decide +kernel
theorem tyJ5_ok : ∀ k, k < 3 → parseFieldDescriptor (TJ5 k).2.2.1 = some (tyJ5 k) := by decide +kernel
abbrev cJ5_init : ByteArray := prog_63_method_3_code
def yJ5_init : MethodName := ⟨RJ5, "<init>", "()V"⟩
def dkwJ5_init_0 : List UInt8 := [42, 183, 0, 42, 42, 16, 17, 189, 0, 47, 181, 0, 3, 177]
abbrev dktJ5_init_0 : List UInt8 := dkwJ5_init_0 ++ []
theorem dksJ5_init_0 : cJ5_init.data.toList.drop 0 = dktJ5_init_0 := by decide +kernel
theorem dJ5_init_0 : decode cJ5_init 0 = .ok (.aload_n 0, 1) := dk_42 (dk_at dksJ5_init_0 0 rfl rfl)
theorem dJ5_init_1 : decode cJ5_init 1 = .ok (.invokespecial 42, 3) := dk_183 0 42 (dk_at dksJ5_init_0 1 rfl rfl)
theorem dJ5_init_4 : decode cJ5_init 4 = .ok (.aload_n 0, 1) := dk_42 (dk_at dksJ5_init_0 4 rfl rfl)
theorem dJ5_init_5 : decode cJ5_init 5 = .ok (.bipush 17, 2) := dk_16 17 (dk_at dksJ5_init_0 5 rfl rfl)
theorem dJ5_init_7 : decode cJ5_init 7 = .ok (.anewarray 47, 3) := dk_189 0 47 (dk_at dksJ5_init_0 7 rfl rfl)
theorem dJ5_init_10 : decode cJ5_init 10 = .ok (.putfield 3, 3) := dk_181 0 3 (dk_at dksJ5_init_0 10 rfl rfl)
theorem dJ5_init_13 : decode cJ5_init 13 = .ok (.return_, 1) := dk_177 (dk_at dksJ5_init_0 13 rfl rfl)
abbrev cJ5_clear : ByteArray := prog_63_method_53_code
def yJ5_clear : MethodName := ⟨RJ5, "clear", "()V"⟩
def dkwJ5_clear_1 : List UInt8 := [181, 0, 24, 177]
abbrev dktJ5_clear_1 : List UInt8 := dkwJ5_clear_1 ++ []
def dkwJ5_clear_0 : List UInt8 := [42, 180, 0, 3, 42, 180, 0, 24, 42, 180, 0, 20, 184, 0, 181, 42, 42, 3, 90, 181, 0, 20]
abbrev dktJ5_clear_0 : List UInt8 := dkwJ5_clear_0 ++ dktJ5_clear_1
theorem dksJ5_clear_0 : cJ5_clear.data.toList.drop 0 = dktJ5_clear_0 := by decide +kernel
theorem dksJ5_clear_1 : cJ5_clear.data.toList.drop 22 = dktJ5_clear_1 := dk_seg dksJ5_clear_0 22 rfl rfl
theorem dJ5_clear_0 : decode cJ5_clear 0 = .ok (.aload_n 0, 1) := dk_42 (dk_at dksJ5_clear_0 0 rfl rfl)
theorem dJ5_clear_1 : decode cJ5_clear 1 = .ok (.getfield 3, 3) := dk_180 0 3 (dk_at dksJ5_clear_0 1 rfl rfl)
theorem dJ5_clear_4 : decode cJ5_clear 4 = .ok (.aload_n 0, 1) := dk_42 (dk_at dksJ5_clear_0 4 rfl rfl)
theorem dJ5_clear_5 : decode cJ5_clear 5 = .ok (.getfield 24, 3) := dk_180 0 24 (dk_at dksJ5_clear_0 5 rfl rfl)
theorem dJ5_clear_8 : decode cJ5_clear 8 = .ok (.aload_n 0, 1) := dk_42 (dk_at dksJ5_clear_0 8 rfl rfl)
theorem dJ5_clear_9 : decode cJ5_clear 9 = .ok (.getfield 20, 3) := dk_180 0 20 (dk_at dksJ5_clear_0 9 rfl rfl)
theorem dJ5_clear_12 : decode cJ5_clear 12 = .ok (.invokestatic 181, 3) := dk_184 0 181 (dk_at dksJ5_clear_0 12 rfl rfl)
theorem dJ5_clear_15 : decode cJ5_clear 15 = .ok (.aload_n 0, 1) := dk_42 (dk_at dksJ5_clear_0 15 rfl rfl)
theorem dJ5_clear_16 : decode cJ5_clear 16 = .ok (.aload_n 0, 1) := dk_42 (dk_at dksJ5_clear_0 16 rfl rfl)
theorem dJ5_clear_17 : decode cJ5_clear 17 = .ok (.iconst 0, 1) := dk_3 (dk_at dksJ5_clear_0 17 rfl rfl)
theorem dJ5_clear_18 : decode cJ5_clear 18 = .ok (.dup_x1, 1) := dk_90 (dk_at dksJ5_clear_0 18 rfl rfl)
theorem dJ5_clear_19 : decode cJ5_clear 19 = .ok (.putfield 20, 3) := dk_181 0 20 (dk_at dksJ5_clear_0 19 rfl rfl)
theorem dJ5_clear_22 : decode cJ5_clear 22 = .ok (.putfield 24, 3) := dk_181 0 24 (dk_at dksJ5_clear_1 0 rfl rfl)
theorem dJ5_clear_25 : decode cJ5_clear 25 = .ok (.return_, 1) := dk_177 (dk_at dksJ5_clear_1 3 rfl rfl)
abbrev cJ5_circularClear : ByteArray := prog_63_method_54_code
def yJ5_circularClear : MethodName := ⟨RJ5, "circularClear", "([Ljava/lang/Object;II)V"⟩
def dkwJ5_circularClear_1 : List UInt8 := [167, 255, 244, 29, 28, 160, 0, 6, 167, 0, 10, 3, 60, 28, 62, 167, 255, 229, 177]
abbrev dktJ5_circularClear_1 : List UInt8 := dkwJ5_circularClear_1 ++ []
def dkwJ5_circularClear_0 : List UInt8 := [27, 28, 163, 0, 7, 28, 167, 0, 5, 42, 190, 62, 27, 29, 162, 0, 13, 42, 27, 1, 83, 132, 1, 1]
abbrev dktJ5_circularClear_0 : List UInt8 := dkwJ5_circularClear_0 ++ dktJ5_circularClear_1
theorem dksJ5_circularClear_0 : cJ5_circularClear.data.toList.drop 0 = dktJ5_circularClear_0 := by decide +kernel
theorem dksJ5_circularClear_1 : cJ5_circularClear.data.toList.drop 24 = dktJ5_circularClear_1 := dk_seg dksJ5_circularClear_0 24 rfl rfl
theorem dJ5_circularClear_0 : decode cJ5_circularClear 0 = .ok (.iload_n 1, 1) := dk_27 (dk_at dksJ5_circularClear_0 0 rfl rfl)
theorem dJ5_circularClear_1 : decode cJ5_circularClear 1 = .ok (.iload_n 2, 1) := dk_28 (dk_at dksJ5_circularClear_0 1 rfl rfl)
theorem dJ5_circularClear_2 : decode cJ5_circularClear 2 = .ok (.if_icmp .gt 7, 3) := dk_163 0 7 (dk_at dksJ5_circularClear_0 2 rfl rfl)
theorem dJ5_circularClear_5 : decode cJ5_circularClear 5 = .ok (.iload_n 2, 1) := dk_28 (dk_at dksJ5_circularClear_0 5 rfl rfl)
theorem dJ5_circularClear_6 : decode cJ5_circularClear 6 = .ok (.goto 5, 3) := dk_167 0 5 (dk_at dksJ5_circularClear_0 6 rfl rfl)
theorem dJ5_circularClear_9 : decode cJ5_circularClear 9 = .ok (.aload_n 0, 1) := dk_42 (dk_at dksJ5_circularClear_0 9 rfl rfl)
theorem dJ5_circularClear_10 : decode cJ5_circularClear 10 = .ok (.arraylength, 1) := dk_190 (dk_at dksJ5_circularClear_0 10 rfl rfl)
theorem dJ5_circularClear_11 : decode cJ5_circularClear 11 = .ok (.istore_n 3, 1) := dk_62 (dk_at dksJ5_circularClear_0 11 rfl rfl)
theorem dJ5_circularClear_12 : decode cJ5_circularClear 12 = .ok (.iload_n 1, 1) := dk_27 (dk_at dksJ5_circularClear_0 12 rfl rfl)
theorem dJ5_circularClear_13 : decode cJ5_circularClear 13 = .ok (.iload_n 3, 1) := dk_29 (dk_at dksJ5_circularClear_0 13 rfl rfl)
theorem dJ5_circularClear_14 : decode cJ5_circularClear 14 = .ok (.if_icmp .ge 13, 3) := dk_162 0 13 (dk_at dksJ5_circularClear_0 14 rfl rfl)
theorem dJ5_circularClear_17 : decode cJ5_circularClear 17 = .ok (.aload_n 0, 1) := dk_42 (dk_at dksJ5_circularClear_0 17 rfl rfl)
theorem dJ5_circularClear_18 : decode cJ5_circularClear 18 = .ok (.iload_n 1, 1) := dk_27 (dk_at dksJ5_circularClear_0 18 rfl rfl)
theorem dJ5_circularClear_19 : decode cJ5_circularClear 19 = .ok (.aconst_null, 1) := dk_1 (dk_at dksJ5_circularClear_0 19 rfl rfl)
theorem dJ5_circularClear_20 : decode cJ5_circularClear 20 = .ok (.aastore, 1) := dk_83 (dk_at dksJ5_circularClear_0 20 rfl rfl)
theorem dJ5_circularClear_21 : decode cJ5_circularClear 21 = .ok (.iinc 1 1, 3) := dk_132 1 1 (dk_at dksJ5_circularClear_0 21 rfl rfl)
theorem dJ5_circularClear_24 : decode cJ5_circularClear 24 = .ok (.goto (-12), 3) := dk_167 255 244 (dk_at dksJ5_circularClear_1 0 rfl rfl)
theorem dJ5_circularClear_27 : decode cJ5_circularClear 27 = .ok (.iload_n 3, 1) := dk_29 (dk_at dksJ5_circularClear_1 3 rfl rfl)
theorem dJ5_circularClear_28 : decode cJ5_circularClear 28 = .ok (.iload_n 2, 1) := dk_28 (dk_at dksJ5_circularClear_1 4 rfl rfl)
theorem dJ5_circularClear_29 : decode cJ5_circularClear 29 = .ok (.if_icmp .ne 6, 3) := dk_160 0 6 (dk_at dksJ5_circularClear_1 5 rfl rfl)
theorem dJ5_circularClear_32 : decode cJ5_circularClear 32 = .ok (.goto 10, 3) := dk_167 0 10 (dk_at dksJ5_circularClear_1 8 rfl rfl)
theorem dJ5_circularClear_35 : decode cJ5_circularClear 35 = .ok (.iconst 0, 1) := dk_3 (dk_at dksJ5_circularClear_1 11 rfl rfl)
theorem dJ5_circularClear_36 : decode cJ5_circularClear 36 = .ok (.istore_n 1, 1) := dk_60 (dk_at dksJ5_circularClear_1 12 rfl rfl)
theorem dJ5_circularClear_37 : decode cJ5_circularClear 37 = .ok (.iload_n 2, 1) := dk_28 (dk_at dksJ5_circularClear_1 13 rfl rfl)
theorem dJ5_circularClear_38 : decode cJ5_circularClear 38 = .ok (.istore_n 3, 1) := dk_62 (dk_at dksJ5_circularClear_1 14 rfl rfl)
theorem dJ5_circularClear_39 : decode cJ5_circularClear 39 = .ok (.goto (-27), 3) := dk_167 255 229 (dk_at dksJ5_circularClear_1 15 rfl rfl)
theorem dJ5_circularClear_42 : decode cJ5_circularClear 42 = .ok (.return_, 1) := dk_177 (dk_at dksJ5_circularClear_1 18 rfl rfl)
abbrev cJ5_nonNullElementAt : ByteArray := prog_63_method_11_code
def yJ5_nonNullElementAt : MethodName := ⟨RJ5, "nonNullElementAt", "([Ljava/lang/Object;I)Ljava/lang/Object;"⟩
def dkwJ5_nonNullElementAt_0 : List UInt8 := [42, 27, 50, 77, 44, 199, 0, 11, 187, 0, 62, 89, 183, 0, 64, 191, 44, 176]
abbrev dktJ5_nonNullElementAt_0 : List UInt8 := dkwJ5_nonNullElementAt_0 ++ []
theorem dksJ5_nonNullElementAt_0 : cJ5_nonNullElementAt.data.toList.drop 0 = dktJ5_nonNullElementAt_0 := by decide +kernel
theorem dJ5_nonNullElementAt_0 : decode cJ5_nonNullElementAt 0 = .ok (.aload_n 0, 1) := dk_42 (dk_at dksJ5_nonNullElementAt_0 0 rfl rfl)
theorem dJ5_nonNullElementAt_1 : decode cJ5_nonNullElementAt 1 = .ok (.iload_n 1, 1) := dk_27 (dk_at dksJ5_nonNullElementAt_0 1 rfl rfl)
theorem dJ5_nonNullElementAt_2 : decode cJ5_nonNullElementAt 2 = .ok (.aaload, 1) := dk_50 (dk_at dksJ5_nonNullElementAt_0 2 rfl rfl)
theorem dJ5_nonNullElementAt_3 : decode cJ5_nonNullElementAt 3 = .ok (.astore_n 2, 1) := dk_77 (dk_at dksJ5_nonNullElementAt_0 3 rfl rfl)
theorem dJ5_nonNullElementAt_4 : decode cJ5_nonNullElementAt 4 = .ok (.aload_n 2, 1) := dk_44 (dk_at dksJ5_nonNullElementAt_0 4 rfl rfl)
theorem dJ5_nonNullElementAt_5 : decode cJ5_nonNullElementAt 5 = .ok (.ifnonnull 11, 3) := dk_199 0 11 (dk_at dksJ5_nonNullElementAt_0 5 rfl rfl)
theorem dJ5_nonNullElementAt_8 : decode cJ5_nonNullElementAt 8 = .ok (.new 62, 3) := dk_187 0 62 (dk_at dksJ5_nonNullElementAt_0 8 rfl rfl)
theorem dJ5_nonNullElementAt_11 : decode cJ5_nonNullElementAt 11 = .ok (.dup, 1) := dk_89 (dk_at dksJ5_nonNullElementAt_0 11 rfl rfl)
theorem dJ5_nonNullElementAt_12 : decode cJ5_nonNullElementAt 12 = .ok (.invokespecial 64, 3) := dk_183 0 64 (dk_at dksJ5_nonNullElementAt_0 12 rfl rfl)
theorem dJ5_nonNullElementAt_15 : decode cJ5_nonNullElementAt 15 = .ok (.athrow, 1) := dk_191 (dk_at dksJ5_nonNullElementAt_0 15 rfl rfl)
theorem dJ5_nonNullElementAt_16 : decode cJ5_nonNullElementAt 16 = .ok (.aload_n 2, 1) := dk_44 (dk_at dksJ5_nonNullElementAt_0 16 rfl rfl)
theorem dJ5_nonNullElementAt_17 : decode cJ5_nonNullElementAt 17 = .ok (.areturn, 1) := dk_176 (dk_at dksJ5_nonNullElementAt_0 17 rfl rfl)
abbrev cJ5_inc : ByteArray := prog_63_method_6_code
def yJ5_inc : MethodName := ⟨RJ5, "inc", "(II)I"⟩
def dkwJ5_inc_0 : List UInt8 := [132, 0, 1, 26, 27, 161, 0, 5, 3, 59, 26, 172]
abbrev dktJ5_inc_0 : List UInt8 := dkwJ5_inc_0 ++ []
theorem dksJ5_inc_0 : cJ5_inc.data.toList.drop 0 = dktJ5_inc_0 := by decide +kernel
theorem dJ5_inc_0 : decode cJ5_inc 0 = .ok (.iinc 0 1, 3) := dk_132 0 1 (dk_at dksJ5_inc_0 0 rfl rfl)
theorem dJ5_inc_3 : decode cJ5_inc 3 = .ok (.iload_n 0, 1) := dk_26 (dk_at dksJ5_inc_0 3 rfl rfl)
theorem dJ5_inc_4 : decode cJ5_inc 4 = .ok (.iload_n 1, 1) := dk_27 (dk_at dksJ5_inc_0 4 rfl rfl)
theorem dJ5_inc_5 : decode cJ5_inc 5 = .ok (.if_icmp .lt 5, 3) := dk_161 0 5 (dk_at dksJ5_inc_0 5 rfl rfl)
theorem dJ5_inc_8 : decode cJ5_inc 8 = .ok (.iconst 0, 1) := dk_3 (dk_at dksJ5_inc_0 8 rfl rfl)
theorem dJ5_inc_9 : decode cJ5_inc 9 = .ok (.istore_n 0, 1) := dk_59 (dk_at dksJ5_inc_0 9 rfl rfl)
theorem dJ5_inc_10 : decode cJ5_inc 10 = .ok (.iload_n 0, 1) := dk_26 (dk_at dksJ5_inc_0 10 rfl rfl)
theorem dJ5_inc_11 : decode cJ5_inc 11 = .ok (.ireturn, 1) := dk_172 (dk_at dksJ5_inc_0 11 rfl rfl)
abbrev cJ5_size : ByteArray := prog_63_method_37_code
def yJ5_size : MethodName := ⟨RJ5, "size", "()I"⟩
def dkwJ5_size_0 : List UInt8 := [42, 180, 0, 20, 42, 180, 0, 24, 42, 180, 0, 3, 190, 184, 0, 127, 172]
abbrev dktJ5_size_0 : List UInt8 := dkwJ5_size_0 ++ []
theorem dksJ5_size_0 : cJ5_size.data.toList.drop 0 = dktJ5_size_0 := by decide +kernel
theorem dJ5_size_0 : decode cJ5_size 0 = .ok (.aload_n 0, 1) := dk_42 (dk_at dksJ5_size_0 0 rfl rfl)
theorem dJ5_size_1 : decode cJ5_size 1 = .ok (.getfield 20, 3) := dk_180 0 20 (dk_at dksJ5_size_0 1 rfl rfl)
theorem dJ5_size_4 : decode cJ5_size 4 = .ok (.aload_n 0, 1) := dk_42 (dk_at dksJ5_size_0 4 rfl rfl)
theorem dJ5_size_5 : decode cJ5_size 5 = .ok (.getfield 24, 3) := dk_180 0 24 (dk_at dksJ5_size_0 5 rfl rfl)
theorem dJ5_size_8 : decode cJ5_size 8 = .ok (.aload_n 0, 1) := dk_42 (dk_at dksJ5_size_0 8 rfl rfl)
theorem dJ5_size_9 : decode cJ5_size 9 = .ok (.getfield 3, 3) := dk_180 0 3 (dk_at dksJ5_size_0 9 rfl rfl)
theorem dJ5_size_12 : decode cJ5_size 12 = .ok (.arraylength, 1) := dk_190 (dk_at dksJ5_size_0 12 rfl rfl)
theorem dJ5_size_13 : decode cJ5_size 13 = .ok (.invokestatic 127, 3) := dk_184 0 127 (dk_at dksJ5_size_0 13 rfl rfl)
theorem dJ5_size_16 : decode cJ5_size 16 = .ok (.ireturn, 1) := dk_172 (dk_at dksJ5_size_0 16 rfl rfl)
abbrev cJ5_sub : ByteArray := prog_63_method_9_code
def yJ5_sub : MethodName := ⟨RJ5, "sub", "(III)I"⟩
def dkwJ5_sub_0 : List UInt8 := [26, 27, 100, 89, 59, 156, 0, 7, 26, 28, 96, 59, 26, 172]
abbrev dktJ5_sub_0 : List UInt8 := dkwJ5_sub_0 ++ []
theorem dksJ5_sub_0 : cJ5_sub.data.toList.drop 0 = dktJ5_sub_0 := by decide +kernel
theorem dJ5_sub_0 : decode cJ5_sub 0 = .ok (.iload_n 0, 1) := dk_26 (dk_at dksJ5_sub_0 0 rfl rfl)
theorem dJ5_sub_1 : decode cJ5_sub 1 = .ok (.iload_n 1, 1) := dk_27 (dk_at dksJ5_sub_0 1 rfl rfl)
theorem dJ5_sub_2 : decode cJ5_sub 2 = .ok (.isub, 1) := dk_100 (dk_at dksJ5_sub_0 2 rfl rfl)
theorem dJ5_sub_3 : decode cJ5_sub 3 = .ok (.dup, 1) := dk_89 (dk_at dksJ5_sub_0 3 rfl rfl)
theorem dJ5_sub_4 : decode cJ5_sub 4 = .ok (.istore_n 0, 1) := dk_59 (dk_at dksJ5_sub_0 4 rfl rfl)
theorem dJ5_sub_5 : decode cJ5_sub 5 = .ok (.ifCond .ge 7, 3) := dk_156 0 7 (dk_at dksJ5_sub_0 5 rfl rfl)
theorem dJ5_sub_8 : decode cJ5_sub 8 = .ok (.iload_n 0, 1) := dk_26 (dk_at dksJ5_sub_0 8 rfl rfl)
theorem dJ5_sub_9 : decode cJ5_sub 9 = .ok (.iload_n 2, 1) := dk_28 (dk_at dksJ5_sub_0 9 rfl rfl)
theorem dJ5_sub_10 : decode cJ5_sub 10 = .ok (.iadd, 1) := dk_96 (dk_at dksJ5_sub_0 10 rfl rfl)
theorem dJ5_sub_11 : decode cJ5_sub 11 = .ok (.istore_n 0, 1) := dk_59 (dk_at dksJ5_sub_0 11 rfl rfl)
theorem dJ5_sub_12 : decode cJ5_sub 12 = .ok (.iload_n 0, 1) := dk_26 (dk_at dksJ5_sub_0 12 rfl rfl)
theorem dJ5_sub_13 : decode cJ5_sub 13 = .ok (.ireturn, 1) := dk_172 (dk_at dksJ5_sub_0 13 rfl rfl)
abbrev cJ5_delete : ByteArray := prog_63_method_36_code
def yJ5_delete : MethodName := ⟨RJ5, "delete", "(I)Z"⟩
def dkwJ5_delete_8 : List UInt8 := [4, 172]
abbrev dktJ5_delete_8 : List UInt8 := dkwJ5_delete_8 ++ []
def dkwJ5_delete_7 : List UInt8 := [4, 100, 44, 3, 50, 83, 44, 4, 44, 3, 21, 5, 4, 100, 184, 0, 27, 44, 42, 180, 0, 20, 1, 83]
abbrev dktJ5_delete_7 : List UInt8 := dkwJ5_delete_7 ++ dktJ5_delete_8
def dkwJ5_delete_6 : List UInt8 := [21, 7, 184, 0, 27, 167, 0, 36, 44, 27, 4, 96, 44, 27, 29, 27, 4, 96, 100, 184, 0, 27, 44, 29]
abbrev dktJ5_delete_6 : List UInt8 := dkwJ5_delete_6 ++ dktJ5_delete_7
def dkwJ5_delete_5 : List UInt8 := [21, 5, 29, 184, 0, 68, 181, 0, 20, 27, 42, 180, 0, 20, 163, 0, 17, 44, 27, 4, 96, 44, 27]
abbrev dktJ5_delete_5 : List UInt8 := dkwJ5_delete_5 ++ dktJ5_delete_6
def dkwJ5_delete_4 : List UInt8 := [96, 100, 184, 0, 27, 44, 21, 4, 1, 83, 42, 21, 4, 29, 184, 0, 74, 181, 0, 24, 3, 172, 42]
abbrev dktJ5_delete_4 : List UInt8 := dkwJ5_delete_4 ++ dktJ5_delete_5
def dkwJ5_delete_3 : List UInt8 := [27, 184, 0, 27, 44, 3, 44, 29, 4, 100, 50, 83, 44, 21, 4, 44, 21, 4, 4, 96, 21, 6, 27, 4]
abbrev dktJ5_delete_3 : List UInt8 := dkwJ5_delete_3 ++ dktJ5_delete_4
def dkwJ5_delete_2 : List UInt8 := [27, 163, 0, 19, 44, 21, 4, 44, 21, 4, 4, 96, 21, 6, 184, 0, 27, 167, 0, 36, 44, 3, 44, 4]
abbrev dktJ5_delete_2 : List UInt8 := dkwJ5_delete_2 ++ dktJ5_delete_3
def dkwJ5_delete_1 : List UInt8 := [180, 0, 20, 89, 54, 5, 27, 29, 184, 0, 127, 4, 100, 54, 7, 21, 6, 21, 7, 162, 0, 75, 21, 4]
abbrev dktJ5_delete_1 : List UInt8 := dkwJ5_delete_1 ++ dktJ5_delete_2
def dkwJ5_delete_0 : List UInt8 := [42, 180, 0, 3, 77, 44, 190, 62, 27, 42, 180, 0, 24, 89, 54, 4, 29, 184, 0, 127, 54, 6, 42]
abbrev dktJ5_delete_0 : List UInt8 := dkwJ5_delete_0 ++ dktJ5_delete_1
theorem dksJ5_delete_0 : cJ5_delete.data.toList.drop 0 = dktJ5_delete_0 := by decide +kernel
theorem dksJ5_delete_1 : cJ5_delete.data.toList.drop 23 = dktJ5_delete_1 := dk_seg dksJ5_delete_0 23 rfl rfl
theorem dksJ5_delete_2 : cJ5_delete.data.toList.drop 47 = dktJ5_delete_2 := dk_seg dksJ5_delete_1 24 rfl rfl
theorem dksJ5_delete_3 : cJ5_delete.data.toList.drop 71 = dktJ5_delete_3 := dk_seg dksJ5_delete_2 24 rfl rfl
theorem dksJ5_delete_4 : cJ5_delete.data.toList.drop 95 = dktJ5_delete_4 := dk_seg dksJ5_delete_3 24 rfl rfl
theorem dksJ5_delete_5 : cJ5_delete.data.toList.drop 118 = dktJ5_delete_5 := dk_seg dksJ5_delete_4 23 rfl rfl
theorem dksJ5_delete_6 : cJ5_delete.data.toList.drop 141 = dktJ5_delete_6 := dk_seg dksJ5_delete_5 23 rfl rfl
theorem dksJ5_delete_7 : cJ5_delete.data.toList.drop 165 = dktJ5_delete_7 := dk_seg dksJ5_delete_6 24 rfl rfl
theorem dksJ5_delete_8 : cJ5_delete.data.toList.drop 189 = dktJ5_delete_8 := dk_seg dksJ5_delete_7 24 rfl rfl
theorem dJ5_delete_0 : decode cJ5_delete 0 = .ok (.aload_n 0, 1) := dk_42 (dk_at dksJ5_delete_0 0 rfl rfl)
theorem dJ5_delete_1 : decode cJ5_delete 1 = .ok (.getfield 3, 3) := dk_180 0 3 (dk_at dksJ5_delete_0 1 rfl rfl)
theorem dJ5_delete_4 : decode cJ5_delete 4 = .ok (.astore_n 2, 1) := dk_77 (dk_at dksJ5_delete_0 4 rfl rfl)
theorem dJ5_delete_5 : decode cJ5_delete 5 = .ok (.aload_n 2, 1) := dk_44 (dk_at dksJ5_delete_0 5 rfl rfl)
theorem dJ5_delete_6 : decode cJ5_delete 6 = .ok (.arraylength, 1) := dk_190 (dk_at dksJ5_delete_0 6 rfl rfl)
theorem dJ5_delete_7 : decode cJ5_delete 7 = .ok (.istore_n 3, 1) := dk_62 (dk_at dksJ5_delete_0 7 rfl rfl)
theorem dJ5_delete_8 : decode cJ5_delete 8 = .ok (.iload_n 1, 1) := dk_27 (dk_at dksJ5_delete_0 8 rfl rfl)
theorem dJ5_delete_9 : decode cJ5_delete 9 = .ok (.aload_n 0, 1) := dk_42 (dk_at dksJ5_delete_0 9 rfl rfl)
theorem dJ5_delete_10 : decode cJ5_delete 10 = .ok (.getfield 24, 3) := dk_180 0 24 (dk_at dksJ5_delete_0 10 rfl rfl)
theorem dJ5_delete_13 : decode cJ5_delete 13 = .ok (.dup, 1) := dk_89 (dk_at dksJ5_delete_0 13 rfl rfl)
theorem dJ5_delete_14 : decode cJ5_delete 14 = .ok (.istore 4, 2) := dk_54 4 (dk_at dksJ5_delete_0 14 rfl rfl)
theorem dJ5_delete_16 : decode cJ5_delete 16 = .ok (.iload_n 3, 1) := dk_29 (dk_at dksJ5_delete_0 16 rfl rfl)
theorem dJ5_delete_17 : decode cJ5_delete 17 = .ok (.invokestatic 127, 3) := dk_184 0 127 (dk_at dksJ5_delete_0 17 rfl rfl)
theorem dJ5_delete_20 : decode cJ5_delete 20 = .ok (.istore 6, 2) := dk_54 6 (dk_at dksJ5_delete_0 20 rfl rfl)
theorem dJ5_delete_22 : decode cJ5_delete 22 = .ok (.aload_n 0, 1) := dk_42 (dk_at dksJ5_delete_0 22 rfl rfl)
theorem dJ5_delete_23 : decode cJ5_delete 23 = .ok (.getfield 20, 3) := dk_180 0 20 (dk_at dksJ5_delete_1 0 rfl rfl)
theorem dJ5_delete_26 : decode cJ5_delete 26 = .ok (.dup, 1) := dk_89 (dk_at dksJ5_delete_1 3 rfl rfl)
theorem dJ5_delete_27 : decode cJ5_delete 27 = .ok (.istore 5, 2) := dk_54 5 (dk_at dksJ5_delete_1 4 rfl rfl)
theorem dJ5_delete_29 : decode cJ5_delete 29 = .ok (.iload_n 1, 1) := dk_27 (dk_at dksJ5_delete_1 6 rfl rfl)
theorem dJ5_delete_30 : decode cJ5_delete 30 = .ok (.iload_n 3, 1) := dk_29 (dk_at dksJ5_delete_1 7 rfl rfl)
theorem dJ5_delete_31 : decode cJ5_delete 31 = .ok (.invokestatic 127, 3) := dk_184 0 127 (dk_at dksJ5_delete_1 8 rfl rfl)
theorem dJ5_delete_34 : decode cJ5_delete 34 = .ok (.iconst 1, 1) := dk_4 (dk_at dksJ5_delete_1 11 rfl rfl)
theorem dJ5_delete_35 : decode cJ5_delete 35 = .ok (.isub, 1) := dk_100 (dk_at dksJ5_delete_1 12 rfl rfl)
theorem dJ5_delete_36 : decode cJ5_delete 36 = .ok (.istore 7, 2) := dk_54 7 (dk_at dksJ5_delete_1 13 rfl rfl)
theorem dJ5_delete_38 : decode cJ5_delete 38 = .ok (.iload 6, 2) := dk_21 6 (dk_at dksJ5_delete_1 15 rfl rfl)
theorem dJ5_delete_40 : decode cJ5_delete 40 = .ok (.iload 7, 2) := dk_21 7 (dk_at dksJ5_delete_1 17 rfl rfl)
theorem dJ5_delete_42 : decode cJ5_delete 42 = .ok (.if_icmp .ge 75, 3) := dk_162 0 75 (dk_at dksJ5_delete_1 19 rfl rfl)
theorem dJ5_delete_45 : decode cJ5_delete 45 = .ok (.iload 4, 2) := dk_21 4 (dk_at dksJ5_delete_1 22 rfl rfl)
theorem dJ5_delete_47 : decode cJ5_delete 47 = .ok (.iload_n 1, 1) := dk_27 (dk_at dksJ5_delete_2 0 rfl rfl)
theorem dJ5_delete_48 : decode cJ5_delete 48 = .ok (.if_icmp .gt 19, 3) := dk_163 0 19 (dk_at dksJ5_delete_2 1 rfl rfl)
theorem dJ5_delete_51 : decode cJ5_delete 51 = .ok (.aload_n 2, 1) := dk_44 (dk_at dksJ5_delete_2 4 rfl rfl)
theorem dJ5_delete_52 : decode cJ5_delete 52 = .ok (.iload 4, 2) := dk_21 4 (dk_at dksJ5_delete_2 5 rfl rfl)
theorem dJ5_delete_54 : decode cJ5_delete 54 = .ok (.aload_n 2, 1) := dk_44 (dk_at dksJ5_delete_2 7 rfl rfl)
theorem dJ5_delete_55 : decode cJ5_delete 55 = .ok (.iload 4, 2) := dk_21 4 (dk_at dksJ5_delete_2 8 rfl rfl)
theorem dJ5_delete_57 : decode cJ5_delete 57 = .ok (.iconst 1, 1) := dk_4 (dk_at dksJ5_delete_2 10 rfl rfl)
theorem dJ5_delete_58 : decode cJ5_delete 58 = .ok (.iadd, 1) := dk_96 (dk_at dksJ5_delete_2 11 rfl rfl)
theorem dJ5_delete_59 : decode cJ5_delete 59 = .ok (.iload 6, 2) := dk_21 6 (dk_at dksJ5_delete_2 12 rfl rfl)
theorem dJ5_delete_61 : decode cJ5_delete 61 = .ok (.invokestatic 27, 3) := dk_184 0 27 (dk_at dksJ5_delete_2 14 rfl rfl)
theorem dJ5_delete_64 : decode cJ5_delete 64 = .ok (.goto 36, 3) := dk_167 0 36 (dk_at dksJ5_delete_2 17 rfl rfl)
theorem dJ5_delete_67 : decode cJ5_delete 67 = .ok (.aload_n 2, 1) := dk_44 (dk_at dksJ5_delete_2 20 rfl rfl)
theorem dJ5_delete_68 : decode cJ5_delete 68 = .ok (.iconst 0, 1) := dk_3 (dk_at dksJ5_delete_2 21 rfl rfl)
theorem dJ5_delete_69 : decode cJ5_delete 69 = .ok (.aload_n 2, 1) := dk_44 (dk_at dksJ5_delete_2 22 rfl rfl)
theorem dJ5_delete_70 : decode cJ5_delete 70 = .ok (.iconst 1, 1) := dk_4 (dk_at dksJ5_delete_2 23 rfl rfl)
theorem dJ5_delete_71 : decode cJ5_delete 71 = .ok (.iload_n 1, 1) := dk_27 (dk_at dksJ5_delete_3 0 rfl rfl)
theorem dJ5_delete_72 : decode cJ5_delete 72 = .ok (.invokestatic 27, 3) := dk_184 0 27 (dk_at dksJ5_delete_3 1 rfl rfl)
theorem dJ5_delete_75 : decode cJ5_delete 75 = .ok (.aload_n 2, 1) := dk_44 (dk_at dksJ5_delete_3 4 rfl rfl)
theorem dJ5_delete_76 : decode cJ5_delete 76 = .ok (.iconst 0, 1) := dk_3 (dk_at dksJ5_delete_3 5 rfl rfl)
theorem dJ5_delete_77 : decode cJ5_delete 77 = .ok (.aload_n 2, 1) := dk_44 (dk_at dksJ5_delete_3 6 rfl rfl)
theorem dJ5_delete_78 : decode cJ5_delete 78 = .ok (.iload_n 3, 1) := dk_29 (dk_at dksJ5_delete_3 7 rfl rfl)
theorem dJ5_delete_79 : decode cJ5_delete 79 = .ok (.iconst 1, 1) := dk_4 (dk_at dksJ5_delete_3 8 rfl rfl)
theorem dJ5_delete_80 : decode cJ5_delete 80 = .ok (.isub, 1) := dk_100 (dk_at dksJ5_delete_3 9 rfl rfl)
theorem dJ5_delete_81 : decode cJ5_delete 81 = .ok (.aaload, 1) := dk_50 (dk_at dksJ5_delete_3 10 rfl rfl)
theorem dJ5_delete_82 : decode cJ5_delete 82 = .ok (.aastore, 1) := dk_83 (dk_at dksJ5_delete_3 11 rfl rfl)
theorem dJ5_delete_83 : decode cJ5_delete 83 = .ok (.aload_n 2, 1) := dk_44 (dk_at dksJ5_delete_3 12 rfl rfl)
theorem dJ5_delete_84 : decode cJ5_delete 84 = .ok (.iload 4, 2) := dk_21 4 (dk_at dksJ5_delete_3 13 rfl rfl)
theorem dJ5_delete_86 : decode cJ5_delete 86 = .ok (.aload_n 2, 1) := dk_44 (dk_at dksJ5_delete_3 15 rfl rfl)
theorem dJ5_delete_87 : decode cJ5_delete 87 = .ok (.iload 4, 2) := dk_21 4 (dk_at dksJ5_delete_3 16 rfl rfl)
theorem dJ5_delete_89 : decode cJ5_delete 89 = .ok (.iconst 1, 1) := dk_4 (dk_at dksJ5_delete_3 18 rfl rfl)
theorem dJ5_delete_90 : decode cJ5_delete 90 = .ok (.iadd, 1) := dk_96 (dk_at dksJ5_delete_3 19 rfl rfl)
theorem dJ5_delete_91 : decode cJ5_delete 91 = .ok (.iload 6, 2) := dk_21 6 (dk_at dksJ5_delete_3 20 rfl rfl)
theorem dJ5_delete_93 : decode cJ5_delete 93 = .ok (.iload_n 1, 1) := dk_27 (dk_at dksJ5_delete_3 22 rfl rfl)
theorem dJ5_delete_94 : decode cJ5_delete 94 = .ok (.iconst 1, 1) := dk_4 (dk_at dksJ5_delete_3 23 rfl rfl)
theorem dJ5_delete_95 : decode cJ5_delete 95 = .ok (.iadd, 1) := dk_96 (dk_at dksJ5_delete_4 0 rfl rfl)
theorem dJ5_delete_96 : decode cJ5_delete 96 = .ok (.isub, 1) := dk_100 (dk_at dksJ5_delete_4 1 rfl rfl)
theorem dJ5_delete_97 : decode cJ5_delete 97 = .ok (.invokestatic 27, 3) := dk_184 0 27 (dk_at dksJ5_delete_4 2 rfl rfl)
theorem dJ5_delete_100 : decode cJ5_delete 100 = .ok (.aload_n 2, 1) := dk_44 (dk_at dksJ5_delete_4 5 rfl rfl)
theorem dJ5_delete_101 : decode cJ5_delete 101 = .ok (.iload 4, 2) := dk_21 4 (dk_at dksJ5_delete_4 6 rfl rfl)
theorem dJ5_delete_103 : decode cJ5_delete 103 = .ok (.aconst_null, 1) := dk_1 (dk_at dksJ5_delete_4 8 rfl rfl)
theorem dJ5_delete_104 : decode cJ5_delete 104 = .ok (.aastore, 1) := dk_83 (dk_at dksJ5_delete_4 9 rfl rfl)
theorem dJ5_delete_105 : decode cJ5_delete 105 = .ok (.aload_n 0, 1) := dk_42 (dk_at dksJ5_delete_4 10 rfl rfl)
theorem dJ5_delete_106 : decode cJ5_delete 106 = .ok (.iload 4, 2) := dk_21 4 (dk_at dksJ5_delete_4 11 rfl rfl)
theorem dJ5_delete_108 : decode cJ5_delete 108 = .ok (.iload_n 3, 1) := dk_29 (dk_at dksJ5_delete_4 13 rfl rfl)
theorem dJ5_delete_109 : decode cJ5_delete 109 = .ok (.invokestatic 74, 3) := dk_184 0 74 (dk_at dksJ5_delete_4 14 rfl rfl)
theorem dJ5_delete_112 : decode cJ5_delete 112 = .ok (.putfield 24, 3) := dk_181 0 24 (dk_at dksJ5_delete_4 17 rfl rfl)
theorem dJ5_delete_115 : decode cJ5_delete 115 = .ok (.iconst 0, 1) := dk_3 (dk_at dksJ5_delete_4 20 rfl rfl)
theorem dJ5_delete_116 : decode cJ5_delete 116 = .ok (.ireturn, 1) := dk_172 (dk_at dksJ5_delete_4 21 rfl rfl)
theorem dJ5_delete_117 : decode cJ5_delete 117 = .ok (.aload_n 0, 1) := dk_42 (dk_at dksJ5_delete_4 22 rfl rfl)
theorem dJ5_delete_118 : decode cJ5_delete 118 = .ok (.iload 5, 2) := dk_21 5 (dk_at dksJ5_delete_5 0 rfl rfl)
theorem dJ5_delete_120 : decode cJ5_delete 120 = .ok (.iload_n 3, 1) := dk_29 (dk_at dksJ5_delete_5 2 rfl rfl)
theorem dJ5_delete_121 : decode cJ5_delete 121 = .ok (.invokestatic 68, 3) := dk_184 0 68 (dk_at dksJ5_delete_5 3 rfl rfl)
theorem dJ5_delete_124 : decode cJ5_delete 124 = .ok (.putfield 20, 3) := dk_181 0 20 (dk_at dksJ5_delete_5 6 rfl rfl)
theorem dJ5_delete_127 : decode cJ5_delete 127 = .ok (.iload_n 1, 1) := dk_27 (dk_at dksJ5_delete_5 9 rfl rfl)
theorem dJ5_delete_128 : decode cJ5_delete 128 = .ok (.aload_n 0, 1) := dk_42 (dk_at dksJ5_delete_5 10 rfl rfl)
theorem dJ5_delete_129 : decode cJ5_delete 129 = .ok (.getfield 20, 3) := dk_180 0 20 (dk_at dksJ5_delete_5 11 rfl rfl)
theorem dJ5_delete_132 : decode cJ5_delete 132 = .ok (.if_icmp .gt 17, 3) := dk_163 0 17 (dk_at dksJ5_delete_5 14 rfl rfl)
theorem dJ5_delete_135 : decode cJ5_delete 135 = .ok (.aload_n 2, 1) := dk_44 (dk_at dksJ5_delete_5 17 rfl rfl)
theorem dJ5_delete_136 : decode cJ5_delete 136 = .ok (.iload_n 1, 1) := dk_27 (dk_at dksJ5_delete_5 18 rfl rfl)
theorem dJ5_delete_137 : decode cJ5_delete 137 = .ok (.iconst 1, 1) := dk_4 (dk_at dksJ5_delete_5 19 rfl rfl)
theorem dJ5_delete_138 : decode cJ5_delete 138 = .ok (.iadd, 1) := dk_96 (dk_at dksJ5_delete_5 20 rfl rfl)
theorem dJ5_delete_139 : decode cJ5_delete 139 = .ok (.aload_n 2, 1) := dk_44 (dk_at dksJ5_delete_5 21 rfl rfl)
theorem dJ5_delete_140 : decode cJ5_delete 140 = .ok (.iload_n 1, 1) := dk_27 (dk_at dksJ5_delete_5 22 rfl rfl)
theorem dJ5_delete_141 : decode cJ5_delete 141 = .ok (.iload 7, 2) := dk_21 7 (dk_at dksJ5_delete_6 0 rfl rfl)
theorem dJ5_delete_143 : decode cJ5_delete 143 = .ok (.invokestatic 27, 3) := dk_184 0 27 (dk_at dksJ5_delete_6 2 rfl rfl)
theorem dJ5_delete_146 : decode cJ5_delete 146 = .ok (.goto 36, 3) := dk_167 0 36 (dk_at dksJ5_delete_6 5 rfl rfl)
theorem dJ5_delete_149 : decode cJ5_delete 149 = .ok (.aload_n 2, 1) := dk_44 (dk_at dksJ5_delete_6 8 rfl rfl)
theorem dJ5_delete_150 : decode cJ5_delete 150 = .ok (.iload_n 1, 1) := dk_27 (dk_at dksJ5_delete_6 9 rfl rfl)
theorem dJ5_delete_151 : decode cJ5_delete 151 = .ok (.iconst 1, 1) := dk_4 (dk_at dksJ5_delete_6 10 rfl rfl)
theorem dJ5_delete_152 : decode cJ5_delete 152 = .ok (.iadd, 1) := dk_96 (dk_at dksJ5_delete_6 11 rfl rfl)
theorem dJ5_delete_153 : decode cJ5_delete 153 = .ok (.aload_n 2, 1) := dk_44 (dk_at dksJ5_delete_6 12 rfl rfl)
theorem dJ5_delete_154 : decode cJ5_delete 154 = .ok (.iload_n 1, 1) := dk_27 (dk_at dksJ5_delete_6 13 rfl rfl)
theorem dJ5_delete_155 : decode cJ5_delete 155 = .ok (.iload_n 3, 1) := dk_29 (dk_at dksJ5_delete_6 14 rfl rfl)
theorem dJ5_delete_156 : decode cJ5_delete 156 = .ok (.iload_n 1, 1) := dk_27 (dk_at dksJ5_delete_6 15 rfl rfl)
theorem dJ5_delete_157 : decode cJ5_delete 157 = .ok (.iconst 1, 1) := dk_4 (dk_at dksJ5_delete_6 16 rfl rfl)
theorem dJ5_delete_158 : decode cJ5_delete 158 = .ok (.iadd, 1) := dk_96 (dk_at dksJ5_delete_6 17 rfl rfl)
theorem dJ5_delete_159 : decode cJ5_delete 159 = .ok (.isub, 1) := dk_100 (dk_at dksJ5_delete_6 18 rfl rfl)
theorem dJ5_delete_160 : decode cJ5_delete 160 = .ok (.invokestatic 27, 3) := dk_184 0 27 (dk_at dksJ5_delete_6 19 rfl rfl)
theorem dJ5_delete_163 : decode cJ5_delete 163 = .ok (.aload_n 2, 1) := dk_44 (dk_at dksJ5_delete_6 22 rfl rfl)
theorem dJ5_delete_164 : decode cJ5_delete 164 = .ok (.iload_n 3, 1) := dk_29 (dk_at dksJ5_delete_6 23 rfl rfl)
theorem dJ5_delete_165 : decode cJ5_delete 165 = .ok (.iconst 1, 1) := dk_4 (dk_at dksJ5_delete_7 0 rfl rfl)
theorem dJ5_delete_166 : decode cJ5_delete 166 = .ok (.isub, 1) := dk_100 (dk_at dksJ5_delete_7 1 rfl rfl)
theorem dJ5_delete_167 : decode cJ5_delete 167 = .ok (.aload_n 2, 1) := dk_44 (dk_at dksJ5_delete_7 2 rfl rfl)
theorem dJ5_delete_168 : decode cJ5_delete 168 = .ok (.iconst 0, 1) := dk_3 (dk_at dksJ5_delete_7 3 rfl rfl)
theorem dJ5_delete_169 : decode cJ5_delete 169 = .ok (.aaload, 1) := dk_50 (dk_at dksJ5_delete_7 4 rfl rfl)
theorem dJ5_delete_170 : decode cJ5_delete 170 = .ok (.aastore, 1) := dk_83 (dk_at dksJ5_delete_7 5 rfl rfl)
theorem dJ5_delete_171 : decode cJ5_delete 171 = .ok (.aload_n 2, 1) := dk_44 (dk_at dksJ5_delete_7 6 rfl rfl)
theorem dJ5_delete_172 : decode cJ5_delete 172 = .ok (.iconst 1, 1) := dk_4 (dk_at dksJ5_delete_7 7 rfl rfl)
theorem dJ5_delete_173 : decode cJ5_delete 173 = .ok (.aload_n 2, 1) := dk_44 (dk_at dksJ5_delete_7 8 rfl rfl)
theorem dJ5_delete_174 : decode cJ5_delete 174 = .ok (.iconst 0, 1) := dk_3 (dk_at dksJ5_delete_7 9 rfl rfl)
theorem dJ5_delete_175 : decode cJ5_delete 175 = .ok (.iload 5, 2) := dk_21 5 (dk_at dksJ5_delete_7 10 rfl rfl)
theorem dJ5_delete_177 : decode cJ5_delete 177 = .ok (.iconst 1, 1) := dk_4 (dk_at dksJ5_delete_7 12 rfl rfl)
theorem dJ5_delete_178 : decode cJ5_delete 178 = .ok (.isub, 1) := dk_100 (dk_at dksJ5_delete_7 13 rfl rfl)
theorem dJ5_delete_179 : decode cJ5_delete 179 = .ok (.invokestatic 27, 3) := dk_184 0 27 (dk_at dksJ5_delete_7 14 rfl rfl)
theorem dJ5_delete_182 : decode cJ5_delete 182 = .ok (.aload_n 2, 1) := dk_44 (dk_at dksJ5_delete_7 17 rfl rfl)
theorem dJ5_delete_183 : decode cJ5_delete 183 = .ok (.aload_n 0, 1) := dk_42 (dk_at dksJ5_delete_7 18 rfl rfl)
theorem dJ5_delete_184 : decode cJ5_delete 184 = .ok (.getfield 20, 3) := dk_180 0 20 (dk_at dksJ5_delete_7 19 rfl rfl)
theorem dJ5_delete_187 : decode cJ5_delete 187 = .ok (.aconst_null, 1) := dk_1 (dk_at dksJ5_delete_7 22 rfl rfl)
theorem dJ5_delete_188 : decode cJ5_delete 188 = .ok (.aastore, 1) := dk_83 (dk_at dksJ5_delete_7 23 rfl rfl)
theorem dJ5_delete_189 : decode cJ5_delete 189 = .ok (.iconst 1, 1) := dk_4 (dk_at dksJ5_delete_8 0 rfl rfl)
theorem dJ5_delete_190 : decode cJ5_delete 190 = .ok (.ireturn, 1) := dk_172 (dk_at dksJ5_delete_8 1 rfl rfl)
abbrev cJ5_dec : ByteArray := prog_63_method_7_code
def yJ5_dec : MethodName := ⟨RJ5, "dec", "(II)I"⟩
def dkwJ5_dec_0 : List UInt8 := [132, 0, 255, 26, 156, 0, 7, 27, 4, 100, 59, 26, 172]
abbrev dktJ5_dec_0 : List UInt8 := dkwJ5_dec_0 ++ []
theorem dksJ5_dec_0 : cJ5_dec.data.toList.drop 0 = dktJ5_dec_0 := by decide +kernel
theorem dJ5_dec_0 : decode cJ5_dec 0 = .ok (.iinc 0 (-1), 3) := dk_132 0 255 (dk_at dksJ5_dec_0 0 rfl rfl)
theorem dJ5_dec_3 : decode cJ5_dec 3 = .ok (.iload_n 0, 1) := dk_26 (dk_at dksJ5_dec_0 3 rfl rfl)
theorem dJ5_dec_4 : decode cJ5_dec 4 = .ok (.ifCond .ge 7, 3) := dk_156 0 7 (dk_at dksJ5_dec_0 4 rfl rfl)
theorem dJ5_dec_7 : decode cJ5_dec 7 = .ok (.iload_n 1, 1) := dk_27 (dk_at dksJ5_dec_0 7 rfl rfl)
theorem dJ5_dec_8 : decode cJ5_dec 8 = .ok (.iconst 1, 1) := dk_4 (dk_at dksJ5_dec_0 8 rfl rfl)
theorem dJ5_dec_9 : decode cJ5_dec 9 = .ok (.isub, 1) := dk_100 (dk_at dksJ5_dec_0 9 rfl rfl)
theorem dJ5_dec_10 : decode cJ5_dec 10 = .ok (.istore_n 0, 1) := dk_59 (dk_at dksJ5_dec_0 10 rfl rfl)
theorem dJ5_dec_11 : decode cJ5_dec 11 = .ok (.iload_n 0, 1) := dk_26 (dk_at dksJ5_dec_0 11 rfl rfl)
theorem dJ5_dec_12 : decode cJ5_dec 12 = .ok (.ireturn, 1) := dk_172 (dk_at dksJ5_dec_0 12 rfl rfl)
abbrev cJ5_iterator : ByteArray := prog_63_method_39_code
def yJ5_iterator : MethodName := ⟨RJ5, "iterator", "()Ljava/util/Iterator;"⟩
def dkwJ5_iterator_0 : List UInt8 := [187, 0, 131, 89, 42, 183, 0, 133, 176]
abbrev dktJ5_iterator_0 : List UInt8 := dkwJ5_iterator_0 ++ []
theorem dksJ5_iterator_0 : cJ5_iterator.data.toList.drop 0 = dktJ5_iterator_0 := by decide +kernel
theorem dJ5_iterator_0 : decode cJ5_iterator 0 = .ok (.new 131, 3) := dk_187 0 131 (dk_at dksJ5_iterator_0 0 rfl rfl)
theorem dJ5_iterator_3 : decode cJ5_iterator 3 = .ok (.dup, 1) := dk_89 (dk_at dksJ5_iterator_0 3 rfl rfl)
theorem dJ5_iterator_4 : decode cJ5_iterator 4 = .ok (.aload_n 0, 1) := dk_42 (dk_at dksJ5_iterator_0 4 rfl rfl)
theorem dJ5_iterator_5 : decode cJ5_iterator 5 = .ok (.invokespecial 133, 3) := dk_183 0 133 (dk_at dksJ5_iterator_0 5 rfl rfl)
theorem dJ5_iterator_8 : decode cJ5_iterator 8 = .ok (.areturn, 1) := dk_176 (dk_at dksJ5_iterator_0 8 rfl rfl)
abbrev cJ5_addLast : ByteArray := prog_63_method_13_code
def yJ5_addLast : MethodName := ⟨RJ5, "addLast", "(Ljava/lang/Object;)V"⟩
def dkwJ5_addLast_2 : List UInt8 := [182, 0, 71, 177]
abbrev dktJ5_addLast_2 : List UInt8 := dkwJ5_addLast_2 ++ []
def dkwJ5_addLast_1 : List UInt8 := [42, 180, 0, 24, 42, 42, 180, 0, 20, 44, 190, 184, 0, 74, 90, 181, 0, 20, 160, 0, 8, 42, 4]
abbrev dktJ5_addLast_1 : List UInt8 := dkwJ5_addLast_1 ++ dktJ5_addLast_2
def dkwJ5_addLast_0 : List UInt8 := [43, 199, 0, 11, 187, 0, 65, 89, 183, 0, 67, 191, 42, 180, 0, 3, 77, 44, 42, 180, 0, 20, 43, 83]
abbrev dktJ5_addLast_0 : List UInt8 := dkwJ5_addLast_0 ++ dktJ5_addLast_1
theorem dksJ5_addLast_0 : cJ5_addLast.data.toList.drop 0 = dktJ5_addLast_0 := by decide +kernel
theorem dksJ5_addLast_1 : cJ5_addLast.data.toList.drop 24 = dktJ5_addLast_1 := dk_seg dksJ5_addLast_0 24 rfl rfl
theorem dksJ5_addLast_2 : cJ5_addLast.data.toList.drop 47 = dktJ5_addLast_2 := dk_seg dksJ5_addLast_1 23 rfl rfl
theorem dJ5_addLast_0 : decode cJ5_addLast 0 = .ok (.aload_n 1, 1) := dk_43 (dk_at dksJ5_addLast_0 0 rfl rfl)
theorem dJ5_addLast_1 : decode cJ5_addLast 1 = .ok (.ifnonnull 11, 3) := dk_199 0 11 (dk_at dksJ5_addLast_0 1 rfl rfl)
theorem dJ5_addLast_4 : decode cJ5_addLast 4 = .ok (.new 65, 3) := dk_187 0 65 (dk_at dksJ5_addLast_0 4 rfl rfl)
theorem dJ5_addLast_7 : decode cJ5_addLast 7 = .ok (.dup, 1) := dk_89 (dk_at dksJ5_addLast_0 7 rfl rfl)
theorem dJ5_addLast_8 : decode cJ5_addLast 8 = .ok (.invokespecial 67, 3) := dk_183 0 67 (dk_at dksJ5_addLast_0 8 rfl rfl)
theorem dJ5_addLast_11 : decode cJ5_addLast 11 = .ok (.athrow, 1) := dk_191 (dk_at dksJ5_addLast_0 11 rfl rfl)
theorem dJ5_addLast_12 : decode cJ5_addLast 12 = .ok (.aload_n 0, 1) := dk_42 (dk_at dksJ5_addLast_0 12 rfl rfl)
theorem dJ5_addLast_13 : decode cJ5_addLast 13 = .ok (.getfield 3, 3) := dk_180 0 3 (dk_at dksJ5_addLast_0 13 rfl rfl)
theorem dJ5_addLast_16 : decode cJ5_addLast 16 = .ok (.astore_n 2, 1) := dk_77 (dk_at dksJ5_addLast_0 16 rfl rfl)
theorem dJ5_addLast_17 : decode cJ5_addLast 17 = .ok (.aload_n 2, 1) := dk_44 (dk_at dksJ5_addLast_0 17 rfl rfl)
theorem dJ5_addLast_18 : decode cJ5_addLast 18 = .ok (.aload_n 0, 1) := dk_42 (dk_at dksJ5_addLast_0 18 rfl rfl)
theorem dJ5_addLast_19 : decode cJ5_addLast 19 = .ok (.getfield 20, 3) := dk_180 0 20 (dk_at dksJ5_addLast_0 19 rfl rfl)
theorem dJ5_addLast_22 : decode cJ5_addLast 22 = .ok (.aload_n 1, 1) := dk_43 (dk_at dksJ5_addLast_0 22 rfl rfl)
theorem dJ5_addLast_23 : decode cJ5_addLast 23 = .ok (.aastore, 1) := dk_83 (dk_at dksJ5_addLast_0 23 rfl rfl)
theorem dJ5_addLast_24 : decode cJ5_addLast 24 = .ok (.aload_n 0, 1) := dk_42 (dk_at dksJ5_addLast_1 0 rfl rfl)
theorem dJ5_addLast_25 : decode cJ5_addLast 25 = .ok (.getfield 24, 3) := dk_180 0 24 (dk_at dksJ5_addLast_1 1 rfl rfl)
theorem dJ5_addLast_28 : decode cJ5_addLast 28 = .ok (.aload_n 0, 1) := dk_42 (dk_at dksJ5_addLast_1 4 rfl rfl)
theorem dJ5_addLast_29 : decode cJ5_addLast 29 = .ok (.aload_n 0, 1) := dk_42 (dk_at dksJ5_addLast_1 5 rfl rfl)
theorem dJ5_addLast_30 : decode cJ5_addLast 30 = .ok (.getfield 20, 3) := dk_180 0 20 (dk_at dksJ5_addLast_1 6 rfl rfl)
theorem dJ5_addLast_33 : decode cJ5_addLast 33 = .ok (.aload_n 2, 1) := dk_44 (dk_at dksJ5_addLast_1 9 rfl rfl)
theorem dJ5_addLast_34 : decode cJ5_addLast 34 = .ok (.arraylength, 1) := dk_190 (dk_at dksJ5_addLast_1 10 rfl rfl)
theorem dJ5_addLast_35 : decode cJ5_addLast 35 = .ok (.invokestatic 74, 3) := dk_184 0 74 (dk_at dksJ5_addLast_1 11 rfl rfl)
theorem dJ5_addLast_38 : decode cJ5_addLast 38 = .ok (.dup_x1, 1) := dk_90 (dk_at dksJ5_addLast_1 14 rfl rfl)
theorem dJ5_addLast_39 : decode cJ5_addLast 39 = .ok (.putfield 20, 3) := dk_181 0 20 (dk_at dksJ5_addLast_1 15 rfl rfl)
theorem dJ5_addLast_42 : decode cJ5_addLast 42 = .ok (.if_icmp .ne 8, 3) := dk_160 0 8 (dk_at dksJ5_addLast_1 18 rfl rfl)
theorem dJ5_addLast_45 : decode cJ5_addLast 45 = .ok (.aload_n 0, 1) := dk_42 (dk_at dksJ5_addLast_1 21 rfl rfl)
theorem dJ5_addLast_46 : decode cJ5_addLast 46 = .ok (.iconst 1, 1) := dk_4 (dk_at dksJ5_addLast_1 22 rfl rfl)
theorem dJ5_addLast_47 : decode cJ5_addLast 47 = .ok (.invokevirtual 71, 3) := dk_182 0 71 (dk_at dksJ5_addLast_2 0 rfl rfl)
theorem dJ5_addLast_50 : decode cJ5_addLast 50 = .ok (.return_, 1) := dk_177 (dk_at dksJ5_addLast_2 3 rfl rfl)
abbrev cJ5_grow : ByteArray := prog_63_method_1_code
def yJ5_grow : MethodName := ⟨RJ5, "grow", "(I)V"⟩
def dkwJ5_grow_7 : List UInt8 := [177]
abbrev dktJ5_grow_7 : List UInt8 := dkwJ5_grow_7 ++ []
def dkwJ5_grow_6 : List UInt8 := [181, 0, 24, 54, 8, 21, 7, 21, 8, 162, 0, 15, 25, 5, 21, 7, 1, 83, 132, 7, 1, 167, 255, 240]
abbrev dktJ5_grow_6 : List UInt8 := dkwJ5_grow_6 ++ dktJ5_grow_7
def dkwJ5_grow_5 : List UInt8 := [42, 180, 0, 24, 100, 184, 0, 27, 42, 180, 0, 24, 54, 7, 42, 89, 180, 0, 24, 21, 6, 96, 90]
abbrev dktJ5_grow_5 : List UInt8 := dkwJ5_grow_5 ++ dktJ5_grow_6
def dkwJ5_grow_4 : List UInt8 := [198, 0, 71, 29, 28, 100, 54, 6, 25, 5, 42, 180, 0, 24, 25, 5, 42, 180, 0, 24, 21, 6, 96, 28]
abbrev dktJ5_grow_4 : List UInt8 := dkwJ5_grow_4 ++ dktJ5_grow_5
def dkwJ5_grow_3 : List UInt8 := [180, 0, 24, 161, 0, 24, 42, 180, 0, 20, 42, 180, 0, 24, 160, 0, 81, 25, 5, 42, 180, 0, 24, 50]
abbrev dktJ5_grow_3 : List UInt8 := dkwJ5_grow_3 ++ dktJ5_grow_4
def dkwJ5_grow_2 : List UInt8 := [182, 0, 10, 62, 42, 42, 180, 0, 3, 29, 184, 0, 14, 90, 181, 0, 3, 58, 5, 42, 180, 0, 20, 42]
abbrev dktJ5_grow_2 : List UInt8 := dkwJ5_grow_2 ++ dktJ5_grow_3
def dkwJ5_grow_1 : List UInt8 := [21, 4, 27, 161, 0, 15, 28, 21, 4, 96, 89, 62, 18, 9, 100, 158, 0, 11, 42, 27, 21, 4]
abbrev dktJ5_grow_1 : List UInt8 := dkwJ5_grow_1 ++ dktJ5_grow_2
def dkwJ5_grow_0 : List UInt8 := [42, 180, 0, 3, 190, 61, 28, 16, 64, 162, 0, 9, 28, 5, 96, 167, 0, 6, 28, 4, 122, 54, 4]
abbrev dktJ5_grow_0 : List UInt8 := dkwJ5_grow_0 ++ dktJ5_grow_1
theorem dksJ5_grow_0 : cJ5_grow.data.toList.drop 0 = dktJ5_grow_0 := by decide +kernel
theorem dksJ5_grow_1 : cJ5_grow.data.toList.drop 23 = dktJ5_grow_1 := dk_seg dksJ5_grow_0 23 rfl rfl
theorem dksJ5_grow_2 : cJ5_grow.data.toList.drop 45 = dktJ5_grow_2 := dk_seg dksJ5_grow_1 22 rfl rfl
theorem dksJ5_grow_3 : cJ5_grow.data.toList.drop 69 = dktJ5_grow_3 := dk_seg dksJ5_grow_2 24 rfl rfl
theorem dksJ5_grow_4 : cJ5_grow.data.toList.drop 93 = dktJ5_grow_4 := dk_seg dksJ5_grow_3 24 rfl rfl
theorem dksJ5_grow_5 : cJ5_grow.data.toList.drop 117 = dktJ5_grow_5 := dk_seg dksJ5_grow_4 24 rfl rfl
theorem dksJ5_grow_6 : cJ5_grow.data.toList.drop 140 = dktJ5_grow_6 := dk_seg dksJ5_grow_5 23 rfl rfl
theorem dksJ5_grow_7 : cJ5_grow.data.toList.drop 164 = dktJ5_grow_7 := dk_seg dksJ5_grow_6 24 rfl rfl
theorem dJ5_grow_0 : decode cJ5_grow 0 = .ok (.aload_n 0, 1) := dk_42 (dk_at dksJ5_grow_0 0 rfl rfl)
theorem dJ5_grow_1 : decode cJ5_grow 1 = .ok (.getfield 3, 3) := dk_180 0 3 (dk_at dksJ5_grow_0 1 rfl rfl)
theorem dJ5_grow_4 : decode cJ5_grow 4 = .ok (.arraylength, 1) := dk_190 (dk_at dksJ5_grow_0 4 rfl rfl)
theorem dJ5_grow_5 : decode cJ5_grow 5 = .ok (.istore_n 2, 1) := dk_61 (dk_at dksJ5_grow_0 5 rfl rfl)
theorem dJ5_grow_6 : decode cJ5_grow 6 = .ok (.iload_n 2, 1) := dk_28 (dk_at dksJ5_grow_0 6 rfl rfl)
theorem dJ5_grow_7 : decode cJ5_grow 7 = .ok (.bipush 64, 2) := dk_16 64 (dk_at dksJ5_grow_0 7 rfl rfl)
theorem dJ5_grow_9 : decode cJ5_grow 9 = .ok (.if_icmp .ge 9, 3) := dk_162 0 9 (dk_at dksJ5_grow_0 9 rfl rfl)
theorem dJ5_grow_12 : decode cJ5_grow 12 = .ok (.iload_n 2, 1) := dk_28 (dk_at dksJ5_grow_0 12 rfl rfl)
theorem dJ5_grow_13 : decode cJ5_grow 13 = .ok (.iconst 2, 1) := dk_5 (dk_at dksJ5_grow_0 13 rfl rfl)
theorem dJ5_grow_14 : decode cJ5_grow 14 = .ok (.iadd, 1) := dk_96 (dk_at dksJ5_grow_0 14 rfl rfl)
theorem dJ5_grow_15 : decode cJ5_grow 15 = .ok (.goto 6, 3) := dk_167 0 6 (dk_at dksJ5_grow_0 15 rfl rfl)
theorem dJ5_grow_18 : decode cJ5_grow 18 = .ok (.iload_n 2, 1) := dk_28 (dk_at dksJ5_grow_0 18 rfl rfl)
theorem dJ5_grow_19 : decode cJ5_grow 19 = .ok (.iconst 1, 1) := dk_4 (dk_at dksJ5_grow_0 19 rfl rfl)
theorem dJ5_grow_20 : decode cJ5_grow 20 = .ok (.ishr, 1) := dk_122 (dk_at dksJ5_grow_0 20 rfl rfl)
theorem dJ5_grow_21 : decode cJ5_grow 21 = .ok (.istore 4, 2) := dk_54 4 (dk_at dksJ5_grow_0 21 rfl rfl)
theorem dJ5_grow_23 : decode cJ5_grow 23 = .ok (.iload 4, 2) := dk_21 4 (dk_at dksJ5_grow_1 0 rfl rfl)
theorem dJ5_grow_25 : decode cJ5_grow 25 = .ok (.iload_n 1, 1) := dk_27 (dk_at dksJ5_grow_1 2 rfl rfl)
theorem dJ5_grow_26 : decode cJ5_grow 26 = .ok (.if_icmp .lt 15, 3) := dk_161 0 15 (dk_at dksJ5_grow_1 3 rfl rfl)
theorem dJ5_grow_29 : decode cJ5_grow 29 = .ok (.iload_n 2, 1) := dk_28 (dk_at dksJ5_grow_1 6 rfl rfl)
theorem dJ5_grow_30 : decode cJ5_grow 30 = .ok (.iload 4, 2) := dk_21 4 (dk_at dksJ5_grow_1 7 rfl rfl)
theorem dJ5_grow_32 : decode cJ5_grow 32 = .ok (.iadd, 1) := dk_96 (dk_at dksJ5_grow_1 9 rfl rfl)
theorem dJ5_grow_33 : decode cJ5_grow 33 = .ok (.dup, 1) := dk_89 (dk_at dksJ5_grow_1 10 rfl rfl)
theorem dJ5_grow_34 : decode cJ5_grow 34 = .ok (.istore_n 3, 1) := dk_62 (dk_at dksJ5_grow_1 11 rfl rfl)
theorem dJ5_grow_35 : decode cJ5_grow 35 = .ok (.ldc 9, 2) := dk_18 9 (dk_at dksJ5_grow_1 12 rfl rfl)
theorem dJ5_grow_37 : decode cJ5_grow 37 = .ok (.isub, 1) := dk_100 (dk_at dksJ5_grow_1 14 rfl rfl)
theorem dJ5_grow_38 : decode cJ5_grow 38 = .ok (.ifCond .le 11, 3) := dk_158 0 11 (dk_at dksJ5_grow_1 15 rfl rfl)
theorem dJ5_grow_41 : decode cJ5_grow 41 = .ok (.aload_n 0, 1) := dk_42 (dk_at dksJ5_grow_1 18 rfl rfl)
theorem dJ5_grow_42 : decode cJ5_grow 42 = .ok (.iload_n 1, 1) := dk_27 (dk_at dksJ5_grow_1 19 rfl rfl)
theorem dJ5_grow_43 : decode cJ5_grow 43 = .ok (.iload 4, 2) := dk_21 4 (dk_at dksJ5_grow_1 20 rfl rfl)
theorem dJ5_grow_45 : decode cJ5_grow 45 = .ok (.invokevirtual 10, 3) := dk_182 0 10 (dk_at dksJ5_grow_2 0 rfl rfl)
theorem dJ5_grow_48 : decode cJ5_grow 48 = .ok (.istore_n 3, 1) := dk_62 (dk_at dksJ5_grow_2 3 rfl rfl)
theorem dJ5_grow_49 : decode cJ5_grow 49 = .ok (.aload_n 0, 1) := dk_42 (dk_at dksJ5_grow_2 4 rfl rfl)
theorem dJ5_grow_50 : decode cJ5_grow 50 = .ok (.aload_n 0, 1) := dk_42 (dk_at dksJ5_grow_2 5 rfl rfl)
theorem dJ5_grow_51 : decode cJ5_grow 51 = .ok (.getfield 3, 3) := dk_180 0 3 (dk_at dksJ5_grow_2 6 rfl rfl)
theorem dJ5_grow_54 : decode cJ5_grow 54 = .ok (.iload_n 3, 1) := dk_29 (dk_at dksJ5_grow_2 9 rfl rfl)
theorem dJ5_grow_55 : decode cJ5_grow 55 = .ok (.invokestatic 14, 3) := dk_184 0 14 (dk_at dksJ5_grow_2 10 rfl rfl)
theorem dJ5_grow_58 : decode cJ5_grow 58 = .ok (.dup_x1, 1) := dk_90 (dk_at dksJ5_grow_2 13 rfl rfl)
theorem dJ5_grow_59 : decode cJ5_grow 59 = .ok (.putfield 3, 3) := dk_181 0 3 (dk_at dksJ5_grow_2 14 rfl rfl)
theorem dJ5_grow_62 : decode cJ5_grow 62 = .ok (.astore 5, 2) := dk_58 5 (dk_at dksJ5_grow_2 17 rfl rfl)
theorem dJ5_grow_64 : decode cJ5_grow 64 = .ok (.aload_n 0, 1) := dk_42 (dk_at dksJ5_grow_2 19 rfl rfl)
theorem dJ5_grow_65 : decode cJ5_grow 65 = .ok (.getfield 20, 3) := dk_180 0 20 (dk_at dksJ5_grow_2 20 rfl rfl)
theorem dJ5_grow_68 : decode cJ5_grow 68 = .ok (.aload_n 0, 1) := dk_42 (dk_at dksJ5_grow_2 23 rfl rfl)
theorem dJ5_grow_69 : decode cJ5_grow 69 = .ok (.getfield 24, 3) := dk_180 0 24 (dk_at dksJ5_grow_3 0 rfl rfl)
theorem dJ5_grow_72 : decode cJ5_grow 72 = .ok (.if_icmp .lt 24, 3) := dk_161 0 24 (dk_at dksJ5_grow_3 3 rfl rfl)
theorem dJ5_grow_75 : decode cJ5_grow 75 = .ok (.aload_n 0, 1) := dk_42 (dk_at dksJ5_grow_3 6 rfl rfl)
theorem dJ5_grow_76 : decode cJ5_grow 76 = .ok (.getfield 20, 3) := dk_180 0 20 (dk_at dksJ5_grow_3 7 rfl rfl)
theorem dJ5_grow_79 : decode cJ5_grow 79 = .ok (.aload_n 0, 1) := dk_42 (dk_at dksJ5_grow_3 10 rfl rfl)
theorem dJ5_grow_80 : decode cJ5_grow 80 = .ok (.getfield 24, 3) := dk_180 0 24 (dk_at dksJ5_grow_3 11 rfl rfl)
theorem dJ5_grow_83 : decode cJ5_grow 83 = .ok (.if_icmp .ne 81, 3) := dk_160 0 81 (dk_at dksJ5_grow_3 14 rfl rfl)
theorem dJ5_grow_86 : decode cJ5_grow 86 = .ok (.aload 5, 2) := dk_25 5 (dk_at dksJ5_grow_3 17 rfl rfl)
theorem dJ5_grow_88 : decode cJ5_grow 88 = .ok (.aload_n 0, 1) := dk_42 (dk_at dksJ5_grow_3 19 rfl rfl)
theorem dJ5_grow_89 : decode cJ5_grow 89 = .ok (.getfield 24, 3) := dk_180 0 24 (dk_at dksJ5_grow_3 20 rfl rfl)
theorem dJ5_grow_92 : decode cJ5_grow 92 = .ok (.aaload, 1) := dk_50 (dk_at dksJ5_grow_3 23 rfl rfl)
theorem dJ5_grow_93 : decode cJ5_grow 93 = .ok (.ifnull 71, 3) := dk_198 0 71 (dk_at dksJ5_grow_4 0 rfl rfl)
theorem dJ5_grow_96 : decode cJ5_grow 96 = .ok (.iload_n 3, 1) := dk_29 (dk_at dksJ5_grow_4 3 rfl rfl)
theorem dJ5_grow_97 : decode cJ5_grow 97 = .ok (.iload_n 2, 1) := dk_28 (dk_at dksJ5_grow_4 4 rfl rfl)
theorem dJ5_grow_98 : decode cJ5_grow 98 = .ok (.isub, 1) := dk_100 (dk_at dksJ5_grow_4 5 rfl rfl)
theorem dJ5_grow_99 : decode cJ5_grow 99 = .ok (.istore 6, 2) := dk_54 6 (dk_at dksJ5_grow_4 6 rfl rfl)
theorem dJ5_grow_101 : decode cJ5_grow 101 = .ok (.aload 5, 2) := dk_25 5 (dk_at dksJ5_grow_4 8 rfl rfl)
theorem dJ5_grow_103 : decode cJ5_grow 103 = .ok (.aload_n 0, 1) := dk_42 (dk_at dksJ5_grow_4 10 rfl rfl)
theorem dJ5_grow_104 : decode cJ5_grow 104 = .ok (.getfield 24, 3) := dk_180 0 24 (dk_at dksJ5_grow_4 11 rfl rfl)
theorem dJ5_grow_107 : decode cJ5_grow 107 = .ok (.aload 5, 2) := dk_25 5 (dk_at dksJ5_grow_4 14 rfl rfl)
theorem dJ5_grow_109 : decode cJ5_grow 109 = .ok (.aload_n 0, 1) := dk_42 (dk_at dksJ5_grow_4 16 rfl rfl)
theorem dJ5_grow_110 : decode cJ5_grow 110 = .ok (.getfield 24, 3) := dk_180 0 24 (dk_at dksJ5_grow_4 17 rfl rfl)
theorem dJ5_grow_113 : decode cJ5_grow 113 = .ok (.iload 6, 2) := dk_21 6 (dk_at dksJ5_grow_4 20 rfl rfl)
theorem dJ5_grow_115 : decode cJ5_grow 115 = .ok (.iadd, 1) := dk_96 (dk_at dksJ5_grow_4 22 rfl rfl)
theorem dJ5_grow_116 : decode cJ5_grow 116 = .ok (.iload_n 2, 1) := dk_28 (dk_at dksJ5_grow_4 23 rfl rfl)
theorem dJ5_grow_117 : decode cJ5_grow 117 = .ok (.aload_n 0, 1) := dk_42 (dk_at dksJ5_grow_5 0 rfl rfl)
theorem dJ5_grow_118 : decode cJ5_grow 118 = .ok (.getfield 24, 3) := dk_180 0 24 (dk_at dksJ5_grow_5 1 rfl rfl)
theorem dJ5_grow_121 : decode cJ5_grow 121 = .ok (.isub, 1) := dk_100 (dk_at dksJ5_grow_5 4 rfl rfl)
theorem dJ5_grow_122 : decode cJ5_grow 122 = .ok (.invokestatic 27, 3) := dk_184 0 27 (dk_at dksJ5_grow_5 5 rfl rfl)
theorem dJ5_grow_125 : decode cJ5_grow 125 = .ok (.aload_n 0, 1) := dk_42 (dk_at dksJ5_grow_5 8 rfl rfl)
theorem dJ5_grow_126 : decode cJ5_grow 126 = .ok (.getfield 24, 3) := dk_180 0 24 (dk_at dksJ5_grow_5 9 rfl rfl)
theorem dJ5_grow_129 : decode cJ5_grow 129 = .ok (.istore 7, 2) := dk_54 7 (dk_at dksJ5_grow_5 12 rfl rfl)
theorem dJ5_grow_131 : decode cJ5_grow 131 = .ok (.aload_n 0, 1) := dk_42 (dk_at dksJ5_grow_5 14 rfl rfl)
theorem dJ5_grow_132 : decode cJ5_grow 132 = .ok (.dup, 1) := dk_89 (dk_at dksJ5_grow_5 15 rfl rfl)
theorem dJ5_grow_133 : decode cJ5_grow 133 = .ok (.getfield 24, 3) := dk_180 0 24 (dk_at dksJ5_grow_5 16 rfl rfl)
theorem dJ5_grow_136 : decode cJ5_grow 136 = .ok (.iload 6, 2) := dk_21 6 (dk_at dksJ5_grow_5 19 rfl rfl)
theorem dJ5_grow_138 : decode cJ5_grow 138 = .ok (.iadd, 1) := dk_96 (dk_at dksJ5_grow_5 21 rfl rfl)
theorem dJ5_grow_139 : decode cJ5_grow 139 = .ok (.dup_x1, 1) := dk_90 (dk_at dksJ5_grow_5 22 rfl rfl)
theorem dJ5_grow_140 : decode cJ5_grow 140 = .ok (.putfield 24, 3) := dk_181 0 24 (dk_at dksJ5_grow_6 0 rfl rfl)
theorem dJ5_grow_143 : decode cJ5_grow 143 = .ok (.istore 8, 2) := dk_54 8 (dk_at dksJ5_grow_6 3 rfl rfl)
theorem dJ5_grow_145 : decode cJ5_grow 145 = .ok (.iload 7, 2) := dk_21 7 (dk_at dksJ5_grow_6 5 rfl rfl)
theorem dJ5_grow_147 : decode cJ5_grow 147 = .ok (.iload 8, 2) := dk_21 8 (dk_at dksJ5_grow_6 7 rfl rfl)
theorem dJ5_grow_149 : decode cJ5_grow 149 = .ok (.if_icmp .ge 15, 3) := dk_162 0 15 (dk_at dksJ5_grow_6 9 rfl rfl)
theorem dJ5_grow_152 : decode cJ5_grow 152 = .ok (.aload 5, 2) := dk_25 5 (dk_at dksJ5_grow_6 12 rfl rfl)
theorem dJ5_grow_154 : decode cJ5_grow 154 = .ok (.iload 7, 2) := dk_21 7 (dk_at dksJ5_grow_6 14 rfl rfl)
theorem dJ5_grow_156 : decode cJ5_grow 156 = .ok (.aconst_null, 1) := dk_1 (dk_at dksJ5_grow_6 16 rfl rfl)
theorem dJ5_grow_157 : decode cJ5_grow 157 = .ok (.aastore, 1) := dk_83 (dk_at dksJ5_grow_6 17 rfl rfl)
theorem dJ5_grow_158 : decode cJ5_grow 158 = .ok (.iinc 7 1, 3) := dk_132 7 1 (dk_at dksJ5_grow_6 18 rfl rfl)
theorem dJ5_grow_161 : decode cJ5_grow 161 = .ok (.goto (-16), 3) := dk_167 255 240 (dk_at dksJ5_grow_6 21 rfl rfl)
theorem dJ5_grow_164 : decode cJ5_grow 164 = .ok (.return_, 1) := dk_177 (dk_at dksJ5_grow_7 0 rfl rfl)
abbrev cJ5_newCapacity : ByteArray := prog_63_method_2_code
def yJ5_newCapacity : MethodName := ⟨RJ5, "newCapacity", "(II)I"⟩
def dkwJ5_newCapacity_2 : List UInt8 := [18, 9, 100, 156, 0, 9, 29, 28, 96, 167, 0, 5, 18, 9, 172]
abbrev dktJ5_newCapacity_2 : List UInt8 := dkwJ5_newCapacity_2 ++ []
def dkwJ5_newCapacity_1 : List UInt8 := [187, 0, 33, 89, 18, 35, 183, 0, 37, 191, 18, 41, 172, 27, 28, 164, 0, 6, 21, 4, 172, 29, 28, 96]
abbrev dktJ5_newCapacity_1 : List UInt8 := dkwJ5_newCapacity_1 ++ dktJ5_newCapacity_2
def dkwJ5_newCapacity_0 : List UInt8 := [42, 180, 0, 3, 190, 62, 29, 27, 96, 89, 54, 4, 18, 9, 100, 158, 0, 21, 21, 4, 156, 0, 13]
abbrev dktJ5_newCapacity_0 : List UInt8 := dkwJ5_newCapacity_0 ++ dktJ5_newCapacity_1
theorem dksJ5_newCapacity_0 : cJ5_newCapacity.data.toList.drop 0 = dktJ5_newCapacity_0 := by decide +kernel
theorem dksJ5_newCapacity_1 : cJ5_newCapacity.data.toList.drop 23 = dktJ5_newCapacity_1 := dk_seg dksJ5_newCapacity_0 23 rfl rfl
theorem dksJ5_newCapacity_2 : cJ5_newCapacity.data.toList.drop 47 = dktJ5_newCapacity_2 := dk_seg dksJ5_newCapacity_1 24 rfl rfl
theorem dJ5_newCapacity_0 : decode cJ5_newCapacity 0 = .ok (.aload_n 0, 1) := dk_42 (dk_at dksJ5_newCapacity_0 0 rfl rfl)
theorem dJ5_newCapacity_1 : decode cJ5_newCapacity 1 = .ok (.getfield 3, 3) := dk_180 0 3 (dk_at dksJ5_newCapacity_0 1 rfl rfl)
theorem dJ5_newCapacity_4 : decode cJ5_newCapacity 4 = .ok (.arraylength, 1) := dk_190 (dk_at dksJ5_newCapacity_0 4 rfl rfl)
theorem dJ5_newCapacity_5 : decode cJ5_newCapacity 5 = .ok (.istore_n 3, 1) := dk_62 (dk_at dksJ5_newCapacity_0 5 rfl rfl)
theorem dJ5_newCapacity_6 : decode cJ5_newCapacity 6 = .ok (.iload_n 3, 1) := dk_29 (dk_at dksJ5_newCapacity_0 6 rfl rfl)
theorem dJ5_newCapacity_7 : decode cJ5_newCapacity 7 = .ok (.iload_n 1, 1) := dk_27 (dk_at dksJ5_newCapacity_0 7 rfl rfl)
theorem dJ5_newCapacity_8 : decode cJ5_newCapacity 8 = .ok (.iadd, 1) := dk_96 (dk_at dksJ5_newCapacity_0 8 rfl rfl)
theorem dJ5_newCapacity_9 : decode cJ5_newCapacity 9 = .ok (.dup, 1) := dk_89 (dk_at dksJ5_newCapacity_0 9 rfl rfl)
theorem dJ5_newCapacity_10 : decode cJ5_newCapacity 10 = .ok (.istore 4, 2) := dk_54 4 (dk_at dksJ5_newCapacity_0 10 rfl rfl)
theorem dJ5_newCapacity_12 : decode cJ5_newCapacity 12 = .ok (.ldc 9, 2) := dk_18 9 (dk_at dksJ5_newCapacity_0 12 rfl rfl)
theorem dJ5_newCapacity_14 : decode cJ5_newCapacity 14 = .ok (.isub, 1) := dk_100 (dk_at dksJ5_newCapacity_0 14 rfl rfl)
theorem dJ5_newCapacity_15 : decode cJ5_newCapacity 15 = .ok (.ifCond .le 21, 3) := dk_158 0 21 (dk_at dksJ5_newCapacity_0 15 rfl rfl)
theorem dJ5_newCapacity_18 : decode cJ5_newCapacity 18 = .ok (.iload 4, 2) := dk_21 4 (dk_at dksJ5_newCapacity_0 18 rfl rfl)
theorem dJ5_newCapacity_20 : decode cJ5_newCapacity 20 = .ok (.ifCond .ge 13, 3) := dk_156 0 13 (dk_at dksJ5_newCapacity_0 20 rfl rfl)
theorem dJ5_newCapacity_23 : decode cJ5_newCapacity 23 = .ok (.new 33, 3) := dk_187 0 33 (dk_at dksJ5_newCapacity_1 0 rfl rfl)
theorem dJ5_newCapacity_26 : decode cJ5_newCapacity 26 = .ok (.dup, 1) := dk_89 (dk_at dksJ5_newCapacity_1 3 rfl rfl)
theorem dJ5_newCapacity_27 : decode cJ5_newCapacity 27 = .ok (.ldc 35, 2) := dk_18 35 (dk_at dksJ5_newCapacity_1 4 rfl rfl)
theorem dJ5_newCapacity_29 : decode cJ5_newCapacity 29 = .ok (.invokespecial 37, 3) := dk_183 0 37 (dk_at dksJ5_newCapacity_1 6 rfl rfl)
theorem dJ5_newCapacity_32 : decode cJ5_newCapacity 32 = .ok (.athrow, 1) := dk_191 (dk_at dksJ5_newCapacity_1 9 rfl rfl)
theorem dJ5_newCapacity_33 : decode cJ5_newCapacity 33 = .ok (.ldc 41, 2) := dk_18 41 (dk_at dksJ5_newCapacity_1 10 rfl rfl)
theorem dJ5_newCapacity_35 : decode cJ5_newCapacity 35 = .ok (.ireturn, 1) := dk_172 (dk_at dksJ5_newCapacity_1 12 rfl rfl)
theorem dJ5_newCapacity_36 : decode cJ5_newCapacity 36 = .ok (.iload_n 1, 1) := dk_27 (dk_at dksJ5_newCapacity_1 13 rfl rfl)
theorem dJ5_newCapacity_37 : decode cJ5_newCapacity 37 = .ok (.iload_n 2, 1) := dk_28 (dk_at dksJ5_newCapacity_1 14 rfl rfl)
theorem dJ5_newCapacity_38 : decode cJ5_newCapacity 38 = .ok (.if_icmp .le 6, 3) := dk_164 0 6 (dk_at dksJ5_newCapacity_1 15 rfl rfl)
theorem dJ5_newCapacity_41 : decode cJ5_newCapacity 41 = .ok (.iload 4, 2) := dk_21 4 (dk_at dksJ5_newCapacity_1 18 rfl rfl)
theorem dJ5_newCapacity_43 : decode cJ5_newCapacity 43 = .ok (.ireturn, 1) := dk_172 (dk_at dksJ5_newCapacity_1 20 rfl rfl)
theorem dJ5_newCapacity_44 : decode cJ5_newCapacity 44 = .ok (.iload_n 3, 1) := dk_29 (dk_at dksJ5_newCapacity_1 21 rfl rfl)
theorem dJ5_newCapacity_45 : decode cJ5_newCapacity 45 = .ok (.iload_n 2, 1) := dk_28 (dk_at dksJ5_newCapacity_1 22 rfl rfl)
theorem dJ5_newCapacity_46 : decode cJ5_newCapacity 46 = .ok (.iadd, 1) := dk_96 (dk_at dksJ5_newCapacity_1 23 rfl rfl)
theorem dJ5_newCapacity_47 : decode cJ5_newCapacity 47 = .ok (.ldc 9, 2) := dk_18 9 (dk_at dksJ5_newCapacity_2 0 rfl rfl)
theorem dJ5_newCapacity_49 : decode cJ5_newCapacity 49 = .ok (.isub, 1) := dk_100 (dk_at dksJ5_newCapacity_2 2 rfl rfl)
theorem dJ5_newCapacity_50 : decode cJ5_newCapacity 50 = .ok (.ifCond .ge 9, 3) := dk_156 0 9 (dk_at dksJ5_newCapacity_2 3 rfl rfl)
theorem dJ5_newCapacity_53 : decode cJ5_newCapacity 53 = .ok (.iload_n 3, 1) := dk_29 (dk_at dksJ5_newCapacity_2 6 rfl rfl)
theorem dJ5_newCapacity_54 : decode cJ5_newCapacity 54 = .ok (.iload_n 2, 1) := dk_28 (dk_at dksJ5_newCapacity_2 7 rfl rfl)
theorem dJ5_newCapacity_55 : decode cJ5_newCapacity 55 = .ok (.iadd, 1) := dk_96 (dk_at dksJ5_newCapacity_2 8 rfl rfl)
theorem dJ5_newCapacity_56 : decode cJ5_newCapacity 56 = .ok (.goto 5, 3) := dk_167 0 5 (dk_at dksJ5_newCapacity_2 9 rfl rfl)
theorem dJ5_newCapacity_59 : decode cJ5_newCapacity 59 = .ok (.ldc 9, 2) := dk_18 9 (dk_at dksJ5_newCapacity_2 12 rfl rfl)
theorem dJ5_newCapacity_61 : decode cJ5_newCapacity 61 = .ok (.ireturn, 1) := dk_172 (dk_at dksJ5_newCapacity_2 14 rfl rfl)
abbrev cJ5_removeFirst : ByteArray := prog_63_method_18_code
def yJ5_removeFirst : MethodName := ⟨RJ5, "removeFirst", "()Ljava/lang/Object;"⟩
def dkwJ5_removeFirst_0 : List UInt8 := [42, 182, 0, 93, 76, 43, 199, 0, 11, 187, 0, 97, 89, 183, 0, 99, 191, 43, 176]
abbrev dktJ5_removeFirst_0 : List UInt8 := dkwJ5_removeFirst_0 ++ []
theorem dksJ5_removeFirst_0 : cJ5_removeFirst.data.toList.drop 0 = dktJ5_removeFirst_0 := by decide +kernel
theorem dJ5_removeFirst_0 : decode cJ5_removeFirst 0 = .ok (.aload_n 0, 1) := dk_42 (dk_at dksJ5_removeFirst_0 0 rfl rfl)
theorem dJ5_removeFirst_1 : decode cJ5_removeFirst 1 = .ok (.invokevirtual 93, 3) := dk_182 0 93 (dk_at dksJ5_removeFirst_0 1 rfl rfl)
theorem dJ5_removeFirst_4 : decode cJ5_removeFirst 4 = .ok (.astore_n 1, 1) := dk_76 (dk_at dksJ5_removeFirst_0 4 rfl rfl)
theorem dJ5_removeFirst_5 : decode cJ5_removeFirst 5 = .ok (.aload_n 1, 1) := dk_43 (dk_at dksJ5_removeFirst_0 5 rfl rfl)
theorem dJ5_removeFirst_6 : decode cJ5_removeFirst 6 = .ok (.ifnonnull 11, 3) := dk_199 0 11 (dk_at dksJ5_removeFirst_0 6 rfl rfl)
theorem dJ5_removeFirst_9 : decode cJ5_removeFirst 9 = .ok (.new 97, 3) := dk_187 0 97 (dk_at dksJ5_removeFirst_0 9 rfl rfl)
theorem dJ5_removeFirst_12 : decode cJ5_removeFirst 12 = .ok (.dup, 1) := dk_89 (dk_at dksJ5_removeFirst_0 12 rfl rfl)
theorem dJ5_removeFirst_13 : decode cJ5_removeFirst 13 = .ok (.invokespecial 99, 3) := dk_183 0 99 (dk_at dksJ5_removeFirst_0 13 rfl rfl)
theorem dJ5_removeFirst_16 : decode cJ5_removeFirst 16 = .ok (.athrow, 1) := dk_191 (dk_at dksJ5_removeFirst_0 16 rfl rfl)
theorem dJ5_removeFirst_17 : decode cJ5_removeFirst 17 = .ok (.aload_n 1, 1) := dk_43 (dk_at dksJ5_removeFirst_0 17 rfl rfl)
theorem dJ5_removeFirst_18 : decode cJ5_removeFirst 18 = .ok (.areturn, 1) := dk_176 (dk_at dksJ5_removeFirst_0 18 rfl rfl)
abbrev cJ5_pollFirst : ByteArray := prog_63_method_20_code
def yJ5_pollFirst : MethodName := ⟨RJ5, "pollFirst", "()Ljava/lang/Object;"⟩
def dkwJ5_pollFirst_1 : List UInt8 := [42, 28, 43, 190, 184, 0, 74, 181, 0, 24, 45, 176]
abbrev dktJ5_pollFirst_1 : List UInt8 := dkwJ5_pollFirst_1 ++ []
def dkwJ5_pollFirst_0 : List UInt8 := [42, 180, 0, 3, 89, 76, 42, 180, 0, 24, 89, 61, 184, 0, 103, 78, 45, 198, 0, 17, 43, 28, 1, 83]
abbrev dktJ5_pollFirst_0 : List UInt8 := dkwJ5_pollFirst_0 ++ dktJ5_pollFirst_1
theorem dksJ5_pollFirst_0 : cJ5_pollFirst.data.toList.drop 0 = dktJ5_pollFirst_0 := by decide +kernel
theorem dksJ5_pollFirst_1 : cJ5_pollFirst.data.toList.drop 24 = dktJ5_pollFirst_1 := dk_seg dksJ5_pollFirst_0 24 rfl rfl
theorem dJ5_pollFirst_0 : decode cJ5_pollFirst 0 = .ok (.aload_n 0, 1) := dk_42 (dk_at dksJ5_pollFirst_0 0 rfl rfl)
theorem dJ5_pollFirst_1 : decode cJ5_pollFirst 1 = .ok (.getfield 3, 3) := dk_180 0 3 (dk_at dksJ5_pollFirst_0 1 rfl rfl)
theorem dJ5_pollFirst_4 : decode cJ5_pollFirst 4 = .ok (.dup, 1) := dk_89 (dk_at dksJ5_pollFirst_0 4 rfl rfl)
theorem dJ5_pollFirst_5 : decode cJ5_pollFirst 5 = .ok (.astore_n 1, 1) := dk_76 (dk_at dksJ5_pollFirst_0 5 rfl rfl)
theorem dJ5_pollFirst_6 : decode cJ5_pollFirst 6 = .ok (.aload_n 0, 1) := dk_42 (dk_at dksJ5_pollFirst_0 6 rfl rfl)
theorem dJ5_pollFirst_7 : decode cJ5_pollFirst 7 = .ok (.getfield 24, 3) := dk_180 0 24 (dk_at dksJ5_pollFirst_0 7 rfl rfl)
theorem dJ5_pollFirst_10 : decode cJ5_pollFirst 10 = .ok (.dup, 1) := dk_89 (dk_at dksJ5_pollFirst_0 10 rfl rfl)
theorem dJ5_pollFirst_11 : decode cJ5_pollFirst 11 = .ok (.istore_n 2, 1) := dk_61 (dk_at dksJ5_pollFirst_0 11 rfl rfl)
theorem dJ5_pollFirst_12 : decode cJ5_pollFirst 12 = .ok (.invokestatic 103, 3) := dk_184 0 103 (dk_at dksJ5_pollFirst_0 12 rfl rfl)
theorem dJ5_pollFirst_15 : decode cJ5_pollFirst 15 = .ok (.astore_n 3, 1) := dk_78 (dk_at dksJ5_pollFirst_0 15 rfl rfl)
theorem dJ5_pollFirst_16 : decode cJ5_pollFirst 16 = .ok (.aload_n 3, 1) := dk_45 (dk_at dksJ5_pollFirst_0 16 rfl rfl)
theorem dJ5_pollFirst_17 : decode cJ5_pollFirst 17 = .ok (.ifnull 17, 3) := dk_198 0 17 (dk_at dksJ5_pollFirst_0 17 rfl rfl)
theorem dJ5_pollFirst_20 : decode cJ5_pollFirst 20 = .ok (.aload_n 1, 1) := dk_43 (dk_at dksJ5_pollFirst_0 20 rfl rfl)
theorem dJ5_pollFirst_21 : decode cJ5_pollFirst 21 = .ok (.iload_n 2, 1) := dk_28 (dk_at dksJ5_pollFirst_0 21 rfl rfl)
theorem dJ5_pollFirst_22 : decode cJ5_pollFirst 22 = .ok (.aconst_null, 1) := dk_1 (dk_at dksJ5_pollFirst_0 22 rfl rfl)
theorem dJ5_pollFirst_23 : decode cJ5_pollFirst 23 = .ok (.aastore, 1) := dk_83 (dk_at dksJ5_pollFirst_0 23 rfl rfl)
theorem dJ5_pollFirst_24 : decode cJ5_pollFirst 24 = .ok (.aload_n 0, 1) := dk_42 (dk_at dksJ5_pollFirst_1 0 rfl rfl)
theorem dJ5_pollFirst_25 : decode cJ5_pollFirst 25 = .ok (.iload_n 2, 1) := dk_28 (dk_at dksJ5_pollFirst_1 1 rfl rfl)
theorem dJ5_pollFirst_26 : decode cJ5_pollFirst 26 = .ok (.aload_n 1, 1) := dk_43 (dk_at dksJ5_pollFirst_1 2 rfl rfl)
theorem dJ5_pollFirst_27 : decode cJ5_pollFirst 27 = .ok (.arraylength, 1) := dk_190 (dk_at dksJ5_pollFirst_1 3 rfl rfl)
theorem dJ5_pollFirst_28 : decode cJ5_pollFirst 28 = .ok (.invokestatic 74, 3) := dk_184 0 74 (dk_at dksJ5_pollFirst_1 4 rfl rfl)
theorem dJ5_pollFirst_31 : decode cJ5_pollFirst 31 = .ok (.putfield 24, 3) := dk_181 0 24 (dk_at dksJ5_pollFirst_1 7 rfl rfl)
theorem dJ5_pollFirst_34 : decode cJ5_pollFirst 34 = .ok (.aload_n 3, 1) := dk_45 (dk_at dksJ5_pollFirst_1 10 rfl rfl)
theorem dJ5_pollFirst_35 : decode cJ5_pollFirst 35 = .ok (.areturn, 1) := dk_176 (dk_at dksJ5_pollFirst_1 11 rfl rfl)
abbrev cJ5_elementAt : ByteArray := prog_63_method_10_code
def yJ5_elementAt : MethodName := ⟨RJ5, "elementAt", "([Ljava/lang/Object;I)Ljava/lang/Object;"⟩
def dkwJ5_elementAt_0 : List UInt8 := [42, 27, 50, 176]
abbrev dktJ5_elementAt_0 : List UInt8 := dkwJ5_elementAt_0 ++ []
theorem dksJ5_elementAt_0 : cJ5_elementAt.data.toList.drop 0 = dktJ5_elementAt_0 := by decide +kernel
theorem dJ5_elementAt_0 : decode cJ5_elementAt 0 = .ok (.aload_n 0, 1) := dk_42 (dk_at dksJ5_elementAt_0 0 rfl rfl)
theorem dJ5_elementAt_1 : decode cJ5_elementAt 1 = .ok (.iload_n 1, 1) := dk_27 (dk_at dksJ5_elementAt_0 1 rfl rfl)
theorem dJ5_elementAt_2 : decode cJ5_elementAt 2 = .ok (.aaload, 1) := dk_50 (dk_at dksJ5_elementAt_0 2 rfl rfl)
theorem dJ5_elementAt_3 : decode cJ5_elementAt 3 = .ok (.areturn, 1) := dk_176 (dk_at dksJ5_elementAt_0 3 rfl rfl)
abbrev cJ5_isEmpty : ByteArray := prog_63_method_38_code
def yJ5_isEmpty : MethodName := ⟨RJ5, "isEmpty", "()Z"⟩
def dkwJ5_isEmpty_0 : List UInt8 := [42, 180, 0, 24, 42, 180, 0, 20, 160, 0, 7, 4, 167, 0, 4, 3, 172]
abbrev dktJ5_isEmpty_0 : List UInt8 := dkwJ5_isEmpty_0 ++ []
theorem dksJ5_isEmpty_0 : cJ5_isEmpty.data.toList.drop 0 = dktJ5_isEmpty_0 := by decide +kernel
theorem dJ5_isEmpty_0 : decode cJ5_isEmpty 0 = .ok (.aload_n 0, 1) := dk_42 (dk_at dksJ5_isEmpty_0 0 rfl rfl)
theorem dJ5_isEmpty_1 : decode cJ5_isEmpty 1 = .ok (.getfield 24, 3) := dk_180 0 24 (dk_at dksJ5_isEmpty_0 1 rfl rfl)
theorem dJ5_isEmpty_4 : decode cJ5_isEmpty 4 = .ok (.aload_n 0, 1) := dk_42 (dk_at dksJ5_isEmpty_0 4 rfl rfl)
theorem dJ5_isEmpty_5 : decode cJ5_isEmpty 5 = .ok (.getfield 20, 3) := dk_180 0 20 (dk_at dksJ5_isEmpty_0 5 rfl rfl)
theorem dJ5_isEmpty_8 : decode cJ5_isEmpty 8 = .ok (.if_icmp .ne 7, 3) := dk_160 0 7 (dk_at dksJ5_isEmpty_0 8 rfl rfl)
theorem dJ5_isEmpty_11 : decode cJ5_isEmpty 11 = .ok (.iconst 1, 1) := dk_4 (dk_at dksJ5_isEmpty_0 11 rfl rfl)
theorem dJ5_isEmpty_12 : decode cJ5_isEmpty 12 = .ok (.goto 4, 3) := dk_167 0 4 (dk_at dksJ5_isEmpty_0 12 rfl rfl)
theorem dJ5_isEmpty_15 : decode cJ5_isEmpty 15 = .ok (.iconst 0, 1) := dk_3 (dk_at dksJ5_isEmpty_0 15 rfl rfl)
theorem dJ5_isEmpty_16 : decode cJ5_isEmpty 16 = .ok (.ireturn, 1) := dk_172 (dk_at dksJ5_isEmpty_0 16 rfl rfl)
abbrev cJ5_removeLast : ByteArray := prog_63_method_19_code
def yJ5_removeLast : MethodName := ⟨RJ5, "removeLast", "()Ljava/lang/Object;"⟩
def dkwJ5_removeLast_0 : List UInt8 := [42, 182, 0, 100, 76, 43, 199, 0, 11, 187, 0, 97, 89, 183, 0, 99, 191, 43, 176]
abbrev dktJ5_removeLast_0 : List UInt8 := dkwJ5_removeLast_0 ++ []
theorem dksJ5_removeLast_0 : cJ5_removeLast.data.toList.drop 0 = dktJ5_removeLast_0 := by decide +kernel
theorem dJ5_removeLast_0 : decode cJ5_removeLast 0 = .ok (.aload_n 0, 1) := dk_42 (dk_at dksJ5_removeLast_0 0 rfl rfl)
theorem dJ5_removeLast_1 : decode cJ5_removeLast 1 = .ok (.invokevirtual 100, 3) := dk_182 0 100 (dk_at dksJ5_removeLast_0 1 rfl rfl)
theorem dJ5_removeLast_4 : decode cJ5_removeLast 4 = .ok (.astore_n 1, 1) := dk_76 (dk_at dksJ5_removeLast_0 4 rfl rfl)
theorem dJ5_removeLast_5 : decode cJ5_removeLast 5 = .ok (.aload_n 1, 1) := dk_43 (dk_at dksJ5_removeLast_0 5 rfl rfl)
theorem dJ5_removeLast_6 : decode cJ5_removeLast 6 = .ok (.ifnonnull 11, 3) := dk_199 0 11 (dk_at dksJ5_removeLast_0 6 rfl rfl)
theorem dJ5_removeLast_9 : decode cJ5_removeLast 9 = .ok (.new 97, 3) := dk_187 0 97 (dk_at dksJ5_removeLast_0 9 rfl rfl)
theorem dJ5_removeLast_12 : decode cJ5_removeLast 12 = .ok (.dup, 1) := dk_89 (dk_at dksJ5_removeLast_0 12 rfl rfl)
theorem dJ5_removeLast_13 : decode cJ5_removeLast 13 = .ok (.invokespecial 99, 3) := dk_183 0 99 (dk_at dksJ5_removeLast_0 13 rfl rfl)
theorem dJ5_removeLast_16 : decode cJ5_removeLast 16 = .ok (.athrow, 1) := dk_191 (dk_at dksJ5_removeLast_0 16 rfl rfl)
theorem dJ5_removeLast_17 : decode cJ5_removeLast 17 = .ok (.aload_n 1, 1) := dk_43 (dk_at dksJ5_removeLast_0 17 rfl rfl)
theorem dJ5_removeLast_18 : decode cJ5_removeLast 18 = .ok (.areturn, 1) := dk_176 (dk_at dksJ5_removeLast_0 18 rfl rfl)
abbrev cJ5_pollLast : ByteArray := prog_63_method_21_code
def yJ5_pollLast : MethodName := ⟨RJ5, "pollLast", "()Ljava/lang/Object;"⟩
def dkwJ5_pollLast_1 : List UInt8 := [198, 0, 12, 43, 42, 28, 90, 181, 0, 20, 1, 83, 45, 176]
abbrev dktJ5_pollLast_1 : List UInt8 := dkwJ5_pollLast_1 ++ []
def dkwJ5_pollLast_0 : List UInt8 := [42, 180, 0, 3, 89, 76, 42, 180, 0, 20, 43, 190, 184, 0, 68, 89, 61, 184, 0, 103, 78, 45]
abbrev dktJ5_pollLast_0 : List UInt8 := dkwJ5_pollLast_0 ++ dktJ5_pollLast_1
theorem dksJ5_pollLast_0 : cJ5_pollLast.data.toList.drop 0 = dktJ5_pollLast_0 := by decide +kernel
theorem dksJ5_pollLast_1 : cJ5_pollLast.data.toList.drop 22 = dktJ5_pollLast_1 := dk_seg dksJ5_pollLast_0 22 rfl rfl
theorem dJ5_pollLast_0 : decode cJ5_pollLast 0 = .ok (.aload_n 0, 1) := dk_42 (dk_at dksJ5_pollLast_0 0 rfl rfl)
theorem dJ5_pollLast_1 : decode cJ5_pollLast 1 = .ok (.getfield 3, 3) := dk_180 0 3 (dk_at dksJ5_pollLast_0 1 rfl rfl)
theorem dJ5_pollLast_4 : decode cJ5_pollLast 4 = .ok (.dup, 1) := dk_89 (dk_at dksJ5_pollLast_0 4 rfl rfl)
theorem dJ5_pollLast_5 : decode cJ5_pollLast 5 = .ok (.astore_n 1, 1) := dk_76 (dk_at dksJ5_pollLast_0 5 rfl rfl)
theorem dJ5_pollLast_6 : decode cJ5_pollLast 6 = .ok (.aload_n 0, 1) := dk_42 (dk_at dksJ5_pollLast_0 6 rfl rfl)
theorem dJ5_pollLast_7 : decode cJ5_pollLast 7 = .ok (.getfield 20, 3) := dk_180 0 20 (dk_at dksJ5_pollLast_0 7 rfl rfl)
theorem dJ5_pollLast_10 : decode cJ5_pollLast 10 = .ok (.aload_n 1, 1) := dk_43 (dk_at dksJ5_pollLast_0 10 rfl rfl)
theorem dJ5_pollLast_11 : decode cJ5_pollLast 11 = .ok (.arraylength, 1) := dk_190 (dk_at dksJ5_pollLast_0 11 rfl rfl)
theorem dJ5_pollLast_12 : decode cJ5_pollLast 12 = .ok (.invokestatic 68, 3) := dk_184 0 68 (dk_at dksJ5_pollLast_0 12 rfl rfl)
theorem dJ5_pollLast_15 : decode cJ5_pollLast 15 = .ok (.dup, 1) := dk_89 (dk_at dksJ5_pollLast_0 15 rfl rfl)
theorem dJ5_pollLast_16 : decode cJ5_pollLast 16 = .ok (.istore_n 2, 1) := dk_61 (dk_at dksJ5_pollLast_0 16 rfl rfl)
theorem dJ5_pollLast_17 : decode cJ5_pollLast 17 = .ok (.invokestatic 103, 3) := dk_184 0 103 (dk_at dksJ5_pollLast_0 17 rfl rfl)
theorem dJ5_pollLast_20 : decode cJ5_pollLast 20 = .ok (.astore_n 3, 1) := dk_78 (dk_at dksJ5_pollLast_0 20 rfl rfl)
theorem dJ5_pollLast_21 : decode cJ5_pollLast 21 = .ok (.aload_n 3, 1) := dk_45 (dk_at dksJ5_pollLast_0 21 rfl rfl)
theorem dJ5_pollLast_22 : decode cJ5_pollLast 22 = .ok (.ifnull 12, 3) := dk_198 0 12 (dk_at dksJ5_pollLast_1 0 rfl rfl)
theorem dJ5_pollLast_25 : decode cJ5_pollLast 25 = .ok (.aload_n 1, 1) := dk_43 (dk_at dksJ5_pollLast_1 3 rfl rfl)
theorem dJ5_pollLast_26 : decode cJ5_pollLast 26 = .ok (.aload_n 0, 1) := dk_42 (dk_at dksJ5_pollLast_1 4 rfl rfl)
theorem dJ5_pollLast_27 : decode cJ5_pollLast 27 = .ok (.iload_n 2, 1) := dk_28 (dk_at dksJ5_pollLast_1 5 rfl rfl)
theorem dJ5_pollLast_28 : decode cJ5_pollLast 28 = .ok (.dup_x1, 1) := dk_90 (dk_at dksJ5_pollLast_1 6 rfl rfl)
theorem dJ5_pollLast_29 : decode cJ5_pollLast 29 = .ok (.putfield 20, 3) := dk_181 0 20 (dk_at dksJ5_pollLast_1 7 rfl rfl)
theorem dJ5_pollLast_32 : decode cJ5_pollLast 32 = .ok (.aconst_null, 1) := dk_1 (dk_at dksJ5_pollLast_1 10 rfl rfl)
theorem dJ5_pollLast_33 : decode cJ5_pollLast 33 = .ok (.aastore, 1) := dk_83 (dk_at dksJ5_pollLast_1 11 rfl rfl)
theorem dJ5_pollLast_34 : decode cJ5_pollLast 34 = .ok (.aload_n 3, 1) := dk_45 (dk_at dksJ5_pollLast_1 12 rfl rfl)
theorem dJ5_pollLast_35 : decode cJ5_pollLast 35 = .ok (.areturn, 1) := dk_176 (dk_at dksJ5_pollLast_1 13 rfl rfl)
theorem q92 : (Jvm.Cond.initialized "java/util/ArrayDeque") ∈ lw_all := lw_g (lw_at lw_m1 9 rfl) rfl
theorem q300 : (Jvm.Cond.instantiable "java/util/ArrayDeque" (3 : Nat)) ∈ lw_all := lw_g (lw_at lw_m1 217 rfl) rfl
theorem q302 : (Jvm.Cond.instanceMethod ({ cls := "java/util/ArrayDeque", name := "<init>", desc := "()V" } : Jvm.MethodName)) ∈ lw_all := lw_g (lw_at lw_m1 219 rfl) rfl
theorem q303 : (Jvm.Cond.code ({ cls := "java/util/ArrayDeque", name := "<init>", desc := "()V" } : Jvm.MethodName) prog_63_method_3_code (1 : Nat) (Option.none : Option Jvm.ClassFile.FieldType)) ∈ lw_all := lw_g (lw_at lw_m1 220 rfl) rfl
theorem q304 : (Jvm.Cond.methodLink "java/util/ArrayDeque" (42 : Nat) ({ cls := "java/util/AbstractCollection", name := "<init>", desc := "()V" } : Jvm.MethodName)) ∈ lw_all := lw_g (lw_at lw_m1 221 rfl) rfl
theorem q305 : (Jvm.Cond.classLink "java/util/ArrayDeque" (47 : Nat) "java/lang/Object") ∈ lw_all := lw_g (lw_at lw_m1 222 rfl) rfl
theorem q307 : (Jvm.Cond.fieldLink "java/util/ArrayDeque" (3 : Nat) "java/util/ArrayDeque" "elements" "[Ljava/lang/Object;") ∈ lw_all := lw_g (lw_at lw_m1 224 rfl) rfl
theorem q310 : (Jvm.Cond.fieldLink "java/util/ArrayDeque" (24 : Nat) "java/util/ArrayDeque" "head" "I") ∈ lw_all := lw_g (lw_at lw_m1 227 rfl) rfl
theorem q311 : (Jvm.Cond.fieldLink "java/util/ArrayDeque" (20 : Nat) "java/util/ArrayDeque" "tail" "I") ∈ lw_all := lw_g (lw_at lw_m1 228 rfl) rfl
theorem q312 : (Jvm.Cond.lays "java/util/ArrayDeque" "java/util/ArrayDeque" "elements" "[Ljava/lang/Object;") ∈ lw_all := lw_g (lw_at lw_m1 229 rfl) rfl
theorem q313 : (Jvm.Cond.soleField "java/util/ArrayDeque" "elements") ∈ lw_all := lw_g (lw_at lw_m1 230 rfl) rfl
theorem q314 : (Jvm.Cond.lays "java/util/ArrayDeque" "java/util/ArrayDeque" "head" "I") ∈ lw_all := lw_g (lw_at lw_m1 231 rfl) rfl
theorem q315 : (Jvm.Cond.soleField "java/util/ArrayDeque" "head") ∈ lw_all := lw_g (lw_at lw_m1 232 rfl) rfl
theorem q316 : (Jvm.Cond.lays "java/util/ArrayDeque" "java/util/ArrayDeque" "tail" "I") ∈ lw_all := lw_g (lw_at lw_m1 233 rfl) rfl
theorem q317 : (Jvm.Cond.soleField "java/util/ArrayDeque" "tail") ∈ lw_all := lw_g (lw_at lw_m1 234 rfl) rfl
theorem q318 : (Jvm.Cond.superclass "java/util/ArrayDeque" "java/util/AbstractCollection") ∈ lw_all := lw_g (lw_at lw_m1 235 rfl) rfl
theorem q354 : (Jvm.Cond.instanceMethod ({ cls := "java/util/ArrayDeque", name := "clear", desc := "()V" } : Jvm.MethodName)) ∈ lw_all := lw_g (lw_at lw_m2 31 rfl) rfl
theorem q355 : (Jvm.Cond.selects "java/util/ArrayDeque" ({ cls := "java/util/ArrayDeque", name := "clear", desc := "()V" } : Jvm.MethodName) ({ cls := "java/util/ArrayDeque", name := "clear", desc := "()V" } : Jvm.MethodName)) ∈ lw_all := lw_g (lw_at lw_m2 32 rfl) rfl
theorem q356 : (Jvm.Cond.code ({ cls := "java/util/ArrayDeque", name := "clear", desc := "()V" } : Jvm.MethodName) prog_63_method_53_code (1 : Nat) (Option.none : Option Jvm.ClassFile.FieldType)) ∈ lw_all := lw_g (lw_at lw_m2 33 rfl) rfl
theorem q357 : (Jvm.Cond.methodLink "java/util/ArrayDeque" (181 : Nat) ({ cls := "java/util/ArrayDeque", name := "circularClear", desc := "([Ljava/lang/Object;II)V" } : Jvm.MethodName)) ∈ lw_all := lw_g (lw_at lw_m2 34 rfl) rfl
theorem q358 : (Jvm.Cond.static ({ cls := "java/util/ArrayDeque", name := "circularClear", desc := "([Ljava/lang/Object;II)V" } : Jvm.MethodName)) ∈ lw_all := lw_g (lw_at lw_m2 35 rfl) rfl
theorem q359 : (Jvm.Cond.code ({ cls := "java/util/ArrayDeque", name := "circularClear", desc := "([Ljava/lang/Object;II)V" } : Jvm.MethodName) prog_63_method_54_code (4 : Nat) (Option.none : Option Jvm.ClassFile.FieldType)) ∈ lw_all := lw_g (lw_at lw_m2 36 rfl) rfl
theorem q578 : (Jvm.Cond.selects "java/util/ArrayDeque" ({ cls := "java/lang/Object", name := "getClass", desc := "()Ljava/lang/Class;" } : Jvm.MethodName) ({ cls := "java/lang/Object", name := "getClass", desc := "()Ljava/lang/Class;" } : Jvm.MethodName)) ∈ lw_all := lw_g (lw_at lw_m3 15 rfl) rfl
theorem q1116 : (Jvm.Cond.static ({ cls := "java/util/ArrayDeque", name := "nonNullElementAt", desc := "([Ljava/lang/Object;I)Ljava/lang/Object;" } : Jvm.MethodName)) ∈ lw_all := lw_g (lw_at lw_m5 73 rfl) rfl
theorem q1117 : (Jvm.Cond.code ({ cls := "java/util/ArrayDeque", name := "nonNullElementAt", desc := "([Ljava/lang/Object;I)Ljava/lang/Object;" } : Jvm.MethodName) prog_63_method_11_code (3 : Nat) (Option.some (Jvm.ClassFile.FieldType.object "java/lang/Object"))) ∈ lw_all := lw_g (lw_at lw_m5 74 rfl) rfl
theorem q1119 : (Jvm.Cond.static ({ cls := "java/util/ArrayDeque", name := "inc", desc := "(II)I" } : Jvm.MethodName)) ∈ lw_all := lw_g (lw_at lw_m5 76 rfl) rfl
theorem q1120 : (Jvm.Cond.code ({ cls := "java/util/ArrayDeque", name := "inc", desc := "(II)I" } : Jvm.MethodName) prog_63_method_6_code (2 : Nat) (Option.some Jvm.ClassFile.FieldType.int)) ∈ lw_all := lw_g (lw_at lw_m5 77 rfl) rfl
theorem q1353 : (Jvm.Cond.instanceMethod ({ cls := "java/util/ArrayDeque", name := "size", desc := "()I" } : Jvm.MethodName)) ∈ lw_all := lw_g (lw_at lw_m6 70 rfl) rfl
theorem q1354 : (Jvm.Cond.code ({ cls := "java/util/ArrayDeque", name := "size", desc := "()I" } : Jvm.MethodName) prog_63_method_37_code (1 : Nat) (Option.some Jvm.ClassFile.FieldType.int)) ∈ lw_all := lw_g (lw_at lw_m6 71 rfl) rfl
theorem q1355 : (Jvm.Cond.methodLink "java/util/ArrayDeque" (127 : Nat) ({ cls := "java/util/ArrayDeque", name := "sub", desc := "(III)I" } : Jvm.MethodName)) ∈ lw_all := lw_g (lw_at lw_m6 72 rfl) rfl
theorem q1356 : (Jvm.Cond.static ({ cls := "java/util/ArrayDeque", name := "sub", desc := "(III)I" } : Jvm.MethodName)) ∈ lw_all := lw_g (lw_at lw_m6 73 rfl) rfl
theorem q1357 : (Jvm.Cond.code ({ cls := "java/util/ArrayDeque", name := "sub", desc := "(III)I" } : Jvm.MethodName) prog_63_method_9_code (3 : Nat) (Option.some Jvm.ClassFile.FieldType.int)) ∈ lw_all := lw_g (lw_at lw_m6 74 rfl) rfl
theorem q1430 : (Jvm.Cond.instanceMethod ({ cls := "java/util/ArrayDeque", name := "delete", desc := "(I)Z" } : Jvm.MethodName)) ∈ lw_all := lw_g (lw_at lw_m6 147 rfl) rfl
theorem q1431 : (Jvm.Cond.selects "java/util/ArrayDeque" ({ cls := "java/util/ArrayDeque", name := "delete", desc := "(I)Z" } : Jvm.MethodName) ({ cls := "java/util/ArrayDeque", name := "delete", desc := "(I)Z" } : Jvm.MethodName)) ∈ lw_all := lw_g (lw_at lw_m6 148 rfl) rfl
theorem q1432 : (Jvm.Cond.code ({ cls := "java/util/ArrayDeque", name := "delete", desc := "(I)Z" } : Jvm.MethodName) prog_63_method_36_code (8 : Nat) (Option.some Jvm.ClassFile.FieldType.boolean)) ∈ lw_all := lw_g (lw_at lw_m6 149 rfl) rfl
theorem q1433 : (Jvm.Cond.methodLink "java/util/ArrayDeque" (27 : Nat) ({ cls := "java/lang/System", name := "arraycopy", desc := "(Ljava/lang/Object;ILjava/lang/Object;II)V" } : Jvm.MethodName)) ∈ lw_all := lw_g (lw_at lw_m6 150 rfl) rfl
theorem q1434 : (Jvm.Cond.methodLink "java/util/ArrayDeque" (74 : Nat) ({ cls := "java/util/ArrayDeque", name := "inc", desc := "(II)I" } : Jvm.MethodName)) ∈ lw_all := lw_g (lw_at lw_m6 151 rfl) rfl
theorem q1435 : (Jvm.Cond.methodLink "java/util/ArrayDeque" (68 : Nat) ({ cls := "java/util/ArrayDeque", name := "dec", desc := "(II)I" } : Jvm.MethodName)) ∈ lw_all := lw_g (lw_at lw_m6 152 rfl) rfl
theorem q1436 : (Jvm.Cond.static ({ cls := "java/util/ArrayDeque", name := "dec", desc := "(II)I" } : Jvm.MethodName)) ∈ lw_all := lw_g (lw_at lw_m6 153 rfl) rfl
theorem q1437 : (Jvm.Cond.code ({ cls := "java/util/ArrayDeque", name := "dec", desc := "(II)I" } : Jvm.MethodName) prog_63_method_7_code (2 : Nat) (Option.some Jvm.ClassFile.FieldType.int)) ∈ lw_all := lw_g (lw_at lw_m6 154 rfl) rfl
theorem q1519 : (Jvm.Cond.castable "java/util/ArrayDeque" "java/util/Collection") ∈ lw_tbl := lw_at lw_m6 236 rfl
theorem q1520 : (Jvm.Cond.selects "java/util/ArrayDeque" ({ cls := "java/util/Collection", name := "iterator", desc := "()Ljava/util/Iterator;" } : Jvm.MethodName) ({ cls := "java/util/ArrayDeque", name := "iterator", desc := "()Ljava/util/Iterator;" } : Jvm.MethodName)) ∈ lw_all := lw_g (lw_at lw_m6 237 rfl) rfl
theorem q1521 : (Jvm.Cond.unhidden "java/util/ArrayDeque" "iterator" "()Ljava/util/Iterator;") ∈ lw_tbl := lw_at lw_m6 238 rfl
theorem q1522 : (Jvm.Cond.instanceMethod ({ cls := "java/util/ArrayDeque", name := "iterator", desc := "()Ljava/util/Iterator;" } : Jvm.MethodName)) ∈ lw_all := lw_g (lw_at lw_m6 239 rfl) rfl
theorem q1523 : (Jvm.Cond.publicMethod ({ cls := "java/util/ArrayDeque", name := "iterator", desc := "()Ljava/util/Iterator;" } : Jvm.MethodName)) ∈ lw_tbl := lw_at lw_m7 0 rfl
theorem q1524 : (Jvm.Cond.code ({ cls := "java/util/ArrayDeque", name := "iterator", desc := "()Ljava/util/Iterator;" } : Jvm.MethodName) prog_63_method_39_code (1 : Nat) (Option.some (Jvm.ClassFile.FieldType.object "java/util/Iterator"))) ∈ lw_all := lw_g (lw_at lw_m7 1 rfl) rfl
theorem q1525 : (Jvm.Cond.classLink "java/util/ArrayDeque" (131 : Nat) "java/util/ArrayDeque$DeqIterator") ∈ lw_all := lw_g (lw_at lw_m7 2 rfl) rfl
theorem q1527 : (Jvm.Cond.methodLink "java/util/ArrayDeque" (133 : Nat) ({ cls := "java/util/ArrayDeque$DeqIterator", name := "<init>", desc := "(Ljava/util/ArrayDeque;)V" } : Jvm.MethodName)) ∈ lw_all := lw_g (lw_at lw_m7 4 rfl) rfl
theorem q1937 : (Jvm.Cond.instanceMethod ({ cls := "java/util/ArrayDeque", name := "addLast", desc := "(Ljava/lang/Object;)V" } : Jvm.MethodName)) ∈ lw_all := lw_g (lw_at lw_m8 174 rfl) rfl
theorem q1938 : (Jvm.Cond.selects "java/util/ArrayDeque" ({ cls := "java/util/ArrayDeque", name := "addLast", desc := "(Ljava/lang/Object;)V" } : Jvm.MethodName) ({ cls := "java/util/ArrayDeque", name := "addLast", desc := "(Ljava/lang/Object;)V" } : Jvm.MethodName)) ∈ lw_all := lw_g (lw_at lw_m8 175 rfl) rfl
theorem q1939 : (Jvm.Cond.code ({ cls := "java/util/ArrayDeque", name := "addLast", desc := "(Ljava/lang/Object;)V" } : Jvm.MethodName) prog_63_method_13_code (3 : Nat) (Option.none : Option Jvm.ClassFile.FieldType)) ∈ lw_all := lw_g (lw_at lw_m8 176 rfl) rfl
theorem q1940 : (Jvm.Cond.methodLink "java/util/ArrayDeque" (71 : Nat) ({ cls := "java/util/ArrayDeque", name := "grow", desc := "(I)V" } : Jvm.MethodName)) ∈ lw_all := lw_g (lw_at lw_m8 177 rfl) rfl
theorem q1941 : (Jvm.Cond.privateMethod ({ cls := "java/util/ArrayDeque", name := "grow", desc := "(I)V" } : Jvm.MethodName)) ∈ lw_tbl := lw_at lw_m8 178 rfl
theorem q1942 : (Jvm.Cond.instanceMethod ({ cls := "java/util/ArrayDeque", name := "grow", desc := "(I)V" } : Jvm.MethodName)) ∈ lw_all := lw_g (lw_at lw_m8 179 rfl) rfl
theorem q1943 : (Jvm.Cond.code ({ cls := "java/util/ArrayDeque", name := "grow", desc := "(I)V" } : Jvm.MethodName) prog_63_method_1_code (9 : Nat) (Option.none : Option Jvm.ClassFile.FieldType)) ∈ lw_all := lw_g (lw_at lw_m8 180 rfl) rfl
theorem q1944 : (Jvm.Cond.constant "java/util/ArrayDeque" (9 : Nat) (2147483639 : Int32)) ∈ lw_all := lw_g (lw_at lw_m8 181 rfl) rfl
theorem q1945 : (Jvm.Cond.methodLink "java/util/ArrayDeque" (10 : Nat) ({ cls := "java/util/ArrayDeque", name := "newCapacity", desc := "(II)I" } : Jvm.MethodName)) ∈ lw_all := lw_g (lw_at lw_m8 182 rfl) rfl
theorem q1946 : (Jvm.Cond.privateMethod ({ cls := "java/util/ArrayDeque", name := "newCapacity", desc := "(II)I" } : Jvm.MethodName)) ∈ lw_tbl := lw_at lw_m8 183 rfl
theorem q1947 : (Jvm.Cond.instanceMethod ({ cls := "java/util/ArrayDeque", name := "newCapacity", desc := "(II)I" } : Jvm.MethodName)) ∈ lw_all := lw_g (lw_at lw_m8 184 rfl) rfl
theorem q1948 : (Jvm.Cond.code ({ cls := "java/util/ArrayDeque", name := "newCapacity", desc := "(II)I" } : Jvm.MethodName) prog_63_method_2_code (5 : Nat) (Option.some Jvm.ClassFile.FieldType.int)) ∈ lw_all := lw_g (lw_at lw_m8 185 rfl) rfl
theorem q1949 : (Jvm.Cond.constant "java/util/ArrayDeque" (41 : Nat) (2147483647 : Int32)) ∈ lw_all := lw_g (lw_at lw_m8 186 rfl) rfl
theorem q1950 : (Jvm.Cond.methodLink "java/util/ArrayDeque" (14 : Nat) ({ cls := "java/util/Arrays", name := "copyOf", desc := "([Ljava/lang/Object;I)[Ljava/lang/Object;" } : Jvm.MethodName)) ∈ lw_all := lw_g (lw_at lw_m8 187 rfl) rfl
theorem q1953 : (Jvm.Cond.instanceMethod ({ cls := "java/util/ArrayDeque", name := "removeFirst", desc := "()Ljava/lang/Object;" } : Jvm.MethodName)) ∈ lw_all := lw_g (lw_at lw_m8 190 rfl) rfl
theorem q1954 : (Jvm.Cond.selects "java/util/ArrayDeque" ({ cls := "java/util/ArrayDeque", name := "removeFirst", desc := "()Ljava/lang/Object;" } : Jvm.MethodName) ({ cls := "java/util/ArrayDeque", name := "removeFirst", desc := "()Ljava/lang/Object;" } : Jvm.MethodName)) ∈ lw_all := lw_g (lw_at lw_m8 191 rfl) rfl
theorem q1955 : (Jvm.Cond.code ({ cls := "java/util/ArrayDeque", name := "removeFirst", desc := "()Ljava/lang/Object;" } : Jvm.MethodName) prog_63_method_18_code (2 : Nat) (Option.some (Jvm.ClassFile.FieldType.object "java/lang/Object"))) ∈ lw_all := lw_g (lw_at lw_m8 192 rfl) rfl
theorem q1956 : (Jvm.Cond.methodLink "java/util/ArrayDeque" (93 : Nat) ({ cls := "java/util/ArrayDeque", name := "pollFirst", desc := "()Ljava/lang/Object;" } : Jvm.MethodName)) ∈ lw_all := lw_g (lw_at lw_m8 193 rfl) rfl
theorem q1957 : (Jvm.Cond.instanceMethod ({ cls := "java/util/ArrayDeque", name := "pollFirst", desc := "()Ljava/lang/Object;" } : Jvm.MethodName)) ∈ lw_all := lw_g (lw_at lw_m8 194 rfl) rfl
theorem q1958 : (Jvm.Cond.selects "java/util/ArrayDeque" ({ cls := "java/util/ArrayDeque", name := "pollFirst", desc := "()Ljava/lang/Object;" } : Jvm.MethodName) ({ cls := "java/util/ArrayDeque", name := "pollFirst", desc := "()Ljava/lang/Object;" } : Jvm.MethodName)) ∈ lw_all := lw_g (lw_at lw_m8 195 rfl) rfl
theorem q1959 : (Jvm.Cond.code ({ cls := "java/util/ArrayDeque", name := "pollFirst", desc := "()Ljava/lang/Object;" } : Jvm.MethodName) prog_63_method_20_code (4 : Nat) (Option.some (Jvm.ClassFile.FieldType.object "java/lang/Object"))) ∈ lw_all := lw_g (lw_at lw_m8 196 rfl) rfl
theorem q1960 : (Jvm.Cond.methodLink "java/util/ArrayDeque" (103 : Nat) ({ cls := "java/util/ArrayDeque", name := "elementAt", desc := "([Ljava/lang/Object;I)Ljava/lang/Object;" } : Jvm.MethodName)) ∈ lw_all := lw_g (lw_at lw_m8 197 rfl) rfl
theorem q1961 : (Jvm.Cond.static ({ cls := "java/util/ArrayDeque", name := "elementAt", desc := "([Ljava/lang/Object;I)Ljava/lang/Object;" } : Jvm.MethodName)) ∈ lw_all := lw_g (lw_at lw_m8 198 rfl) rfl
theorem q1962 : (Jvm.Cond.code ({ cls := "java/util/ArrayDeque", name := "elementAt", desc := "([Ljava/lang/Object;I)Ljava/lang/Object;" } : Jvm.MethodName) prog_63_method_10_code (2 : Nat) (Option.some (Jvm.ClassFile.FieldType.object "java/lang/Object"))) ∈ lw_all := lw_g (lw_at lw_m8 199 rfl) rfl
theorem q2592 : (Jvm.Cond.instanceMethod ({ cls := "java/util/ArrayDeque", name := "isEmpty", desc := "()Z" } : Jvm.MethodName)) ∈ lw_all := lw_g (lw_at lw_m11 109 rfl) rfl
theorem q2593 : (Jvm.Cond.selects "java/util/ArrayDeque" ({ cls := "java/util/ArrayDeque", name := "isEmpty", desc := "()Z" } : Jvm.MethodName) ({ cls := "java/util/ArrayDeque", name := "isEmpty", desc := "()Z" } : Jvm.MethodName)) ∈ lw_all := lw_g (lw_at lw_m11 110 rfl) rfl
theorem q2594 : (Jvm.Cond.code ({ cls := "java/util/ArrayDeque", name := "isEmpty", desc := "()Z" } : Jvm.MethodName) prog_63_method_38_code (1 : Nat) (Option.some Jvm.ClassFile.FieldType.boolean)) ∈ lw_all := lw_g (lw_at lw_m11 111 rfl) rfl
theorem q2596 : (Jvm.Cond.instanceMethod ({ cls := "java/util/ArrayDeque", name := "removeLast", desc := "()Ljava/lang/Object;" } : Jvm.MethodName)) ∈ lw_all := lw_g (lw_at lw_m11 113 rfl) rfl
theorem q2597 : (Jvm.Cond.selects "java/util/ArrayDeque" ({ cls := "java/util/ArrayDeque", name := "removeLast", desc := "()Ljava/lang/Object;" } : Jvm.MethodName) ({ cls := "java/util/ArrayDeque", name := "removeLast", desc := "()Ljava/lang/Object;" } : Jvm.MethodName)) ∈ lw_all := lw_g (lw_at lw_m11 114 rfl) rfl
theorem q2598 : (Jvm.Cond.code ({ cls := "java/util/ArrayDeque", name := "removeLast", desc := "()Ljava/lang/Object;" } : Jvm.MethodName) prog_63_method_19_code (2 : Nat) (Option.some (Jvm.ClassFile.FieldType.object "java/lang/Object"))) ∈ lw_all := lw_g (lw_at lw_m11 115 rfl) rfl
theorem q2599 : (Jvm.Cond.methodLink "java/util/ArrayDeque" (100 : Nat) ({ cls := "java/util/ArrayDeque", name := "pollLast", desc := "()Ljava/lang/Object;" } : Jvm.MethodName)) ∈ lw_all := lw_g (lw_at lw_m11 116 rfl) rfl
theorem q2600 : (Jvm.Cond.instanceMethod ({ cls := "java/util/ArrayDeque", name := "pollLast", desc := "()Ljava/lang/Object;" } : Jvm.MethodName)) ∈ lw_all := lw_g (lw_at lw_m11 117 rfl) rfl
theorem q2601 : (Jvm.Cond.selects "java/util/ArrayDeque" ({ cls := "java/util/ArrayDeque", name := "pollLast", desc := "()Ljava/lang/Object;" } : Jvm.MethodName) ({ cls := "java/util/ArrayDeque", name := "pollLast", desc := "()Ljava/lang/Object;" } : Jvm.MethodName)) ∈ lw_all := lw_g (lw_at lw_m11 118 rfl) rfl
theorem q2602 : (Jvm.Cond.code ({ cls := "java/util/ArrayDeque", name := "pollLast", desc := "()Ljava/lang/Object;" } : Jvm.MethodName) prog_63_method_21_code (4 : Nat) (Option.some (Jvm.ClassFile.FieldType.object "java/lang/Object"))) ∈ lw_all := lw_g (lw_at lw_m11 119 rfl) rfl
theorem q3019 : (Jvm.Cond.selects "java/util/ArrayDeque" ({ cls := "java/util/AbstractCollection", name := "size", desc := "()I" } : Jvm.MethodName) ({ cls := "java/util/ArrayDeque", name := "size", desc := "()I" } : Jvm.MethodName)) ∈ lw_all := lw_g (lw_at lw_m13 56 rfl) rfl
theorem q3025 : (Jvm.Cond.selects "java/util/ArrayDeque" ({ cls := "java/util/ArrayDeque", name := "size", desc := "()I" } : Jvm.MethodName) ({ cls := "java/util/ArrayDeque", name := "size", desc := "()I" } : Jvm.MethodName)) ∈ lw_all := lw_g (lw_at lw_m13 62 rfl) rfl
theorem q3048 : (Jvm.Cond.castable "java/util/ArrayDeque" "java/lang/Object") ∈ lw_tbl := lw_at lw_m13 85 rfl
theorem in_J5 : ∀ w ∈ wsJ50, w ∈ lw_all := lw_in wsJ50 [312, 314, 316] (by decide +kernel) (by decide +kernel)

/-! java/util/Objects -/
set_option maxRecDepth 100000
def RJ6 : String := "java/util/Objects"
abbrev cJ6_checkIndex : ByteArray := prog_91_method_17_code
def yJ6_checkIndex : MethodName := ⟨RJ6, "checkIndex", "(II)I"⟩
def dkwJ6_checkIndex_0 : List UInt8 := [26, 27, 1, 184, 0, 105, 172]
abbrev dktJ6_checkIndex_0 : List UInt8 := dkwJ6_checkIndex_0 ++ []
theorem dksJ6_checkIndex_0 : cJ6_checkIndex.data.toList.drop 0 = dktJ6_checkIndex_0 := by decide +kernel
theorem dJ6_checkIndex_0 : decode cJ6_checkIndex 0 = .ok (.iload_n 0, 1) := dk_26 (dk_at dksJ6_checkIndex_0 0 rfl rfl)
theorem dJ6_checkIndex_1 : decode cJ6_checkIndex 1 = .ok (.iload_n 1, 1) := dk_27 (dk_at dksJ6_checkIndex_0 1 rfl rfl)
theorem dJ6_checkIndex_2 : decode cJ6_checkIndex 2 = .ok (.aconst_null, 1) := dk_1 (dk_at dksJ6_checkIndex_0 2 rfl rfl)
theorem dJ6_checkIndex_3 : decode cJ6_checkIndex 3 = .ok (.invokestatic 105, 3) := dk_184 0 105 (dk_at dksJ6_checkIndex_0 3 rfl rfl)
theorem dJ6_checkIndex_6 : decode cJ6_checkIndex 6 = .ok (.ireturn, 1) := dk_172 (dk_at dksJ6_checkIndex_0 6 rfl rfl)
abbrev cJ6_requireNonNull : ByteArray := prog_91_method_10_code
def yJ6_requireNonNull : MethodName := ⟨RJ6, "requireNonNull", "(Ljava/lang/Object;)Ljava/lang/Object;"⟩
def dkwJ6_requireNonNull_0 : List UInt8 := [42, 199, 0, 11, 187, 0, 84, 89, 183, 0, 86, 191, 42, 176]
abbrev dktJ6_requireNonNull_0 : List UInt8 := dkwJ6_requireNonNull_0 ++ []
theorem dksJ6_requireNonNull_0 : cJ6_requireNonNull.data.toList.drop 0 = dktJ6_requireNonNull_0 := by decide +kernel
theorem dJ6_requireNonNull_0 : decode cJ6_requireNonNull 0 = .ok (.aload_n 0, 1) := dk_42 (dk_at dksJ6_requireNonNull_0 0 rfl rfl)
theorem dJ6_requireNonNull_1 : decode cJ6_requireNonNull 1 = .ok (.ifnonnull 11, 3) := dk_199 0 11 (dk_at dksJ6_requireNonNull_0 1 rfl rfl)
theorem dJ6_requireNonNull_4 : decode cJ6_requireNonNull 4 = .ok (.new 84, 3) := dk_187 0 84 (dk_at dksJ6_requireNonNull_0 4 rfl rfl)
theorem dJ6_requireNonNull_7 : decode cJ6_requireNonNull 7 = .ok (.dup, 1) := dk_89 (dk_at dksJ6_requireNonNull_0 7 rfl rfl)
theorem dJ6_requireNonNull_8 : decode cJ6_requireNonNull 8 = .ok (.invokespecial 86, 3) := dk_183 0 86 (dk_at dksJ6_requireNonNull_0 8 rfl rfl)
theorem dJ6_requireNonNull_11 : decode cJ6_requireNonNull 11 = .ok (.athrow, 1) := dk_191 (dk_at dksJ6_requireNonNull_0 11 rfl rfl)
theorem dJ6_requireNonNull_12 : decode cJ6_requireNonNull 12 = .ok (.aload_n 0, 1) := dk_42 (dk_at dksJ6_requireNonNull_0 12 rfl rfl)
theorem dJ6_requireNonNull_13 : decode cJ6_requireNonNull 13 = .ok (.areturn, 1) := dk_176 (dk_at dksJ6_requireNonNull_0 13 rfl rfl)
theorem q97 : (Jvm.Cond.initialized "java/util/Objects") ∈ lw_all := lw_g (lw_at lw_m1 14 rfl) rfl
theorem q418 : (Jvm.Cond.static ({ cls := "java/util/Objects", name := "checkIndex", desc := "(II)I" } : Jvm.MethodName)) ∈ lw_all := lw_g (lw_at lw_m2 95 rfl) rfl
theorem q419 : (Jvm.Cond.code ({ cls := "java/util/Objects", name := "checkIndex", desc := "(II)I" } : Jvm.MethodName) prog_91_method_17_code (2 : Nat) (Option.some Jvm.ClassFile.FieldType.int)) ∈ lw_all := lw_g (lw_at lw_m2 96 rfl) rfl
theorem q420 : (Jvm.Cond.methodLink "java/util/Objects" (105 : Nat) ({ cls := "jdk/internal/util/Preconditions", name := "checkIndex", desc := "(IILjava/util/function/BiFunction;)I" } : Jvm.MethodName)) ∈ lw_all := lw_g (lw_at lw_m2 97 rfl) rfl
theorem q2316 : (Jvm.Cond.static ({ cls := "java/util/Objects", name := "requireNonNull", desc := "(Ljava/lang/Object;)Ljava/lang/Object;" } : Jvm.MethodName)) ∈ lw_all := lw_g (lw_at lw_m10 73 rfl) rfl
theorem q2317 : (Jvm.Cond.code ({ cls := "java/util/Objects", name := "requireNonNull", desc := "(Ljava/lang/Object;)Ljava/lang/Object;" } : Jvm.MethodName) prog_91_method_10_code (1 : Nat) (Option.some (Jvm.ClassFile.FieldType.object "java/lang/Object"))) ∈ lw_all := lw_g (lw_at lw_m10 74 rfl) rfl

/-! jdk/internal/util/Preconditions -/
set_option maxRecDepth 100000
def RJ7 : String := "jdk/internal/util/Preconditions"
abbrev cJ7_checkIndex : ByteArray := prog_96_method_11_code
def yJ7_checkIndex : MethodName := ⟨RJ7, "checkIndex", "(IILjava/util/function/BiFunction;)I"⟩
def dkwJ7_checkIndex_0 : List UInt8 := [26, 155, 0, 8, 26, 27, 161, 0, 10, 44, 26, 27, 184, 0, 95, 191, 26, 172]
abbrev dktJ7_checkIndex_0 : List UInt8 := dkwJ7_checkIndex_0 ++ []
theorem dksJ7_checkIndex_0 : cJ7_checkIndex.data.toList.drop 0 = dktJ7_checkIndex_0 := by decide +kernel
theorem dJ7_checkIndex_0 : decode cJ7_checkIndex 0 = .ok (.iload_n 0, 1) := dk_26 (dk_at dksJ7_checkIndex_0 0 rfl rfl)
theorem dJ7_checkIndex_1 : decode cJ7_checkIndex 1 = .ok (.ifCond .lt 8, 3) := dk_155 0 8 (dk_at dksJ7_checkIndex_0 1 rfl rfl)
theorem dJ7_checkIndex_4 : decode cJ7_checkIndex 4 = .ok (.iload_n 0, 1) := dk_26 (dk_at dksJ7_checkIndex_0 4 rfl rfl)
theorem dJ7_checkIndex_5 : decode cJ7_checkIndex 5 = .ok (.iload_n 1, 1) := dk_27 (dk_at dksJ7_checkIndex_0 5 rfl rfl)
theorem dJ7_checkIndex_6 : decode cJ7_checkIndex 6 = .ok (.if_icmp .lt 10, 3) := dk_161 0 10 (dk_at dksJ7_checkIndex_0 6 rfl rfl)
theorem dJ7_checkIndex_9 : decode cJ7_checkIndex 9 = .ok (.aload_n 2, 1) := dk_44 (dk_at dksJ7_checkIndex_0 9 rfl rfl)
theorem dJ7_checkIndex_10 : decode cJ7_checkIndex 10 = .ok (.iload_n 0, 1) := dk_26 (dk_at dksJ7_checkIndex_0 10 rfl rfl)
theorem dJ7_checkIndex_11 : decode cJ7_checkIndex 11 = .ok (.iload_n 1, 1) := dk_27 (dk_at dksJ7_checkIndex_0 11 rfl rfl)
theorem dJ7_checkIndex_12 : decode cJ7_checkIndex 12 = .ok (.invokestatic 95, 3) := dk_184 0 95 (dk_at dksJ7_checkIndex_0 12 rfl rfl)
theorem dJ7_checkIndex_15 : decode cJ7_checkIndex 15 = .ok (.athrow, 1) := dk_191 (dk_at dksJ7_checkIndex_0 15 rfl rfl)
theorem dJ7_checkIndex_16 : decode cJ7_checkIndex 16 = .ok (.iload_n 0, 1) := dk_26 (dk_at dksJ7_checkIndex_0 16 rfl rfl)
theorem dJ7_checkIndex_17 : decode cJ7_checkIndex 17 = .ok (.ireturn, 1) := dk_172 (dk_at dksJ7_checkIndex_0 17 rfl rfl)
abbrev cJ7_checkFromToIndex : ByteArray := prog_96_method_12_code
def yJ7_checkFromToIndex : MethodName := ⟨RJ7, "checkFromToIndex", "(IIILjava/util/function/BiFunction;)I"⟩
def dkwJ7_checkFromToIndex_0 : List UInt8 := [26, 155, 0, 13, 26, 27, 163, 0, 8, 27, 28, 164, 0, 11, 45, 26, 27, 28, 184, 0, 99, 191, 26, 172]
abbrev dktJ7_checkFromToIndex_0 : List UInt8 := dkwJ7_checkFromToIndex_0 ++ []
theorem dksJ7_checkFromToIndex_0 : cJ7_checkFromToIndex.data.toList.drop 0 = dktJ7_checkFromToIndex_0 := by decide +kernel
theorem dJ7_checkFromToIndex_0 : decode cJ7_checkFromToIndex 0 = .ok (.iload_n 0, 1) := dk_26 (dk_at dksJ7_checkFromToIndex_0 0 rfl rfl)
theorem dJ7_checkFromToIndex_1 : decode cJ7_checkFromToIndex 1 = .ok (.ifCond .lt 13, 3) := dk_155 0 13 (dk_at dksJ7_checkFromToIndex_0 1 rfl rfl)
theorem dJ7_checkFromToIndex_4 : decode cJ7_checkFromToIndex 4 = .ok (.iload_n 0, 1) := dk_26 (dk_at dksJ7_checkFromToIndex_0 4 rfl rfl)
theorem dJ7_checkFromToIndex_5 : decode cJ7_checkFromToIndex 5 = .ok (.iload_n 1, 1) := dk_27 (dk_at dksJ7_checkFromToIndex_0 5 rfl rfl)
theorem dJ7_checkFromToIndex_6 : decode cJ7_checkFromToIndex 6 = .ok (.if_icmp .gt 8, 3) := dk_163 0 8 (dk_at dksJ7_checkFromToIndex_0 6 rfl rfl)
theorem dJ7_checkFromToIndex_9 : decode cJ7_checkFromToIndex 9 = .ok (.iload_n 1, 1) := dk_27 (dk_at dksJ7_checkFromToIndex_0 9 rfl rfl)
theorem dJ7_checkFromToIndex_10 : decode cJ7_checkFromToIndex 10 = .ok (.iload_n 2, 1) := dk_28 (dk_at dksJ7_checkFromToIndex_0 10 rfl rfl)
theorem dJ7_checkFromToIndex_11 : decode cJ7_checkFromToIndex 11 = .ok (.if_icmp .le 11, 3) := dk_164 0 11 (dk_at dksJ7_checkFromToIndex_0 11 rfl rfl)
theorem dJ7_checkFromToIndex_14 : decode cJ7_checkFromToIndex 14 = .ok (.aload_n 3, 1) := dk_45 (dk_at dksJ7_checkFromToIndex_0 14 rfl rfl)
theorem dJ7_checkFromToIndex_15 : decode cJ7_checkFromToIndex 15 = .ok (.iload_n 0, 1) := dk_26 (dk_at dksJ7_checkFromToIndex_0 15 rfl rfl)
theorem dJ7_checkFromToIndex_16 : decode cJ7_checkFromToIndex 16 = .ok (.iload_n 1, 1) := dk_27 (dk_at dksJ7_checkFromToIndex_0 16 rfl rfl)
theorem dJ7_checkFromToIndex_17 : decode cJ7_checkFromToIndex 17 = .ok (.iload_n 2, 1) := dk_28 (dk_at dksJ7_checkFromToIndex_0 17 rfl rfl)
theorem dJ7_checkFromToIndex_18 : decode cJ7_checkFromToIndex 18 = .ok (.invokestatic 99, 3) := dk_184 0 99 (dk_at dksJ7_checkFromToIndex_0 18 rfl rfl)
theorem dJ7_checkFromToIndex_21 : decode cJ7_checkFromToIndex 21 = .ok (.athrow, 1) := dk_191 (dk_at dksJ7_checkFromToIndex_0 21 rfl rfl)
theorem dJ7_checkFromToIndex_22 : decode cJ7_checkFromToIndex 22 = .ok (.iload_n 0, 1) := dk_26 (dk_at dksJ7_checkFromToIndex_0 22 rfl rfl)
theorem dJ7_checkFromToIndex_23 : decode cJ7_checkFromToIndex 23 = .ok (.ireturn, 1) := dk_172 (dk_at dksJ7_checkFromToIndex_0 23 rfl rfl)
abbrev cJ7_checkFromIndexSize : ByteArray := prog_96_method_13_code
def yJ7_checkFromIndexSize : MethodName := ⟨RJ7, "checkFromIndexSize", "(IIILjava/util/function/BiFunction;)I"⟩
def dkwJ7_checkFromIndexSize_1 : List UInt8 := [172]
abbrev dktJ7_checkFromIndexSize_1 : List UInt8 := dkwJ7_checkFromIndexSize_1 ++ []
def dkwJ7_checkFromIndexSize_0 : List UInt8 := [28, 26, 128, 27, 128, 155, 0, 10, 27, 28, 26, 100, 164, 0, 11, 45, 26, 27, 28, 184, 0, 103, 191, 26]
abbrev dktJ7_checkFromIndexSize_0 : List UInt8 := dkwJ7_checkFromIndexSize_0 ++ dktJ7_checkFromIndexSize_1
theorem dksJ7_checkFromIndexSize_0 : cJ7_checkFromIndexSize.data.toList.drop 0 = dktJ7_checkFromIndexSize_0 := by decide +kernel
theorem dksJ7_checkFromIndexSize_1 : cJ7_checkFromIndexSize.data.toList.drop 24 = dktJ7_checkFromIndexSize_1 := dk_seg dksJ7_checkFromIndexSize_0 24 rfl rfl
theorem dJ7_checkFromIndexSize_0 : decode cJ7_checkFromIndexSize 0 = .ok (.iload_n 2, 1) := dk_28 (dk_at dksJ7_checkFromIndexSize_0 0 rfl rfl)
theorem dJ7_checkFromIndexSize_1 : decode cJ7_checkFromIndexSize 1 = .ok (.iload_n 0, 1) := dk_26 (dk_at dksJ7_checkFromIndexSize_0 1 rfl rfl)
theorem dJ7_checkFromIndexSize_2 : decode cJ7_checkFromIndexSize 2 = .ok (.ior, 1) := dk_128 (dk_at dksJ7_checkFromIndexSize_0 2 rfl rfl)
theorem dJ7_checkFromIndexSize_3 : decode cJ7_checkFromIndexSize 3 = .ok (.iload_n 1, 1) := dk_27 (dk_at dksJ7_checkFromIndexSize_0 3 rfl rfl)
theorem dJ7_checkFromIndexSize_4 : decode cJ7_checkFromIndexSize 4 = .ok (.ior, 1) := dk_128 (dk_at dksJ7_checkFromIndexSize_0 4 rfl rfl)
theorem dJ7_checkFromIndexSize_5 : decode cJ7_checkFromIndexSize 5 = .ok (.ifCond .lt 10, 3) := dk_155 0 10 (dk_at dksJ7_checkFromIndexSize_0 5 rfl rfl)
theorem dJ7_checkFromIndexSize_8 : decode cJ7_checkFromIndexSize 8 = .ok (.iload_n 1, 1) := dk_27 (dk_at dksJ7_checkFromIndexSize_0 8 rfl rfl)
theorem dJ7_checkFromIndexSize_9 : decode cJ7_checkFromIndexSize 9 = .ok (.iload_n 2, 1) := dk_28 (dk_at dksJ7_checkFromIndexSize_0 9 rfl rfl)
theorem dJ7_checkFromIndexSize_10 : decode cJ7_checkFromIndexSize 10 = .ok (.iload_n 0, 1) := dk_26 (dk_at dksJ7_checkFromIndexSize_0 10 rfl rfl)
theorem dJ7_checkFromIndexSize_11 : decode cJ7_checkFromIndexSize 11 = .ok (.isub, 1) := dk_100 (dk_at dksJ7_checkFromIndexSize_0 11 rfl rfl)
theorem dJ7_checkFromIndexSize_12 : decode cJ7_checkFromIndexSize 12 = .ok (.if_icmp .le 11, 3) := dk_164 0 11 (dk_at dksJ7_checkFromIndexSize_0 12 rfl rfl)
theorem dJ7_checkFromIndexSize_15 : decode cJ7_checkFromIndexSize 15 = .ok (.aload_n 3, 1) := dk_45 (dk_at dksJ7_checkFromIndexSize_0 15 rfl rfl)
theorem dJ7_checkFromIndexSize_16 : decode cJ7_checkFromIndexSize 16 = .ok (.iload_n 0, 1) := dk_26 (dk_at dksJ7_checkFromIndexSize_0 16 rfl rfl)
theorem dJ7_checkFromIndexSize_17 : decode cJ7_checkFromIndexSize 17 = .ok (.iload_n 1, 1) := dk_27 (dk_at dksJ7_checkFromIndexSize_0 17 rfl rfl)
theorem dJ7_checkFromIndexSize_18 : decode cJ7_checkFromIndexSize 18 = .ok (.iload_n 2, 1) := dk_28 (dk_at dksJ7_checkFromIndexSize_0 18 rfl rfl)
theorem dJ7_checkFromIndexSize_19 : decode cJ7_checkFromIndexSize 19 = .ok (.invokestatic 103, 3) := dk_184 0 103 (dk_at dksJ7_checkFromIndexSize_0 19 rfl rfl)
theorem dJ7_checkFromIndexSize_22 : decode cJ7_checkFromIndexSize 22 = .ok (.athrow, 1) := dk_191 (dk_at dksJ7_checkFromIndexSize_0 22 rfl rfl)
theorem dJ7_checkFromIndexSize_23 : decode cJ7_checkFromIndexSize 23 = .ok (.iload_n 0, 1) := dk_26 (dk_at dksJ7_checkFromIndexSize_0 23 rfl rfl)
theorem dJ7_checkFromIndexSize_24 : decode cJ7_checkFromIndexSize 24 = .ok (.ireturn, 1) := dk_172 (dk_at dksJ7_checkFromIndexSize_1 0 rfl rfl)
theorem q98 : (Jvm.Cond.initialized "jdk/internal/util/Preconditions") ∈ lw_all := lw_g (lw_at lw_m1 15 rfl) rfl
theorem q421 : (Jvm.Cond.static ({ cls := "jdk/internal/util/Preconditions", name := "checkIndex", desc := "(IILjava/util/function/BiFunction;)I" } : Jvm.MethodName)) ∈ lw_all := lw_g (lw_at lw_m2 98 rfl) rfl
theorem q422 : (Jvm.Cond.code ({ cls := "jdk/internal/util/Preconditions", name := "checkIndex", desc := "(IILjava/util/function/BiFunction;)I" } : Jvm.MethodName) prog_96_method_11_code (3 : Nat) (Option.some Jvm.ClassFile.FieldType.int)) ∈ lw_all := lw_g (lw_at lw_m2 99 rfl) rfl
theorem q980 : (Jvm.Cond.laysStatic "jdk/internal/util/Preconditions" "SIOOBE_FORMATTER" "Ljava/util/function/BiFunction;") ∈ lw_tbl := lw_at lw_m4 177 rfl
theorem q982 : (Jvm.Cond.static ({ cls := "jdk/internal/util/Preconditions", name := "checkFromToIndex", desc := "(IIILjava/util/function/BiFunction;)I" } : Jvm.MethodName)) ∈ lw_all := lw_g (lw_at lw_m4 179 rfl) rfl
theorem q983 : (Jvm.Cond.code ({ cls := "jdk/internal/util/Preconditions", name := "checkFromToIndex", desc := "(IIILjava/util/function/BiFunction;)I" } : Jvm.MethodName) prog_96_method_12_code (4 : Nat) (Option.some Jvm.ClassFile.FieldType.int)) ∈ lw_all := lw_g (lw_at lw_m4 180 rfl) rfl
theorem q1028 : (Jvm.Cond.static ({ cls := "jdk/internal/util/Preconditions", name := "checkFromIndexSize", desc := "(IIILjava/util/function/BiFunction;)I" } : Jvm.MethodName)) ∈ lw_all := lw_g (lw_at lw_m4 225 rfl) rfl
theorem q1029 : (Jvm.Cond.code ({ cls := "jdk/internal/util/Preconditions", name := "checkFromIndexSize", desc := "(IIILjava/util/function/BiFunction;)I" } : Jvm.MethodName) prog_96_method_13_code (4 : Nat) (Option.some Jvm.ClassFile.FieldType.int)) ∈ lw_all := lw_g (lw_at lw_m4 226 rfl) rfl

/-! jdk/internal/util/ArraysSupport -/
set_option maxRecDepth 100000
def RJ8 : String := "jdk/internal/util/ArraysSupport"
abbrev cJ8_newLength : ByteArray := prog_95_method_27_code
def yJ8_newLength : MethodName := ⟨RJ8, "newLength", "(III)I"⟩
def dkwJ8_newLength_1 : List UInt8 := [184, 0, 201, 172]
abbrev dktJ8_newLength_1 : List UInt8 := dkwJ8_newLength_1 ++ []
def dkwJ8_newLength_0 : List UInt8 := [26, 27, 28, 184, 0, 194, 96, 62, 3, 29, 162, 0, 11, 29, 18, 200, 163, 0, 5, 29, 172, 26, 27]
abbrev dktJ8_newLength_0 : List UInt8 := dkwJ8_newLength_0 ++ dktJ8_newLength_1
theorem dksJ8_newLength_0 : cJ8_newLength.data.toList.drop 0 = dktJ8_newLength_0 := by decide +kernel
theorem dksJ8_newLength_1 : cJ8_newLength.data.toList.drop 23 = dktJ8_newLength_1 := dk_seg dksJ8_newLength_0 23 rfl rfl
theorem dJ8_newLength_0 : decode cJ8_newLength 0 = .ok (.iload_n 0, 1) := dk_26 (dk_at dksJ8_newLength_0 0 rfl rfl)
theorem dJ8_newLength_1 : decode cJ8_newLength 1 = .ok (.iload_n 1, 1) := dk_27 (dk_at dksJ8_newLength_0 1 rfl rfl)
theorem dJ8_newLength_2 : decode cJ8_newLength 2 = .ok (.iload_n 2, 1) := dk_28 (dk_at dksJ8_newLength_0 2 rfl rfl)
theorem dJ8_newLength_3 : decode cJ8_newLength 3 = .ok (.invokestatic 194, 3) := dk_184 0 194 (dk_at dksJ8_newLength_0 3 rfl rfl)
theorem dJ8_newLength_6 : decode cJ8_newLength 6 = .ok (.iadd, 1) := dk_96 (dk_at dksJ8_newLength_0 6 rfl rfl)
theorem dJ8_newLength_7 : decode cJ8_newLength 7 = .ok (.istore_n 3, 1) := dk_62 (dk_at dksJ8_newLength_0 7 rfl rfl)
theorem dJ8_newLength_8 : decode cJ8_newLength 8 = .ok (.iconst 0, 1) := dk_3 (dk_at dksJ8_newLength_0 8 rfl rfl)
theorem dJ8_newLength_9 : decode cJ8_newLength 9 = .ok (.iload_n 3, 1) := dk_29 (dk_at dksJ8_newLength_0 9 rfl rfl)
theorem dJ8_newLength_10 : decode cJ8_newLength 10 = .ok (.if_icmp .ge 11, 3) := dk_162 0 11 (dk_at dksJ8_newLength_0 10 rfl rfl)
theorem dJ8_newLength_13 : decode cJ8_newLength 13 = .ok (.iload_n 3, 1) := dk_29 (dk_at dksJ8_newLength_0 13 rfl rfl)
theorem dJ8_newLength_14 : decode cJ8_newLength 14 = .ok (.ldc 200, 2) := dk_18 200 (dk_at dksJ8_newLength_0 14 rfl rfl)
theorem dJ8_newLength_16 : decode cJ8_newLength 16 = .ok (.if_icmp .gt 5, 3) := dk_163 0 5 (dk_at dksJ8_newLength_0 16 rfl rfl)
theorem dJ8_newLength_19 : decode cJ8_newLength 19 = .ok (.iload_n 3, 1) := dk_29 (dk_at dksJ8_newLength_0 19 rfl rfl)
theorem dJ8_newLength_20 : decode cJ8_newLength 20 = .ok (.ireturn, 1) := dk_172 (dk_at dksJ8_newLength_0 20 rfl rfl)
theorem dJ8_newLength_21 : decode cJ8_newLength 21 = .ok (.iload_n 0, 1) := dk_26 (dk_at dksJ8_newLength_0 21 rfl rfl)
theorem dJ8_newLength_22 : decode cJ8_newLength 22 = .ok (.iload_n 1, 1) := dk_27 (dk_at dksJ8_newLength_0 22 rfl rfl)
theorem dJ8_newLength_23 : decode cJ8_newLength 23 = .ok (.invokestatic 201, 3) := dk_184 0 201 (dk_at dksJ8_newLength_1 0 rfl rfl)
theorem dJ8_newLength_26 : decode cJ8_newLength 26 = .ok (.ireturn, 1) := dk_172 (dk_at dksJ8_newLength_1 3 rfl rfl)
abbrev cJ8_hugeLength : ByteArray := prog_95_method_28_code
def yJ8_hugeLength : MethodName := ⟨RJ8, "hugeLength", "(II)I"⟩
def dkwJ8_hugeLength_2 : List UInt8 := [191, 28, 18, 200, 163, 0, 6, 18, 200, 172, 28, 172]
abbrev dktJ8_hugeLength_2 : List UInt8 := dkwJ8_hugeLength_2 ++ []
def dkwJ8_hugeLength_1 : List UInt8 := [26, 182, 0, 98, 18, 208, 182, 0, 94, 27, 182, 0, 98, 18, 210, 182, 0, 94, 182, 0, 101, 183, 0, 212]
abbrev dktJ8_hugeLength_1 : List UInt8 := dkwJ8_hugeLength_1 ++ dktJ8_hugeLength_2
def dkwJ8_hugeLength_0 : List UInt8 := [26, 27, 96, 61, 28, 156, 0, 44, 187, 0, 204, 89, 187, 0, 89, 89, 183, 0, 91, 18, 206, 182, 0, 94]
abbrev dktJ8_hugeLength_0 : List UInt8 := dkwJ8_hugeLength_0 ++ dktJ8_hugeLength_1
theorem dksJ8_hugeLength_0 : cJ8_hugeLength.data.toList.drop 0 = dktJ8_hugeLength_0 := by decide +kernel
theorem dksJ8_hugeLength_1 : cJ8_hugeLength.data.toList.drop 24 = dktJ8_hugeLength_1 := dk_seg dksJ8_hugeLength_0 24 rfl rfl
theorem dksJ8_hugeLength_2 : cJ8_hugeLength.data.toList.drop 48 = dktJ8_hugeLength_2 := dk_seg dksJ8_hugeLength_1 24 rfl rfl
theorem dJ8_hugeLength_0 : decode cJ8_hugeLength 0 = .ok (.iload_n 0, 1) := dk_26 (dk_at dksJ8_hugeLength_0 0 rfl rfl)
theorem dJ8_hugeLength_1 : decode cJ8_hugeLength 1 = .ok (.iload_n 1, 1) := dk_27 (dk_at dksJ8_hugeLength_0 1 rfl rfl)
theorem dJ8_hugeLength_2 : decode cJ8_hugeLength 2 = .ok (.iadd, 1) := dk_96 (dk_at dksJ8_hugeLength_0 2 rfl rfl)
theorem dJ8_hugeLength_3 : decode cJ8_hugeLength 3 = .ok (.istore_n 2, 1) := dk_61 (dk_at dksJ8_hugeLength_0 3 rfl rfl)
theorem dJ8_hugeLength_4 : decode cJ8_hugeLength 4 = .ok (.iload_n 2, 1) := dk_28 (dk_at dksJ8_hugeLength_0 4 rfl rfl)
theorem dJ8_hugeLength_5 : decode cJ8_hugeLength 5 = .ok (.ifCond .ge 44, 3) := dk_156 0 44 (dk_at dksJ8_hugeLength_0 5 rfl rfl)
theorem dJ8_hugeLength_8 : decode cJ8_hugeLength 8 = .ok (.new 204, 3) := dk_187 0 204 (dk_at dksJ8_hugeLength_0 8 rfl rfl)
theorem dJ8_hugeLength_11 : decode cJ8_hugeLength 11 = .ok (.dup, 1) := dk_89 (dk_at dksJ8_hugeLength_0 11 rfl rfl)
theorem dJ8_hugeLength_12 : decode cJ8_hugeLength 12 = .ok (.new 89, 3) := dk_187 0 89 (dk_at dksJ8_hugeLength_0 12 rfl rfl)
theorem dJ8_hugeLength_15 : decode cJ8_hugeLength 15 = .ok (.dup, 1) := dk_89 (dk_at dksJ8_hugeLength_0 15 rfl rfl)
theorem dJ8_hugeLength_16 : decode cJ8_hugeLength 16 = .ok (.invokespecial 91, 3) := dk_183 0 91 (dk_at dksJ8_hugeLength_0 16 rfl rfl)
theorem dJ8_hugeLength_19 : decode cJ8_hugeLength 19 = .ok (.ldc 206, 2) := dk_18 206 (dk_at dksJ8_hugeLength_0 19 rfl rfl)
theorem dJ8_hugeLength_21 : decode cJ8_hugeLength 21 = .ok (.invokevirtual 94, 3) := dk_182 0 94 (dk_at dksJ8_hugeLength_0 21 rfl rfl)
theorem dJ8_hugeLength_24 : decode cJ8_hugeLength 24 = .ok (.iload_n 0, 1) := dk_26 (dk_at dksJ8_hugeLength_1 0 rfl rfl)
theorem dJ8_hugeLength_25 : decode cJ8_hugeLength 25 = .ok (.invokevirtual 98, 3) := dk_182 0 98 (dk_at dksJ8_hugeLength_1 1 rfl rfl)
theorem dJ8_hugeLength_28 : decode cJ8_hugeLength 28 = .ok (.ldc 208, 2) := dk_18 208 (dk_at dksJ8_hugeLength_1 4 rfl rfl)
theorem dJ8_hugeLength_30 : decode cJ8_hugeLength 30 = .ok (.invokevirtual 94, 3) := dk_182 0 94 (dk_at dksJ8_hugeLength_1 6 rfl rfl)
theorem dJ8_hugeLength_33 : decode cJ8_hugeLength 33 = .ok (.iload_n 1, 1) := dk_27 (dk_at dksJ8_hugeLength_1 9 rfl rfl)
theorem dJ8_hugeLength_34 : decode cJ8_hugeLength 34 = .ok (.invokevirtual 98, 3) := dk_182 0 98 (dk_at dksJ8_hugeLength_1 10 rfl rfl)
theorem dJ8_hugeLength_37 : decode cJ8_hugeLength 37 = .ok (.ldc 210, 2) := dk_18 210 (dk_at dksJ8_hugeLength_1 13 rfl rfl)
theorem dJ8_hugeLength_39 : decode cJ8_hugeLength 39 = .ok (.invokevirtual 94, 3) := dk_182 0 94 (dk_at dksJ8_hugeLength_1 15 rfl rfl)
theorem dJ8_hugeLength_42 : decode cJ8_hugeLength 42 = .ok (.invokevirtual 101, 3) := dk_182 0 101 (dk_at dksJ8_hugeLength_1 18 rfl rfl)
theorem dJ8_hugeLength_45 : decode cJ8_hugeLength 45 = .ok (.invokespecial 212, 3) := dk_183 0 212 (dk_at dksJ8_hugeLength_1 21 rfl rfl)
theorem dJ8_hugeLength_48 : decode cJ8_hugeLength 48 = .ok (.athrow, 1) := dk_191 (dk_at dksJ8_hugeLength_2 0 rfl rfl)
theorem dJ8_hugeLength_49 : decode cJ8_hugeLength 49 = .ok (.iload_n 2, 1) := dk_28 (dk_at dksJ8_hugeLength_2 1 rfl rfl)
theorem dJ8_hugeLength_50 : decode cJ8_hugeLength 50 = .ok (.ldc 200, 2) := dk_18 200 (dk_at dksJ8_hugeLength_2 2 rfl rfl)
theorem dJ8_hugeLength_52 : decode cJ8_hugeLength 52 = .ok (.if_icmp .gt 6, 3) := dk_163 0 6 (dk_at dksJ8_hugeLength_2 4 rfl rfl)
theorem dJ8_hugeLength_55 : decode cJ8_hugeLength 55 = .ok (.ldc 200, 2) := dk_18 200 (dk_at dksJ8_hugeLength_2 7 rfl rfl)
theorem dJ8_hugeLength_57 : decode cJ8_hugeLength 57 = .ok (.ireturn, 1) := dk_172 (dk_at dksJ8_hugeLength_2 9 rfl rfl)
theorem dJ8_hugeLength_58 : decode cJ8_hugeLength 58 = .ok (.iload_n 2, 1) := dk_28 (dk_at dksJ8_hugeLength_2 10 rfl rfl)
theorem dJ8_hugeLength_59 : decode cJ8_hugeLength 59 = .ok (.ireturn, 1) := dk_172 (dk_at dksJ8_hugeLength_2 11 rfl rfl)
theorem q101 : (Jvm.Cond.initialized "jdk/internal/util/ArraysSupport") ∈ lw_all := lw_g (lw_at lw_m1 18 rfl) rfl
theorem q529 : (Jvm.Cond.static ({ cls := "jdk/internal/util/ArraysSupport", name := "newLength", desc := "(III)I" } : Jvm.MethodName)) ∈ lw_all := lw_g (lw_at lw_m2 206 rfl) rfl
theorem q530 : (Jvm.Cond.code ({ cls := "jdk/internal/util/ArraysSupport", name := "newLength", desc := "(III)I" } : Jvm.MethodName) prog_95_method_27_code (4 : Nat) (Option.some Jvm.ClassFile.FieldType.int)) ∈ lw_all := lw_g (lw_at lw_m2 207 rfl) rfl
theorem q531 : (Jvm.Cond.methodLink "jdk/internal/util/ArraysSupport" (194 : Nat) ({ cls := "java/lang/Math", name := "max", desc := "(II)I" } : Jvm.MethodName)) ∈ lw_all := lw_g (lw_at lw_m2 208 rfl) rfl
theorem q534 : (Jvm.Cond.constant "jdk/internal/util/ArraysSupport" (200 : Nat) (2147483639 : Int32)) ∈ lw_all := lw_g (lw_at lw_m2 211 rfl) rfl
theorem q535 : (Jvm.Cond.methodLink "jdk/internal/util/ArraysSupport" (201 : Nat) ({ cls := "jdk/internal/util/ArraysSupport", name := "hugeLength", desc := "(II)I" } : Jvm.MethodName)) ∈ lw_all := lw_g (lw_at lw_m2 212 rfl) rfl
theorem q536 : (Jvm.Cond.static ({ cls := "jdk/internal/util/ArraysSupport", name := "hugeLength", desc := "(II)I" } : Jvm.MethodName)) ∈ lw_all := lw_g (lw_at lw_m2 213 rfl) rfl
theorem q537 : (Jvm.Cond.code ({ cls := "jdk/internal/util/ArraysSupport", name := "hugeLength", desc := "(II)I" } : Jvm.MethodName) prog_95_method_28_code (3 : Nat) (Option.some Jvm.ClassFile.FieldType.int)) ∈ lw_all := lw_g (lw_at lw_m2 214 rfl) rfl

/-! java/lang/Math -/
set_option maxRecDepth 100000
def RJ9 : String := "java/lang/Math"
abbrev cJ9_max : ByteArray := prog_47_method_65_code
def yJ9_max : MethodName := ⟨RJ9, "max", "(II)I"⟩
def dkwJ9_max_0 : List UInt8 := [26, 27, 161, 0, 7, 26, 167, 0, 4, 27, 172]
abbrev dktJ9_max_0 : List UInt8 := dkwJ9_max_0 ++ []
theorem dksJ9_max_0 : cJ9_max.data.toList.drop 0 = dktJ9_max_0 := by decide +kernel
theorem dJ9_max_0 : decode cJ9_max 0 = .ok (.iload_n 0, 1) := dk_26 (dk_at dksJ9_max_0 0 rfl rfl)
theorem dJ9_max_1 : decode cJ9_max 1 = .ok (.iload_n 1, 1) := dk_27 (dk_at dksJ9_max_0 1 rfl rfl)
theorem dJ9_max_2 : decode cJ9_max 2 = .ok (.if_icmp .lt 7, 3) := dk_161 0 7 (dk_at dksJ9_max_0 2 rfl rfl)
theorem dJ9_max_5 : decode cJ9_max 5 = .ok (.iload_n 0, 1) := dk_26 (dk_at dksJ9_max_0 5 rfl rfl)
theorem dJ9_max_6 : decode cJ9_max 6 = .ok (.goto 4, 3) := dk_167 0 4 (dk_at dksJ9_max_0 6 rfl rfl)
theorem dJ9_max_9 : decode cJ9_max 9 = .ok (.iload_n 1, 1) := dk_27 (dk_at dksJ9_max_0 9 rfl rfl)
theorem dJ9_max_10 : decode cJ9_max 10 = .ok (.ireturn, 1) := dk_172 (dk_at dksJ9_max_0 10 rfl rfl)
abbrev cJ9_min : ByteArray := prog_47_method_69_code
def yJ9_min : MethodName := ⟨RJ9, "min", "(II)I"⟩
def dkwJ9_min_0 : List UInt8 := [26, 27, 163, 0, 7, 26, 167, 0, 4, 27, 172]
abbrev dktJ9_min_0 : List UInt8 := dkwJ9_min_0 ++ []
theorem dksJ9_min_0 : cJ9_min.data.toList.drop 0 = dktJ9_min_0 := by decide +kernel
theorem dJ9_min_0 : decode cJ9_min 0 = .ok (.iload_n 0, 1) := dk_26 (dk_at dksJ9_min_0 0 rfl rfl)
theorem dJ9_min_1 : decode cJ9_min 1 = .ok (.iload_n 1, 1) := dk_27 (dk_at dksJ9_min_0 1 rfl rfl)
theorem dJ9_min_2 : decode cJ9_min 2 = .ok (.if_icmp .gt 7, 3) := dk_163 0 7 (dk_at dksJ9_min_0 2 rfl rfl)
theorem dJ9_min_5 : decode cJ9_min 5 = .ok (.iload_n 0, 1) := dk_26 (dk_at dksJ9_min_0 5 rfl rfl)
theorem dJ9_min_6 : decode cJ9_min 6 = .ok (.goto 4, 3) := dk_167 0 4 (dk_at dksJ9_min_0 6 rfl rfl)
theorem dJ9_min_9 : decode cJ9_min 9 = .ok (.iload_n 1, 1) := dk_27 (dk_at dksJ9_min_0 9 rfl rfl)
theorem dJ9_min_10 : decode cJ9_min 10 = .ok (.ireturn, 1) := dk_172 (dk_at dksJ9_min_0 10 rfl rfl)
abbrev cJ9_abs : ByteArray := prog_47_method_59_code
def yJ9_abs : MethodName := ⟨RJ9, "abs", "(I)I"⟩
def dkwJ9_abs_0 : List UInt8 := [26, 156, 0, 8, 26, 116, 167, 0, 4, 26, 172]
abbrev dktJ9_abs_0 : List UInt8 := dkwJ9_abs_0 ++ []
theorem dksJ9_abs_0 : cJ9_abs.data.toList.drop 0 = dktJ9_abs_0 := by decide +kernel
theorem dJ9_abs_0 : decode cJ9_abs 0 = .ok (.iload_n 0, 1) := dk_26 (dk_at dksJ9_abs_0 0 rfl rfl)
theorem dJ9_abs_1 : decode cJ9_abs 1 = .ok (.ifCond .ge 8, 3) := dk_156 0 8 (dk_at dksJ9_abs_0 1 rfl rfl)
theorem dJ9_abs_4 : decode cJ9_abs 4 = .ok (.iload_n 0, 1) := dk_26 (dk_at dksJ9_abs_0 4 rfl rfl)
theorem dJ9_abs_5 : decode cJ9_abs 5 = .ok (.ineg, 1) := dk_116 (dk_at dksJ9_abs_0 5 rfl rfl)
theorem dJ9_abs_6 : decode cJ9_abs 6 = .ok (.goto 4, 3) := dk_167 0 4 (dk_at dksJ9_abs_0 6 rfl rfl)
theorem dJ9_abs_9 : decode cJ9_abs 9 = .ok (.iload_n 0, 1) := dk_26 (dk_at dksJ9_abs_0 9 rfl rfl)
theorem dJ9_abs_10 : decode cJ9_abs 10 = .ok (.ireturn, 1) := dk_172 (dk_at dksJ9_abs_0 10 rfl rfl)
theorem q102 : (Jvm.Cond.initialized "java/lang/Math") ∈ lw_all := lw_g (lw_at lw_m1 19 rfl) rfl
theorem q532 : (Jvm.Cond.static ({ cls := "java/lang/Math", name := "max", desc := "(II)I" } : Jvm.MethodName)) ∈ lw_all := lw_g (lw_at lw_m2 209 rfl) rfl
theorem q533 : (Jvm.Cond.code ({ cls := "java/lang/Math", name := "max", desc := "(II)I" } : Jvm.MethodName) prog_47_method_65_code (2 : Nat) (Option.some Jvm.ClassFile.FieldType.int)) ∈ lw_all := lw_g (lw_at lw_m2 210 rfl) rfl
theorem q602 : (Jvm.Cond.static ({ cls := "java/lang/Math", name := "min", desc := "(II)I" } : Jvm.MethodName)) ∈ lw_all := lw_g (lw_at lw_m3 39 rfl) rfl
theorem q603 : (Jvm.Cond.code ({ cls := "java/lang/Math", name := "min", desc := "(II)I" } : Jvm.MethodName) prog_47_method_69_code (2 : Nat) (Option.some Jvm.ClassFile.FieldType.int)) ∈ lw_all := lw_g (lw_at lw_m3 40 rfl) rfl
theorem q1801 : (Jvm.Cond.static ({ cls := "java/lang/Math", name := "abs", desc := "(I)I" } : Jvm.MethodName)) ∈ lw_all := lw_g (lw_at lw_m8 38 rfl) rfl
theorem q1802 : (Jvm.Cond.code ({ cls := "java/lang/Math", name := "abs", desc := "(I)I" } : Jvm.MethodName) prog_47_method_59_code (1 : Nat) (Option.some Jvm.ClassFile.FieldType.int)) ∈ lw_all := lw_g (lw_at lw_m8 39 rfl) rfl

/-! java/util/Arrays -/
set_option maxRecDepth 100000
def RJ10 : String := "java/util/Arrays"
abbrev cJ10_copyOf : ByteArray := prog_68_method_119_code
def yJ10_copyOf : MethodName := ⟨RJ10, "copyOf", "([Ljava/lang/Object;I)[Ljava/lang/Object;"⟩
def dkwJ10_copyOf_0 : List UInt8 := [42, 27, 42, 182, 0, 86, 184, 1, 44, 176]
abbrev dktJ10_copyOf_0 : List UInt8 := dkwJ10_copyOf_0 ++ []
theorem dksJ10_copyOf_0 : cJ10_copyOf.data.toList.drop 0 = dktJ10_copyOf_0 := by decide +kernel
theorem dJ10_copyOf_0 : decode cJ10_copyOf 0 = .ok (.aload_n 0, 1) := dk_42 (dk_at dksJ10_copyOf_0 0 rfl rfl)
theorem dJ10_copyOf_1 : decode cJ10_copyOf 1 = .ok (.iload_n 1, 1) := dk_27 (dk_at dksJ10_copyOf_0 1 rfl rfl)
theorem dJ10_copyOf_2 : decode cJ10_copyOf 2 = .ok (.aload_n 0, 1) := dk_42 (dk_at dksJ10_copyOf_0 2 rfl rfl)
theorem dJ10_copyOf_3 : decode cJ10_copyOf 3 = .ok (.invokevirtual 86, 3) := dk_182 0 86 (dk_at dksJ10_copyOf_0 3 rfl rfl)
theorem dJ10_copyOf_6 : decode cJ10_copyOf 6 = .ok (.invokestatic 300, 3) := dk_184 1 44 (dk_at dksJ10_copyOf_0 6 rfl rfl)
theorem dJ10_copyOf_9 : decode cJ10_copyOf 9 = .ok (.areturn, 1) := dk_176 (dk_at dksJ10_copyOf_0 9 rfl rfl)
abbrev cJ10_copyOf_2 : ByteArray := prog_68_method_120_code
def yJ10_copyOf_2 : MethodName := ⟨RJ10, "copyOf", "([Ljava/lang/Object;ILjava/lang/Class;)[Ljava/lang/Object;"⟩
def dkwJ10_copyOf_2_1 : List UInt8 := [78, 42, 3, 45, 3, 42, 190, 27, 184, 1, 48, 184, 0, 150, 45, 176]
abbrev dktJ10_copyOf_2_1 : List UInt8 := dkwJ10_copyOf_2_1 ++ []
def dkwJ10_copyOf_2_0 : List UInt8 := [44, 18, 110, 166, 0, 10, 27, 189, 0, 2, 167, 0, 14, 44, 182, 0, 90, 27, 184, 0, 95, 192, 0, 110]
abbrev dktJ10_copyOf_2_0 : List UInt8 := dkwJ10_copyOf_2_0 ++ dktJ10_copyOf_2_1
theorem dksJ10_copyOf_2_0 : cJ10_copyOf_2.data.toList.drop 0 = dktJ10_copyOf_2_0 := by decide +kernel
theorem dksJ10_copyOf_2_1 : cJ10_copyOf_2.data.toList.drop 24 = dktJ10_copyOf_2_1 := dk_seg dksJ10_copyOf_2_0 24 rfl rfl
theorem dJ10_copyOf_2_0 : decode cJ10_copyOf_2 0 = .ok (.aload_n 2, 1) := dk_44 (dk_at dksJ10_copyOf_2_0 0 rfl rfl)
theorem dJ10_copyOf_2_1 : decode cJ10_copyOf_2 1 = .ok (.ldc 110, 2) := dk_18 110 (dk_at dksJ10_copyOf_2_0 1 rfl rfl)
theorem dJ10_copyOf_2_3 : decode cJ10_copyOf_2 3 = .ok (.if_acmp .ne 10, 3) := dk_166 0 10 (dk_at dksJ10_copyOf_2_0 3 rfl rfl)
theorem dJ10_copyOf_2_6 : decode cJ10_copyOf_2 6 = .ok (.iload_n 1, 1) := dk_27 (dk_at dksJ10_copyOf_2_0 6 rfl rfl)
theorem dJ10_copyOf_2_7 : decode cJ10_copyOf_2 7 = .ok (.anewarray 2, 3) := dk_189 0 2 (dk_at dksJ10_copyOf_2_0 7 rfl rfl)
theorem dJ10_copyOf_2_10 : decode cJ10_copyOf_2 10 = .ok (.goto 14, 3) := dk_167 0 14 (dk_at dksJ10_copyOf_2_0 10 rfl rfl)
theorem dJ10_copyOf_2_13 : decode cJ10_copyOf_2 13 = .ok (.aload_n 2, 1) := dk_44 (dk_at dksJ10_copyOf_2_0 13 rfl rfl)
theorem dJ10_copyOf_2_14 : decode cJ10_copyOf_2 14 = .ok (.invokevirtual 90, 3) := dk_182 0 90 (dk_at dksJ10_copyOf_2_0 14 rfl rfl)
theorem dJ10_copyOf_2_17 : decode cJ10_copyOf_2 17 = .ok (.iload_n 1, 1) := dk_27 (dk_at dksJ10_copyOf_2_0 17 rfl rfl)
theorem dJ10_copyOf_2_18 : decode cJ10_copyOf_2 18 = .ok (.invokestatic 95, 3) := dk_184 0 95 (dk_at dksJ10_copyOf_2_0 18 rfl rfl)
theorem dJ10_copyOf_2_21 : decode cJ10_copyOf_2 21 = .ok (.checkcast 110, 3) := dk_192 0 110 (dk_at dksJ10_copyOf_2_0 21 rfl rfl)
theorem dJ10_copyOf_2_24 : decode cJ10_copyOf_2 24 = .ok (.astore_n 3, 1) := dk_78 (dk_at dksJ10_copyOf_2_1 0 rfl rfl)
theorem dJ10_copyOf_2_25 : decode cJ10_copyOf_2 25 = .ok (.aload_n 0, 1) := dk_42 (dk_at dksJ10_copyOf_2_1 1 rfl rfl)
theorem dJ10_copyOf_2_26 : decode cJ10_copyOf_2 26 = .ok (.iconst 0, 1) := dk_3 (dk_at dksJ10_copyOf_2_1 2 rfl rfl)
theorem dJ10_copyOf_2_27 : decode cJ10_copyOf_2 27 = .ok (.aload_n 3, 1) := dk_45 (dk_at dksJ10_copyOf_2_1 3 rfl rfl)
theorem dJ10_copyOf_2_28 : decode cJ10_copyOf_2 28 = .ok (.iconst 0, 1) := dk_3 (dk_at dksJ10_copyOf_2_1 4 rfl rfl)
theorem dJ10_copyOf_2_29 : decode cJ10_copyOf_2 29 = .ok (.aload_n 0, 1) := dk_42 (dk_at dksJ10_copyOf_2_1 5 rfl rfl)
theorem dJ10_copyOf_2_30 : decode cJ10_copyOf_2 30 = .ok (.arraylength, 1) := dk_190 (dk_at dksJ10_copyOf_2_1 6 rfl rfl)
theorem dJ10_copyOf_2_31 : decode cJ10_copyOf_2 31 = .ok (.iload_n 1, 1) := dk_27 (dk_at dksJ10_copyOf_2_1 7 rfl rfl)
theorem dJ10_copyOf_2_32 : decode cJ10_copyOf_2 32 = .ok (.invokestatic 304, 3) := dk_184 1 48 (dk_at dksJ10_copyOf_2_1 8 rfl rfl)
theorem dJ10_copyOf_2_35 : decode cJ10_copyOf_2 35 = .ok (.invokestatic 150, 3) := dk_184 0 150 (dk_at dksJ10_copyOf_2_1 11 rfl rfl)
theorem dJ10_copyOf_2_38 : decode cJ10_copyOf_2 38 = .ok (.aload_n 3, 1) := dk_45 (dk_at dksJ10_copyOf_2_1 14 rfl rfl)
theorem dJ10_copyOf_2_39 : decode cJ10_copyOf_2 39 = .ok (.areturn, 1) := dk_176 (dk_at dksJ10_copyOf_2_1 15 rfl rfl)
abbrev cJ10_copyOf_3 : ByteArray := prog_68_method_121_code
def yJ10_copyOf_3 : MethodName := ⟨RJ10, "copyOf", "([BI)[B"⟩
def dkwJ10_copyOf_3_1 : List UInt8 := [27, 184, 1, 48, 184, 0, 150, 44, 176]
abbrev dktJ10_copyOf_3_1 : List UInt8 := dkwJ10_copyOf_3_1 ++ []
def dkwJ10_copyOf_3_0 : List UInt8 := [27, 42, 190, 160, 0, 11, 42, 182, 1, 54, 192, 1, 55, 176, 27, 188, 8, 77, 42, 3, 44, 3, 42, 190]
abbrev dktJ10_copyOf_3_0 : List UInt8 := dkwJ10_copyOf_3_0 ++ dktJ10_copyOf_3_1
theorem dksJ10_copyOf_3_0 : cJ10_copyOf_3.data.toList.drop 0 = dktJ10_copyOf_3_0 := by decide +kernel
theorem dksJ10_copyOf_3_1 : cJ10_copyOf_3.data.toList.drop 24 = dktJ10_copyOf_3_1 := dk_seg dksJ10_copyOf_3_0 24 rfl rfl
theorem dJ10_copyOf_3_0 : decode cJ10_copyOf_3 0 = .ok (.iload_n 1, 1) := dk_27 (dk_at dksJ10_copyOf_3_0 0 rfl rfl)
theorem dJ10_copyOf_3_1 : decode cJ10_copyOf_3 1 = .ok (.aload_n 0, 1) := dk_42 (dk_at dksJ10_copyOf_3_0 1 rfl rfl)
theorem dJ10_copyOf_3_2 : decode cJ10_copyOf_3 2 = .ok (.arraylength, 1) := dk_190 (dk_at dksJ10_copyOf_3_0 2 rfl rfl)
theorem dJ10_copyOf_3_3 : decode cJ10_copyOf_3 3 = .ok (.if_icmp .ne 11, 3) := dk_160 0 11 (dk_at dksJ10_copyOf_3_0 3 rfl rfl)
theorem dJ10_copyOf_3_6 : decode cJ10_copyOf_3 6 = .ok (.aload_n 0, 1) := dk_42 (dk_at dksJ10_copyOf_3_0 6 rfl rfl)
theorem dJ10_copyOf_3_7 : decode cJ10_copyOf_3 7 = .ok (.invokevirtual 310, 3) := dk_182 1 54 (dk_at dksJ10_copyOf_3_0 7 rfl rfl)
theorem dJ10_copyOf_3_10 : decode cJ10_copyOf_3 10 = .ok (.checkcast 311, 3) := dk_192 1 55 (dk_at dksJ10_copyOf_3_0 10 rfl rfl)
theorem dJ10_copyOf_3_13 : decode cJ10_copyOf_3 13 = .ok (.areturn, 1) := dk_176 (dk_at dksJ10_copyOf_3_0 13 rfl rfl)
theorem dJ10_copyOf_3_14 : decode cJ10_copyOf_3 14 = .ok (.iload_n 1, 1) := dk_27 (dk_at dksJ10_copyOf_3_0 14 rfl rfl)
theorem dJ10_copyOf_3_15 : decode cJ10_copyOf_3 15 = .ok (.newarray .byte, 2) := dk_188_8 (dk_at dksJ10_copyOf_3_0 15 rfl rfl)
theorem dJ10_copyOf_3_17 : decode cJ10_copyOf_3 17 = .ok (.astore_n 2, 1) := dk_77 (dk_at dksJ10_copyOf_3_0 17 rfl rfl)
theorem dJ10_copyOf_3_18 : decode cJ10_copyOf_3 18 = .ok (.aload_n 0, 1) := dk_42 (dk_at dksJ10_copyOf_3_0 18 rfl rfl)
theorem dJ10_copyOf_3_19 : decode cJ10_copyOf_3 19 = .ok (.iconst 0, 1) := dk_3 (dk_at dksJ10_copyOf_3_0 19 rfl rfl)
theorem dJ10_copyOf_3_20 : decode cJ10_copyOf_3 20 = .ok (.aload_n 2, 1) := dk_44 (dk_at dksJ10_copyOf_3_0 20 rfl rfl)
theorem dJ10_copyOf_3_21 : decode cJ10_copyOf_3 21 = .ok (.iconst 0, 1) := dk_3 (dk_at dksJ10_copyOf_3_0 21 rfl rfl)
theorem dJ10_copyOf_3_22 : decode cJ10_copyOf_3 22 = .ok (.aload_n 0, 1) := dk_42 (dk_at dksJ10_copyOf_3_0 22 rfl rfl)
theorem dJ10_copyOf_3_23 : decode cJ10_copyOf_3 23 = .ok (.arraylength, 1) := dk_190 (dk_at dksJ10_copyOf_3_0 23 rfl rfl)
theorem dJ10_copyOf_3_24 : decode cJ10_copyOf_3 24 = .ok (.iload_n 1, 1) := dk_27 (dk_at dksJ10_copyOf_3_1 0 rfl rfl)
theorem dJ10_copyOf_3_25 : decode cJ10_copyOf_3 25 = .ok (.invokestatic 304, 3) := dk_184 1 48 (dk_at dksJ10_copyOf_3_1 1 rfl rfl)
theorem dJ10_copyOf_3_28 : decode cJ10_copyOf_3 28 = .ok (.invokestatic 150, 3) := dk_184 0 150 (dk_at dksJ10_copyOf_3_1 4 rfl rfl)
theorem dJ10_copyOf_3_31 : decode cJ10_copyOf_3 31 = .ok (.aload_n 2, 1) := dk_44 (dk_at dksJ10_copyOf_3_1 7 rfl rfl)
theorem dJ10_copyOf_3_32 : decode cJ10_copyOf_3 32 = .ok (.areturn, 1) := dk_176 (dk_at dksJ10_copyOf_3_1 8 rfl rfl)
abbrev cJ10_copyOfRange : ByteArray := prog_68_method_132_code
def yJ10_copyOfRange : MethodName := ⟨RJ10, "copyOfRange", "([BII)[B"⟩
def dkwJ10_copyOfRange_1 : List UInt8 := [176]
abbrev dktJ10_copyOfRange_1 : List UInt8 := dkwJ10_copyOfRange_1 ++ []
def dkwJ10_copyOfRange_0 : List UInt8 := [27, 154, 0, 9, 28, 42, 190, 159, 0, 10, 42, 27, 28, 184, 1, 83, 176, 42, 182, 1, 54, 192, 1, 55]
abbrev dktJ10_copyOfRange_0 : List UInt8 := dkwJ10_copyOfRange_0 ++ dktJ10_copyOfRange_1
theorem dksJ10_copyOfRange_0 : cJ10_copyOfRange.data.toList.drop 0 = dktJ10_copyOfRange_0 := by decide +kernel
theorem dksJ10_copyOfRange_1 : cJ10_copyOfRange.data.toList.drop 24 = dktJ10_copyOfRange_1 := dk_seg dksJ10_copyOfRange_0 24 rfl rfl
theorem dJ10_copyOfRange_0 : decode cJ10_copyOfRange 0 = .ok (.iload_n 1, 1) := dk_27 (dk_at dksJ10_copyOfRange_0 0 rfl rfl)
theorem dJ10_copyOfRange_1 : decode cJ10_copyOfRange 1 = .ok (.ifCond .ne 9, 3) := dk_154 0 9 (dk_at dksJ10_copyOfRange_0 1 rfl rfl)
theorem dJ10_copyOfRange_4 : decode cJ10_copyOfRange 4 = .ok (.iload_n 2, 1) := dk_28 (dk_at dksJ10_copyOfRange_0 4 rfl rfl)
theorem dJ10_copyOfRange_5 : decode cJ10_copyOfRange 5 = .ok (.aload_n 0, 1) := dk_42 (dk_at dksJ10_copyOfRange_0 5 rfl rfl)
theorem dJ10_copyOfRange_6 : decode cJ10_copyOfRange 6 = .ok (.arraylength, 1) := dk_190 (dk_at dksJ10_copyOfRange_0 6 rfl rfl)
theorem dJ10_copyOfRange_7 : decode cJ10_copyOfRange 7 = .ok (.if_icmp .eq 10, 3) := dk_159 0 10 (dk_at dksJ10_copyOfRange_0 7 rfl rfl)
theorem dJ10_copyOfRange_10 : decode cJ10_copyOfRange 10 = .ok (.aload_n 0, 1) := dk_42 (dk_at dksJ10_copyOfRange_0 10 rfl rfl)
theorem dJ10_copyOfRange_11 : decode cJ10_copyOfRange 11 = .ok (.iload_n 1, 1) := dk_27 (dk_at dksJ10_copyOfRange_0 11 rfl rfl)
theorem dJ10_copyOfRange_12 : decode cJ10_copyOfRange 12 = .ok (.iload_n 2, 1) := dk_28 (dk_at dksJ10_copyOfRange_0 12 rfl rfl)
theorem dJ10_copyOfRange_13 : decode cJ10_copyOfRange 13 = .ok (.invokestatic 339, 3) := dk_184 1 83 (dk_at dksJ10_copyOfRange_0 13 rfl rfl)
theorem dJ10_copyOfRange_16 : decode cJ10_copyOfRange 16 = .ok (.areturn, 1) := dk_176 (dk_at dksJ10_copyOfRange_0 16 rfl rfl)
theorem dJ10_copyOfRange_17 : decode cJ10_copyOfRange 17 = .ok (.aload_n 0, 1) := dk_42 (dk_at dksJ10_copyOfRange_0 17 rfl rfl)
theorem dJ10_copyOfRange_18 : decode cJ10_copyOfRange 18 = .ok (.invokevirtual 310, 3) := dk_182 1 54 (dk_at dksJ10_copyOfRange_0 18 rfl rfl)
theorem dJ10_copyOfRange_21 : decode cJ10_copyOfRange 21 = .ok (.checkcast 311, 3) := dk_192 1 55 (dk_at dksJ10_copyOfRange_0 21 rfl rfl)
theorem dJ10_copyOfRange_24 : decode cJ10_copyOfRange 24 = .ok (.areturn, 1) := dk_176 (dk_at dksJ10_copyOfRange_1 0 rfl rfl)
abbrev cJ10_copyOfRangeByte : ByteArray := prog_68_method_133_code
def yJ10_copyOfRangeByte : MethodName := ⟨RJ10, "copyOfRangeByte", "([BII)[B"⟩
def dkwJ10_copyOfRangeByte_1 : List UInt8 := [184, 1, 48, 184, 0, 150, 25, 4, 176]
abbrev dktJ10_copyOfRangeByte_1 : List UInt8 := dkwJ10_copyOfRangeByte_1 ++ []
def dkwJ10_copyOfRangeByte_0 : List UInt8 := [27, 28, 184, 1, 87, 28, 27, 100, 62, 29, 188, 8, 58, 4, 42, 27, 25, 4, 3, 42, 190, 27, 100, 29]
abbrev dktJ10_copyOfRangeByte_0 : List UInt8 := dkwJ10_copyOfRangeByte_0 ++ dktJ10_copyOfRangeByte_1
theorem dksJ10_copyOfRangeByte_0 : cJ10_copyOfRangeByte.data.toList.drop 0 = dktJ10_copyOfRangeByte_0 := by decide +kernel
theorem dksJ10_copyOfRangeByte_1 : cJ10_copyOfRangeByte.data.toList.drop 24 = dktJ10_copyOfRangeByte_1 := dk_seg dksJ10_copyOfRangeByte_0 24 rfl rfl
theorem dJ10_copyOfRangeByte_0 : decode cJ10_copyOfRangeByte 0 = .ok (.iload_n 1, 1) := dk_27 (dk_at dksJ10_copyOfRangeByte_0 0 rfl rfl)
theorem dJ10_copyOfRangeByte_1 : decode cJ10_copyOfRangeByte 1 = .ok (.iload_n 2, 1) := dk_28 (dk_at dksJ10_copyOfRangeByte_0 1 rfl rfl)
theorem dJ10_copyOfRangeByte_2 : decode cJ10_copyOfRangeByte 2 = .ok (.invokestatic 343, 3) := dk_184 1 87 (dk_at dksJ10_copyOfRangeByte_0 2 rfl rfl)
theorem dJ10_copyOfRangeByte_5 : decode cJ10_copyOfRangeByte 5 = .ok (.iload_n 2, 1) := dk_28 (dk_at dksJ10_copyOfRangeByte_0 5 rfl rfl)
theorem dJ10_copyOfRangeByte_6 : decode cJ10_copyOfRangeByte 6 = .ok (.iload_n 1, 1) := dk_27 (dk_at dksJ10_copyOfRangeByte_0 6 rfl rfl)
theorem dJ10_copyOfRangeByte_7 : decode cJ10_copyOfRangeByte 7 = .ok (.isub, 1) := dk_100 (dk_at dksJ10_copyOfRangeByte_0 7 rfl rfl)
theorem dJ10_copyOfRangeByte_8 : decode cJ10_copyOfRangeByte 8 = .ok (.istore_n 3, 1) := dk_62 (dk_at dksJ10_copyOfRangeByte_0 8 rfl rfl)
theorem dJ10_copyOfRangeByte_9 : decode cJ10_copyOfRangeByte 9 = .ok (.iload_n 3, 1) := dk_29 (dk_at dksJ10_copyOfRangeByte_0 9 rfl rfl)
theorem dJ10_copyOfRangeByte_10 : decode cJ10_copyOfRangeByte 10 = .ok (.newarray .byte, 2) := dk_188_8 (dk_at dksJ10_copyOfRangeByte_0 10 rfl rfl)
theorem dJ10_copyOfRangeByte_12 : decode cJ10_copyOfRangeByte 12 = .ok (.astore 4, 2) := dk_58 4 (dk_at dksJ10_copyOfRangeByte_0 12 rfl rfl)
theorem dJ10_copyOfRangeByte_14 : decode cJ10_copyOfRangeByte 14 = .ok (.aload_n 0, 1) := dk_42 (dk_at dksJ10_copyOfRangeByte_0 14 rfl rfl)
theorem dJ10_copyOfRangeByte_15 : decode cJ10_copyOfRangeByte 15 = .ok (.iload_n 1, 1) := dk_27 (dk_at dksJ10_copyOfRangeByte_0 15 rfl rfl)
theorem dJ10_copyOfRangeByte_16 : decode cJ10_copyOfRangeByte 16 = .ok (.aload 4, 2) := dk_25 4 (dk_at dksJ10_copyOfRangeByte_0 16 rfl rfl)
theorem dJ10_copyOfRangeByte_18 : decode cJ10_copyOfRangeByte 18 = .ok (.iconst 0, 1) := dk_3 (dk_at dksJ10_copyOfRangeByte_0 18 rfl rfl)
theorem dJ10_copyOfRangeByte_19 : decode cJ10_copyOfRangeByte 19 = .ok (.aload_n 0, 1) := dk_42 (dk_at dksJ10_copyOfRangeByte_0 19 rfl rfl)
theorem dJ10_copyOfRangeByte_20 : decode cJ10_copyOfRangeByte 20 = .ok (.arraylength, 1) := dk_190 (dk_at dksJ10_copyOfRangeByte_0 20 rfl rfl)
theorem dJ10_copyOfRangeByte_21 : decode cJ10_copyOfRangeByte 21 = .ok (.iload_n 1, 1) := dk_27 (dk_at dksJ10_copyOfRangeByte_0 21 rfl rfl)
theorem dJ10_copyOfRangeByte_22 : decode cJ10_copyOfRangeByte 22 = .ok (.isub, 1) := dk_100 (dk_at dksJ10_copyOfRangeByte_0 22 rfl rfl)
theorem dJ10_copyOfRangeByte_23 : decode cJ10_copyOfRangeByte 23 = .ok (.iload_n 3, 1) := dk_29 (dk_at dksJ10_copyOfRangeByte_0 23 rfl rfl)
theorem dJ10_copyOfRangeByte_24 : decode cJ10_copyOfRangeByte 24 = .ok (.invokestatic 304, 3) := dk_184 1 48 (dk_at dksJ10_copyOfRangeByte_1 0 rfl rfl)
theorem dJ10_copyOfRangeByte_27 : decode cJ10_copyOfRangeByte 27 = .ok (.invokestatic 150, 3) := dk_184 0 150 (dk_at dksJ10_copyOfRangeByte_1 3 rfl rfl)
theorem dJ10_copyOfRangeByte_30 : decode cJ10_copyOfRangeByte 30 = .ok (.aload 4, 2) := dk_25 4 (dk_at dksJ10_copyOfRangeByte_1 6 rfl rfl)
theorem dJ10_copyOfRangeByte_32 : decode cJ10_copyOfRangeByte 32 = .ok (.areturn, 1) := dk_176 (dk_at dksJ10_copyOfRangeByte_1 8 rfl rfl)
abbrev cJ10_checkLength : ByteArray := prog_68_method_131_code
def yJ10_checkLength : MethodName := ⟨RJ10, "checkLength", "(II)V"⟩
def dkwJ10_checkLength_1 : List UInt8 := [182, 0, 50, 27, 182, 0, 54, 182, 0, 61, 183, 0, 65, 191, 177]
abbrev dktJ10_checkLength_1 : List UInt8 := dkwJ10_checkLength_1 ++ []
def dkwJ10_checkLength_0 : List UInt8 := [27, 26, 162, 0, 35, 187, 0, 43, 89, 187, 0, 45, 89, 183, 0, 47, 26, 182, 0, 54, 19, 1, 81]
abbrev dktJ10_checkLength_0 : List UInt8 := dkwJ10_checkLength_0 ++ dktJ10_checkLength_1
theorem dksJ10_checkLength_0 : cJ10_checkLength.data.toList.drop 0 = dktJ10_checkLength_0 := by decide +kernel
theorem dksJ10_checkLength_1 : cJ10_checkLength.data.toList.drop 23 = dktJ10_checkLength_1 := dk_seg dksJ10_checkLength_0 23 rfl rfl
theorem dJ10_checkLength_0 : decode cJ10_checkLength 0 = .ok (.iload_n 1, 1) := dk_27 (dk_at dksJ10_checkLength_0 0 rfl rfl)
theorem dJ10_checkLength_1 : decode cJ10_checkLength 1 = .ok (.iload_n 0, 1) := dk_26 (dk_at dksJ10_checkLength_0 1 rfl rfl)
theorem dJ10_checkLength_2 : decode cJ10_checkLength 2 = .ok (.if_icmp .ge 35, 3) := dk_162 0 35 (dk_at dksJ10_checkLength_0 2 rfl rfl)
theorem dJ10_checkLength_5 : decode cJ10_checkLength 5 = .ok (.new 43, 3) := dk_187 0 43 (dk_at dksJ10_checkLength_0 5 rfl rfl)
theorem dJ10_checkLength_8 : decode cJ10_checkLength 8 = .ok (.dup, 1) := dk_89 (dk_at dksJ10_checkLength_0 8 rfl rfl)
theorem dJ10_checkLength_9 : decode cJ10_checkLength 9 = .ok (.new 45, 3) := dk_187 0 45 (dk_at dksJ10_checkLength_0 9 rfl rfl)
theorem dJ10_checkLength_12 : decode cJ10_checkLength 12 = .ok (.dup, 1) := dk_89 (dk_at dksJ10_checkLength_0 12 rfl rfl)
theorem dJ10_checkLength_13 : decode cJ10_checkLength 13 = .ok (.invokespecial 47, 3) := dk_183 0 47 (dk_at dksJ10_checkLength_0 13 rfl rfl)
theorem dJ10_checkLength_16 : decode cJ10_checkLength 16 = .ok (.iload_n 0, 1) := dk_26 (dk_at dksJ10_checkLength_0 16 rfl rfl)
theorem dJ10_checkLength_17 : decode cJ10_checkLength 17 = .ok (.invokevirtual 54, 3) := dk_182 0 54 (dk_at dksJ10_checkLength_0 17 rfl rfl)
theorem dJ10_checkLength_20 : decode cJ10_checkLength 20 = .ok (.ldc_w 337, 3) := dk_19 1 81 (dk_at dksJ10_checkLength_0 20 rfl rfl)
theorem dJ10_checkLength_23 : decode cJ10_checkLength 23 = .ok (.invokevirtual 50, 3) := dk_182 0 50 (dk_at dksJ10_checkLength_1 0 rfl rfl)
theorem dJ10_checkLength_26 : decode cJ10_checkLength 26 = .ok (.iload_n 1, 1) := dk_27 (dk_at dksJ10_checkLength_1 3 rfl rfl)
theorem dJ10_checkLength_27 : decode cJ10_checkLength 27 = .ok (.invokevirtual 54, 3) := dk_182 0 54 (dk_at dksJ10_checkLength_1 4 rfl rfl)
theorem dJ10_checkLength_30 : decode cJ10_checkLength 30 = .ok (.invokevirtual 61, 3) := dk_182 0 61 (dk_at dksJ10_checkLength_1 7 rfl rfl)
theorem dJ10_checkLength_33 : decode cJ10_checkLength 33 = .ok (.invokespecial 65, 3) := dk_183 0 65 (dk_at dksJ10_checkLength_1 10 rfl rfl)
theorem dJ10_checkLength_36 : decode cJ10_checkLength 36 = .ok (.athrow, 1) := dk_191 (dk_at dksJ10_checkLength_1 13 rfl rfl)
theorem dJ10_checkLength_37 : decode cJ10_checkLength 37 = .ok (.return_, 1) := dk_177 (dk_at dksJ10_checkLength_1 14 rfl rfl)
abbrev cJ10_copyOf_4 : ByteArray := prog_68_method_124_code
def yJ10_copyOf_4 : MethodName := ⟨RJ10, "copyOf", "([JI)[J"⟩
def dkwJ10_copyOf_4_1 : List UInt8 := [27, 184, 1, 48, 184, 0, 150, 44, 176]
abbrev dktJ10_copyOf_4_1 : List UInt8 := dkwJ10_copyOf_4_1 ++ []
def dkwJ10_copyOf_4_0 : List UInt8 := [27, 42, 190, 160, 0, 11, 42, 182, 1, 63, 192, 1, 64, 176, 27, 188, 11, 77, 42, 3, 44, 3, 42, 190]
abbrev dktJ10_copyOf_4_0 : List UInt8 := dkwJ10_copyOf_4_0 ++ dktJ10_copyOf_4_1
theorem dksJ10_copyOf_4_0 : cJ10_copyOf_4.data.toList.drop 0 = dktJ10_copyOf_4_0 := by decide +kernel
theorem dksJ10_copyOf_4_1 : cJ10_copyOf_4.data.toList.drop 24 = dktJ10_copyOf_4_1 := dk_seg dksJ10_copyOf_4_0 24 rfl rfl
theorem dJ10_copyOf_4_0 : decode cJ10_copyOf_4 0 = .ok (.iload_n 1, 1) := dk_27 (dk_at dksJ10_copyOf_4_0 0 rfl rfl)
theorem dJ10_copyOf_4_1 : decode cJ10_copyOf_4 1 = .ok (.aload_n 0, 1) := dk_42 (dk_at dksJ10_copyOf_4_0 1 rfl rfl)
theorem dJ10_copyOf_4_2 : decode cJ10_copyOf_4 2 = .ok (.arraylength, 1) := dk_190 (dk_at dksJ10_copyOf_4_0 2 rfl rfl)
theorem dJ10_copyOf_4_3 : decode cJ10_copyOf_4 3 = .ok (.if_icmp .ne 11, 3) := dk_160 0 11 (dk_at dksJ10_copyOf_4_0 3 rfl rfl)
theorem dJ10_copyOf_4_6 : decode cJ10_copyOf_4 6 = .ok (.aload_n 0, 1) := dk_42 (dk_at dksJ10_copyOf_4_0 6 rfl rfl)
theorem dJ10_copyOf_4_7 : decode cJ10_copyOf_4 7 = .ok (.invokevirtual 319, 3) := dk_182 1 63 (dk_at dksJ10_copyOf_4_0 7 rfl rfl)
theorem dJ10_copyOf_4_10 : decode cJ10_copyOf_4 10 = .ok (.checkcast 320, 3) := dk_192 1 64 (dk_at dksJ10_copyOf_4_0 10 rfl rfl)
theorem dJ10_copyOf_4_13 : decode cJ10_copyOf_4 13 = .ok (.areturn, 1) := dk_176 (dk_at dksJ10_copyOf_4_0 13 rfl rfl)
theorem dJ10_copyOf_4_14 : decode cJ10_copyOf_4 14 = .ok (.iload_n 1, 1) := dk_27 (dk_at dksJ10_copyOf_4_0 14 rfl rfl)
theorem dJ10_copyOf_4_15 : decode cJ10_copyOf_4 15 = .ok (.newarray .long, 2) := dk_188_11 (dk_at dksJ10_copyOf_4_0 15 rfl rfl)
theorem dJ10_copyOf_4_17 : decode cJ10_copyOf_4 17 = .ok (.astore_n 2, 1) := dk_77 (dk_at dksJ10_copyOf_4_0 17 rfl rfl)
theorem dJ10_copyOf_4_18 : decode cJ10_copyOf_4 18 = .ok (.aload_n 0, 1) := dk_42 (dk_at dksJ10_copyOf_4_0 18 rfl rfl)
theorem dJ10_copyOf_4_19 : decode cJ10_copyOf_4 19 = .ok (.iconst 0, 1) := dk_3 (dk_at dksJ10_copyOf_4_0 19 rfl rfl)
theorem dJ10_copyOf_4_20 : decode cJ10_copyOf_4 20 = .ok (.aload_n 2, 1) := dk_44 (dk_at dksJ10_copyOf_4_0 20 rfl rfl)
theorem dJ10_copyOf_4_21 : decode cJ10_copyOf_4 21 = .ok (.iconst 0, 1) := dk_3 (dk_at dksJ10_copyOf_4_0 21 rfl rfl)
theorem dJ10_copyOf_4_22 : decode cJ10_copyOf_4 22 = .ok (.aload_n 0, 1) := dk_42 (dk_at dksJ10_copyOf_4_0 22 rfl rfl)
theorem dJ10_copyOf_4_23 : decode cJ10_copyOf_4 23 = .ok (.arraylength, 1) := dk_190 (dk_at dksJ10_copyOf_4_0 23 rfl rfl)
theorem dJ10_copyOf_4_24 : decode cJ10_copyOf_4 24 = .ok (.iload_n 1, 1) := dk_27 (dk_at dksJ10_copyOf_4_1 0 rfl rfl)
theorem dJ10_copyOf_4_25 : decode cJ10_copyOf_4 25 = .ok (.invokestatic 304, 3) := dk_184 1 48 (dk_at dksJ10_copyOf_4_1 1 rfl rfl)
theorem dJ10_copyOf_4_28 : decode cJ10_copyOf_4 28 = .ok (.invokestatic 150, 3) := dk_184 0 150 (dk_at dksJ10_copyOf_4_1 4 rfl rfl)
theorem dJ10_copyOf_4_31 : decode cJ10_copyOf_4 31 = .ok (.aload_n 2, 1) := dk_44 (dk_at dksJ10_copyOf_4_1 7 rfl rfl)
theorem dJ10_copyOf_4_32 : decode cJ10_copyOf_4 32 = .ok (.areturn, 1) := dk_176 (dk_at dksJ10_copyOf_4_1 8 rfl rfl)
theorem q103 : (Jvm.Cond.initialized "java/util/Arrays") ∈ lw_all := lw_g (lw_at lw_m1 20 rfl) rfl
theorem q539 : (Jvm.Cond.static ({ cls := "java/util/Arrays", name := "copyOf", desc := "([Ljava/lang/Object;I)[Ljava/lang/Object;" } : Jvm.MethodName)) ∈ lw_all := lw_g (lw_at lw_m2 216 rfl) rfl
theorem q540 : (Jvm.Cond.code ({ cls := "java/util/Arrays", name := "copyOf", desc := "([Ljava/lang/Object;I)[Ljava/lang/Object;" } : Jvm.MethodName) prog_68_method_119_code (2 : Nat) (Option.some (Jvm.ClassFile.FieldType.array (Jvm.ClassFile.FieldType.object "java/lang/Object")))) ∈ lw_all := lw_g (lw_at lw_m2 217 rfl) rfl
theorem q541 : (Jvm.Cond.methodLink "java/util/Arrays" (86 : Nat) ({ cls := "java/lang/Object", name := "getClass", desc := "()Ljava/lang/Class;" } : Jvm.MethodName)) ∈ lw_all := lw_g (lw_at lw_m2 218 rfl) rfl
theorem q596 : (Jvm.Cond.methodLink "java/util/Arrays" (300 : Nat) ({ cls := "java/util/Arrays", name := "copyOf", desc := "([Ljava/lang/Object;ILjava/lang/Class;)[Ljava/lang/Object;" } : Jvm.MethodName)) ∈ lw_all := lw_g (lw_at lw_m3 33 rfl) rfl
theorem q597 : (Jvm.Cond.static ({ cls := "java/util/Arrays", name := "copyOf", desc := "([Ljava/lang/Object;ILjava/lang/Class;)[Ljava/lang/Object;" } : Jvm.MethodName)) ∈ lw_all := lw_g (lw_at lw_m3 34 rfl) rfl
theorem q598 : (Jvm.Cond.code ({ cls := "java/util/Arrays", name := "copyOf", desc := "([Ljava/lang/Object;ILjava/lang/Class;)[Ljava/lang/Object;" } : Jvm.MethodName) prog_68_method_120_code (4 : Nat) (Option.some (Jvm.ClassFile.FieldType.array (Jvm.ClassFile.FieldType.object "java/lang/Object")))) ∈ lw_all := lw_g (lw_at lw_m3 35 rfl) rfl
theorem q599 : (Jvm.Cond.classLink "java/util/Arrays" (110 : Nat) "[Ljava/lang/Object;") ∈ lw_all := lw_g (lw_at lw_m3 36 rfl) rfl
theorem q600 : (Jvm.Cond.classLink "java/util/Arrays" (2 : Nat) "java/lang/Object") ∈ lw_all := lw_g (lw_at lw_m3 37 rfl) rfl
theorem q601 : (Jvm.Cond.methodLink "java/util/Arrays" (304 : Nat) ({ cls := "java/lang/Math", name := "min", desc := "(II)I" } : Jvm.MethodName)) ∈ lw_all := lw_g (lw_at lw_m3 38 rfl) rfl
theorem q604 : (Jvm.Cond.methodLink "java/util/Arrays" (150 : Nat) ({ cls := "java/lang/System", name := "arraycopy", desc := "(Ljava/lang/Object;ILjava/lang/Object;II)V" } : Jvm.MethodName)) ∈ lw_all := lw_g (lw_at lw_m3 41 rfl) rfl
theorem q958 : (Jvm.Cond.static ({ cls := "java/util/Arrays", name := "copyOf", desc := "([BI)[B" } : Jvm.MethodName)) ∈ lw_all := lw_g (lw_at lw_m4 155 rfl) rfl
theorem q959 : (Jvm.Cond.code ({ cls := "java/util/Arrays", name := "copyOf", desc := "([BI)[B" } : Jvm.MethodName) prog_68_method_121_code (3 : Nat) (Option.some (Jvm.ClassFile.FieldType.array Jvm.ClassFile.FieldType.byte))) ∈ lw_all := lw_g (lw_at lw_m4 156 rfl) rfl
theorem q960 : (Jvm.Cond.methodLink "java/util/Arrays" (310 : Nat) ({ cls := "[B", name := "clone", desc := "()Ljava/lang/Object;" } : Jvm.MethodName)) ∈ lw_all := lw_g (lw_at lw_m4 157 rfl) rfl
theorem q961 : (Jvm.Cond.classLink "java/util/Arrays" (311 : Nat) "[B") ∈ lw_all := lw_g (lw_at lw_m4 158 rfl) rfl
theorem q1065 : (Jvm.Cond.static ({ cls := "java/util/Arrays", name := "copyOfRange", desc := "([BII)[B" } : Jvm.MethodName)) ∈ lw_all := lw_g (lw_at lw_m5 22 rfl) rfl
theorem q1066 : (Jvm.Cond.code ({ cls := "java/util/Arrays", name := "copyOfRange", desc := "([BII)[B" } : Jvm.MethodName) prog_68_method_132_code (3 : Nat) (Option.some (Jvm.ClassFile.FieldType.array Jvm.ClassFile.FieldType.byte))) ∈ lw_all := lw_g (lw_at lw_m5 23 rfl) rfl
theorem q1067 : (Jvm.Cond.methodLink "java/util/Arrays" (339 : Nat) ({ cls := "java/util/Arrays", name := "copyOfRangeByte", desc := "([BII)[B" } : Jvm.MethodName)) ∈ lw_all := lw_g (lw_at lw_m5 24 rfl) rfl
theorem q1068 : (Jvm.Cond.static ({ cls := "java/util/Arrays", name := "copyOfRangeByte", desc := "([BII)[B" } : Jvm.MethodName)) ∈ lw_all := lw_g (lw_at lw_m5 25 rfl) rfl
theorem q1069 : (Jvm.Cond.code ({ cls := "java/util/Arrays", name := "copyOfRangeByte", desc := "([BII)[B" } : Jvm.MethodName) prog_68_method_133_code (5 : Nat) (Option.some (Jvm.ClassFile.FieldType.array Jvm.ClassFile.FieldType.byte))) ∈ lw_all := lw_g (lw_at lw_m5 26 rfl) rfl
theorem q1070 : (Jvm.Cond.methodLink "java/util/Arrays" (343 : Nat) ({ cls := "java/util/Arrays", name := "checkLength", desc := "(II)V" } : Jvm.MethodName)) ∈ lw_all := lw_g (lw_at lw_m5 27 rfl) rfl
theorem q1071 : (Jvm.Cond.static ({ cls := "java/util/Arrays", name := "checkLength", desc := "(II)V" } : Jvm.MethodName)) ∈ lw_all := lw_g (lw_at lw_m5 28 rfl) rfl
theorem q1072 : (Jvm.Cond.code ({ cls := "java/util/Arrays", name := "checkLength", desc := "(II)V" } : Jvm.MethodName) prog_68_method_131_code (2 : Nat) (Option.none : Option Jvm.ClassFile.FieldType)) ∈ lw_all := lw_g (lw_at lw_m5 29 rfl) rfl
theorem q1821 : (Jvm.Cond.static ({ cls := "java/util/Arrays", name := "copyOf", desc := "([JI)[J" } : Jvm.MethodName)) ∈ lw_all := lw_g (lw_at lw_m8 58 rfl) rfl
theorem q1822 : (Jvm.Cond.code ({ cls := "java/util/Arrays", name := "copyOf", desc := "([JI)[J" } : Jvm.MethodName) prog_68_method_124_code (3 : Nat) (Option.some (Jvm.ClassFile.FieldType.array Jvm.ClassFile.FieldType.long))) ∈ lw_all := lw_g (lw_at lw_m8 59 rfl) rfl
theorem q1823 : (Jvm.Cond.methodLink "java/util/Arrays" (319 : Nat) ({ cls := "[J", name := "clone", desc := "()Ljava/lang/Object;" } : Jvm.MethodName)) ∈ lw_all := lw_g (lw_at lw_m8 60 rfl) rfl
theorem q1827 : (Jvm.Cond.classLink "java/util/Arrays" (320 : Nat) "[J") ∈ lw_all := lw_g (lw_at lw_m8 64 rfl) rfl

/-! java/util/AbstractList$Itr -/
set_option maxRecDepth 100000
def RJ11 : String := "java/util/AbstractList$Itr"
abbrev cJ11_hasNext : ByteArray := prog_60_method_2_code
def yJ11_hasNext : MethodName := ⟨RJ11, "hasNext", "()Z"⟩
def dkwJ11_hasNext_0 : List UInt8 := [42, 180, 0, 13, 42, 180, 0, 1, 182, 0, 28, 159, 0, 7, 4, 167, 0, 4, 3, 172]
abbrev dktJ11_hasNext_0 : List UInt8 := dkwJ11_hasNext_0 ++ []
theorem dksJ11_hasNext_0 : cJ11_hasNext.data.toList.drop 0 = dktJ11_hasNext_0 := by decide +kernel
theorem dJ11_hasNext_0 : decode cJ11_hasNext 0 = .ok (.aload_n 0, 1) := dk_42 (dk_at dksJ11_hasNext_0 0 rfl rfl)
theorem dJ11_hasNext_1 : decode cJ11_hasNext 1 = .ok (.getfield 13, 3) := dk_180 0 13 (dk_at dksJ11_hasNext_0 1 rfl rfl)
theorem dJ11_hasNext_4 : decode cJ11_hasNext 4 = .ok (.aload_n 0, 1) := dk_42 (dk_at dksJ11_hasNext_0 4 rfl rfl)
theorem dJ11_hasNext_5 : decode cJ11_hasNext 5 = .ok (.getfield 1, 3) := dk_180 0 1 (dk_at dksJ11_hasNext_0 5 rfl rfl)
theorem dJ11_hasNext_8 : decode cJ11_hasNext 8 = .ok (.invokevirtual 28, 3) := dk_182 0 28 (dk_at dksJ11_hasNext_0 8 rfl rfl)
theorem dJ11_hasNext_11 : decode cJ11_hasNext 11 = .ok (.if_icmp .eq 7, 3) := dk_159 0 7 (dk_at dksJ11_hasNext_0 11 rfl rfl)
theorem dJ11_hasNext_14 : decode cJ11_hasNext 14 = .ok (.iconst 1, 1) := dk_4 (dk_at dksJ11_hasNext_0 14 rfl rfl)
theorem dJ11_hasNext_15 : decode cJ11_hasNext 15 = .ok (.goto 4, 3) := dk_167 0 4 (dk_at dksJ11_hasNext_0 15 rfl rfl)
theorem dJ11_hasNext_18 : decode cJ11_hasNext 18 = .ok (.iconst 0, 1) := dk_3 (dk_at dksJ11_hasNext_0 18 rfl rfl)
theorem dJ11_hasNext_19 : decode cJ11_hasNext 19 = .ok (.ireturn, 1) := dk_172 (dk_at dksJ11_hasNext_0 19 rfl rfl)
abbrev cJ11_next : ByteArray := prog_60_method_3_code
def yJ11_next : MethodName := ⟨RJ11, "next", "()Ljava/lang/Object;"⟩
def dkwJ11_next_1 : List UInt8 := [27, 4, 96, 181, 0, 13, 44, 176, 76, 42, 182, 0, 32, 187, 0, 41, 89, 43, 183, 0, 43, 191]
abbrev dktJ11_next_1 : List UInt8 := dkwJ11_next_1 ++ []
def dkwJ11_next_0 : List UInt8 := [42, 182, 0, 32, 42, 180, 0, 13, 60, 42, 180, 0, 1, 27, 182, 0, 35, 77, 42, 27, 181, 0, 17, 42]
abbrev dktJ11_next_0 : List UInt8 := dkwJ11_next_0 ++ dktJ11_next_1
theorem dksJ11_next_0 : cJ11_next.data.toList.drop 0 = dktJ11_next_0 := by decide +kernel
theorem dksJ11_next_1 : cJ11_next.data.toList.drop 24 = dktJ11_next_1 := dk_seg dksJ11_next_0 24 rfl rfl
theorem dJ11_next_0 : decode cJ11_next 0 = .ok (.aload_n 0, 1) := dk_42 (dk_at dksJ11_next_0 0 rfl rfl)
theorem dJ11_next_1 : decode cJ11_next 1 = .ok (.invokevirtual 32, 3) := dk_182 0 32 (dk_at dksJ11_next_0 1 rfl rfl)
theorem dJ11_next_4 : decode cJ11_next 4 = .ok (.aload_n 0, 1) := dk_42 (dk_at dksJ11_next_0 4 rfl rfl)
theorem dJ11_next_5 : decode cJ11_next 5 = .ok (.getfield 13, 3) := dk_180 0 13 (dk_at dksJ11_next_0 5 rfl rfl)
theorem dJ11_next_8 : decode cJ11_next 8 = .ok (.istore_n 1, 1) := dk_60 (dk_at dksJ11_next_0 8 rfl rfl)
theorem dJ11_next_9 : decode cJ11_next 9 = .ok (.aload_n 0, 1) := dk_42 (dk_at dksJ11_next_0 9 rfl rfl)
theorem dJ11_next_10 : decode cJ11_next 10 = .ok (.getfield 1, 3) := dk_180 0 1 (dk_at dksJ11_next_0 10 rfl rfl)
theorem dJ11_next_13 : decode cJ11_next 13 = .ok (.iload_n 1, 1) := dk_27 (dk_at dksJ11_next_0 13 rfl rfl)
theorem dJ11_next_14 : decode cJ11_next 14 = .ok (.invokevirtual 35, 3) := dk_182 0 35 (dk_at dksJ11_next_0 14 rfl rfl)
theorem dJ11_next_17 : decode cJ11_next 17 = .ok (.astore_n 2, 1) := dk_77 (dk_at dksJ11_next_0 17 rfl rfl)
theorem dJ11_next_18 : decode cJ11_next 18 = .ok (.aload_n 0, 1) := dk_42 (dk_at dksJ11_next_0 18 rfl rfl)
theorem dJ11_next_19 : decode cJ11_next 19 = .ok (.iload_n 1, 1) := dk_27 (dk_at dksJ11_next_0 19 rfl rfl)
theorem dJ11_next_20 : decode cJ11_next 20 = .ok (.putfield 17, 3) := dk_181 0 17 (dk_at dksJ11_next_0 20 rfl rfl)
theorem dJ11_next_23 : decode cJ11_next 23 = .ok (.aload_n 0, 1) := dk_42 (dk_at dksJ11_next_0 23 rfl rfl)
theorem dJ11_next_24 : decode cJ11_next 24 = .ok (.iload_n 1, 1) := dk_27 (dk_at dksJ11_next_1 0 rfl rfl)
theorem dJ11_next_25 : decode cJ11_next 25 = .ok (.iconst 1, 1) := dk_4 (dk_at dksJ11_next_1 1 rfl rfl)
theorem dJ11_next_26 : decode cJ11_next 26 = .ok (.iadd, 1) := dk_96 (dk_at dksJ11_next_1 2 rfl rfl)
theorem dJ11_next_27 : decode cJ11_next 27 = .ok (.putfield 13, 3) := dk_181 0 13 (dk_at dksJ11_next_1 3 rfl rfl)
theorem dJ11_next_30 : decode cJ11_next 30 = .ok (.aload_n 2, 1) := dk_44 (dk_at dksJ11_next_1 6 rfl rfl)
theorem dJ11_next_31 : decode cJ11_next 31 = .ok (.areturn, 1) := dk_176 (dk_at dksJ11_next_1 7 rfl rfl)
theorem dJ11_next_32 : decode cJ11_next 32 = .ok (.astore_n 1, 1) := dk_76 (dk_at dksJ11_next_1 8 rfl rfl)
theorem dJ11_next_33 : decode cJ11_next 33 = .ok (.aload_n 0, 1) := dk_42 (dk_at dksJ11_next_1 9 rfl rfl)
theorem dJ11_next_34 : decode cJ11_next 34 = .ok (.invokevirtual 32, 3) := dk_182 0 32 (dk_at dksJ11_next_1 10 rfl rfl)
theorem dJ11_next_37 : decode cJ11_next 37 = .ok (.new 41, 3) := dk_187 0 41 (dk_at dksJ11_next_1 13 rfl rfl)
theorem dJ11_next_40 : decode cJ11_next 40 = .ok (.dup, 1) := dk_89 (dk_at dksJ11_next_1 16 rfl rfl)
theorem dJ11_next_41 : decode cJ11_next 41 = .ok (.aload_n 1, 1) := dk_43 (dk_at dksJ11_next_1 17 rfl rfl)
theorem dJ11_next_42 : decode cJ11_next 42 = .ok (.invokespecial 43, 3) := dk_183 0 43 (dk_at dksJ11_next_1 18 rfl rfl)
theorem dJ11_next_45 : decode cJ11_next 45 = .ok (.athrow, 1) := dk_191 (dk_at dksJ11_next_1 21 rfl rfl)
abbrev cJ11_checkForComodification : ByteArray := prog_60_method_5_code
def yJ11_checkForComodification : MethodName := ⟨RJ11, "checkForComodification", "()V"⟩
def dkwJ11_checkForComodification_0 : List UInt8 := [42, 180, 0, 1, 180, 0, 20, 42, 180, 0, 25, 159, 0, 11, 187, 0, 52, 89, 183, 0, 54, 191, 177]
abbrev dktJ11_checkForComodification_0 : List UInt8 := dkwJ11_checkForComodification_0 ++ []
theorem dksJ11_checkForComodification_0 : cJ11_checkForComodification.data.toList.drop 0 = dktJ11_checkForComodification_0 := by decide +kernel
theorem dJ11_checkForComodification_0 : decode cJ11_checkForComodification 0 = .ok (.aload_n 0, 1) := dk_42 (dk_at dksJ11_checkForComodification_0 0 rfl rfl)
theorem dJ11_checkForComodification_1 : decode cJ11_checkForComodification 1 = .ok (.getfield 1, 3) := dk_180 0 1 (dk_at dksJ11_checkForComodification_0 1 rfl rfl)
theorem dJ11_checkForComodification_4 : decode cJ11_checkForComodification 4 = .ok (.getfield 20, 3) := dk_180 0 20 (dk_at dksJ11_checkForComodification_0 4 rfl rfl)
theorem dJ11_checkForComodification_7 : decode cJ11_checkForComodification 7 = .ok (.aload_n 0, 1) := dk_42 (dk_at dksJ11_checkForComodification_0 7 rfl rfl)
theorem dJ11_checkForComodification_8 : decode cJ11_checkForComodification 8 = .ok (.getfield 25, 3) := dk_180 0 25 (dk_at dksJ11_checkForComodification_0 8 rfl rfl)
theorem dJ11_checkForComodification_11 : decode cJ11_checkForComodification 11 = .ok (.if_icmp .eq 11, 3) := dk_159 0 11 (dk_at dksJ11_checkForComodification_0 11 rfl rfl)
theorem dJ11_checkForComodification_14 : decode cJ11_checkForComodification 14 = .ok (.new 52, 3) := dk_187 0 52 (dk_at dksJ11_checkForComodification_0 14 rfl rfl)
theorem dJ11_checkForComodification_17 : decode cJ11_checkForComodification 17 = .ok (.dup, 1) := dk_89 (dk_at dksJ11_checkForComodification_0 17 rfl rfl)
theorem dJ11_checkForComodification_18 : decode cJ11_checkForComodification 18 = .ok (.invokespecial 54, 3) := dk_183 0 54 (dk_at dksJ11_checkForComodification_0 18 rfl rfl)
theorem dJ11_checkForComodification_21 : decode cJ11_checkForComodification 21 = .ok (.athrow, 1) := dk_191 (dk_at dksJ11_checkForComodification_0 21 rfl rfl)
theorem dJ11_checkForComodification_22 : decode cJ11_checkForComodification 22 = .ok (.return_, 1) := dk_177 (dk_at dksJ11_checkForComodification_0 22 rfl rfl)
abbrev cJ11_remove : ByteArray := prog_60_method_4_code
def yJ11_remove : MethodName := ⟨RJ11, "remove", "()V"⟩
def dkwJ11_remove_3 : List UInt8 := [187, 0, 52, 89, 183, 0, 54, 191, 177]
abbrev dktJ11_remove_3 : List UInt8 := dkwJ11_remove_3 ++ []
def dkwJ11_remove_2 : List UInt8 := [100, 181, 0, 13, 42, 2, 181, 0, 17, 42, 42, 180, 0, 1, 180, 0, 20, 181, 0, 25, 167, 0, 12, 76]
abbrev dktJ11_remove_2 : List UInt8 := dkwJ11_remove_2 ++ dktJ11_remove_3
def dkwJ11_remove_1 : List UInt8 := [180, 0, 17, 182, 0, 49, 87, 42, 180, 0, 17, 42, 180, 0, 13, 162, 0, 13, 42, 89, 180, 0, 13, 4]
abbrev dktJ11_remove_1 : List UInt8 := dkwJ11_remove_1 ++ dktJ11_remove_2
def dkwJ11_remove_0 : List UInt8 := [42, 180, 0, 17, 156, 0, 11, 187, 0, 46, 89, 183, 0, 48, 191, 42, 182, 0, 32, 42, 180, 0, 1, 42]
abbrev dktJ11_remove_0 : List UInt8 := dkwJ11_remove_0 ++ dktJ11_remove_1
theorem dksJ11_remove_0 : cJ11_remove.data.toList.drop 0 = dktJ11_remove_0 := by decide +kernel
theorem dksJ11_remove_1 : cJ11_remove.data.toList.drop 24 = dktJ11_remove_1 := dk_seg dksJ11_remove_0 24 rfl rfl
theorem dksJ11_remove_2 : cJ11_remove.data.toList.drop 48 = dktJ11_remove_2 := dk_seg dksJ11_remove_1 24 rfl rfl
theorem dksJ11_remove_3 : cJ11_remove.data.toList.drop 72 = dktJ11_remove_3 := dk_seg dksJ11_remove_2 24 rfl rfl
theorem dJ11_remove_0 : decode cJ11_remove 0 = .ok (.aload_n 0, 1) := dk_42 (dk_at dksJ11_remove_0 0 rfl rfl)
theorem dJ11_remove_1 : decode cJ11_remove 1 = .ok (.getfield 17, 3) := dk_180 0 17 (dk_at dksJ11_remove_0 1 rfl rfl)
theorem dJ11_remove_4 : decode cJ11_remove 4 = .ok (.ifCond .ge 11, 3) := dk_156 0 11 (dk_at dksJ11_remove_0 4 rfl rfl)
theorem dJ11_remove_7 : decode cJ11_remove 7 = .ok (.new 46, 3) := dk_187 0 46 (dk_at dksJ11_remove_0 7 rfl rfl)
theorem dJ11_remove_10 : decode cJ11_remove 10 = .ok (.dup, 1) := dk_89 (dk_at dksJ11_remove_0 10 rfl rfl)
theorem dJ11_remove_11 : decode cJ11_remove 11 = .ok (.invokespecial 48, 3) := dk_183 0 48 (dk_at dksJ11_remove_0 11 rfl rfl)
theorem dJ11_remove_14 : decode cJ11_remove 14 = .ok (.athrow, 1) := dk_191 (dk_at dksJ11_remove_0 14 rfl rfl)
theorem dJ11_remove_15 : decode cJ11_remove 15 = .ok (.aload_n 0, 1) := dk_42 (dk_at dksJ11_remove_0 15 rfl rfl)
theorem dJ11_remove_16 : decode cJ11_remove 16 = .ok (.invokevirtual 32, 3) := dk_182 0 32 (dk_at dksJ11_remove_0 16 rfl rfl)
theorem dJ11_remove_19 : decode cJ11_remove 19 = .ok (.aload_n 0, 1) := dk_42 (dk_at dksJ11_remove_0 19 rfl rfl)
theorem dJ11_remove_20 : decode cJ11_remove 20 = .ok (.getfield 1, 3) := dk_180 0 1 (dk_at dksJ11_remove_0 20 rfl rfl)
theorem dJ11_remove_23 : decode cJ11_remove 23 = .ok (.aload_n 0, 1) := dk_42 (dk_at dksJ11_remove_0 23 rfl rfl)
theorem dJ11_remove_24 : decode cJ11_remove 24 = .ok (.getfield 17, 3) := dk_180 0 17 (dk_at dksJ11_remove_1 0 rfl rfl)
theorem dJ11_remove_27 : decode cJ11_remove 27 = .ok (.invokevirtual 49, 3) := dk_182 0 49 (dk_at dksJ11_remove_1 3 rfl rfl)
theorem dJ11_remove_30 : decode cJ11_remove 30 = .ok (.pop, 1) := dk_87 (dk_at dksJ11_remove_1 6 rfl rfl)
theorem dJ11_remove_31 : decode cJ11_remove 31 = .ok (.aload_n 0, 1) := dk_42 (dk_at dksJ11_remove_1 7 rfl rfl)
theorem dJ11_remove_32 : decode cJ11_remove 32 = .ok (.getfield 17, 3) := dk_180 0 17 (dk_at dksJ11_remove_1 8 rfl rfl)
theorem dJ11_remove_35 : decode cJ11_remove 35 = .ok (.aload_n 0, 1) := dk_42 (dk_at dksJ11_remove_1 11 rfl rfl)
theorem dJ11_remove_36 : decode cJ11_remove 36 = .ok (.getfield 13, 3) := dk_180 0 13 (dk_at dksJ11_remove_1 12 rfl rfl)
theorem dJ11_remove_39 : decode cJ11_remove 39 = .ok (.if_icmp .ge 13, 3) := dk_162 0 13 (dk_at dksJ11_remove_1 15 rfl rfl)
theorem dJ11_remove_42 : decode cJ11_remove 42 = .ok (.aload_n 0, 1) := dk_42 (dk_at dksJ11_remove_1 18 rfl rfl)
theorem dJ11_remove_43 : decode cJ11_remove 43 = .ok (.dup, 1) := dk_89 (dk_at dksJ11_remove_1 19 rfl rfl)
theorem dJ11_remove_44 : decode cJ11_remove 44 = .ok (.getfield 13, 3) := dk_180 0 13 (dk_at dksJ11_remove_1 20 rfl rfl)
theorem dJ11_remove_47 : decode cJ11_remove 47 = .ok (.iconst 1, 1) := dk_4 (dk_at dksJ11_remove_1 23 rfl rfl)
theorem dJ11_remove_48 : decode cJ11_remove 48 = .ok (.isub, 1) := dk_100 (dk_at dksJ11_remove_2 0 rfl rfl)
theorem dJ11_remove_49 : decode cJ11_remove 49 = .ok (.putfield 13, 3) := dk_181 0 13 (dk_at dksJ11_remove_2 1 rfl rfl)
theorem dJ11_remove_52 : decode cJ11_remove 52 = .ok (.aload_n 0, 1) := dk_42 (dk_at dksJ11_remove_2 4 rfl rfl)
theorem dJ11_remove_53 : decode cJ11_remove 53 = .ok (.iconst (-1), 1) := dk_2 (dk_at dksJ11_remove_2 5 rfl rfl)
theorem dJ11_remove_54 : decode cJ11_remove 54 = .ok (.putfield 17, 3) := dk_181 0 17 (dk_at dksJ11_remove_2 6 rfl rfl)
theorem dJ11_remove_57 : decode cJ11_remove 57 = .ok (.aload_n 0, 1) := dk_42 (dk_at dksJ11_remove_2 9 rfl rfl)
theorem dJ11_remove_58 : decode cJ11_remove 58 = .ok (.aload_n 0, 1) := dk_42 (dk_at dksJ11_remove_2 10 rfl rfl)
theorem dJ11_remove_59 : decode cJ11_remove 59 = .ok (.getfield 1, 3) := dk_180 0 1 (dk_at dksJ11_remove_2 11 rfl rfl)
theorem dJ11_remove_62 : decode cJ11_remove 62 = .ok (.getfield 20, 3) := dk_180 0 20 (dk_at dksJ11_remove_2 14 rfl rfl)
theorem dJ11_remove_65 : decode cJ11_remove 65 = .ok (.putfield 25, 3) := dk_181 0 25 (dk_at dksJ11_remove_2 17 rfl rfl)
theorem dJ11_remove_68 : decode cJ11_remove 68 = .ok (.goto 12, 3) := dk_167 0 12 (dk_at dksJ11_remove_2 20 rfl rfl)
theorem dJ11_remove_71 : decode cJ11_remove 71 = .ok (.astore_n 1, 1) := dk_76 (dk_at dksJ11_remove_2 23 rfl rfl)
theorem dJ11_remove_72 : decode cJ11_remove 72 = .ok (.new 52, 3) := dk_187 0 52 (dk_at dksJ11_remove_3 0 rfl rfl)
theorem dJ11_remove_75 : decode cJ11_remove 75 = .ok (.dup, 1) := dk_89 (dk_at dksJ11_remove_3 3 rfl rfl)
theorem dJ11_remove_76 : decode cJ11_remove 76 = .ok (.invokespecial 54, 3) := dk_183 0 54 (dk_at dksJ11_remove_3 4 rfl rfl)
theorem dJ11_remove_79 : decode cJ11_remove 79 = .ok (.athrow, 1) := dk_191 (dk_at dksJ11_remove_3 7 rfl rfl)
theorem dJ11_remove_80 : decode cJ11_remove 80 = .ok (.return_, 1) := dk_177 (dk_at dksJ11_remove_3 8 rfl rfl)
theorem q106 : (Jvm.Cond.initialized "java/util/AbstractList$Itr") ∈ lw_all := lw_g (lw_at lw_m1 23 rfl) rfl
theorem q201 : (Jvm.Cond.fieldLink "java/util/AbstractList$Itr" (20 : Nat) "java/util/AbstractList" "modCount" "I") ∈ lw_all := lw_g (lw_at lw_m1 118 rfl) rfl
theorem q739 : (Jvm.Cond.instanceMethod ({ cls := "java/util/AbstractList$Itr", name := "hasNext", desc := "()Z" } : Jvm.MethodName)) ∈ lw_all := lw_g (lw_at lw_m3 176 rfl) rfl
theorem q740 : (Jvm.Cond.publicMethod ({ cls := "java/util/AbstractList$Itr", name := "hasNext", desc := "()Z" } : Jvm.MethodName)) ∈ lw_tbl := lw_at lw_m3 177 rfl
theorem q741 : (Jvm.Cond.code ({ cls := "java/util/AbstractList$Itr", name := "hasNext", desc := "()Z" } : Jvm.MethodName) prog_60_method_2_code (1 : Nat) (Option.some Jvm.ClassFile.FieldType.boolean)) ∈ lw_all := lw_g (lw_at lw_m3 178 rfl) rfl
theorem q742 : (Jvm.Cond.methodLink "java/util/AbstractList$Itr" (28 : Nat) ({ cls := "java/util/AbstractList", name := "size", desc := "()I" } : Jvm.MethodName)) ∈ lw_all := lw_g (lw_at lw_m3 179 rfl) rfl
theorem q790 : (Jvm.Cond.instanceMethod ({ cls := "java/util/AbstractList$Itr", name := "next", desc := "()Ljava/lang/Object;" } : Jvm.MethodName)) ∈ lw_all := lw_g (lw_at lw_m3 227 rfl) rfl
theorem q791 : (Jvm.Cond.publicMethod ({ cls := "java/util/AbstractList$Itr", name := "next", desc := "()Ljava/lang/Object;" } : Jvm.MethodName)) ∈ lw_tbl := lw_at lw_m3 228 rfl
theorem q792 : (Jvm.Cond.codeWith ({ cls := "java/util/AbstractList$Itr", name := "next", desc := "()Ljava/lang/Object;" } : Jvm.MethodName) prog_60_method_3_code (3 : Nat) (Option.some (Jvm.ClassFile.FieldType.object "java/lang/Object")) [((4 : Nat), (31 : Nat), (32 : Nat), (39 : Nat))]) ∈ lw_all := lw_g (lw_at lw_m3 229 rfl) rfl
theorem q793 : (Jvm.Cond.methodLink "java/util/AbstractList$Itr" (32 : Nat) ({ cls := "java/util/AbstractList$Itr", name := "checkForComodification", desc := "()V" } : Jvm.MethodName)) ∈ lw_all := lw_g (lw_at lw_m3 230 rfl) rfl
theorem q794 : (Jvm.Cond.instanceMethod ({ cls := "java/util/AbstractList$Itr", name := "checkForComodification", desc := "()V" } : Jvm.MethodName)) ∈ lw_all := lw_g (lw_at lw_m3 231 rfl) rfl
theorem q795 : (Jvm.Cond.sameMethod "java/util/AbstractList$Itr" "java/util/AbstractList$Itr" "checkForComodification" "()V") ∈ lw_all := lw_g (lw_at lw_m3 232 rfl) rfl
theorem q797 : (Jvm.Cond.code ({ cls := "java/util/AbstractList$Itr", name := "checkForComodification", desc := "()V" } : Jvm.MethodName) prog_60_method_5_code (1 : Nat) (Option.none : Option Jvm.ClassFile.FieldType)) ∈ lw_all := lw_g (lw_at lw_m3 234 rfl) rfl
theorem q798 : (Jvm.Cond.methodLink "java/util/AbstractList$Itr" (35 : Nat) ({ cls := "java/util/AbstractList", name := "get", desc := "(I)Ljava/lang/Object;" } : Jvm.MethodName)) ∈ lw_all := lw_g (lw_at lw_m3 235 rfl) rfl
theorem q814 : (Jvm.Cond.classLink "java/util/AbstractList$Itr" (41 : Nat) "java/util/NoSuchElementException") ∈ lw_all := lw_g (lw_at lw_m4 11 rfl) rfl
theorem q859 : (Jvm.Cond.methodLink "java/util/AbstractList$Itr" (43 : Nat) ({ cls := "java/util/NoSuchElementException", name := "<init>", desc := "(Ljava/lang/Throwable;)V" } : Jvm.MethodName)) ∈ lw_all := lw_g (lw_at lw_m4 56 rfl) rfl
theorem q1372 : (Jvm.Cond.instanceMethod ({ cls := "java/util/AbstractList$Itr", name := "remove", desc := "()V" } : Jvm.MethodName)) ∈ lw_all := lw_g (lw_at lw_m6 89 rfl) rfl
theorem q1373 : (Jvm.Cond.publicMethod ({ cls := "java/util/AbstractList$Itr", name := "remove", desc := "()V" } : Jvm.MethodName)) ∈ lw_tbl := lw_at lw_m6 90 rfl
theorem q1374 : (Jvm.Cond.codeWith ({ cls := "java/util/AbstractList$Itr", name := "remove", desc := "()V" } : Jvm.MethodName) prog_60_method_4_code (2 : Nat) (Option.none : Option Jvm.ClassFile.FieldType) [((19 : Nat), (68 : Nat), (71 : Nat), (39 : Nat))]) ∈ lw_all := lw_g (lw_at lw_m6 91 rfl) rfl
theorem q1375 : (Jvm.Cond.classLink "java/util/AbstractList$Itr" (46 : Nat) "java/lang/IllegalStateException") ∈ lw_all := lw_g (lw_at lw_m6 92 rfl) rfl
theorem q1384 : (Jvm.Cond.methodLink "java/util/AbstractList$Itr" (48 : Nat) ({ cls := "java/lang/IllegalStateException", name := "<init>", desc := "()V" } : Jvm.MethodName)) ∈ lw_all := lw_g (lw_at lw_m6 101 rfl) rfl
theorem q1390 : (Jvm.Cond.methodLink "java/util/AbstractList$Itr" (49 : Nat) ({ cls := "java/util/AbstractList", name := "remove", desc := "(I)Ljava/lang/Object;" } : Jvm.MethodName)) ∈ lw_all := lw_g (lw_at lw_m6 107 rfl) rfl
theorem q1409 : (Jvm.Cond.classLink "java/util/AbstractList$Itr" (52 : Nat) "java/util/ConcurrentModificationException") ∈ lw_all := lw_g (lw_at lw_m6 126 rfl) rfl
theorem q1418 : (Jvm.Cond.methodLink "java/util/AbstractList$Itr" (54 : Nat) ({ cls := "java/util/ConcurrentModificationException", name := "<init>", desc := "()V" } : Jvm.MethodName)) ∈ lw_all := lw_g (lw_at lw_m6 135 rfl) rfl
theorem q3105 : (Jvm.Cond.fieldLink "java/util/AbstractList$Itr" (1 : Nat) "java/util/AbstractList$Itr" "this$0" "Ljava/util/AbstractList;") ∈ lw_all := lw_g (lw_at lw_m13 142 rfl) rfl
theorem q3106 : (Jvm.Cond.fieldLink "java/util/AbstractList$Itr" (13 : Nat) "java/util/AbstractList$Itr" "cursor" "I") ∈ lw_all := lw_g (lw_at lw_m13 143 rfl) rfl
theorem q3107 : (Jvm.Cond.fieldLink "java/util/AbstractList$Itr" (17 : Nat) "java/util/AbstractList$Itr" "lastRet" "I") ∈ lw_all := lw_g (lw_at lw_m13 144 rfl) rfl
theorem q3108 : (Jvm.Cond.fieldLink "java/util/AbstractList$Itr" (25 : Nat) "java/util/AbstractList$Itr" "expectedModCount" "I") ∈ lw_all := lw_g (lw_at lw_m13 145 rfl) rfl

/-! java/util/ArrayList$Itr -/
set_option maxRecDepth 100000
def RJ12 : String := "java/util/ArrayList$Itr"
def TJ12 : u_T := fun k => match k with
  | 0 => ("java/util/ArrayList$Itr", "cursor", "I", false)
  | 1 => ("java/util/ArrayList$Itr", "lastRet", "I", false)
  | 2 => ("java/util/ArrayList$Itr", "expectedModCount", "I", false)
  | _ => ("java/util/ArrayList$Itr", "this$0", "Ljava/util/ArrayList;", true)
def tyJ12 : Nat → FieldType := fun k => match k with
  | 0 => .int
  | 1 => .int
  | 2 => .int
  | _ => .object "java/util/ArrayList"
abbrev wsJ120 : List Cond := u_ws RJ12 TJ12 4
theorem nmJ12 : ∀ a, a < 4 → ∀ b, b < 4 → a ≠ b → (TJ12 a).2.1 ≠ (TJ12 b).2.1 := by decide +kernel
theorem tyJ12_ok : ∀ k, k < 4 → parseFieldDescriptor (TJ12 k).2.2.1 = some (tyJ12 k) := by decide +kernel
abbrev cJ12_init : ByteArray := prog_66_method_1_code
def yJ12_init : MethodName := ⟨RJ12, "<init>", "(Ljava/util/ArrayList;)V"⟩
def dkwJ12_init_1 : List UInt8 := [181, 0, 22, 177]
abbrev dktJ12_init_1 : List UInt8 := dkwJ12_init_1 ++ []
def dkwJ12_init_0 : List UInt8 := [42, 43, 181, 0, 1, 42, 183, 0, 7, 42, 2, 181, 0, 13, 42, 42, 180, 0, 1, 180, 0, 17]
abbrev dktJ12_init_0 : List UInt8 := dkwJ12_init_0 ++ dktJ12_init_1
theorem dksJ12_init_0 : cJ12_init.data.toList.drop 0 = dktJ12_init_0 := by decide +kernel
theorem dksJ12_init_1 : cJ12_init.data.toList.drop 22 = dktJ12_init_1 := dk_seg dksJ12_init_0 22 rfl rfl
theorem dJ12_init_0 : decode cJ12_init 0 = .ok (.aload_n 0, 1) := dk_42 (dk_at dksJ12_init_0 0 rfl rfl)
theorem dJ12_init_1 : decode cJ12_init 1 = .ok (.aload_n 1, 1) := dk_43 (dk_at dksJ12_init_0 1 rfl rfl)
theorem dJ12_init_2 : decode cJ12_init 2 = .ok (.putfield 1, 3) := dk_181 0 1 (dk_at dksJ12_init_0 2 rfl rfl)
theorem dJ12_init_5 : decode cJ12_init 5 = .ok (.aload_n 0, 1) := dk_42 (dk_at dksJ12_init_0 5 rfl rfl)
theorem dJ12_init_6 : decode cJ12_init 6 = .ok (.invokespecial 7, 3) := dk_183 0 7 (dk_at dksJ12_init_0 6 rfl rfl)
theorem dJ12_init_9 : decode cJ12_init 9 = .ok (.aload_n 0, 1) := dk_42 (dk_at dksJ12_init_0 9 rfl rfl)
theorem dJ12_init_10 : decode cJ12_init 10 = .ok (.iconst (-1), 1) := dk_2 (dk_at dksJ12_init_0 10 rfl rfl)
theorem dJ12_init_11 : decode cJ12_init 11 = .ok (.putfield 13, 3) := dk_181 0 13 (dk_at dksJ12_init_0 11 rfl rfl)
theorem dJ12_init_14 : decode cJ12_init 14 = .ok (.aload_n 0, 1) := dk_42 (dk_at dksJ12_init_0 14 rfl rfl)
theorem dJ12_init_15 : decode cJ12_init 15 = .ok (.aload_n 0, 1) := dk_42 (dk_at dksJ12_init_0 15 rfl rfl)
theorem dJ12_init_16 : decode cJ12_init 16 = .ok (.getfield 1, 3) := dk_180 0 1 (dk_at dksJ12_init_0 16 rfl rfl)
theorem dJ12_init_19 : decode cJ12_init 19 = .ok (.getfield 17, 3) := dk_180 0 17 (dk_at dksJ12_init_0 19 rfl rfl)
theorem dJ12_init_22 : decode cJ12_init 22 = .ok (.putfield 22, 3) := dk_181 0 22 (dk_at dksJ12_init_1 0 rfl rfl)
theorem dJ12_init_25 : decode cJ12_init 25 = .ok (.return_, 1) := dk_177 (dk_at dksJ12_init_1 3 rfl rfl)
abbrev cJ12_hasNext : ByteArray := prog_66_method_2_code
def yJ12_hasNext : MethodName := ⟨RJ12, "hasNext", "()Z"⟩
def dkwJ12_hasNext_0 : List UInt8 := [42, 180, 0, 25, 42, 180, 0, 1, 180, 0, 28, 159, 0, 7, 4, 167, 0, 4, 3, 172]
abbrev dktJ12_hasNext_0 : List UInt8 := dkwJ12_hasNext_0 ++ []
theorem dksJ12_hasNext_0 : cJ12_hasNext.data.toList.drop 0 = dktJ12_hasNext_0 := by decide +kernel
theorem dJ12_hasNext_0 : decode cJ12_hasNext 0 = .ok (.aload_n 0, 1) := dk_42 (dk_at dksJ12_hasNext_0 0 rfl rfl)
theorem dJ12_hasNext_1 : decode cJ12_hasNext 1 = .ok (.getfield 25, 3) := dk_180 0 25 (dk_at dksJ12_hasNext_0 1 rfl rfl)
theorem dJ12_hasNext_4 : decode cJ12_hasNext 4 = .ok (.aload_n 0, 1) := dk_42 (dk_at dksJ12_hasNext_0 4 rfl rfl)
theorem dJ12_hasNext_5 : decode cJ12_hasNext 5 = .ok (.getfield 1, 3) := dk_180 0 1 (dk_at dksJ12_hasNext_0 5 rfl rfl)
theorem dJ12_hasNext_8 : decode cJ12_hasNext 8 = .ok (.getfield 28, 3) := dk_180 0 28 (dk_at dksJ12_hasNext_0 8 rfl rfl)
theorem dJ12_hasNext_11 : decode cJ12_hasNext 11 = .ok (.if_icmp .eq 7, 3) := dk_159 0 7 (dk_at dksJ12_hasNext_0 11 rfl rfl)
theorem dJ12_hasNext_14 : decode cJ12_hasNext 14 = .ok (.iconst 1, 1) := dk_4 (dk_at dksJ12_hasNext_0 14 rfl rfl)
theorem dJ12_hasNext_15 : decode cJ12_hasNext 15 = .ok (.goto 4, 3) := dk_167 0 4 (dk_at dksJ12_hasNext_0 15 rfl rfl)
theorem dJ12_hasNext_18 : decode cJ12_hasNext 18 = .ok (.iconst 0, 1) := dk_3 (dk_at dksJ12_hasNext_0 18 rfl rfl)
theorem dJ12_hasNext_19 : decode cJ12_hasNext 19 = .ok (.ireturn, 1) := dk_172 (dk_at dksJ12_hasNext_0 19 rfl rfl)
abbrev cJ12_next : ByteArray := prog_66_method_3_code
def yJ12_next : MethodName := ⟨RJ12, "next", "()Ljava/lang/Object;"⟩
def dkwJ12_next_2 : List UInt8 := [183, 0, 43, 191, 42, 27, 4, 96, 181, 0, 25, 44, 42, 27, 90, 181, 0, 13, 50, 176]
abbrev dktJ12_next_2 : List UInt8 := dkwJ12_next_2 ++ []
def dkwJ12_next_1 : List UInt8 := [183, 0, 36, 191, 42, 180, 0, 1, 180, 0, 37, 77, 27, 44, 190, 161, 0, 11, 187, 0, 41, 89]
abbrev dktJ12_next_1 : List UInt8 := dkwJ12_next_1 ++ dktJ12_next_2
def dkwJ12_next_0 : List UInt8 := [42, 182, 0, 31, 42, 180, 0, 25, 60, 27, 42, 180, 0, 1, 180, 0, 28, 161, 0, 11, 187, 0, 34, 89]
abbrev dktJ12_next_0 : List UInt8 := dkwJ12_next_0 ++ dktJ12_next_1
theorem dksJ12_next_0 : cJ12_next.data.toList.drop 0 = dktJ12_next_0 := by decide +kernel
theorem dksJ12_next_1 : cJ12_next.data.toList.drop 24 = dktJ12_next_1 := dk_seg dksJ12_next_0 24 rfl rfl
theorem dksJ12_next_2 : cJ12_next.data.toList.drop 46 = dktJ12_next_2 := dk_seg dksJ12_next_1 22 rfl rfl
theorem dJ12_next_0 : decode cJ12_next 0 = .ok (.aload_n 0, 1) := dk_42 (dk_at dksJ12_next_0 0 rfl rfl)
theorem dJ12_next_1 : decode cJ12_next 1 = .ok (.invokevirtual 31, 3) := dk_182 0 31 (dk_at dksJ12_next_0 1 rfl rfl)
theorem dJ12_next_4 : decode cJ12_next 4 = .ok (.aload_n 0, 1) := dk_42 (dk_at dksJ12_next_0 4 rfl rfl)
theorem dJ12_next_5 : decode cJ12_next 5 = .ok (.getfield 25, 3) := dk_180 0 25 (dk_at dksJ12_next_0 5 rfl rfl)
theorem dJ12_next_8 : decode cJ12_next 8 = .ok (.istore_n 1, 1) := dk_60 (dk_at dksJ12_next_0 8 rfl rfl)
theorem dJ12_next_9 : decode cJ12_next 9 = .ok (.iload_n 1, 1) := dk_27 (dk_at dksJ12_next_0 9 rfl rfl)
theorem dJ12_next_10 : decode cJ12_next 10 = .ok (.aload_n 0, 1) := dk_42 (dk_at dksJ12_next_0 10 rfl rfl)
theorem dJ12_next_11 : decode cJ12_next 11 = .ok (.getfield 1, 3) := dk_180 0 1 (dk_at dksJ12_next_0 11 rfl rfl)
theorem dJ12_next_14 : decode cJ12_next 14 = .ok (.getfield 28, 3) := dk_180 0 28 (dk_at dksJ12_next_0 14 rfl rfl)
theorem dJ12_next_17 : decode cJ12_next 17 = .ok (.if_icmp .lt 11, 3) := dk_161 0 11 (dk_at dksJ12_next_0 17 rfl rfl)
theorem dJ12_next_20 : decode cJ12_next 20 = .ok (.new 34, 3) := dk_187 0 34 (dk_at dksJ12_next_0 20 rfl rfl)
theorem dJ12_next_23 : decode cJ12_next 23 = .ok (.dup, 1) := dk_89 (dk_at dksJ12_next_0 23 rfl rfl)
theorem dJ12_next_24 : decode cJ12_next 24 = .ok (.invokespecial 36, 3) := dk_183 0 36 (dk_at dksJ12_next_1 0 rfl rfl)
theorem dJ12_next_27 : decode cJ12_next 27 = .ok (.athrow, 1) := dk_191 (dk_at dksJ12_next_1 3 rfl rfl)
theorem dJ12_next_28 : decode cJ12_next 28 = .ok (.aload_n 0, 1) := dk_42 (dk_at dksJ12_next_1 4 rfl rfl)
theorem dJ12_next_29 : decode cJ12_next 29 = .ok (.getfield 1, 3) := dk_180 0 1 (dk_at dksJ12_next_1 5 rfl rfl)
theorem dJ12_next_32 : decode cJ12_next 32 = .ok (.getfield 37, 3) := dk_180 0 37 (dk_at dksJ12_next_1 8 rfl rfl)
theorem dJ12_next_35 : decode cJ12_next 35 = .ok (.astore_n 2, 1) := dk_77 (dk_at dksJ12_next_1 11 rfl rfl)
theorem dJ12_next_36 : decode cJ12_next 36 = .ok (.iload_n 1, 1) := dk_27 (dk_at dksJ12_next_1 12 rfl rfl)
theorem dJ12_next_37 : decode cJ12_next 37 = .ok (.aload_n 2, 1) := dk_44 (dk_at dksJ12_next_1 13 rfl rfl)
theorem dJ12_next_38 : decode cJ12_next 38 = .ok (.arraylength, 1) := dk_190 (dk_at dksJ12_next_1 14 rfl rfl)
theorem dJ12_next_39 : decode cJ12_next 39 = .ok (.if_icmp .lt 11, 3) := dk_161 0 11 (dk_at dksJ12_next_1 15 rfl rfl)
theorem dJ12_next_42 : decode cJ12_next 42 = .ok (.new 41, 3) := dk_187 0 41 (dk_at dksJ12_next_1 18 rfl rfl)
theorem dJ12_next_45 : decode cJ12_next 45 = .ok (.dup, 1) := dk_89 (dk_at dksJ12_next_1 21 rfl rfl)
theorem dJ12_next_46 : decode cJ12_next 46 = .ok (.invokespecial 43, 3) := dk_183 0 43 (dk_at dksJ12_next_2 0 rfl rfl)
theorem dJ12_next_49 : decode cJ12_next 49 = .ok (.athrow, 1) := dk_191 (dk_at dksJ12_next_2 3 rfl rfl)
theorem dJ12_next_50 : decode cJ12_next 50 = .ok (.aload_n 0, 1) := dk_42 (dk_at dksJ12_next_2 4 rfl rfl)
theorem dJ12_next_51 : decode cJ12_next 51 = .ok (.iload_n 1, 1) := dk_27 (dk_at dksJ12_next_2 5 rfl rfl)
theorem dJ12_next_52 : decode cJ12_next 52 = .ok (.iconst 1, 1) := dk_4 (dk_at dksJ12_next_2 6 rfl rfl)
theorem dJ12_next_53 : decode cJ12_next 53 = .ok (.iadd, 1) := dk_96 (dk_at dksJ12_next_2 7 rfl rfl)
theorem dJ12_next_54 : decode cJ12_next 54 = .ok (.putfield 25, 3) := dk_181 0 25 (dk_at dksJ12_next_2 8 rfl rfl)
theorem dJ12_next_57 : decode cJ12_next 57 = .ok (.aload_n 2, 1) := dk_44 (dk_at dksJ12_next_2 11 rfl rfl)
theorem dJ12_next_58 : decode cJ12_next 58 = .ok (.aload_n 0, 1) := dk_42 (dk_at dksJ12_next_2 12 rfl rfl)
theorem dJ12_next_59 : decode cJ12_next 59 = .ok (.iload_n 1, 1) := dk_27 (dk_at dksJ12_next_2 13 rfl rfl)
theorem dJ12_next_60 : decode cJ12_next 60 = .ok (.dup_x1, 1) := dk_90 (dk_at dksJ12_next_2 14 rfl rfl)
theorem dJ12_next_61 : decode cJ12_next 61 = .ok (.putfield 13, 3) := dk_181 0 13 (dk_at dksJ12_next_2 15 rfl rfl)
theorem dJ12_next_64 : decode cJ12_next 64 = .ok (.aaload, 1) := dk_50 (dk_at dksJ12_next_2 18 rfl rfl)
theorem dJ12_next_65 : decode cJ12_next 65 = .ok (.areturn, 1) := dk_176 (dk_at dksJ12_next_2 19 rfl rfl)
abbrev cJ12_checkForComodification : ByteArray := prog_66_method_6_code
def yJ12_checkForComodification : MethodName := ⟨RJ12, "checkForComodification", "()V"⟩
def dkwJ12_checkForComodification_0 : List UInt8 := [42, 180, 0, 1, 180, 0, 17, 42, 180, 0, 22, 159, 0, 11, 187, 0, 41, 89, 183, 0, 43, 191, 177]
abbrev dktJ12_checkForComodification_0 : List UInt8 := dkwJ12_checkForComodification_0 ++ []
theorem dksJ12_checkForComodification_0 : cJ12_checkForComodification.data.toList.drop 0 = dktJ12_checkForComodification_0 := by decide +kernel
theorem dJ12_checkForComodification_0 : decode cJ12_checkForComodification 0 = .ok (.aload_n 0, 1) := dk_42 (dk_at dksJ12_checkForComodification_0 0 rfl rfl)
theorem dJ12_checkForComodification_1 : decode cJ12_checkForComodification 1 = .ok (.getfield 1, 3) := dk_180 0 1 (dk_at dksJ12_checkForComodification_0 1 rfl rfl)
theorem dJ12_checkForComodification_4 : decode cJ12_checkForComodification 4 = .ok (.getfield 17, 3) := dk_180 0 17 (dk_at dksJ12_checkForComodification_0 4 rfl rfl)
theorem dJ12_checkForComodification_7 : decode cJ12_checkForComodification 7 = .ok (.aload_n 0, 1) := dk_42 (dk_at dksJ12_checkForComodification_0 7 rfl rfl)
theorem dJ12_checkForComodification_8 : decode cJ12_checkForComodification 8 = .ok (.getfield 22, 3) := dk_180 0 22 (dk_at dksJ12_checkForComodification_0 8 rfl rfl)
theorem dJ12_checkForComodification_11 : decode cJ12_checkForComodification 11 = .ok (.if_icmp .eq 11, 3) := dk_159 0 11 (dk_at dksJ12_checkForComodification_0 11 rfl rfl)
theorem dJ12_checkForComodification_14 : decode cJ12_checkForComodification 14 = .ok (.new 41, 3) := dk_187 0 41 (dk_at dksJ12_checkForComodification_0 14 rfl rfl)
theorem dJ12_checkForComodification_17 : decode cJ12_checkForComodification 17 = .ok (.dup, 1) := dk_89 (dk_at dksJ12_checkForComodification_0 17 rfl rfl)
theorem dJ12_checkForComodification_18 : decode cJ12_checkForComodification 18 = .ok (.invokespecial 43, 3) := dk_183 0 43 (dk_at dksJ12_checkForComodification_0 18 rfl rfl)
theorem dJ12_checkForComodification_21 : decode cJ12_checkForComodification 21 = .ok (.athrow, 1) := dk_191 (dk_at dksJ12_checkForComodification_0 21 rfl rfl)
theorem dJ12_checkForComodification_22 : decode cJ12_checkForComodification 22 = .ok (.return_, 1) := dk_177 (dk_at dksJ12_checkForComodification_0 22 rfl rfl)
abbrev cJ12_remove : ByteArray := prog_66_method_4_code
def yJ12_remove : MethodName := ⟨RJ12, "remove", "()V"⟩
def dkwJ12_remove_2 : List UInt8 := [180, 0, 1, 180, 0, 17, 181, 0, 22, 167, 0, 12, 76, 187, 0, 41, 89, 183, 0, 43, 191, 177]
abbrev dktJ12_remove_2 : List UInt8 := dkwJ12_remove_2 ++ []
def dkwJ12_remove_1 : List UInt8 := [180, 0, 13, 182, 0, 47, 87, 42, 42, 180, 0, 13, 181, 0, 25, 42, 2, 181, 0, 13, 42, 42]
abbrev dktJ12_remove_1 : List UInt8 := dkwJ12_remove_1 ++ dktJ12_remove_2
def dkwJ12_remove_0 : List UInt8 := [42, 180, 0, 13, 156, 0, 11, 187, 0, 44, 89, 183, 0, 46, 191, 42, 182, 0, 31, 42, 180, 0, 1, 42]
abbrev dktJ12_remove_0 : List UInt8 := dkwJ12_remove_0 ++ dktJ12_remove_1
theorem dksJ12_remove_0 : cJ12_remove.data.toList.drop 0 = dktJ12_remove_0 := by decide +kernel
theorem dksJ12_remove_1 : cJ12_remove.data.toList.drop 24 = dktJ12_remove_1 := dk_seg dksJ12_remove_0 24 rfl rfl
theorem dksJ12_remove_2 : cJ12_remove.data.toList.drop 46 = dktJ12_remove_2 := dk_seg dksJ12_remove_1 22 rfl rfl
theorem dJ12_remove_0 : decode cJ12_remove 0 = .ok (.aload_n 0, 1) := dk_42 (dk_at dksJ12_remove_0 0 rfl rfl)
theorem dJ12_remove_1 : decode cJ12_remove 1 = .ok (.getfield 13, 3) := dk_180 0 13 (dk_at dksJ12_remove_0 1 rfl rfl)
theorem dJ12_remove_4 : decode cJ12_remove 4 = .ok (.ifCond .ge 11, 3) := dk_156 0 11 (dk_at dksJ12_remove_0 4 rfl rfl)
theorem dJ12_remove_7 : decode cJ12_remove 7 = .ok (.new 44, 3) := dk_187 0 44 (dk_at dksJ12_remove_0 7 rfl rfl)
theorem dJ12_remove_10 : decode cJ12_remove 10 = .ok (.dup, 1) := dk_89 (dk_at dksJ12_remove_0 10 rfl rfl)
theorem dJ12_remove_11 : decode cJ12_remove 11 = .ok (.invokespecial 46, 3) := dk_183 0 46 (dk_at dksJ12_remove_0 11 rfl rfl)
theorem dJ12_remove_14 : decode cJ12_remove 14 = .ok (.athrow, 1) := dk_191 (dk_at dksJ12_remove_0 14 rfl rfl)
theorem dJ12_remove_15 : decode cJ12_remove 15 = .ok (.aload_n 0, 1) := dk_42 (dk_at dksJ12_remove_0 15 rfl rfl)
theorem dJ12_remove_16 : decode cJ12_remove 16 = .ok (.invokevirtual 31, 3) := dk_182 0 31 (dk_at dksJ12_remove_0 16 rfl rfl)
theorem dJ12_remove_19 : decode cJ12_remove 19 = .ok (.aload_n 0, 1) := dk_42 (dk_at dksJ12_remove_0 19 rfl rfl)
theorem dJ12_remove_20 : decode cJ12_remove 20 = .ok (.getfield 1, 3) := dk_180 0 1 (dk_at dksJ12_remove_0 20 rfl rfl)
theorem dJ12_remove_23 : decode cJ12_remove 23 = .ok (.aload_n 0, 1) := dk_42 (dk_at dksJ12_remove_0 23 rfl rfl)
theorem dJ12_remove_24 : decode cJ12_remove 24 = .ok (.getfield 13, 3) := dk_180 0 13 (dk_at dksJ12_remove_1 0 rfl rfl)
theorem dJ12_remove_27 : decode cJ12_remove 27 = .ok (.invokevirtual 47, 3) := dk_182 0 47 (dk_at dksJ12_remove_1 3 rfl rfl)
theorem dJ12_remove_30 : decode cJ12_remove 30 = .ok (.pop, 1) := dk_87 (dk_at dksJ12_remove_1 6 rfl rfl)
theorem dJ12_remove_31 : decode cJ12_remove 31 = .ok (.aload_n 0, 1) := dk_42 (dk_at dksJ12_remove_1 7 rfl rfl)
theorem dJ12_remove_32 : decode cJ12_remove 32 = .ok (.aload_n 0, 1) := dk_42 (dk_at dksJ12_remove_1 8 rfl rfl)
theorem dJ12_remove_33 : decode cJ12_remove 33 = .ok (.getfield 13, 3) := dk_180 0 13 (dk_at dksJ12_remove_1 9 rfl rfl)
theorem dJ12_remove_36 : decode cJ12_remove 36 = .ok (.putfield 25, 3) := dk_181 0 25 (dk_at dksJ12_remove_1 12 rfl rfl)
theorem dJ12_remove_39 : decode cJ12_remove 39 = .ok (.aload_n 0, 1) := dk_42 (dk_at dksJ12_remove_1 15 rfl rfl)
theorem dJ12_remove_40 : decode cJ12_remove 40 = .ok (.iconst (-1), 1) := dk_2 (dk_at dksJ12_remove_1 16 rfl rfl)
theorem dJ12_remove_41 : decode cJ12_remove 41 = .ok (.putfield 13, 3) := dk_181 0 13 (dk_at dksJ12_remove_1 17 rfl rfl)
theorem dJ12_remove_44 : decode cJ12_remove 44 = .ok (.aload_n 0, 1) := dk_42 (dk_at dksJ12_remove_1 20 rfl rfl)
theorem dJ12_remove_45 : decode cJ12_remove 45 = .ok (.aload_n 0, 1) := dk_42 (dk_at dksJ12_remove_1 21 rfl rfl)
theorem dJ12_remove_46 : decode cJ12_remove 46 = .ok (.getfield 1, 3) := dk_180 0 1 (dk_at dksJ12_remove_2 0 rfl rfl)
theorem dJ12_remove_49 : decode cJ12_remove 49 = .ok (.getfield 17, 3) := dk_180 0 17 (dk_at dksJ12_remove_2 3 rfl rfl)
theorem dJ12_remove_52 : decode cJ12_remove 52 = .ok (.putfield 22, 3) := dk_181 0 22 (dk_at dksJ12_remove_2 6 rfl rfl)
theorem dJ12_remove_55 : decode cJ12_remove 55 = .ok (.goto 12, 3) := dk_167 0 12 (dk_at dksJ12_remove_2 9 rfl rfl)
theorem dJ12_remove_58 : decode cJ12_remove 58 = .ok (.astore_n 1, 1) := dk_76 (dk_at dksJ12_remove_2 12 rfl rfl)
theorem dJ12_remove_59 : decode cJ12_remove 59 = .ok (.new 41, 3) := dk_187 0 41 (dk_at dksJ12_remove_2 13 rfl rfl)
theorem dJ12_remove_62 : decode cJ12_remove 62 = .ok (.dup, 1) := dk_89 (dk_at dksJ12_remove_2 16 rfl rfl)
theorem dJ12_remove_63 : decode cJ12_remove 63 = .ok (.invokespecial 43, 3) := dk_183 0 43 (dk_at dksJ12_remove_2 17 rfl rfl)
theorem dJ12_remove_66 : decode cJ12_remove 66 = .ok (.athrow, 1) := dk_191 (dk_at dksJ12_remove_2 20 rfl rfl)
theorem dJ12_remove_67 : decode cJ12_remove 67 = .ok (.return_, 1) := dk_177 (dk_at dksJ12_remove_2 21 rfl rfl)
theorem q108 : (Jvm.Cond.initialized "java/util/ArrayList$Itr") ∈ lw_all := lw_g (lw_at lw_m1 25 rfl) rfl
theorem q193 : (Jvm.Cond.fieldLink "java/util/ArrayList$Itr" (37 : Nat) "java/util/ArrayList" "elementData" "[Ljava/lang/Object;") ∈ lw_all := lw_g (lw_at lw_m1 110 rfl) rfl
theorem q194 : (Jvm.Cond.fieldLinkNest "java/util/ArrayList$Itr" (28 : Nat) "java/util/ArrayList" "size" "I" "java/util/ArrayList") ∈ lw_tbl := lw_at lw_m1 111 rfl
theorem q199 : (Jvm.Cond.fieldLink "java/util/ArrayList$Itr" (17 : Nat) "java/util/ArrayList" "modCount" "I") ∈ lw_all := lw_g (lw_at lw_m1 116 rfl) rfl
theorem q581 : (Jvm.Cond.selects "java/util/ArrayList$Itr" ({ cls := "java/lang/Object", name := "getClass", desc := "()Ljava/lang/Class;" } : Jvm.MethodName) ({ cls := "java/lang/Object", name := "getClass", desc := "()Ljava/lang/Class;" } : Jvm.MethodName)) ∈ lw_all := lw_g (lw_at lw_m3 18 rfl) rfl
theorem q673 : (Jvm.Cond.instanceMethod ({ cls := "java/util/ArrayList$Itr", name := "<init>", desc := "(Ljava/util/ArrayList;)V" } : Jvm.MethodName)) ∈ lw_all := lw_g (lw_at lw_m3 110 rfl) rfl
theorem q674 : (Jvm.Cond.code ({ cls := "java/util/ArrayList$Itr", name := "<init>", desc := "(Ljava/util/ArrayList;)V" } : Jvm.MethodName) prog_66_method_1_code (2 : Nat) (Option.none : Option Jvm.ClassFile.FieldType)) ∈ lw_all := lw_g (lw_at lw_m3 111 rfl) rfl
theorem q675 : (Jvm.Cond.methodLink "java/util/ArrayList$Itr" (7 : Nat) ({ cls := "java/lang/Object", name := "<init>", desc := "()V" } : Jvm.MethodName)) ∈ lw_all := lw_g (lw_at lw_m3 112 rfl) rfl
theorem q679 : (Jvm.Cond.fieldLink "java/util/ArrayList$Itr" (25 : Nat) "java/util/ArrayList$Itr" "cursor" "I") ∈ lw_all := lw_g (lw_at lw_m3 116 rfl) rfl
theorem q680 : (Jvm.Cond.fieldLink "java/util/ArrayList$Itr" (13 : Nat) "java/util/ArrayList$Itr" "lastRet" "I") ∈ lw_all := lw_g (lw_at lw_m3 117 rfl) rfl
theorem q681 : (Jvm.Cond.fieldLink "java/util/ArrayList$Itr" (22 : Nat) "java/util/ArrayList$Itr" "expectedModCount" "I") ∈ lw_all := lw_g (lw_at lw_m3 118 rfl) rfl
theorem q682 : (Jvm.Cond.fieldLink "java/util/ArrayList$Itr" (1 : Nat) "java/util/ArrayList$Itr" "this$0" "Ljava/util/ArrayList;") ∈ lw_all := lw_g (lw_at lw_m3 119 rfl) rfl
theorem q686 : (Jvm.Cond.soleField "java/util/ArrayList$Itr" "cursor") ∈ lw_all := lw_g (lw_at lw_m3 123 rfl) rfl
theorem q688 : (Jvm.Cond.soleField "java/util/ArrayList$Itr" "lastRet") ∈ lw_all := lw_g (lw_at lw_m3 125 rfl) rfl
theorem q690 : (Jvm.Cond.soleField "java/util/ArrayList$Itr" "expectedModCount") ∈ lw_all := lw_g (lw_at lw_m3 127 rfl) rfl
theorem q692 : (Jvm.Cond.soleField "java/util/ArrayList$Itr" "this$0") ∈ lw_all := lw_g (lw_at lw_m3 129 rfl) rfl
theorem q755 : (Jvm.Cond.castable "java/util/ArrayList$Itr" "java/util/Iterator") ∈ lw_tbl := lw_at lw_m3 192 rfl
theorem q756 : (Jvm.Cond.selects "java/util/ArrayList$Itr" ({ cls := "java/util/Iterator", name := "hasNext", desc := "()Z" } : Jvm.MethodName) ({ cls := "java/util/ArrayList$Itr", name := "hasNext", desc := "()Z" } : Jvm.MethodName)) ∈ lw_all := lw_g (lw_at lw_m3 193 rfl) rfl
theorem q757 : (Jvm.Cond.unhidden "java/util/ArrayList$Itr" "hasNext" "()Z") ∈ lw_tbl := lw_at lw_m3 194 rfl
theorem q758 : (Jvm.Cond.instanceMethod ({ cls := "java/util/ArrayList$Itr", name := "hasNext", desc := "()Z" } : Jvm.MethodName)) ∈ lw_all := lw_g (lw_at lw_m3 195 rfl) rfl
theorem q759 : (Jvm.Cond.publicMethod ({ cls := "java/util/ArrayList$Itr", name := "hasNext", desc := "()Z" } : Jvm.MethodName)) ∈ lw_tbl := lw_at lw_m3 196 rfl
theorem q760 : (Jvm.Cond.code ({ cls := "java/util/ArrayList$Itr", name := "hasNext", desc := "()Z" } : Jvm.MethodName) prog_66_method_2_code (1 : Nat) (Option.some Jvm.ClassFile.FieldType.boolean)) ∈ lw_all := lw_g (lw_at lw_m3 197 rfl) rfl
theorem q1121 : (Jvm.Cond.selects "java/util/ArrayList$Itr" ({ cls := "java/util/Iterator", name := "next", desc := "()Ljava/lang/Object;" } : Jvm.MethodName) ({ cls := "java/util/ArrayList$Itr", name := "next", desc := "()Ljava/lang/Object;" } : Jvm.MethodName)) ∈ lw_all := lw_g (lw_at lw_m5 78 rfl) rfl
theorem q1122 : (Jvm.Cond.unhidden "java/util/ArrayList$Itr" "next" "()Ljava/lang/Object;") ∈ lw_tbl := lw_at lw_m5 79 rfl
theorem q1123 : (Jvm.Cond.instanceMethod ({ cls := "java/util/ArrayList$Itr", name := "next", desc := "()Ljava/lang/Object;" } : Jvm.MethodName)) ∈ lw_all := lw_g (lw_at lw_m5 80 rfl) rfl
theorem q1124 : (Jvm.Cond.publicMethod ({ cls := "java/util/ArrayList$Itr", name := "next", desc := "()Ljava/lang/Object;" } : Jvm.MethodName)) ∈ lw_tbl := lw_at lw_m5 81 rfl
theorem q1125 : (Jvm.Cond.code ({ cls := "java/util/ArrayList$Itr", name := "next", desc := "()Ljava/lang/Object;" } : Jvm.MethodName) prog_66_method_3_code (3 : Nat) (Option.some (Jvm.ClassFile.FieldType.object "java/lang/Object"))) ∈ lw_all := lw_g (lw_at lw_m5 82 rfl) rfl
theorem q1126 : (Jvm.Cond.methodLink "java/util/ArrayList$Itr" (31 : Nat) ({ cls := "java/util/ArrayList$Itr", name := "checkForComodification", desc := "()V" } : Jvm.MethodName)) ∈ lw_all := lw_g (lw_at lw_m5 83 rfl) rfl
theorem q1127 : (Jvm.Cond.instanceMethod ({ cls := "java/util/ArrayList$Itr", name := "checkForComodification", desc := "()V" } : Jvm.MethodName)) ∈ lw_all := lw_g (lw_at lw_m5 84 rfl) rfl
theorem q1128 : (Jvm.Cond.selects "java/util/ArrayList$Itr" ({ cls := "java/util/ArrayList$Itr", name := "checkForComodification", desc := "()V" } : Jvm.MethodName) ({ cls := "java/util/ArrayList$Itr", name := "checkForComodification", desc := "()V" } : Jvm.MethodName)) ∈ lw_all := lw_g (lw_at lw_m5 85 rfl) rfl
theorem q1129 : (Jvm.Cond.sameMethod "java/util/ArrayList$Itr" "java/util/ArrayList$Itr" "checkForComodification" "()V") ∈ lw_all := lw_g (lw_at lw_m5 86 rfl) rfl
theorem q1131 : (Jvm.Cond.code ({ cls := "java/util/ArrayList$Itr", name := "checkForComodification", desc := "()V" } : Jvm.MethodName) prog_66_method_6_code (1 : Nat) (Option.none : Option Jvm.ClassFile.FieldType)) ∈ lw_all := lw_g (lw_at lw_m5 88 rfl) rfl
theorem q1443 : (Jvm.Cond.selects "java/util/ArrayList$Itr" ({ cls := "java/util/Iterator", name := "remove", desc := "()V" } : Jvm.MethodName) ({ cls := "java/util/ArrayList$Itr", name := "remove", desc := "()V" } : Jvm.MethodName)) ∈ lw_all := lw_g (lw_at lw_m6 160 rfl) rfl
theorem q1444 : (Jvm.Cond.unhidden "java/util/ArrayList$Itr" "remove" "()V") ∈ lw_tbl := lw_at lw_m6 161 rfl
theorem q1445 : (Jvm.Cond.instanceMethod ({ cls := "java/util/ArrayList$Itr", name := "remove", desc := "()V" } : Jvm.MethodName)) ∈ lw_all := lw_g (lw_at lw_m6 162 rfl) rfl
theorem q1446 : (Jvm.Cond.publicMethod ({ cls := "java/util/ArrayList$Itr", name := "remove", desc := "()V" } : Jvm.MethodName)) ∈ lw_tbl := lw_at lw_m6 163 rfl
theorem q1447 : (Jvm.Cond.codeWith ({ cls := "java/util/ArrayList$Itr", name := "remove", desc := "()V" } : Jvm.MethodName) prog_66_method_4_code (2 : Nat) (Option.none : Option Jvm.ClassFile.FieldType) [((19 : Nat), (55 : Nat), (58 : Nat), (51 : Nat))]) ∈ lw_all := lw_g (lw_at lw_m6 164 rfl) rfl
theorem q1448 : (Jvm.Cond.classLink "java/util/ArrayList$Itr" (44 : Nat) "java/lang/IllegalStateException") ∈ lw_all := lw_g (lw_at lw_m6 165 rfl) rfl
theorem q1449 : (Jvm.Cond.methodLink "java/util/ArrayList$Itr" (46 : Nat) ({ cls := "java/lang/IllegalStateException", name := "<init>", desc := "()V" } : Jvm.MethodName)) ∈ lw_all := lw_g (lw_at lw_m6 166 rfl) rfl
theorem q1450 : (Jvm.Cond.methodLink "java/util/ArrayList$Itr" (47 : Nat) ({ cls := "java/util/ArrayList", name := "remove", desc := "(I)Ljava/lang/Object;" } : Jvm.MethodName)) ∈ lw_all := lw_g (lw_at lw_m6 167 rfl) rfl
theorem q1451 : (Jvm.Cond.classLink "java/util/ArrayList$Itr" (41 : Nat) "java/util/ConcurrentModificationException") ∈ lw_all := lw_g (lw_at lw_m6 168 rfl) rfl
theorem q1452 : (Jvm.Cond.methodLink "java/util/ArrayList$Itr" (43 : Nat) ({ cls := "java/util/ConcurrentModificationException", name := "<init>", desc := "()V" } : Jvm.MethodName)) ∈ lw_all := lw_g (lw_at lw_m6 169 rfl) rfl
theorem q1497 : (Jvm.Cond.instantiable "java/util/ArrayList$Itr" (4 : Nat)) ∈ lw_all := lw_g (lw_at lw_m6 214 rfl) rfl
theorem q1499 : (Jvm.Cond.lays "java/util/ArrayList$Itr" "java/util/ArrayList$Itr" "cursor" "I") ∈ lw_all := lw_g (lw_at lw_m6 216 rfl) rfl
theorem q1500 : (Jvm.Cond.lays "java/util/ArrayList$Itr" "java/util/ArrayList$Itr" "lastRet" "I") ∈ lw_all := lw_g (lw_at lw_m6 217 rfl) rfl
theorem q1501 : (Jvm.Cond.lays "java/util/ArrayList$Itr" "java/util/ArrayList$Itr" "expectedModCount" "I") ∈ lw_all := lw_g (lw_at lw_m6 218 rfl) rfl
theorem q1502 : (Jvm.Cond.laysFinal "java/util/ArrayList$Itr" "java/util/ArrayList$Itr" "this$0" "Ljava/util/ArrayList;") ∈ lw_all := lw_g (lw_at lw_m6 219 rfl) rfl
theorem q1503 : (Jvm.Cond.superclass "java/util/ArrayList$Itr" "java/lang/Object") ∈ lw_all := lw_g (lw_at lw_m6 220 rfl) rfl
theorem q3088 : (Jvm.Cond.castable "java/util/ArrayList$Itr" "java/lang/Object") ∈ lw_tbl := lw_at lw_m13 125 rfl
theorem in_J12 : ∀ w ∈ wsJ120, w ∈ lw_all := lw_in wsJ120 [1499, 1500, 1501, 1502] (by decide +kernel) (by decide +kernel)

/-! java/util/ArrayList$ListItr -/
set_option maxRecDepth 100000
def RJ13 : String := "java/util/ArrayList$ListItr"
def TJ13 : u_T := fun k => match k with
  | 0 => ("java/util/ArrayList$Itr", "cursor", "I", false)
  | 1 => ("java/util/ArrayList$Itr", "lastRet", "I", false)
  | 2 => ("java/util/ArrayList$Itr", "expectedModCount", "I", false)
  | 3 => ("java/util/ArrayList$Itr", "this$0", "Ljava/util/ArrayList;", true)
  | _ => ("java/util/ArrayList$ListItr", "this$0", "Ljava/util/ArrayList;", true)
def tyJ13 : Nat → FieldType := fun k => match k with
  | 0 => .int
  | 1 => .int
  | 2 => .int
  | 3 => .object "java/util/ArrayList"
  | _ => .object "java/util/ArrayList"
abbrev wsJ130 : List Cond := u_ws RJ13 TJ13 5
-- two fields of one name: no nmJ13
theorem tyJ13_ok : ∀ k, k < 5 → parseFieldDescriptor (TJ13 k).2.2.1 = some (tyJ13 k) := by decide +kernel
abbrev cJ13_init : ByteArray := prog_67_method_1_code
def yJ13_init : MethodName := ⟨RJ13, "<init>", "(Ljava/util/ArrayList;I)V"⟩
def dkwJ13_init_0 : List UInt8 := [42, 43, 181, 0, 1, 42, 43, 183, 0, 7, 42, 28, 181, 0, 13, 177]
abbrev dktJ13_init_0 : List UInt8 := dkwJ13_init_0 ++ []
theorem dksJ13_init_0 : cJ13_init.data.toList.drop 0 = dktJ13_init_0 := by decide +kernel
theorem dJ13_init_0 : decode cJ13_init 0 = .ok (.aload_n 0, 1) := dk_42 (dk_at dksJ13_init_0 0 rfl rfl)
theorem dJ13_init_1 : decode cJ13_init 1 = .ok (.aload_n 1, 1) := dk_43 (dk_at dksJ13_init_0 1 rfl rfl)
theorem dJ13_init_2 : decode cJ13_init 2 = .ok (.putfield 1, 3) := dk_181 0 1 (dk_at dksJ13_init_0 2 rfl rfl)
theorem dJ13_init_5 : decode cJ13_init 5 = .ok (.aload_n 0, 1) := dk_42 (dk_at dksJ13_init_0 5 rfl rfl)
theorem dJ13_init_6 : decode cJ13_init 6 = .ok (.aload_n 1, 1) := dk_43 (dk_at dksJ13_init_0 6 rfl rfl)
theorem dJ13_init_7 : decode cJ13_init 7 = .ok (.invokespecial 7, 3) := dk_183 0 7 (dk_at dksJ13_init_0 7 rfl rfl)
theorem dJ13_init_10 : decode cJ13_init 10 = .ok (.aload_n 0, 1) := dk_42 (dk_at dksJ13_init_0 10 rfl rfl)
theorem dJ13_init_11 : decode cJ13_init 11 = .ok (.iload_n 2, 1) := dk_28 (dk_at dksJ13_init_0 11 rfl rfl)
theorem dJ13_init_12 : decode cJ13_init 12 = .ok (.putfield 13, 3) := dk_181 0 13 (dk_at dksJ13_init_0 12 rfl rfl)
theorem dJ13_init_15 : decode cJ13_init 15 = .ok (.return_, 1) := dk_177 (dk_at dksJ13_init_0 15 rfl rfl)
theorem q109 : (Jvm.Cond.initialized "java/util/ArrayList$ListItr") ∈ lw_all := lw_g (lw_at lw_m1 26 rfl) rfl
theorem q582 : (Jvm.Cond.selects "java/util/ArrayList$ListItr" ({ cls := "java/lang/Object", name := "getClass", desc := "()Ljava/lang/Class;" } : Jvm.MethodName) ({ cls := "java/lang/Object", name := "getClass", desc := "()Ljava/lang/Class;" } : Jvm.MethodName)) ∈ lw_all := lw_g (lw_at lw_m3 19 rfl) rfl
theorem q668 : (Jvm.Cond.instantiable "java/util/ArrayList$ListItr" (5 : Nat)) ∈ lw_all := lw_g (lw_at lw_m3 105 rfl) rfl
theorem q670 : (Jvm.Cond.instanceMethod ({ cls := "java/util/ArrayList$ListItr", name := "<init>", desc := "(Ljava/util/ArrayList;I)V" } : Jvm.MethodName)) ∈ lw_all := lw_g (lw_at lw_m3 107 rfl) rfl
theorem q671 : (Jvm.Cond.code ({ cls := "java/util/ArrayList$ListItr", name := "<init>", desc := "(Ljava/util/ArrayList;I)V" } : Jvm.MethodName) prog_67_method_1_code (3 : Nat) (Option.none : Option Jvm.ClassFile.FieldType)) ∈ lw_all := lw_g (lw_at lw_m3 108 rfl) rfl
theorem q672 : (Jvm.Cond.methodLink "java/util/ArrayList$ListItr" (7 : Nat) ({ cls := "java/util/ArrayList$Itr", name := "<init>", desc := "(Ljava/util/ArrayList;)V" } : Jvm.MethodName)) ∈ lw_all := lw_g (lw_at lw_m3 109 rfl) rfl
theorem q676 : (Jvm.Cond.fieldLink "java/util/ArrayList$ListItr" (1 : Nat) "java/util/ArrayList$ListItr" "this$0" "Ljava/util/ArrayList;") ∈ lw_all := lw_g (lw_at lw_m3 113 rfl) rfl
theorem q677 : (Jvm.Cond.fieldLink "java/util/ArrayList$ListItr" (13 : Nat) "java/util/ArrayList$ListItr" "cursor" "I") ∈ lw_all := lw_g (lw_at lw_m3 114 rfl) rfl
theorem q678 : (Jvm.Cond.sameField "java/util/ArrayList$ListItr" "java/util/ArrayList$Itr" "cursor" "I") ∈ lw_all := lw_g (lw_at lw_m3 115 rfl) rfl
theorem q683 : (Jvm.Cond.laysFinal "java/util/ArrayList$ListItr" "java/util/ArrayList$ListItr" "this$0" "Ljava/util/ArrayList;") ∈ lw_all := lw_g (lw_at lw_m3 120 rfl) rfl
theorem q684 : (Jvm.Cond.soleField "java/util/ArrayList$ListItr" "this$0") ∈ lw_all := lw_g (lw_at lw_m3 121 rfl) rfl
theorem q685 : (Jvm.Cond.lays "java/util/ArrayList$ListItr" "java/util/ArrayList$Itr" "cursor" "I") ∈ lw_all := lw_g (lw_at lw_m3 122 rfl) rfl
theorem q687 : (Jvm.Cond.lays "java/util/ArrayList$ListItr" "java/util/ArrayList$Itr" "lastRet" "I") ∈ lw_all := lw_g (lw_at lw_m3 124 rfl) rfl
theorem q689 : (Jvm.Cond.lays "java/util/ArrayList$ListItr" "java/util/ArrayList$Itr" "expectedModCount" "I") ∈ lw_all := lw_g (lw_at lw_m3 126 rfl) rfl
theorem q691 : (Jvm.Cond.laysFinal "java/util/ArrayList$ListItr" "java/util/ArrayList$Itr" "this$0" "Ljava/util/ArrayList;") ∈ lw_all := lw_g (lw_at lw_m3 128 rfl) rfl
theorem q693 : (Jvm.Cond.superclass "java/util/ArrayList$ListItr" "java/util/ArrayList$Itr") ∈ lw_all := lw_g (lw_at lw_m3 130 rfl) rfl
theorem q761 : (Jvm.Cond.castable "java/util/ArrayList$ListItr" "java/util/Iterator") ∈ lw_tbl := lw_at lw_m3 198 rfl
theorem q762 : (Jvm.Cond.selects "java/util/ArrayList$ListItr" ({ cls := "java/util/Iterator", name := "hasNext", desc := "()Z" } : Jvm.MethodName) ({ cls := "java/util/ArrayList$Itr", name := "hasNext", desc := "()Z" } : Jvm.MethodName)) ∈ lw_all := lw_g (lw_at lw_m3 199 rfl) rfl
theorem q763 : (Jvm.Cond.unhidden "java/util/ArrayList$ListItr" "hasNext" "()Z") ∈ lw_tbl := lw_at lw_m3 200 rfl
theorem q1130 : (Jvm.Cond.selects "java/util/ArrayList$ListItr" ({ cls := "java/util/ArrayList$Itr", name := "checkForComodification", desc := "()V" } : Jvm.MethodName) ({ cls := "java/util/ArrayList$Itr", name := "checkForComodification", desc := "()V" } : Jvm.MethodName)) ∈ lw_all := lw_g (lw_at lw_m5 87 rfl) rfl
theorem q1132 : (Jvm.Cond.selects "java/util/ArrayList$ListItr" ({ cls := "java/util/Iterator", name := "next", desc := "()Ljava/lang/Object;" } : Jvm.MethodName) ({ cls := "java/util/ArrayList$Itr", name := "next", desc := "()Ljava/lang/Object;" } : Jvm.MethodName)) ∈ lw_all := lw_g (lw_at lw_m5 89 rfl) rfl
theorem q1133 : (Jvm.Cond.unhidden "java/util/ArrayList$ListItr" "next" "()Ljava/lang/Object;") ∈ lw_tbl := lw_at lw_m5 90 rfl
theorem q1453 : (Jvm.Cond.selects "java/util/ArrayList$ListItr" ({ cls := "java/util/Iterator", name := "remove", desc := "()V" } : Jvm.MethodName) ({ cls := "java/util/ArrayList$Itr", name := "remove", desc := "()V" } : Jvm.MethodName)) ∈ lw_all := lw_g (lw_at lw_m6 170 rfl) rfl
theorem q1454 : (Jvm.Cond.unhidden "java/util/ArrayList$ListItr" "remove" "()V") ∈ lw_tbl := lw_at lw_m6 171 rfl
theorem q3055 : (Jvm.Cond.castable "java/util/ArrayList$ListItr" "java/lang/Object") ∈ lw_tbl := lw_at lw_m13 92 rfl
theorem in_J13 : ∀ w ∈ wsJ130, w ∈ lw_all := lw_in wsJ130 [685, 687, 689, 691, 683] (by decide +kernel) (by decide +kernel)

/-! java/util/LinkedList$ListItr -/
set_option maxRecDepth 100000
def RJ14 : String := "java/util/LinkedList$ListItr"
def TJ14 : u_T := fun k => match k with
  | 0 => ("java/util/LinkedList$ListItr", "lastReturned", "Ljava/util/LinkedList$Node;", false)
  | 1 => ("java/util/LinkedList$ListItr", "next", "Ljava/util/LinkedList$Node;", false)
  | 2 => ("java/util/LinkedList$ListItr", "nextIndex", "I", false)
  | 3 => ("java/util/LinkedList$ListItr", "expectedModCount", "I", false)
  | _ => ("java/util/LinkedList$ListItr", "this$0", "Ljava/util/LinkedList;", true)
def tyJ14 : Nat → FieldType := fun k => match k with
  | 0 => .object "java/util/LinkedList$Node"
  | 1 => .object "java/util/LinkedList$Node"
  | 2 => .int
  | 3 => .int
  | _ => .object "java/util/LinkedList"
abbrev wsJ140 : List Cond := u_ws RJ14 TJ14 5
theorem nmJ14 : ∀ a, a < 5 → ∀ b, b < 5 → a ≠ b → (TJ14 a).2.1 ≠ (TJ14 b).2.1 := by decide +kernel
theorem tyJ14_ok : ∀ k, k < 5 → parseFieldDescriptor (TJ14 k).2.2.1 = some (tyJ14 k) := by decide +kernel
abbrev cJ14_init : ByteArray := prog_86_method_1_code
def yJ14_init : MethodName := ⟨RJ14, "<init>", "(Ljava/util/LinkedList;I)V"⟩
def dkwJ14_init_1 : List UInt8 := [180, 0, 22, 160, 0, 7, 1, 167, 0, 8, 43, 28, 182, 0, 25, 181, 0, 29, 42, 28, 181, 0, 33, 177]
abbrev dktJ14_init_1 : List UInt8 := dkwJ14_init_1 ++ []
def dkwJ14_init_0 : List UInt8 := [42, 43, 181, 0, 1, 42, 183, 0, 7, 42, 42, 180, 0, 1, 180, 0, 13, 181, 0, 19, 42, 28, 43]
abbrev dktJ14_init_0 : List UInt8 := dkwJ14_init_0 ++ dktJ14_init_1
theorem dksJ14_init_0 : cJ14_init.data.toList.drop 0 = dktJ14_init_0 := by decide +kernel
theorem dksJ14_init_1 : cJ14_init.data.toList.drop 23 = dktJ14_init_1 := dk_seg dksJ14_init_0 23 rfl rfl
theorem dJ14_init_0 : decode cJ14_init 0 = .ok (.aload_n 0, 1) := dk_42 (dk_at dksJ14_init_0 0 rfl rfl)
theorem dJ14_init_1 : decode cJ14_init 1 = .ok (.aload_n 1, 1) := dk_43 (dk_at dksJ14_init_0 1 rfl rfl)
theorem dJ14_init_2 : decode cJ14_init 2 = .ok (.putfield 1, 3) := dk_181 0 1 (dk_at dksJ14_init_0 2 rfl rfl)
theorem dJ14_init_5 : decode cJ14_init 5 = .ok (.aload_n 0, 1) := dk_42 (dk_at dksJ14_init_0 5 rfl rfl)
theorem dJ14_init_6 : decode cJ14_init 6 = .ok (.invokespecial 7, 3) := dk_183 0 7 (dk_at dksJ14_init_0 6 rfl rfl)
theorem dJ14_init_9 : decode cJ14_init 9 = .ok (.aload_n 0, 1) := dk_42 (dk_at dksJ14_init_0 9 rfl rfl)
theorem dJ14_init_10 : decode cJ14_init 10 = .ok (.aload_n 0, 1) := dk_42 (dk_at dksJ14_init_0 10 rfl rfl)
theorem dJ14_init_11 : decode cJ14_init 11 = .ok (.getfield 1, 3) := dk_180 0 1 (dk_at dksJ14_init_0 11 rfl rfl)
theorem dJ14_init_14 : decode cJ14_init 14 = .ok (.getfield 13, 3) := dk_180 0 13 (dk_at dksJ14_init_0 14 rfl rfl)
theorem dJ14_init_17 : decode cJ14_init 17 = .ok (.putfield 19, 3) := dk_181 0 19 (dk_at dksJ14_init_0 17 rfl rfl)
theorem dJ14_init_20 : decode cJ14_init 20 = .ok (.aload_n 0, 1) := dk_42 (dk_at dksJ14_init_0 20 rfl rfl)
theorem dJ14_init_21 : decode cJ14_init 21 = .ok (.iload_n 2, 1) := dk_28 (dk_at dksJ14_init_0 21 rfl rfl)
theorem dJ14_init_22 : decode cJ14_init 22 = .ok (.aload_n 1, 1) := dk_43 (dk_at dksJ14_init_0 22 rfl rfl)
theorem dJ14_init_23 : decode cJ14_init 23 = .ok (.getfield 22, 3) := dk_180 0 22 (dk_at dksJ14_init_1 0 rfl rfl)
theorem dJ14_init_26 : decode cJ14_init 26 = .ok (.if_icmp .ne 7, 3) := dk_160 0 7 (dk_at dksJ14_init_1 3 rfl rfl)
theorem dJ14_init_29 : decode cJ14_init 29 = .ok (.aconst_null, 1) := dk_1 (dk_at dksJ14_init_1 6 rfl rfl)
theorem dJ14_init_30 : decode cJ14_init 30 = .ok (.goto 8, 3) := dk_167 0 8 (dk_at dksJ14_init_1 7 rfl rfl)
theorem dJ14_init_33 : decode cJ14_init 33 = .ok (.aload_n 1, 1) := dk_43 (dk_at dksJ14_init_1 10 rfl rfl)
theorem dJ14_init_34 : decode cJ14_init 34 = .ok (.iload_n 2, 1) := dk_28 (dk_at dksJ14_init_1 11 rfl rfl)
theorem dJ14_init_35 : decode cJ14_init 35 = .ok (.invokevirtual 25, 3) := dk_182 0 25 (dk_at dksJ14_init_1 12 rfl rfl)
theorem dJ14_init_38 : decode cJ14_init 38 = .ok (.putfield 29, 3) := dk_181 0 29 (dk_at dksJ14_init_1 15 rfl rfl)
theorem dJ14_init_41 : decode cJ14_init 41 = .ok (.aload_n 0, 1) := dk_42 (dk_at dksJ14_init_1 18 rfl rfl)
theorem dJ14_init_42 : decode cJ14_init 42 = .ok (.iload_n 2, 1) := dk_28 (dk_at dksJ14_init_1 19 rfl rfl)
theorem dJ14_init_43 : decode cJ14_init 43 = .ok (.putfield 33, 3) := dk_181 0 33 (dk_at dksJ14_init_1 20 rfl rfl)
theorem dJ14_init_46 : decode cJ14_init 46 = .ok (.return_, 1) := dk_177 (dk_at dksJ14_init_1 23 rfl rfl)
abbrev cJ14_hasNext : ByteArray := prog_86_method_2_code
def yJ14_hasNext : MethodName := ⟨RJ14, "hasNext", "()Z"⟩
def dkwJ14_hasNext_0 : List UInt8 := [42, 180, 0, 33, 42, 180, 0, 1, 180, 0, 22, 162, 0, 7, 4, 167, 0, 4, 3, 172]
abbrev dktJ14_hasNext_0 : List UInt8 := dkwJ14_hasNext_0 ++ []
theorem dksJ14_hasNext_0 : cJ14_hasNext.data.toList.drop 0 = dktJ14_hasNext_0 := by decide +kernel
theorem dJ14_hasNext_0 : decode cJ14_hasNext 0 = .ok (.aload_n 0, 1) := dk_42 (dk_at dksJ14_hasNext_0 0 rfl rfl)
theorem dJ14_hasNext_1 : decode cJ14_hasNext 1 = .ok (.getfield 33, 3) := dk_180 0 33 (dk_at dksJ14_hasNext_0 1 rfl rfl)
theorem dJ14_hasNext_4 : decode cJ14_hasNext 4 = .ok (.aload_n 0, 1) := dk_42 (dk_at dksJ14_hasNext_0 4 rfl rfl)
theorem dJ14_hasNext_5 : decode cJ14_hasNext 5 = .ok (.getfield 1, 3) := dk_180 0 1 (dk_at dksJ14_hasNext_0 5 rfl rfl)
theorem dJ14_hasNext_8 : decode cJ14_hasNext 8 = .ok (.getfield 22, 3) := dk_180 0 22 (dk_at dksJ14_hasNext_0 8 rfl rfl)
theorem dJ14_hasNext_11 : decode cJ14_hasNext 11 = .ok (.if_icmp .ge 7, 3) := dk_162 0 7 (dk_at dksJ14_hasNext_0 11 rfl rfl)
theorem dJ14_hasNext_14 : decode cJ14_hasNext 14 = .ok (.iconst 1, 1) := dk_4 (dk_at dksJ14_hasNext_0 14 rfl rfl)
theorem dJ14_hasNext_15 : decode cJ14_hasNext 15 = .ok (.goto 4, 3) := dk_167 0 4 (dk_at dksJ14_hasNext_0 15 rfl rfl)
theorem dJ14_hasNext_18 : decode cJ14_hasNext 18 = .ok (.iconst 0, 1) := dk_3 (dk_at dksJ14_hasNext_0 18 rfl rfl)
theorem dJ14_hasNext_19 : decode cJ14_hasNext 19 = .ok (.ireturn, 1) := dk_172 (dk_at dksJ14_hasNext_0 19 rfl rfl)
abbrev cJ14_next : ByteArray := prog_86_method_3_code
def yJ14_next : MethodName := ⟨RJ14, "next", "()Ljava/lang/Object;"⟩
def dkwJ14_next_2 : List UInt8 := [42, 180, 0, 46, 180, 0, 52, 176]
abbrev dktJ14_next_2 : List UInt8 := dkwJ14_next_2 ++ []
def dkwJ14_next_1 : List UInt8 := [181, 0, 46, 42, 42, 180, 0, 29, 180, 0, 49, 181, 0, 29, 42, 89, 180, 0, 33, 4, 96, 181, 0, 33]
abbrev dktJ14_next_1 : List UInt8 := dkwJ14_next_1 ++ dktJ14_next_2
def dkwJ14_next_0 : List UInt8 := [42, 182, 0, 36, 42, 182, 0, 39, 154, 0, 11, 187, 0, 43, 89, 183, 0, 45, 191, 42, 42, 180, 0, 29]
abbrev dktJ14_next_0 : List UInt8 := dkwJ14_next_0 ++ dktJ14_next_1
theorem dksJ14_next_0 : cJ14_next.data.toList.drop 0 = dktJ14_next_0 := by decide +kernel
theorem dksJ14_next_1 : cJ14_next.data.toList.drop 24 = dktJ14_next_1 := dk_seg dksJ14_next_0 24 rfl rfl
theorem dksJ14_next_2 : cJ14_next.data.toList.drop 48 = dktJ14_next_2 := dk_seg dksJ14_next_1 24 rfl rfl
theorem dJ14_next_0 : decode cJ14_next 0 = .ok (.aload_n 0, 1) := dk_42 (dk_at dksJ14_next_0 0 rfl rfl)
theorem dJ14_next_1 : decode cJ14_next 1 = .ok (.invokevirtual 36, 3) := dk_182 0 36 (dk_at dksJ14_next_0 1 rfl rfl)
theorem dJ14_next_4 : decode cJ14_next 4 = .ok (.aload_n 0, 1) := dk_42 (dk_at dksJ14_next_0 4 rfl rfl)
theorem dJ14_next_5 : decode cJ14_next 5 = .ok (.invokevirtual 39, 3) := dk_182 0 39 (dk_at dksJ14_next_0 5 rfl rfl)
theorem dJ14_next_8 : decode cJ14_next 8 = .ok (.ifCond .ne 11, 3) := dk_154 0 11 (dk_at dksJ14_next_0 8 rfl rfl)
theorem dJ14_next_11 : decode cJ14_next 11 = .ok (.new 43, 3) := dk_187 0 43 (dk_at dksJ14_next_0 11 rfl rfl)
theorem dJ14_next_14 : decode cJ14_next 14 = .ok (.dup, 1) := dk_89 (dk_at dksJ14_next_0 14 rfl rfl)
theorem dJ14_next_15 : decode cJ14_next 15 = .ok (.invokespecial 45, 3) := dk_183 0 45 (dk_at dksJ14_next_0 15 rfl rfl)
theorem dJ14_next_18 : decode cJ14_next 18 = .ok (.athrow, 1) := dk_191 (dk_at dksJ14_next_0 18 rfl rfl)
theorem dJ14_next_19 : decode cJ14_next 19 = .ok (.aload_n 0, 1) := dk_42 (dk_at dksJ14_next_0 19 rfl rfl)
theorem dJ14_next_20 : decode cJ14_next 20 = .ok (.aload_n 0, 1) := dk_42 (dk_at dksJ14_next_0 20 rfl rfl)
theorem dJ14_next_21 : decode cJ14_next 21 = .ok (.getfield 29, 3) := dk_180 0 29 (dk_at dksJ14_next_0 21 rfl rfl)
theorem dJ14_next_24 : decode cJ14_next 24 = .ok (.putfield 46, 3) := dk_181 0 46 (dk_at dksJ14_next_1 0 rfl rfl)
theorem dJ14_next_27 : decode cJ14_next 27 = .ok (.aload_n 0, 1) := dk_42 (dk_at dksJ14_next_1 3 rfl rfl)
theorem dJ14_next_28 : decode cJ14_next 28 = .ok (.aload_n 0, 1) := dk_42 (dk_at dksJ14_next_1 4 rfl rfl)
theorem dJ14_next_29 : decode cJ14_next 29 = .ok (.getfield 29, 3) := dk_180 0 29 (dk_at dksJ14_next_1 5 rfl rfl)
theorem dJ14_next_32 : decode cJ14_next 32 = .ok (.getfield 49, 3) := dk_180 0 49 (dk_at dksJ14_next_1 8 rfl rfl)
theorem dJ14_next_35 : decode cJ14_next 35 = .ok (.putfield 29, 3) := dk_181 0 29 (dk_at dksJ14_next_1 11 rfl rfl)
theorem dJ14_next_38 : decode cJ14_next 38 = .ok (.aload_n 0, 1) := dk_42 (dk_at dksJ14_next_1 14 rfl rfl)
theorem dJ14_next_39 : decode cJ14_next 39 = .ok (.dup, 1) := dk_89 (dk_at dksJ14_next_1 15 rfl rfl)
theorem dJ14_next_40 : decode cJ14_next 40 = .ok (.getfield 33, 3) := dk_180 0 33 (dk_at dksJ14_next_1 16 rfl rfl)
theorem dJ14_next_43 : decode cJ14_next 43 = .ok (.iconst 1, 1) := dk_4 (dk_at dksJ14_next_1 19 rfl rfl)
theorem dJ14_next_44 : decode cJ14_next 44 = .ok (.iadd, 1) := dk_96 (dk_at dksJ14_next_1 20 rfl rfl)
theorem dJ14_next_45 : decode cJ14_next 45 = .ok (.putfield 33, 3) := dk_181 0 33 (dk_at dksJ14_next_1 21 rfl rfl)
theorem dJ14_next_48 : decode cJ14_next 48 = .ok (.aload_n 0, 1) := dk_42 (dk_at dksJ14_next_2 0 rfl rfl)
theorem dJ14_next_49 : decode cJ14_next 49 = .ok (.getfield 46, 3) := dk_180 0 46 (dk_at dksJ14_next_2 1 rfl rfl)
theorem dJ14_next_52 : decode cJ14_next 52 = .ok (.getfield 52, 3) := dk_180 0 52 (dk_at dksJ14_next_2 4 rfl rfl)
theorem dJ14_next_55 : decode cJ14_next 55 = .ok (.areturn, 1) := dk_176 (dk_at dksJ14_next_2 7 rfl rfl)
abbrev cJ14_checkForComodification : ByteArray := prog_86_method_12_code
def yJ14_checkForComodification : MethodName := ⟨RJ14, "checkForComodification", "()V"⟩
def dkwJ14_checkForComodification_0 : List UInt8 := [42, 180, 0, 1, 180, 0, 13, 42, 180, 0, 19, 159, 0, 11, 187, 0, 91, 89, 183, 0, 93, 191, 177]
abbrev dktJ14_checkForComodification_0 : List UInt8 := dkwJ14_checkForComodification_0 ++ []
theorem dksJ14_checkForComodification_0 : cJ14_checkForComodification.data.toList.drop 0 = dktJ14_checkForComodification_0 := by decide +kernel
theorem dJ14_checkForComodification_0 : decode cJ14_checkForComodification 0 = .ok (.aload_n 0, 1) := dk_42 (dk_at dksJ14_checkForComodification_0 0 rfl rfl)
theorem dJ14_checkForComodification_1 : decode cJ14_checkForComodification 1 = .ok (.getfield 1, 3) := dk_180 0 1 (dk_at dksJ14_checkForComodification_0 1 rfl rfl)
theorem dJ14_checkForComodification_4 : decode cJ14_checkForComodification 4 = .ok (.getfield 13, 3) := dk_180 0 13 (dk_at dksJ14_checkForComodification_0 4 rfl rfl)
theorem dJ14_checkForComodification_7 : decode cJ14_checkForComodification 7 = .ok (.aload_n 0, 1) := dk_42 (dk_at dksJ14_checkForComodification_0 7 rfl rfl)
theorem dJ14_checkForComodification_8 : decode cJ14_checkForComodification 8 = .ok (.getfield 19, 3) := dk_180 0 19 (dk_at dksJ14_checkForComodification_0 8 rfl rfl)
theorem dJ14_checkForComodification_11 : decode cJ14_checkForComodification 11 = .ok (.if_icmp .eq 11, 3) := dk_159 0 11 (dk_at dksJ14_checkForComodification_0 11 rfl rfl)
theorem dJ14_checkForComodification_14 : decode cJ14_checkForComodification 14 = .ok (.new 91, 3) := dk_187 0 91 (dk_at dksJ14_checkForComodification_0 14 rfl rfl)
theorem dJ14_checkForComodification_17 : decode cJ14_checkForComodification 17 = .ok (.dup, 1) := dk_89 (dk_at dksJ14_checkForComodification_0 17 rfl rfl)
theorem dJ14_checkForComodification_18 : decode cJ14_checkForComodification 18 = .ok (.invokespecial 93, 3) := dk_183 0 93 (dk_at dksJ14_checkForComodification_0 18 rfl rfl)
theorem dJ14_checkForComodification_21 : decode cJ14_checkForComodification 21 = .ok (.athrow, 1) := dk_191 (dk_at dksJ14_checkForComodification_0 21 rfl rfl)
theorem dJ14_checkForComodification_22 : decode cJ14_checkForComodification 22 = .ok (.return_, 1) := dk_177 (dk_at dksJ14_checkForComodification_0 22 rfl rfl)
abbrev cJ14_remove : ByteArray := prog_86_method_8_code
def yJ14_remove : MethodName := ⟨RJ14, "remove", "()V"⟩
def dkwJ14_remove_3 : List UInt8 := [181, 0, 46, 42, 89, 180, 0, 19, 4, 96, 181, 0, 19, 177]
abbrev dktJ14_remove_3 : List UInt8 := dkwJ14_remove_3 ++ []
def dkwJ14_remove_2 : List UInt8 := [166, 0, 11, 42, 43, 181, 0, 29, 167, 0, 13, 42, 89, 180, 0, 33, 4, 100, 181, 0, 33, 42, 1]
abbrev dktJ14_remove_2 : List UInt8 := dkwJ14_remove_2 ++ dktJ14_remove_3
def dkwJ14_remove_1 : List UInt8 := [180, 0, 49, 76, 42, 180, 0, 1, 42, 180, 0, 46, 182, 0, 68, 87, 42, 180, 0, 29, 42, 180, 0, 46]
abbrev dktJ14_remove_1 : List UInt8 := dkwJ14_remove_1 ++ dktJ14_remove_2
def dkwJ14_remove_0 : List UInt8 := [42, 182, 0, 36, 42, 180, 0, 46, 199, 0, 11, 187, 0, 65, 89, 183, 0, 67, 191, 42, 180, 0, 46]
abbrev dktJ14_remove_0 : List UInt8 := dkwJ14_remove_0 ++ dktJ14_remove_1
theorem dksJ14_remove_0 : cJ14_remove.data.toList.drop 0 = dktJ14_remove_0 := by decide +kernel
theorem dksJ14_remove_1 : cJ14_remove.data.toList.drop 23 = dktJ14_remove_1 := dk_seg dksJ14_remove_0 23 rfl rfl
theorem dksJ14_remove_2 : cJ14_remove.data.toList.drop 47 = dktJ14_remove_2 := dk_seg dksJ14_remove_1 24 rfl rfl
theorem dksJ14_remove_3 : cJ14_remove.data.toList.drop 70 = dktJ14_remove_3 := dk_seg dksJ14_remove_2 23 rfl rfl
theorem dJ14_remove_0 : decode cJ14_remove 0 = .ok (.aload_n 0, 1) := dk_42 (dk_at dksJ14_remove_0 0 rfl rfl)
theorem dJ14_remove_1 : decode cJ14_remove 1 = .ok (.invokevirtual 36, 3) := dk_182 0 36 (dk_at dksJ14_remove_0 1 rfl rfl)
theorem dJ14_remove_4 : decode cJ14_remove 4 = .ok (.aload_n 0, 1) := dk_42 (dk_at dksJ14_remove_0 4 rfl rfl)
theorem dJ14_remove_5 : decode cJ14_remove 5 = .ok (.getfield 46, 3) := dk_180 0 46 (dk_at dksJ14_remove_0 5 rfl rfl)
theorem dJ14_remove_8 : decode cJ14_remove 8 = .ok (.ifnonnull 11, 3) := dk_199 0 11 (dk_at dksJ14_remove_0 8 rfl rfl)
theorem dJ14_remove_11 : decode cJ14_remove 11 = .ok (.new 65, 3) := dk_187 0 65 (dk_at dksJ14_remove_0 11 rfl rfl)
theorem dJ14_remove_14 : decode cJ14_remove 14 = .ok (.dup, 1) := dk_89 (dk_at dksJ14_remove_0 14 rfl rfl)
theorem dJ14_remove_15 : decode cJ14_remove 15 = .ok (.invokespecial 67, 3) := dk_183 0 67 (dk_at dksJ14_remove_0 15 rfl rfl)
theorem dJ14_remove_18 : decode cJ14_remove 18 = .ok (.athrow, 1) := dk_191 (dk_at dksJ14_remove_0 18 rfl rfl)
theorem dJ14_remove_19 : decode cJ14_remove 19 = .ok (.aload_n 0, 1) := dk_42 (dk_at dksJ14_remove_0 19 rfl rfl)
theorem dJ14_remove_20 : decode cJ14_remove 20 = .ok (.getfield 46, 3) := dk_180 0 46 (dk_at dksJ14_remove_0 20 rfl rfl)
theorem dJ14_remove_23 : decode cJ14_remove 23 = .ok (.getfield 49, 3) := dk_180 0 49 (dk_at dksJ14_remove_1 0 rfl rfl)
theorem dJ14_remove_26 : decode cJ14_remove 26 = .ok (.astore_n 1, 1) := dk_76 (dk_at dksJ14_remove_1 3 rfl rfl)
theorem dJ14_remove_27 : decode cJ14_remove 27 = .ok (.aload_n 0, 1) := dk_42 (dk_at dksJ14_remove_1 4 rfl rfl)
theorem dJ14_remove_28 : decode cJ14_remove 28 = .ok (.getfield 1, 3) := dk_180 0 1 (dk_at dksJ14_remove_1 5 rfl rfl)
theorem dJ14_remove_31 : decode cJ14_remove 31 = .ok (.aload_n 0, 1) := dk_42 (dk_at dksJ14_remove_1 8 rfl rfl)
theorem dJ14_remove_32 : decode cJ14_remove 32 = .ok (.getfield 46, 3) := dk_180 0 46 (dk_at dksJ14_remove_1 9 rfl rfl)
theorem dJ14_remove_35 : decode cJ14_remove 35 = .ok (.invokevirtual 68, 3) := dk_182 0 68 (dk_at dksJ14_remove_1 12 rfl rfl)
theorem dJ14_remove_38 : decode cJ14_remove 38 = .ok (.pop, 1) := dk_87 (dk_at dksJ14_remove_1 15 rfl rfl)
theorem dJ14_remove_39 : decode cJ14_remove 39 = .ok (.aload_n 0, 1) := dk_42 (dk_at dksJ14_remove_1 16 rfl rfl)
theorem dJ14_remove_40 : decode cJ14_remove 40 = .ok (.getfield 29, 3) := dk_180 0 29 (dk_at dksJ14_remove_1 17 rfl rfl)
theorem dJ14_remove_43 : decode cJ14_remove 43 = .ok (.aload_n 0, 1) := dk_42 (dk_at dksJ14_remove_1 20 rfl rfl)
theorem dJ14_remove_44 : decode cJ14_remove 44 = .ok (.getfield 46, 3) := dk_180 0 46 (dk_at dksJ14_remove_1 21 rfl rfl)
theorem dJ14_remove_47 : decode cJ14_remove 47 = .ok (.if_acmp .ne 11, 3) := dk_166 0 11 (dk_at dksJ14_remove_2 0 rfl rfl)
theorem dJ14_remove_50 : decode cJ14_remove 50 = .ok (.aload_n 0, 1) := dk_42 (dk_at dksJ14_remove_2 3 rfl rfl)
theorem dJ14_remove_51 : decode cJ14_remove 51 = .ok (.aload_n 1, 1) := dk_43 (dk_at dksJ14_remove_2 4 rfl rfl)
theorem dJ14_remove_52 : decode cJ14_remove 52 = .ok (.putfield 29, 3) := dk_181 0 29 (dk_at dksJ14_remove_2 5 rfl rfl)
theorem dJ14_remove_55 : decode cJ14_remove 55 = .ok (.goto 13, 3) := dk_167 0 13 (dk_at dksJ14_remove_2 8 rfl rfl)
theorem dJ14_remove_58 : decode cJ14_remove 58 = .ok (.aload_n 0, 1) := dk_42 (dk_at dksJ14_remove_2 11 rfl rfl)
theorem dJ14_remove_59 : decode cJ14_remove 59 = .ok (.dup, 1) := dk_89 (dk_at dksJ14_remove_2 12 rfl rfl)
theorem dJ14_remove_60 : decode cJ14_remove 60 = .ok (.getfield 33, 3) := dk_180 0 33 (dk_at dksJ14_remove_2 13 rfl rfl)
theorem dJ14_remove_63 : decode cJ14_remove 63 = .ok (.iconst 1, 1) := dk_4 (dk_at dksJ14_remove_2 16 rfl rfl)
theorem dJ14_remove_64 : decode cJ14_remove 64 = .ok (.isub, 1) := dk_100 (dk_at dksJ14_remove_2 17 rfl rfl)
theorem dJ14_remove_65 : decode cJ14_remove 65 = .ok (.putfield 33, 3) := dk_181 0 33 (dk_at dksJ14_remove_2 18 rfl rfl)
theorem dJ14_remove_68 : decode cJ14_remove 68 = .ok (.aload_n 0, 1) := dk_42 (dk_at dksJ14_remove_2 21 rfl rfl)
theorem dJ14_remove_69 : decode cJ14_remove 69 = .ok (.aconst_null, 1) := dk_1 (dk_at dksJ14_remove_2 22 rfl rfl)
theorem dJ14_remove_70 : decode cJ14_remove 70 = .ok (.putfield 46, 3) := dk_181 0 46 (dk_at dksJ14_remove_3 0 rfl rfl)
theorem dJ14_remove_73 : decode cJ14_remove 73 = .ok (.aload_n 0, 1) := dk_42 (dk_at dksJ14_remove_3 3 rfl rfl)
theorem dJ14_remove_74 : decode cJ14_remove 74 = .ok (.dup, 1) := dk_89 (dk_at dksJ14_remove_3 4 rfl rfl)
theorem dJ14_remove_75 : decode cJ14_remove 75 = .ok (.getfield 19, 3) := dk_180 0 19 (dk_at dksJ14_remove_3 5 rfl rfl)
theorem dJ14_remove_78 : decode cJ14_remove 78 = .ok (.iconst 1, 1) := dk_4 (dk_at dksJ14_remove_3 8 rfl rfl)
theorem dJ14_remove_79 : decode cJ14_remove 79 = .ok (.iadd, 1) := dk_96 (dk_at dksJ14_remove_3 9 rfl rfl)
theorem dJ14_remove_80 : decode cJ14_remove 80 = .ok (.putfield 19, 3) := dk_181 0 19 (dk_at dksJ14_remove_3 10 rfl rfl)
theorem dJ14_remove_83 : decode cJ14_remove 83 = .ok (.return_, 1) := dk_177 (dk_at dksJ14_remove_3 13 rfl rfl)
theorem q110 : (Jvm.Cond.initialized "java/util/LinkedList$ListItr") ∈ lw_all := lw_g (lw_at lw_m1 27 rfl) rfl
theorem q197 : (Jvm.Cond.fieldLink "java/util/LinkedList$ListItr" (13 : Nat) "java/util/LinkedList" "modCount" "I") ∈ lw_all := lw_g (lw_at lw_m1 114 rfl) rfl
theorem q222 : (Jvm.Cond.fieldLink "java/util/LinkedList$ListItr" (22 : Nat) "java/util/LinkedList" "size" "I") ∈ lw_all := lw_g (lw_at lw_m1 139 rfl) rfl
theorem q592 : (Jvm.Cond.selects "java/util/LinkedList$ListItr" ({ cls := "java/lang/Object", name := "getClass", desc := "()Ljava/lang/Class;" } : Jvm.MethodName) ({ cls := "java/lang/Object", name := "getClass", desc := "()Ljava/lang/Class;" } : Jvm.MethodName)) ∈ lw_all := lw_g (lw_at lw_m3 29 rfl) rfl
theorem q706 : (Jvm.Cond.instantiable "java/util/LinkedList$ListItr" (5 : Nat)) ∈ lw_all := lw_g (lw_at lw_m3 143 rfl) rfl
theorem q708 : (Jvm.Cond.instanceMethod ({ cls := "java/util/LinkedList$ListItr", name := "<init>", desc := "(Ljava/util/LinkedList;I)V" } : Jvm.MethodName)) ∈ lw_all := lw_g (lw_at lw_m3 145 rfl) rfl
theorem q709 : (Jvm.Cond.code ({ cls := "java/util/LinkedList$ListItr", name := "<init>", desc := "(Ljava/util/LinkedList;I)V" } : Jvm.MethodName) prog_86_method_1_code (3 : Nat) (Option.none : Option Jvm.ClassFile.FieldType)) ∈ lw_all := lw_g (lw_at lw_m3 146 rfl) rfl
theorem q710 : (Jvm.Cond.methodLink "java/util/LinkedList$ListItr" (7 : Nat) ({ cls := "java/lang/Object", name := "<init>", desc := "()V" } : Jvm.MethodName)) ∈ lw_all := lw_g (lw_at lw_m3 147 rfl) rfl
theorem q711 : (Jvm.Cond.methodLink "java/util/LinkedList$ListItr" (25 : Nat) ({ cls := "java/util/LinkedList", name := "node", desc := "(I)Ljava/util/LinkedList$Node;" } : Jvm.MethodName)) ∈ lw_all := lw_g (lw_at lw_m3 148 rfl) rfl
theorem q715 : (Jvm.Cond.fieldLink "java/util/LinkedList$ListItr" (46 : Nat) "java/util/LinkedList$ListItr" "lastReturned" "Ljava/util/LinkedList$Node;") ∈ lw_all := lw_g (lw_at lw_m3 152 rfl) rfl
theorem q716 : (Jvm.Cond.fieldLink "java/util/LinkedList$ListItr" (29 : Nat) "java/util/LinkedList$ListItr" "next" "Ljava/util/LinkedList$Node;") ∈ lw_all := lw_g (lw_at lw_m3 153 rfl) rfl
theorem q717 : (Jvm.Cond.fieldLink "java/util/LinkedList$ListItr" (33 : Nat) "java/util/LinkedList$ListItr" "nextIndex" "I") ∈ lw_all := lw_g (lw_at lw_m3 154 rfl) rfl
theorem q718 : (Jvm.Cond.fieldLink "java/util/LinkedList$ListItr" (19 : Nat) "java/util/LinkedList$ListItr" "expectedModCount" "I") ∈ lw_all := lw_g (lw_at lw_m3 155 rfl) rfl
theorem q719 : (Jvm.Cond.fieldLink "java/util/LinkedList$ListItr" (1 : Nat) "java/util/LinkedList$ListItr" "this$0" "Ljava/util/LinkedList;") ∈ lw_all := lw_g (lw_at lw_m3 156 rfl) rfl
theorem q720 : (Jvm.Cond.lays "java/util/LinkedList$ListItr" "java/util/LinkedList$ListItr" "lastReturned" "Ljava/util/LinkedList$Node;") ∈ lw_all := lw_g (lw_at lw_m3 157 rfl) rfl
theorem q721 : (Jvm.Cond.soleField "java/util/LinkedList$ListItr" "lastReturned") ∈ lw_all := lw_g (lw_at lw_m3 158 rfl) rfl
theorem q722 : (Jvm.Cond.lays "java/util/LinkedList$ListItr" "java/util/LinkedList$ListItr" "next" "Ljava/util/LinkedList$Node;") ∈ lw_all := lw_g (lw_at lw_m3 159 rfl) rfl
theorem q723 : (Jvm.Cond.soleField "java/util/LinkedList$ListItr" "next") ∈ lw_all := lw_g (lw_at lw_m3 160 rfl) rfl
theorem q724 : (Jvm.Cond.lays "java/util/LinkedList$ListItr" "java/util/LinkedList$ListItr" "nextIndex" "I") ∈ lw_all := lw_g (lw_at lw_m3 161 rfl) rfl
theorem q725 : (Jvm.Cond.soleField "java/util/LinkedList$ListItr" "nextIndex") ∈ lw_all := lw_g (lw_at lw_m3 162 rfl) rfl
theorem q726 : (Jvm.Cond.lays "java/util/LinkedList$ListItr" "java/util/LinkedList$ListItr" "expectedModCount" "I") ∈ lw_all := lw_g (lw_at lw_m3 163 rfl) rfl
theorem q727 : (Jvm.Cond.soleField "java/util/LinkedList$ListItr" "expectedModCount") ∈ lw_all := lw_g (lw_at lw_m3 164 rfl) rfl
theorem q728 : (Jvm.Cond.laysFinal "java/util/LinkedList$ListItr" "java/util/LinkedList$ListItr" "this$0" "Ljava/util/LinkedList;") ∈ lw_all := lw_g (lw_at lw_m3 165 rfl) rfl
theorem q729 : (Jvm.Cond.soleField "java/util/LinkedList$ListItr" "this$0") ∈ lw_all := lw_g (lw_at lw_m3 166 rfl) rfl
theorem q730 : (Jvm.Cond.superclass "java/util/LinkedList$ListItr" "java/lang/Object") ∈ lw_all := lw_g (lw_at lw_m3 167 rfl) rfl
theorem q778 : (Jvm.Cond.castable "java/util/LinkedList$ListItr" "java/util/Iterator") ∈ lw_tbl := lw_at lw_m3 215 rfl
theorem q779 : (Jvm.Cond.selects "java/util/LinkedList$ListItr" ({ cls := "java/util/Iterator", name := "hasNext", desc := "()Z" } : Jvm.MethodName) ({ cls := "java/util/LinkedList$ListItr", name := "hasNext", desc := "()Z" } : Jvm.MethodName)) ∈ lw_all := lw_g (lw_at lw_m3 216 rfl) rfl
theorem q780 : (Jvm.Cond.unhidden "java/util/LinkedList$ListItr" "hasNext" "()Z") ∈ lw_tbl := lw_at lw_m3 217 rfl
theorem q781 : (Jvm.Cond.instanceMethod ({ cls := "java/util/LinkedList$ListItr", name := "hasNext", desc := "()Z" } : Jvm.MethodName)) ∈ lw_all := lw_g (lw_at lw_m3 218 rfl) rfl
theorem q782 : (Jvm.Cond.publicMethod ({ cls := "java/util/LinkedList$ListItr", name := "hasNext", desc := "()Z" } : Jvm.MethodName)) ∈ lw_tbl := lw_at lw_m3 219 rfl
theorem q783 : (Jvm.Cond.code ({ cls := "java/util/LinkedList$ListItr", name := "hasNext", desc := "()Z" } : Jvm.MethodName) prog_86_method_2_code (1 : Nat) (Option.some Jvm.ClassFile.FieldType.boolean)) ∈ lw_all := lw_g (lw_at lw_m3 220 rfl) rfl
theorem q1194 : (Jvm.Cond.selects "java/util/LinkedList$ListItr" ({ cls := "java/util/Iterator", name := "next", desc := "()Ljava/lang/Object;" } : Jvm.MethodName) ({ cls := "java/util/LinkedList$ListItr", name := "next", desc := "()Ljava/lang/Object;" } : Jvm.MethodName)) ∈ lw_all := lw_g (lw_at lw_m5 151 rfl) rfl
theorem q1195 : (Jvm.Cond.unhidden "java/util/LinkedList$ListItr" "next" "()Ljava/lang/Object;") ∈ lw_tbl := lw_at lw_m5 152 rfl
theorem q1196 : (Jvm.Cond.instanceMethod ({ cls := "java/util/LinkedList$ListItr", name := "next", desc := "()Ljava/lang/Object;" } : Jvm.MethodName)) ∈ lw_all := lw_g (lw_at lw_m5 153 rfl) rfl
theorem q1197 : (Jvm.Cond.publicMethod ({ cls := "java/util/LinkedList$ListItr", name := "next", desc := "()Ljava/lang/Object;" } : Jvm.MethodName)) ∈ lw_tbl := lw_at lw_m5 154 rfl
theorem q1198 : (Jvm.Cond.code ({ cls := "java/util/LinkedList$ListItr", name := "next", desc := "()Ljava/lang/Object;" } : Jvm.MethodName) prog_86_method_3_code (1 : Nat) (Option.some (Jvm.ClassFile.FieldType.object "java/lang/Object"))) ∈ lw_all := lw_g (lw_at lw_m5 155 rfl) rfl
theorem q1199 : (Jvm.Cond.methodLink "java/util/LinkedList$ListItr" (36 : Nat) ({ cls := "java/util/LinkedList$ListItr", name := "checkForComodification", desc := "()V" } : Jvm.MethodName)) ∈ lw_all := lw_g (lw_at lw_m5 156 rfl) rfl
theorem q1200 : (Jvm.Cond.instanceMethod ({ cls := "java/util/LinkedList$ListItr", name := "checkForComodification", desc := "()V" } : Jvm.MethodName)) ∈ lw_all := lw_g (lw_at lw_m5 157 rfl) rfl
theorem q1201 : (Jvm.Cond.selects "java/util/LinkedList$ListItr" ({ cls := "java/util/LinkedList$ListItr", name := "checkForComodification", desc := "()V" } : Jvm.MethodName) ({ cls := "java/util/LinkedList$ListItr", name := "checkForComodification", desc := "()V" } : Jvm.MethodName)) ∈ lw_all := lw_g (lw_at lw_m5 158 rfl) rfl
theorem q1202 : (Jvm.Cond.code ({ cls := "java/util/LinkedList$ListItr", name := "checkForComodification", desc := "()V" } : Jvm.MethodName) prog_86_method_12_code (1 : Nat) (Option.none : Option Jvm.ClassFile.FieldType)) ∈ lw_all := lw_g (lw_at lw_m5 159 rfl) rfl
theorem q1203 : (Jvm.Cond.methodLink "java/util/LinkedList$ListItr" (39 : Nat) ({ cls := "java/util/LinkedList$ListItr", name := "hasNext", desc := "()Z" } : Jvm.MethodName)) ∈ lw_all := lw_g (lw_at lw_m5 160 rfl) rfl
theorem q1244 : (Jvm.Cond.fieldLink "java/util/LinkedList$ListItr" (52 : Nat) "java/util/LinkedList$Node" "item" "Ljava/lang/Object;") ∈ lw_all := lw_g (lw_at lw_m5 201 rfl) rfl
theorem q1247 : (Jvm.Cond.fieldLink "java/util/LinkedList$ListItr" (49 : Nat) "java/util/LinkedList$Node" "next" "Ljava/util/LinkedList$Node;") ∈ lw_all := lw_g (lw_at lw_m5 204 rfl) rfl
theorem q1465 : (Jvm.Cond.selects "java/util/LinkedList$ListItr" ({ cls := "java/util/Iterator", name := "remove", desc := "()V" } : Jvm.MethodName) ({ cls := "java/util/LinkedList$ListItr", name := "remove", desc := "()V" } : Jvm.MethodName)) ∈ lw_all := lw_g (lw_at lw_m6 182 rfl) rfl
theorem q1466 : (Jvm.Cond.unhidden "java/util/LinkedList$ListItr" "remove" "()V") ∈ lw_tbl := lw_at lw_m6 183 rfl
theorem q1467 : (Jvm.Cond.instanceMethod ({ cls := "java/util/LinkedList$ListItr", name := "remove", desc := "()V" } : Jvm.MethodName)) ∈ lw_all := lw_g (lw_at lw_m6 184 rfl) rfl
theorem q1468 : (Jvm.Cond.publicMethod ({ cls := "java/util/LinkedList$ListItr", name := "remove", desc := "()V" } : Jvm.MethodName)) ∈ lw_tbl := lw_at lw_m6 185 rfl
theorem q1469 : (Jvm.Cond.code ({ cls := "java/util/LinkedList$ListItr", name := "remove", desc := "()V" } : Jvm.MethodName) prog_86_method_8_code (2 : Nat) (Option.none : Option Jvm.ClassFile.FieldType)) ∈ lw_all := lw_g (lw_at lw_m6 186 rfl) rfl
theorem q1470 : (Jvm.Cond.methodLink "java/util/LinkedList$ListItr" (68 : Nat) ({ cls := "java/util/LinkedList", name := "unlink", desc := "(Ljava/util/LinkedList$Node;)Ljava/lang/Object;" } : Jvm.MethodName)) ∈ lw_all := lw_g (lw_at lw_m6 187 rfl) rfl
theorem q3017 : (Jvm.Cond.selects "java/util/LinkedList$ListItr" ({ cls := "java/util/LinkedList$ListItr", name := "hasNext", desc := "()Z" } : Jvm.MethodName) ({ cls := "java/util/LinkedList$ListItr", name := "hasNext", desc := "()Z" } : Jvm.MethodName)) ∈ lw_all := lw_g (lw_at lw_m13 54 rfl) rfl
theorem q3056 : (Jvm.Cond.castable "java/util/LinkedList$ListItr" "java/lang/Object") ∈ lw_tbl := lw_at lw_m13 93 rfl
theorem in_J14 : ∀ w ∈ wsJ140, w ∈ lw_all := lw_in wsJ140 [720, 722, 724, 726, 728] (by decide +kernel) (by decide +kernel)

/-! java/lang/Throwable -/
set_option maxRecDepth 100000
def RJ15 : String := "java/lang/Throwable"
def TJ15 : u_T := fun k => match k with
  | 0 => ("java/lang/Throwable", "cause", "Ljava/lang/Throwable;", false)
  | 1 => ("java/lang/Throwable", "stackTrace", "[Ljava/lang/StackTraceElement;", false)
  | 2 => ("java/lang/Throwable", "suppressedExceptions", "Ljava/util/List;", false)
  | 3 => ("java/lang/Throwable", "detailMessage", "Ljava/lang/String;", false)
  | _ => ("java/lang/Throwable", "backtrace", "Ljava/lang/Object;", false)
def tyJ15 : Nat → FieldType := fun k => match k with
  | 0 => .object "java/lang/Throwable"
  | 1 => .array (.object "java/lang/StackTraceElement")
  | 2 => .object "java/util/List"
  | 3 => .object "java/lang/String"
  | _ => .object "java/lang/Object"
abbrev wsJ150 : List Cond := u_ws RJ15 TJ15 5
theorem nmJ15 : ∀ a, a < 5 → ∀ b, b < 5 → a ≠ b → (TJ15 a).2.1 ≠ (TJ15 b).2.1 := by decide +kernel
theorem tyJ15_ok : ∀ k, k < 5 → parseFieldDescriptor (TJ15 k).2.2.1 = some (tyJ15 k) := by decide +kernel
abbrev cJ15_init : ByteArray := prog_55_method_1_code
def yJ15_init : MethodName := ⟨RJ15, "<init>", "()V"⟩
def dkwJ15_init_1 : List UInt8 := [182, 0, 27, 87, 177]
abbrev dktJ15_init_1 : List UInt8 := dkwJ15_init_1 ++ []
def dkwJ15_init_0 : List UInt8 := [42, 183, 0, 1, 42, 42, 181, 0, 7, 42, 178, 0, 13, 181, 0, 17, 42, 178, 0, 20, 181, 0, 24, 42]
abbrev dktJ15_init_0 : List UInt8 := dkwJ15_init_0 ++ dktJ15_init_1
theorem dksJ15_init_0 : cJ15_init.data.toList.drop 0 = dktJ15_init_0 := by decide +kernel
theorem dksJ15_init_1 : cJ15_init.data.toList.drop 24 = dktJ15_init_1 := dk_seg dksJ15_init_0 24 rfl rfl
theorem dJ15_init_0 : decode cJ15_init 0 = .ok (.aload_n 0, 1) := dk_42 (dk_at dksJ15_init_0 0 rfl rfl)
theorem dJ15_init_1 : decode cJ15_init 1 = .ok (.invokespecial 1, 3) := dk_183 0 1 (dk_at dksJ15_init_0 1 rfl rfl)
theorem dJ15_init_4 : decode cJ15_init 4 = .ok (.aload_n 0, 1) := dk_42 (dk_at dksJ15_init_0 4 rfl rfl)
theorem dJ15_init_5 : decode cJ15_init 5 = .ok (.aload_n 0, 1) := dk_42 (dk_at dksJ15_init_0 5 rfl rfl)
theorem dJ15_init_6 : decode cJ15_init 6 = .ok (.putfield 7, 3) := dk_181 0 7 (dk_at dksJ15_init_0 6 rfl rfl)
theorem dJ15_init_9 : decode cJ15_init 9 = .ok (.aload_n 0, 1) := dk_42 (dk_at dksJ15_init_0 9 rfl rfl)
theorem dJ15_init_10 : decode cJ15_init 10 = .ok (.getstatic 13, 3) := dk_178 0 13 (dk_at dksJ15_init_0 10 rfl rfl)
theorem dJ15_init_13 : decode cJ15_init 13 = .ok (.putfield 17, 3) := dk_181 0 17 (dk_at dksJ15_init_0 13 rfl rfl)
theorem dJ15_init_16 : decode cJ15_init 16 = .ok (.aload_n 0, 1) := dk_42 (dk_at dksJ15_init_0 16 rfl rfl)
theorem dJ15_init_17 : decode cJ15_init 17 = .ok (.getstatic 20, 3) := dk_178 0 20 (dk_at dksJ15_init_0 17 rfl rfl)
theorem dJ15_init_20 : decode cJ15_init 20 = .ok (.putfield 24, 3) := dk_181 0 24 (dk_at dksJ15_init_0 20 rfl rfl)
theorem dJ15_init_23 : decode cJ15_init 23 = .ok (.aload_n 0, 1) := dk_42 (dk_at dksJ15_init_0 23 rfl rfl)
theorem dJ15_init_24 : decode cJ15_init 24 = .ok (.invokevirtual 27, 3) := dk_182 0 27 (dk_at dksJ15_init_1 0 rfl rfl)
theorem dJ15_init_27 : decode cJ15_init 27 = .ok (.pop, 1) := dk_87 (dk_at dksJ15_init_1 3 rfl rfl)
theorem dJ15_init_28 : decode cJ15_init 28 = .ok (.return_, 1) := dk_177 (dk_at dksJ15_init_1 4 rfl rfl)
abbrev cJ15_init_2 : ByteArray := prog_55_method_4_code
def yJ15_init_2 : MethodName := ⟨RJ15, "<init>", "(Ljava/lang/Throwable;)V"⟩
def dkwJ15_init_2_2 : List UInt8 := [181, 0, 7, 177]
abbrev dktJ15_init_2_2 : List UInt8 := dkwJ15_init_2_2 ++ []
def dkwJ15_init_2_1 : List UInt8 := [182, 0, 27, 87, 42, 43, 199, 0, 7, 1, 167, 0, 7, 43, 182, 0, 35, 181, 0, 31, 42, 43]
abbrev dktJ15_init_2_1 : List UInt8 := dkwJ15_init_2_1 ++ dktJ15_init_2_2
def dkwJ15_init_2_0 : List UInt8 := [42, 183, 0, 1, 42, 42, 181, 0, 7, 42, 178, 0, 13, 181, 0, 17, 42, 178, 0, 20, 181, 0, 24, 42]
abbrev dktJ15_init_2_0 : List UInt8 := dkwJ15_init_2_0 ++ dktJ15_init_2_1
theorem dksJ15_init_2_0 : cJ15_init_2.data.toList.drop 0 = dktJ15_init_2_0 := by decide +kernel
theorem dksJ15_init_2_1 : cJ15_init_2.data.toList.drop 24 = dktJ15_init_2_1 := dk_seg dksJ15_init_2_0 24 rfl rfl
theorem dksJ15_init_2_2 : cJ15_init_2.data.toList.drop 46 = dktJ15_init_2_2 := dk_seg dksJ15_init_2_1 22 rfl rfl
theorem dJ15_init_2_0 : decode cJ15_init_2 0 = .ok (.aload_n 0, 1) := dk_42 (dk_at dksJ15_init_2_0 0 rfl rfl)
theorem dJ15_init_2_1 : decode cJ15_init_2 1 = .ok (.invokespecial 1, 3) := dk_183 0 1 (dk_at dksJ15_init_2_0 1 rfl rfl)
theorem dJ15_init_2_4 : decode cJ15_init_2 4 = .ok (.aload_n 0, 1) := dk_42 (dk_at dksJ15_init_2_0 4 rfl rfl)
theorem dJ15_init_2_5 : decode cJ15_init_2 5 = .ok (.aload_n 0, 1) := dk_42 (dk_at dksJ15_init_2_0 5 rfl rfl)
theorem dJ15_init_2_6 : decode cJ15_init_2 6 = .ok (.putfield 7, 3) := dk_181 0 7 (dk_at dksJ15_init_2_0 6 rfl rfl)
theorem dJ15_init_2_9 : decode cJ15_init_2 9 = .ok (.aload_n 0, 1) := dk_42 (dk_at dksJ15_init_2_0 9 rfl rfl)
theorem dJ15_init_2_10 : decode cJ15_init_2 10 = .ok (.getstatic 13, 3) := dk_178 0 13 (dk_at dksJ15_init_2_0 10 rfl rfl)
theorem dJ15_init_2_13 : decode cJ15_init_2 13 = .ok (.putfield 17, 3) := dk_181 0 17 (dk_at dksJ15_init_2_0 13 rfl rfl)
theorem dJ15_init_2_16 : decode cJ15_init_2 16 = .ok (.aload_n 0, 1) := dk_42 (dk_at dksJ15_init_2_0 16 rfl rfl)
theorem dJ15_init_2_17 : decode cJ15_init_2 17 = .ok (.getstatic 20, 3) := dk_178 0 20 (dk_at dksJ15_init_2_0 17 rfl rfl)
theorem dJ15_init_2_20 : decode cJ15_init_2 20 = .ok (.putfield 24, 3) := dk_181 0 24 (dk_at dksJ15_init_2_0 20 rfl rfl)
theorem dJ15_init_2_23 : decode cJ15_init_2 23 = .ok (.aload_n 0, 1) := dk_42 (dk_at dksJ15_init_2_0 23 rfl rfl)
theorem dJ15_init_2_24 : decode cJ15_init_2 24 = .ok (.invokevirtual 27, 3) := dk_182 0 27 (dk_at dksJ15_init_2_1 0 rfl rfl)
theorem dJ15_init_2_27 : decode cJ15_init_2 27 = .ok (.pop, 1) := dk_87 (dk_at dksJ15_init_2_1 3 rfl rfl)
theorem dJ15_init_2_28 : decode cJ15_init_2 28 = .ok (.aload_n 0, 1) := dk_42 (dk_at dksJ15_init_2_1 4 rfl rfl)
theorem dJ15_init_2_29 : decode cJ15_init_2 29 = .ok (.aload_n 1, 1) := dk_43 (dk_at dksJ15_init_2_1 5 rfl rfl)
theorem dJ15_init_2_30 : decode cJ15_init_2 30 = .ok (.ifnonnull 7, 3) := dk_199 0 7 (dk_at dksJ15_init_2_1 6 rfl rfl)
theorem dJ15_init_2_33 : decode cJ15_init_2 33 = .ok (.aconst_null, 1) := dk_1 (dk_at dksJ15_init_2_1 9 rfl rfl)
theorem dJ15_init_2_34 : decode cJ15_init_2 34 = .ok (.goto 7, 3) := dk_167 0 7 (dk_at dksJ15_init_2_1 10 rfl rfl)
theorem dJ15_init_2_37 : decode cJ15_init_2 37 = .ok (.aload_n 1, 1) := dk_43 (dk_at dksJ15_init_2_1 13 rfl rfl)
theorem dJ15_init_2_38 : decode cJ15_init_2 38 = .ok (.invokevirtual 35, 3) := dk_182 0 35 (dk_at dksJ15_init_2_1 14 rfl rfl)
theorem dJ15_init_2_41 : decode cJ15_init_2 41 = .ok (.putfield 31, 3) := dk_181 0 31 (dk_at dksJ15_init_2_1 17 rfl rfl)
theorem dJ15_init_2_44 : decode cJ15_init_2 44 = .ok (.aload_n 0, 1) := dk_42 (dk_at dksJ15_init_2_1 20 rfl rfl)
theorem dJ15_init_2_45 : decode cJ15_init_2 45 = .ok (.aload_n 1, 1) := dk_43 (dk_at dksJ15_init_2_1 21 rfl rfl)
theorem dJ15_init_2_46 : decode cJ15_init_2 46 = .ok (.putfield 7, 3) := dk_181 0 7 (dk_at dksJ15_init_2_2 0 rfl rfl)
theorem dJ15_init_2_49 : decode cJ15_init_2 49 = .ok (.return_, 1) := dk_177 (dk_at dksJ15_init_2_2 3 rfl rfl)
abbrev cJ15_toString : ByteArray := prog_55_method_11_code
def yJ15_toString : MethodName := ⟨RJ15, "toString", "()Ljava/lang/String;"⟩
def dkwJ15_toString_1 : List UInt8 := [43, 182, 0, 49, 18, 81, 182, 0, 49, 44, 182, 0, 49, 182, 0, 60, 167, 0, 4, 43, 176]
abbrev dktJ15_toString_1 : List UInt8 := dkwJ15_toString_1 ++ []
def dkwJ15_toString_0 : List UInt8 := [42, 182, 0, 69, 182, 0, 73, 76, 42, 182, 0, 78, 77, 44, 198, 0, 29, 187, 0, 44, 89, 183, 0, 46]
abbrev dktJ15_toString_0 : List UInt8 := dkwJ15_toString_0 ++ dktJ15_toString_1
theorem dksJ15_toString_0 : cJ15_toString.data.toList.drop 0 = dktJ15_toString_0 := by decide +kernel
theorem dksJ15_toString_1 : cJ15_toString.data.toList.drop 24 = dktJ15_toString_1 := dk_seg dksJ15_toString_0 24 rfl rfl
theorem dJ15_toString_0 : decode cJ15_toString 0 = .ok (.aload_n 0, 1) := dk_42 (dk_at dksJ15_toString_0 0 rfl rfl)
theorem dJ15_toString_1 : decode cJ15_toString 1 = .ok (.invokevirtual 69, 3) := dk_182 0 69 (dk_at dksJ15_toString_0 1 rfl rfl)
theorem dJ15_toString_4 : decode cJ15_toString 4 = .ok (.invokevirtual 73, 3) := dk_182 0 73 (dk_at dksJ15_toString_0 4 rfl rfl)
theorem dJ15_toString_7 : decode cJ15_toString 7 = .ok (.astore_n 1, 1) := dk_76 (dk_at dksJ15_toString_0 7 rfl rfl)
theorem dJ15_toString_8 : decode cJ15_toString 8 = .ok (.aload_n 0, 1) := dk_42 (dk_at dksJ15_toString_0 8 rfl rfl)
theorem dJ15_toString_9 : decode cJ15_toString 9 = .ok (.invokevirtual 78, 3) := dk_182 0 78 (dk_at dksJ15_toString_0 9 rfl rfl)
theorem dJ15_toString_12 : decode cJ15_toString 12 = .ok (.astore_n 2, 1) := dk_77 (dk_at dksJ15_toString_0 12 rfl rfl)
theorem dJ15_toString_13 : decode cJ15_toString 13 = .ok (.aload_n 2, 1) := dk_44 (dk_at dksJ15_toString_0 13 rfl rfl)
theorem dJ15_toString_14 : decode cJ15_toString 14 = .ok (.ifnull 29, 3) := dk_198 0 29 (dk_at dksJ15_toString_0 14 rfl rfl)
theorem dJ15_toString_17 : decode cJ15_toString 17 = .ok (.new 44, 3) := dk_187 0 44 (dk_at dksJ15_toString_0 17 rfl rfl)
theorem dJ15_toString_20 : decode cJ15_toString 20 = .ok (.dup, 1) := dk_89 (dk_at dksJ15_toString_0 20 rfl rfl)
theorem dJ15_toString_21 : decode cJ15_toString 21 = .ok (.invokespecial 46, 3) := dk_183 0 46 (dk_at dksJ15_toString_0 21 rfl rfl)
theorem dJ15_toString_24 : decode cJ15_toString 24 = .ok (.aload_n 1, 1) := dk_43 (dk_at dksJ15_toString_1 0 rfl rfl)
theorem dJ15_toString_25 : decode cJ15_toString 25 = .ok (.invokevirtual 49, 3) := dk_182 0 49 (dk_at dksJ15_toString_1 1 rfl rfl)
theorem dJ15_toString_28 : decode cJ15_toString 28 = .ok (.ldc 81, 2) := dk_18 81 (dk_at dksJ15_toString_1 4 rfl rfl)
theorem dJ15_toString_30 : decode cJ15_toString 30 = .ok (.invokevirtual 49, 3) := dk_182 0 49 (dk_at dksJ15_toString_1 6 rfl rfl)
theorem dJ15_toString_33 : decode cJ15_toString 33 = .ok (.aload_n 2, 1) := dk_44 (dk_at dksJ15_toString_1 9 rfl rfl)
theorem dJ15_toString_34 : decode cJ15_toString 34 = .ok (.invokevirtual 49, 3) := dk_182 0 49 (dk_at dksJ15_toString_1 10 rfl rfl)
theorem dJ15_toString_37 : decode cJ15_toString 37 = .ok (.invokevirtual 60, 3) := dk_182 0 60 (dk_at dksJ15_toString_1 13 rfl rfl)
theorem dJ15_toString_40 : decode cJ15_toString 40 = .ok (.goto 4, 3) := dk_167 0 4 (dk_at dksJ15_toString_1 16 rfl rfl)
theorem dJ15_toString_43 : decode cJ15_toString 43 = .ok (.aload_n 1, 1) := dk_43 (dk_at dksJ15_toString_1 19 rfl rfl)
theorem dJ15_toString_44 : decode cJ15_toString 44 = .ok (.areturn, 1) := dk_176 (dk_at dksJ15_toString_1 20 rfl rfl)
abbrev cJ15_getLocalizedMessage : ByteArray := prog_55_method_7_code
def yJ15_getLocalizedMessage : MethodName := ⟨RJ15, "getLocalizedMessage", "()Ljava/lang/String;"⟩
theorem dJ15_getLocalizedMessage_0 : decode cJ15_getLocalizedMessage 0 = .ok (.aload_n 0, 1) := by decide +kernel
theorem dJ15_getLocalizedMessage_1 : decode cJ15_getLocalizedMessage 1 = .ok (.invokevirtual 39, 3) := by decide +kernel
theorem dJ15_getLocalizedMessage_4 : decode cJ15_getLocalizedMessage 4 = .ok (.areturn, 1) := by decide +kernel
abbrev cJ15_getMessage : ByteArray := prog_55_method_6_code
def yJ15_getMessage : MethodName := ⟨RJ15, "getMessage", "()Ljava/lang/String;"⟩
theorem dJ15_getMessage_0 : decode cJ15_getMessage 0 = .ok (.aload_n 0, 1) := by decide +kernel
theorem dJ15_getMessage_1 : decode cJ15_getMessage 1 = .ok (.getfield 31, 3) := by decide +kernel
theorem dJ15_getMessage_4 : decode cJ15_getMessage 4 = .ok (.areturn, 1) := by decide +kernel
abbrev cJ15_init_3 : ByteArray := prog_55_method_5_code
def yJ15_init_3 : MethodName := ⟨RJ15, "<init>", "(Ljava/lang/String;Ljava/lang/Throwable;ZZ)V"⟩
def dkwJ15_init_3_2 : List UInt8 := [44, 181, 0, 7, 29, 154, 0, 8, 42, 1, 181, 0, 24, 177]
abbrev dktJ15_init_3_2 : List UInt8 := dkwJ15_init_3_2 ++ []
def dkwJ15_init_3_1 : List UInt8 := [21, 4, 153, 0, 11, 42, 182, 0, 27, 87, 167, 0, 8, 42, 1, 181, 0, 17, 42, 43, 181, 0, 31, 42]
abbrev dktJ15_init_3_1 : List UInt8 := dkwJ15_init_3_1 ++ dktJ15_init_3_2
def dkwJ15_init_3_0 : List UInt8 := [42, 183, 0, 1, 42, 42, 181, 0, 7, 42, 178, 0, 13, 181, 0, 17, 42, 178, 0, 20, 181, 0, 24]
abbrev dktJ15_init_3_0 : List UInt8 := dkwJ15_init_3_0 ++ dktJ15_init_3_1
theorem dksJ15_init_3_0 : cJ15_init_3.data.toList.drop 0 = dktJ15_init_3_0 := by decide +kernel
theorem dksJ15_init_3_1 : cJ15_init_3.data.toList.drop 23 = dktJ15_init_3_1 := dk_seg dksJ15_init_3_0 23 rfl rfl
theorem dksJ15_init_3_2 : cJ15_init_3.data.toList.drop 47 = dktJ15_init_3_2 := dk_seg dksJ15_init_3_1 24 rfl rfl
theorem dJ15_init_3_0 : decode cJ15_init_3 0 = .ok (.aload_n 0, 1) := dk_42 (dk_at dksJ15_init_3_0 0 rfl rfl)
theorem dJ15_init_3_1 : decode cJ15_init_3 1 = .ok (.invokespecial 1, 3) := dk_183 0 1 (dk_at dksJ15_init_3_0 1 rfl rfl)
theorem dJ15_init_3_4 : decode cJ15_init_3 4 = .ok (.aload_n 0, 1) := dk_42 (dk_at dksJ15_init_3_0 4 rfl rfl)
theorem dJ15_init_3_5 : decode cJ15_init_3 5 = .ok (.aload_n 0, 1) := dk_42 (dk_at dksJ15_init_3_0 5 rfl rfl)
theorem dJ15_init_3_6 : decode cJ15_init_3 6 = .ok (.putfield 7, 3) := dk_181 0 7 (dk_at dksJ15_init_3_0 6 rfl rfl)
theorem dJ15_init_3_9 : decode cJ15_init_3 9 = .ok (.aload_n 0, 1) := dk_42 (dk_at dksJ15_init_3_0 9 rfl rfl)
theorem dJ15_init_3_10 : decode cJ15_init_3 10 = .ok (.getstatic 13, 3) := dk_178 0 13 (dk_at dksJ15_init_3_0 10 rfl rfl)
theorem dJ15_init_3_13 : decode cJ15_init_3 13 = .ok (.putfield 17, 3) := dk_181 0 17 (dk_at dksJ15_init_3_0 13 rfl rfl)
theorem dJ15_init_3_16 : decode cJ15_init_3 16 = .ok (.aload_n 0, 1) := dk_42 (dk_at dksJ15_init_3_0 16 rfl rfl)
theorem dJ15_init_3_17 : decode cJ15_init_3 17 = .ok (.getstatic 20, 3) := dk_178 0 20 (dk_at dksJ15_init_3_0 17 rfl rfl)
theorem dJ15_init_3_20 : decode cJ15_init_3 20 = .ok (.putfield 24, 3) := dk_181 0 24 (dk_at dksJ15_init_3_0 20 rfl rfl)
theorem dJ15_init_3_23 : decode cJ15_init_3 23 = .ok (.iload 4, 2) := dk_21 4 (dk_at dksJ15_init_3_1 0 rfl rfl)
theorem dJ15_init_3_25 : decode cJ15_init_3 25 = .ok (.ifCond .eq 11, 3) := dk_153 0 11 (dk_at dksJ15_init_3_1 2 rfl rfl)
theorem dJ15_init_3_28 : decode cJ15_init_3 28 = .ok (.aload_n 0, 1) := dk_42 (dk_at dksJ15_init_3_1 5 rfl rfl)
theorem dJ15_init_3_29 : decode cJ15_init_3 29 = .ok (.invokevirtual 27, 3) := dk_182 0 27 (dk_at dksJ15_init_3_1 6 rfl rfl)
theorem dJ15_init_3_32 : decode cJ15_init_3 32 = .ok (.pop, 1) := dk_87 (dk_at dksJ15_init_3_1 9 rfl rfl)
theorem dJ15_init_3_33 : decode cJ15_init_3 33 = .ok (.goto 8, 3) := dk_167 0 8 (dk_at dksJ15_init_3_1 10 rfl rfl)
theorem dJ15_init_3_36 : decode cJ15_init_3 36 = .ok (.aload_n 0, 1) := dk_42 (dk_at dksJ15_init_3_1 13 rfl rfl)
theorem dJ15_init_3_37 : decode cJ15_init_3 37 = .ok (.aconst_null, 1) := dk_1 (dk_at dksJ15_init_3_1 14 rfl rfl)
theorem dJ15_init_3_38 : decode cJ15_init_3 38 = .ok (.putfield 17, 3) := dk_181 0 17 (dk_at dksJ15_init_3_1 15 rfl rfl)
theorem dJ15_init_3_41 : decode cJ15_init_3 41 = .ok (.aload_n 0, 1) := dk_42 (dk_at dksJ15_init_3_1 18 rfl rfl)
theorem dJ15_init_3_42 : decode cJ15_init_3 42 = .ok (.aload_n 1, 1) := dk_43 (dk_at dksJ15_init_3_1 19 rfl rfl)
theorem dJ15_init_3_43 : decode cJ15_init_3 43 = .ok (.putfield 31, 3) := dk_181 0 31 (dk_at dksJ15_init_3_1 20 rfl rfl)
theorem dJ15_init_3_46 : decode cJ15_init_3 46 = .ok (.aload_n 0, 1) := dk_42 (dk_at dksJ15_init_3_1 23 rfl rfl)
theorem dJ15_init_3_47 : decode cJ15_init_3 47 = .ok (.aload_n 2, 1) := dk_44 (dk_at dksJ15_init_3_2 0 rfl rfl)
theorem dJ15_init_3_48 : decode cJ15_init_3 48 = .ok (.putfield 7, 3) := dk_181 0 7 (dk_at dksJ15_init_3_2 1 rfl rfl)
theorem dJ15_init_3_51 : decode cJ15_init_3 51 = .ok (.iload_n 3, 1) := dk_29 (dk_at dksJ15_init_3_2 4 rfl rfl)
theorem dJ15_init_3_52 : decode cJ15_init_3 52 = .ok (.ifCond .ne 8, 3) := dk_154 0 8 (dk_at dksJ15_init_3_2 5 rfl rfl)
theorem dJ15_init_3_55 : decode cJ15_init_3 55 = .ok (.aload_n 0, 1) := dk_42 (dk_at dksJ15_init_3_2 8 rfl rfl)
theorem dJ15_init_3_56 : decode cJ15_init_3 56 = .ok (.aconst_null, 1) := dk_1 (dk_at dksJ15_init_3_2 9 rfl rfl)
theorem dJ15_init_3_57 : decode cJ15_init_3 57 = .ok (.putfield 24, 3) := dk_181 0 24 (dk_at dksJ15_init_3_2 10 rfl rfl)
theorem dJ15_init_3_60 : decode cJ15_init_3 60 = .ok (.return_, 1) := dk_177 (dk_at dksJ15_init_3_2 13 rfl rfl)
abbrev cJ15_init_4 : ByteArray := prog_55_method_2_code
def yJ15_init_4 : MethodName := ⟨RJ15, "<init>", "(Ljava/lang/String;)V"⟩
def dkwJ15_init_4_1 : List UInt8 := [182, 0, 27, 87, 42, 43, 181, 0, 31, 177]
abbrev dktJ15_init_4_1 : List UInt8 := dkwJ15_init_4_1 ++ []
def dkwJ15_init_4_0 : List UInt8 := [42, 183, 0, 1, 42, 42, 181, 0, 7, 42, 178, 0, 13, 181, 0, 17, 42, 178, 0, 20, 181, 0, 24, 42]
abbrev dktJ15_init_4_0 : List UInt8 := dkwJ15_init_4_0 ++ dktJ15_init_4_1
theorem dksJ15_init_4_0 : cJ15_init_4.data.toList.drop 0 = dktJ15_init_4_0 := by decide +kernel
theorem dksJ15_init_4_1 : cJ15_init_4.data.toList.drop 24 = dktJ15_init_4_1 := dk_seg dksJ15_init_4_0 24 rfl rfl
theorem dJ15_init_4_0 : decode cJ15_init_4 0 = .ok (.aload_n 0, 1) := dk_42 (dk_at dksJ15_init_4_0 0 rfl rfl)
theorem dJ15_init_4_1 : decode cJ15_init_4 1 = .ok (.invokespecial 1, 3) := dk_183 0 1 (dk_at dksJ15_init_4_0 1 rfl rfl)
theorem dJ15_init_4_4 : decode cJ15_init_4 4 = .ok (.aload_n 0, 1) := dk_42 (dk_at dksJ15_init_4_0 4 rfl rfl)
theorem dJ15_init_4_5 : decode cJ15_init_4 5 = .ok (.aload_n 0, 1) := dk_42 (dk_at dksJ15_init_4_0 5 rfl rfl)
theorem dJ15_init_4_6 : decode cJ15_init_4 6 = .ok (.putfield 7, 3) := dk_181 0 7 (dk_at dksJ15_init_4_0 6 rfl rfl)
theorem dJ15_init_4_9 : decode cJ15_init_4 9 = .ok (.aload_n 0, 1) := dk_42 (dk_at dksJ15_init_4_0 9 rfl rfl)
theorem dJ15_init_4_10 : decode cJ15_init_4 10 = .ok (.getstatic 13, 3) := dk_178 0 13 (dk_at dksJ15_init_4_0 10 rfl rfl)
theorem dJ15_init_4_13 : decode cJ15_init_4 13 = .ok (.putfield 17, 3) := dk_181 0 17 (dk_at dksJ15_init_4_0 13 rfl rfl)
theorem dJ15_init_4_16 : decode cJ15_init_4 16 = .ok (.aload_n 0, 1) := dk_42 (dk_at dksJ15_init_4_0 16 rfl rfl)
theorem dJ15_init_4_17 : decode cJ15_init_4 17 = .ok (.getstatic 20, 3) := dk_178 0 20 (dk_at dksJ15_init_4_0 17 rfl rfl)
theorem dJ15_init_4_20 : decode cJ15_init_4 20 = .ok (.putfield 24, 3) := dk_181 0 24 (dk_at dksJ15_init_4_0 20 rfl rfl)
theorem dJ15_init_4_23 : decode cJ15_init_4 23 = .ok (.aload_n 0, 1) := dk_42 (dk_at dksJ15_init_4_0 23 rfl rfl)
theorem dJ15_init_4_24 : decode cJ15_init_4 24 = .ok (.invokevirtual 27, 3) := dk_182 0 27 (dk_at dksJ15_init_4_1 0 rfl rfl)
theorem dJ15_init_4_27 : decode cJ15_init_4 27 = .ok (.pop, 1) := dk_87 (dk_at dksJ15_init_4_1 3 rfl rfl)
theorem dJ15_init_4_28 : decode cJ15_init_4 28 = .ok (.aload_n 0, 1) := dk_42 (dk_at dksJ15_init_4_1 4 rfl rfl)
theorem dJ15_init_4_29 : decode cJ15_init_4 29 = .ok (.aload_n 1, 1) := dk_43 (dk_at dksJ15_init_4_1 5 rfl rfl)
theorem dJ15_init_4_30 : decode cJ15_init_4 30 = .ok (.putfield 31, 3) := dk_181 0 31 (dk_at dksJ15_init_4_1 6 rfl rfl)
theorem dJ15_init_4_33 : decode cJ15_init_4 33 = .ok (.return_, 1) := dk_177 (dk_at dksJ15_init_4_1 9 rfl rfl)
theorem q111 : (Jvm.Cond.initialized "java/lang/Throwable") ∈ lw_all := lw_g (lw_at lw_m1 28 rfl) rfl
theorem q821 : (Jvm.Cond.declares ({ cls := "java/lang/Throwable", name := "<init>", desc := "()V" } : Jvm.MethodName)) ∈ lw_tbl := lw_at lw_m4 18 rfl
theorem q822 : (Jvm.Cond.declares ({ cls := "java/lang/Throwable", name := "<init>", desc := "(Ljava/lang/String;)V" } : Jvm.MethodName)) ∈ lw_tbl := lw_at lw_m4 19 rfl
theorem q826 : (Jvm.Cond.lays "java/lang/Throwable" "java/lang/Throwable" "cause" "Ljava/lang/Throwable;") ∈ lw_all := lw_g (lw_at lw_m4 23 rfl) rfl
theorem q828 : (Jvm.Cond.lays "java/lang/Throwable" "java/lang/Throwable" "stackTrace" "[Ljava/lang/StackTraceElement;") ∈ lw_all := lw_g (lw_at lw_m4 25 rfl) rfl
theorem q830 : (Jvm.Cond.lays "java/lang/Throwable" "java/lang/Throwable" "suppressedExceptions" "Ljava/util/List;") ∈ lw_all := lw_g (lw_at lw_m4 27 rfl) rfl
theorem q832 : (Jvm.Cond.lays "java/lang/Throwable" "java/lang/Throwable" "detailMessage" "Ljava/lang/String;") ∈ lw_all := lw_g (lw_at lw_m4 29 rfl) rfl
theorem q834 : (Jvm.Cond.lays "java/lang/Throwable" "java/lang/Throwable" "backtrace" "Ljava/lang/Object;") ∈ lw_all := lw_g (lw_at lw_m4 31 rfl) rfl
theorem q835 : (Jvm.Cond.fieldLink "java/lang/Throwable" (198 : Nat) "java/lang/Throwable" "backtrace" "Ljava/lang/Object;") ∈ lw_all := lw_g (lw_at lw_m4 32 rfl) rfl
theorem q836 : (Jvm.Cond.superclass "java/lang/Throwable" "java/lang/Object") ∈ lw_all := lw_g (lw_at lw_m4 33 rfl) rfl
theorem q837 : (Jvm.Cond.instanceMethod ({ cls := "java/lang/Throwable", name := "<init>", desc := "()V" } : Jvm.MethodName)) ∈ lw_all := lw_g (lw_at lw_m4 34 rfl) rfl
theorem q838 : (Jvm.Cond.code ({ cls := "java/lang/Throwable", name := "<init>", desc := "()V" } : Jvm.MethodName) prog_55_method_1_code (1 : Nat) (Option.none : Option Jvm.ClassFile.FieldType)) ∈ lw_all := lw_g (lw_at lw_m4 35 rfl) rfl
theorem q839 : (Jvm.Cond.methodLink "java/lang/Throwable" (1 : Nat) ({ cls := "java/lang/Object", name := "<init>", desc := "()V" } : Jvm.MethodName)) ∈ lw_all := lw_g (lw_at lw_m4 36 rfl) rfl
theorem q840 : (Jvm.Cond.fieldLink "java/lang/Throwable" (13 : Nat) "java/lang/Throwable" "UNASSIGNED_STACK" "[Ljava/lang/StackTraceElement;") ∈ lw_all := lw_g (lw_at lw_m4 37 rfl) rfl
theorem q841 : (Jvm.Cond.laysStatic "java/lang/Throwable" "UNASSIGNED_STACK" "[Ljava/lang/StackTraceElement;") ∈ lw_tbl := lw_at lw_m4 38 rfl
theorem q842 : (Jvm.Cond.fieldLink "java/lang/Throwable" (20 : Nat) "java/lang/Throwable" "SUPPRESSED_SENTINEL" "Ljava/util/List;") ∈ lw_all := lw_g (lw_at lw_m4 39 rfl) rfl
theorem q843 : (Jvm.Cond.laysStatic "java/lang/Throwable" "SUPPRESSED_SENTINEL" "Ljava/util/List;") ∈ lw_tbl := lw_at lw_m4 40 rfl
theorem q844 : (Jvm.Cond.methodLink "java/lang/Throwable" (27 : Nat) ({ cls := "java/lang/Throwable", name := "fillInStackTrace", desc := "()Ljava/lang/Throwable;" } : Jvm.MethodName)) ∈ lw_all := lw_g (lw_at lw_m4 41 rfl) rfl
theorem q845 : (Jvm.Cond.instanceMethod ({ cls := "java/lang/Throwable", name := "fillInStackTrace", desc := "()Ljava/lang/Throwable;" } : Jvm.MethodName)) ∈ lw_all := lw_g (lw_at lw_m4 42 rfl) rfl
theorem q846 : (Jvm.Cond.sameMethod "java/lang/Throwable" "java/lang/Throwable" "fillInStackTrace" "()Ljava/lang/Throwable;") ∈ lw_all := lw_g (lw_at lw_m4 43 rfl) rfl
theorem q853 : (Jvm.Cond.codeSync ({ cls := "java/lang/Throwable", name := "fillInStackTrace", desc := "()Ljava/lang/Throwable;" } : Jvm.MethodName) prog_55_method_18_code (1 : Nat) (Option.some (Jvm.ClassFile.FieldType.object "java/lang/Throwable"))) ∈ lw_all := lw_g (lw_at lw_m4 50 rfl) rfl
theorem q854 : (Jvm.Cond.methodLink "java/lang/Throwable" (202 : Nat) ({ cls := "java/lang/Throwable", name := "fillInStackTrace", desc := "(I)Ljava/lang/Throwable;" } : Jvm.MethodName)) ∈ lw_all := lw_g (lw_at lw_m4 51 rfl) rfl
theorem q855 : (Jvm.Cond.privateMethod ({ cls := "java/lang/Throwable", name := "fillInStackTrace", desc := "(I)Ljava/lang/Throwable;" } : Jvm.MethodName)) ∈ lw_tbl := lw_at lw_m4 52 rfl
theorem q856 : (Jvm.Cond.instanceMethod ({ cls := "java/lang/Throwable", name := "fillInStackTrace", desc := "(I)Ljava/lang/Throwable;" } : Jvm.MethodName)) ∈ lw_all := lw_g (lw_at lw_m4 53 rfl) rfl
theorem q857 : (Jvm.Cond.instantiable "java/lang/Throwable" (6 : Nat)) ∈ lw_all := lw_g (lw_at lw_m4 54 rfl) rfl
theorem q858 : (Jvm.Cond.native ({ cls := "java/lang/Throwable", name := "fillInStackTrace", desc := "(I)Ljava/lang/Throwable;" } : Jvm.MethodName)) ∈ lw_all := lw_g (lw_at lw_m4 55 rfl) rfl
theorem q869 : (Jvm.Cond.instanceMethod ({ cls := "java/lang/Throwable", name := "<init>", desc := "(Ljava/lang/Throwable;)V" } : Jvm.MethodName)) ∈ lw_all := lw_g (lw_at lw_m4 66 rfl) rfl
theorem q870 : (Jvm.Cond.code ({ cls := "java/lang/Throwable", name := "<init>", desc := "(Ljava/lang/Throwable;)V" } : Jvm.MethodName) prog_55_method_4_code (2 : Nat) (Option.none : Option Jvm.ClassFile.FieldType)) ∈ lw_all := lw_g (lw_at lw_m4 67 rfl) rfl
theorem q871 : (Jvm.Cond.methodLink "java/lang/Throwable" (35 : Nat) ({ cls := "java/lang/Throwable", name := "toString", desc := "()Ljava/lang/String;" } : Jvm.MethodName)) ∈ lw_all := lw_g (lw_at lw_m4 68 rfl) rfl
theorem q872 : (Jvm.Cond.instanceMethod ({ cls := "java/lang/Throwable", name := "toString", desc := "()Ljava/lang/String;" } : Jvm.MethodName)) ∈ lw_all := lw_g (lw_at lw_m4 69 rfl) rfl
theorem q873 : (Jvm.Cond.sameMethod "java/lang/Throwable" "java/lang/Throwable" "toString" "()Ljava/lang/String;") ∈ lw_all := lw_g (lw_at lw_m4 70 rfl) rfl
theorem q881 : (Jvm.Cond.code ({ cls := "java/lang/Throwable", name := "toString", desc := "()Ljava/lang/String;" } : Jvm.MethodName) prog_55_method_11_code (3 : Nat) (Option.some (Jvm.ClassFile.FieldType.object "java/lang/String"))) ∈ lw_all := lw_g (lw_at lw_m4 78 rfl) rfl
theorem q882 : (Jvm.Cond.methodLink "java/lang/Throwable" (69 : Nat) ({ cls := "java/lang/Object", name := "getClass", desc := "()Ljava/lang/Class;" } : Jvm.MethodName)) ∈ lw_all := lw_g (lw_at lw_m4 79 rfl) rfl
theorem q883 : (Jvm.Cond.methodLink "java/lang/Throwable" (78 : Nat) ({ cls := "java/lang/Throwable", name := "getLocalizedMessage", desc := "()Ljava/lang/String;" } : Jvm.MethodName)) ∈ lw_all := lw_g (lw_at lw_m4 80 rfl) rfl
theorem q884 : (Jvm.Cond.instanceMethod ({ cls := "java/lang/Throwable", name := "getLocalizedMessage", desc := "()Ljava/lang/String;" } : Jvm.MethodName)) ∈ lw_all := lw_g (lw_at lw_m4 81 rfl) rfl
theorem q885 : (Jvm.Cond.sameMethod "java/lang/Throwable" "java/lang/Throwable" "getLocalizedMessage" "()Ljava/lang/String;") ∈ lw_all := lw_g (lw_at lw_m4 82 rfl) rfl
theorem q893 : (Jvm.Cond.code ({ cls := "java/lang/Throwable", name := "getLocalizedMessage", desc := "()Ljava/lang/String;" } : Jvm.MethodName) prog_55_method_7_code (1 : Nat) (Option.some (Jvm.ClassFile.FieldType.object "java/lang/String"))) ∈ lw_all := lw_g (lw_at lw_m4 90 rfl) rfl
theorem q894 : (Jvm.Cond.methodLink "java/lang/Throwable" (39 : Nat) ({ cls := "java/lang/Throwable", name := "getMessage", desc := "()Ljava/lang/String;" } : Jvm.MethodName)) ∈ lw_all := lw_g (lw_at lw_m4 91 rfl) rfl
theorem q895 : (Jvm.Cond.instanceMethod ({ cls := "java/lang/Throwable", name := "getMessage", desc := "()Ljava/lang/String;" } : Jvm.MethodName)) ∈ lw_all := lw_g (lw_at lw_m4 92 rfl) rfl
theorem q896 : (Jvm.Cond.sameMethod "java/lang/Throwable" "java/lang/Throwable" "getMessage" "()Ljava/lang/String;") ∈ lw_all := lw_g (lw_at lw_m4 93 rfl) rfl
theorem q904 : (Jvm.Cond.code ({ cls := "java/lang/Throwable", name := "getMessage", desc := "()Ljava/lang/String;" } : Jvm.MethodName) prog_55_method_6_code (1 : Nat) (Option.some (Jvm.ClassFile.FieldType.object "java/lang/String"))) ∈ lw_all := lw_g (lw_at lw_m4 101 rfl) rfl
theorem q905 : (Jvm.Cond.classLink "java/lang/Throwable" (44 : Nat) "java/lang/StringBuilder") ∈ lw_all := lw_g (lw_at lw_m4 102 rfl) rfl
theorem q907 : (Jvm.Cond.methodLink "java/lang/Throwable" (46 : Nat) ({ cls := "java/lang/StringBuilder", name := "<init>", desc := "()V" } : Jvm.MethodName)) ∈ lw_all := lw_g (lw_at lw_m4 104 rfl) rfl
theorem q936 : (Jvm.Cond.methodLink "java/lang/Throwable" (49 : Nat) ({ cls := "java/lang/StringBuilder", name := "append", desc := "(Ljava/lang/String;)Ljava/lang/StringBuilder;" } : Jvm.MethodName)) ∈ lw_all := lw_g (lw_at lw_m4 133 rfl) rfl
theorem q1036 : (Jvm.Cond.stringRef "java/lang/Throwable" (81 : Nat) ": ") ∈ lw_tbl := lw_at lw_m4 233 rfl
theorem q1037 : (Jvm.Cond.methodLink "java/lang/Throwable" (60 : Nat) ({ cls := "java/lang/StringBuilder", name := "toString", desc := "()Ljava/lang/String;" } : Jvm.MethodName)) ∈ lw_all := lw_g (lw_at lw_m4 234 rfl) rfl
theorem q1097 : (Jvm.Cond.fieldLink "java/lang/Throwable" (198 : Nat) "java/lang/Throwable" "backtrace" "Ljava/lang/Object;") ∈ lw_all := lw_g (lw_at lw_m5 54 rfl) rfl
theorem q1098 : (Jvm.Cond.fieldLink "java/lang/Throwable" (31 : Nat) "java/lang/Throwable" "detailMessage" "Ljava/lang/String;") ∈ lw_all := lw_g (lw_at lw_m5 55 rfl) rfl
theorem q1099 : (Jvm.Cond.fieldLink "java/lang/Throwable" (7 : Nat) "java/lang/Throwable" "cause" "Ljava/lang/Throwable;") ∈ lw_all := lw_g (lw_at lw_m5 56 rfl) rfl
theorem q1100 : (Jvm.Cond.fieldLink "java/lang/Throwable" (17 : Nat) "java/lang/Throwable" "stackTrace" "[Ljava/lang/StackTraceElement;") ∈ lw_all := lw_g (lw_at lw_m5 57 rfl) rfl
theorem q1101 : (Jvm.Cond.fieldLink "java/lang/Throwable" (24 : Nat) "java/lang/Throwable" "suppressedExceptions" "Ljava/util/List;") ∈ lw_all := lw_g (lw_at lw_m5 58 rfl) rfl
theorem q1102 : (Jvm.Cond.soleField "java/lang/Throwable" "backtrace") ∈ lw_all := lw_g (lw_at lw_m5 59 rfl) rfl
theorem q1103 : (Jvm.Cond.soleField "java/lang/Throwable" "detailMessage") ∈ lw_all := lw_g (lw_at lw_m5 60 rfl) rfl
theorem q1104 : (Jvm.Cond.soleField "java/lang/Throwable" "cause") ∈ lw_all := lw_g (lw_at lw_m5 61 rfl) rfl
theorem q1105 : (Jvm.Cond.soleField "java/lang/Throwable" "stackTrace") ∈ lw_all := lw_g (lw_at lw_m5 62 rfl) rfl
theorem q1107 : (Jvm.Cond.soleField "java/lang/Throwable" "depth") ∈ lw_all := lw_g (lw_at lw_m5 64 rfl) rfl
theorem q1108 : (Jvm.Cond.soleField "java/lang/Throwable" "suppressedExceptions") ∈ lw_all := lw_g (lw_at lw_m5 65 rfl) rfl
theorem q1302 : (Jvm.Cond.instanceMethod ({ cls := "java/lang/Throwable", name := "<init>", desc := "(Ljava/lang/String;Ljava/lang/Throwable;ZZ)V" } : Jvm.MethodName)) ∈ lw_all := lw_g (lw_at lw_m6 19 rfl) rfl
theorem q1303 : (Jvm.Cond.code ({ cls := "java/lang/Throwable", name := "<init>", desc := "(Ljava/lang/String;Ljava/lang/Throwable;ZZ)V" } : Jvm.MethodName) prog_55_method_5_code (5 : Nat) (Option.none : Option Jvm.ClassFile.FieldType)) ∈ lw_all := lw_g (lw_at lw_m6 20 rfl) rfl
theorem q1725 : (Jvm.Cond.instanceMethod ({ cls := "java/lang/Throwable", name := "<init>", desc := "(Ljava/lang/String;)V" } : Jvm.MethodName)) ∈ lw_all := lw_g (lw_at lw_m7 202 rfl) rfl
theorem q1726 : (Jvm.Cond.code ({ cls := "java/lang/Throwable", name := "<init>", desc := "(Ljava/lang/String;)V" } : Jvm.MethodName) prog_55_method_2_code (2 : Nat) (Option.none : Option Jvm.ClassFile.FieldType)) ∈ lw_all := lw_g (lw_at lw_m7 203 rfl) rfl
theorem q2572 : (Jvm.Cond.instanceMethod ({ cls := "java/lang/Throwable", name := "getCause", desc := "()Ljava/lang/Throwable;" } : Jvm.MethodName)) ∈ lw_all := lw_g (lw_at lw_m11 89 rfl) rfl
theorem q2573 : (Jvm.Cond.sameMethod "java/lang/Throwable" "java/lang/Throwable" "getCause" "()Ljava/lang/Throwable;") ∈ lw_all := lw_g (lw_at lw_m11 90 rfl) rfl
theorem q2581 : (Jvm.Cond.codeSync ({ cls := "java/lang/Throwable", name := "getCause", desc := "()Ljava/lang/Throwable;" } : Jvm.MethodName) prog_55_method_8_code (1 : Nat) (Option.some (Jvm.ClassFile.FieldType.object "java/lang/Throwable"))) ∈ lw_all := lw_g (lw_at lw_m11 98 rfl) rfl
theorem q3009 : (Jvm.Cond.sameMethod "java/lang/Throwable" "java/lang/Throwable" "fillInStackTrace" "(I)Ljava/lang/Throwable;") ∈ lw_all := lw_g (lw_at lw_m13 46 rfl) rfl
theorem q3093 : (Jvm.Cond.castable "java/lang/Throwable" "java/lang/Object") ∈ lw_tbl := lw_at lw_m13 130 rfl
theorem in_J15 : ∀ w ∈ wsJ150, w ∈ lw_all := lw_in wsJ150 [826, 828, 830, 832, 834] (by decide +kernel) (by decide +kernel)

/-! java/lang/Exception -/
set_option maxRecDepth 100000
def RJ16 : String := "java/lang/Exception"
abbrev cJ16_init : ByteArray := prog_40_method_4_code
def yJ16_init : MethodName := ⟨RJ16, "<init>", "(Ljava/lang/Throwable;)V"⟩
def dkwJ16_init_0 : List UInt8 := [42, 43, 183, 0, 13, 177]
abbrev dktJ16_init_0 : List UInt8 := dkwJ16_init_0 ++ []
theorem dksJ16_init_0 : cJ16_init.data.toList.drop 0 = dktJ16_init_0 := by decide +kernel
theorem dJ16_init_0 : decode cJ16_init 0 = .ok (.aload_n 0, 1) := dk_42 (dk_at dksJ16_init_0 0 rfl rfl)
theorem dJ16_init_1 : decode cJ16_init 1 = .ok (.aload_n 1, 1) := dk_43 (dk_at dksJ16_init_0 1 rfl rfl)
theorem dJ16_init_2 : decode cJ16_init 2 = .ok (.invokespecial 13, 3) := dk_183 0 13 (dk_at dksJ16_init_0 2 rfl rfl)
theorem dJ16_init_5 : decode cJ16_init 5 = .ok (.return_, 1) := dk_177 (dk_at dksJ16_init_0 5 rfl rfl)
abbrev cJ16_init_2 : ByteArray := prog_40_method_1_code
def yJ16_init_2 : MethodName := ⟨RJ16, "<init>", "()V"⟩
theorem dJ16_init_2_0 : decode cJ16_init_2 0 = .ok (.aload_n 0, 1) := by decide +kernel
theorem dJ16_init_2_1 : decode cJ16_init_2 1 = .ok (.invokespecial 1, 3) := by decide +kernel
theorem dJ16_init_2_4 : decode cJ16_init_2 4 = .ok (.return_, 1) := by decide +kernel
abbrev cJ16_init_3 : ByteArray := prog_40_method_5_code
def yJ16_init_3 : MethodName := ⟨RJ16, "<init>", "(Ljava/lang/String;Ljava/lang/Throwable;ZZ)V"⟩
def dkwJ16_init_3_0 : List UInt8 := [42, 43, 44, 29, 21, 4, 183, 0, 16, 177]
abbrev dktJ16_init_3_0 : List UInt8 := dkwJ16_init_3_0 ++ []
theorem dksJ16_init_3_0 : cJ16_init_3.data.toList.drop 0 = dktJ16_init_3_0 := by decide +kernel
theorem dJ16_init_3_0 : decode cJ16_init_3 0 = .ok (.aload_n 0, 1) := dk_42 (dk_at dksJ16_init_3_0 0 rfl rfl)
theorem dJ16_init_3_1 : decode cJ16_init_3 1 = .ok (.aload_n 1, 1) := dk_43 (dk_at dksJ16_init_3_0 1 rfl rfl)
theorem dJ16_init_3_2 : decode cJ16_init_3 2 = .ok (.aload_n 2, 1) := dk_44 (dk_at dksJ16_init_3_0 2 rfl rfl)
theorem dJ16_init_3_3 : decode cJ16_init_3 3 = .ok (.iload_n 3, 1) := dk_29 (dk_at dksJ16_init_3_0 3 rfl rfl)
theorem dJ16_init_3_4 : decode cJ16_init_3 4 = .ok (.iload 4, 2) := dk_21 4 (dk_at dksJ16_init_3_0 4 rfl rfl)
theorem dJ16_init_3_6 : decode cJ16_init_3 6 = .ok (.invokespecial 16, 3) := dk_183 0 16 (dk_at dksJ16_init_3_0 6 rfl rfl)
theorem dJ16_init_3_9 : decode cJ16_init_3 9 = .ok (.return_, 1) := dk_177 (dk_at dksJ16_init_3_0 9 rfl rfl)
abbrev cJ16_init_4 : ByteArray := prog_40_method_2_code
def yJ16_init_4 : MethodName := ⟨RJ16, "<init>", "(Ljava/lang/String;)V"⟩
def dkwJ16_init_4_0 : List UInt8 := [42, 43, 183, 0, 7, 177]
abbrev dktJ16_init_4_0 : List UInt8 := dkwJ16_init_4_0 ++ []
theorem dksJ16_init_4_0 : cJ16_init_4.data.toList.drop 0 = dktJ16_init_4_0 := by decide +kernel
theorem dJ16_init_4_0 : decode cJ16_init_4 0 = .ok (.aload_n 0, 1) := dk_42 (dk_at dksJ16_init_4_0 0 rfl rfl)
theorem dJ16_init_4_1 : decode cJ16_init_4 1 = .ok (.aload_n 1, 1) := dk_43 (dk_at dksJ16_init_4_0 1 rfl rfl)
theorem dJ16_init_4_2 : decode cJ16_init_4 2 = .ok (.invokespecial 7, 3) := dk_183 0 7 (dk_at dksJ16_init_4_0 2 rfl rfl)
theorem dJ16_init_4_5 : decode cJ16_init_4 5 = .ok (.return_, 1) := dk_177 (dk_at dksJ16_init_4_0 5 rfl rfl)
theorem q112 : (Jvm.Cond.initialized "java/lang/Exception") ∈ lw_all := lw_g (lw_at lw_m1 29 rfl) rfl
theorem q819 : (Jvm.Cond.declares ({ cls := "java/lang/Exception", name := "<init>", desc := "()V" } : Jvm.MethodName)) ∈ lw_tbl := lw_at lw_m4 16 rfl
theorem q820 : (Jvm.Cond.declares ({ cls := "java/lang/Exception", name := "<init>", desc := "(Ljava/lang/String;)V" } : Jvm.MethodName)) ∈ lw_tbl := lw_at lw_m4 17 rfl
theorem q866 : (Jvm.Cond.instanceMethod ({ cls := "java/lang/Exception", name := "<init>", desc := "(Ljava/lang/Throwable;)V" } : Jvm.MethodName)) ∈ lw_all := lw_g (lw_at lw_m4 63 rfl) rfl
theorem q867 : (Jvm.Cond.code ({ cls := "java/lang/Exception", name := "<init>", desc := "(Ljava/lang/Throwable;)V" } : Jvm.MethodName) prog_40_method_4_code (2 : Nat) (Option.none : Option Jvm.ClassFile.FieldType)) ∈ lw_all := lw_g (lw_at lw_m4 64 rfl) rfl
theorem q868 : (Jvm.Cond.methodLink "java/lang/Exception" (13 : Nat) ({ cls := "java/lang/Throwable", name := "<init>", desc := "(Ljava/lang/Throwable;)V" } : Jvm.MethodName)) ∈ lw_all := lw_g (lw_at lw_m4 65 rfl) rfl
theorem q1191 : (Jvm.Cond.instanceMethod ({ cls := "java/lang/Exception", name := "<init>", desc := "()V" } : Jvm.MethodName)) ∈ lw_all := lw_g (lw_at lw_m5 148 rfl) rfl
theorem q1192 : (Jvm.Cond.code ({ cls := "java/lang/Exception", name := "<init>", desc := "()V" } : Jvm.MethodName) prog_40_method_1_code (1 : Nat) (Option.none : Option Jvm.ClassFile.FieldType)) ∈ lw_all := lw_g (lw_at lw_m5 149 rfl) rfl
theorem q1193 : (Jvm.Cond.methodLink "java/lang/Exception" (1 : Nat) ({ cls := "java/lang/Throwable", name := "<init>", desc := "()V" } : Jvm.MethodName)) ∈ lw_all := lw_g (lw_at lw_m5 150 rfl) rfl
theorem q1299 : (Jvm.Cond.instanceMethod ({ cls := "java/lang/Exception", name := "<init>", desc := "(Ljava/lang/String;Ljava/lang/Throwable;ZZ)V" } : Jvm.MethodName)) ∈ lw_all := lw_g (lw_at lw_m6 16 rfl) rfl
theorem q1300 : (Jvm.Cond.code ({ cls := "java/lang/Exception", name := "<init>", desc := "(Ljava/lang/String;Ljava/lang/Throwable;ZZ)V" } : Jvm.MethodName) prog_40_method_5_code (5 : Nat) (Option.none : Option Jvm.ClassFile.FieldType)) ∈ lw_all := lw_g (lw_at lw_m6 17 rfl) rfl
theorem q1301 : (Jvm.Cond.methodLink "java/lang/Exception" (16 : Nat) ({ cls := "java/lang/Throwable", name := "<init>", desc := "(Ljava/lang/String;Ljava/lang/Throwable;ZZ)V" } : Jvm.MethodName)) ∈ lw_all := lw_g (lw_at lw_m6 18 rfl) rfl
theorem q1722 : (Jvm.Cond.instanceMethod ({ cls := "java/lang/Exception", name := "<init>", desc := "(Ljava/lang/String;)V" } : Jvm.MethodName)) ∈ lw_all := lw_g (lw_at lw_m7 199 rfl) rfl
theorem q1723 : (Jvm.Cond.code ({ cls := "java/lang/Exception", name := "<init>", desc := "(Ljava/lang/String;)V" } : Jvm.MethodName) prog_40_method_2_code (2 : Nat) (Option.none : Option Jvm.ClassFile.FieldType)) ∈ lw_all := lw_g (lw_at lw_m7 200 rfl) rfl
theorem q1724 : (Jvm.Cond.methodLink "java/lang/Exception" (7 : Nat) ({ cls := "java/lang/Throwable", name := "<init>", desc := "(Ljava/lang/String;)V" } : Jvm.MethodName)) ∈ lw_all := lw_g (lw_at lw_m7 201 rfl) rfl

/-! java/lang/RuntimeException -/
set_option maxRecDepth 100000
def RJ17 : String := "java/lang/RuntimeException"
abbrev cJ17_init : ByteArray := prog_49_method_4_code
def yJ17_init : MethodName := ⟨RJ17, "<init>", "(Ljava/lang/Throwable;)V"⟩
def dkwJ17_init_0 : List UInt8 := [42, 43, 183, 0, 13, 177]
abbrev dktJ17_init_0 : List UInt8 := dkwJ17_init_0 ++ []
theorem dksJ17_init_0 : cJ17_init.data.toList.drop 0 = dktJ17_init_0 := by decide +kernel
theorem dJ17_init_0 : decode cJ17_init 0 = .ok (.aload_n 0, 1) := dk_42 (dk_at dksJ17_init_0 0 rfl rfl)
theorem dJ17_init_1 : decode cJ17_init 1 = .ok (.aload_n 1, 1) := dk_43 (dk_at dksJ17_init_0 1 rfl rfl)
theorem dJ17_init_2 : decode cJ17_init 2 = .ok (.invokespecial 13, 3) := dk_183 0 13 (dk_at dksJ17_init_0 2 rfl rfl)
theorem dJ17_init_5 : decode cJ17_init 5 = .ok (.return_, 1) := dk_177 (dk_at dksJ17_init_0 5 rfl rfl)
abbrev cJ17_init_2 : ByteArray := prog_49_method_1_code
def yJ17_init_2 : MethodName := ⟨RJ17, "<init>", "()V"⟩
theorem dJ17_init_2_0 : decode cJ17_init_2 0 = .ok (.aload_n 0, 1) := by decide +kernel
theorem dJ17_init_2_1 : decode cJ17_init_2 1 = .ok (.invokespecial 1, 3) := by decide +kernel
theorem dJ17_init_2_4 : decode cJ17_init_2 4 = .ok (.return_, 1) := by decide +kernel
abbrev cJ17_init_3 : ByteArray := prog_49_method_2_code
def yJ17_init_3 : MethodName := ⟨RJ17, "<init>", "(Ljava/lang/String;)V"⟩
def dkwJ17_init_3_0 : List UInt8 := [42, 43, 183, 0, 7, 177]
abbrev dktJ17_init_3_0 : List UInt8 := dkwJ17_init_3_0 ++ []
theorem dksJ17_init_3_0 : cJ17_init_3.data.toList.drop 0 = dktJ17_init_3_0 := by decide +kernel
theorem dJ17_init_3_0 : decode cJ17_init_3 0 = .ok (.aload_n 0, 1) := dk_42 (dk_at dksJ17_init_3_0 0 rfl rfl)
theorem dJ17_init_3_1 : decode cJ17_init_3 1 = .ok (.aload_n 1, 1) := dk_43 (dk_at dksJ17_init_3_0 1 rfl rfl)
theorem dJ17_init_3_2 : decode cJ17_init_3 2 = .ok (.invokespecial 7, 3) := dk_183 0 7 (dk_at dksJ17_init_3_0 2 rfl rfl)
theorem dJ17_init_3_5 : decode cJ17_init_3 5 = .ok (.return_, 1) := dk_177 (dk_at dksJ17_init_3_0 5 rfl rfl)
theorem q113 : (Jvm.Cond.initialized "java/lang/RuntimeException") ∈ lw_all := lw_g (lw_at lw_m1 30 rfl) rfl
theorem q817 : (Jvm.Cond.declares ({ cls := "java/lang/RuntimeException", name := "<init>", desc := "()V" } : Jvm.MethodName)) ∈ lw_tbl := lw_at lw_m4 14 rfl
theorem q818 : (Jvm.Cond.declares ({ cls := "java/lang/RuntimeException", name := "<init>", desc := "(Ljava/lang/String;)V" } : Jvm.MethodName)) ∈ lw_tbl := lw_at lw_m4 15 rfl
theorem q863 : (Jvm.Cond.instanceMethod ({ cls := "java/lang/RuntimeException", name := "<init>", desc := "(Ljava/lang/Throwable;)V" } : Jvm.MethodName)) ∈ lw_all := lw_g (lw_at lw_m4 60 rfl) rfl
theorem q864 : (Jvm.Cond.code ({ cls := "java/lang/RuntimeException", name := "<init>", desc := "(Ljava/lang/Throwable;)V" } : Jvm.MethodName) prog_49_method_4_code (2 : Nat) (Option.none : Option Jvm.ClassFile.FieldType)) ∈ lw_all := lw_g (lw_at lw_m4 61 rfl) rfl
theorem q865 : (Jvm.Cond.methodLink "java/lang/RuntimeException" (13 : Nat) ({ cls := "java/lang/Exception", name := "<init>", desc := "(Ljava/lang/Throwable;)V" } : Jvm.MethodName)) ∈ lw_all := lw_g (lw_at lw_m4 62 rfl) rfl
theorem q1188 : (Jvm.Cond.instanceMethod ({ cls := "java/lang/RuntimeException", name := "<init>", desc := "()V" } : Jvm.MethodName)) ∈ lw_all := lw_g (lw_at lw_m5 145 rfl) rfl
theorem q1189 : (Jvm.Cond.code ({ cls := "java/lang/RuntimeException", name := "<init>", desc := "()V" } : Jvm.MethodName) prog_49_method_1_code (1 : Nat) (Option.none : Option Jvm.ClassFile.FieldType)) ∈ lw_all := lw_g (lw_at lw_m5 146 rfl) rfl
theorem q1190 : (Jvm.Cond.methodLink "java/lang/RuntimeException" (1 : Nat) ({ cls := "java/lang/Exception", name := "<init>", desc := "()V" } : Jvm.MethodName)) ∈ lw_all := lw_g (lw_at lw_m5 147 rfl) rfl
theorem q1719 : (Jvm.Cond.instanceMethod ({ cls := "java/lang/RuntimeException", name := "<init>", desc := "(Ljava/lang/String;)V" } : Jvm.MethodName)) ∈ lw_all := lw_g (lw_at lw_m7 196 rfl) rfl
theorem q1720 : (Jvm.Cond.code ({ cls := "java/lang/RuntimeException", name := "<init>", desc := "(Ljava/lang/String;)V" } : Jvm.MethodName) prog_49_method_2_code (2 : Nat) (Option.none : Option Jvm.ClassFile.FieldType)) ∈ lw_all := lw_g (lw_at lw_m7 197 rfl) rfl
theorem q1721 : (Jvm.Cond.methodLink "java/lang/RuntimeException" (7 : Nat) ({ cls := "java/lang/Exception", name := "<init>", desc := "(Ljava/lang/String;)V" } : Jvm.MethodName)) ∈ lw_all := lw_g (lw_at lw_m7 198 rfl) rfl

/-! java/util/NoSuchElementException -/
set_option maxRecDepth 100000
def RJ18 : String := "java/util/NoSuchElementException"
def TJ18 : u_T := fun k => match k with
  | 0 => ("java/lang/Throwable", "cause", "Ljava/lang/Throwable;", false)
  | 1 => ("java/lang/Throwable", "stackTrace", "[Ljava/lang/StackTraceElement;", false)
  | 2 => ("java/lang/Throwable", "suppressedExceptions", "Ljava/util/List;", false)
  | 3 => ("java/lang/Throwable", "detailMessage", "Ljava/lang/String;", false)
  | 4 => ("java/lang/Throwable", "backtrace", "Ljava/lang/Object;", false)
  | _ => ("java/lang/Throwable", "depth", "I", false)
def tyJ18 : Nat → FieldType := fun k => match k with
  | 0 => .object "java/lang/Throwable"
  | 1 => .array (.object "java/lang/StackTraceElement")
  | 2 => .object "java/util/List"
  | 3 => .object "java/lang/String"
  | 4 => .object "java/lang/Object"
  | _ => .int
abbrev wsJ180 : List Cond := u_ws RJ18 TJ18 6
theorem nmJ18 : ∀ a, a < 6 → ∀ b, b < 6 → a ≠ b → (TJ18 a).2.1 ≠ (TJ18 b).2.1 := by decide +kernel
theorem tyJ18_ok : ∀ k, k < 6 → parseFieldDescriptor (TJ18 k).2.2.1 = some (tyJ18 k) := by decide +kernel
abbrev cJ18_init : ByteArray := prog_90_method_3_code
def yJ18_init : MethodName := ⟨RJ18, "<init>", "(Ljava/lang/Throwable;)V"⟩
def dkwJ18_init_0 : List UInt8 := [42, 43, 183, 0, 10, 177]
abbrev dktJ18_init_0 : List UInt8 := dkwJ18_init_0 ++ []
theorem dksJ18_init_0 : cJ18_init.data.toList.drop 0 = dktJ18_init_0 := by decide +kernel
theorem dJ18_init_0 : decode cJ18_init 0 = .ok (.aload_n 0, 1) := dk_42 (dk_at dksJ18_init_0 0 rfl rfl)
theorem dJ18_init_1 : decode cJ18_init 1 = .ok (.aload_n 1, 1) := dk_43 (dk_at dksJ18_init_0 1 rfl rfl)
theorem dJ18_init_2 : decode cJ18_init 2 = .ok (.invokespecial 10, 3) := dk_183 0 10 (dk_at dksJ18_init_0 2 rfl rfl)
theorem dJ18_init_5 : decode cJ18_init 5 = .ok (.return_, 1) := dk_177 (dk_at dksJ18_init_0 5 rfl rfl)
abbrev cJ18_init_2 : ByteArray := prog_90_method_1_code
def yJ18_init_2 : MethodName := ⟨RJ18, "<init>", "()V"⟩
theorem dJ18_init_2_0 : decode cJ18_init_2 0 = .ok (.aload_n 0, 1) := by decide +kernel
theorem dJ18_init_2_1 : decode cJ18_init_2 1 = .ok (.invokespecial 1, 3) := by decide +kernel
theorem dJ18_init_2_4 : decode cJ18_init_2 4 = .ok (.return_, 1) := by decide +kernel
theorem q114 : (Jvm.Cond.initialized "java/util/NoSuchElementException") ∈ lw_all := lw_g (lw_at lw_m1 31 rfl) rfl
theorem q594 : (Jvm.Cond.selects "java/util/NoSuchElementException" ({ cls := "java/lang/Object", name := "getClass", desc := "()Ljava/lang/Class;" } : Jvm.MethodName) ({ cls := "java/lang/Object", name := "getClass", desc := "()Ljava/lang/Class;" } : Jvm.MethodName)) ∈ lw_all := lw_g (lw_at lw_m3 31 rfl) rfl
theorem q815 : (Jvm.Cond.instantiable "java/util/NoSuchElementException" (6 : Nat)) ∈ lw_all := lw_g (lw_at lw_m4 12 rfl) rfl
theorem q816 : (Jvm.Cond.castable "java/util/NoSuchElementException" "java/util/NoSuchElementException") ∈ lw_tbl := lw_at lw_m4 13 rfl
theorem q823 : (Jvm.Cond.selects "java/util/NoSuchElementException" ({ cls := "java/lang/Throwable", name := "fillInStackTrace", desc := "(I)Ljava/lang/Throwable;" } : Jvm.MethodName) ({ cls := "java/lang/Throwable", name := "fillInStackTrace", desc := "(I)Ljava/lang/Throwable;" } : Jvm.MethodName)) ∈ lw_all := lw_g (lw_at lw_m4 20 rfl) rfl
theorem q824 : (Jvm.Cond.selects "java/util/NoSuchElementException" ({ cls := "java/lang/Throwable", name := "fillInStackTrace", desc := "()Ljava/lang/Throwable;" } : Jvm.MethodName) ({ cls := "java/lang/Throwable", name := "fillInStackTrace", desc := "()Ljava/lang/Throwable;" } : Jvm.MethodName)) ∈ lw_all := lw_g (lw_at lw_m4 21 rfl) rfl
theorem q825 : (Jvm.Cond.lays "java/util/NoSuchElementException" "java/lang/Throwable" "cause" "Ljava/lang/Throwable;") ∈ lw_all := lw_g (lw_at lw_m4 22 rfl) rfl
theorem q827 : (Jvm.Cond.lays "java/util/NoSuchElementException" "java/lang/Throwable" "stackTrace" "[Ljava/lang/StackTraceElement;") ∈ lw_all := lw_g (lw_at lw_m4 24 rfl) rfl
theorem q829 : (Jvm.Cond.lays "java/util/NoSuchElementException" "java/lang/Throwable" "suppressedExceptions" "Ljava/util/List;") ∈ lw_all := lw_g (lw_at lw_m4 26 rfl) rfl
theorem q831 : (Jvm.Cond.lays "java/util/NoSuchElementException" "java/lang/Throwable" "detailMessage" "Ljava/lang/String;") ∈ lw_all := lw_g (lw_at lw_m4 28 rfl) rfl
theorem q833 : (Jvm.Cond.lays "java/util/NoSuchElementException" "java/lang/Throwable" "backtrace" "Ljava/lang/Object;") ∈ lw_all := lw_g (lw_at lw_m4 30 rfl) rfl
theorem q860 : (Jvm.Cond.instanceMethod ({ cls := "java/util/NoSuchElementException", name := "<init>", desc := "(Ljava/lang/Throwable;)V" } : Jvm.MethodName)) ∈ lw_all := lw_g (lw_at lw_m4 57 rfl) rfl
theorem q861 : (Jvm.Cond.code ({ cls := "java/util/NoSuchElementException", name := "<init>", desc := "(Ljava/lang/Throwable;)V" } : Jvm.MethodName) prog_90_method_3_code (2 : Nat) (Option.none : Option Jvm.ClassFile.FieldType)) ∈ lw_all := lw_g (lw_at lw_m4 58 rfl) rfl
theorem q862 : (Jvm.Cond.methodLink "java/util/NoSuchElementException" (10 : Nat) ({ cls := "java/lang/RuntimeException", name := "<init>", desc := "(Ljava/lang/Throwable;)V" } : Jvm.MethodName)) ∈ lw_all := lw_g (lw_at lw_m4 59 rfl) rfl
theorem q880 : (Jvm.Cond.selects "java/util/NoSuchElementException" ({ cls := "java/lang/Throwable", name := "toString", desc := "()Ljava/lang/String;" } : Jvm.MethodName) ({ cls := "java/lang/Throwable", name := "toString", desc := "()Ljava/lang/String;" } : Jvm.MethodName)) ∈ lw_all := lw_g (lw_at lw_m4 77 rfl) rfl
theorem q892 : (Jvm.Cond.selects "java/util/NoSuchElementException" ({ cls := "java/lang/Throwable", name := "getLocalizedMessage", desc := "()Ljava/lang/String;" } : Jvm.MethodName) ({ cls := "java/lang/Throwable", name := "getLocalizedMessage", desc := "()Ljava/lang/String;" } : Jvm.MethodName)) ∈ lw_all := lw_g (lw_at lw_m4 89 rfl) rfl
theorem q903 : (Jvm.Cond.selects "java/util/NoSuchElementException" ({ cls := "java/lang/Throwable", name := "getMessage", desc := "()Ljava/lang/String;" } : Jvm.MethodName) ({ cls := "java/lang/Throwable", name := "getMessage", desc := "()Ljava/lang/String;" } : Jvm.MethodName)) ∈ lw_all := lw_g (lw_at lw_m4 100 rfl) rfl
theorem q1106 : (Jvm.Cond.lays "java/util/NoSuchElementException" "java/lang/Throwable" "depth" "I") ∈ lw_all := lw_g (lw_at lw_m5 63 rfl) rfl
theorem q1109 : (Jvm.Cond.superclass "java/util/NoSuchElementException" "java/lang/RuntimeException") ∈ lw_all := lw_g (lw_at lw_m5 66 rfl) rfl
theorem q1185 : (Jvm.Cond.instanceMethod ({ cls := "java/util/NoSuchElementException", name := "<init>", desc := "()V" } : Jvm.MethodName)) ∈ lw_all := lw_g (lw_at lw_m5 142 rfl) rfl
theorem q1186 : (Jvm.Cond.code ({ cls := "java/util/NoSuchElementException", name := "<init>", desc := "()V" } : Jvm.MethodName) prog_90_method_1_code (1 : Nat) (Option.none : Option Jvm.ClassFile.FieldType)) ∈ lw_all := lw_g (lw_at lw_m5 143 rfl) rfl
theorem q1187 : (Jvm.Cond.methodLink "java/util/NoSuchElementException" (1 : Nat) ({ cls := "java/lang/RuntimeException", name := "<init>", desc := "()V" } : Jvm.MethodName)) ∈ lw_all := lw_g (lw_at lw_m5 144 rfl) rfl
theorem q2580 : (Jvm.Cond.selects "java/util/NoSuchElementException" ({ cls := "java/lang/Throwable", name := "getCause", desc := "()Ljava/lang/Throwable;" } : Jvm.MethodName) ({ cls := "java/lang/Throwable", name := "getCause", desc := "()Ljava/lang/Throwable;" } : Jvm.MethodName)) ∈ lw_all := lw_g (lw_at lw_m11 97 rfl) rfl
theorem q3057 : (Jvm.Cond.castable "java/util/NoSuchElementException" "java/lang/Object") ∈ lw_tbl := lw_at lw_m13 94 rfl
theorem in_J18 : ∀ w ∈ wsJ180, w ∈ lw_all := lw_in wsJ180 [825, 827, 829, 831, 833, 1106] (by decide +kernel) (by decide +kernel)

/-! java/lang/AbstractStringBuilder -/
set_option maxRecDepth 100000
def RJ19 : String := "java/lang/AbstractStringBuilder"
abbrev cJ19_init : ByteArray := prog_34_method_2_code
def yJ19_init : MethodName := ⟨RJ19, "<init>", "(I)V"⟩
def dkwJ19_init_1 : List UInt8 := [167, 0, 16, 42, 27, 184, 0, 26, 181, 0, 15, 42, 4, 181, 0, 22, 177]
abbrev dktJ19_init_1 : List UInt8 := dkwJ19_init_1 ++ []
def dkwJ19_init_0 : List UInt8 := [42, 183, 0, 3, 178, 0, 18, 153, 0, 18, 42, 27, 188, 8, 181, 0, 15, 42, 3, 181, 0, 22]
abbrev dktJ19_init_0 : List UInt8 := dkwJ19_init_0 ++ dktJ19_init_1
theorem dksJ19_init_0 : cJ19_init.data.toList.drop 0 = dktJ19_init_0 := by decide +kernel
theorem dksJ19_init_1 : cJ19_init.data.toList.drop 22 = dktJ19_init_1 := dk_seg dksJ19_init_0 22 rfl rfl
theorem dJ19_init_0 : decode cJ19_init 0 = .ok (.aload_n 0, 1) := dk_42 (dk_at dksJ19_init_0 0 rfl rfl)
theorem dJ19_init_1 : decode cJ19_init 1 = .ok (.invokespecial 3, 3) := dk_183 0 3 (dk_at dksJ19_init_0 1 rfl rfl)
theorem dJ19_init_4 : decode cJ19_init 4 = .ok (.getstatic 18, 3) := dk_178 0 18 (dk_at dksJ19_init_0 4 rfl rfl)
theorem dJ19_init_7 : decode cJ19_init 7 = .ok (.ifCond .eq 18, 3) := dk_153 0 18 (dk_at dksJ19_init_0 7 rfl rfl)
theorem dJ19_init_10 : decode cJ19_init 10 = .ok (.aload_n 0, 1) := dk_42 (dk_at dksJ19_init_0 10 rfl rfl)
theorem dJ19_init_11 : decode cJ19_init 11 = .ok (.iload_n 1, 1) := dk_27 (dk_at dksJ19_init_0 11 rfl rfl)
theorem dJ19_init_12 : decode cJ19_init 12 = .ok (.newarray .byte, 2) := dk_188_8 (dk_at dksJ19_init_0 12 rfl rfl)
theorem dJ19_init_14 : decode cJ19_init 14 = .ok (.putfield 15, 3) := dk_181 0 15 (dk_at dksJ19_init_0 14 rfl rfl)
theorem dJ19_init_17 : decode cJ19_init 17 = .ok (.aload_n 0, 1) := dk_42 (dk_at dksJ19_init_0 17 rfl rfl)
theorem dJ19_init_18 : decode cJ19_init 18 = .ok (.iconst 0, 1) := dk_3 (dk_at dksJ19_init_0 18 rfl rfl)
theorem dJ19_init_19 : decode cJ19_init 19 = .ok (.putfield 22, 3) := dk_181 0 22 (dk_at dksJ19_init_0 19 rfl rfl)
theorem dJ19_init_22 : decode cJ19_init 22 = .ok (.goto 16, 3) := dk_167 0 16 (dk_at dksJ19_init_1 0 rfl rfl)
theorem dJ19_init_25 : decode cJ19_init 25 = .ok (.aload_n 0, 1) := dk_42 (dk_at dksJ19_init_1 3 rfl rfl)
theorem dJ19_init_26 : decode cJ19_init 26 = .ok (.iload_n 1, 1) := dk_27 (dk_at dksJ19_init_1 4 rfl rfl)
theorem dJ19_init_27 : decode cJ19_init 27 = .ok (.invokestatic 26, 3) := dk_184 0 26 (dk_at dksJ19_init_1 5 rfl rfl)
theorem dJ19_init_30 : decode cJ19_init 30 = .ok (.putfield 15, 3) := dk_181 0 15 (dk_at dksJ19_init_1 8 rfl rfl)
theorem dJ19_init_33 : decode cJ19_init 33 = .ok (.aload_n 0, 1) := dk_42 (dk_at dksJ19_init_1 11 rfl rfl)
theorem dJ19_init_34 : decode cJ19_init 34 = .ok (.iconst 1, 1) := dk_4 (dk_at dksJ19_init_1 12 rfl rfl)
theorem dJ19_init_35 : decode cJ19_init 35 = .ok (.putfield 22, 3) := dk_181 0 22 (dk_at dksJ19_init_1 13 rfl rfl)
theorem dJ19_init_38 : decode cJ19_init 38 = .ok (.return_, 1) := dk_177 (dk_at dksJ19_init_1 16 rfl rfl)
abbrev cJ19_append : ByteArray := prog_34_method_22_code
def yJ19_append : MethodName := ⟨RJ19, "append", "(Ljava/lang/String;)Ljava/lang/AbstractStringBuilder;"⟩
def dkwJ19_append_1 : List UInt8 := [42, 42, 180, 0, 79, 43, 182, 0, 208, 42, 89, 180, 0, 79, 28, 96, 181, 0, 79, 42, 176]
abbrev dktJ19_append_1 : List UInt8 := dkwJ19_append_1 ++ []
def dkwJ19_append_0 : List UInt8 := [43, 199, 0, 8, 42, 182, 0, 204, 176, 43, 182, 0, 32, 61, 42, 42, 180, 0, 79, 28, 96, 182, 0, 100]
abbrev dktJ19_append_0 : List UInt8 := dkwJ19_append_0 ++ dktJ19_append_1
theorem dksJ19_append_0 : cJ19_append.data.toList.drop 0 = dktJ19_append_0 := by decide +kernel
theorem dksJ19_append_1 : cJ19_append.data.toList.drop 24 = dktJ19_append_1 := dk_seg dksJ19_append_0 24 rfl rfl
theorem dJ19_append_0 : decode cJ19_append 0 = .ok (.aload_n 1, 1) := dk_43 (dk_at dksJ19_append_0 0 rfl rfl)
theorem dJ19_append_1 : decode cJ19_append 1 = .ok (.ifnonnull 8, 3) := dk_199 0 8 (dk_at dksJ19_append_0 1 rfl rfl)
theorem dJ19_append_4 : decode cJ19_append 4 = .ok (.aload_n 0, 1) := dk_42 (dk_at dksJ19_append_0 4 rfl rfl)
theorem dJ19_append_5 : decode cJ19_append 5 = .ok (.invokevirtual 204, 3) := dk_182 0 204 (dk_at dksJ19_append_0 5 rfl rfl)
theorem dJ19_append_8 : decode cJ19_append 8 = .ok (.areturn, 1) := dk_176 (dk_at dksJ19_append_0 8 rfl rfl)
theorem dJ19_append_9 : decode cJ19_append 9 = .ok (.aload_n 1, 1) := dk_43 (dk_at dksJ19_append_0 9 rfl rfl)
theorem dJ19_append_10 : decode cJ19_append 10 = .ok (.invokevirtual 32, 3) := dk_182 0 32 (dk_at dksJ19_append_0 10 rfl rfl)
theorem dJ19_append_13 : decode cJ19_append 13 = .ok (.istore_n 2, 1) := dk_61 (dk_at dksJ19_append_0 13 rfl rfl)
theorem dJ19_append_14 : decode cJ19_append 14 = .ok (.aload_n 0, 1) := dk_42 (dk_at dksJ19_append_0 14 rfl rfl)
theorem dJ19_append_15 : decode cJ19_append 15 = .ok (.aload_n 0, 1) := dk_42 (dk_at dksJ19_append_0 15 rfl rfl)
theorem dJ19_append_16 : decode cJ19_append 16 = .ok (.getfield 79, 3) := dk_180 0 79 (dk_at dksJ19_append_0 16 rfl rfl)
theorem dJ19_append_19 : decode cJ19_append 19 = .ok (.iload_n 2, 1) := dk_28 (dk_at dksJ19_append_0 19 rfl rfl)
theorem dJ19_append_20 : decode cJ19_append 20 = .ok (.iadd, 1) := dk_96 (dk_at dksJ19_append_0 20 rfl rfl)
theorem dJ19_append_21 : decode cJ19_append 21 = .ok (.invokevirtual 100, 3) := dk_182 0 100 (dk_at dksJ19_append_0 21 rfl rfl)
theorem dJ19_append_24 : decode cJ19_append 24 = .ok (.aload_n 0, 1) := dk_42 (dk_at dksJ19_append_1 0 rfl rfl)
theorem dJ19_append_25 : decode cJ19_append 25 = .ok (.aload_n 0, 1) := dk_42 (dk_at dksJ19_append_1 1 rfl rfl)
theorem dJ19_append_26 : decode cJ19_append 26 = .ok (.getfield 79, 3) := dk_180 0 79 (dk_at dksJ19_append_1 2 rfl rfl)
theorem dJ19_append_29 : decode cJ19_append 29 = .ok (.aload_n 1, 1) := dk_43 (dk_at dksJ19_append_1 5 rfl rfl)
theorem dJ19_append_30 : decode cJ19_append 30 = .ok (.invokevirtual 208, 3) := dk_182 0 208 (dk_at dksJ19_append_1 6 rfl rfl)
theorem dJ19_append_33 : decode cJ19_append 33 = .ok (.aload_n 0, 1) := dk_42 (dk_at dksJ19_append_1 9 rfl rfl)
theorem dJ19_append_34 : decode cJ19_append 34 = .ok (.dup, 1) := dk_89 (dk_at dksJ19_append_1 10 rfl rfl)
theorem dJ19_append_35 : decode cJ19_append 35 = .ok (.getfield 79, 3) := dk_180 0 79 (dk_at dksJ19_append_1 11 rfl rfl)
theorem dJ19_append_38 : decode cJ19_append 38 = .ok (.iload_n 2, 1) := dk_28 (dk_at dksJ19_append_1 14 rfl rfl)
theorem dJ19_append_39 : decode cJ19_append 39 = .ok (.iadd, 1) := dk_96 (dk_at dksJ19_append_1 15 rfl rfl)
theorem dJ19_append_40 : decode cJ19_append 40 = .ok (.putfield 79, 3) := dk_181 0 79 (dk_at dksJ19_append_1 16 rfl rfl)
theorem dJ19_append_43 : decode cJ19_append 43 = .ok (.aload_n 0, 1) := dk_42 (dk_at dksJ19_append_1 19 rfl rfl)
theorem dJ19_append_44 : decode cJ19_append 44 = .ok (.areturn, 1) := dk_176 (dk_at dksJ19_append_1 20 rfl rfl)
abbrev cJ19_appendNull : ByteArray := prog_34_method_26_code
def yJ19_appendNull : MethodName := ⟨RJ19, "appendNull", "()Ljava/lang/AbstractStringBuilder;"⟩
def dkwJ19_appendNull_3 : List UInt8 := [184, 0, 226, 60, 42, 27, 181, 0, 79, 42, 176]
abbrev dktJ19_appendNull_3 : List UInt8 := dkwJ19_appendNull_3 ++ []
def dkwJ19_appendNull_2 : List UInt8 := [16, 108, 84, 44, 27, 132, 1, 1, 16, 108, 84, 167, 0, 17, 44, 27, 16, 110, 16, 117, 16, 108, 16, 108]
abbrev dktJ19_appendNull_2 : List UInt8 := dkwJ19_appendNull_2 ++ dktJ19_appendNull_3
def dkwJ19_appendNull_1 : List UInt8 := [153, 0, 38, 44, 27, 132, 1, 1, 16, 110, 84, 44, 27, 132, 1, 1, 16, 117, 84, 44, 27, 132, 1, 1]
abbrev dktJ19_appendNull_1 : List UInt8 := dkwJ19_appendNull_1 ++ dktJ19_appendNull_2
def dkwJ19_appendNull_0 : List UInt8 := [42, 42, 180, 0, 79, 7, 96, 182, 0, 100, 42, 180, 0, 79, 60, 42, 180, 0, 15, 77, 42, 182, 0, 83]
abbrev dktJ19_appendNull_0 : List UInt8 := dkwJ19_appendNull_0 ++ dktJ19_appendNull_1
theorem dksJ19_appendNull_0 : cJ19_appendNull.data.toList.drop 0 = dktJ19_appendNull_0 := by decide +kernel
theorem dksJ19_appendNull_1 : cJ19_appendNull.data.toList.drop 24 = dktJ19_appendNull_1 := dk_seg dksJ19_appendNull_0 24 rfl rfl
theorem dksJ19_appendNull_2 : cJ19_appendNull.data.toList.drop 48 = dktJ19_appendNull_2 := dk_seg dksJ19_appendNull_1 24 rfl rfl
theorem dksJ19_appendNull_3 : cJ19_appendNull.data.toList.drop 72 = dktJ19_appendNull_3 := dk_seg dksJ19_appendNull_2 24 rfl rfl
theorem dJ19_appendNull_0 : decode cJ19_appendNull 0 = .ok (.aload_n 0, 1) := dk_42 (dk_at dksJ19_appendNull_0 0 rfl rfl)
theorem dJ19_appendNull_1 : decode cJ19_appendNull 1 = .ok (.aload_n 0, 1) := dk_42 (dk_at dksJ19_appendNull_0 1 rfl rfl)
theorem dJ19_appendNull_2 : decode cJ19_appendNull 2 = .ok (.getfield 79, 3) := dk_180 0 79 (dk_at dksJ19_appendNull_0 2 rfl rfl)
theorem dJ19_appendNull_5 : decode cJ19_appendNull 5 = .ok (.iconst 4, 1) := dk_7 (dk_at dksJ19_appendNull_0 5 rfl rfl)
theorem dJ19_appendNull_6 : decode cJ19_appendNull 6 = .ok (.iadd, 1) := dk_96 (dk_at dksJ19_appendNull_0 6 rfl rfl)
theorem dJ19_appendNull_7 : decode cJ19_appendNull 7 = .ok (.invokevirtual 100, 3) := dk_182 0 100 (dk_at dksJ19_appendNull_0 7 rfl rfl)
theorem dJ19_appendNull_10 : decode cJ19_appendNull 10 = .ok (.aload_n 0, 1) := dk_42 (dk_at dksJ19_appendNull_0 10 rfl rfl)
theorem dJ19_appendNull_11 : decode cJ19_appendNull 11 = .ok (.getfield 79, 3) := dk_180 0 79 (dk_at dksJ19_appendNull_0 11 rfl rfl)
theorem dJ19_appendNull_14 : decode cJ19_appendNull 14 = .ok (.istore_n 1, 1) := dk_60 (dk_at dksJ19_appendNull_0 14 rfl rfl)
theorem dJ19_appendNull_15 : decode cJ19_appendNull 15 = .ok (.aload_n 0, 1) := dk_42 (dk_at dksJ19_appendNull_0 15 rfl rfl)
theorem dJ19_appendNull_16 : decode cJ19_appendNull 16 = .ok (.getfield 15, 3) := dk_180 0 15 (dk_at dksJ19_appendNull_0 16 rfl rfl)
theorem dJ19_appendNull_19 : decode cJ19_appendNull 19 = .ok (.astore_n 2, 1) := dk_77 (dk_at dksJ19_appendNull_0 19 rfl rfl)
theorem dJ19_appendNull_20 : decode cJ19_appendNull 20 = .ok (.aload_n 0, 1) := dk_42 (dk_at dksJ19_appendNull_0 20 rfl rfl)
theorem dJ19_appendNull_21 : decode cJ19_appendNull 21 = .ok (.invokevirtual 83, 3) := dk_182 0 83 (dk_at dksJ19_appendNull_0 21 rfl rfl)
theorem dJ19_appendNull_24 : decode cJ19_appendNull 24 = .ok (.ifCond .eq 38, 3) := dk_153 0 38 (dk_at dksJ19_appendNull_1 0 rfl rfl)
theorem dJ19_appendNull_27 : decode cJ19_appendNull 27 = .ok (.aload_n 2, 1) := dk_44 (dk_at dksJ19_appendNull_1 3 rfl rfl)
theorem dJ19_appendNull_28 : decode cJ19_appendNull 28 = .ok (.iload_n 1, 1) := dk_27 (dk_at dksJ19_appendNull_1 4 rfl rfl)
theorem dJ19_appendNull_29 : decode cJ19_appendNull 29 = .ok (.iinc 1 1, 3) := dk_132 1 1 (dk_at dksJ19_appendNull_1 5 rfl rfl)
theorem dJ19_appendNull_32 : decode cJ19_appendNull 32 = .ok (.bipush 110, 2) := dk_16 110 (dk_at dksJ19_appendNull_1 8 rfl rfl)
theorem dJ19_appendNull_34 : decode cJ19_appendNull 34 = .ok (.bastore, 1) := dk_84 (dk_at dksJ19_appendNull_1 10 rfl rfl)
theorem dJ19_appendNull_35 : decode cJ19_appendNull 35 = .ok (.aload_n 2, 1) := dk_44 (dk_at dksJ19_appendNull_1 11 rfl rfl)
theorem dJ19_appendNull_36 : decode cJ19_appendNull 36 = .ok (.iload_n 1, 1) := dk_27 (dk_at dksJ19_appendNull_1 12 rfl rfl)
theorem dJ19_appendNull_37 : decode cJ19_appendNull 37 = .ok (.iinc 1 1, 3) := dk_132 1 1 (dk_at dksJ19_appendNull_1 13 rfl rfl)
theorem dJ19_appendNull_40 : decode cJ19_appendNull 40 = .ok (.bipush 117, 2) := dk_16 117 (dk_at dksJ19_appendNull_1 16 rfl rfl)
theorem dJ19_appendNull_42 : decode cJ19_appendNull 42 = .ok (.bastore, 1) := dk_84 (dk_at dksJ19_appendNull_1 18 rfl rfl)
theorem dJ19_appendNull_43 : decode cJ19_appendNull 43 = .ok (.aload_n 2, 1) := dk_44 (dk_at dksJ19_appendNull_1 19 rfl rfl)
theorem dJ19_appendNull_44 : decode cJ19_appendNull 44 = .ok (.iload_n 1, 1) := dk_27 (dk_at dksJ19_appendNull_1 20 rfl rfl)
theorem dJ19_appendNull_45 : decode cJ19_appendNull 45 = .ok (.iinc 1 1, 3) := dk_132 1 1 (dk_at dksJ19_appendNull_1 21 rfl rfl)
theorem dJ19_appendNull_48 : decode cJ19_appendNull 48 = .ok (.bipush 108, 2) := dk_16 108 (dk_at dksJ19_appendNull_2 0 rfl rfl)
theorem dJ19_appendNull_50 : decode cJ19_appendNull 50 = .ok (.bastore, 1) := dk_84 (dk_at dksJ19_appendNull_2 2 rfl rfl)
theorem dJ19_appendNull_51 : decode cJ19_appendNull 51 = .ok (.aload_n 2, 1) := dk_44 (dk_at dksJ19_appendNull_2 3 rfl rfl)
theorem dJ19_appendNull_52 : decode cJ19_appendNull 52 = .ok (.iload_n 1, 1) := dk_27 (dk_at dksJ19_appendNull_2 4 rfl rfl)
theorem dJ19_appendNull_53 : decode cJ19_appendNull 53 = .ok (.iinc 1 1, 3) := dk_132 1 1 (dk_at dksJ19_appendNull_2 5 rfl rfl)
theorem dJ19_appendNull_56 : decode cJ19_appendNull 56 = .ok (.bipush 108, 2) := dk_16 108 (dk_at dksJ19_appendNull_2 8 rfl rfl)
theorem dJ19_appendNull_58 : decode cJ19_appendNull 58 = .ok (.bastore, 1) := dk_84 (dk_at dksJ19_appendNull_2 10 rfl rfl)
theorem dJ19_appendNull_59 : decode cJ19_appendNull 59 = .ok (.goto 17, 3) := dk_167 0 17 (dk_at dksJ19_appendNull_2 11 rfl rfl)
theorem dJ19_appendNull_62 : decode cJ19_appendNull 62 = .ok (.aload_n 2, 1) := dk_44 (dk_at dksJ19_appendNull_2 14 rfl rfl)
theorem dJ19_appendNull_63 : decode cJ19_appendNull 63 = .ok (.iload_n 1, 1) := dk_27 (dk_at dksJ19_appendNull_2 15 rfl rfl)
theorem dJ19_appendNull_64 : decode cJ19_appendNull 64 = .ok (.bipush 110, 2) := dk_16 110 (dk_at dksJ19_appendNull_2 16 rfl rfl)
theorem dJ19_appendNull_66 : decode cJ19_appendNull 66 = .ok (.bipush 117, 2) := dk_16 117 (dk_at dksJ19_appendNull_2 18 rfl rfl)
theorem dJ19_appendNull_68 : decode cJ19_appendNull 68 = .ok (.bipush 108, 2) := dk_16 108 (dk_at dksJ19_appendNull_2 20 rfl rfl)
theorem dJ19_appendNull_70 : decode cJ19_appendNull 70 = .ok (.bipush 108, 2) := dk_16 108 (dk_at dksJ19_appendNull_2 22 rfl rfl)
theorem dJ19_appendNull_72 : decode cJ19_appendNull 72 = .ok (.invokestatic 226, 3) := dk_184 0 226 (dk_at dksJ19_appendNull_3 0 rfl rfl)
theorem dJ19_appendNull_75 : decode cJ19_appendNull 75 = .ok (.istore_n 1, 1) := dk_60 (dk_at dksJ19_appendNull_3 3 rfl rfl)
theorem dJ19_appendNull_76 : decode cJ19_appendNull 76 = .ok (.aload_n 0, 1) := dk_42 (dk_at dksJ19_appendNull_3 4 rfl rfl)
theorem dJ19_appendNull_77 : decode cJ19_appendNull 77 = .ok (.iload_n 1, 1) := dk_27 (dk_at dksJ19_appendNull_3 5 rfl rfl)
theorem dJ19_appendNull_78 : decode cJ19_appendNull 78 = .ok (.putfield 79, 3) := dk_181 0 79 (dk_at dksJ19_appendNull_3 6 rfl rfl)
theorem dJ19_appendNull_81 : decode cJ19_appendNull 81 = .ok (.aload_n 0, 1) := dk_42 (dk_at dksJ19_appendNull_3 9 rfl rfl)
theorem dJ19_appendNull_82 : decode cJ19_appendNull 82 = .ok (.areturn, 1) := dk_176 (dk_at dksJ19_appendNull_3 10 rfl rfl)
abbrev cJ19_ensureCapacityInternal : ByteArray := prog_34_method_9_code
def yJ19_ensureCapacityInternal : MethodName := ⟨RJ19, "ensureCapacityInternal", "(I)V"⟩
def dkwJ19_ensureCapacityInternal_1 : List UInt8 := [182, 0, 104, 42, 180, 0, 22, 120, 184, 0, 108, 181, 0, 15, 177]
abbrev dktJ19_ensureCapacityInternal_1 : List UInt8 := dkwJ19_ensureCapacityInternal_1 ++ []
def dkwJ19_ensureCapacityInternal_0 : List UInt8 := [42, 180, 0, 15, 190, 42, 180, 0, 22, 122, 61, 27, 28, 100, 158, 0, 24, 42, 42, 180, 0, 15, 42, 27]
abbrev dktJ19_ensureCapacityInternal_0 : List UInt8 := dkwJ19_ensureCapacityInternal_0 ++ dktJ19_ensureCapacityInternal_1
theorem dksJ19_ensureCapacityInternal_0 : cJ19_ensureCapacityInternal.data.toList.drop 0 = dktJ19_ensureCapacityInternal_0 := by decide +kernel
theorem dksJ19_ensureCapacityInternal_1 : cJ19_ensureCapacityInternal.data.toList.drop 24 = dktJ19_ensureCapacityInternal_1 := dk_seg dksJ19_ensureCapacityInternal_0 24 rfl rfl
theorem dJ19_ensureCapacityInternal_0 : decode cJ19_ensureCapacityInternal 0 = .ok (.aload_n 0, 1) := dk_42 (dk_at dksJ19_ensureCapacityInternal_0 0 rfl rfl)
theorem dJ19_ensureCapacityInternal_1 : decode cJ19_ensureCapacityInternal 1 = .ok (.getfield 15, 3) := dk_180 0 15 (dk_at dksJ19_ensureCapacityInternal_0 1 rfl rfl)
theorem dJ19_ensureCapacityInternal_4 : decode cJ19_ensureCapacityInternal 4 = .ok (.arraylength, 1) := dk_190 (dk_at dksJ19_ensureCapacityInternal_0 4 rfl rfl)
theorem dJ19_ensureCapacityInternal_5 : decode cJ19_ensureCapacityInternal 5 = .ok (.aload_n 0, 1) := dk_42 (dk_at dksJ19_ensureCapacityInternal_0 5 rfl rfl)
theorem dJ19_ensureCapacityInternal_6 : decode cJ19_ensureCapacityInternal 6 = .ok (.getfield 22, 3) := dk_180 0 22 (dk_at dksJ19_ensureCapacityInternal_0 6 rfl rfl)
theorem dJ19_ensureCapacityInternal_9 : decode cJ19_ensureCapacityInternal 9 = .ok (.ishr, 1) := dk_122 (dk_at dksJ19_ensureCapacityInternal_0 9 rfl rfl)
theorem dJ19_ensureCapacityInternal_10 : decode cJ19_ensureCapacityInternal 10 = .ok (.istore_n 2, 1) := dk_61 (dk_at dksJ19_ensureCapacityInternal_0 10 rfl rfl)
theorem dJ19_ensureCapacityInternal_11 : decode cJ19_ensureCapacityInternal 11 = .ok (.iload_n 1, 1) := dk_27 (dk_at dksJ19_ensureCapacityInternal_0 11 rfl rfl)
theorem dJ19_ensureCapacityInternal_12 : decode cJ19_ensureCapacityInternal 12 = .ok (.iload_n 2, 1) := dk_28 (dk_at dksJ19_ensureCapacityInternal_0 12 rfl rfl)
theorem dJ19_ensureCapacityInternal_13 : decode cJ19_ensureCapacityInternal 13 = .ok (.isub, 1) := dk_100 (dk_at dksJ19_ensureCapacityInternal_0 13 rfl rfl)
theorem dJ19_ensureCapacityInternal_14 : decode cJ19_ensureCapacityInternal 14 = .ok (.ifCond .le 24, 3) := dk_158 0 24 (dk_at dksJ19_ensureCapacityInternal_0 14 rfl rfl)
theorem dJ19_ensureCapacityInternal_17 : decode cJ19_ensureCapacityInternal 17 = .ok (.aload_n 0, 1) := dk_42 (dk_at dksJ19_ensureCapacityInternal_0 17 rfl rfl)
theorem dJ19_ensureCapacityInternal_18 : decode cJ19_ensureCapacityInternal 18 = .ok (.aload_n 0, 1) := dk_42 (dk_at dksJ19_ensureCapacityInternal_0 18 rfl rfl)
theorem dJ19_ensureCapacityInternal_19 : decode cJ19_ensureCapacityInternal 19 = .ok (.getfield 15, 3) := dk_180 0 15 (dk_at dksJ19_ensureCapacityInternal_0 19 rfl rfl)
theorem dJ19_ensureCapacityInternal_22 : decode cJ19_ensureCapacityInternal 22 = .ok (.aload_n 0, 1) := dk_42 (dk_at dksJ19_ensureCapacityInternal_0 22 rfl rfl)
theorem dJ19_ensureCapacityInternal_23 : decode cJ19_ensureCapacityInternal 23 = .ok (.iload_n 1, 1) := dk_27 (dk_at dksJ19_ensureCapacityInternal_0 23 rfl rfl)
theorem dJ19_ensureCapacityInternal_24 : decode cJ19_ensureCapacityInternal 24 = .ok (.invokevirtual 104, 3) := dk_182 0 104 (dk_at dksJ19_ensureCapacityInternal_1 0 rfl rfl)
theorem dJ19_ensureCapacityInternal_27 : decode cJ19_ensureCapacityInternal 27 = .ok (.aload_n 0, 1) := dk_42 (dk_at dksJ19_ensureCapacityInternal_1 3 rfl rfl)
theorem dJ19_ensureCapacityInternal_28 : decode cJ19_ensureCapacityInternal 28 = .ok (.getfield 22, 3) := dk_180 0 22 (dk_at dksJ19_ensureCapacityInternal_1 4 rfl rfl)
theorem dJ19_ensureCapacityInternal_31 : decode cJ19_ensureCapacityInternal 31 = .ok (.ishl, 1) := dk_120 (dk_at dksJ19_ensureCapacityInternal_1 7 rfl rfl)
theorem dJ19_ensureCapacityInternal_32 : decode cJ19_ensureCapacityInternal 32 = .ok (.invokestatic 108, 3) := dk_184 0 108 (dk_at dksJ19_ensureCapacityInternal_1 8 rfl rfl)
theorem dJ19_ensureCapacityInternal_35 : decode cJ19_ensureCapacityInternal 35 = .ok (.putfield 15, 3) := dk_181 0 15 (dk_at dksJ19_ensureCapacityInternal_1 11 rfl rfl)
theorem dJ19_ensureCapacityInternal_38 : decode cJ19_ensureCapacityInternal 38 = .ok (.return_, 1) := dk_177 (dk_at dksJ19_ensureCapacityInternal_1 14 rfl rfl)
abbrev cJ19_newCapacity : ByteArray := prog_34_method_10_code
def yJ19_newCapacity : MethodName := ⟨RJ19, "newCapacity", "(I)I"⟩
def dkwJ19_newCapacity_2 : List UInt8 := [183, 0, 124, 191, 21, 5, 42, 180, 0, 22, 122, 172]
abbrev dktJ19_newCapacity_2 : List UInt8 := dkwJ19_newCapacity_2 ++ []
def dkwJ19_newCapacity_1 : List UInt8 := [180, 0, 22, 120, 96, 184, 0, 114, 54, 5, 21, 5, 18, 39, 160, 0, 13, 187, 0, 120, 89, 18, 122]
abbrev dktJ19_newCapacity_1 : List UInt8 := dkwJ19_newCapacity_1 ++ dktJ19_newCapacity_2
def dkwJ19_newCapacity_0 : List UInt8 := [42, 180, 0, 15, 190, 61, 27, 42, 180, 0, 22, 120, 62, 29, 28, 100, 54, 4, 28, 21, 4, 28, 5, 42]
abbrev dktJ19_newCapacity_0 : List UInt8 := dkwJ19_newCapacity_0 ++ dktJ19_newCapacity_1
theorem dksJ19_newCapacity_0 : cJ19_newCapacity.data.toList.drop 0 = dktJ19_newCapacity_0 := by decide +kernel
theorem dksJ19_newCapacity_1 : cJ19_newCapacity.data.toList.drop 24 = dktJ19_newCapacity_1 := dk_seg dksJ19_newCapacity_0 24 rfl rfl
theorem dksJ19_newCapacity_2 : cJ19_newCapacity.data.toList.drop 47 = dktJ19_newCapacity_2 := dk_seg dksJ19_newCapacity_1 23 rfl rfl
theorem dJ19_newCapacity_0 : decode cJ19_newCapacity 0 = .ok (.aload_n 0, 1) := dk_42 (dk_at dksJ19_newCapacity_0 0 rfl rfl)
theorem dJ19_newCapacity_1 : decode cJ19_newCapacity 1 = .ok (.getfield 15, 3) := dk_180 0 15 (dk_at dksJ19_newCapacity_0 1 rfl rfl)
theorem dJ19_newCapacity_4 : decode cJ19_newCapacity 4 = .ok (.arraylength, 1) := dk_190 (dk_at dksJ19_newCapacity_0 4 rfl rfl)
theorem dJ19_newCapacity_5 : decode cJ19_newCapacity 5 = .ok (.istore_n 2, 1) := dk_61 (dk_at dksJ19_newCapacity_0 5 rfl rfl)
theorem dJ19_newCapacity_6 : decode cJ19_newCapacity 6 = .ok (.iload_n 1, 1) := dk_27 (dk_at dksJ19_newCapacity_0 6 rfl rfl)
theorem dJ19_newCapacity_7 : decode cJ19_newCapacity 7 = .ok (.aload_n 0, 1) := dk_42 (dk_at dksJ19_newCapacity_0 7 rfl rfl)
theorem dJ19_newCapacity_8 : decode cJ19_newCapacity 8 = .ok (.getfield 22, 3) := dk_180 0 22 (dk_at dksJ19_newCapacity_0 8 rfl rfl)
theorem dJ19_newCapacity_11 : decode cJ19_newCapacity 11 = .ok (.ishl, 1) := dk_120 (dk_at dksJ19_newCapacity_0 11 rfl rfl)
theorem dJ19_newCapacity_12 : decode cJ19_newCapacity 12 = .ok (.istore_n 3, 1) := dk_62 (dk_at dksJ19_newCapacity_0 12 rfl rfl)
theorem dJ19_newCapacity_13 : decode cJ19_newCapacity 13 = .ok (.iload_n 3, 1) := dk_29 (dk_at dksJ19_newCapacity_0 13 rfl rfl)
theorem dJ19_newCapacity_14 : decode cJ19_newCapacity 14 = .ok (.iload_n 2, 1) := dk_28 (dk_at dksJ19_newCapacity_0 14 rfl rfl)
theorem dJ19_newCapacity_15 : decode cJ19_newCapacity 15 = .ok (.isub, 1) := dk_100 (dk_at dksJ19_newCapacity_0 15 rfl rfl)
theorem dJ19_newCapacity_16 : decode cJ19_newCapacity 16 = .ok (.istore 4, 2) := dk_54 4 (dk_at dksJ19_newCapacity_0 16 rfl rfl)
theorem dJ19_newCapacity_18 : decode cJ19_newCapacity 18 = .ok (.iload_n 2, 1) := dk_28 (dk_at dksJ19_newCapacity_0 18 rfl rfl)
theorem dJ19_newCapacity_19 : decode cJ19_newCapacity 19 = .ok (.iload 4, 2) := dk_21 4 (dk_at dksJ19_newCapacity_0 19 rfl rfl)
theorem dJ19_newCapacity_21 : decode cJ19_newCapacity 21 = .ok (.iload_n 2, 1) := dk_28 (dk_at dksJ19_newCapacity_0 21 rfl rfl)
theorem dJ19_newCapacity_22 : decode cJ19_newCapacity 22 = .ok (.iconst 2, 1) := dk_5 (dk_at dksJ19_newCapacity_0 22 rfl rfl)
theorem dJ19_newCapacity_23 : decode cJ19_newCapacity 23 = .ok (.aload_n 0, 1) := dk_42 (dk_at dksJ19_newCapacity_0 23 rfl rfl)
theorem dJ19_newCapacity_24 : decode cJ19_newCapacity 24 = .ok (.getfield 22, 3) := dk_180 0 22 (dk_at dksJ19_newCapacity_1 0 rfl rfl)
theorem dJ19_newCapacity_27 : decode cJ19_newCapacity 27 = .ok (.ishl, 1) := dk_120 (dk_at dksJ19_newCapacity_1 3 rfl rfl)
theorem dJ19_newCapacity_28 : decode cJ19_newCapacity 28 = .ok (.iadd, 1) := dk_96 (dk_at dksJ19_newCapacity_1 4 rfl rfl)
theorem dJ19_newCapacity_29 : decode cJ19_newCapacity 29 = .ok (.invokestatic 114, 3) := dk_184 0 114 (dk_at dksJ19_newCapacity_1 5 rfl rfl)
theorem dJ19_newCapacity_32 : decode cJ19_newCapacity 32 = .ok (.istore 5, 2) := dk_54 5 (dk_at dksJ19_newCapacity_1 8 rfl rfl)
theorem dJ19_newCapacity_34 : decode cJ19_newCapacity 34 = .ok (.iload 5, 2) := dk_21 5 (dk_at dksJ19_newCapacity_1 10 rfl rfl)
theorem dJ19_newCapacity_36 : decode cJ19_newCapacity 36 = .ok (.ldc 39, 2) := dk_18 39 (dk_at dksJ19_newCapacity_1 12 rfl rfl)
theorem dJ19_newCapacity_38 : decode cJ19_newCapacity 38 = .ok (.if_icmp .ne 13, 3) := dk_160 0 13 (dk_at dksJ19_newCapacity_1 14 rfl rfl)
theorem dJ19_newCapacity_41 : decode cJ19_newCapacity 41 = .ok (.new 120, 3) := dk_187 0 120 (dk_at dksJ19_newCapacity_1 17 rfl rfl)
theorem dJ19_newCapacity_44 : decode cJ19_newCapacity 44 = .ok (.dup, 1) := dk_89 (dk_at dksJ19_newCapacity_1 20 rfl rfl)
theorem dJ19_newCapacity_45 : decode cJ19_newCapacity 45 = .ok (.ldc 122, 2) := dk_18 122 (dk_at dksJ19_newCapacity_1 21 rfl rfl)
theorem dJ19_newCapacity_47 : decode cJ19_newCapacity 47 = .ok (.invokespecial 124, 3) := dk_183 0 124 (dk_at dksJ19_newCapacity_2 0 rfl rfl)
theorem dJ19_newCapacity_50 : decode cJ19_newCapacity 50 = .ok (.athrow, 1) := dk_191 (dk_at dksJ19_newCapacity_2 3 rfl rfl)
theorem dJ19_newCapacity_51 : decode cJ19_newCapacity 51 = .ok (.iload 5, 2) := dk_21 5 (dk_at dksJ19_newCapacity_2 4 rfl rfl)
theorem dJ19_newCapacity_53 : decode cJ19_newCapacity 53 = .ok (.aload_n 0, 1) := dk_42 (dk_at dksJ19_newCapacity_2 6 rfl rfl)
theorem dJ19_newCapacity_54 : decode cJ19_newCapacity 54 = .ok (.getfield 22, 3) := dk_180 0 22 (dk_at dksJ19_newCapacity_2 7 rfl rfl)
theorem dJ19_newCapacity_57 : decode cJ19_newCapacity 57 = .ok (.ishr, 1) := dk_122 (dk_at dksJ19_newCapacity_2 10 rfl rfl)
theorem dJ19_newCapacity_58 : decode cJ19_newCapacity 58 = .ok (.ireturn, 1) := dk_172 (dk_at dksJ19_newCapacity_2 11 rfl rfl)
abbrev cJ19_isLatin1 : ByteArray := prog_34_method_68_code
def yJ19_isLatin1 : MethodName := ⟨RJ19, "isLatin1", "()Z"⟩
def dkwJ19_isLatin1_0 : List UInt8 := [178, 0, 18, 153, 0, 14, 42, 180, 0, 22, 154, 0, 7, 4, 167, 0, 4, 3, 172]
abbrev dktJ19_isLatin1_0 : List UInt8 := dkwJ19_isLatin1_0 ++ []
theorem dksJ19_isLatin1_0 : cJ19_isLatin1.data.toList.drop 0 = dktJ19_isLatin1_0 := by decide +kernel
theorem dJ19_isLatin1_0 : decode cJ19_isLatin1 0 = .ok (.getstatic 18, 3) := dk_178 0 18 (dk_at dksJ19_isLatin1_0 0 rfl rfl)
theorem dJ19_isLatin1_3 : decode cJ19_isLatin1 3 = .ok (.ifCond .eq 14, 3) := dk_153 0 14 (dk_at dksJ19_isLatin1_0 3 rfl rfl)
theorem dJ19_isLatin1_6 : decode cJ19_isLatin1 6 = .ok (.aload_n 0, 1) := dk_42 (dk_at dksJ19_isLatin1_0 6 rfl rfl)
theorem dJ19_isLatin1_7 : decode cJ19_isLatin1 7 = .ok (.getfield 22, 3) := dk_180 0 22 (dk_at dksJ19_isLatin1_0 7 rfl rfl)
theorem dJ19_isLatin1_10 : decode cJ19_isLatin1 10 = .ok (.ifCond .ne 7, 3) := dk_154 0 7 (dk_at dksJ19_isLatin1_0 10 rfl rfl)
theorem dJ19_isLatin1_13 : decode cJ19_isLatin1 13 = .ok (.iconst 1, 1) := dk_4 (dk_at dksJ19_isLatin1_0 13 rfl rfl)
theorem dJ19_isLatin1_14 : decode cJ19_isLatin1 14 = .ok (.goto 4, 3) := dk_167 0 4 (dk_at dksJ19_isLatin1_0 14 rfl rfl)
theorem dJ19_isLatin1_17 : decode cJ19_isLatin1 17 = .ok (.iconst 0, 1) := dk_3 (dk_at dksJ19_isLatin1_0 17 rfl rfl)
theorem dJ19_isLatin1_18 : decode cJ19_isLatin1 18 = .ok (.ireturn, 1) := dk_172 (dk_at dksJ19_isLatin1_0 18 rfl rfl)
abbrev cJ19_putStringAt : ByteArray := prog_34_method_73_code
def yJ19_putStringAt : MethodName := ⟨RJ19, "putStringAt", "(ILjava/lang/String;)V"⟩
def dkwJ19_putStringAt_0 : List UInt8 := [42, 44, 182, 1, 141, 44, 42, 180, 0, 15, 27, 42, 180, 0, 22, 182, 1, 143, 177]
abbrev dktJ19_putStringAt_0 : List UInt8 := dkwJ19_putStringAt_0 ++ []
theorem dksJ19_putStringAt_0 : cJ19_putStringAt.data.toList.drop 0 = dktJ19_putStringAt_0 := by decide +kernel
theorem dJ19_putStringAt_0 : decode cJ19_putStringAt 0 = .ok (.aload_n 0, 1) := dk_42 (dk_at dksJ19_putStringAt_0 0 rfl rfl)
theorem dJ19_putStringAt_1 : decode cJ19_putStringAt 1 = .ok (.aload_n 2, 1) := dk_44 (dk_at dksJ19_putStringAt_0 1 rfl rfl)
theorem dJ19_putStringAt_2 : decode cJ19_putStringAt 2 = .ok (.invokevirtual 397, 3) := dk_182 1 141 (dk_at dksJ19_putStringAt_0 2 rfl rfl)
theorem dJ19_putStringAt_5 : decode cJ19_putStringAt 5 = .ok (.aload_n 2, 1) := dk_44 (dk_at dksJ19_putStringAt_0 5 rfl rfl)
theorem dJ19_putStringAt_6 : decode cJ19_putStringAt 6 = .ok (.aload_n 0, 1) := dk_42 (dk_at dksJ19_putStringAt_0 6 rfl rfl)
theorem dJ19_putStringAt_7 : decode cJ19_putStringAt 7 = .ok (.getfield 15, 3) := dk_180 0 15 (dk_at dksJ19_putStringAt_0 7 rfl rfl)
theorem dJ19_putStringAt_10 : decode cJ19_putStringAt 10 = .ok (.iload_n 1, 1) := dk_27 (dk_at dksJ19_putStringAt_0 10 rfl rfl)
theorem dJ19_putStringAt_11 : decode cJ19_putStringAt 11 = .ok (.aload_n 0, 1) := dk_42 (dk_at dksJ19_putStringAt_0 11 rfl rfl)
theorem dJ19_putStringAt_12 : decode cJ19_putStringAt 12 = .ok (.getfield 22, 3) := dk_180 0 22 (dk_at dksJ19_putStringAt_0 12 rfl rfl)
theorem dJ19_putStringAt_15 : decode cJ19_putStringAt 15 = .ok (.invokevirtual 399, 3) := dk_182 1 143 (dk_at dksJ19_putStringAt_0 15 rfl rfl)
theorem dJ19_putStringAt_18 : decode cJ19_putStringAt 18 = .ok (.return_, 1) := dk_177 (dk_at dksJ19_putStringAt_0 18 rfl rfl)
abbrev cJ19_inflateIfNeededFor : ByteArray := prog_34_method_71_code
def yJ19_inflateIfNeededFor : MethodName := ⟨RJ19, "inflateIfNeededFor", "(Ljava/lang/String;)V"⟩
def dkwJ19_inflateIfNeededFor_0 : List UInt8 := [178, 0, 18, 153, 0, 18, 42, 180, 0, 22, 43, 182, 0, 40, 159, 0, 7, 42, 182, 0, 195, 177]
abbrev dktJ19_inflateIfNeededFor_0 : List UInt8 := dkwJ19_inflateIfNeededFor_0 ++ []
theorem dksJ19_inflateIfNeededFor_0 : cJ19_inflateIfNeededFor.data.toList.drop 0 = dktJ19_inflateIfNeededFor_0 := by decide +kernel
theorem dJ19_inflateIfNeededFor_0 : decode cJ19_inflateIfNeededFor 0 = .ok (.getstatic 18, 3) := dk_178 0 18 (dk_at dksJ19_inflateIfNeededFor_0 0 rfl rfl)
theorem dJ19_inflateIfNeededFor_3 : decode cJ19_inflateIfNeededFor 3 = .ok (.ifCond .eq 18, 3) := dk_153 0 18 (dk_at dksJ19_inflateIfNeededFor_0 3 rfl rfl)
theorem dJ19_inflateIfNeededFor_6 : decode cJ19_inflateIfNeededFor 6 = .ok (.aload_n 0, 1) := dk_42 (dk_at dksJ19_inflateIfNeededFor_0 6 rfl rfl)
theorem dJ19_inflateIfNeededFor_7 : decode cJ19_inflateIfNeededFor 7 = .ok (.getfield 22, 3) := dk_180 0 22 (dk_at dksJ19_inflateIfNeededFor_0 7 rfl rfl)
theorem dJ19_inflateIfNeededFor_10 : decode cJ19_inflateIfNeededFor 10 = .ok (.aload_n 1, 1) := dk_43 (dk_at dksJ19_inflateIfNeededFor_0 10 rfl rfl)
theorem dJ19_inflateIfNeededFor_11 : decode cJ19_inflateIfNeededFor 11 = .ok (.invokevirtual 40, 3) := dk_182 0 40 (dk_at dksJ19_inflateIfNeededFor_0 11 rfl rfl)
theorem dJ19_inflateIfNeededFor_14 : decode cJ19_inflateIfNeededFor 14 = .ok (.if_icmp .eq 7, 3) := dk_159 0 7 (dk_at dksJ19_inflateIfNeededFor_0 14 rfl rfl)
theorem dJ19_inflateIfNeededFor_17 : decode cJ19_inflateIfNeededFor 17 = .ok (.aload_n 0, 1) := dk_42 (dk_at dksJ19_inflateIfNeededFor_0 17 rfl rfl)
theorem dJ19_inflateIfNeededFor_18 : decode cJ19_inflateIfNeededFor 18 = .ok (.invokevirtual 195, 3) := dk_182 0 195 (dk_at dksJ19_inflateIfNeededFor_0 18 rfl rfl)
theorem dJ19_inflateIfNeededFor_21 : decode cJ19_inflateIfNeededFor 21 = .ok (.return_, 1) := dk_177 (dk_at dksJ19_inflateIfNeededFor_0 21 rfl rfl)
abbrev cJ19_inflate : ByteArray := prog_34_method_11_code
def yJ19_inflate : MethodName := ⟨RJ19, "inflate", "()V"⟩
def dkwJ19_inflate_1 : List UInt8 := [42, 180, 0, 79, 184, 0, 125, 42, 43, 181, 0, 15, 42, 4, 181, 0, 22, 177]
abbrev dktJ19_inflate_1 : List UInt8 := dkwJ19_inflate_1 ++ []
def dkwJ19_inflate_0 : List UInt8 := [42, 182, 0, 83, 154, 0, 4, 177, 42, 180, 0, 15, 190, 184, 0, 26, 76, 42, 180, 0, 15, 3, 43, 3]
abbrev dktJ19_inflate_0 : List UInt8 := dkwJ19_inflate_0 ++ dktJ19_inflate_1
theorem dksJ19_inflate_0 : cJ19_inflate.data.toList.drop 0 = dktJ19_inflate_0 := by decide +kernel
theorem dksJ19_inflate_1 : cJ19_inflate.data.toList.drop 24 = dktJ19_inflate_1 := dk_seg dksJ19_inflate_0 24 rfl rfl
theorem dJ19_inflate_0 : decode cJ19_inflate 0 = .ok (.aload_n 0, 1) := dk_42 (dk_at dksJ19_inflate_0 0 rfl rfl)
theorem dJ19_inflate_1 : decode cJ19_inflate 1 = .ok (.invokevirtual 83, 3) := dk_182 0 83 (dk_at dksJ19_inflate_0 1 rfl rfl)
theorem dJ19_inflate_4 : decode cJ19_inflate 4 = .ok (.ifCond .ne 4, 3) := dk_154 0 4 (dk_at dksJ19_inflate_0 4 rfl rfl)
theorem dJ19_inflate_7 : decode cJ19_inflate 7 = .ok (.return_, 1) := dk_177 (dk_at dksJ19_inflate_0 7 rfl rfl)
theorem dJ19_inflate_8 : decode cJ19_inflate 8 = .ok (.aload_n 0, 1) := dk_42 (dk_at dksJ19_inflate_0 8 rfl rfl)
theorem dJ19_inflate_9 : decode cJ19_inflate 9 = .ok (.getfield 15, 3) := dk_180 0 15 (dk_at dksJ19_inflate_0 9 rfl rfl)
theorem dJ19_inflate_12 : decode cJ19_inflate 12 = .ok (.arraylength, 1) := dk_190 (dk_at dksJ19_inflate_0 12 rfl rfl)
theorem dJ19_inflate_13 : decode cJ19_inflate 13 = .ok (.invokestatic 26, 3) := dk_184 0 26 (dk_at dksJ19_inflate_0 13 rfl rfl)
theorem dJ19_inflate_16 : decode cJ19_inflate 16 = .ok (.astore_n 1, 1) := dk_76 (dk_at dksJ19_inflate_0 16 rfl rfl)
theorem dJ19_inflate_17 : decode cJ19_inflate 17 = .ok (.aload_n 0, 1) := dk_42 (dk_at dksJ19_inflate_0 17 rfl rfl)
theorem dJ19_inflate_18 : decode cJ19_inflate 18 = .ok (.getfield 15, 3) := dk_180 0 15 (dk_at dksJ19_inflate_0 18 rfl rfl)
theorem dJ19_inflate_21 : decode cJ19_inflate 21 = .ok (.iconst 0, 1) := dk_3 (dk_at dksJ19_inflate_0 21 rfl rfl)
theorem dJ19_inflate_22 : decode cJ19_inflate 22 = .ok (.aload_n 1, 1) := dk_43 (dk_at dksJ19_inflate_0 22 rfl rfl)
theorem dJ19_inflate_23 : decode cJ19_inflate 23 = .ok (.iconst 0, 1) := dk_3 (dk_at dksJ19_inflate_0 23 rfl rfl)
theorem dJ19_inflate_24 : decode cJ19_inflate 24 = .ok (.aload_n 0, 1) := dk_42 (dk_at dksJ19_inflate_1 0 rfl rfl)
theorem dJ19_inflate_25 : decode cJ19_inflate 25 = .ok (.getfield 79, 3) := dk_180 0 79 (dk_at dksJ19_inflate_1 1 rfl rfl)
theorem dJ19_inflate_28 : decode cJ19_inflate 28 = .ok (.invokestatic 125, 3) := dk_184 0 125 (dk_at dksJ19_inflate_1 4 rfl rfl)
theorem dJ19_inflate_31 : decode cJ19_inflate 31 = .ok (.aload_n 0, 1) := dk_42 (dk_at dksJ19_inflate_1 7 rfl rfl)
theorem dJ19_inflate_32 : decode cJ19_inflate 32 = .ok (.aload_n 1, 1) := dk_43 (dk_at dksJ19_inflate_1 8 rfl rfl)
theorem dJ19_inflate_33 : decode cJ19_inflate 33 = .ok (.putfield 15, 3) := dk_181 0 15 (dk_at dksJ19_inflate_1 9 rfl rfl)
theorem dJ19_inflate_36 : decode cJ19_inflate 36 = .ok (.aload_n 0, 1) := dk_42 (dk_at dksJ19_inflate_1 12 rfl rfl)
theorem dJ19_inflate_37 : decode cJ19_inflate 37 = .ok (.iconst 1, 1) := dk_4 (dk_at dksJ19_inflate_1 13 rfl rfl)
theorem dJ19_inflate_38 : decode cJ19_inflate 38 = .ok (.putfield 22, 3) := dk_181 0 22 (dk_at dksJ19_inflate_1 14 rfl rfl)
theorem dJ19_inflate_41 : decode cJ19_inflate 41 = .ok (.return_, 1) := dk_177 (dk_at dksJ19_inflate_1 17 rfl rfl)
abbrev cJ19_getValue : ByteArray := prog_34_method_64_code
def yJ19_getValue : MethodName := ⟨RJ19, "getValue", "()[B"⟩
theorem dJ19_getValue_0 : decode cJ19_getValue 0 = .ok (.aload_n 0, 1) := by decide +kernel
theorem dJ19_getValue_1 : decode cJ19_getValue 1 = .ok (.getfield 15, 3) := by decide +kernel
theorem dJ19_getValue_4 : decode cJ19_getValue 4 = .ok (.areturn, 1) := by decide +kernel
abbrev cJ19_length : ByteArray := prog_34_method_6_code
def yJ19_length : MethodName := ⟨RJ19, "length", "()I"⟩
theorem dJ19_length_0 : decode cJ19_length 0 = .ok (.aload_n 0, 1) := by decide +kernel
theorem dJ19_length_1 : decode cJ19_length 1 = .ok (.getfield 79, 3) := by decide +kernel
theorem dJ19_length_4 : decode cJ19_length 4 = .ok (.ireturn, 1) := by decide +kernel
theorem q115 : (Jvm.Cond.initialized "java/lang/AbstractStringBuilder") ∈ lw_all := lw_g (lw_at lw_m1 32 rfl) rfl
theorem q911 : (Jvm.Cond.instanceMethod ({ cls := "java/lang/AbstractStringBuilder", name := "<init>", desc := "(I)V" } : Jvm.MethodName)) ∈ lw_all := lw_g (lw_at lw_m4 108 rfl) rfl
theorem q912 : (Jvm.Cond.code ({ cls := "java/lang/AbstractStringBuilder", name := "<init>", desc := "(I)V" } : Jvm.MethodName) prog_34_method_2_code (2 : Nat) (Option.none : Option Jvm.ClassFile.FieldType)) ∈ lw_all := lw_g (lw_at lw_m4 109 rfl) rfl
theorem q913 : (Jvm.Cond.methodLink "java/lang/AbstractStringBuilder" (3 : Nat) ({ cls := "java/lang/Object", name := "<init>", desc := "()V" } : Jvm.MethodName)) ∈ lw_all := lw_g (lw_at lw_m4 110 rfl) rfl
theorem q914 : (Jvm.Cond.fieldLink "java/lang/AbstractStringBuilder" (18 : Nat) "java/lang/String" "COMPACT_STRINGS" "Z") ∈ lw_all := lw_g (lw_at lw_m4 111 rfl) rfl
theorem q916 : (Jvm.Cond.methodLink "java/lang/AbstractStringBuilder" (26 : Nat) ({ cls := "java/lang/StringUTF16", name := "newBytesFor", desc := "(I)[B" } : Jvm.MethodName)) ∈ lw_all := lw_g (lw_at lw_m4 113 rfl) rfl
theorem q923 : (Jvm.Cond.fieldLink "java/lang/AbstractStringBuilder" (15 : Nat) "java/lang/AbstractStringBuilder" "value" "[B") ∈ lw_all := lw_g (lw_at lw_m4 120 rfl) rfl
theorem q924 : (Jvm.Cond.fieldLink "java/lang/AbstractStringBuilder" (22 : Nat) "java/lang/AbstractStringBuilder" "coder" "B") ∈ lw_all := lw_g (lw_at lw_m4 121 rfl) rfl
theorem q926 : (Jvm.Cond.fieldLink "java/lang/AbstractStringBuilder" (79 : Nat) "java/lang/AbstractStringBuilder" "count" "I") ∈ lw_all := lw_g (lw_at lw_m4 123 rfl) rfl
theorem q928 : (Jvm.Cond.soleField "java/lang/AbstractStringBuilder" "value") ∈ lw_all := lw_g (lw_at lw_m4 125 rfl) rfl
theorem q930 : (Jvm.Cond.soleField "java/lang/AbstractStringBuilder" "coder") ∈ lw_all := lw_g (lw_at lw_m4 127 rfl) rfl
theorem q932 : (Jvm.Cond.soleField "java/lang/AbstractStringBuilder" "maybeLatin1") ∈ lw_all := lw_g (lw_at lw_m4 129 rfl) rfl
theorem q934 : (Jvm.Cond.soleField "java/lang/AbstractStringBuilder" "count") ∈ lw_all := lw_g (lw_at lw_m4 131 rfl) rfl
theorem q941 : (Jvm.Cond.instanceMethod ({ cls := "java/lang/AbstractStringBuilder", name := "append", desc := "(Ljava/lang/String;)Ljava/lang/AbstractStringBuilder;" } : Jvm.MethodName)) ∈ lw_all := lw_g (lw_at lw_m4 138 rfl) rfl
theorem q942 : (Jvm.Cond.code ({ cls := "java/lang/AbstractStringBuilder", name := "append", desc := "(Ljava/lang/String;)Ljava/lang/AbstractStringBuilder;" } : Jvm.MethodName) prog_34_method_22_code (3 : Nat) (Option.some (Jvm.ClassFile.FieldType.object "java/lang/AbstractStringBuilder"))) ∈ lw_all := lw_g (lw_at lw_m4 139 rfl) rfl
theorem q943 : (Jvm.Cond.methodLink "java/lang/AbstractStringBuilder" (204 : Nat) ({ cls := "java/lang/AbstractStringBuilder", name := "appendNull", desc := "()Ljava/lang/AbstractStringBuilder;" } : Jvm.MethodName)) ∈ lw_all := lw_g (lw_at lw_m4 140 rfl) rfl
theorem q944 : (Jvm.Cond.privateMethod ({ cls := "java/lang/AbstractStringBuilder", name := "appendNull", desc := "()Ljava/lang/AbstractStringBuilder;" } : Jvm.MethodName)) ∈ lw_tbl := lw_at lw_m4 141 rfl
theorem q945 : (Jvm.Cond.instanceMethod ({ cls := "java/lang/AbstractStringBuilder", name := "appendNull", desc := "()Ljava/lang/AbstractStringBuilder;" } : Jvm.MethodName)) ∈ lw_all := lw_g (lw_at lw_m4 142 rfl) rfl
theorem q946 : (Jvm.Cond.code ({ cls := "java/lang/AbstractStringBuilder", name := "appendNull", desc := "()Ljava/lang/AbstractStringBuilder;" } : Jvm.MethodName) prog_34_method_26_code (3 : Nat) (Option.some (Jvm.ClassFile.FieldType.object "java/lang/AbstractStringBuilder"))) ∈ lw_all := lw_g (lw_at lw_m4 143 rfl) rfl
theorem q947 : (Jvm.Cond.methodLink "java/lang/AbstractStringBuilder" (100 : Nat) ({ cls := "java/lang/AbstractStringBuilder", name := "ensureCapacityInternal", desc := "(I)V" } : Jvm.MethodName)) ∈ lw_all := lw_g (lw_at lw_m4 144 rfl) rfl
theorem q948 : (Jvm.Cond.privateMethod ({ cls := "java/lang/AbstractStringBuilder", name := "ensureCapacityInternal", desc := "(I)V" } : Jvm.MethodName)) ∈ lw_tbl := lw_at lw_m4 145 rfl
theorem q949 : (Jvm.Cond.instanceMethod ({ cls := "java/lang/AbstractStringBuilder", name := "ensureCapacityInternal", desc := "(I)V" } : Jvm.MethodName)) ∈ lw_all := lw_g (lw_at lw_m4 146 rfl) rfl
theorem q950 : (Jvm.Cond.code ({ cls := "java/lang/AbstractStringBuilder", name := "ensureCapacityInternal", desc := "(I)V" } : Jvm.MethodName) prog_34_method_9_code (3 : Nat) (Option.none : Option Jvm.ClassFile.FieldType)) ∈ lw_all := lw_g (lw_at lw_m4 147 rfl) rfl
theorem q951 : (Jvm.Cond.methodLink "java/lang/AbstractStringBuilder" (104 : Nat) ({ cls := "java/lang/AbstractStringBuilder", name := "newCapacity", desc := "(I)I" } : Jvm.MethodName)) ∈ lw_all := lw_g (lw_at lw_m4 148 rfl) rfl
theorem q952 : (Jvm.Cond.privateMethod ({ cls := "java/lang/AbstractStringBuilder", name := "newCapacity", desc := "(I)I" } : Jvm.MethodName)) ∈ lw_tbl := lw_at lw_m4 149 rfl
theorem q953 : (Jvm.Cond.instanceMethod ({ cls := "java/lang/AbstractStringBuilder", name := "newCapacity", desc := "(I)I" } : Jvm.MethodName)) ∈ lw_all := lw_g (lw_at lw_m4 150 rfl) rfl
theorem q954 : (Jvm.Cond.code ({ cls := "java/lang/AbstractStringBuilder", name := "newCapacity", desc := "(I)I" } : Jvm.MethodName) prog_34_method_10_code (6 : Nat) (Option.some Jvm.ClassFile.FieldType.int)) ∈ lw_all := lw_g (lw_at lw_m4 151 rfl) rfl
theorem q955 : (Jvm.Cond.methodLink "java/lang/AbstractStringBuilder" (114 : Nat) ({ cls := "jdk/internal/util/ArraysSupport", name := "newLength", desc := "(III)I" } : Jvm.MethodName)) ∈ lw_all := lw_g (lw_at lw_m4 152 rfl) rfl
theorem q956 : (Jvm.Cond.constant "java/lang/AbstractStringBuilder" (39 : Nat) (2147483647 : Int32)) ∈ lw_all := lw_g (lw_at lw_m4 153 rfl) rfl
theorem q957 : (Jvm.Cond.methodLink "java/lang/AbstractStringBuilder" (108 : Nat) ({ cls := "java/util/Arrays", name := "copyOf", desc := "([BI)[B" } : Jvm.MethodName)) ∈ lw_all := lw_g (lw_at lw_m4 154 rfl) rfl
theorem q962 : (Jvm.Cond.methodLink "java/lang/AbstractStringBuilder" (83 : Nat) ({ cls := "java/lang/AbstractStringBuilder", name := "isLatin1", desc := "()Z" } : Jvm.MethodName)) ∈ lw_all := lw_g (lw_at lw_m4 159 rfl) rfl
theorem q963 : (Jvm.Cond.instanceMethod ({ cls := "java/lang/AbstractStringBuilder", name := "isLatin1", desc := "()Z" } : Jvm.MethodName)) ∈ lw_all := lw_g (lw_at lw_m4 160 rfl) rfl
theorem q964 : (Jvm.Cond.sameMethod "java/lang/AbstractStringBuilder" "java/lang/AbstractStringBuilder" "isLatin1" "()Z") ∈ lw_all := lw_g (lw_at lw_m4 161 rfl) rfl
theorem q966 : (Jvm.Cond.code ({ cls := "java/lang/AbstractStringBuilder", name := "isLatin1", desc := "()Z" } : Jvm.MethodName) prog_34_method_68_code (1 : Nat) (Option.some Jvm.ClassFile.FieldType.boolean)) ∈ lw_all := lw_g (lw_at lw_m4 163 rfl) rfl
theorem q967 : (Jvm.Cond.methodLink "java/lang/AbstractStringBuilder" (226 : Nat) ({ cls := "java/lang/StringUTF16", name := "putCharsAt", desc := "([BICCCC)I" } : Jvm.MethodName)) ∈ lw_all := lw_g (lw_at lw_m4 164 rfl) rfl
theorem q993 : (Jvm.Cond.methodLink "java/lang/AbstractStringBuilder" (32 : Nat) ({ cls := "java/lang/String", name := "length", desc := "()I" } : Jvm.MethodName)) ∈ lw_all := lw_g (lw_at lw_m4 190 rfl) rfl
theorem q1002 : (Jvm.Cond.methodLink "java/lang/AbstractStringBuilder" (208 : Nat) ({ cls := "java/lang/AbstractStringBuilder", name := "putStringAt", desc := "(ILjava/lang/String;)V" } : Jvm.MethodName)) ∈ lw_all := lw_g (lw_at lw_m4 199 rfl) rfl
theorem q1003 : (Jvm.Cond.privateMethod ({ cls := "java/lang/AbstractStringBuilder", name := "putStringAt", desc := "(ILjava/lang/String;)V" } : Jvm.MethodName)) ∈ lw_tbl := lw_at lw_m4 200 rfl
theorem q1004 : (Jvm.Cond.instanceMethod ({ cls := "java/lang/AbstractStringBuilder", name := "putStringAt", desc := "(ILjava/lang/String;)V" } : Jvm.MethodName)) ∈ lw_all := lw_g (lw_at lw_m4 201 rfl) rfl
theorem q1005 : (Jvm.Cond.code ({ cls := "java/lang/AbstractStringBuilder", name := "putStringAt", desc := "(ILjava/lang/String;)V" } : Jvm.MethodName) prog_34_method_73_code (3 : Nat) (Option.none : Option Jvm.ClassFile.FieldType)) ∈ lw_all := lw_g (lw_at lw_m4 202 rfl) rfl
theorem q1006 : (Jvm.Cond.methodLink "java/lang/AbstractStringBuilder" (397 : Nat) ({ cls := "java/lang/AbstractStringBuilder", name := "inflateIfNeededFor", desc := "(Ljava/lang/String;)V" } : Jvm.MethodName)) ∈ lw_all := lw_g (lw_at lw_m4 203 rfl) rfl
theorem q1007 : (Jvm.Cond.privateMethod ({ cls := "java/lang/AbstractStringBuilder", name := "inflateIfNeededFor", desc := "(Ljava/lang/String;)V" } : Jvm.MethodName)) ∈ lw_tbl := lw_at lw_m4 204 rfl
theorem q1008 : (Jvm.Cond.instanceMethod ({ cls := "java/lang/AbstractStringBuilder", name := "inflateIfNeededFor", desc := "(Ljava/lang/String;)V" } : Jvm.MethodName)) ∈ lw_all := lw_g (lw_at lw_m4 205 rfl) rfl
theorem q1009 : (Jvm.Cond.code ({ cls := "java/lang/AbstractStringBuilder", name := "inflateIfNeededFor", desc := "(Ljava/lang/String;)V" } : Jvm.MethodName) prog_34_method_71_code (2 : Nat) (Option.none : Option Jvm.ClassFile.FieldType)) ∈ lw_all := lw_g (lw_at lw_m4 206 rfl) rfl
theorem q1010 : (Jvm.Cond.methodLink "java/lang/AbstractStringBuilder" (40 : Nat) ({ cls := "java/lang/String", name := "coder", desc := "()B" } : Jvm.MethodName)) ∈ lw_all := lw_g (lw_at lw_m4 207 rfl) rfl
theorem q1011 : (Jvm.Cond.methodLink "java/lang/AbstractStringBuilder" (195 : Nat) ({ cls := "java/lang/AbstractStringBuilder", name := "inflate", desc := "()V" } : Jvm.MethodName)) ∈ lw_all := lw_g (lw_at lw_m4 208 rfl) rfl
theorem q1012 : (Jvm.Cond.privateMethod ({ cls := "java/lang/AbstractStringBuilder", name := "inflate", desc := "()V" } : Jvm.MethodName)) ∈ lw_tbl := lw_at lw_m4 209 rfl
theorem q1013 : (Jvm.Cond.instanceMethod ({ cls := "java/lang/AbstractStringBuilder", name := "inflate", desc := "()V" } : Jvm.MethodName)) ∈ lw_all := lw_g (lw_at lw_m4 210 rfl) rfl
theorem q1014 : (Jvm.Cond.code ({ cls := "java/lang/AbstractStringBuilder", name := "inflate", desc := "()V" } : Jvm.MethodName) prog_34_method_11_code (2 : Nat) (Option.none : Option Jvm.ClassFile.FieldType)) ∈ lw_all := lw_g (lw_at lw_m4 211 rfl) rfl
theorem q1015 : (Jvm.Cond.methodLink "java/lang/AbstractStringBuilder" (125 : Nat) ({ cls := "java/lang/StringLatin1", name := "inflate", desc := "([BI[BII)V" } : Jvm.MethodName)) ∈ lw_all := lw_g (lw_at lw_m4 212 rfl) rfl
theorem q1030 : (Jvm.Cond.methodLink "java/lang/AbstractStringBuilder" (399 : Nat) ({ cls := "java/lang/String", name := "getBytes", desc := "([BIB)V" } : Jvm.MethodName)) ∈ lw_all := lw_g (lw_at lw_m4 227 rfl) rfl
theorem q1051 : (Jvm.Cond.instanceMethod ({ cls := "java/lang/AbstractStringBuilder", name := "getValue", desc := "()[B" } : Jvm.MethodName)) ∈ lw_all := lw_g (lw_at lw_m5 8 rfl) rfl
theorem q1052 : (Jvm.Cond.sameMethod "java/lang/AbstractStringBuilder" "java/lang/AbstractStringBuilder" "getValue" "()[B") ∈ lw_all := lw_g (lw_at lw_m5 9 rfl) rfl
theorem q1054 : (Jvm.Cond.code ({ cls := "java/lang/AbstractStringBuilder", name := "getValue", desc := "()[B" } : Jvm.MethodName) prog_34_method_64_code (1 : Nat) (Option.some (Jvm.ClassFile.FieldType.array Jvm.ClassFile.FieldType.byte))) ∈ lw_all := lw_g (lw_at lw_m5 11 rfl) rfl
theorem q1056 : (Jvm.Cond.instanceMethod ({ cls := "java/lang/AbstractStringBuilder", name := "length", desc := "()I" } : Jvm.MethodName)) ∈ lw_all := lw_g (lw_at lw_m5 13 rfl) rfl
theorem q1057 : (Jvm.Cond.sameMethod "java/lang/AbstractStringBuilder" "java/lang/AbstractStringBuilder" "length" "()I") ∈ lw_all := lw_g (lw_at lw_m5 14 rfl) rfl
theorem q1062 : (Jvm.Cond.code ({ cls := "java/lang/AbstractStringBuilder", name := "length", desc := "()I" } : Jvm.MethodName) prog_34_method_6_code (1 : Nat) (Option.some Jvm.ClassFile.FieldType.int)) ∈ lw_all := lw_g (lw_at lw_m5 19 rfl) rfl
theorem q3010 : (Jvm.Cond.sameMethod "java/lang/AbstractStringBuilder" "java/lang/AbstractStringBuilder" "append" "(Ljava/lang/String;)Ljava/lang/AbstractStringBuilder;") ∈ lw_all := lw_g (lw_at lw_m13 47 rfl) rfl
theorem q3011 : (Jvm.Cond.sameMethod "java/lang/AbstractStringBuilder" "java/lang/AbstractStringBuilder" "appendNull" "()Ljava/lang/AbstractStringBuilder;") ∈ lw_all := lw_g (lw_at lw_m13 48 rfl) rfl
theorem q3012 : (Jvm.Cond.sameMethod "java/lang/AbstractStringBuilder" "java/lang/AbstractStringBuilder" "ensureCapacityInternal" "(I)V") ∈ lw_all := lw_g (lw_at lw_m13 49 rfl) rfl
theorem q3013 : (Jvm.Cond.sameMethod "java/lang/AbstractStringBuilder" "java/lang/AbstractStringBuilder" "newCapacity" "(I)I") ∈ lw_all := lw_g (lw_at lw_m13 50 rfl) rfl
theorem q3014 : (Jvm.Cond.sameMethod "java/lang/AbstractStringBuilder" "java/lang/AbstractStringBuilder" "putStringAt" "(ILjava/lang/String;)V") ∈ lw_all := lw_g (lw_at lw_m13 51 rfl) rfl
theorem q3015 : (Jvm.Cond.sameMethod "java/lang/AbstractStringBuilder" "java/lang/AbstractStringBuilder" "inflateIfNeededFor" "(Ljava/lang/String;)V") ∈ lw_all := lw_g (lw_at lw_m13 52 rfl) rfl
theorem q3016 : (Jvm.Cond.sameMethod "java/lang/AbstractStringBuilder" "java/lang/AbstractStringBuilder" "inflate" "()V") ∈ lw_all := lw_g (lw_at lw_m13 53 rfl) rfl

/-! java/lang/StringBuilder -/
set_option maxRecDepth 100000
def RJ20 : String := "java/lang/StringBuilder"
def TJ20 : u_T := fun k => match k with
  | 0 => ("java/lang/AbstractStringBuilder", "value", "[B", false)
  | 1 => ("java/lang/AbstractStringBuilder", "coder", "B", false)
  | 2 => ("java/lang/AbstractStringBuilder", "maybeLatin1", "Z", false)
  | _ => ("java/lang/AbstractStringBuilder", "count", "I", false)
def tyJ20 : Nat → FieldType := fun k => match k with
  | 0 => .array .byte
  | 1 => .byte
  | 2 => .boolean
  | _ => .int
abbrev wsJ200 : List Cond := u_ws RJ20 TJ20 4
theorem nmJ20 : ∀ a, a < 4 → ∀ b, b < 4 → a ≠ b → (TJ20 a).2.1 ≠ (TJ20 b).2.1 := by decide +kernel
theorem tyJ20_ok : ∀ k, k < 4 → parseFieldDescriptor (TJ20 k).2.2.1 = some (tyJ20 k) := by decide +kernel
abbrev cJ20_init : ByteArray := prog_51_method_1_code
def yJ20_init : MethodName := ⟨RJ20, "<init>", "()V"⟩
def dkwJ20_init_0 : List UInt8 := [42, 16, 16, 183, 0, 1, 177]
abbrev dktJ20_init_0 : List UInt8 := dkwJ20_init_0 ++ []
theorem dksJ20_init_0 : cJ20_init.data.toList.drop 0 = dktJ20_init_0 := by decide +kernel
theorem dJ20_init_0 : decode cJ20_init 0 = .ok (.aload_n 0, 1) := dk_42 (dk_at dksJ20_init_0 0 rfl rfl)
theorem dJ20_init_1 : decode cJ20_init 1 = .ok (.bipush 16, 2) := dk_16 16 (dk_at dksJ20_init_0 1 rfl rfl)
theorem dJ20_init_3 : decode cJ20_init 3 = .ok (.invokespecial 1, 3) := dk_183 0 1 (dk_at dksJ20_init_0 3 rfl rfl)
theorem dJ20_init_6 : decode cJ20_init 6 = .ok (.return_, 1) := dk_177 (dk_at dksJ20_init_0 6 rfl rfl)
abbrev cJ20_append : ByteArray := prog_51_method_7_code
def yJ20_append : MethodName := ⟨RJ20, "append", "(Ljava/lang/String;)Ljava/lang/StringBuilder;"⟩
def dkwJ20_append_0 : List UInt8 := [42, 43, 183, 0, 29, 87, 42, 176]
abbrev dktJ20_append_0 : List UInt8 := dkwJ20_append_0 ++ []
theorem dksJ20_append_0 : cJ20_append.data.toList.drop 0 = dktJ20_append_0 := by decide +kernel
theorem dJ20_append_0 : decode cJ20_append 0 = .ok (.aload_n 0, 1) := dk_42 (dk_at dksJ20_append_0 0 rfl rfl)
theorem dJ20_append_1 : decode cJ20_append 1 = .ok (.aload_n 1, 1) := dk_43 (dk_at dksJ20_append_0 1 rfl rfl)
theorem dJ20_append_2 : decode cJ20_append 2 = .ok (.invokespecial 29, 3) := dk_183 0 29 (dk_at dksJ20_append_0 2 rfl rfl)
theorem dJ20_append_5 : decode cJ20_append 5 = .ok (.pop, 1) := dk_87 (dk_at dksJ20_append_0 5 rfl rfl)
theorem dJ20_append_6 : decode cJ20_append 6 = .ok (.aload_n 0, 1) := dk_42 (dk_at dksJ20_append_0 6 rfl rfl)
theorem dJ20_append_7 : decode cJ20_append 7 = .ok (.areturn, 1) := dk_176 (dk_at dksJ20_append_0 7 rfl rfl)
abbrev cJ20_toString : ByteArray := prog_51_method_42_code
def yJ20_toString : MethodName := ⟨RJ20, "toString", "()Ljava/lang/String;"⟩
def dkwJ20_toString_0 : List UInt8 := [187, 0, 18, 89, 42, 183, 0, 137, 176]
abbrev dktJ20_toString_0 : List UInt8 := dkwJ20_toString_0 ++ []
theorem dksJ20_toString_0 : cJ20_toString.data.toList.drop 0 = dktJ20_toString_0 := by decide +kernel
theorem dJ20_toString_0 : decode cJ20_toString 0 = .ok (.new 18, 3) := dk_187 0 18 (dk_at dksJ20_toString_0 0 rfl rfl)
theorem dJ20_toString_3 : decode cJ20_toString 3 = .ok (.dup, 1) := dk_89 (dk_at dksJ20_toString_0 3 rfl rfl)
theorem dJ20_toString_4 : decode cJ20_toString 4 = .ok (.aload_n 0, 1) := dk_42 (dk_at dksJ20_toString_0 4 rfl rfl)
theorem dJ20_toString_5 : decode cJ20_toString 5 = .ok (.invokespecial 137, 3) := dk_183 0 137 (dk_at dksJ20_toString_0 5 rfl rfl)
theorem dJ20_toString_8 : decode cJ20_toString 8 = .ok (.areturn, 1) := dk_176 (dk_at dksJ20_toString_0 8 rfl rfl)
abbrev cJ20_length : ByteArray := prog_51_method_93_code
def yJ20_length : MethodName := ⟨RJ20, "length", "()I"⟩
theorem dJ20_length_0 : decode cJ20_length 0 = .ok (.aload_n 0, 1) := by decide +kernel
theorem dJ20_length_1 : decode cJ20_length 1 = .ok (.invokespecial 343, 3) := by decide +kernel
theorem dJ20_length_4 : decode cJ20_length 4 = .ok (.ireturn, 1) := by decide +kernel
theorem q116 : (Jvm.Cond.initialized "java/lang/StringBuilder") ∈ lw_all := lw_g (lw_at lw_m1 33 rfl) rfl
theorem q576 : (Jvm.Cond.selects "java/lang/StringBuilder" ({ cls := "java/lang/Object", name := "getClass", desc := "()Ljava/lang/Class;" } : Jvm.MethodName) ({ cls := "java/lang/Object", name := "getClass", desc := "()Ljava/lang/Class;" } : Jvm.MethodName)) ∈ lw_all := lw_g (lw_at lw_m3 13 rfl) rfl
theorem q906 : (Jvm.Cond.instantiable "java/lang/StringBuilder" (4 : Nat)) ∈ lw_all := lw_g (lw_at lw_m4 103 rfl) rfl
theorem q908 : (Jvm.Cond.instanceMethod ({ cls := "java/lang/StringBuilder", name := "<init>", desc := "()V" } : Jvm.MethodName)) ∈ lw_all := lw_g (lw_at lw_m4 105 rfl) rfl
theorem q909 : (Jvm.Cond.code ({ cls := "java/lang/StringBuilder", name := "<init>", desc := "()V" } : Jvm.MethodName) prog_51_method_1_code (1 : Nat) (Option.none : Option Jvm.ClassFile.FieldType)) ∈ lw_all := lw_g (lw_at lw_m4 106 rfl) rfl
theorem q910 : (Jvm.Cond.methodLink "java/lang/StringBuilder" (1 : Nat) ({ cls := "java/lang/AbstractStringBuilder", name := "<init>", desc := "(I)V" } : Jvm.MethodName)) ∈ lw_all := lw_g (lw_at lw_m4 107 rfl) rfl
theorem q927 : (Jvm.Cond.lays "java/lang/StringBuilder" "java/lang/AbstractStringBuilder" "value" "[B") ∈ lw_all := lw_g (lw_at lw_m4 124 rfl) rfl
theorem q929 : (Jvm.Cond.lays "java/lang/StringBuilder" "java/lang/AbstractStringBuilder" "coder" "B") ∈ lw_all := lw_g (lw_at lw_m4 126 rfl) rfl
theorem q931 : (Jvm.Cond.lays "java/lang/StringBuilder" "java/lang/AbstractStringBuilder" "maybeLatin1" "Z") ∈ lw_all := lw_g (lw_at lw_m4 128 rfl) rfl
theorem q933 : (Jvm.Cond.lays "java/lang/StringBuilder" "java/lang/AbstractStringBuilder" "count" "I") ∈ lw_all := lw_g (lw_at lw_m4 130 rfl) rfl
theorem q935 : (Jvm.Cond.superclass "java/lang/StringBuilder" "java/lang/AbstractStringBuilder") ∈ lw_all := lw_g (lw_at lw_m4 132 rfl) rfl
theorem q937 : (Jvm.Cond.instanceMethod ({ cls := "java/lang/StringBuilder", name := "append", desc := "(Ljava/lang/String;)Ljava/lang/StringBuilder;" } : Jvm.MethodName)) ∈ lw_all := lw_g (lw_at lw_m4 134 rfl) rfl
theorem q938 : (Jvm.Cond.selects "java/lang/StringBuilder" ({ cls := "java/lang/StringBuilder", name := "append", desc := "(Ljava/lang/String;)Ljava/lang/StringBuilder;" } : Jvm.MethodName) ({ cls := "java/lang/StringBuilder", name := "append", desc := "(Ljava/lang/String;)Ljava/lang/StringBuilder;" } : Jvm.MethodName)) ∈ lw_all := lw_g (lw_at lw_m4 135 rfl) rfl
theorem q939 : (Jvm.Cond.code ({ cls := "java/lang/StringBuilder", name := "append", desc := "(Ljava/lang/String;)Ljava/lang/StringBuilder;" } : Jvm.MethodName) prog_51_method_7_code (2 : Nat) (Option.some (Jvm.ClassFile.FieldType.object "java/lang/StringBuilder"))) ∈ lw_all := lw_g (lw_at lw_m4 136 rfl) rfl
theorem q940 : (Jvm.Cond.methodLink "java/lang/StringBuilder" (29 : Nat) ({ cls := "java/lang/AbstractStringBuilder", name := "append", desc := "(Ljava/lang/String;)Ljava/lang/AbstractStringBuilder;" } : Jvm.MethodName)) ∈ lw_all := lw_g (lw_at lw_m4 137 rfl) rfl
theorem q965 : (Jvm.Cond.selects "java/lang/StringBuilder" ({ cls := "java/lang/AbstractStringBuilder", name := "isLatin1", desc := "()Z" } : Jvm.MethodName) ({ cls := "java/lang/AbstractStringBuilder", name := "isLatin1", desc := "()Z" } : Jvm.MethodName)) ∈ lw_all := lw_g (lw_at lw_m4 162 rfl) rfl
theorem q1038 : (Jvm.Cond.instanceMethod ({ cls := "java/lang/StringBuilder", name := "toString", desc := "()Ljava/lang/String;" } : Jvm.MethodName)) ∈ lw_all := lw_g (lw_at lw_m4 235 rfl) rfl
theorem q1039 : (Jvm.Cond.selects "java/lang/StringBuilder" ({ cls := "java/lang/StringBuilder", name := "toString", desc := "()Ljava/lang/String;" } : Jvm.MethodName) ({ cls := "java/lang/StringBuilder", name := "toString", desc := "()Ljava/lang/String;" } : Jvm.MethodName)) ∈ lw_all := lw_g (lw_at lw_m4 236 rfl) rfl
theorem q1040 : (Jvm.Cond.code ({ cls := "java/lang/StringBuilder", name := "toString", desc := "()Ljava/lang/String;" } : Jvm.MethodName) prog_51_method_42_code (1 : Nat) (Option.some (Jvm.ClassFile.FieldType.object "java/lang/String"))) ∈ lw_all := lw_g (lw_at lw_m4 237 rfl) rfl
theorem q1041 : (Jvm.Cond.classLink "java/lang/StringBuilder" (18 : Nat) "java/lang/String") ∈ lw_all := lw_g (lw_at lw_m4 238 rfl) rfl
theorem q1043 : (Jvm.Cond.methodLink "java/lang/StringBuilder" (137 : Nat) ({ cls := "java/lang/String", name := "<init>", desc := "(Ljava/lang/StringBuilder;)V" } : Jvm.MethodName)) ∈ lw_all := lw_g (lw_at lw_m5 0 rfl) rfl
theorem q1053 : (Jvm.Cond.selects "java/lang/StringBuilder" ({ cls := "java/lang/AbstractStringBuilder", name := "getValue", desc := "()[B" } : Jvm.MethodName) ({ cls := "java/lang/AbstractStringBuilder", name := "getValue", desc := "()[B" } : Jvm.MethodName)) ∈ lw_all := lw_g (lw_at lw_m5 10 rfl) rfl
theorem q1058 : (Jvm.Cond.selects "java/lang/StringBuilder" ({ cls := "java/lang/AbstractStringBuilder", name := "length", desc := "()I" } : Jvm.MethodName) ({ cls := "java/lang/StringBuilder", name := "length", desc := "()I" } : Jvm.MethodName)) ∈ lw_all := lw_g (lw_at lw_m5 15 rfl) rfl
theorem q1059 : (Jvm.Cond.instanceMethod ({ cls := "java/lang/StringBuilder", name := "length", desc := "()I" } : Jvm.MethodName)) ∈ lw_all := lw_g (lw_at lw_m5 16 rfl) rfl
theorem q1060 : (Jvm.Cond.code ({ cls := "java/lang/StringBuilder", name := "length", desc := "()I" } : Jvm.MethodName) prog_51_method_93_code (1 : Nat) (Option.some Jvm.ClassFile.FieldType.int)) ∈ lw_all := lw_g (lw_at lw_m5 17 rfl) rfl
theorem q1061 : (Jvm.Cond.methodLink "java/lang/StringBuilder" (343 : Nat) ({ cls := "java/lang/AbstractStringBuilder", name := "length", desc := "()I" } : Jvm.MethodName)) ∈ lw_all := lw_g (lw_at lw_m5 18 rfl) rfl
theorem q3058 : (Jvm.Cond.castable "java/lang/StringBuilder" "java/lang/Object") ∈ lw_tbl := lw_at lw_m13 95 rfl
theorem in_J20 : ∀ w ∈ wsJ200, w ∈ lw_all := lw_in wsJ200 [927, 929, 931, 933] (by decide +kernel) (by decide +kernel)

/-! java/lang/String -/
set_option maxRecDepth 100000
def RJ21 : String := "java/lang/String"
def TJ21 : u_T := fun k => match k with
  | 0 => ("java/lang/String", "value", "[B", true)
  | 1 => ("java/lang/String", "coder", "B", true)
  | 2 => ("java/lang/String", "hash", "I", false)
  | _ => ("java/lang/String", "hashIsZero", "Z", false)
def tyJ21 : Nat → FieldType := fun k => match k with
  | 0 => .array .byte
  | 1 => .byte
  | 2 => .int
  | _ => .boolean
abbrev wsJ210 : List Cond := u_ws RJ21 TJ21 4
theorem nmJ21 : ∀ a, a < 4 → ∀ b, b < 4 → a ≠ b → (TJ21 a).2.1 ≠ (TJ21 b).2.1 := by decide +kernel
theorem tyJ21_ok : ∀ k, k < 4 → parseFieldDescriptor (TJ21 k).2.2.1 = some (tyJ21 k) := by decide +kernel
abbrev cJ21_checkBoundsBeginEnd : ByteArray := prog_50_method_158_code
def yJ21_checkBoundsBeginEnd : MethodName := ⟨RJ21, "checkBoundsBeginEnd", "(III)V"⟩
def dkwJ21_checkBoundsBeginEnd_0 : List UInt8 := [26, 27, 28, 178, 4, 29, 184, 4, 38, 87, 177]
abbrev dktJ21_checkBoundsBeginEnd_0 : List UInt8 := dkwJ21_checkBoundsBeginEnd_0 ++ []
theorem dksJ21_checkBoundsBeginEnd_0 : cJ21_checkBoundsBeginEnd.data.toList.drop 0 = dktJ21_checkBoundsBeginEnd_0 := by decide +kernel
theorem dJ21_checkBoundsBeginEnd_0 : decode cJ21_checkBoundsBeginEnd 0 = .ok (.iload_n 0, 1) := dk_26 (dk_at dksJ21_checkBoundsBeginEnd_0 0 rfl rfl)
theorem dJ21_checkBoundsBeginEnd_1 : decode cJ21_checkBoundsBeginEnd 1 = .ok (.iload_n 1, 1) := dk_27 (dk_at dksJ21_checkBoundsBeginEnd_0 1 rfl rfl)
theorem dJ21_checkBoundsBeginEnd_2 : decode cJ21_checkBoundsBeginEnd 2 = .ok (.iload_n 2, 1) := dk_28 (dk_at dksJ21_checkBoundsBeginEnd_0 2 rfl rfl)
theorem dJ21_checkBoundsBeginEnd_3 : decode cJ21_checkBoundsBeginEnd 3 = .ok (.getstatic 1053, 3) := dk_178 4 29 (dk_at dksJ21_checkBoundsBeginEnd_0 3 rfl rfl)
theorem dJ21_checkBoundsBeginEnd_6 : decode cJ21_checkBoundsBeginEnd 6 = .ok (.invokestatic 1062, 3) := dk_184 4 38 (dk_at dksJ21_checkBoundsBeginEnd_0 6 rfl rfl)
theorem dJ21_checkBoundsBeginEnd_9 : decode cJ21_checkBoundsBeginEnd 9 = .ok (.pop, 1) := dk_87 (dk_at dksJ21_checkBoundsBeginEnd_0 9 rfl rfl)
theorem dJ21_checkBoundsBeginEnd_10 : decode cJ21_checkBoundsBeginEnd 10 = .ok (.return_, 1) := dk_177 (dk_at dksJ21_checkBoundsBeginEnd_0 10 rfl rfl)
abbrev cJ21_length : ByteArray := prog_50_method_54_code
def yJ21_length : MethodName := ⟨RJ21, "length", "()I"⟩
def dkwJ21_length_0 : List UInt8 := [42, 180, 0, 9, 190, 42, 182, 1, 79, 122, 172]
abbrev dktJ21_length_0 : List UInt8 := dkwJ21_length_0 ++ []
theorem dksJ21_length_0 : cJ21_length.data.toList.drop 0 = dktJ21_length_0 := by decide +kernel
theorem dJ21_length_0 : decode cJ21_length 0 = .ok (.aload_n 0, 1) := dk_42 (dk_at dksJ21_length_0 0 rfl rfl)
theorem dJ21_length_1 : decode cJ21_length 1 = .ok (.getfield 9, 3) := dk_180 0 9 (dk_at dksJ21_length_0 1 rfl rfl)
theorem dJ21_length_4 : decode cJ21_length 4 = .ok (.arraylength, 1) := dk_190 (dk_at dksJ21_length_0 4 rfl rfl)
theorem dJ21_length_5 : decode cJ21_length 5 = .ok (.aload_n 0, 1) := dk_42 (dk_at dksJ21_length_0 5 rfl rfl)
theorem dJ21_length_6 : decode cJ21_length 6 = .ok (.invokevirtual 335, 3) := dk_182 1 79 (dk_at dksJ21_length_0 6 rfl rfl)
theorem dJ21_length_9 : decode cJ21_length 9 = .ok (.ishr, 1) := dk_122 (dk_at dksJ21_length_0 9 rfl rfl)
theorem dJ21_length_10 : decode cJ21_length 10 = .ok (.ireturn, 1) := dk_172 (dk_at dksJ21_length_0 10 rfl rfl)
abbrev cJ21_coder : ByteArray := prog_50_method_152_code
def yJ21_coder : MethodName := ⟨RJ21, "coder", "()B"⟩
def dkwJ21_coder_0 : List UInt8 := [178, 0, 38, 153, 0, 10, 42, 180, 0, 15, 167, 0, 4, 4, 172]
abbrev dktJ21_coder_0 : List UInt8 := dkwJ21_coder_0 ++ []
theorem dksJ21_coder_0 : cJ21_coder.data.toList.drop 0 = dktJ21_coder_0 := by decide +kernel
theorem dJ21_coder_0 : decode cJ21_coder 0 = .ok (.getstatic 38, 3) := dk_178 0 38 (dk_at dksJ21_coder_0 0 rfl rfl)
theorem dJ21_coder_3 : decode cJ21_coder 3 = .ok (.ifCond .eq 10, 3) := dk_153 0 10 (dk_at dksJ21_coder_0 3 rfl rfl)
theorem dJ21_coder_6 : decode cJ21_coder 6 = .ok (.aload_n 0, 1) := dk_42 (dk_at dksJ21_coder_0 6 rfl rfl)
theorem dJ21_coder_7 : decode cJ21_coder 7 = .ok (.getfield 15, 3) := dk_180 0 15 (dk_at dksJ21_coder_0 7 rfl rfl)
theorem dJ21_coder_10 : decode cJ21_coder 10 = .ok (.goto 4, 3) := dk_167 0 4 (dk_at dksJ21_coder_0 10 rfl rfl)
theorem dJ21_coder_13 : decode cJ21_coder 13 = .ok (.iconst 1, 1) := dk_4 (dk_at dksJ21_coder_0 13 rfl rfl)
theorem dJ21_coder_14 : decode cJ21_coder 14 = .ok (.ireturn, 1) := dk_172 (dk_at dksJ21_coder_0 14 rfl rfl)
abbrev cJ21_checkBoundsOffCount : ByteArray := prog_50_method_157_code
def yJ21_checkBoundsOffCount : MethodName := ⟨RJ21, "checkBoundsOffCount", "(III)I"⟩
def dkwJ21_checkBoundsOffCount_0 : List UInt8 := [26, 27, 28, 178, 4, 29, 184, 4, 41, 172]
abbrev dktJ21_checkBoundsOffCount_0 : List UInt8 := dkwJ21_checkBoundsOffCount_0 ++ []
theorem dksJ21_checkBoundsOffCount_0 : cJ21_checkBoundsOffCount.data.toList.drop 0 = dktJ21_checkBoundsOffCount_0 := by decide +kernel
theorem dJ21_checkBoundsOffCount_0 : decode cJ21_checkBoundsOffCount 0 = .ok (.iload_n 0, 1) := dk_26 (dk_at dksJ21_checkBoundsOffCount_0 0 rfl rfl)
theorem dJ21_checkBoundsOffCount_1 : decode cJ21_checkBoundsOffCount 1 = .ok (.iload_n 1, 1) := dk_27 (dk_at dksJ21_checkBoundsOffCount_0 1 rfl rfl)
theorem dJ21_checkBoundsOffCount_2 : decode cJ21_checkBoundsOffCount 2 = .ok (.iload_n 2, 1) := dk_28 (dk_at dksJ21_checkBoundsOffCount_0 2 rfl rfl)
theorem dJ21_checkBoundsOffCount_3 : decode cJ21_checkBoundsOffCount 3 = .ok (.getstatic 1053, 3) := dk_178 4 29 (dk_at dksJ21_checkBoundsOffCount_0 3 rfl rfl)
theorem dJ21_checkBoundsOffCount_6 : decode cJ21_checkBoundsOffCount 6 = .ok (.invokestatic 1065, 3) := dk_184 4 41 (dk_at dksJ21_checkBoundsOffCount_0 6 rfl rfl)
theorem dJ21_checkBoundsOffCount_9 : decode cJ21_checkBoundsOffCount 9 = .ok (.ireturn, 1) := dk_172 (dk_at dksJ21_checkBoundsOffCount_0 9 rfl rfl)
abbrev cJ21_getBytes : ByteArray := prog_50_method_147_code
def yJ21_getBytes : MethodName := ⟨RJ21, "getBytes", "([BIB)V"⟩
def dkwJ21_getBytes_1 : List UInt8 := [184, 0, 212, 167, 0, 18, 42, 180, 0, 9, 3, 43, 28, 42, 180, 0, 9, 190, 184, 0, 106, 177]
abbrev dktJ21_getBytes_1 : List UInt8 := dkwJ21_getBytes_1 ++ []
def dkwJ21_getBytes_0 : List UInt8 := [42, 182, 1, 79, 29, 160, 0, 23, 42, 180, 0, 9, 3, 43, 28, 29, 120, 42, 180, 0, 9, 190]
abbrev dktJ21_getBytes_0 : List UInt8 := dkwJ21_getBytes_0 ++ dktJ21_getBytes_1
theorem dksJ21_getBytes_0 : cJ21_getBytes.data.toList.drop 0 = dktJ21_getBytes_0 := by decide +kernel
theorem dksJ21_getBytes_1 : cJ21_getBytes.data.toList.drop 22 = dktJ21_getBytes_1 := dk_seg dksJ21_getBytes_0 22 rfl rfl
theorem dJ21_getBytes_0 : decode cJ21_getBytes 0 = .ok (.aload_n 0, 1) := dk_42 (dk_at dksJ21_getBytes_0 0 rfl rfl)
theorem dJ21_getBytes_1 : decode cJ21_getBytes 1 = .ok (.invokevirtual 335, 3) := dk_182 1 79 (dk_at dksJ21_getBytes_0 1 rfl rfl)
theorem dJ21_getBytes_4 : decode cJ21_getBytes 4 = .ok (.iload_n 3, 1) := dk_29 (dk_at dksJ21_getBytes_0 4 rfl rfl)
theorem dJ21_getBytes_5 : decode cJ21_getBytes 5 = .ok (.if_icmp .ne 23, 3) := dk_160 0 23 (dk_at dksJ21_getBytes_0 5 rfl rfl)
theorem dJ21_getBytes_8 : decode cJ21_getBytes 8 = .ok (.aload_n 0, 1) := dk_42 (dk_at dksJ21_getBytes_0 8 rfl rfl)
theorem dJ21_getBytes_9 : decode cJ21_getBytes 9 = .ok (.getfield 9, 3) := dk_180 0 9 (dk_at dksJ21_getBytes_0 9 rfl rfl)
theorem dJ21_getBytes_12 : decode cJ21_getBytes 12 = .ok (.iconst 0, 1) := dk_3 (dk_at dksJ21_getBytes_0 12 rfl rfl)
theorem dJ21_getBytes_13 : decode cJ21_getBytes 13 = .ok (.aload_n 1, 1) := dk_43 (dk_at dksJ21_getBytes_0 13 rfl rfl)
theorem dJ21_getBytes_14 : decode cJ21_getBytes 14 = .ok (.iload_n 2, 1) := dk_28 (dk_at dksJ21_getBytes_0 14 rfl rfl)
theorem dJ21_getBytes_15 : decode cJ21_getBytes 15 = .ok (.iload_n 3, 1) := dk_29 (dk_at dksJ21_getBytes_0 15 rfl rfl)
theorem dJ21_getBytes_16 : decode cJ21_getBytes 16 = .ok (.ishl, 1) := dk_120 (dk_at dksJ21_getBytes_0 16 rfl rfl)
theorem dJ21_getBytes_17 : decode cJ21_getBytes 17 = .ok (.aload_n 0, 1) := dk_42 (dk_at dksJ21_getBytes_0 17 rfl rfl)
theorem dJ21_getBytes_18 : decode cJ21_getBytes 18 = .ok (.getfield 9, 3) := dk_180 0 9 (dk_at dksJ21_getBytes_0 18 rfl rfl)
theorem dJ21_getBytes_21 : decode cJ21_getBytes 21 = .ok (.arraylength, 1) := dk_190 (dk_at dksJ21_getBytes_0 21 rfl rfl)
theorem dJ21_getBytes_22 : decode cJ21_getBytes 22 = .ok (.invokestatic 212, 3) := dk_184 0 212 (dk_at dksJ21_getBytes_1 0 rfl rfl)
theorem dJ21_getBytes_25 : decode cJ21_getBytes 25 = .ok (.goto 18, 3) := dk_167 0 18 (dk_at dksJ21_getBytes_1 3 rfl rfl)
theorem dJ21_getBytes_28 : decode cJ21_getBytes 28 = .ok (.aload_n 0, 1) := dk_42 (dk_at dksJ21_getBytes_1 6 rfl rfl)
theorem dJ21_getBytes_29 : decode cJ21_getBytes 29 = .ok (.getfield 9, 3) := dk_180 0 9 (dk_at dksJ21_getBytes_1 7 rfl rfl)
theorem dJ21_getBytes_32 : decode cJ21_getBytes 32 = .ok (.iconst 0, 1) := dk_3 (dk_at dksJ21_getBytes_1 10 rfl rfl)
theorem dJ21_getBytes_33 : decode cJ21_getBytes 33 = .ok (.aload_n 1, 1) := dk_43 (dk_at dksJ21_getBytes_1 11 rfl rfl)
theorem dJ21_getBytes_34 : decode cJ21_getBytes 34 = .ok (.iload_n 2, 1) := dk_28 (dk_at dksJ21_getBytes_1 12 rfl rfl)
theorem dJ21_getBytes_35 : decode cJ21_getBytes 35 = .ok (.aload_n 0, 1) := dk_42 (dk_at dksJ21_getBytes_1 13 rfl rfl)
theorem dJ21_getBytes_36 : decode cJ21_getBytes 36 = .ok (.getfield 9, 3) := dk_180 0 9 (dk_at dksJ21_getBytes_1 14 rfl rfl)
theorem dJ21_getBytes_39 : decode cJ21_getBytes 39 = .ok (.arraylength, 1) := dk_190 (dk_at dksJ21_getBytes_1 17 rfl rfl)
theorem dJ21_getBytes_40 : decode cJ21_getBytes 40 = .ok (.invokestatic 106, 3) := dk_184 0 106 (dk_at dksJ21_getBytes_1 18 rfl rfl)
theorem dJ21_getBytes_43 : decode cJ21_getBytes 43 = .ok (.return_, 1) := dk_177 (dk_at dksJ21_getBytes_1 21 rfl rfl)
abbrev cJ21_init : ByteArray := prog_50_method_53_code
def yJ21_init : MethodName := ⟨RJ21, "<init>", "(Ljava/lang/StringBuilder;)V"⟩
def dkwJ21_init_0 : List UInt8 := [42, 43, 1, 183, 1, 233, 177]
abbrev dktJ21_init_0 : List UInt8 := dkwJ21_init_0 ++ []
theorem dksJ21_init_0 : cJ21_init.data.toList.drop 0 = dktJ21_init_0 := by decide +kernel
theorem dJ21_init_0 : decode cJ21_init 0 = .ok (.aload_n 0, 1) := dk_42 (dk_at dksJ21_init_0 0 rfl rfl)
theorem dJ21_init_1 : decode cJ21_init 1 = .ok (.aload_n 1, 1) := dk_43 (dk_at dksJ21_init_0 1 rfl rfl)
theorem dJ21_init_2 : decode cJ21_init 2 = .ok (.aconst_null, 1) := dk_1 (dk_at dksJ21_init_0 2 rfl rfl)
theorem dJ21_init_3 : decode cJ21_init 3 = .ok (.invokespecial 489, 3) := dk_183 1 233 (dk_at dksJ21_init_0 3 rfl rfl)
theorem dJ21_init_6 : decode cJ21_init 6 = .ok (.return_, 1) := dk_177 (dk_at dksJ21_init_0 6 rfl rfl)
abbrev cJ21_init_2 : ByteArray := prog_50_method_150_code
def yJ21_init_2 : MethodName := ⟨RJ21, "<init>", "(Ljava/lang/AbstractStringBuilder;Ljava/lang/Void;)V"⟩
def dkwJ21_init_2_4 : List UInt8 := [181, 0, 9, 177]
abbrev dktJ21_init_2_4 : List UInt8 := dkwJ21_init_2_4 ++ []
def dkwJ21_init_2_3 : List UInt8 := [184, 0, 47, 181, 0, 15, 177, 42, 4, 181, 0, 15, 42, 45, 3, 21, 4, 4, 120, 184, 0, 54]
abbrev dktJ21_init_2_3 : List UInt8 := dkwJ21_init_2_3 ++ dktJ21_init_2_4
def dkwJ21_init_2_2 : List UInt8 := [180, 4, 24, 153, 0, 28, 42, 45, 3, 21, 4, 184, 4, 27, 181, 0, 9, 42, 42, 180, 0, 9, 21, 4]
abbrev dktJ21_init_2_2 : List UInt8 := dkwJ21_init_2_2 ++ dktJ21_init_2_3
def dkwJ21_init_2_1 : List UInt8 := [181, 0, 15, 42, 45, 3, 21, 4, 184, 0, 54, 181, 0, 9, 167, 0, 59, 178, 0, 38, 153, 0, 35, 43]
abbrev dktJ21_init_2_1 : List UInt8 := dkwJ21_init_2_1 ++ dktJ21_init_2_2
def dkwJ21_init_2_0 : List UInt8 := [42, 183, 0, 1, 43, 182, 2, 40, 78, 43, 182, 2, 37, 54, 4, 43, 182, 4, 23, 153, 0, 22, 42, 3]
abbrev dktJ21_init_2_0 : List UInt8 := dkwJ21_init_2_0 ++ dktJ21_init_2_1
theorem dksJ21_init_2_0 : cJ21_init_2.data.toList.drop 0 = dktJ21_init_2_0 := by decide +kernel
theorem dksJ21_init_2_1 : cJ21_init_2.data.toList.drop 24 = dktJ21_init_2_1 := dk_seg dksJ21_init_2_0 24 rfl rfl
theorem dksJ21_init_2_2 : cJ21_init_2.data.toList.drop 48 = dktJ21_init_2_2 := dk_seg dksJ21_init_2_1 24 rfl rfl
theorem dksJ21_init_2_3 : cJ21_init_2.data.toList.drop 72 = dktJ21_init_2_3 := dk_seg dksJ21_init_2_2 24 rfl rfl
theorem dksJ21_init_2_4 : cJ21_init_2.data.toList.drop 94 = dktJ21_init_2_4 := dk_seg dksJ21_init_2_3 22 rfl rfl
theorem dJ21_init_2_0 : decode cJ21_init_2 0 = .ok (.aload_n 0, 1) := dk_42 (dk_at dksJ21_init_2_0 0 rfl rfl)
theorem dJ21_init_2_1 : decode cJ21_init_2 1 = .ok (.invokespecial 1, 3) := dk_183 0 1 (dk_at dksJ21_init_2_0 1 rfl rfl)
theorem dJ21_init_2_4 : decode cJ21_init_2 4 = .ok (.aload_n 1, 1) := dk_43 (dk_at dksJ21_init_2_0 4 rfl rfl)
theorem dJ21_init_2_5 : decode cJ21_init_2 5 = .ok (.invokevirtual 552, 3) := dk_182 2 40 (dk_at dksJ21_init_2_0 5 rfl rfl)
theorem dJ21_init_2_8 : decode cJ21_init_2 8 = .ok (.astore_n 3, 1) := dk_78 (dk_at dksJ21_init_2_0 8 rfl rfl)
theorem dJ21_init_2_9 : decode cJ21_init_2 9 = .ok (.aload_n 1, 1) := dk_43 (dk_at dksJ21_init_2_0 9 rfl rfl)
theorem dJ21_init_2_10 : decode cJ21_init_2 10 = .ok (.invokevirtual 549, 3) := dk_182 2 37 (dk_at dksJ21_init_2_0 10 rfl rfl)
theorem dJ21_init_2_13 : decode cJ21_init_2 13 = .ok (.istore 4, 2) := dk_54 4 (dk_at dksJ21_init_2_0 13 rfl rfl)
theorem dJ21_init_2_15 : decode cJ21_init_2 15 = .ok (.aload_n 1, 1) := dk_43 (dk_at dksJ21_init_2_0 15 rfl rfl)
theorem dJ21_init_2_16 : decode cJ21_init_2 16 = .ok (.invokevirtual 1047, 3) := dk_182 4 23 (dk_at dksJ21_init_2_0 16 rfl rfl)
theorem dJ21_init_2_19 : decode cJ21_init_2 19 = .ok (.ifCond .eq 22, 3) := dk_153 0 22 (dk_at dksJ21_init_2_0 19 rfl rfl)
theorem dJ21_init_2_22 : decode cJ21_init_2 22 = .ok (.aload_n 0, 1) := dk_42 (dk_at dksJ21_init_2_0 22 rfl rfl)
theorem dJ21_init_2_23 : decode cJ21_init_2 23 = .ok (.iconst 0, 1) := dk_3 (dk_at dksJ21_init_2_0 23 rfl rfl)
theorem dJ21_init_2_24 : decode cJ21_init_2 24 = .ok (.putfield 15, 3) := dk_181 0 15 (dk_at dksJ21_init_2_1 0 rfl rfl)
theorem dJ21_init_2_27 : decode cJ21_init_2 27 = .ok (.aload_n 0, 1) := dk_42 (dk_at dksJ21_init_2_1 3 rfl rfl)
theorem dJ21_init_2_28 : decode cJ21_init_2 28 = .ok (.aload_n 3, 1) := dk_45 (dk_at dksJ21_init_2_1 4 rfl rfl)
theorem dJ21_init_2_29 : decode cJ21_init_2 29 = .ok (.iconst 0, 1) := dk_3 (dk_at dksJ21_init_2_1 5 rfl rfl)
theorem dJ21_init_2_30 : decode cJ21_init_2 30 = .ok (.iload 4, 2) := dk_21 4 (dk_at dksJ21_init_2_1 6 rfl rfl)
theorem dJ21_init_2_32 : decode cJ21_init_2 32 = .ok (.invokestatic 54, 3) := dk_184 0 54 (dk_at dksJ21_init_2_1 8 rfl rfl)
theorem dJ21_init_2_35 : decode cJ21_init_2 35 = .ok (.putfield 9, 3) := dk_181 0 9 (dk_at dksJ21_init_2_1 11 rfl rfl)
theorem dJ21_init_2_38 : decode cJ21_init_2 38 = .ok (.goto 59, 3) := dk_167 0 59 (dk_at dksJ21_init_2_1 14 rfl rfl)
theorem dJ21_init_2_41 : decode cJ21_init_2 41 = .ok (.getstatic 38, 3) := dk_178 0 38 (dk_at dksJ21_init_2_1 17 rfl rfl)
theorem dJ21_init_2_44 : decode cJ21_init_2 44 = .ok (.ifCond .eq 35, 3) := dk_153 0 35 (dk_at dksJ21_init_2_1 20 rfl rfl)
theorem dJ21_init_2_47 : decode cJ21_init_2 47 = .ok (.aload_n 1, 1) := dk_43 (dk_at dksJ21_init_2_1 23 rfl rfl)
theorem dJ21_init_2_48 : decode cJ21_init_2 48 = .ok (.getfield 1048, 3) := dk_180 4 24 (dk_at dksJ21_init_2_2 0 rfl rfl)
theorem dJ21_init_2_51 : decode cJ21_init_2 51 = .ok (.ifCond .eq 28, 3) := dk_153 0 28 (dk_at dksJ21_init_2_2 3 rfl rfl)
theorem dJ21_init_2_54 : decode cJ21_init_2 54 = .ok (.aload_n 0, 1) := dk_42 (dk_at dksJ21_init_2_2 6 rfl rfl)
theorem dJ21_init_2_55 : decode cJ21_init_2 55 = .ok (.aload_n 3, 1) := dk_45 (dk_at dksJ21_init_2_2 7 rfl rfl)
theorem dJ21_init_2_56 : decode cJ21_init_2 56 = .ok (.iconst 0, 1) := dk_3 (dk_at dksJ21_init_2_2 8 rfl rfl)
theorem dJ21_init_2_57 : decode cJ21_init_2 57 = .ok (.iload 4, 2) := dk_21 4 (dk_at dksJ21_init_2_2 9 rfl rfl)
theorem dJ21_init_2_59 : decode cJ21_init_2 59 = .ok (.invokestatic 1051, 3) := dk_184 4 27 (dk_at dksJ21_init_2_2 11 rfl rfl)
theorem dJ21_init_2_62 : decode cJ21_init_2 62 = .ok (.putfield 9, 3) := dk_181 0 9 (dk_at dksJ21_init_2_2 14 rfl rfl)
theorem dJ21_init_2_65 : decode cJ21_init_2 65 = .ok (.aload_n 0, 1) := dk_42 (dk_at dksJ21_init_2_2 17 rfl rfl)
theorem dJ21_init_2_66 : decode cJ21_init_2 66 = .ok (.aload_n 0, 1) := dk_42 (dk_at dksJ21_init_2_2 18 rfl rfl)
theorem dJ21_init_2_67 : decode cJ21_init_2 67 = .ok (.getfield 9, 3) := dk_180 0 9 (dk_at dksJ21_init_2_2 19 rfl rfl)
theorem dJ21_init_2_70 : decode cJ21_init_2 70 = .ok (.iload 4, 2) := dk_21 4 (dk_at dksJ21_init_2_2 22 rfl rfl)
theorem dJ21_init_2_72 : decode cJ21_init_2 72 = .ok (.invokestatic 47, 3) := dk_184 0 47 (dk_at dksJ21_init_2_3 0 rfl rfl)
theorem dJ21_init_2_75 : decode cJ21_init_2 75 = .ok (.putfield 15, 3) := dk_181 0 15 (dk_at dksJ21_init_2_3 3 rfl rfl)
theorem dJ21_init_2_78 : decode cJ21_init_2 78 = .ok (.return_, 1) := dk_177 (dk_at dksJ21_init_2_3 6 rfl rfl)
theorem dJ21_init_2_79 : decode cJ21_init_2 79 = .ok (.aload_n 0, 1) := dk_42 (dk_at dksJ21_init_2_3 7 rfl rfl)
theorem dJ21_init_2_80 : decode cJ21_init_2 80 = .ok (.iconst 1, 1) := dk_4 (dk_at dksJ21_init_2_3 8 rfl rfl)
theorem dJ21_init_2_81 : decode cJ21_init_2 81 = .ok (.putfield 15, 3) := dk_181 0 15 (dk_at dksJ21_init_2_3 9 rfl rfl)
theorem dJ21_init_2_84 : decode cJ21_init_2 84 = .ok (.aload_n 0, 1) := dk_42 (dk_at dksJ21_init_2_3 12 rfl rfl)
theorem dJ21_init_2_85 : decode cJ21_init_2 85 = .ok (.aload_n 3, 1) := dk_45 (dk_at dksJ21_init_2_3 13 rfl rfl)
theorem dJ21_init_2_86 : decode cJ21_init_2 86 = .ok (.iconst 0, 1) := dk_3 (dk_at dksJ21_init_2_3 14 rfl rfl)
theorem dJ21_init_2_87 : decode cJ21_init_2 87 = .ok (.iload 4, 2) := dk_21 4 (dk_at dksJ21_init_2_3 15 rfl rfl)
theorem dJ21_init_2_89 : decode cJ21_init_2 89 = .ok (.iconst 1, 1) := dk_4 (dk_at dksJ21_init_2_3 17 rfl rfl)
theorem dJ21_init_2_90 : decode cJ21_init_2 90 = .ok (.ishl, 1) := dk_120 (dk_at dksJ21_init_2_3 18 rfl rfl)
theorem dJ21_init_2_91 : decode cJ21_init_2 91 = .ok (.invokestatic 54, 3) := dk_184 0 54 (dk_at dksJ21_init_2_3 19 rfl rfl)
theorem dJ21_init_2_94 : decode cJ21_init_2 94 = .ok (.putfield 9, 3) := dk_181 0 9 (dk_at dksJ21_init_2_4 0 rfl rfl)
theorem dJ21_init_2_97 : decode cJ21_init_2 97 = .ok (.return_, 1) := dk_177 (dk_at dksJ21_init_2_4 3 rfl rfl)
theorem q117 : (Jvm.Cond.initialized "java/lang/String") ∈ lw_all := lw_g (lw_at lw_m1 34 rfl) rfl
theorem q575 : (Jvm.Cond.selects "java/lang/String" ({ cls := "java/lang/Object", name := "getClass", desc := "()Ljava/lang/Class;" } : Jvm.MethodName) ({ cls := "java/lang/Object", name := "getClass", desc := "()Ljava/lang/Class;" } : Jvm.MethodName)) ∈ lw_all := lw_g (lw_at lw_m3 12 rfl) rfl
theorem q915 : (Jvm.Cond.laysStatic "java/lang/String" "COMPACT_STRINGS" "Z") ∈ lw_tbl := lw_at lw_m4 112 rfl
theorem q925 : (Jvm.Cond.fieldLink "java/lang/String" (1048 : Nat) "java/lang/AbstractStringBuilder" "maybeLatin1" "Z") ∈ lw_all := lw_g (lw_at lw_m4 122 rfl) rfl
theorem q977 : (Jvm.Cond.static ({ cls := "java/lang/String", name := "checkBoundsBeginEnd", desc := "(III)V" } : Jvm.MethodName)) ∈ lw_all := lw_g (lw_at lw_m4 174 rfl) rfl
theorem q978 : (Jvm.Cond.code ({ cls := "java/lang/String", name := "checkBoundsBeginEnd", desc := "(III)V" } : Jvm.MethodName) prog_50_method_158_code (3 : Nat) (Option.none : Option Jvm.ClassFile.FieldType)) ∈ lw_all := lw_g (lw_at lw_m4 175 rfl) rfl
theorem q979 : (Jvm.Cond.fieldLink "java/lang/String" (1053 : Nat) "jdk/internal/util/Preconditions" "SIOOBE_FORMATTER" "Ljava/util/function/BiFunction;") ∈ lw_all := lw_g (lw_at lw_m4 176 rfl) rfl
theorem q981 : (Jvm.Cond.methodLink "java/lang/String" (1062 : Nat) ({ cls := "jdk/internal/util/Preconditions", name := "checkFromToIndex", desc := "(IIILjava/util/function/BiFunction;)I" } : Jvm.MethodName)) ∈ lw_all := lw_g (lw_at lw_m4 178 rfl) rfl
theorem q994 : (Jvm.Cond.instanceMethod ({ cls := "java/lang/String", name := "length", desc := "()I" } : Jvm.MethodName)) ∈ lw_all := lw_g (lw_at lw_m4 191 rfl) rfl
theorem q995 : (Jvm.Cond.selects "java/lang/String" ({ cls := "java/lang/String", name := "length", desc := "()I" } : Jvm.MethodName) ({ cls := "java/lang/String", name := "length", desc := "()I" } : Jvm.MethodName)) ∈ lw_all := lw_g (lw_at lw_m4 192 rfl) rfl
theorem q996 : (Jvm.Cond.code ({ cls := "java/lang/String", name := "length", desc := "()I" } : Jvm.MethodName) prog_50_method_54_code (1 : Nat) (Option.some Jvm.ClassFile.FieldType.int)) ∈ lw_all := lw_g (lw_at lw_m4 193 rfl) rfl
theorem q997 : (Jvm.Cond.methodLink "java/lang/String" (335 : Nat) ({ cls := "java/lang/String", name := "coder", desc := "()B" } : Jvm.MethodName)) ∈ lw_all := lw_g (lw_at lw_m4 194 rfl) rfl
theorem q998 : (Jvm.Cond.instanceMethod ({ cls := "java/lang/String", name := "coder", desc := "()B" } : Jvm.MethodName)) ∈ lw_all := lw_g (lw_at lw_m4 195 rfl) rfl
theorem q999 : (Jvm.Cond.selects "java/lang/String" ({ cls := "java/lang/String", name := "coder", desc := "()B" } : Jvm.MethodName) ({ cls := "java/lang/String", name := "coder", desc := "()B" } : Jvm.MethodName)) ∈ lw_all := lw_g (lw_at lw_m4 196 rfl) rfl
theorem q1000 : (Jvm.Cond.code ({ cls := "java/lang/String", name := "coder", desc := "()B" } : Jvm.MethodName) prog_50_method_152_code (1 : Nat) (Option.some Jvm.ClassFile.FieldType.byte)) ∈ lw_all := lw_g (lw_at lw_m4 197 rfl) rfl
theorem q1001 : (Jvm.Cond.fieldLink "java/lang/String" (38 : Nat) "java/lang/String" "COMPACT_STRINGS" "Z") ∈ lw_all := lw_g (lw_at lw_m4 198 rfl) rfl
theorem q1025 : (Jvm.Cond.static ({ cls := "java/lang/String", name := "checkBoundsOffCount", desc := "(III)I" } : Jvm.MethodName)) ∈ lw_all := lw_g (lw_at lw_m4 222 rfl) rfl
theorem q1026 : (Jvm.Cond.code ({ cls := "java/lang/String", name := "checkBoundsOffCount", desc := "(III)I" } : Jvm.MethodName) prog_50_method_157_code (3 : Nat) (Option.some Jvm.ClassFile.FieldType.int)) ∈ lw_all := lw_g (lw_at lw_m4 223 rfl) rfl
theorem q1027 : (Jvm.Cond.methodLink "java/lang/String" (1065 : Nat) ({ cls := "jdk/internal/util/Preconditions", name := "checkFromIndexSize", desc := "(IIILjava/util/function/BiFunction;)I" } : Jvm.MethodName)) ∈ lw_all := lw_g (lw_at lw_m4 224 rfl) rfl
theorem q1031 : (Jvm.Cond.instanceMethod ({ cls := "java/lang/String", name := "getBytes", desc := "([BIB)V" } : Jvm.MethodName)) ∈ lw_all := lw_g (lw_at lw_m4 228 rfl) rfl
theorem q1032 : (Jvm.Cond.selects "java/lang/String" ({ cls := "java/lang/String", name := "getBytes", desc := "([BIB)V" } : Jvm.MethodName) ({ cls := "java/lang/String", name := "getBytes", desc := "([BIB)V" } : Jvm.MethodName)) ∈ lw_all := lw_g (lw_at lw_m4 229 rfl) rfl
theorem q1033 : (Jvm.Cond.code ({ cls := "java/lang/String", name := "getBytes", desc := "([BIB)V" } : Jvm.MethodName) prog_50_method_147_code (4 : Nat) (Option.none : Option Jvm.ClassFile.FieldType)) ∈ lw_all := lw_g (lw_at lw_m4 230 rfl) rfl
theorem q1034 : (Jvm.Cond.methodLink "java/lang/String" (212 : Nat) ({ cls := "java/lang/System", name := "arraycopy", desc := "(Ljava/lang/Object;ILjava/lang/Object;II)V" } : Jvm.MethodName)) ∈ lw_all := lw_g (lw_at lw_m4 231 rfl) rfl
theorem q1035 : (Jvm.Cond.methodLink "java/lang/String" (106 : Nat) ({ cls := "java/lang/StringLatin1", name := "inflate", desc := "([BI[BII)V" } : Jvm.MethodName)) ∈ lw_all := lw_g (lw_at lw_m4 232 rfl) rfl
theorem q1042 : (Jvm.Cond.instantiable "java/lang/String" (4 : Nat)) ∈ lw_all := lw_g (lw_at lw_m4 239 rfl) rfl
theorem q1044 : (Jvm.Cond.instanceMethod ({ cls := "java/lang/String", name := "<init>", desc := "(Ljava/lang/StringBuilder;)V" } : Jvm.MethodName)) ∈ lw_all := lw_g (lw_at lw_m5 1 rfl) rfl
theorem q1045 : (Jvm.Cond.code ({ cls := "java/lang/String", name := "<init>", desc := "(Ljava/lang/StringBuilder;)V" } : Jvm.MethodName) prog_50_method_53_code (2 : Nat) (Option.none : Option Jvm.ClassFile.FieldType)) ∈ lw_all := lw_g (lw_at lw_m5 2 rfl) rfl
theorem q1046 : (Jvm.Cond.methodLink "java/lang/String" (489 : Nat) ({ cls := "java/lang/String", name := "<init>", desc := "(Ljava/lang/AbstractStringBuilder;Ljava/lang/Void;)V" } : Jvm.MethodName)) ∈ lw_all := lw_g (lw_at lw_m5 3 rfl) rfl
theorem q1047 : (Jvm.Cond.instanceMethod ({ cls := "java/lang/String", name := "<init>", desc := "(Ljava/lang/AbstractStringBuilder;Ljava/lang/Void;)V" } : Jvm.MethodName)) ∈ lw_all := lw_g (lw_at lw_m5 4 rfl) rfl
theorem q1048 : (Jvm.Cond.code ({ cls := "java/lang/String", name := "<init>", desc := "(Ljava/lang/AbstractStringBuilder;Ljava/lang/Void;)V" } : Jvm.MethodName) prog_50_method_150_code (5 : Nat) (Option.none : Option Jvm.ClassFile.FieldType)) ∈ lw_all := lw_g (lw_at lw_m5 5 rfl) rfl
theorem q1049 : (Jvm.Cond.methodLink "java/lang/String" (1 : Nat) ({ cls := "java/lang/Object", name := "<init>", desc := "()V" } : Jvm.MethodName)) ∈ lw_all := lw_g (lw_at lw_m5 6 rfl) rfl
theorem q1050 : (Jvm.Cond.methodLink "java/lang/String" (552 : Nat) ({ cls := "java/lang/AbstractStringBuilder", name := "getValue", desc := "()[B" } : Jvm.MethodName)) ∈ lw_all := lw_g (lw_at lw_m5 7 rfl) rfl
theorem q1055 : (Jvm.Cond.methodLink "java/lang/String" (549 : Nat) ({ cls := "java/lang/AbstractStringBuilder", name := "length", desc := "()I" } : Jvm.MethodName)) ∈ lw_all := lw_g (lw_at lw_m5 12 rfl) rfl
theorem q1063 : (Jvm.Cond.methodLink "java/lang/String" (1047 : Nat) ({ cls := "java/lang/AbstractStringBuilder", name := "isLatin1", desc := "()Z" } : Jvm.MethodName)) ∈ lw_all := lw_g (lw_at lw_m5 20 rfl) rfl
theorem q1064 : (Jvm.Cond.methodLink "java/lang/String" (54 : Nat) ({ cls := "java/util/Arrays", name := "copyOfRange", desc := "([BII)[B" } : Jvm.MethodName)) ∈ lw_all := lw_g (lw_at lw_m5 21 rfl) rfl
theorem q1073 : (Jvm.Cond.methodLink "java/lang/String" (1051 : Nat) ({ cls := "java/lang/StringUTF16", name := "compress", desc := "([BII)[B" } : Jvm.MethodName)) ∈ lw_all := lw_g (lw_at lw_m5 30 rfl) rfl
theorem q1083 : (Jvm.Cond.methodLink "java/lang/String" (47 : Nat) ({ cls := "java/lang/StringUTF16", name := "coderFromArrayLen", desc := "([BI)B" } : Jvm.MethodName)) ∈ lw_all := lw_g (lw_at lw_m5 40 rfl) rfl
theorem q1086 : (Jvm.Cond.fieldLink "java/lang/String" (9 : Nat) "java/lang/String" "value" "[B") ∈ lw_all := lw_g (lw_at lw_m5 43 rfl) rfl
theorem q1087 : (Jvm.Cond.fieldLink "java/lang/String" (15 : Nat) "java/lang/String" "coder" "B") ∈ lw_all := lw_g (lw_at lw_m5 44 rfl) rfl
theorem q1088 : (Jvm.Cond.laysFinal "java/lang/String" "java/lang/String" "value" "[B") ∈ lw_all := lw_g (lw_at lw_m5 45 rfl) rfl
theorem q1089 : (Jvm.Cond.soleField "java/lang/String" "value") ∈ lw_all := lw_g (lw_at lw_m5 46 rfl) rfl
theorem q1090 : (Jvm.Cond.laysFinal "java/lang/String" "java/lang/String" "coder" "B") ∈ lw_all := lw_g (lw_at lw_m5 47 rfl) rfl
theorem q1091 : (Jvm.Cond.soleField "java/lang/String" "coder") ∈ lw_all := lw_g (lw_at lw_m5 48 rfl) rfl
theorem q1092 : (Jvm.Cond.lays "java/lang/String" "java/lang/String" "hash" "I") ∈ lw_all := lw_g (lw_at lw_m5 49 rfl) rfl
theorem q1093 : (Jvm.Cond.soleField "java/lang/String" "hash") ∈ lw_all := lw_g (lw_at lw_m5 50 rfl) rfl
theorem q1094 : (Jvm.Cond.lays "java/lang/String" "java/lang/String" "hashIsZero" "Z") ∈ lw_all := lw_g (lw_at lw_m5 51 rfl) rfl
theorem q1095 : (Jvm.Cond.soleField "java/lang/String" "hashIsZero") ∈ lw_all := lw_g (lw_at lw_m5 52 rfl) rfl
theorem q1096 : (Jvm.Cond.superclass "java/lang/String" "java/lang/Object") ∈ lw_all := lw_g (lw_at lw_m5 53 rfl) rfl
theorem q3059 : (Jvm.Cond.castable "java/lang/String" "java/lang/Object") ∈ lw_tbl := lw_at lw_m13 96 rfl
theorem in_J21 : ∀ w ∈ wsJ210, w ∈ lw_all := lw_in wsJ210 [1088, 1090, 1092, 1094] (by decide +kernel) (by decide +kernel)

/-! java/lang/StringUTF16 -/
set_option maxRecDepth 100000
def RJ22 : String := "java/lang/StringUTF16"
abbrev cJ22_newBytesFor : ByteArray := prog_53_method_2_code
def yJ22_newBytesFor : MethodName := ⟨RJ22, "newBytesFor", "(I)[B"⟩
def dkwJ22_newBytesFor_0 : List UInt8 := [26, 184, 0, 11, 188, 8, 176]
abbrev dktJ22_newBytesFor_0 : List UInt8 := dkwJ22_newBytesFor_0 ++ []
theorem dksJ22_newBytesFor_0 : cJ22_newBytesFor.data.toList.drop 0 = dktJ22_newBytesFor_0 := by decide +kernel
theorem dJ22_newBytesFor_0 : decode cJ22_newBytesFor 0 = .ok (.iload_n 0, 1) := dk_26 (dk_at dksJ22_newBytesFor_0 0 rfl rfl)
theorem dJ22_newBytesFor_1 : decode cJ22_newBytesFor 1 = .ok (.invokestatic 11, 3) := dk_184 0 11 (dk_at dksJ22_newBytesFor_0 1 rfl rfl)
theorem dJ22_newBytesFor_4 : decode cJ22_newBytesFor 4 = .ok (.newarray .byte, 2) := dk_188_8 (dk_at dksJ22_newBytesFor_0 4 rfl rfl)
theorem dJ22_newBytesFor_6 : decode cJ22_newBytesFor 6 = .ok (.areturn, 1) := dk_176 (dk_at dksJ22_newBytesFor_0 6 rfl rfl)
abbrev cJ22_newBytesLength : ByteArray := prog_53_method_3_code
def yJ22_newBytesLength : MethodName := ⟨RJ22, "newBytesLength", "(I)I"⟩
def dkwJ22_newBytesLength_2 : List UInt8 := [182, 0, 32, 182, 0, 37, 183, 0, 41, 191, 26, 4, 120, 172]
abbrev dktJ22_newBytesLength_2 : List UInt8 := dkwJ22_newBytesLength_2 ++ []
def dkwJ22_newBytesLength_1 : List UInt8 := [187, 0, 23, 89, 183, 0, 25, 18, 26, 182, 0, 28, 26, 182, 0, 32, 18, 35, 182, 0, 28, 18, 20]
abbrev dktJ22_newBytesLength_1 : List UInt8 := dkwJ22_newBytesLength_1 ++ dktJ22_newBytesLength_2
def dkwJ22_newBytesLength_0 : List UInt8 := [26, 156, 0, 11, 187, 0, 17, 89, 183, 0, 19, 191, 26, 18, 20, 161, 0, 40, 187, 0, 21, 89]
abbrev dktJ22_newBytesLength_0 : List UInt8 := dkwJ22_newBytesLength_0 ++ dktJ22_newBytesLength_1
theorem dksJ22_newBytesLength_0 : cJ22_newBytesLength.data.toList.drop 0 = dktJ22_newBytesLength_0 := by decide +kernel
theorem dksJ22_newBytesLength_1 : cJ22_newBytesLength.data.toList.drop 22 = dktJ22_newBytesLength_1 := dk_seg dksJ22_newBytesLength_0 22 rfl rfl
theorem dksJ22_newBytesLength_2 : cJ22_newBytesLength.data.toList.drop 45 = dktJ22_newBytesLength_2 := dk_seg dksJ22_newBytesLength_1 23 rfl rfl
theorem dJ22_newBytesLength_0 : decode cJ22_newBytesLength 0 = .ok (.iload_n 0, 1) := dk_26 (dk_at dksJ22_newBytesLength_0 0 rfl rfl)
theorem dJ22_newBytesLength_1 : decode cJ22_newBytesLength 1 = .ok (.ifCond .ge 11, 3) := dk_156 0 11 (dk_at dksJ22_newBytesLength_0 1 rfl rfl)
theorem dJ22_newBytesLength_4 : decode cJ22_newBytesLength 4 = .ok (.new 17, 3) := dk_187 0 17 (dk_at dksJ22_newBytesLength_0 4 rfl rfl)
theorem dJ22_newBytesLength_7 : decode cJ22_newBytesLength 7 = .ok (.dup, 1) := dk_89 (dk_at dksJ22_newBytesLength_0 7 rfl rfl)
theorem dJ22_newBytesLength_8 : decode cJ22_newBytesLength 8 = .ok (.invokespecial 19, 3) := dk_183 0 19 (dk_at dksJ22_newBytesLength_0 8 rfl rfl)
theorem dJ22_newBytesLength_11 : decode cJ22_newBytesLength 11 = .ok (.athrow, 1) := dk_191 (dk_at dksJ22_newBytesLength_0 11 rfl rfl)
theorem dJ22_newBytesLength_12 : decode cJ22_newBytesLength 12 = .ok (.iload_n 0, 1) := dk_26 (dk_at dksJ22_newBytesLength_0 12 rfl rfl)
theorem dJ22_newBytesLength_13 : decode cJ22_newBytesLength 13 = .ok (.ldc 20, 2) := dk_18 20 (dk_at dksJ22_newBytesLength_0 13 rfl rfl)
theorem dJ22_newBytesLength_15 : decode cJ22_newBytesLength 15 = .ok (.if_icmp .lt 40, 3) := dk_161 0 40 (dk_at dksJ22_newBytesLength_0 15 rfl rfl)
theorem dJ22_newBytesLength_18 : decode cJ22_newBytesLength 18 = .ok (.new 21, 3) := dk_187 0 21 (dk_at dksJ22_newBytesLength_0 18 rfl rfl)
theorem dJ22_newBytesLength_21 : decode cJ22_newBytesLength 21 = .ok (.dup, 1) := dk_89 (dk_at dksJ22_newBytesLength_0 21 rfl rfl)
theorem dJ22_newBytesLength_22 : decode cJ22_newBytesLength 22 = .ok (.new 23, 3) := dk_187 0 23 (dk_at dksJ22_newBytesLength_1 0 rfl rfl)
theorem dJ22_newBytesLength_25 : decode cJ22_newBytesLength 25 = .ok (.dup, 1) := dk_89 (dk_at dksJ22_newBytesLength_1 3 rfl rfl)
theorem dJ22_newBytesLength_26 : decode cJ22_newBytesLength 26 = .ok (.invokespecial 25, 3) := dk_183 0 25 (dk_at dksJ22_newBytesLength_1 4 rfl rfl)
theorem dJ22_newBytesLength_29 : decode cJ22_newBytesLength 29 = .ok (.ldc 26, 2) := dk_18 26 (dk_at dksJ22_newBytesLength_1 7 rfl rfl)
theorem dJ22_newBytesLength_31 : decode cJ22_newBytesLength 31 = .ok (.invokevirtual 28, 3) := dk_182 0 28 (dk_at dksJ22_newBytesLength_1 9 rfl rfl)
theorem dJ22_newBytesLength_34 : decode cJ22_newBytesLength 34 = .ok (.iload_n 0, 1) := dk_26 (dk_at dksJ22_newBytesLength_1 12 rfl rfl)
theorem dJ22_newBytesLength_35 : decode cJ22_newBytesLength 35 = .ok (.invokevirtual 32, 3) := dk_182 0 32 (dk_at dksJ22_newBytesLength_1 13 rfl rfl)
theorem dJ22_newBytesLength_38 : decode cJ22_newBytesLength 38 = .ok (.ldc 35, 2) := dk_18 35 (dk_at dksJ22_newBytesLength_1 16 rfl rfl)
theorem dJ22_newBytesLength_40 : decode cJ22_newBytesLength 40 = .ok (.invokevirtual 28, 3) := dk_182 0 28 (dk_at dksJ22_newBytesLength_1 18 rfl rfl)
theorem dJ22_newBytesLength_43 : decode cJ22_newBytesLength 43 = .ok (.ldc 20, 2) := dk_18 20 (dk_at dksJ22_newBytesLength_1 21 rfl rfl)
theorem dJ22_newBytesLength_45 : decode cJ22_newBytesLength 45 = .ok (.invokevirtual 32, 3) := dk_182 0 32 (dk_at dksJ22_newBytesLength_2 0 rfl rfl)
theorem dJ22_newBytesLength_48 : decode cJ22_newBytesLength 48 = .ok (.invokevirtual 37, 3) := dk_182 0 37 (dk_at dksJ22_newBytesLength_2 3 rfl rfl)
theorem dJ22_newBytesLength_51 : decode cJ22_newBytesLength 51 = .ok (.invokespecial 41, 3) := dk_183 0 41 (dk_at dksJ22_newBytesLength_2 6 rfl rfl)
theorem dJ22_newBytesLength_54 : decode cJ22_newBytesLength 54 = .ok (.athrow, 1) := dk_191 (dk_at dksJ22_newBytesLength_2 9 rfl rfl)
theorem dJ22_newBytesLength_55 : decode cJ22_newBytesLength 55 = .ok (.iload_n 0, 1) := dk_26 (dk_at dksJ22_newBytesLength_2 10 rfl rfl)
theorem dJ22_newBytesLength_56 : decode cJ22_newBytesLength 56 = .ok (.iconst 1, 1) := dk_4 (dk_at dksJ22_newBytesLength_2 11 rfl rfl)
theorem dJ22_newBytesLength_57 : decode cJ22_newBytesLength 57 = .ok (.ishl, 1) := dk_120 (dk_at dksJ22_newBytesLength_2 12 rfl rfl)
theorem dJ22_newBytesLength_58 : decode cJ22_newBytesLength 58 = .ok (.ireturn, 1) := dk_172 (dk_at dksJ22_newBytesLength_2 13 rfl rfl)
abbrev cJ22_putCharsAt : ByteArray := prog_53_method_81_code
def yJ22_putCharsAt : MethodName := ⟨RJ22, "putCharsAt", "([BICCCC)I"⟩
def dkwJ22_putCharsAt_3 : List UInt8 := [21, 6, 172]
abbrev dktJ22_putCharsAt_3 : List UInt8 := dkwJ22_putCharsAt_3 ++ []
def dkwJ22_putCharsAt_2 : List UInt8 := [184, 0, 111, 178, 0, 44, 154, 0, 17, 27, 21, 6, 159, 0, 11, 187, 0, 52, 89, 183, 0, 66, 191]
abbrev dktJ22_putCharsAt_2 : List UInt8 := dkwJ22_putCharsAt_2 ++ dktJ22_putCharsAt_3
def dkwJ22_putCharsAt_1 : List UInt8 := [132, 1, 1, 29, 184, 0, 111, 42, 27, 132, 1, 1, 21, 4, 184, 0, 111, 42, 27, 132, 1, 1, 21, 5]
abbrev dktJ22_putCharsAt_1 : List UInt8 := dkwJ22_putCharsAt_1 ++ dktJ22_putCharsAt_2
def dkwJ22_putCharsAt_0 : List UInt8 := [27, 7, 96, 54, 6, 27, 21, 6, 42, 184, 0, 96, 42, 27, 132, 1, 1, 28, 184, 0, 111, 42, 27]
abbrev dktJ22_putCharsAt_0 : List UInt8 := dkwJ22_putCharsAt_0 ++ dktJ22_putCharsAt_1
theorem dksJ22_putCharsAt_0 : cJ22_putCharsAt.data.toList.drop 0 = dktJ22_putCharsAt_0 := by decide +kernel
theorem dksJ22_putCharsAt_1 : cJ22_putCharsAt.data.toList.drop 23 = dktJ22_putCharsAt_1 := dk_seg dksJ22_putCharsAt_0 23 rfl rfl
theorem dksJ22_putCharsAt_2 : cJ22_putCharsAt.data.toList.drop 47 = dktJ22_putCharsAt_2 := dk_seg dksJ22_putCharsAt_1 24 rfl rfl
theorem dksJ22_putCharsAt_3 : cJ22_putCharsAt.data.toList.drop 70 = dktJ22_putCharsAt_3 := dk_seg dksJ22_putCharsAt_2 23 rfl rfl
theorem dJ22_putCharsAt_0 : decode cJ22_putCharsAt 0 = .ok (.iload_n 1, 1) := dk_27 (dk_at dksJ22_putCharsAt_0 0 rfl rfl)
theorem dJ22_putCharsAt_1 : decode cJ22_putCharsAt 1 = .ok (.iconst 4, 1) := dk_7 (dk_at dksJ22_putCharsAt_0 1 rfl rfl)
theorem dJ22_putCharsAt_2 : decode cJ22_putCharsAt 2 = .ok (.iadd, 1) := dk_96 (dk_at dksJ22_putCharsAt_0 2 rfl rfl)
theorem dJ22_putCharsAt_3 : decode cJ22_putCharsAt 3 = .ok (.istore 6, 2) := dk_54 6 (dk_at dksJ22_putCharsAt_0 3 rfl rfl)
theorem dJ22_putCharsAt_5 : decode cJ22_putCharsAt 5 = .ok (.iload_n 1, 1) := dk_27 (dk_at dksJ22_putCharsAt_0 5 rfl rfl)
theorem dJ22_putCharsAt_6 : decode cJ22_putCharsAt 6 = .ok (.iload 6, 2) := dk_21 6 (dk_at dksJ22_putCharsAt_0 6 rfl rfl)
theorem dJ22_putCharsAt_8 : decode cJ22_putCharsAt 8 = .ok (.aload_n 0, 1) := dk_42 (dk_at dksJ22_putCharsAt_0 8 rfl rfl)
theorem dJ22_putCharsAt_9 : decode cJ22_putCharsAt 9 = .ok (.invokestatic 96, 3) := dk_184 0 96 (dk_at dksJ22_putCharsAt_0 9 rfl rfl)
theorem dJ22_putCharsAt_12 : decode cJ22_putCharsAt 12 = .ok (.aload_n 0, 1) := dk_42 (dk_at dksJ22_putCharsAt_0 12 rfl rfl)
theorem dJ22_putCharsAt_13 : decode cJ22_putCharsAt 13 = .ok (.iload_n 1, 1) := dk_27 (dk_at dksJ22_putCharsAt_0 13 rfl rfl)
theorem dJ22_putCharsAt_14 : decode cJ22_putCharsAt 14 = .ok (.iinc 1 1, 3) := dk_132 1 1 (dk_at dksJ22_putCharsAt_0 14 rfl rfl)
theorem dJ22_putCharsAt_17 : decode cJ22_putCharsAt 17 = .ok (.iload_n 2, 1) := dk_28 (dk_at dksJ22_putCharsAt_0 17 rfl rfl)
theorem dJ22_putCharsAt_18 : decode cJ22_putCharsAt 18 = .ok (.invokestatic 111, 3) := dk_184 0 111 (dk_at dksJ22_putCharsAt_0 18 rfl rfl)
theorem dJ22_putCharsAt_21 : decode cJ22_putCharsAt 21 = .ok (.aload_n 0, 1) := dk_42 (dk_at dksJ22_putCharsAt_0 21 rfl rfl)
theorem dJ22_putCharsAt_22 : decode cJ22_putCharsAt 22 = .ok (.iload_n 1, 1) := dk_27 (dk_at dksJ22_putCharsAt_0 22 rfl rfl)
theorem dJ22_putCharsAt_23 : decode cJ22_putCharsAt 23 = .ok (.iinc 1 1, 3) := dk_132 1 1 (dk_at dksJ22_putCharsAt_1 0 rfl rfl)
theorem dJ22_putCharsAt_26 : decode cJ22_putCharsAt 26 = .ok (.iload_n 3, 1) := dk_29 (dk_at dksJ22_putCharsAt_1 3 rfl rfl)
theorem dJ22_putCharsAt_27 : decode cJ22_putCharsAt 27 = .ok (.invokestatic 111, 3) := dk_184 0 111 (dk_at dksJ22_putCharsAt_1 4 rfl rfl)
theorem dJ22_putCharsAt_30 : decode cJ22_putCharsAt 30 = .ok (.aload_n 0, 1) := dk_42 (dk_at dksJ22_putCharsAt_1 7 rfl rfl)
theorem dJ22_putCharsAt_31 : decode cJ22_putCharsAt 31 = .ok (.iload_n 1, 1) := dk_27 (dk_at dksJ22_putCharsAt_1 8 rfl rfl)
theorem dJ22_putCharsAt_32 : decode cJ22_putCharsAt 32 = .ok (.iinc 1 1, 3) := dk_132 1 1 (dk_at dksJ22_putCharsAt_1 9 rfl rfl)
theorem dJ22_putCharsAt_35 : decode cJ22_putCharsAt 35 = .ok (.iload 4, 2) := dk_21 4 (dk_at dksJ22_putCharsAt_1 12 rfl rfl)
theorem dJ22_putCharsAt_37 : decode cJ22_putCharsAt 37 = .ok (.invokestatic 111, 3) := dk_184 0 111 (dk_at dksJ22_putCharsAt_1 14 rfl rfl)
theorem dJ22_putCharsAt_40 : decode cJ22_putCharsAt 40 = .ok (.aload_n 0, 1) := dk_42 (dk_at dksJ22_putCharsAt_1 17 rfl rfl)
theorem dJ22_putCharsAt_41 : decode cJ22_putCharsAt 41 = .ok (.iload_n 1, 1) := dk_27 (dk_at dksJ22_putCharsAt_1 18 rfl rfl)
theorem dJ22_putCharsAt_42 : decode cJ22_putCharsAt 42 = .ok (.iinc 1 1, 3) := dk_132 1 1 (dk_at dksJ22_putCharsAt_1 19 rfl rfl)
theorem dJ22_putCharsAt_45 : decode cJ22_putCharsAt 45 = .ok (.iload 5, 2) := dk_21 5 (dk_at dksJ22_putCharsAt_1 22 rfl rfl)
theorem dJ22_putCharsAt_47 : decode cJ22_putCharsAt 47 = .ok (.invokestatic 111, 3) := dk_184 0 111 (dk_at dksJ22_putCharsAt_2 0 rfl rfl)
theorem dJ22_putCharsAt_50 : decode cJ22_putCharsAt 50 = .ok (.getstatic 44, 3) := dk_178 0 44 (dk_at dksJ22_putCharsAt_2 3 rfl rfl)
theorem dJ22_putCharsAt_53 : decode cJ22_putCharsAt 53 = .ok (.ifCond .ne 17, 3) := dk_154 0 17 (dk_at dksJ22_putCharsAt_2 6 rfl rfl)
theorem dJ22_putCharsAt_56 : decode cJ22_putCharsAt 56 = .ok (.iload_n 1, 1) := dk_27 (dk_at dksJ22_putCharsAt_2 9 rfl rfl)
theorem dJ22_putCharsAt_57 : decode cJ22_putCharsAt 57 = .ok (.iload 6, 2) := dk_21 6 (dk_at dksJ22_putCharsAt_2 10 rfl rfl)
theorem dJ22_putCharsAt_59 : decode cJ22_putCharsAt 59 = .ok (.if_icmp .eq 11, 3) := dk_159 0 11 (dk_at dksJ22_putCharsAt_2 12 rfl rfl)
theorem dJ22_putCharsAt_62 : decode cJ22_putCharsAt 62 = .ok (.new 52, 3) := dk_187 0 52 (dk_at dksJ22_putCharsAt_2 15 rfl rfl)
theorem dJ22_putCharsAt_65 : decode cJ22_putCharsAt 65 = .ok (.dup, 1) := dk_89 (dk_at dksJ22_putCharsAt_2 18 rfl rfl)
theorem dJ22_putCharsAt_66 : decode cJ22_putCharsAt 66 = .ok (.invokespecial 66, 3) := dk_183 0 66 (dk_at dksJ22_putCharsAt_2 19 rfl rfl)
theorem dJ22_putCharsAt_69 : decode cJ22_putCharsAt 69 = .ok (.athrow, 1) := dk_191 (dk_at dksJ22_putCharsAt_2 22 rfl rfl)
theorem dJ22_putCharsAt_70 : decode cJ22_putCharsAt 70 = .ok (.iload 6, 2) := dk_21 6 (dk_at dksJ22_putCharsAt_3 0 rfl rfl)
theorem dJ22_putCharsAt_72 : decode cJ22_putCharsAt 72 = .ok (.ireturn, 1) := dk_172 (dk_at dksJ22_putCharsAt_3 2 rfl rfl)
abbrev cJ22_checkBoundsBeginEnd : ByteArray := prog_53_method_93_code
def yJ22_checkBoundsBeginEnd : MethodName := ⟨RJ22, "checkBoundsBeginEnd", "(II[B)V"⟩
def dkwJ22_checkBoundsBeginEnd_0 : List UInt8 := [26, 27, 44, 184, 0, 48, 184, 0, 241, 177]
abbrev dktJ22_checkBoundsBeginEnd_0 : List UInt8 := dkwJ22_checkBoundsBeginEnd_0 ++ []
theorem dksJ22_checkBoundsBeginEnd_0 : cJ22_checkBoundsBeginEnd.data.toList.drop 0 = dktJ22_checkBoundsBeginEnd_0 := by decide +kernel
theorem dJ22_checkBoundsBeginEnd_0 : decode cJ22_checkBoundsBeginEnd 0 = .ok (.iload_n 0, 1) := dk_26 (dk_at dksJ22_checkBoundsBeginEnd_0 0 rfl rfl)
theorem dJ22_checkBoundsBeginEnd_1 : decode cJ22_checkBoundsBeginEnd 1 = .ok (.iload_n 1, 1) := dk_27 (dk_at dksJ22_checkBoundsBeginEnd_0 1 rfl rfl)
theorem dJ22_checkBoundsBeginEnd_2 : decode cJ22_checkBoundsBeginEnd 2 = .ok (.aload_n 2, 1) := dk_44 (dk_at dksJ22_checkBoundsBeginEnd_0 2 rfl rfl)
theorem dJ22_checkBoundsBeginEnd_3 : decode cJ22_checkBoundsBeginEnd 3 = .ok (.invokestatic 48, 3) := dk_184 0 48 (dk_at dksJ22_checkBoundsBeginEnd_0 3 rfl rfl)
theorem dJ22_checkBoundsBeginEnd_6 : decode cJ22_checkBoundsBeginEnd 6 = .ok (.invokestatic 241, 3) := dk_184 0 241 (dk_at dksJ22_checkBoundsBeginEnd_0 6 rfl rfl)
theorem dJ22_checkBoundsBeginEnd_9 : decode cJ22_checkBoundsBeginEnd 9 = .ok (.return_, 1) := dk_177 (dk_at dksJ22_checkBoundsBeginEnd_0 9 rfl rfl)
abbrev cJ22_length : ByteArray := prog_53_method_6_code
def yJ22_length : MethodName := ⟨RJ22, "length", "([B)I"⟩
def dkwJ22_length_0 : List UInt8 := [42, 190, 4, 122, 172]
abbrev dktJ22_length_0 : List UInt8 := dkwJ22_length_0 ++ []
theorem dksJ22_length_0 : cJ22_length.data.toList.drop 0 = dktJ22_length_0 := by decide +kernel
theorem dJ22_length_0 : decode cJ22_length 0 = .ok (.aload_n 0, 1) := dk_42 (dk_at dksJ22_length_0 0 rfl rfl)
theorem dJ22_length_1 : decode cJ22_length 1 = .ok (.arraylength, 1) := dk_190 (dk_at dksJ22_length_0 1 rfl rfl)
theorem dJ22_length_2 : decode cJ22_length 2 = .ok (.iconst 1, 1) := dk_4 (dk_at dksJ22_length_0 2 rfl rfl)
theorem dJ22_length_3 : decode cJ22_length 3 = .ok (.ishr, 1) := dk_122 (dk_at dksJ22_length_0 3 rfl rfl)
theorem dJ22_length_4 : decode cJ22_length 4 = .ok (.ireturn, 1) := dk_172 (dk_at dksJ22_length_0 4 rfl rfl)
abbrev cJ22_putChar : ByteArray := prog_53_method_4_code
def yJ22_putChar : MethodName := ⟨RJ22, "putChar", "([BII)V"⟩
def dkwJ22_putChar_2 : List UInt8 := [178, 0, 63, 122, 145, 84, 177]
abbrev dktJ22_putChar_2 : List UInt8 := dkwJ22_putChar_2 ++ []
def dkwJ22_putChar_1 : List UInt8 := [183, 0, 56, 191, 27, 4, 120, 60, 42, 27, 132, 1, 1, 28, 178, 0, 59, 122, 145, 84, 42, 27, 28]
abbrev dktJ22_putChar_1 : List UInt8 := dkwJ22_putChar_1 ++ dktJ22_putChar_2
def dkwJ22_putChar_0 : List UInt8 := [178, 0, 44, 154, 0, 25, 27, 155, 0, 11, 27, 42, 184, 0, 48, 161, 0, 13, 187, 0, 52, 89, 18, 54]
abbrev dktJ22_putChar_0 : List UInt8 := dkwJ22_putChar_0 ++ dktJ22_putChar_1
theorem dksJ22_putChar_0 : cJ22_putChar.data.toList.drop 0 = dktJ22_putChar_0 := by decide +kernel
theorem dksJ22_putChar_1 : cJ22_putChar.data.toList.drop 24 = dktJ22_putChar_1 := dk_seg dksJ22_putChar_0 24 rfl rfl
theorem dksJ22_putChar_2 : cJ22_putChar.data.toList.drop 47 = dktJ22_putChar_2 := dk_seg dksJ22_putChar_1 23 rfl rfl
theorem dJ22_putChar_0 : decode cJ22_putChar 0 = .ok (.getstatic 44, 3) := dk_178 0 44 (dk_at dksJ22_putChar_0 0 rfl rfl)
theorem dJ22_putChar_3 : decode cJ22_putChar 3 = .ok (.ifCond .ne 25, 3) := dk_154 0 25 (dk_at dksJ22_putChar_0 3 rfl rfl)
theorem dJ22_putChar_6 : decode cJ22_putChar 6 = .ok (.iload_n 1, 1) := dk_27 (dk_at dksJ22_putChar_0 6 rfl rfl)
theorem dJ22_putChar_7 : decode cJ22_putChar 7 = .ok (.ifCond .lt 11, 3) := dk_155 0 11 (dk_at dksJ22_putChar_0 7 rfl rfl)
theorem dJ22_putChar_10 : decode cJ22_putChar 10 = .ok (.iload_n 1, 1) := dk_27 (dk_at dksJ22_putChar_0 10 rfl rfl)
theorem dJ22_putChar_11 : decode cJ22_putChar 11 = .ok (.aload_n 0, 1) := dk_42 (dk_at dksJ22_putChar_0 11 rfl rfl)
theorem dJ22_putChar_12 : decode cJ22_putChar 12 = .ok (.invokestatic 48, 3) := dk_184 0 48 (dk_at dksJ22_putChar_0 12 rfl rfl)
theorem dJ22_putChar_15 : decode cJ22_putChar 15 = .ok (.if_icmp .lt 13, 3) := dk_161 0 13 (dk_at dksJ22_putChar_0 15 rfl rfl)
theorem dJ22_putChar_18 : decode cJ22_putChar 18 = .ok (.new 52, 3) := dk_187 0 52 (dk_at dksJ22_putChar_0 18 rfl rfl)
theorem dJ22_putChar_21 : decode cJ22_putChar 21 = .ok (.dup, 1) := dk_89 (dk_at dksJ22_putChar_0 21 rfl rfl)
theorem dJ22_putChar_22 : decode cJ22_putChar 22 = .ok (.ldc 54, 2) := dk_18 54 (dk_at dksJ22_putChar_0 22 rfl rfl)
theorem dJ22_putChar_24 : decode cJ22_putChar 24 = .ok (.invokespecial 56, 3) := dk_183 0 56 (dk_at dksJ22_putChar_1 0 rfl rfl)
theorem dJ22_putChar_27 : decode cJ22_putChar 27 = .ok (.athrow, 1) := dk_191 (dk_at dksJ22_putChar_1 3 rfl rfl)
theorem dJ22_putChar_28 : decode cJ22_putChar 28 = .ok (.iload_n 1, 1) := dk_27 (dk_at dksJ22_putChar_1 4 rfl rfl)
theorem dJ22_putChar_29 : decode cJ22_putChar 29 = .ok (.iconst 1, 1) := dk_4 (dk_at dksJ22_putChar_1 5 rfl rfl)
theorem dJ22_putChar_30 : decode cJ22_putChar 30 = .ok (.ishl, 1) := dk_120 (dk_at dksJ22_putChar_1 6 rfl rfl)
theorem dJ22_putChar_31 : decode cJ22_putChar 31 = .ok (.istore_n 1, 1) := dk_60 (dk_at dksJ22_putChar_1 7 rfl rfl)
theorem dJ22_putChar_32 : decode cJ22_putChar 32 = .ok (.aload_n 0, 1) := dk_42 (dk_at dksJ22_putChar_1 8 rfl rfl)
theorem dJ22_putChar_33 : decode cJ22_putChar 33 = .ok (.iload_n 1, 1) := dk_27 (dk_at dksJ22_putChar_1 9 rfl rfl)
theorem dJ22_putChar_34 : decode cJ22_putChar 34 = .ok (.iinc 1 1, 3) := dk_132 1 1 (dk_at dksJ22_putChar_1 10 rfl rfl)
theorem dJ22_putChar_37 : decode cJ22_putChar 37 = .ok (.iload_n 2, 1) := dk_28 (dk_at dksJ22_putChar_1 13 rfl rfl)
theorem dJ22_putChar_38 : decode cJ22_putChar 38 = .ok (.getstatic 59, 3) := dk_178 0 59 (dk_at dksJ22_putChar_1 14 rfl rfl)
theorem dJ22_putChar_41 : decode cJ22_putChar 41 = .ok (.ishr, 1) := dk_122 (dk_at dksJ22_putChar_1 17 rfl rfl)
theorem dJ22_putChar_42 : decode cJ22_putChar 42 = .ok (.i2b, 1) := dk_145 (dk_at dksJ22_putChar_1 18 rfl rfl)
theorem dJ22_putChar_43 : decode cJ22_putChar 43 = .ok (.bastore, 1) := dk_84 (dk_at dksJ22_putChar_1 19 rfl rfl)
theorem dJ22_putChar_44 : decode cJ22_putChar 44 = .ok (.aload_n 0, 1) := dk_42 (dk_at dksJ22_putChar_1 20 rfl rfl)
theorem dJ22_putChar_45 : decode cJ22_putChar 45 = .ok (.iload_n 1, 1) := dk_27 (dk_at dksJ22_putChar_1 21 rfl rfl)
theorem dJ22_putChar_46 : decode cJ22_putChar 46 = .ok (.iload_n 2, 1) := dk_28 (dk_at dksJ22_putChar_1 22 rfl rfl)
theorem dJ22_putChar_47 : decode cJ22_putChar 47 = .ok (.getstatic 63, 3) := dk_178 0 63 (dk_at dksJ22_putChar_2 0 rfl rfl)
theorem dJ22_putChar_50 : decode cJ22_putChar 50 = .ok (.ishr, 1) := dk_122 (dk_at dksJ22_putChar_2 3 rfl rfl)
theorem dJ22_putChar_51 : decode cJ22_putChar 51 = .ok (.i2b, 1) := dk_145 (dk_at dksJ22_putChar_2 4 rfl rfl)
theorem dJ22_putChar_52 : decode cJ22_putChar 52 = .ok (.bastore, 1) := dk_84 (dk_at dksJ22_putChar_2 5 rfl rfl)
theorem dJ22_putChar_53 : decode cJ22_putChar 53 = .ok (.return_, 1) := dk_177 (dk_at dksJ22_putChar_2 6 rfl rfl)
abbrev cJ22_inflate : ByteArray := prog_53_method_86_code
def yJ22_inflate : MethodName := ⟨RJ22, "inflate", "([BI[BII)V"⟩
def dkwJ22_inflate_1 : List UInt8 := [132, 1, 1, 51, 17, 0, 255, 126, 184, 0, 111, 132, 5, 1, 167, 255, 228, 177]
abbrev dktJ22_inflate_1 : List UInt8 := dkwJ22_inflate_1 ++ []
def dkwJ22_inflate_0 : List UInt8 := [29, 21, 4, 44, 184, 0, 173, 3, 54, 5, 21, 5, 21, 4, 162, 0, 27, 44, 29, 132, 3, 1, 42, 27]
abbrev dktJ22_inflate_0 : List UInt8 := dkwJ22_inflate_0 ++ dktJ22_inflate_1
theorem dksJ22_inflate_0 : cJ22_inflate.data.toList.drop 0 = dktJ22_inflate_0 := by decide +kernel
theorem dksJ22_inflate_1 : cJ22_inflate.data.toList.drop 24 = dktJ22_inflate_1 := dk_seg dksJ22_inflate_0 24 rfl rfl
theorem dJ22_inflate_0 : decode cJ22_inflate 0 = .ok (.iload_n 3, 1) := dk_29 (dk_at dksJ22_inflate_0 0 rfl rfl)
theorem dJ22_inflate_1 : decode cJ22_inflate 1 = .ok (.iload 4, 2) := dk_21 4 (dk_at dksJ22_inflate_0 1 rfl rfl)
theorem dJ22_inflate_3 : decode cJ22_inflate 3 = .ok (.aload_n 2, 1) := dk_44 (dk_at dksJ22_inflate_0 3 rfl rfl)
theorem dJ22_inflate_4 : decode cJ22_inflate 4 = .ok (.invokestatic 173, 3) := dk_184 0 173 (dk_at dksJ22_inflate_0 4 rfl rfl)
theorem dJ22_inflate_7 : decode cJ22_inflate 7 = .ok (.iconst 0, 1) := dk_3 (dk_at dksJ22_inflate_0 7 rfl rfl)
theorem dJ22_inflate_8 : decode cJ22_inflate 8 = .ok (.istore 5, 2) := dk_54 5 (dk_at dksJ22_inflate_0 8 rfl rfl)
theorem dJ22_inflate_10 : decode cJ22_inflate 10 = .ok (.iload 5, 2) := dk_21 5 (dk_at dksJ22_inflate_0 10 rfl rfl)
theorem dJ22_inflate_12 : decode cJ22_inflate 12 = .ok (.iload 4, 2) := dk_21 4 (dk_at dksJ22_inflate_0 12 rfl rfl)
theorem dJ22_inflate_14 : decode cJ22_inflate 14 = .ok (.if_icmp .ge 27, 3) := dk_162 0 27 (dk_at dksJ22_inflate_0 14 rfl rfl)
theorem dJ22_inflate_17 : decode cJ22_inflate 17 = .ok (.aload_n 2, 1) := dk_44 (dk_at dksJ22_inflate_0 17 rfl rfl)
theorem dJ22_inflate_18 : decode cJ22_inflate 18 = .ok (.iload_n 3, 1) := dk_29 (dk_at dksJ22_inflate_0 18 rfl rfl)
theorem dJ22_inflate_19 : decode cJ22_inflate 19 = .ok (.iinc 3 1, 3) := dk_132 3 1 (dk_at dksJ22_inflate_0 19 rfl rfl)
theorem dJ22_inflate_22 : decode cJ22_inflate 22 = .ok (.aload_n 0, 1) := dk_42 (dk_at dksJ22_inflate_0 22 rfl rfl)
theorem dJ22_inflate_23 : decode cJ22_inflate 23 = .ok (.iload_n 1, 1) := dk_27 (dk_at dksJ22_inflate_0 23 rfl rfl)
theorem dJ22_inflate_24 : decode cJ22_inflate 24 = .ok (.iinc 1 1, 3) := dk_132 1 1 (dk_at dksJ22_inflate_1 0 rfl rfl)
theorem dJ22_inflate_27 : decode cJ22_inflate 27 = .ok (.baload, 1) := dk_51 (dk_at dksJ22_inflate_1 3 rfl rfl)
theorem dJ22_inflate_28 : decode cJ22_inflate 28 = .ok (.sipush 255, 3) := dk_17 0 255 (dk_at dksJ22_inflate_1 4 rfl rfl)
theorem dJ22_inflate_31 : decode cJ22_inflate 31 = .ok (.iand, 1) := dk_126 (dk_at dksJ22_inflate_1 7 rfl rfl)
theorem dJ22_inflate_32 : decode cJ22_inflate 32 = .ok (.invokestatic 111, 3) := dk_184 0 111 (dk_at dksJ22_inflate_1 8 rfl rfl)
theorem dJ22_inflate_35 : decode cJ22_inflate 35 = .ok (.iinc 5 1, 3) := dk_132 5 1 (dk_at dksJ22_inflate_1 11 rfl rfl)
theorem dJ22_inflate_38 : decode cJ22_inflate 38 = .ok (.goto (-28), 3) := dk_167 255 228 (dk_at dksJ22_inflate_1 14 rfl rfl)
theorem dJ22_inflate_41 : decode cJ22_inflate 41 = .ok (.return_, 1) := dk_177 (dk_at dksJ22_inflate_1 17 rfl rfl)
abbrev cJ22_checkBoundsOffCount : ByteArray := prog_53_method_94_code
def yJ22_checkBoundsOffCount : MethodName := ⟨RJ22, "checkBoundsOffCount", "(II[B)V"⟩
def dkwJ22_checkBoundsOffCount_0 : List UInt8 := [26, 27, 44, 184, 0, 48, 184, 1, 163, 87, 177]
abbrev dktJ22_checkBoundsOffCount_0 : List UInt8 := dkwJ22_checkBoundsOffCount_0 ++ []
theorem dksJ22_checkBoundsOffCount_0 : cJ22_checkBoundsOffCount.data.toList.drop 0 = dktJ22_checkBoundsOffCount_0 := by decide +kernel
theorem dJ22_checkBoundsOffCount_0 : decode cJ22_checkBoundsOffCount 0 = .ok (.iload_n 0, 1) := dk_26 (dk_at dksJ22_checkBoundsOffCount_0 0 rfl rfl)
theorem dJ22_checkBoundsOffCount_1 : decode cJ22_checkBoundsOffCount 1 = .ok (.iload_n 1, 1) := dk_27 (dk_at dksJ22_checkBoundsOffCount_0 1 rfl rfl)
theorem dJ22_checkBoundsOffCount_2 : decode cJ22_checkBoundsOffCount 2 = .ok (.aload_n 2, 1) := dk_44 (dk_at dksJ22_checkBoundsOffCount_0 2 rfl rfl)
theorem dJ22_checkBoundsOffCount_3 : decode cJ22_checkBoundsOffCount 3 = .ok (.invokestatic 48, 3) := dk_184 0 48 (dk_at dksJ22_checkBoundsOffCount_0 3 rfl rfl)
theorem dJ22_checkBoundsOffCount_6 : decode cJ22_checkBoundsOffCount 6 = .ok (.invokestatic 419, 3) := dk_184 1 163 (dk_at dksJ22_checkBoundsOffCount_0 6 rfl rfl)
theorem dJ22_checkBoundsOffCount_9 : decode cJ22_checkBoundsOffCount 9 = .ok (.pop, 1) := dk_87 (dk_at dksJ22_checkBoundsOffCount_0 9 rfl rfl)
theorem dJ22_checkBoundsOffCount_10 : decode cJ22_checkBoundsOffCount 10 = .ok (.return_, 1) := dk_177 (dk_at dksJ22_checkBoundsOffCount_0 10 rfl rfl)
abbrev cJ22_compress : ByteArray := prog_53_method_17_code
def yJ22_compress : MethodName := ⟨RJ22, "compress", "([BII)[B"⟩
def dkwJ22_compress_2 : List UInt8 := [25, 5, 3, 45, 3, 28, 184, 0, 123, 28, 159, 0, 6, 25, 5, 176, 45, 176]
abbrev dktJ22_compress_2 : List UInt8 := dkwJ22_compress_2 ++ []
def dkwJ22_compress_1 : List UInt8 := [27, 28, 96, 184, 0, 11, 184, 0, 126, 58, 5, 25, 5, 21, 4, 184, 0, 71, 17, 0, 255, 163, 0, 16]
abbrev dktJ22_compress_1 : List UInt8 := dkwJ22_compress_1 ++ dktJ22_compress_2
def dkwJ22_compress_0 : List UInt8 := [28, 188, 8, 78, 42, 27, 45, 3, 28, 184, 0, 123, 54, 4, 21, 4, 28, 159, 0, 47, 42, 27, 4, 120]
abbrev dktJ22_compress_0 : List UInt8 := dkwJ22_compress_0 ++ dktJ22_compress_1
theorem dksJ22_compress_0 : cJ22_compress.data.toList.drop 0 = dktJ22_compress_0 := by decide +kernel
theorem dksJ22_compress_1 : cJ22_compress.data.toList.drop 24 = dktJ22_compress_1 := dk_seg dksJ22_compress_0 24 rfl rfl
theorem dksJ22_compress_2 : cJ22_compress.data.toList.drop 48 = dktJ22_compress_2 := dk_seg dksJ22_compress_1 24 rfl rfl
theorem dJ22_compress_0 : decode cJ22_compress 0 = .ok (.iload_n 2, 1) := dk_28 (dk_at dksJ22_compress_0 0 rfl rfl)
theorem dJ22_compress_1 : decode cJ22_compress 1 = .ok (.newarray .byte, 2) := dk_188_8 (dk_at dksJ22_compress_0 1 rfl rfl)
theorem dJ22_compress_3 : decode cJ22_compress 3 = .ok (.astore_n 3, 1) := dk_78 (dk_at dksJ22_compress_0 3 rfl rfl)
theorem dJ22_compress_4 : decode cJ22_compress 4 = .ok (.aload_n 0, 1) := dk_42 (dk_at dksJ22_compress_0 4 rfl rfl)
theorem dJ22_compress_5 : decode cJ22_compress 5 = .ok (.iload_n 1, 1) := dk_27 (dk_at dksJ22_compress_0 5 rfl rfl)
theorem dJ22_compress_6 : decode cJ22_compress 6 = .ok (.aload_n 3, 1) := dk_45 (dk_at dksJ22_compress_0 6 rfl rfl)
theorem dJ22_compress_7 : decode cJ22_compress 7 = .ok (.iconst 0, 1) := dk_3 (dk_at dksJ22_compress_0 7 rfl rfl)
theorem dJ22_compress_8 : decode cJ22_compress 8 = .ok (.iload_n 2, 1) := dk_28 (dk_at dksJ22_compress_0 8 rfl rfl)
theorem dJ22_compress_9 : decode cJ22_compress 9 = .ok (.invokestatic 123, 3) := dk_184 0 123 (dk_at dksJ22_compress_0 9 rfl rfl)
theorem dJ22_compress_12 : decode cJ22_compress 12 = .ok (.istore 4, 2) := dk_54 4 (dk_at dksJ22_compress_0 12 rfl rfl)
theorem dJ22_compress_14 : decode cJ22_compress 14 = .ok (.iload 4, 2) := dk_21 4 (dk_at dksJ22_compress_0 14 rfl rfl)
theorem dJ22_compress_16 : decode cJ22_compress 16 = .ok (.iload_n 2, 1) := dk_28 (dk_at dksJ22_compress_0 16 rfl rfl)
theorem dJ22_compress_17 : decode cJ22_compress 17 = .ok (.if_icmp .eq 47, 3) := dk_159 0 47 (dk_at dksJ22_compress_0 17 rfl rfl)
theorem dJ22_compress_20 : decode cJ22_compress 20 = .ok (.aload_n 0, 1) := dk_42 (dk_at dksJ22_compress_0 20 rfl rfl)
theorem dJ22_compress_21 : decode cJ22_compress 21 = .ok (.iload_n 1, 1) := dk_27 (dk_at dksJ22_compress_0 21 rfl rfl)
theorem dJ22_compress_22 : decode cJ22_compress 22 = .ok (.iconst 1, 1) := dk_4 (dk_at dksJ22_compress_0 22 rfl rfl)
theorem dJ22_compress_23 : decode cJ22_compress 23 = .ok (.ishl, 1) := dk_120 (dk_at dksJ22_compress_0 23 rfl rfl)
theorem dJ22_compress_24 : decode cJ22_compress 24 = .ok (.iload_n 1, 1) := dk_27 (dk_at dksJ22_compress_1 0 rfl rfl)
theorem dJ22_compress_25 : decode cJ22_compress 25 = .ok (.iload_n 2, 1) := dk_28 (dk_at dksJ22_compress_1 1 rfl rfl)
theorem dJ22_compress_26 : decode cJ22_compress 26 = .ok (.iadd, 1) := dk_96 (dk_at dksJ22_compress_1 2 rfl rfl)
theorem dJ22_compress_27 : decode cJ22_compress 27 = .ok (.invokestatic 11, 3) := dk_184 0 11 (dk_at dksJ22_compress_1 3 rfl rfl)
theorem dJ22_compress_30 : decode cJ22_compress 30 = .ok (.invokestatic 126, 3) := dk_184 0 126 (dk_at dksJ22_compress_1 6 rfl rfl)
theorem dJ22_compress_33 : decode cJ22_compress 33 = .ok (.astore 5, 2) := dk_58 5 (dk_at dksJ22_compress_1 9 rfl rfl)
theorem dJ22_compress_35 : decode cJ22_compress 35 = .ok (.aload 5, 2) := dk_25 5 (dk_at dksJ22_compress_1 11 rfl rfl)
theorem dJ22_compress_37 : decode cJ22_compress 37 = .ok (.iload 4, 2) := dk_21 4 (dk_at dksJ22_compress_1 13 rfl rfl)
theorem dJ22_compress_39 : decode cJ22_compress 39 = .ok (.invokestatic 71, 3) := dk_184 0 71 (dk_at dksJ22_compress_1 15 rfl rfl)
theorem dJ22_compress_42 : decode cJ22_compress 42 = .ok (.sipush 255, 3) := dk_17 0 255 (dk_at dksJ22_compress_1 18 rfl rfl)
theorem dJ22_compress_45 : decode cJ22_compress 45 = .ok (.if_icmp .gt 16, 3) := dk_163 0 16 (dk_at dksJ22_compress_1 21 rfl rfl)
theorem dJ22_compress_48 : decode cJ22_compress 48 = .ok (.aload 5, 2) := dk_25 5 (dk_at dksJ22_compress_2 0 rfl rfl)
theorem dJ22_compress_50 : decode cJ22_compress 50 = .ok (.iconst 0, 1) := dk_3 (dk_at dksJ22_compress_2 2 rfl rfl)
theorem dJ22_compress_51 : decode cJ22_compress 51 = .ok (.aload_n 3, 1) := dk_45 (dk_at dksJ22_compress_2 3 rfl rfl)
theorem dJ22_compress_52 : decode cJ22_compress 52 = .ok (.iconst 0, 1) := dk_3 (dk_at dksJ22_compress_2 4 rfl rfl)
theorem dJ22_compress_53 : decode cJ22_compress 53 = .ok (.iload_n 2, 1) := dk_28 (dk_at dksJ22_compress_2 5 rfl rfl)
theorem dJ22_compress_54 : decode cJ22_compress 54 = .ok (.invokestatic 123, 3) := dk_184 0 123 (dk_at dksJ22_compress_2 6 rfl rfl)
theorem dJ22_compress_57 : decode cJ22_compress 57 = .ok (.iload_n 2, 1) := dk_28 (dk_at dksJ22_compress_2 9 rfl rfl)
theorem dJ22_compress_58 : decode cJ22_compress 58 = .ok (.if_icmp .eq 6, 3) := dk_159 0 6 (dk_at dksJ22_compress_2 10 rfl rfl)
theorem dJ22_compress_61 : decode cJ22_compress 61 = .ok (.aload 5, 2) := dk_25 5 (dk_at dksJ22_compress_2 13 rfl rfl)
theorem dJ22_compress_63 : decode cJ22_compress 63 = .ok (.areturn, 1) := dk_176 (dk_at dksJ22_compress_2 15 rfl rfl)
theorem dJ22_compress_64 : decode cJ22_compress 64 = .ok (.aload_n 3, 1) := dk_45 (dk_at dksJ22_compress_2 16 rfl rfl)
theorem dJ22_compress_65 : decode cJ22_compress 65 = .ok (.areturn, 1) := dk_176 (dk_at dksJ22_compress_2 17 rfl rfl)
abbrev cJ22_compress_2 : ByteArray := prog_53_method_22_code
def yJ22_compress_2 : MethodName := ⟨RJ22, "compress", "([BI[BII)I"⟩
def dkwJ22_compress_2_2 : List UInt8 := [132, 5, 1, 167, 255, 216, 21, 4, 172]
abbrev dktJ22_compress_2_2 : List UInt8 := dkwJ22_compress_2_2 ++ []
def dkwJ22_compress_2_1 : List UInt8 := [21, 6, 17, 0, 255, 164, 0, 6, 21, 5, 172, 44, 29, 21, 6, 145, 84, 132, 1, 1, 132, 3, 1]
abbrev dktJ22_compress_2_1 : List UInt8 := dkwJ22_compress_2_1 ++ dktJ22_compress_2_2
def dkwJ22_compress_2_0 : List UInt8 := [27, 21, 4, 42, 184, 0, 173, 3, 54, 5, 21, 5, 21, 4, 162, 0, 39, 42, 27, 184, 0, 71, 54, 6]
abbrev dktJ22_compress_2_0 : List UInt8 := dkwJ22_compress_2_0 ++ dktJ22_compress_2_1
theorem dksJ22_compress_2_0 : cJ22_compress_2.data.toList.drop 0 = dktJ22_compress_2_0 := by decide +kernel
theorem dksJ22_compress_2_1 : cJ22_compress_2.data.toList.drop 24 = dktJ22_compress_2_1 := dk_seg dksJ22_compress_2_0 24 rfl rfl
theorem dksJ22_compress_2_2 : cJ22_compress_2.data.toList.drop 47 = dktJ22_compress_2_2 := dk_seg dksJ22_compress_2_1 23 rfl rfl
theorem dJ22_compress_2_0 : decode cJ22_compress_2 0 = .ok (.iload_n 1, 1) := dk_27 (dk_at dksJ22_compress_2_0 0 rfl rfl)
theorem dJ22_compress_2_1 : decode cJ22_compress_2 1 = .ok (.iload 4, 2) := dk_21 4 (dk_at dksJ22_compress_2_0 1 rfl rfl)
theorem dJ22_compress_2_3 : decode cJ22_compress_2 3 = .ok (.aload_n 0, 1) := dk_42 (dk_at dksJ22_compress_2_0 3 rfl rfl)
theorem dJ22_compress_2_4 : decode cJ22_compress_2 4 = .ok (.invokestatic 173, 3) := dk_184 0 173 (dk_at dksJ22_compress_2_0 4 rfl rfl)
theorem dJ22_compress_2_7 : decode cJ22_compress_2 7 = .ok (.iconst 0, 1) := dk_3 (dk_at dksJ22_compress_2_0 7 rfl rfl)
theorem dJ22_compress_2_8 : decode cJ22_compress_2 8 = .ok (.istore 5, 2) := dk_54 5 (dk_at dksJ22_compress_2_0 8 rfl rfl)
theorem dJ22_compress_2_10 : decode cJ22_compress_2 10 = .ok (.iload 5, 2) := dk_21 5 (dk_at dksJ22_compress_2_0 10 rfl rfl)
theorem dJ22_compress_2_12 : decode cJ22_compress_2 12 = .ok (.iload 4, 2) := dk_21 4 (dk_at dksJ22_compress_2_0 12 rfl rfl)
theorem dJ22_compress_2_14 : decode cJ22_compress_2 14 = .ok (.if_icmp .ge 39, 3) := dk_162 0 39 (dk_at dksJ22_compress_2_0 14 rfl rfl)
theorem dJ22_compress_2_17 : decode cJ22_compress_2 17 = .ok (.aload_n 0, 1) := dk_42 (dk_at dksJ22_compress_2_0 17 rfl rfl)
theorem dJ22_compress_2_18 : decode cJ22_compress_2 18 = .ok (.iload_n 1, 1) := dk_27 (dk_at dksJ22_compress_2_0 18 rfl rfl)
theorem dJ22_compress_2_19 : decode cJ22_compress_2 19 = .ok (.invokestatic 71, 3) := dk_184 0 71 (dk_at dksJ22_compress_2_0 19 rfl rfl)
theorem dJ22_compress_2_22 : decode cJ22_compress_2 22 = .ok (.istore 6, 2) := dk_54 6 (dk_at dksJ22_compress_2_0 22 rfl rfl)
theorem dJ22_compress_2_24 : decode cJ22_compress_2 24 = .ok (.iload 6, 2) := dk_21 6 (dk_at dksJ22_compress_2_1 0 rfl rfl)
theorem dJ22_compress_2_26 : decode cJ22_compress_2 26 = .ok (.sipush 255, 3) := dk_17 0 255 (dk_at dksJ22_compress_2_1 2 rfl rfl)
theorem dJ22_compress_2_29 : decode cJ22_compress_2 29 = .ok (.if_icmp .le 6, 3) := dk_164 0 6 (dk_at dksJ22_compress_2_1 5 rfl rfl)
theorem dJ22_compress_2_32 : decode cJ22_compress_2 32 = .ok (.iload 5, 2) := dk_21 5 (dk_at dksJ22_compress_2_1 8 rfl rfl)
theorem dJ22_compress_2_34 : decode cJ22_compress_2 34 = .ok (.ireturn, 1) := dk_172 (dk_at dksJ22_compress_2_1 10 rfl rfl)
theorem dJ22_compress_2_35 : decode cJ22_compress_2 35 = .ok (.aload_n 2, 1) := dk_44 (dk_at dksJ22_compress_2_1 11 rfl rfl)
theorem dJ22_compress_2_36 : decode cJ22_compress_2 36 = .ok (.iload_n 3, 1) := dk_29 (dk_at dksJ22_compress_2_1 12 rfl rfl)
theorem dJ22_compress_2_37 : decode cJ22_compress_2 37 = .ok (.iload 6, 2) := dk_21 6 (dk_at dksJ22_compress_2_1 13 rfl rfl)
theorem dJ22_compress_2_39 : decode cJ22_compress_2 39 = .ok (.i2b, 1) := dk_145 (dk_at dksJ22_compress_2_1 15 rfl rfl)
theorem dJ22_compress_2_40 : decode cJ22_compress_2 40 = .ok (.bastore, 1) := dk_84 (dk_at dksJ22_compress_2_1 16 rfl rfl)
theorem dJ22_compress_2_41 : decode cJ22_compress_2 41 = .ok (.iinc 1 1, 3) := dk_132 1 1 (dk_at dksJ22_compress_2_1 17 rfl rfl)
theorem dJ22_compress_2_44 : decode cJ22_compress_2 44 = .ok (.iinc 3 1, 3) := dk_132 3 1 (dk_at dksJ22_compress_2_1 20 rfl rfl)
theorem dJ22_compress_2_47 : decode cJ22_compress_2 47 = .ok (.iinc 5 1, 3) := dk_132 5 1 (dk_at dksJ22_compress_2_2 0 rfl rfl)
theorem dJ22_compress_2_50 : decode cJ22_compress_2 50 = .ok (.goto (-40), 3) := dk_167 255 216 (dk_at dksJ22_compress_2_2 3 rfl rfl)
theorem dJ22_compress_2_53 : decode cJ22_compress_2 53 = .ok (.iload 4, 2) := dk_21 4 (dk_at dksJ22_compress_2_2 6 rfl rfl)
theorem dJ22_compress_2_55 : decode cJ22_compress_2 55 = .ok (.ireturn, 1) := dk_172 (dk_at dksJ22_compress_2_2 8 rfl rfl)
abbrev cJ22_getChar : ByteArray := prog_53_method_5_code
def yJ22_getChar : MethodName := ⟨RJ22, "getChar", "([BI)C"⟩
def dkwJ22_getChar_2 : List UInt8 := [51, 17, 0, 255, 126, 178, 0, 63, 120, 128, 146, 172]
abbrev dktJ22_getChar_2 : List UInt8 := dkwJ22_getChar_2 ++ []
def dkwJ22_getChar_1 : List UInt8 := [183, 0, 56, 191, 27, 4, 120, 60, 42, 27, 132, 1, 1, 51, 17, 0, 255, 126, 178, 0, 59, 120, 42, 27]
abbrev dktJ22_getChar_1 : List UInt8 := dkwJ22_getChar_1 ++ dktJ22_getChar_2
def dkwJ22_getChar_0 : List UInt8 := [178, 0, 44, 154, 0, 25, 27, 155, 0, 11, 27, 42, 184, 0, 48, 161, 0, 13, 187, 0, 52, 89, 18, 54]
abbrev dktJ22_getChar_0 : List UInt8 := dkwJ22_getChar_0 ++ dktJ22_getChar_1
theorem dksJ22_getChar_0 : cJ22_getChar.data.toList.drop 0 = dktJ22_getChar_0 := by decide +kernel
theorem dksJ22_getChar_1 : cJ22_getChar.data.toList.drop 24 = dktJ22_getChar_1 := dk_seg dksJ22_getChar_0 24 rfl rfl
theorem dksJ22_getChar_2 : cJ22_getChar.data.toList.drop 48 = dktJ22_getChar_2 := dk_seg dksJ22_getChar_1 24 rfl rfl
theorem dJ22_getChar_0 : decode cJ22_getChar 0 = .ok (.getstatic 44, 3) := dk_178 0 44 (dk_at dksJ22_getChar_0 0 rfl rfl)
theorem dJ22_getChar_3 : decode cJ22_getChar 3 = .ok (.ifCond .ne 25, 3) := dk_154 0 25 (dk_at dksJ22_getChar_0 3 rfl rfl)
theorem dJ22_getChar_6 : decode cJ22_getChar 6 = .ok (.iload_n 1, 1) := dk_27 (dk_at dksJ22_getChar_0 6 rfl rfl)
theorem dJ22_getChar_7 : decode cJ22_getChar 7 = .ok (.ifCond .lt 11, 3) := dk_155 0 11 (dk_at dksJ22_getChar_0 7 rfl rfl)
theorem dJ22_getChar_10 : decode cJ22_getChar 10 = .ok (.iload_n 1, 1) := dk_27 (dk_at dksJ22_getChar_0 10 rfl rfl)
theorem dJ22_getChar_11 : decode cJ22_getChar 11 = .ok (.aload_n 0, 1) := dk_42 (dk_at dksJ22_getChar_0 11 rfl rfl)
theorem dJ22_getChar_12 : decode cJ22_getChar 12 = .ok (.invokestatic 48, 3) := dk_184 0 48 (dk_at dksJ22_getChar_0 12 rfl rfl)
theorem dJ22_getChar_15 : decode cJ22_getChar 15 = .ok (.if_icmp .lt 13, 3) := dk_161 0 13 (dk_at dksJ22_getChar_0 15 rfl rfl)
theorem dJ22_getChar_18 : decode cJ22_getChar 18 = .ok (.new 52, 3) := dk_187 0 52 (dk_at dksJ22_getChar_0 18 rfl rfl)
theorem dJ22_getChar_21 : decode cJ22_getChar 21 = .ok (.dup, 1) := dk_89 (dk_at dksJ22_getChar_0 21 rfl rfl)
theorem dJ22_getChar_22 : decode cJ22_getChar 22 = .ok (.ldc 54, 2) := dk_18 54 (dk_at dksJ22_getChar_0 22 rfl rfl)
theorem dJ22_getChar_24 : decode cJ22_getChar 24 = .ok (.invokespecial 56, 3) := dk_183 0 56 (dk_at dksJ22_getChar_1 0 rfl rfl)
theorem dJ22_getChar_27 : decode cJ22_getChar 27 = .ok (.athrow, 1) := dk_191 (dk_at dksJ22_getChar_1 3 rfl rfl)
theorem dJ22_getChar_28 : decode cJ22_getChar 28 = .ok (.iload_n 1, 1) := dk_27 (dk_at dksJ22_getChar_1 4 rfl rfl)
theorem dJ22_getChar_29 : decode cJ22_getChar 29 = .ok (.iconst 1, 1) := dk_4 (dk_at dksJ22_getChar_1 5 rfl rfl)
theorem dJ22_getChar_30 : decode cJ22_getChar 30 = .ok (.ishl, 1) := dk_120 (dk_at dksJ22_getChar_1 6 rfl rfl)
theorem dJ22_getChar_31 : decode cJ22_getChar 31 = .ok (.istore_n 1, 1) := dk_60 (dk_at dksJ22_getChar_1 7 rfl rfl)
theorem dJ22_getChar_32 : decode cJ22_getChar 32 = .ok (.aload_n 0, 1) := dk_42 (dk_at dksJ22_getChar_1 8 rfl rfl)
theorem dJ22_getChar_33 : decode cJ22_getChar 33 = .ok (.iload_n 1, 1) := dk_27 (dk_at dksJ22_getChar_1 9 rfl rfl)
theorem dJ22_getChar_34 : decode cJ22_getChar 34 = .ok (.iinc 1 1, 3) := dk_132 1 1 (dk_at dksJ22_getChar_1 10 rfl rfl)
theorem dJ22_getChar_37 : decode cJ22_getChar 37 = .ok (.baload, 1) := dk_51 (dk_at dksJ22_getChar_1 13 rfl rfl)
theorem dJ22_getChar_38 : decode cJ22_getChar 38 = .ok (.sipush 255, 3) := dk_17 0 255 (dk_at dksJ22_getChar_1 14 rfl rfl)
theorem dJ22_getChar_41 : decode cJ22_getChar 41 = .ok (.iand, 1) := dk_126 (dk_at dksJ22_getChar_1 17 rfl rfl)
theorem dJ22_getChar_42 : decode cJ22_getChar 42 = .ok (.getstatic 59, 3) := dk_178 0 59 (dk_at dksJ22_getChar_1 18 rfl rfl)
theorem dJ22_getChar_45 : decode cJ22_getChar 45 = .ok (.ishl, 1) := dk_120 (dk_at dksJ22_getChar_1 21 rfl rfl)
theorem dJ22_getChar_46 : decode cJ22_getChar 46 = .ok (.aload_n 0, 1) := dk_42 (dk_at dksJ22_getChar_1 22 rfl rfl)
theorem dJ22_getChar_47 : decode cJ22_getChar 47 = .ok (.iload_n 1, 1) := dk_27 (dk_at dksJ22_getChar_1 23 rfl rfl)
theorem dJ22_getChar_48 : decode cJ22_getChar 48 = .ok (.baload, 1) := dk_51 (dk_at dksJ22_getChar_2 0 rfl rfl)
theorem dJ22_getChar_49 : decode cJ22_getChar 49 = .ok (.sipush 255, 3) := dk_17 0 255 (dk_at dksJ22_getChar_2 1 rfl rfl)
theorem dJ22_getChar_52 : decode cJ22_getChar 52 = .ok (.iand, 1) := dk_126 (dk_at dksJ22_getChar_2 4 rfl rfl)
theorem dJ22_getChar_53 : decode cJ22_getChar 53 = .ok (.getstatic 63, 3) := dk_178 0 63 (dk_at dksJ22_getChar_2 5 rfl rfl)
theorem dJ22_getChar_56 : decode cJ22_getChar 56 = .ok (.ishl, 1) := dk_120 (dk_at dksJ22_getChar_2 8 rfl rfl)
theorem dJ22_getChar_57 : decode cJ22_getChar 57 = .ok (.ior, 1) := dk_128 (dk_at dksJ22_getChar_2 9 rfl rfl)
theorem dJ22_getChar_58 : decode cJ22_getChar 58 = .ok (.i2c, 1) := dk_146 (dk_at dksJ22_getChar_2 10 rfl rfl)
theorem dJ22_getChar_59 : decode cJ22_getChar 59 = .ok (.ireturn, 1) := dk_172 (dk_at dksJ22_getChar_2 11 rfl rfl)
abbrev cJ22_coderFromArrayLen : ByteArray := prog_53_method_15_code
def yJ22_coderFromArrayLen : MethodName := ⟨RJ22, "coderFromArrayLen", "([BI)B"⟩
def dkwJ22_coderFromArrayLen_0 : List UInt8 := [27, 42, 190, 100, 16, 31, 124, 145, 172]
abbrev dktJ22_coderFromArrayLen_0 : List UInt8 := dkwJ22_coderFromArrayLen_0 ++ []
theorem dksJ22_coderFromArrayLen_0 : cJ22_coderFromArrayLen.data.toList.drop 0 = dktJ22_coderFromArrayLen_0 := by decide +kernel
theorem dJ22_coderFromArrayLen_0 : decode cJ22_coderFromArrayLen 0 = .ok (.iload_n 1, 1) := dk_27 (dk_at dksJ22_coderFromArrayLen_0 0 rfl rfl)
theorem dJ22_coderFromArrayLen_1 : decode cJ22_coderFromArrayLen 1 = .ok (.aload_n 0, 1) := dk_42 (dk_at dksJ22_coderFromArrayLen_0 1 rfl rfl)
theorem dJ22_coderFromArrayLen_2 : decode cJ22_coderFromArrayLen 2 = .ok (.arraylength, 1) := dk_190 (dk_at dksJ22_coderFromArrayLen_0 2 rfl rfl)
theorem dJ22_coderFromArrayLen_3 : decode cJ22_coderFromArrayLen 3 = .ok (.isub, 1) := dk_100 (dk_at dksJ22_coderFromArrayLen_0 3 rfl rfl)
theorem dJ22_coderFromArrayLen_4 : decode cJ22_coderFromArrayLen 4 = .ok (.bipush 31, 2) := dk_16 31 (dk_at dksJ22_coderFromArrayLen_0 4 rfl rfl)
theorem dJ22_coderFromArrayLen_6 : decode cJ22_coderFromArrayLen 6 = .ok (.iushr, 1) := dk_124 (dk_at dksJ22_coderFromArrayLen_0 6 rfl rfl)
theorem dJ22_coderFromArrayLen_7 : decode cJ22_coderFromArrayLen 7 = .ok (.i2b, 1) := dk_145 (dk_at dksJ22_coderFromArrayLen_0 7 rfl rfl)
theorem dJ22_coderFromArrayLen_8 : decode cJ22_coderFromArrayLen 8 = .ok (.ireturn, 1) := dk_172 (dk_at dksJ22_coderFromArrayLen_0 8 rfl rfl)
theorem q118 : (Jvm.Cond.initialized "java/lang/StringUTF16") ∈ lw_all := lw_g (lw_at lw_m1 35 rfl) rfl
theorem q917 : (Jvm.Cond.static ({ cls := "java/lang/StringUTF16", name := "newBytesFor", desc := "(I)[B" } : Jvm.MethodName)) ∈ lw_all := lw_g (lw_at lw_m4 114 rfl) rfl
theorem q918 : (Jvm.Cond.code ({ cls := "java/lang/StringUTF16", name := "newBytesFor", desc := "(I)[B" } : Jvm.MethodName) prog_53_method_2_code (1 : Nat) (Option.some (Jvm.ClassFile.FieldType.array Jvm.ClassFile.FieldType.byte))) ∈ lw_all := lw_g (lw_at lw_m4 115 rfl) rfl
theorem q919 : (Jvm.Cond.methodLink "java/lang/StringUTF16" (11 : Nat) ({ cls := "java/lang/StringUTF16", name := "newBytesLength", desc := "(I)I" } : Jvm.MethodName)) ∈ lw_all := lw_g (lw_at lw_m4 116 rfl) rfl
theorem q920 : (Jvm.Cond.static ({ cls := "java/lang/StringUTF16", name := "newBytesLength", desc := "(I)I" } : Jvm.MethodName)) ∈ lw_all := lw_g (lw_at lw_m4 117 rfl) rfl
theorem q921 : (Jvm.Cond.code ({ cls := "java/lang/StringUTF16", name := "newBytesLength", desc := "(I)I" } : Jvm.MethodName) prog_53_method_3_code (1 : Nat) (Option.some Jvm.ClassFile.FieldType.int)) ∈ lw_all := lw_g (lw_at lw_m4 118 rfl) rfl
theorem q922 : (Jvm.Cond.constant "java/lang/StringUTF16" (20 : Nat) (1073741823 : Int32)) ∈ lw_all := lw_g (lw_at lw_m4 119 rfl) rfl
theorem q968 : (Jvm.Cond.static ({ cls := "java/lang/StringUTF16", name := "putCharsAt", desc := "([BICCCC)I" } : Jvm.MethodName)) ∈ lw_all := lw_g (lw_at lw_m4 165 rfl) rfl
theorem q969 : (Jvm.Cond.code ({ cls := "java/lang/StringUTF16", name := "putCharsAt", desc := "([BICCCC)I" } : Jvm.MethodName) prog_53_method_81_code (7 : Nat) (Option.some Jvm.ClassFile.FieldType.int)) ∈ lw_all := lw_g (lw_at lw_m4 166 rfl) rfl
theorem q970 : (Jvm.Cond.methodLink "java/lang/StringUTF16" (96 : Nat) ({ cls := "java/lang/StringUTF16", name := "checkBoundsBeginEnd", desc := "(II[B)V" } : Jvm.MethodName)) ∈ lw_all := lw_g (lw_at lw_m4 167 rfl) rfl
theorem q971 : (Jvm.Cond.static ({ cls := "java/lang/StringUTF16", name := "checkBoundsBeginEnd", desc := "(II[B)V" } : Jvm.MethodName)) ∈ lw_all := lw_g (lw_at lw_m4 168 rfl) rfl
theorem q972 : (Jvm.Cond.code ({ cls := "java/lang/StringUTF16", name := "checkBoundsBeginEnd", desc := "(II[B)V" } : Jvm.MethodName) prog_53_method_93_code (3 : Nat) (Option.none : Option Jvm.ClassFile.FieldType)) ∈ lw_all := lw_g (lw_at lw_m4 169 rfl) rfl
theorem q973 : (Jvm.Cond.methodLink "java/lang/StringUTF16" (48 : Nat) ({ cls := "java/lang/StringUTF16", name := "length", desc := "([B)I" } : Jvm.MethodName)) ∈ lw_all := lw_g (lw_at lw_m4 170 rfl) rfl
theorem q974 : (Jvm.Cond.static ({ cls := "java/lang/StringUTF16", name := "length", desc := "([B)I" } : Jvm.MethodName)) ∈ lw_all := lw_g (lw_at lw_m4 171 rfl) rfl
theorem q975 : (Jvm.Cond.code ({ cls := "java/lang/StringUTF16", name := "length", desc := "([B)I" } : Jvm.MethodName) prog_53_method_6_code (1 : Nat) (Option.some Jvm.ClassFile.FieldType.int)) ∈ lw_all := lw_g (lw_at lw_m4 172 rfl) rfl
theorem q976 : (Jvm.Cond.methodLink "java/lang/StringUTF16" (241 : Nat) ({ cls := "java/lang/String", name := "checkBoundsBeginEnd", desc := "(III)V" } : Jvm.MethodName)) ∈ lw_all := lw_g (lw_at lw_m4 173 rfl) rfl
theorem q984 : (Jvm.Cond.methodLink "java/lang/StringUTF16" (111 : Nat) ({ cls := "java/lang/StringUTF16", name := "putChar", desc := "([BII)V" } : Jvm.MethodName)) ∈ lw_all := lw_g (lw_at lw_m4 181 rfl) rfl
theorem q985 : (Jvm.Cond.static ({ cls := "java/lang/StringUTF16", name := "putChar", desc := "([BII)V" } : Jvm.MethodName)) ∈ lw_all := lw_g (lw_at lw_m4 182 rfl) rfl
theorem q986 : (Jvm.Cond.code ({ cls := "java/lang/StringUTF16", name := "putChar", desc := "([BII)V" } : Jvm.MethodName) prog_53_method_4_code (3 : Nat) (Option.none : Option Jvm.ClassFile.FieldType)) ∈ lw_all := lw_g (lw_at lw_m4 183 rfl) rfl
theorem q987 : (Jvm.Cond.fieldLink "java/lang/StringUTF16" (44 : Nat) "java/lang/StringUTF16" "$assertionsDisabled" "Z") ∈ lw_all := lw_g (lw_at lw_m4 184 rfl) rfl
theorem q988 : (Jvm.Cond.laysStatic "java/lang/StringUTF16" "$assertionsDisabled" "Z") ∈ lw_tbl := lw_at lw_m4 185 rfl
theorem q989 : (Jvm.Cond.fieldLink "java/lang/StringUTF16" (59 : Nat) "java/lang/StringUTF16" "HI_BYTE_SHIFT" "I") ∈ lw_all := lw_g (lw_at lw_m4 186 rfl) rfl
theorem q990 : (Jvm.Cond.laysStatic "java/lang/StringUTF16" "HI_BYTE_SHIFT" "I") ∈ lw_tbl := lw_at lw_m4 187 rfl
theorem q991 : (Jvm.Cond.fieldLink "java/lang/StringUTF16" (63 : Nat) "java/lang/StringUTF16" "LO_BYTE_SHIFT" "I") ∈ lw_all := lw_g (lw_at lw_m4 188 rfl) rfl
theorem q992 : (Jvm.Cond.laysStatic "java/lang/StringUTF16" "LO_BYTE_SHIFT" "I") ∈ lw_tbl := lw_at lw_m4 189 rfl
theorem q1019 : (Jvm.Cond.static ({ cls := "java/lang/StringUTF16", name := "inflate", desc := "([BI[BII)V" } : Jvm.MethodName)) ∈ lw_all := lw_g (lw_at lw_m4 216 rfl) rfl
theorem q1020 : (Jvm.Cond.code ({ cls := "java/lang/StringUTF16", name := "inflate", desc := "([BI[BII)V" } : Jvm.MethodName) prog_53_method_86_code (6 : Nat) (Option.none : Option Jvm.ClassFile.FieldType)) ∈ lw_all := lw_g (lw_at lw_m4 217 rfl) rfl
theorem q1021 : (Jvm.Cond.methodLink "java/lang/StringUTF16" (173 : Nat) ({ cls := "java/lang/StringUTF16", name := "checkBoundsOffCount", desc := "(II[B)V" } : Jvm.MethodName)) ∈ lw_all := lw_g (lw_at lw_m4 218 rfl) rfl
theorem q1022 : (Jvm.Cond.static ({ cls := "java/lang/StringUTF16", name := "checkBoundsOffCount", desc := "(II[B)V" } : Jvm.MethodName)) ∈ lw_all := lw_g (lw_at lw_m4 219 rfl) rfl
theorem q1023 : (Jvm.Cond.code ({ cls := "java/lang/StringUTF16", name := "checkBoundsOffCount", desc := "(II[B)V" } : Jvm.MethodName) prog_53_method_94_code (3 : Nat) (Option.none : Option Jvm.ClassFile.FieldType)) ∈ lw_all := lw_g (lw_at lw_m4 220 rfl) rfl
theorem q1024 : (Jvm.Cond.methodLink "java/lang/StringUTF16" (419 : Nat) ({ cls := "java/lang/String", name := "checkBoundsOffCount", desc := "(III)I" } : Jvm.MethodName)) ∈ lw_all := lw_g (lw_at lw_m4 221 rfl) rfl
theorem q1074 : (Jvm.Cond.static ({ cls := "java/lang/StringUTF16", name := "compress", desc := "([BII)[B" } : Jvm.MethodName)) ∈ lw_all := lw_g (lw_at lw_m5 31 rfl) rfl
theorem q1075 : (Jvm.Cond.code ({ cls := "java/lang/StringUTF16", name := "compress", desc := "([BII)[B" } : Jvm.MethodName) prog_53_method_17_code (6 : Nat) (Option.some (Jvm.ClassFile.FieldType.array Jvm.ClassFile.FieldType.byte))) ∈ lw_all := lw_g (lw_at lw_m5 32 rfl) rfl
theorem q1076 : (Jvm.Cond.methodLink "java/lang/StringUTF16" (123 : Nat) ({ cls := "java/lang/StringUTF16", name := "compress", desc := "([BI[BII)I" } : Jvm.MethodName)) ∈ lw_all := lw_g (lw_at lw_m5 33 rfl) rfl
theorem q1077 : (Jvm.Cond.static ({ cls := "java/lang/StringUTF16", name := "compress", desc := "([BI[BII)I" } : Jvm.MethodName)) ∈ lw_all := lw_g (lw_at lw_m5 34 rfl) rfl
theorem q1078 : (Jvm.Cond.code ({ cls := "java/lang/StringUTF16", name := "compress", desc := "([BI[BII)I" } : Jvm.MethodName) prog_53_method_22_code (7 : Nat) (Option.some Jvm.ClassFile.FieldType.int)) ∈ lw_all := lw_g (lw_at lw_m5 35 rfl) rfl
theorem q1079 : (Jvm.Cond.methodLink "java/lang/StringUTF16" (71 : Nat) ({ cls := "java/lang/StringUTF16", name := "getChar", desc := "([BI)C" } : Jvm.MethodName)) ∈ lw_all := lw_g (lw_at lw_m5 36 rfl) rfl
theorem q1080 : (Jvm.Cond.static ({ cls := "java/lang/StringUTF16", name := "getChar", desc := "([BI)C" } : Jvm.MethodName)) ∈ lw_all := lw_g (lw_at lw_m5 37 rfl) rfl
theorem q1081 : (Jvm.Cond.code ({ cls := "java/lang/StringUTF16", name := "getChar", desc := "([BI)C" } : Jvm.MethodName) prog_53_method_5_code (2 : Nat) (Option.some Jvm.ClassFile.FieldType.char)) ∈ lw_all := lw_g (lw_at lw_m5 38 rfl) rfl
theorem q1082 : (Jvm.Cond.methodLink "java/lang/StringUTF16" (126 : Nat) ({ cls := "java/util/Arrays", name := "copyOfRange", desc := "([BII)[B" } : Jvm.MethodName)) ∈ lw_all := lw_g (lw_at lw_m5 39 rfl) rfl
theorem q1084 : (Jvm.Cond.static ({ cls := "java/lang/StringUTF16", name := "coderFromArrayLen", desc := "([BI)B" } : Jvm.MethodName)) ∈ lw_all := lw_g (lw_at lw_m5 41 rfl) rfl
theorem q1085 : (Jvm.Cond.code ({ cls := "java/lang/StringUTF16", name := "coderFromArrayLen", desc := "([BI)B" } : Jvm.MethodName) prog_53_method_15_code (2 : Nat) (Option.some Jvm.ClassFile.FieldType.byte)) ∈ lw_all := lw_g (lw_at lw_m5 42 rfl) rfl

/-! java/lang/StringLatin1 -/
set_option maxRecDepth 100000
def RJ23 : String := "java/lang/StringLatin1"
abbrev cJ23_inflate : ByteArray := prog_52_method_50_code
def yJ23_inflate : MethodName := ⟨RJ23, "inflate", "([BI[BII)V"⟩
def dkwJ23_inflate_0 : List UInt8 := [42, 27, 44, 29, 21, 4, 184, 0, 240, 177]
abbrev dktJ23_inflate_0 : List UInt8 := dkwJ23_inflate_0 ++ []
theorem dksJ23_inflate_0 : cJ23_inflate.data.toList.drop 0 = dktJ23_inflate_0 := by decide +kernel
theorem dJ23_inflate_0 : decode cJ23_inflate 0 = .ok (.aload_n 0, 1) := dk_42 (dk_at dksJ23_inflate_0 0 rfl rfl)
theorem dJ23_inflate_1 : decode cJ23_inflate 1 = .ok (.iload_n 1, 1) := dk_27 (dk_at dksJ23_inflate_0 1 rfl rfl)
theorem dJ23_inflate_2 : decode cJ23_inflate 2 = .ok (.aload_n 2, 1) := dk_44 (dk_at dksJ23_inflate_0 2 rfl rfl)
theorem dJ23_inflate_3 : decode cJ23_inflate 3 = .ok (.iload_n 3, 1) := dk_29 (dk_at dksJ23_inflate_0 3 rfl rfl)
theorem dJ23_inflate_4 : decode cJ23_inflate 4 = .ok (.iload 4, 2) := dk_21 4 (dk_at dksJ23_inflate_0 4 rfl rfl)
theorem dJ23_inflate_6 : decode cJ23_inflate 6 = .ok (.invokestatic 240, 3) := dk_184 0 240 (dk_at dksJ23_inflate_0 6 rfl rfl)
theorem dJ23_inflate_9 : decode cJ23_inflate 9 = .ok (.return_, 1) := dk_177 (dk_at dksJ23_inflate_0 9 rfl rfl)
theorem q119 : (Jvm.Cond.initialized "java/lang/StringLatin1") ∈ lw_all := lw_g (lw_at lw_m1 36 rfl) rfl
theorem q1016 : (Jvm.Cond.static ({ cls := "java/lang/StringLatin1", name := "inflate", desc := "([BI[BII)V" } : Jvm.MethodName)) ∈ lw_all := lw_g (lw_at lw_m4 213 rfl) rfl
theorem q1017 : (Jvm.Cond.code ({ cls := "java/lang/StringLatin1", name := "inflate", desc := "([BI[BII)V" } : Jvm.MethodName) prog_52_method_50_code (5 : Nat) (Option.none : Option Jvm.ClassFile.FieldType)) ∈ lw_all := lw_g (lw_at lw_m4 214 rfl) rfl
theorem q1018 : (Jvm.Cond.methodLink "java/lang/StringLatin1" (240 : Nat) ({ cls := "java/lang/StringUTF16", name := "inflate", desc := "([BI[BII)V" } : Jvm.MethodName)) ∈ lw_all := lw_g (lw_at lw_m4 215 rfl) rfl

/-! java/util/ImmutableCollections -/
set_option maxRecDepth 100000
def RJ24 : String := "java/util/ImmutableCollections"
abbrev cJ24_listFromTrustedArray : ByteArray := prog_78_method_5_code
def yJ24_listFromTrustedArray : MethodName := ⟨RJ24, "listFromTrustedArray", "([Ljava/lang/Object;)Ljava/util/List;"⟩
def dkwJ24_listFromTrustedArray_5 : List UInt8 := [3, 50, 42, 4, 50, 183, 0, 67, 167, 0, 12, 187, 0, 12, 89, 42, 3, 183, 0, 43, 176]
abbrev dktJ24_listFromTrustedArray_5 : List UInt8 := dkwJ24_listFromTrustedArray_5 ++ []
def dkwJ24_listFromTrustedArray_4 : List UInt8 := [178, 0, 60, 167, 0, 41, 187, 0, 10, 89, 42, 3, 50, 183, 0, 64, 167, 0, 28, 187, 0, 10, 89, 42]
abbrev dktJ24_listFromTrustedArray_4 : List UInt8 := dkwJ24_listFromTrustedArray_4 ++ dktJ24_listFromTrustedArray_5
def dkwJ24_listFromTrustedArray_3 : List UInt8 := [170, 0, 0, 0, 0, 61, 0, 0, 0, 0, 0, 0, 0, 2, 0, 0, 0, 26, 0, 0, 0, 32, 0, 0, 0, 45]
abbrev dktJ24_listFromTrustedArray_3 : List UInt8 := dkwJ24_listFromTrustedArray_3 ++ dktJ24_listFromTrustedArray_4
def dkwJ24_listFromTrustedArray_2 : List UInt8 := [132, 3, 1, 167, 255, 237, 42, 190]
abbrev dktJ24_listFromTrustedArray_2 : List UInt8 := dkwJ24_listFromTrustedArray_2 ++ dktJ24_listFromTrustedArray_3
def dkwJ24_listFromTrustedArray_1 : List UInt8 := [76, 43, 190, 61, 3, 62, 29, 28, 162, 0, 20, 43, 29, 50, 58, 4, 25, 4, 184, 0, 37, 87]
abbrev dktJ24_listFromTrustedArray_1 : List UInt8 := dkwJ24_listFromTrustedArray_1 ++ dktJ24_listFromTrustedArray_2
def dkwJ24_listFromTrustedArray_0 : List UInt8 := [178, 0, 46, 154, 0, 20, 42, 182, 0, 51, 18, 55, 165, 0, 11, 187, 0, 57, 89, 183, 0, 59, 191, 42]
abbrev dktJ24_listFromTrustedArray_0 : List UInt8 := dkwJ24_listFromTrustedArray_0 ++ dktJ24_listFromTrustedArray_1
theorem dksJ24_listFromTrustedArray_0 : cJ24_listFromTrustedArray.data.toList.drop 0 = dktJ24_listFromTrustedArray_0 := by decide +kernel
theorem dksJ24_listFromTrustedArray_1 : cJ24_listFromTrustedArray.data.toList.drop 24 = dktJ24_listFromTrustedArray_1 := dk_seg dksJ24_listFromTrustedArray_0 24 rfl rfl
theorem dksJ24_listFromTrustedArray_2 : cJ24_listFromTrustedArray.data.toList.drop 46 = dktJ24_listFromTrustedArray_2 := dk_seg dksJ24_listFromTrustedArray_1 22 rfl rfl
theorem dksJ24_listFromTrustedArray_3 : cJ24_listFromTrustedArray.data.toList.drop 54 = dktJ24_listFromTrustedArray_3 := dk_seg dksJ24_listFromTrustedArray_2 8 rfl rfl
theorem dksJ24_listFromTrustedArray_4 : cJ24_listFromTrustedArray.data.toList.drop 80 = dktJ24_listFromTrustedArray_4 := dk_seg dksJ24_listFromTrustedArray_3 26 rfl rfl
theorem dksJ24_listFromTrustedArray_5 : cJ24_listFromTrustedArray.data.toList.drop 104 = dktJ24_listFromTrustedArray_5 := dk_seg dksJ24_listFromTrustedArray_4 24 rfl rfl
theorem dJ24_listFromTrustedArray_0 : decode cJ24_listFromTrustedArray 0 = .ok (.getstatic 46, 3) := dk_178 0 46 (dk_at dksJ24_listFromTrustedArray_0 0 rfl rfl)
theorem dJ24_listFromTrustedArray_3 : decode cJ24_listFromTrustedArray 3 = .ok (.ifCond .ne 20, 3) := dk_154 0 20 (dk_at dksJ24_listFromTrustedArray_0 3 rfl rfl)
theorem dJ24_listFromTrustedArray_6 : decode cJ24_listFromTrustedArray 6 = .ok (.aload_n 0, 1) := dk_42 (dk_at dksJ24_listFromTrustedArray_0 6 rfl rfl)
theorem dJ24_listFromTrustedArray_7 : decode cJ24_listFromTrustedArray 7 = .ok (.invokevirtual 51, 3) := dk_182 0 51 (dk_at dksJ24_listFromTrustedArray_0 7 rfl rfl)
theorem dJ24_listFromTrustedArray_10 : decode cJ24_listFromTrustedArray 10 = .ok (.ldc 55, 2) := dk_18 55 (dk_at dksJ24_listFromTrustedArray_0 10 rfl rfl)
theorem dJ24_listFromTrustedArray_12 : decode cJ24_listFromTrustedArray 12 = .ok (.if_acmp .eq 11, 3) := dk_165 0 11 (dk_at dksJ24_listFromTrustedArray_0 12 rfl rfl)
theorem dJ24_listFromTrustedArray_15 : decode cJ24_listFromTrustedArray 15 = .ok (.new 57, 3) := dk_187 0 57 (dk_at dksJ24_listFromTrustedArray_0 15 rfl rfl)
theorem dJ24_listFromTrustedArray_18 : decode cJ24_listFromTrustedArray 18 = .ok (.dup, 1) := dk_89 (dk_at dksJ24_listFromTrustedArray_0 18 rfl rfl)
theorem dJ24_listFromTrustedArray_19 : decode cJ24_listFromTrustedArray 19 = .ok (.invokespecial 59, 3) := dk_183 0 59 (dk_at dksJ24_listFromTrustedArray_0 19 rfl rfl)
theorem dJ24_listFromTrustedArray_22 : decode cJ24_listFromTrustedArray 22 = .ok (.athrow, 1) := dk_191 (dk_at dksJ24_listFromTrustedArray_0 22 rfl rfl)
theorem dJ24_listFromTrustedArray_23 : decode cJ24_listFromTrustedArray 23 = .ok (.aload_n 0, 1) := dk_42 (dk_at dksJ24_listFromTrustedArray_0 23 rfl rfl)
theorem dJ24_listFromTrustedArray_24 : decode cJ24_listFromTrustedArray 24 = .ok (.astore_n 1, 1) := dk_76 (dk_at dksJ24_listFromTrustedArray_1 0 rfl rfl)
theorem dJ24_listFromTrustedArray_25 : decode cJ24_listFromTrustedArray 25 = .ok (.aload_n 1, 1) := dk_43 (dk_at dksJ24_listFromTrustedArray_1 1 rfl rfl)
theorem dJ24_listFromTrustedArray_26 : decode cJ24_listFromTrustedArray 26 = .ok (.arraylength, 1) := dk_190 (dk_at dksJ24_listFromTrustedArray_1 2 rfl rfl)
theorem dJ24_listFromTrustedArray_27 : decode cJ24_listFromTrustedArray 27 = .ok (.istore_n 2, 1) := dk_61 (dk_at dksJ24_listFromTrustedArray_1 3 rfl rfl)
theorem dJ24_listFromTrustedArray_28 : decode cJ24_listFromTrustedArray 28 = .ok (.iconst 0, 1) := dk_3 (dk_at dksJ24_listFromTrustedArray_1 4 rfl rfl)
theorem dJ24_listFromTrustedArray_29 : decode cJ24_listFromTrustedArray 29 = .ok (.istore_n 3, 1) := dk_62 (dk_at dksJ24_listFromTrustedArray_1 5 rfl rfl)
theorem dJ24_listFromTrustedArray_30 : decode cJ24_listFromTrustedArray 30 = .ok (.iload_n 3, 1) := dk_29 (dk_at dksJ24_listFromTrustedArray_1 6 rfl rfl)
theorem dJ24_listFromTrustedArray_31 : decode cJ24_listFromTrustedArray 31 = .ok (.iload_n 2, 1) := dk_28 (dk_at dksJ24_listFromTrustedArray_1 7 rfl rfl)
theorem dJ24_listFromTrustedArray_32 : decode cJ24_listFromTrustedArray 32 = .ok (.if_icmp .ge 20, 3) := dk_162 0 20 (dk_at dksJ24_listFromTrustedArray_1 8 rfl rfl)
theorem dJ24_listFromTrustedArray_35 : decode cJ24_listFromTrustedArray 35 = .ok (.aload_n 1, 1) := dk_43 (dk_at dksJ24_listFromTrustedArray_1 11 rfl rfl)
theorem dJ24_listFromTrustedArray_36 : decode cJ24_listFromTrustedArray 36 = .ok (.iload_n 3, 1) := dk_29 (dk_at dksJ24_listFromTrustedArray_1 12 rfl rfl)
theorem dJ24_listFromTrustedArray_37 : decode cJ24_listFromTrustedArray 37 = .ok (.aaload, 1) := dk_50 (dk_at dksJ24_listFromTrustedArray_1 13 rfl rfl)
theorem dJ24_listFromTrustedArray_38 : decode cJ24_listFromTrustedArray 38 = .ok (.astore 4, 2) := dk_58 4 (dk_at dksJ24_listFromTrustedArray_1 14 rfl rfl)
theorem dJ24_listFromTrustedArray_40 : decode cJ24_listFromTrustedArray 40 = .ok (.aload 4, 2) := dk_25 4 (dk_at dksJ24_listFromTrustedArray_1 16 rfl rfl)
theorem dJ24_listFromTrustedArray_42 : decode cJ24_listFromTrustedArray 42 = .ok (.invokestatic 37, 3) := dk_184 0 37 (dk_at dksJ24_listFromTrustedArray_1 18 rfl rfl)
theorem dJ24_listFromTrustedArray_45 : decode cJ24_listFromTrustedArray 45 = .ok (.pop, 1) := dk_87 (dk_at dksJ24_listFromTrustedArray_1 21 rfl rfl)
theorem dJ24_listFromTrustedArray_46 : decode cJ24_listFromTrustedArray 46 = .ok (.iinc 3 1, 3) := dk_132 3 1 (dk_at dksJ24_listFromTrustedArray_2 0 rfl rfl)
theorem dJ24_listFromTrustedArray_49 : decode cJ24_listFromTrustedArray 49 = .ok (.goto (-19), 3) := dk_167 255 237 (dk_at dksJ24_listFromTrustedArray_2 3 rfl rfl)
theorem dJ24_listFromTrustedArray_52 : decode cJ24_listFromTrustedArray 52 = .ok (.aload_n 0, 1) := dk_42 (dk_at dksJ24_listFromTrustedArray_2 6 rfl rfl)
theorem dJ24_listFromTrustedArray_53 : decode cJ24_listFromTrustedArray 53 = .ok (.arraylength, 1) := dk_190 (dk_at dksJ24_listFromTrustedArray_2 7 rfl rfl)
theorem dJ24_listFromTrustedArray_54 : decode cJ24_listFromTrustedArray 54 = .ok (.tableswitch 61 0 2 #[26, 32, 45], 26) := by decide +kernel
theorem dJ24_listFromTrustedArray_80 : decode cJ24_listFromTrustedArray 80 = .ok (.getstatic 60, 3) := dk_178 0 60 (dk_at dksJ24_listFromTrustedArray_4 0 rfl rfl)
theorem dJ24_listFromTrustedArray_83 : decode cJ24_listFromTrustedArray 83 = .ok (.goto 41, 3) := dk_167 0 41 (dk_at dksJ24_listFromTrustedArray_4 3 rfl rfl)
theorem dJ24_listFromTrustedArray_86 : decode cJ24_listFromTrustedArray 86 = .ok (.new 10, 3) := dk_187 0 10 (dk_at dksJ24_listFromTrustedArray_4 6 rfl rfl)
theorem dJ24_listFromTrustedArray_89 : decode cJ24_listFromTrustedArray 89 = .ok (.dup, 1) := dk_89 (dk_at dksJ24_listFromTrustedArray_4 9 rfl rfl)
theorem dJ24_listFromTrustedArray_90 : decode cJ24_listFromTrustedArray 90 = .ok (.aload_n 0, 1) := dk_42 (dk_at dksJ24_listFromTrustedArray_4 10 rfl rfl)
theorem dJ24_listFromTrustedArray_91 : decode cJ24_listFromTrustedArray 91 = .ok (.iconst 0, 1) := dk_3 (dk_at dksJ24_listFromTrustedArray_4 11 rfl rfl)
theorem dJ24_listFromTrustedArray_92 : decode cJ24_listFromTrustedArray 92 = .ok (.aaload, 1) := dk_50 (dk_at dksJ24_listFromTrustedArray_4 12 rfl rfl)
theorem dJ24_listFromTrustedArray_93 : decode cJ24_listFromTrustedArray 93 = .ok (.invokespecial 64, 3) := dk_183 0 64 (dk_at dksJ24_listFromTrustedArray_4 13 rfl rfl)
theorem dJ24_listFromTrustedArray_96 : decode cJ24_listFromTrustedArray 96 = .ok (.goto 28, 3) := dk_167 0 28 (dk_at dksJ24_listFromTrustedArray_4 16 rfl rfl)
theorem dJ24_listFromTrustedArray_99 : decode cJ24_listFromTrustedArray 99 = .ok (.new 10, 3) := dk_187 0 10 (dk_at dksJ24_listFromTrustedArray_4 19 rfl rfl)
theorem dJ24_listFromTrustedArray_102 : decode cJ24_listFromTrustedArray 102 = .ok (.dup, 1) := dk_89 (dk_at dksJ24_listFromTrustedArray_4 22 rfl rfl)
theorem dJ24_listFromTrustedArray_103 : decode cJ24_listFromTrustedArray 103 = .ok (.aload_n 0, 1) := dk_42 (dk_at dksJ24_listFromTrustedArray_4 23 rfl rfl)
theorem dJ24_listFromTrustedArray_104 : decode cJ24_listFromTrustedArray 104 = .ok (.iconst 0, 1) := dk_3 (dk_at dksJ24_listFromTrustedArray_5 0 rfl rfl)
theorem dJ24_listFromTrustedArray_105 : decode cJ24_listFromTrustedArray 105 = .ok (.aaload, 1) := dk_50 (dk_at dksJ24_listFromTrustedArray_5 1 rfl rfl)
theorem dJ24_listFromTrustedArray_106 : decode cJ24_listFromTrustedArray 106 = .ok (.aload_n 0, 1) := dk_42 (dk_at dksJ24_listFromTrustedArray_5 2 rfl rfl)
theorem dJ24_listFromTrustedArray_107 : decode cJ24_listFromTrustedArray 107 = .ok (.iconst 1, 1) := dk_4 (dk_at dksJ24_listFromTrustedArray_5 3 rfl rfl)
theorem dJ24_listFromTrustedArray_108 : decode cJ24_listFromTrustedArray 108 = .ok (.aaload, 1) := dk_50 (dk_at dksJ24_listFromTrustedArray_5 4 rfl rfl)
theorem dJ24_listFromTrustedArray_109 : decode cJ24_listFromTrustedArray 109 = .ok (.invokespecial 67, 3) := dk_183 0 67 (dk_at dksJ24_listFromTrustedArray_5 5 rfl rfl)
theorem dJ24_listFromTrustedArray_112 : decode cJ24_listFromTrustedArray 112 = .ok (.goto 12, 3) := dk_167 0 12 (dk_at dksJ24_listFromTrustedArray_5 8 rfl rfl)
theorem dJ24_listFromTrustedArray_115 : decode cJ24_listFromTrustedArray 115 = .ok (.new 12, 3) := dk_187 0 12 (dk_at dksJ24_listFromTrustedArray_5 11 rfl rfl)
theorem dJ24_listFromTrustedArray_118 : decode cJ24_listFromTrustedArray 118 = .ok (.dup, 1) := dk_89 (dk_at dksJ24_listFromTrustedArray_5 14 rfl rfl)
theorem dJ24_listFromTrustedArray_119 : decode cJ24_listFromTrustedArray 119 = .ok (.aload_n 0, 1) := dk_42 (dk_at dksJ24_listFromTrustedArray_5 15 rfl rfl)
theorem dJ24_listFromTrustedArray_120 : decode cJ24_listFromTrustedArray 120 = .ok (.iconst 0, 1) := dk_3 (dk_at dksJ24_listFromTrustedArray_5 16 rfl rfl)
theorem dJ24_listFromTrustedArray_121 : decode cJ24_listFromTrustedArray 121 = .ok (.invokespecial 43, 3) := dk_183 0 43 (dk_at dksJ24_listFromTrustedArray_5 17 rfl rfl)
theorem dJ24_listFromTrustedArray_124 : decode cJ24_listFromTrustedArray 124 = .ok (.areturn, 1) := dk_176 (dk_at dksJ24_listFromTrustedArray_5 20 rfl rfl)
theorem q120 : (Jvm.Cond.initialized "java/util/ImmutableCollections") ∈ lw_all := lw_g (lw_at lw_m1 37 rfl) rfl
theorem q1172 : (Jvm.Cond.laysStatic "java/util/ImmutableCollections" "EMPTY" "Ljava/lang/Object;") ∈ lw_tbl := lw_at lw_m5 129 rfl
theorem q2309 : (Jvm.Cond.static ({ cls := "java/util/ImmutableCollections", name := "listFromTrustedArray", desc := "([Ljava/lang/Object;)Ljava/util/List;" } : Jvm.MethodName)) ∈ lw_all := lw_g (lw_at lw_m10 66 rfl) rfl
theorem q2310 : (Jvm.Cond.code ({ cls := "java/util/ImmutableCollections", name := "listFromTrustedArray", desc := "([Ljava/lang/Object;)Ljava/util/List;" } : Jvm.MethodName) prog_78_method_5_code (5 : Nat) (Option.some (Jvm.ClassFile.FieldType.object "java/util/List"))) ∈ lw_all := lw_g (lw_at lw_m10 67 rfl) rfl
theorem q2311 : (Jvm.Cond.fieldLink "java/util/ImmutableCollections" (46 : Nat) "java/util/ImmutableCollections" "$assertionsDisabled" "Z") ∈ lw_all := lw_g (lw_at lw_m10 68 rfl) rfl
theorem q2312 : (Jvm.Cond.laysStatic "java/util/ImmutableCollections" "$assertionsDisabled" "Z") ∈ lw_tbl := lw_at lw_m10 69 rfl
theorem q2313 : (Jvm.Cond.methodLink "java/util/ImmutableCollections" (51 : Nat) ({ cls := "java/lang/Object", name := "getClass", desc := "()Ljava/lang/Class;" } : Jvm.MethodName)) ∈ lw_all := lw_g (lw_at lw_m10 70 rfl) rfl
theorem q2314 : (Jvm.Cond.classLink "java/util/ImmutableCollections" (55 : Nat) "[Ljava/lang/Object;") ∈ lw_all := lw_g (lw_at lw_m10 71 rfl) rfl
theorem q2315 : (Jvm.Cond.methodLink "java/util/ImmutableCollections" (37 : Nat) ({ cls := "java/util/Objects", name := "requireNonNull", desc := "(Ljava/lang/Object;)Ljava/lang/Object;" } : Jvm.MethodName)) ∈ lw_all := lw_g (lw_at lw_m10 72 rfl) rfl
theorem q2318 : (Jvm.Cond.fieldLink "java/util/ImmutableCollections" (60 : Nat) "java/util/ImmutableCollections" "EMPTY_LIST" "Ljava/util/ImmutableCollections$ListN;") ∈ lw_all := lw_g (lw_at lw_m10 75 rfl) rfl
theorem q2319 : (Jvm.Cond.laysStatic "java/util/ImmutableCollections" "EMPTY_LIST" "Ljava/util/ImmutableCollections$ListN;") ∈ lw_tbl := lw_at lw_m10 76 rfl
theorem q2320 : (Jvm.Cond.classLink "java/util/ImmutableCollections" (10 : Nat) "java/util/ImmutableCollections$List12") ∈ lw_all := lw_g (lw_at lw_m10 77 rfl) rfl
theorem q2322 : (Jvm.Cond.methodLink "java/util/ImmutableCollections" (64 : Nat) ({ cls := "java/util/ImmutableCollections$List12", name := "<init>", desc := "(Ljava/lang/Object;)V" } : Jvm.MethodName)) ∈ lw_all := lw_g (lw_at lw_m10 79 rfl) rfl
theorem q2340 : (Jvm.Cond.methodLink "java/util/ImmutableCollections" (67 : Nat) ({ cls := "java/util/ImmutableCollections$List12", name := "<init>", desc := "(Ljava/lang/Object;Ljava/lang/Object;)V" } : Jvm.MethodName)) ∈ lw_all := lw_g (lw_at lw_m10 97 rfl) rfl
theorem q2343 : (Jvm.Cond.classLink "java/util/ImmutableCollections" (12 : Nat) "java/util/ImmutableCollections$ListN") ∈ lw_all := lw_g (lw_at lw_m10 100 rfl) rfl
theorem q2345 : (Jvm.Cond.methodLinkNest "java/util/ImmutableCollections" (43 : Nat) ({ cls := "java/util/ImmutableCollections$ListN", name := "<init>", desc := "([Ljava/lang/Object;Z)V" } : Jvm.MethodName) "java/util/ImmutableCollections") ∈ lw_tbl := lw_at lw_m10 102 rfl

/-! java/lang/Number -/
set_option maxRecDepth 100000
def RJ25 : String := "java/lang/Number"
abbrev cJ25_init : ByteArray := prog_48_method_1_code
def yJ25_init : MethodName := ⟨RJ25, "<init>", "()V"⟩
theorem dJ25_init_0 : decode cJ25_init 0 = .ok (.aload_n 0, 1) := by decide +kernel
theorem dJ25_init_1 : decode cJ25_init 1 = .ok (.invokespecial 1, 3) := by decide +kernel
theorem dJ25_init_4 : decode cJ25_init 4 = .ok (.return_, 1) := by decide +kernel
theorem q121 : (Jvm.Cond.initialized "java/lang/Number") ∈ lw_all := lw_g (lw_at lw_m1 38 rfl) rfl
theorem q1222 : (Jvm.Cond.instanceMethod ({ cls := "java/lang/Number", name := "<init>", desc := "()V" } : Jvm.MethodName)) ∈ lw_all := lw_g (lw_at lw_m5 179 rfl) rfl
theorem q1223 : (Jvm.Cond.code ({ cls := "java/lang/Number", name := "<init>", desc := "()V" } : Jvm.MethodName) prog_48_method_1_code (1 : Nat) (Option.none : Option Jvm.ClassFile.FieldType)) ∈ lw_all := lw_g (lw_at lw_m5 180 rfl) rfl
theorem q1224 : (Jvm.Cond.methodLink "java/lang/Number" (1 : Nat) ({ cls := "java/lang/Object", name := "<init>", desc := "()V" } : Jvm.MethodName)) ∈ lw_all := lw_g (lw_at lw_m5 181 rfl) rfl

/-! java/lang/Integer -/
set_option maxRecDepth 100000
def RJ26 : String := "java/lang/Integer"
def TJ26 : u_T := fun k => match k with
  | _ => ("java/lang/Integer", "value", "I", true)
def tyJ26 : Nat → FieldType := fun k => match k with
  | _ => .int
abbrev wsJ260 : List Cond := u_ws RJ26 TJ26 1
theorem nmJ26 : ∀ a, a < 1 → ∀ b, b < 1 → a ≠ b → (TJ26 a).2.1 ≠ (TJ26 b).2.1 := by decide +kernel
theorem tyJ26_ok : ∀ k, k < 1 → parseFieldDescriptor (TJ26 k).2.2.1 = some (tyJ26 k) := by decide +kernel
abbrev cJ26_intValue : ByteArray := prog_43_method_27_code
def yJ26_intValue : MethodName := ⟨RJ26, "intValue", "()I"⟩
theorem dJ26_intValue_0 : decode cJ26_intValue 0 = .ok (.aload_n 0, 1) := by decide +kernel
theorem dJ26_intValue_1 : decode cJ26_intValue 1 = .ok (.getfield 205, 3) := by decide +kernel
theorem dJ26_intValue_4 : decode cJ26_intValue 4 = .ok (.ireturn, 1) := by decide +kernel
abbrev cJ26_valueOf : ByteArray := prog_43_method_22_code
def yJ26_valueOf : MethodName := ⟨RJ26, "valueOf", "(I)Ljava/lang/Integer;"⟩
def dkwJ26_valueOf_1 : List UInt8 := [187, 0, 1, 89, 26, 183, 0, 199, 176]
abbrev dktJ26_valueOf_1 : List UInt8 := dkwJ26_valueOf_1 ++ []
def dkwJ26_valueOf_0 : List UInt8 := [26, 16, 128, 161, 0, 20, 26, 178, 0, 191, 163, 0, 13, 178, 0, 195, 26, 17, 0, 128, 96, 50, 176]
abbrev dktJ26_valueOf_0 : List UInt8 := dkwJ26_valueOf_0 ++ dktJ26_valueOf_1
theorem dksJ26_valueOf_0 : cJ26_valueOf.data.toList.drop 0 = dktJ26_valueOf_0 := by decide +kernel
theorem dksJ26_valueOf_1 : cJ26_valueOf.data.toList.drop 23 = dktJ26_valueOf_1 := dk_seg dksJ26_valueOf_0 23 rfl rfl
theorem dJ26_valueOf_0 : decode cJ26_valueOf 0 = .ok (.iload_n 0, 1) := dk_26 (dk_at dksJ26_valueOf_0 0 rfl rfl)
theorem dJ26_valueOf_1 : decode cJ26_valueOf 1 = .ok (.bipush (-128), 2) := dk_16 128 (dk_at dksJ26_valueOf_0 1 rfl rfl)
theorem dJ26_valueOf_3 : decode cJ26_valueOf 3 = .ok (.if_icmp .lt 20, 3) := dk_161 0 20 (dk_at dksJ26_valueOf_0 3 rfl rfl)
theorem dJ26_valueOf_6 : decode cJ26_valueOf 6 = .ok (.iload_n 0, 1) := dk_26 (dk_at dksJ26_valueOf_0 6 rfl rfl)
theorem dJ26_valueOf_7 : decode cJ26_valueOf 7 = .ok (.getstatic 191, 3) := dk_178 0 191 (dk_at dksJ26_valueOf_0 7 rfl rfl)
theorem dJ26_valueOf_10 : decode cJ26_valueOf 10 = .ok (.if_icmp .gt 13, 3) := dk_163 0 13 (dk_at dksJ26_valueOf_0 10 rfl rfl)
theorem dJ26_valueOf_13 : decode cJ26_valueOf 13 = .ok (.getstatic 195, 3) := dk_178 0 195 (dk_at dksJ26_valueOf_0 13 rfl rfl)
theorem dJ26_valueOf_16 : decode cJ26_valueOf 16 = .ok (.iload_n 0, 1) := dk_26 (dk_at dksJ26_valueOf_0 16 rfl rfl)
theorem dJ26_valueOf_17 : decode cJ26_valueOf 17 = .ok (.sipush 128, 3) := dk_17 0 128 (dk_at dksJ26_valueOf_0 17 rfl rfl)
theorem dJ26_valueOf_20 : decode cJ26_valueOf 20 = .ok (.iadd, 1) := dk_96 (dk_at dksJ26_valueOf_0 20 rfl rfl)
theorem dJ26_valueOf_21 : decode cJ26_valueOf 21 = .ok (.aaload, 1) := dk_50 (dk_at dksJ26_valueOf_0 21 rfl rfl)
theorem dJ26_valueOf_22 : decode cJ26_valueOf 22 = .ok (.areturn, 1) := dk_176 (dk_at dksJ26_valueOf_0 22 rfl rfl)
theorem dJ26_valueOf_23 : decode cJ26_valueOf 23 = .ok (.new 1, 3) := dk_187 0 1 (dk_at dksJ26_valueOf_1 0 rfl rfl)
theorem dJ26_valueOf_26 : decode cJ26_valueOf 26 = .ok (.dup, 1) := dk_89 (dk_at dksJ26_valueOf_1 3 rfl rfl)
theorem dJ26_valueOf_27 : decode cJ26_valueOf 27 = .ok (.iload_n 0, 1) := dk_26 (dk_at dksJ26_valueOf_1 4 rfl rfl)
theorem dJ26_valueOf_28 : decode cJ26_valueOf 28 = .ok (.invokespecial 199, 3) := dk_183 0 199 (dk_at dksJ26_valueOf_1 5 rfl rfl)
theorem dJ26_valueOf_31 : decode cJ26_valueOf 31 = .ok (.areturn, 1) := dk_176 (dk_at dksJ26_valueOf_1 8 rfl rfl)
abbrev cJ26_init : ByteArray := prog_43_method_23_code
def yJ26_init : MethodName := ⟨RJ26, "<init>", "(I)V"⟩
def dkwJ26_init_0 : List UInt8 := [42, 183, 0, 202, 42, 27, 181, 0, 205, 177]
abbrev dktJ26_init_0 : List UInt8 := dkwJ26_init_0 ++ []
theorem dksJ26_init_0 : cJ26_init.data.toList.drop 0 = dktJ26_init_0 := by decide +kernel
theorem dJ26_init_0 : decode cJ26_init 0 = .ok (.aload_n 0, 1) := dk_42 (dk_at dksJ26_init_0 0 rfl rfl)
theorem dJ26_init_1 : decode cJ26_init 1 = .ok (.invokespecial 202, 3) := dk_183 0 202 (dk_at dksJ26_init_0 1 rfl rfl)
theorem dJ26_init_4 : decode cJ26_init 4 = .ok (.aload_n 0, 1) := dk_42 (dk_at dksJ26_init_0 4 rfl rfl)
theorem dJ26_init_5 : decode cJ26_init 5 = .ok (.iload_n 1, 1) := dk_27 (dk_at dksJ26_init_0 5 rfl rfl)
theorem dJ26_init_6 : decode cJ26_init 6 = .ok (.putfield 205, 3) := dk_181 0 205 (dk_at dksJ26_init_0 6 rfl rfl)
theorem dJ26_init_9 : decode cJ26_init 9 = .ok (.return_, 1) := dk_177 (dk_at dksJ26_init_0 9 rfl rfl)
abbrev cJ26_numberOfTrailingZeros : ByteArray := prog_43_method_48_code
def yJ26_numberOfTrailingZeros : MethodName := ⟨RJ26, "numberOfTrailingZeros", "(I)I"⟩
def dkwJ26_numberOfTrailingZeros_3 : List UInt8 := [5, 124, 59, 27, 26, 4, 124, 96, 172]
abbrev dktJ26_numberOfTrailingZeros_3 : List UInt8 := dkwJ26_numberOfTrailingZeros_3 ++ []
def dkwJ26_numberOfTrailingZeros_2 : List UInt8 := [124, 59, 26, 16, 16, 164, 0, 10, 132, 1, 4, 26, 7, 124, 59, 26, 7, 164, 0, 10, 132, 1, 2, 26]
abbrev dktJ26_numberOfTrailingZeros_2 : List UInt8 := dkwJ26_numberOfTrailingZeros_2 ++ dktJ26_numberOfTrailingZeros_3
def dkwJ26_numberOfTrailingZeros_1 : List UInt8 := [164, 0, 11, 132, 1, 16, 26, 16, 16, 124, 59, 26, 17, 1, 0, 164, 0, 11, 132, 1, 8, 26, 16, 8]
abbrev dktJ26_numberOfTrailingZeros_1 : List UInt8 := dkwJ26_numberOfTrailingZeros_1 ++ dktJ26_numberOfTrailingZeros_2
def dkwJ26_numberOfTrailingZeros_0 : List UInt8 := [26, 2, 130, 26, 4, 100, 126, 59, 26, 157, 0, 8, 26, 16, 32, 126, 172, 4, 60, 26, 19, 1, 8]
abbrev dktJ26_numberOfTrailingZeros_0 : List UInt8 := dkwJ26_numberOfTrailingZeros_0 ++ dktJ26_numberOfTrailingZeros_1
theorem dksJ26_numberOfTrailingZeros_0 : cJ26_numberOfTrailingZeros.data.toList.drop 0 = dktJ26_numberOfTrailingZeros_0 := by decide +kernel
theorem dksJ26_numberOfTrailingZeros_1 : cJ26_numberOfTrailingZeros.data.toList.drop 23 = dktJ26_numberOfTrailingZeros_1 := dk_seg dksJ26_numberOfTrailingZeros_0 23 rfl rfl
theorem dksJ26_numberOfTrailingZeros_2 : cJ26_numberOfTrailingZeros.data.toList.drop 47 = dktJ26_numberOfTrailingZeros_2 := dk_seg dksJ26_numberOfTrailingZeros_1 24 rfl rfl
theorem dksJ26_numberOfTrailingZeros_3 : cJ26_numberOfTrailingZeros.data.toList.drop 71 = dktJ26_numberOfTrailingZeros_3 := dk_seg dksJ26_numberOfTrailingZeros_2 24 rfl rfl
theorem dJ26_numberOfTrailingZeros_0 : decode cJ26_numberOfTrailingZeros 0 = .ok (.iload_n 0, 1) := dk_26 (dk_at dksJ26_numberOfTrailingZeros_0 0 rfl rfl)
theorem dJ26_numberOfTrailingZeros_1 : decode cJ26_numberOfTrailingZeros 1 = .ok (.iconst (-1), 1) := dk_2 (dk_at dksJ26_numberOfTrailingZeros_0 1 rfl rfl)
theorem dJ26_numberOfTrailingZeros_2 : decode cJ26_numberOfTrailingZeros 2 = .ok (.ixor, 1) := dk_130 (dk_at dksJ26_numberOfTrailingZeros_0 2 rfl rfl)
theorem dJ26_numberOfTrailingZeros_3 : decode cJ26_numberOfTrailingZeros 3 = .ok (.iload_n 0, 1) := dk_26 (dk_at dksJ26_numberOfTrailingZeros_0 3 rfl rfl)
theorem dJ26_numberOfTrailingZeros_4 : decode cJ26_numberOfTrailingZeros 4 = .ok (.iconst 1, 1) := dk_4 (dk_at dksJ26_numberOfTrailingZeros_0 4 rfl rfl)
theorem dJ26_numberOfTrailingZeros_5 : decode cJ26_numberOfTrailingZeros 5 = .ok (.isub, 1) := dk_100 (dk_at dksJ26_numberOfTrailingZeros_0 5 rfl rfl)
theorem dJ26_numberOfTrailingZeros_6 : decode cJ26_numberOfTrailingZeros 6 = .ok (.iand, 1) := dk_126 (dk_at dksJ26_numberOfTrailingZeros_0 6 rfl rfl)
theorem dJ26_numberOfTrailingZeros_7 : decode cJ26_numberOfTrailingZeros 7 = .ok (.istore_n 0, 1) := dk_59 (dk_at dksJ26_numberOfTrailingZeros_0 7 rfl rfl)
theorem dJ26_numberOfTrailingZeros_8 : decode cJ26_numberOfTrailingZeros 8 = .ok (.iload_n 0, 1) := dk_26 (dk_at dksJ26_numberOfTrailingZeros_0 8 rfl rfl)
theorem dJ26_numberOfTrailingZeros_9 : decode cJ26_numberOfTrailingZeros 9 = .ok (.ifCond .gt 8, 3) := dk_157 0 8 (dk_at dksJ26_numberOfTrailingZeros_0 9 rfl rfl)
theorem dJ26_numberOfTrailingZeros_12 : decode cJ26_numberOfTrailingZeros 12 = .ok (.iload_n 0, 1) := dk_26 (dk_at dksJ26_numberOfTrailingZeros_0 12 rfl rfl)
theorem dJ26_numberOfTrailingZeros_13 : decode cJ26_numberOfTrailingZeros 13 = .ok (.bipush 32, 2) := dk_16 32 (dk_at dksJ26_numberOfTrailingZeros_0 13 rfl rfl)
theorem dJ26_numberOfTrailingZeros_15 : decode cJ26_numberOfTrailingZeros 15 = .ok (.iand, 1) := dk_126 (dk_at dksJ26_numberOfTrailingZeros_0 15 rfl rfl)
theorem dJ26_numberOfTrailingZeros_16 : decode cJ26_numberOfTrailingZeros 16 = .ok (.ireturn, 1) := dk_172 (dk_at dksJ26_numberOfTrailingZeros_0 16 rfl rfl)
theorem dJ26_numberOfTrailingZeros_17 : decode cJ26_numberOfTrailingZeros 17 = .ok (.iconst 1, 1) := dk_4 (dk_at dksJ26_numberOfTrailingZeros_0 17 rfl rfl)
theorem dJ26_numberOfTrailingZeros_18 : decode cJ26_numberOfTrailingZeros 18 = .ok (.istore_n 1, 1) := dk_60 (dk_at dksJ26_numberOfTrailingZeros_0 18 rfl rfl)
theorem dJ26_numberOfTrailingZeros_19 : decode cJ26_numberOfTrailingZeros 19 = .ok (.iload_n 0, 1) := dk_26 (dk_at dksJ26_numberOfTrailingZeros_0 19 rfl rfl)
theorem dJ26_numberOfTrailingZeros_20 : decode cJ26_numberOfTrailingZeros 20 = .ok (.ldc_w 264, 3) := dk_19 1 8 (dk_at dksJ26_numberOfTrailingZeros_0 20 rfl rfl)
theorem dJ26_numberOfTrailingZeros_23 : decode cJ26_numberOfTrailingZeros 23 = .ok (.if_icmp .le 11, 3) := dk_164 0 11 (dk_at dksJ26_numberOfTrailingZeros_1 0 rfl rfl)
theorem dJ26_numberOfTrailingZeros_26 : decode cJ26_numberOfTrailingZeros 26 = .ok (.iinc 1 16, 3) := dk_132 1 16 (dk_at dksJ26_numberOfTrailingZeros_1 3 rfl rfl)
theorem dJ26_numberOfTrailingZeros_29 : decode cJ26_numberOfTrailingZeros 29 = .ok (.iload_n 0, 1) := dk_26 (dk_at dksJ26_numberOfTrailingZeros_1 6 rfl rfl)
theorem dJ26_numberOfTrailingZeros_30 : decode cJ26_numberOfTrailingZeros 30 = .ok (.bipush 16, 2) := dk_16 16 (dk_at dksJ26_numberOfTrailingZeros_1 7 rfl rfl)
theorem dJ26_numberOfTrailingZeros_32 : decode cJ26_numberOfTrailingZeros 32 = .ok (.iushr, 1) := dk_124 (dk_at dksJ26_numberOfTrailingZeros_1 9 rfl rfl)
theorem dJ26_numberOfTrailingZeros_33 : decode cJ26_numberOfTrailingZeros 33 = .ok (.istore_n 0, 1) := dk_59 (dk_at dksJ26_numberOfTrailingZeros_1 10 rfl rfl)
theorem dJ26_numberOfTrailingZeros_34 : decode cJ26_numberOfTrailingZeros 34 = .ok (.iload_n 0, 1) := dk_26 (dk_at dksJ26_numberOfTrailingZeros_1 11 rfl rfl)
theorem dJ26_numberOfTrailingZeros_35 : decode cJ26_numberOfTrailingZeros 35 = .ok (.sipush 256, 3) := dk_17 1 0 (dk_at dksJ26_numberOfTrailingZeros_1 12 rfl rfl)
theorem dJ26_numberOfTrailingZeros_38 : decode cJ26_numberOfTrailingZeros 38 = .ok (.if_icmp .le 11, 3) := dk_164 0 11 (dk_at dksJ26_numberOfTrailingZeros_1 15 rfl rfl)
theorem dJ26_numberOfTrailingZeros_41 : decode cJ26_numberOfTrailingZeros 41 = .ok (.iinc 1 8, 3) := dk_132 1 8 (dk_at dksJ26_numberOfTrailingZeros_1 18 rfl rfl)
theorem dJ26_numberOfTrailingZeros_44 : decode cJ26_numberOfTrailingZeros 44 = .ok (.iload_n 0, 1) := dk_26 (dk_at dksJ26_numberOfTrailingZeros_1 21 rfl rfl)
theorem dJ26_numberOfTrailingZeros_45 : decode cJ26_numberOfTrailingZeros 45 = .ok (.bipush 8, 2) := dk_16 8 (dk_at dksJ26_numberOfTrailingZeros_1 22 rfl rfl)
theorem dJ26_numberOfTrailingZeros_47 : decode cJ26_numberOfTrailingZeros 47 = .ok (.iushr, 1) := dk_124 (dk_at dksJ26_numberOfTrailingZeros_2 0 rfl rfl)
theorem dJ26_numberOfTrailingZeros_48 : decode cJ26_numberOfTrailingZeros 48 = .ok (.istore_n 0, 1) := dk_59 (dk_at dksJ26_numberOfTrailingZeros_2 1 rfl rfl)
theorem dJ26_numberOfTrailingZeros_49 : decode cJ26_numberOfTrailingZeros 49 = .ok (.iload_n 0, 1) := dk_26 (dk_at dksJ26_numberOfTrailingZeros_2 2 rfl rfl)
theorem dJ26_numberOfTrailingZeros_50 : decode cJ26_numberOfTrailingZeros 50 = .ok (.bipush 16, 2) := dk_16 16 (dk_at dksJ26_numberOfTrailingZeros_2 3 rfl rfl)
theorem dJ26_numberOfTrailingZeros_52 : decode cJ26_numberOfTrailingZeros 52 = .ok (.if_icmp .le 10, 3) := dk_164 0 10 (dk_at dksJ26_numberOfTrailingZeros_2 5 rfl rfl)
theorem dJ26_numberOfTrailingZeros_55 : decode cJ26_numberOfTrailingZeros 55 = .ok (.iinc 1 4, 3) := dk_132 1 4 (dk_at dksJ26_numberOfTrailingZeros_2 8 rfl rfl)
theorem dJ26_numberOfTrailingZeros_58 : decode cJ26_numberOfTrailingZeros 58 = .ok (.iload_n 0, 1) := dk_26 (dk_at dksJ26_numberOfTrailingZeros_2 11 rfl rfl)
theorem dJ26_numberOfTrailingZeros_59 : decode cJ26_numberOfTrailingZeros 59 = .ok (.iconst 4, 1) := dk_7 (dk_at dksJ26_numberOfTrailingZeros_2 12 rfl rfl)
theorem dJ26_numberOfTrailingZeros_60 : decode cJ26_numberOfTrailingZeros 60 = .ok (.iushr, 1) := dk_124 (dk_at dksJ26_numberOfTrailingZeros_2 13 rfl rfl)
theorem dJ26_numberOfTrailingZeros_61 : decode cJ26_numberOfTrailingZeros 61 = .ok (.istore_n 0, 1) := dk_59 (dk_at dksJ26_numberOfTrailingZeros_2 14 rfl rfl)
theorem dJ26_numberOfTrailingZeros_62 : decode cJ26_numberOfTrailingZeros 62 = .ok (.iload_n 0, 1) := dk_26 (dk_at dksJ26_numberOfTrailingZeros_2 15 rfl rfl)
theorem dJ26_numberOfTrailingZeros_63 : decode cJ26_numberOfTrailingZeros 63 = .ok (.iconst 4, 1) := dk_7 (dk_at dksJ26_numberOfTrailingZeros_2 16 rfl rfl)
theorem dJ26_numberOfTrailingZeros_64 : decode cJ26_numberOfTrailingZeros 64 = .ok (.if_icmp .le 10, 3) := dk_164 0 10 (dk_at dksJ26_numberOfTrailingZeros_2 17 rfl rfl)
theorem dJ26_numberOfTrailingZeros_67 : decode cJ26_numberOfTrailingZeros 67 = .ok (.iinc 1 2, 3) := dk_132 1 2 (dk_at dksJ26_numberOfTrailingZeros_2 20 rfl rfl)
theorem dJ26_numberOfTrailingZeros_70 : decode cJ26_numberOfTrailingZeros 70 = .ok (.iload_n 0, 1) := dk_26 (dk_at dksJ26_numberOfTrailingZeros_2 23 rfl rfl)
theorem dJ26_numberOfTrailingZeros_71 : decode cJ26_numberOfTrailingZeros 71 = .ok (.iconst 2, 1) := dk_5 (dk_at dksJ26_numberOfTrailingZeros_3 0 rfl rfl)
theorem dJ26_numberOfTrailingZeros_72 : decode cJ26_numberOfTrailingZeros 72 = .ok (.iushr, 1) := dk_124 (dk_at dksJ26_numberOfTrailingZeros_3 1 rfl rfl)
theorem dJ26_numberOfTrailingZeros_73 : decode cJ26_numberOfTrailingZeros 73 = .ok (.istore_n 0, 1) := dk_59 (dk_at dksJ26_numberOfTrailingZeros_3 2 rfl rfl)
theorem dJ26_numberOfTrailingZeros_74 : decode cJ26_numberOfTrailingZeros 74 = .ok (.iload_n 1, 1) := dk_27 (dk_at dksJ26_numberOfTrailingZeros_3 3 rfl rfl)
theorem dJ26_numberOfTrailingZeros_75 : decode cJ26_numberOfTrailingZeros 75 = .ok (.iload_n 0, 1) := dk_26 (dk_at dksJ26_numberOfTrailingZeros_3 4 rfl rfl)
theorem dJ26_numberOfTrailingZeros_76 : decode cJ26_numberOfTrailingZeros 76 = .ok (.iconst 1, 1) := dk_4 (dk_at dksJ26_numberOfTrailingZeros_3 5 rfl rfl)
theorem dJ26_numberOfTrailingZeros_77 : decode cJ26_numberOfTrailingZeros 77 = .ok (.iushr, 1) := dk_124 (dk_at dksJ26_numberOfTrailingZeros_3 6 rfl rfl)
theorem dJ26_numberOfTrailingZeros_78 : decode cJ26_numberOfTrailingZeros 78 = .ok (.iadd, 1) := dk_96 (dk_at dksJ26_numberOfTrailingZeros_3 7 rfl rfl)
theorem dJ26_numberOfTrailingZeros_79 : decode cJ26_numberOfTrailingZeros 79 = .ok (.ireturn, 1) := dk_172 (dk_at dksJ26_numberOfTrailingZeros_3 8 rfl rfl)
theorem q122 : (Jvm.Cond.initialized "java/lang/Integer") ∈ lw_all := lw_g (lw_at lw_m1 39 rfl) rfl
theorem q574 : (Jvm.Cond.selects "java/lang/Integer" ({ cls := "java/lang/Object", name := "getClass", desc := "()Ljava/lang/Class;" } : Jvm.MethodName) ({ cls := "java/lang/Object", name := "getClass", desc := "()Ljava/lang/Class;" } : Jvm.MethodName)) ∈ lw_all := lw_g (lw_at lw_m3 11 rfl) rfl
theorem q1206 : (Jvm.Cond.instanceMethod ({ cls := "java/lang/Integer", name := "intValue", desc := "()I" } : Jvm.MethodName)) ∈ lw_all := lw_g (lw_at lw_m5 163 rfl) rfl
theorem q1207 : (Jvm.Cond.selects "java/lang/Integer" ({ cls := "java/lang/Integer", name := "intValue", desc := "()I" } : Jvm.MethodName) ({ cls := "java/lang/Integer", name := "intValue", desc := "()I" } : Jvm.MethodName)) ∈ lw_all := lw_g (lw_at lw_m5 164 rfl) rfl
theorem q1208 : (Jvm.Cond.code ({ cls := "java/lang/Integer", name := "intValue", desc := "()I" } : Jvm.MethodName) prog_43_method_27_code (1 : Nat) (Option.some Jvm.ClassFile.FieldType.int)) ∈ lw_all := lw_g (lw_at lw_m5 165 rfl) rfl
theorem q1210 : (Jvm.Cond.static ({ cls := "java/lang/Integer", name := "valueOf", desc := "(I)Ljava/lang/Integer;" } : Jvm.MethodName)) ∈ lw_all := lw_g (lw_at lw_m5 167 rfl) rfl
theorem q1211 : (Jvm.Cond.code ({ cls := "java/lang/Integer", name := "valueOf", desc := "(I)Ljava/lang/Integer;" } : Jvm.MethodName) prog_43_method_22_code (1 : Nat) (Option.some (Jvm.ClassFile.FieldType.object "java/lang/Integer"))) ∈ lw_all := lw_g (lw_at lw_m5 168 rfl) rfl
theorem q1212 : (Jvm.Cond.fieldLink "java/lang/Integer" (191 : Nat) "java/lang/Integer$IntegerCache" "high" "I") ∈ lw_all := lw_g (lw_at lw_m5 169 rfl) rfl
theorem q1214 : (Jvm.Cond.fieldLink "java/lang/Integer" (195 : Nat) "java/lang/Integer$IntegerCache" "cache" "[Ljava/lang/Integer;") ∈ lw_all := lw_g (lw_at lw_m5 171 rfl) rfl
theorem q1216 : (Jvm.Cond.classLink "java/lang/Integer" (1 : Nat) "java/lang/Integer") ∈ lw_all := lw_g (lw_at lw_m5 173 rfl) rfl
theorem q1217 : (Jvm.Cond.instantiable "java/lang/Integer" (1 : Nat)) ∈ lw_all := lw_g (lw_at lw_m5 174 rfl) rfl
theorem q1218 : (Jvm.Cond.methodLink "java/lang/Integer" (199 : Nat) ({ cls := "java/lang/Integer", name := "<init>", desc := "(I)V" } : Jvm.MethodName)) ∈ lw_all := lw_g (lw_at lw_m5 175 rfl) rfl
theorem q1219 : (Jvm.Cond.instanceMethod ({ cls := "java/lang/Integer", name := "<init>", desc := "(I)V" } : Jvm.MethodName)) ∈ lw_all := lw_g (lw_at lw_m5 176 rfl) rfl
theorem q1220 : (Jvm.Cond.code ({ cls := "java/lang/Integer", name := "<init>", desc := "(I)V" } : Jvm.MethodName) prog_43_method_23_code (2 : Nat) (Option.none : Option Jvm.ClassFile.FieldType)) ∈ lw_all := lw_g (lw_at lw_m5 177 rfl) rfl
theorem q1221 : (Jvm.Cond.methodLink "java/lang/Integer" (202 : Nat) ({ cls := "java/lang/Number", name := "<init>", desc := "()V" } : Jvm.MethodName)) ∈ lw_all := lw_g (lw_at lw_m5 178 rfl) rfl
theorem q1225 : (Jvm.Cond.fieldLink "java/lang/Integer" (205 : Nat) "java/lang/Integer" "value" "I") ∈ lw_all := lw_g (lw_at lw_m5 182 rfl) rfl
theorem q1226 : (Jvm.Cond.laysFinal "java/lang/Integer" "java/lang/Integer" "value" "I") ∈ lw_all := lw_g (lw_at lw_m5 183 rfl) rfl
theorem q1227 : (Jvm.Cond.soleField "java/lang/Integer" "value") ∈ lw_all := lw_g (lw_at lw_m5 184 rfl) rfl
theorem q1228 : (Jvm.Cond.superclass "java/lang/Integer" "java/lang/Number") ∈ lw_all := lw_g (lw_at lw_m5 185 rfl) rfl
theorem q1856 : (Jvm.Cond.static ({ cls := "java/lang/Integer", name := "numberOfTrailingZeros", desc := "(I)I" } : Jvm.MethodName)) ∈ lw_all := lw_g (lw_at lw_m8 93 rfl) rfl
theorem q1857 : (Jvm.Cond.code ({ cls := "java/lang/Integer", name := "numberOfTrailingZeros", desc := "(I)I" } : Jvm.MethodName) prog_43_method_48_code (2 : Nat) (Option.some Jvm.ClassFile.FieldType.int)) ∈ lw_all := lw_g (lw_at lw_m8 94 rfl) rfl
theorem q1858 : (Jvm.Cond.constant "java/lang/Integer" (264 : Nat) (65536 : Int32)) ∈ lw_all := lw_g (lw_at lw_m8 95 rfl) rfl
theorem q3060 : (Jvm.Cond.castable "java/lang/Integer" "java/lang/Object") ∈ lw_tbl := lw_at lw_m13 97 rfl
theorem in_J26 : ∀ w ∈ wsJ260, w ∈ lw_all := lw_in wsJ260 [1226] (by decide +kernel) (by decide +kernel)

/-! java/util/LinkedList$Node -/
set_option maxRecDepth 100000
def RJ27 : String := "java/util/LinkedList$Node"
def TJ27 : u_T := fun k => match k with
  | 0 => ("java/util/LinkedList$Node", "item", "Ljava/lang/Object;", false)
  | 1 => ("java/util/LinkedList$Node", "next", "Ljava/util/LinkedList$Node;", false)
  | _ => ("java/util/LinkedList$Node", "prev", "Ljava/util/LinkedList$Node;", false)
def tyJ27 : Nat → FieldType := fun k => match k with
  | 0 => .object "java/lang/Object"
  | 1 => .object "java/util/LinkedList$Node"
  | _ => .object "java/util/LinkedList$Node"
abbrev wsJ270 : List Cond := u_ws RJ27 TJ27 3
theorem nmJ27 : ∀ a, a < 3 → ∀ b, b < 3 → a ≠ b → (TJ27 a).2.1 ≠ (TJ27 b).2.1 := by decide +kernel
theorem tyJ27_ok : ∀ k, k < 3 → parseFieldDescriptor (TJ27 k).2.2.1 = some (tyJ27 k) := by decide +kernel
abbrev cJ27_init : ByteArray := prog_87_method_1_code
def yJ27_init : MethodName := ⟨RJ27, "<init>", "(Ljava/util/LinkedList$Node;Ljava/lang/Object;Ljava/util/LinkedList$Node;)V"⟩
def dkwJ27_init_0 : List UInt8 := [42, 183, 0, 1, 42, 44, 181, 0, 7, 42, 45, 181, 0, 13, 42, 43, 181, 0, 17, 177]
abbrev dktJ27_init_0 : List UInt8 := dkwJ27_init_0 ++ []
theorem dksJ27_init_0 : cJ27_init.data.toList.drop 0 = dktJ27_init_0 := by decide +kernel
theorem dJ27_init_0 : decode cJ27_init 0 = .ok (.aload_n 0, 1) := dk_42 (dk_at dksJ27_init_0 0 rfl rfl)
theorem dJ27_init_1 : decode cJ27_init 1 = .ok (.invokespecial 1, 3) := dk_183 0 1 (dk_at dksJ27_init_0 1 rfl rfl)
theorem dJ27_init_4 : decode cJ27_init 4 = .ok (.aload_n 0, 1) := dk_42 (dk_at dksJ27_init_0 4 rfl rfl)
theorem dJ27_init_5 : decode cJ27_init 5 = .ok (.aload_n 2, 1) := dk_44 (dk_at dksJ27_init_0 5 rfl rfl)
theorem dJ27_init_6 : decode cJ27_init 6 = .ok (.putfield 7, 3) := dk_181 0 7 (dk_at dksJ27_init_0 6 rfl rfl)
theorem dJ27_init_9 : decode cJ27_init 9 = .ok (.aload_n 0, 1) := dk_42 (dk_at dksJ27_init_0 9 rfl rfl)
theorem dJ27_init_10 : decode cJ27_init 10 = .ok (.aload_n 3, 1) := dk_45 (dk_at dksJ27_init_0 10 rfl rfl)
theorem dJ27_init_11 : decode cJ27_init 11 = .ok (.putfield 13, 3) := dk_181 0 13 (dk_at dksJ27_init_0 11 rfl rfl)
theorem dJ27_init_14 : decode cJ27_init 14 = .ok (.aload_n 0, 1) := dk_42 (dk_at dksJ27_init_0 14 rfl rfl)
theorem dJ27_init_15 : decode cJ27_init 15 = .ok (.aload_n 1, 1) := dk_43 (dk_at dksJ27_init_0 15 rfl rfl)
theorem dJ27_init_16 : decode cJ27_init 16 = .ok (.putfield 17, 3) := dk_181 0 17 (dk_at dksJ27_init_0 16 rfl rfl)
theorem dJ27_init_19 : decode cJ27_init 19 = .ok (.return_, 1) := dk_177 (dk_at dksJ27_init_0 19 rfl rfl)
theorem q124 : (Jvm.Cond.initialized "java/util/LinkedList$Node") ∈ lw_all := lw_g (lw_at lw_m1 41 rfl) rfl
theorem q593 : (Jvm.Cond.selects "java/util/LinkedList$Node" ({ cls := "java/lang/Object", name := "getClass", desc := "()Ljava/lang/Class;" } : Jvm.MethodName) ({ cls := "java/lang/Object", name := "getClass", desc := "()Ljava/lang/Class;" } : Jvm.MethodName)) ∈ lw_all := lw_g (lw_at lw_m3 30 rfl) rfl
theorem q1238 : (Jvm.Cond.instantiable "java/util/LinkedList$Node" (3 : Nat)) ∈ lw_all := lw_g (lw_at lw_m5 195 rfl) rfl
theorem q1240 : (Jvm.Cond.instanceMethod ({ cls := "java/util/LinkedList$Node", name := "<init>", desc := "(Ljava/util/LinkedList$Node;Ljava/lang/Object;Ljava/util/LinkedList$Node;)V" } : Jvm.MethodName)) ∈ lw_all := lw_g (lw_at lw_m5 197 rfl) rfl
theorem q1241 : (Jvm.Cond.code ({ cls := "java/util/LinkedList$Node", name := "<init>", desc := "(Ljava/util/LinkedList$Node;Ljava/lang/Object;Ljava/util/LinkedList$Node;)V" } : Jvm.MethodName) prog_87_method_1_code (4 : Nat) (Option.none : Option Jvm.ClassFile.FieldType)) ∈ lw_all := lw_g (lw_at lw_m5 198 rfl) rfl
theorem q1242 : (Jvm.Cond.methodLink "java/util/LinkedList$Node" (1 : Nat) ({ cls := "java/lang/Object", name := "<init>", desc := "()V" } : Jvm.MethodName)) ∈ lw_all := lw_g (lw_at lw_m5 199 rfl) rfl
theorem q1243 : (Jvm.Cond.fieldLink "java/util/LinkedList$Node" (7 : Nat) "java/util/LinkedList$Node" "item" "Ljava/lang/Object;") ∈ lw_all := lw_g (lw_at lw_m5 200 rfl) rfl
theorem q1246 : (Jvm.Cond.fieldLink "java/util/LinkedList$Node" (13 : Nat) "java/util/LinkedList$Node" "next" "Ljava/util/LinkedList$Node;") ∈ lw_all := lw_g (lw_at lw_m5 203 rfl) rfl
theorem q1249 : (Jvm.Cond.fieldLink "java/util/LinkedList$Node" (17 : Nat) "java/util/LinkedList$Node" "prev" "Ljava/util/LinkedList$Node;") ∈ lw_all := lw_g (lw_at lw_m5 206 rfl) rfl
theorem q1251 : (Jvm.Cond.lays "java/util/LinkedList$Node" "java/util/LinkedList$Node" "item" "Ljava/lang/Object;") ∈ lw_all := lw_g (lw_at lw_m5 208 rfl) rfl
theorem q1252 : (Jvm.Cond.soleField "java/util/LinkedList$Node" "item") ∈ lw_all := lw_g (lw_at lw_m5 209 rfl) rfl
theorem q1253 : (Jvm.Cond.lays "java/util/LinkedList$Node" "java/util/LinkedList$Node" "next" "Ljava/util/LinkedList$Node;") ∈ lw_all := lw_g (lw_at lw_m5 210 rfl) rfl
theorem q1254 : (Jvm.Cond.soleField "java/util/LinkedList$Node" "next") ∈ lw_all := lw_g (lw_at lw_m5 211 rfl) rfl
theorem q1255 : (Jvm.Cond.lays "java/util/LinkedList$Node" "java/util/LinkedList$Node" "prev" "Ljava/util/LinkedList$Node;") ∈ lw_all := lw_g (lw_at lw_m5 212 rfl) rfl
theorem q1256 : (Jvm.Cond.soleField "java/util/LinkedList$Node" "prev") ∈ lw_all := lw_g (lw_at lw_m5 213 rfl) rfl
theorem q1257 : (Jvm.Cond.superclass "java/util/LinkedList$Node" "java/lang/Object") ∈ lw_all := lw_g (lw_at lw_m5 214 rfl) rfl
theorem q3061 : (Jvm.Cond.castable "java/util/LinkedList$Node" "java/lang/Object") ∈ lw_tbl := lw_at lw_m13 98 rfl
theorem in_J27 : ∀ w ∈ wsJ270, w ∈ lw_all := lw_in wsJ270 [1251, 1253, 1255] (by decide +kernel) (by decide +kernel)

/-! java/lang/IllegalStateException -/
set_option maxRecDepth 100000
def RJ28 : String := "java/lang/IllegalStateException"
def TJ28 : u_T := fun k => match k with
  | 0 => ("java/lang/Throwable", "cause", "Ljava/lang/Throwable;", false)
  | 1 => ("java/lang/Throwable", "stackTrace", "[Ljava/lang/StackTraceElement;", false)
  | 2 => ("java/lang/Throwable", "suppressedExceptions", "Ljava/util/List;", false)
  | 3 => ("java/lang/Throwable", "detailMessage", "Ljava/lang/String;", false)
  | 4 => ("java/lang/Throwable", "backtrace", "Ljava/lang/Object;", false)
  | _ => ("java/lang/Throwable", "depth", "I", false)
def tyJ28 : Nat → FieldType := fun k => match k with
  | 0 => .object "java/lang/Throwable"
  | 1 => .array (.object "java/lang/StackTraceElement")
  | 2 => .object "java/util/List"
  | 3 => .object "java/lang/String"
  | 4 => .object "java/lang/Object"
  | _ => .int
abbrev wsJ280 : List Cond := u_ws RJ28 TJ28 6
theorem nmJ28 : ∀ a, a < 6 → ∀ b, b < 6 → a ≠ b → (TJ28 a).2.1 ≠ (TJ28 b).2.1 := by decide +kernel
theorem tyJ28_ok : ∀ k, k < 6 → parseFieldDescriptor (TJ28 k).2.2.1 = some (tyJ28 k) := by decide +kernel
abbrev cJ28_init : ByteArray := prog_42_method_1_code
def yJ28_init : MethodName := ⟨RJ28, "<init>", "()V"⟩
theorem dJ28_init_0 : decode cJ28_init 0 = .ok (.aload_n 0, 1) := by decide +kernel
theorem dJ28_init_1 : decode cJ28_init 1 = .ok (.invokespecial 1, 3) := by decide +kernel
theorem dJ28_init_4 : decode cJ28_init 4 = .ok (.return_, 1) := by decide +kernel
theorem q126 : (Jvm.Cond.initialized "java/lang/IllegalStateException") ∈ lw_all := lw_g (lw_at lw_m1 43 rfl) rfl
theorem q573 : (Jvm.Cond.selects "java/lang/IllegalStateException" ({ cls := "java/lang/Object", name := "getClass", desc := "()Ljava/lang/Class;" } : Jvm.MethodName) ({ cls := "java/lang/Object", name := "getClass", desc := "()Ljava/lang/Class;" } : Jvm.MethodName)) ∈ lw_all := lw_g (lw_at lw_m3 10 rfl) rfl
theorem q851 : (Jvm.Cond.selects "java/lang/IllegalStateException" ({ cls := "java/lang/Throwable", name := "fillInStackTrace", desc := "()Ljava/lang/Throwable;" } : Jvm.MethodName) ({ cls := "java/lang/Throwable", name := "fillInStackTrace", desc := "()Ljava/lang/Throwable;" } : Jvm.MethodName)) ∈ lw_all := lw_g (lw_at lw_m4 48 rfl) rfl
theorem q878 : (Jvm.Cond.selects "java/lang/IllegalStateException" ({ cls := "java/lang/Throwable", name := "toString", desc := "()Ljava/lang/String;" } : Jvm.MethodName) ({ cls := "java/lang/Throwable", name := "toString", desc := "()Ljava/lang/String;" } : Jvm.MethodName)) ∈ lw_all := lw_g (lw_at lw_m4 75 rfl) rfl
theorem q890 : (Jvm.Cond.selects "java/lang/IllegalStateException" ({ cls := "java/lang/Throwable", name := "getLocalizedMessage", desc := "()Ljava/lang/String;" } : Jvm.MethodName) ({ cls := "java/lang/Throwable", name := "getLocalizedMessage", desc := "()Ljava/lang/String;" } : Jvm.MethodName)) ∈ lw_all := lw_g (lw_at lw_m4 87 rfl) rfl
theorem q901 : (Jvm.Cond.selects "java/lang/IllegalStateException" ({ cls := "java/lang/Throwable", name := "getMessage", desc := "()Ljava/lang/String;" } : Jvm.MethodName) ({ cls := "java/lang/Throwable", name := "getMessage", desc := "()Ljava/lang/String;" } : Jvm.MethodName)) ∈ lw_all := lw_g (lw_at lw_m4 98 rfl) rfl
theorem q1376 : (Jvm.Cond.instantiable "java/lang/IllegalStateException" (6 : Nat)) ∈ lw_all := lw_g (lw_at lw_m6 93 rfl) rfl
theorem q1377 : (Jvm.Cond.castable "java/lang/IllegalStateException" "java/lang/IllegalStateException") ∈ lw_tbl := lw_at lw_m6 94 rfl
theorem q1378 : (Jvm.Cond.selects "java/lang/IllegalStateException" ({ cls := "java/lang/Throwable", name := "fillInStackTrace", desc := "(I)Ljava/lang/Throwable;" } : Jvm.MethodName) ({ cls := "java/lang/Throwable", name := "fillInStackTrace", desc := "(I)Ljava/lang/Throwable;" } : Jvm.MethodName)) ∈ lw_all := lw_g (lw_at lw_m6 95 rfl) rfl
theorem q1379 : (Jvm.Cond.lays "java/lang/IllegalStateException" "java/lang/Throwable" "cause" "Ljava/lang/Throwable;") ∈ lw_all := lw_g (lw_at lw_m6 96 rfl) rfl
theorem q1380 : (Jvm.Cond.lays "java/lang/IllegalStateException" "java/lang/Throwable" "stackTrace" "[Ljava/lang/StackTraceElement;") ∈ lw_all := lw_g (lw_at lw_m6 97 rfl) rfl
theorem q1381 : (Jvm.Cond.lays "java/lang/IllegalStateException" "java/lang/Throwable" "suppressedExceptions" "Ljava/util/List;") ∈ lw_all := lw_g (lw_at lw_m6 98 rfl) rfl
theorem q1382 : (Jvm.Cond.lays "java/lang/IllegalStateException" "java/lang/Throwable" "detailMessage" "Ljava/lang/String;") ∈ lw_all := lw_g (lw_at lw_m6 99 rfl) rfl
theorem q1383 : (Jvm.Cond.lays "java/lang/IllegalStateException" "java/lang/Throwable" "backtrace" "Ljava/lang/Object;") ∈ lw_all := lw_g (lw_at lw_m6 100 rfl) rfl
theorem q1385 : (Jvm.Cond.instanceMethod ({ cls := "java/lang/IllegalStateException", name := "<init>", desc := "()V" } : Jvm.MethodName)) ∈ lw_all := lw_g (lw_at lw_m6 102 rfl) rfl
theorem q1386 : (Jvm.Cond.code ({ cls := "java/lang/IllegalStateException", name := "<init>", desc := "()V" } : Jvm.MethodName) prog_42_method_1_code (1 : Nat) (Option.none : Option Jvm.ClassFile.FieldType)) ∈ lw_all := lw_g (lw_at lw_m6 103 rfl) rfl
theorem q1387 : (Jvm.Cond.methodLink "java/lang/IllegalStateException" (1 : Nat) ({ cls := "java/lang/RuntimeException", name := "<init>", desc := "()V" } : Jvm.MethodName)) ∈ lw_all := lw_g (lw_at lw_m6 104 rfl) rfl
theorem q1388 : (Jvm.Cond.lays "java/lang/IllegalStateException" "java/lang/Throwable" "depth" "I") ∈ lw_all := lw_g (lw_at lw_m6 105 rfl) rfl
theorem q1389 : (Jvm.Cond.superclass "java/lang/IllegalStateException" "java/lang/RuntimeException") ∈ lw_all := lw_g (lw_at lw_m6 106 rfl) rfl
theorem q2578 : (Jvm.Cond.selects "java/lang/IllegalStateException" ({ cls := "java/lang/Throwable", name := "getCause", desc := "()Ljava/lang/Throwable;" } : Jvm.MethodName) ({ cls := "java/lang/Throwable", name := "getCause", desc := "()Ljava/lang/Throwable;" } : Jvm.MethodName)) ∈ lw_all := lw_g (lw_at lw_m11 95 rfl) rfl
theorem q3080 : (Jvm.Cond.castable "java/lang/IllegalStateException" "java/lang/Object") ∈ lw_tbl := lw_at lw_m13 117 rfl
theorem in_J28 : ∀ w ∈ wsJ280, w ∈ lw_all := lw_in wsJ280 [1379, 1380, 1381, 1382, 1383, 1388] (by decide +kernel) (by decide +kernel)

/-! java/util/ConcurrentModificationException -/
set_option maxRecDepth 100000
def RJ29 : String := "java/util/ConcurrentModificationException"
def TJ29 : u_T := fun k => match k with
  | 0 => ("java/lang/Throwable", "cause", "Ljava/lang/Throwable;", false)
  | 1 => ("java/lang/Throwable", "stackTrace", "[Ljava/lang/StackTraceElement;", false)
  | 2 => ("java/lang/Throwable", "suppressedExceptions", "Ljava/util/List;", false)
  | 3 => ("java/lang/Throwable", "detailMessage", "Ljava/lang/String;", false)
  | 4 => ("java/lang/Throwable", "backtrace", "Ljava/lang/Object;", false)
  | _ => ("java/lang/Throwable", "depth", "I", false)
def tyJ29 : Nat → FieldType := fun k => match k with
  | 0 => .object "java/lang/Throwable"
  | 1 => .array (.object "java/lang/StackTraceElement")
  | 2 => .object "java/util/List"
  | 3 => .object "java/lang/String"
  | 4 => .object "java/lang/Object"
  | _ => .int
abbrev wsJ290 : List Cond := u_ws RJ29 TJ29 6
theorem nmJ29 : ∀ a, a < 6 → ∀ b, b < 6 → a ≠ b → (TJ29 a).2.1 ≠ (TJ29 b).2.1 := by decide +kernel
theorem tyJ29_ok : ∀ k, k < 6 → parseFieldDescriptor (TJ29 k).2.2.1 = some (tyJ29 k) := by decide +kernel
abbrev cJ29_init : ByteArray := prog_76_method_1_code
def yJ29_init : MethodName := ⟨RJ29, "<init>", "()V"⟩
theorem dJ29_init_0 : decode cJ29_init 0 = .ok (.aload_n 0, 1) := by decide +kernel
theorem dJ29_init_1 : decode cJ29_init 1 = .ok (.invokespecial 1, 3) := by decide +kernel
theorem dJ29_init_4 : decode cJ29_init 4 = .ok (.return_, 1) := by decide +kernel
theorem q127 : (Jvm.Cond.initialized "java/util/ConcurrentModificationException") ∈ lw_all := lw_g (lw_at lw_m1 44 rfl) rfl
theorem q587 : (Jvm.Cond.selects "java/util/ConcurrentModificationException" ({ cls := "java/lang/Object", name := "getClass", desc := "()Ljava/lang/Class;" } : Jvm.MethodName) ({ cls := "java/lang/Object", name := "getClass", desc := "()Ljava/lang/Class;" } : Jvm.MethodName)) ∈ lw_all := lw_g (lw_at lw_m3 24 rfl) rfl
theorem q852 : (Jvm.Cond.selects "java/util/ConcurrentModificationException" ({ cls := "java/lang/Throwable", name := "fillInStackTrace", desc := "()Ljava/lang/Throwable;" } : Jvm.MethodName) ({ cls := "java/lang/Throwable", name := "fillInStackTrace", desc := "()Ljava/lang/Throwable;" } : Jvm.MethodName)) ∈ lw_all := lw_g (lw_at lw_m4 49 rfl) rfl
theorem q879 : (Jvm.Cond.selects "java/util/ConcurrentModificationException" ({ cls := "java/lang/Throwable", name := "toString", desc := "()Ljava/lang/String;" } : Jvm.MethodName) ({ cls := "java/lang/Throwable", name := "toString", desc := "()Ljava/lang/String;" } : Jvm.MethodName)) ∈ lw_all := lw_g (lw_at lw_m4 76 rfl) rfl
theorem q891 : (Jvm.Cond.selects "java/util/ConcurrentModificationException" ({ cls := "java/lang/Throwable", name := "getLocalizedMessage", desc := "()Ljava/lang/String;" } : Jvm.MethodName) ({ cls := "java/lang/Throwable", name := "getLocalizedMessage", desc := "()Ljava/lang/String;" } : Jvm.MethodName)) ∈ lw_all := lw_g (lw_at lw_m4 88 rfl) rfl
theorem q902 : (Jvm.Cond.selects "java/util/ConcurrentModificationException" ({ cls := "java/lang/Throwable", name := "getMessage", desc := "()Ljava/lang/String;" } : Jvm.MethodName) ({ cls := "java/lang/Throwable", name := "getMessage", desc := "()Ljava/lang/String;" } : Jvm.MethodName)) ∈ lw_all := lw_g (lw_at lw_m4 99 rfl) rfl
theorem q1410 : (Jvm.Cond.instantiable "java/util/ConcurrentModificationException" (6 : Nat)) ∈ lw_all := lw_g (lw_at lw_m6 127 rfl) rfl
theorem q1411 : (Jvm.Cond.castable "java/util/ConcurrentModificationException" "java/util/ConcurrentModificationException") ∈ lw_tbl := lw_at lw_m6 128 rfl
theorem q1412 : (Jvm.Cond.selects "java/util/ConcurrentModificationException" ({ cls := "java/lang/Throwable", name := "fillInStackTrace", desc := "(I)Ljava/lang/Throwable;" } : Jvm.MethodName) ({ cls := "java/lang/Throwable", name := "fillInStackTrace", desc := "(I)Ljava/lang/Throwable;" } : Jvm.MethodName)) ∈ lw_all := lw_g (lw_at lw_m6 129 rfl) rfl
theorem q1413 : (Jvm.Cond.lays "java/util/ConcurrentModificationException" "java/lang/Throwable" "cause" "Ljava/lang/Throwable;") ∈ lw_all := lw_g (lw_at lw_m6 130 rfl) rfl
theorem q1414 : (Jvm.Cond.lays "java/util/ConcurrentModificationException" "java/lang/Throwable" "stackTrace" "[Ljava/lang/StackTraceElement;") ∈ lw_all := lw_g (lw_at lw_m6 131 rfl) rfl
theorem q1415 : (Jvm.Cond.lays "java/util/ConcurrentModificationException" "java/lang/Throwable" "suppressedExceptions" "Ljava/util/List;") ∈ lw_all := lw_g (lw_at lw_m6 132 rfl) rfl
theorem q1416 : (Jvm.Cond.lays "java/util/ConcurrentModificationException" "java/lang/Throwable" "detailMessage" "Ljava/lang/String;") ∈ lw_all := lw_g (lw_at lw_m6 133 rfl) rfl
theorem q1417 : (Jvm.Cond.lays "java/util/ConcurrentModificationException" "java/lang/Throwable" "backtrace" "Ljava/lang/Object;") ∈ lw_all := lw_g (lw_at lw_m6 134 rfl) rfl
theorem q1419 : (Jvm.Cond.instanceMethod ({ cls := "java/util/ConcurrentModificationException", name := "<init>", desc := "()V" } : Jvm.MethodName)) ∈ lw_all := lw_g (lw_at lw_m6 136 rfl) rfl
theorem q1420 : (Jvm.Cond.code ({ cls := "java/util/ConcurrentModificationException", name := "<init>", desc := "()V" } : Jvm.MethodName) prog_76_method_1_code (1 : Nat) (Option.none : Option Jvm.ClassFile.FieldType)) ∈ lw_all := lw_g (lw_at lw_m6 137 rfl) rfl
theorem q1421 : (Jvm.Cond.methodLink "java/util/ConcurrentModificationException" (1 : Nat) ({ cls := "java/lang/RuntimeException", name := "<init>", desc := "()V" } : Jvm.MethodName)) ∈ lw_all := lw_g (lw_at lw_m6 138 rfl) rfl
theorem q1422 : (Jvm.Cond.lays "java/util/ConcurrentModificationException" "java/lang/Throwable" "depth" "I") ∈ lw_all := lw_g (lw_at lw_m6 139 rfl) rfl
theorem q1423 : (Jvm.Cond.superclass "java/util/ConcurrentModificationException" "java/lang/RuntimeException") ∈ lw_all := lw_g (lw_at lw_m6 140 rfl) rfl
theorem q2579 : (Jvm.Cond.selects "java/util/ConcurrentModificationException" ({ cls := "java/lang/Throwable", name := "getCause", desc := "()Ljava/lang/Throwable;" } : Jvm.MethodName) ({ cls := "java/lang/Throwable", name := "getCause", desc := "()Ljava/lang/Throwable;" } : Jvm.MethodName)) ∈ lw_all := lw_g (lw_at lw_m11 96 rfl) rfl
theorem q3081 : (Jvm.Cond.castable "java/util/ConcurrentModificationException" "java/lang/Object") ∈ lw_tbl := lw_at lw_m13 118 rfl
theorem in_J29 : ∀ w ∈ wsJ290, w ∈ lw_all := lw_in wsJ290 [1413, 1414, 1415, 1416, 1417, 1422] (by decide +kernel) (by decide +kernel)

/-! java/util/Collections$UnmodifiableCollection$1 -/
set_option maxRecDepth 100000
def RJ30 : String := "java/util/Collections$UnmodifiableCollection$1"
def TJ30 : u_T := fun k => match k with
  | 0 => ("java/util/Collections$UnmodifiableCollection$1", "i", "Ljava/util/Iterator;", true)
  | _ => ("java/util/Collections$UnmodifiableCollection$1", "this$0", "Ljava/util/Collections$UnmodifiableCollection;", true)
def tyJ30 : Nat → FieldType := fun k => match k with
  | 0 => .object "java/util/Iterator"
  | _ => .object "java/util/Collections$UnmodifiableCollection"
abbrev wsJ300 : List Cond := u_ws RJ30 TJ30 2
theorem nmJ30 : ∀ a, a < 2 → ∀ b, b < 2 → a ≠ b → (TJ30 a).2.1 ≠ (TJ30 b).2.1 := by decide +kernel
theorem tyJ30_ok : ∀ k, k < 2 → parseFieldDescriptor (TJ30 k).2.2.1 = some (tyJ30 k) := by decide +kernel
abbrev cJ30_hasNext : ByteArray := prog_73_method_2_code
def yJ30_hasNext : MethodName := ⟨RJ30, "hasNext", "()Z"⟩
def dkwJ30_hasNext_0 : List UInt8 := [42, 180, 0, 25, 185, 0, 29, 1, 0, 172]
abbrev dktJ30_hasNext_0 : List UInt8 := dkwJ30_hasNext_0 ++ []
theorem dksJ30_hasNext_0 : cJ30_hasNext.data.toList.drop 0 = dktJ30_hasNext_0 := by decide +kernel
theorem dJ30_hasNext_0 : decode cJ30_hasNext 0 = .ok (.aload_n 0, 1) := dk_42 (dk_at dksJ30_hasNext_0 0 rfl rfl)
theorem dJ30_hasNext_1 : decode cJ30_hasNext 1 = .ok (.getfield 25, 3) := dk_180 0 25 (dk_at dksJ30_hasNext_0 1 rfl rfl)
theorem dJ30_hasNext_4 : decode cJ30_hasNext 4 = .ok (.invokeinterface 29 1, 5) := by decide +kernel
theorem dJ30_hasNext_9 : decode cJ30_hasNext 9 = .ok (.ireturn, 1) := dk_172 (dk_at dksJ30_hasNext_0 9 rfl rfl)
abbrev cJ30_next : ByteArray := prog_73_method_3_code
def yJ30_next : MethodName := ⟨RJ30, "next", "()Ljava/lang/Object;"⟩
def dkwJ30_next_0 : List UInt8 := [42, 180, 0, 25, 185, 0, 35, 1, 0, 176]
abbrev dktJ30_next_0 : List UInt8 := dkwJ30_next_0 ++ []
theorem dksJ30_next_0 : cJ30_next.data.toList.drop 0 = dktJ30_next_0 := by decide +kernel
theorem dJ30_next_0 : decode cJ30_next 0 = .ok (.aload_n 0, 1) := dk_42 (dk_at dksJ30_next_0 0 rfl rfl)
theorem dJ30_next_1 : decode cJ30_next 1 = .ok (.getfield 25, 3) := dk_180 0 25 (dk_at dksJ30_next_0 1 rfl rfl)
theorem dJ30_next_4 : decode cJ30_next 4 = .ok (.invokeinterface 35 1, 5) := by decide +kernel
theorem dJ30_next_9 : decode cJ30_next 9 = .ok (.areturn, 1) := dk_176 (dk_at dksJ30_next_0 9 rfl rfl)
abbrev cJ30_remove : ByteArray := prog_73_method_4_code
def yJ30_remove : MethodName := ⟨RJ30, "remove", "()V"⟩
def dkwJ30_remove_0 : List UInt8 := [187, 0, 39, 89, 183, 0, 41, 191]
abbrev dktJ30_remove_0 : List UInt8 := dkwJ30_remove_0 ++ []
theorem dksJ30_remove_0 : cJ30_remove.data.toList.drop 0 = dktJ30_remove_0 := by decide +kernel
theorem dJ30_remove_0 : decode cJ30_remove 0 = .ok (.new 39, 3) := dk_187 0 39 (dk_at dksJ30_remove_0 0 rfl rfl)
theorem dJ30_remove_3 : decode cJ30_remove 3 = .ok (.dup, 1) := dk_89 (dk_at dksJ30_remove_0 3 rfl rfl)
theorem dJ30_remove_4 : decode cJ30_remove 4 = .ok (.invokespecial 41, 3) := dk_183 0 41 (dk_at dksJ30_remove_0 4 rfl rfl)
theorem dJ30_remove_7 : decode cJ30_remove 7 = .ok (.athrow, 1) := dk_191 (dk_at dksJ30_remove_0 7 rfl rfl)
abbrev cJ30_init : ByteArray := prog_73_method_1_code
def yJ30_init : MethodName := ⟨RJ30, "<init>", "(Ljava/util/Collections$UnmodifiableCollection;)V"⟩
def dkwJ30_init_1 : List UInt8 := [181, 0, 25, 177]
abbrev dktJ30_init_1 : List UInt8 := dkwJ30_init_1 ++ []
def dkwJ30_init_0 : List UInt8 := [42, 43, 181, 0, 1, 42, 183, 0, 7, 42, 42, 180, 0, 1, 180, 0, 13, 185, 0, 19, 1, 0]
abbrev dktJ30_init_0 : List UInt8 := dkwJ30_init_0 ++ dktJ30_init_1
theorem dksJ30_init_0 : cJ30_init.data.toList.drop 0 = dktJ30_init_0 := by decide +kernel
theorem dksJ30_init_1 : cJ30_init.data.toList.drop 22 = dktJ30_init_1 := dk_seg dksJ30_init_0 22 rfl rfl
theorem dJ30_init_0 : decode cJ30_init 0 = .ok (.aload_n 0, 1) := dk_42 (dk_at dksJ30_init_0 0 rfl rfl)
theorem dJ30_init_1 : decode cJ30_init 1 = .ok (.aload_n 1, 1) := dk_43 (dk_at dksJ30_init_0 1 rfl rfl)
theorem dJ30_init_2 : decode cJ30_init 2 = .ok (.putfield 1, 3) := dk_181 0 1 (dk_at dksJ30_init_0 2 rfl rfl)
theorem dJ30_init_5 : decode cJ30_init 5 = .ok (.aload_n 0, 1) := dk_42 (dk_at dksJ30_init_0 5 rfl rfl)
theorem dJ30_init_6 : decode cJ30_init 6 = .ok (.invokespecial 7, 3) := dk_183 0 7 (dk_at dksJ30_init_0 6 rfl rfl)
theorem dJ30_init_9 : decode cJ30_init 9 = .ok (.aload_n 0, 1) := dk_42 (dk_at dksJ30_init_0 9 rfl rfl)
theorem dJ30_init_10 : decode cJ30_init 10 = .ok (.aload_n 0, 1) := dk_42 (dk_at dksJ30_init_0 10 rfl rfl)
theorem dJ30_init_11 : decode cJ30_init 11 = .ok (.getfield 1, 3) := dk_180 0 1 (dk_at dksJ30_init_0 11 rfl rfl)
theorem dJ30_init_14 : decode cJ30_init 14 = .ok (.getfield 13, 3) := dk_180 0 13 (dk_at dksJ30_init_0 14 rfl rfl)
theorem dJ30_init_17 : decode cJ30_init 17 = .ok (.invokeinterface 19 1, 5) := by decide +kernel
theorem dJ30_init_22 : decode cJ30_init 22 = .ok (.putfield 25, 3) := dk_181 0 25 (dk_at dksJ30_init_1 0 rfl rfl)
theorem dJ30_init_25 : decode cJ30_init 25 = .ok (.return_, 1) := dk_177 (dk_at dksJ30_init_1 3 rfl rfl)
theorem q128 : (Jvm.Cond.initialized "java/util/Collections$UnmodifiableCollection$1") ∈ lw_all := lw_g (lw_at lw_m1 45 rfl) rfl
theorem q584 : (Jvm.Cond.selects "java/util/Collections$UnmodifiableCollection$1" ({ cls := "java/lang/Object", name := "getClass", desc := "()Ljava/lang/Class;" } : Jvm.MethodName) ({ cls := "java/lang/Object", name := "getClass", desc := "()Ljava/lang/Class;" } : Jvm.MethodName)) ∈ lw_all := lw_g (lw_at lw_m3 21 rfl) rfl
theorem q764 : (Jvm.Cond.castable "java/util/Collections$UnmodifiableCollection$1" "java/util/Iterator") ∈ lw_tbl := lw_at lw_m3 201 rfl
theorem q765 : (Jvm.Cond.selects "java/util/Collections$UnmodifiableCollection$1" ({ cls := "java/util/Iterator", name := "hasNext", desc := "()Z" } : Jvm.MethodName) ({ cls := "java/util/Collections$UnmodifiableCollection$1", name := "hasNext", desc := "()Z" } : Jvm.MethodName)) ∈ lw_all := lw_g (lw_at lw_m3 202 rfl) rfl
theorem q766 : (Jvm.Cond.unhidden "java/util/Collections$UnmodifiableCollection$1" "hasNext" "()Z") ∈ lw_tbl := lw_at lw_m3 203 rfl
theorem q767 : (Jvm.Cond.instanceMethod ({ cls := "java/util/Collections$UnmodifiableCollection$1", name := "hasNext", desc := "()Z" } : Jvm.MethodName)) ∈ lw_all := lw_g (lw_at lw_m3 204 rfl) rfl
theorem q768 : (Jvm.Cond.publicMethod ({ cls := "java/util/Collections$UnmodifiableCollection$1", name := "hasNext", desc := "()Z" } : Jvm.MethodName)) ∈ lw_tbl := lw_at lw_m3 205 rfl
theorem q769 : (Jvm.Cond.code ({ cls := "java/util/Collections$UnmodifiableCollection$1", name := "hasNext", desc := "()Z" } : Jvm.MethodName) prog_73_method_2_code (1 : Nat) (Option.some Jvm.ClassFile.FieldType.boolean)) ∈ lw_all := lw_g (lw_at lw_m3 206 rfl) rfl
theorem q770 : (Jvm.Cond.interfaceEntry "java/util/Collections$UnmodifiableCollection$1" (29 : Nat)) ∈ lw_tbl := lw_at lw_m3 207 rfl
theorem q771 : (Jvm.Cond.methodLink "java/util/Collections$UnmodifiableCollection$1" (29 : Nat) ({ cls := "java/util/Iterator", name := "hasNext", desc := "()Z" } : Jvm.MethodName)) ∈ lw_all := lw_g (lw_at lw_m3 208 rfl) rfl
theorem q1134 : (Jvm.Cond.selects "java/util/Collections$UnmodifiableCollection$1" ({ cls := "java/util/Iterator", name := "next", desc := "()Ljava/lang/Object;" } : Jvm.MethodName) ({ cls := "java/util/Collections$UnmodifiableCollection$1", name := "next", desc := "()Ljava/lang/Object;" } : Jvm.MethodName)) ∈ lw_all := lw_g (lw_at lw_m5 91 rfl) rfl
theorem q1135 : (Jvm.Cond.unhidden "java/util/Collections$UnmodifiableCollection$1" "next" "()Ljava/lang/Object;") ∈ lw_tbl := lw_at lw_m5 92 rfl
theorem q1136 : (Jvm.Cond.instanceMethod ({ cls := "java/util/Collections$UnmodifiableCollection$1", name := "next", desc := "()Ljava/lang/Object;" } : Jvm.MethodName)) ∈ lw_all := lw_g (lw_at lw_m5 93 rfl) rfl
theorem q1137 : (Jvm.Cond.publicMethod ({ cls := "java/util/Collections$UnmodifiableCollection$1", name := "next", desc := "()Ljava/lang/Object;" } : Jvm.MethodName)) ∈ lw_tbl := lw_at lw_m5 94 rfl
theorem q1138 : (Jvm.Cond.code ({ cls := "java/util/Collections$UnmodifiableCollection$1", name := "next", desc := "()Ljava/lang/Object;" } : Jvm.MethodName) prog_73_method_3_code (1 : Nat) (Option.some (Jvm.ClassFile.FieldType.object "java/lang/Object"))) ∈ lw_all := lw_g (lw_at lw_m5 95 rfl) rfl
theorem q1139 : (Jvm.Cond.interfaceEntry "java/util/Collections$UnmodifiableCollection$1" (35 : Nat)) ∈ lw_tbl := lw_at lw_m5 96 rfl
theorem q1140 : (Jvm.Cond.methodLink "java/util/Collections$UnmodifiableCollection$1" (35 : Nat) ({ cls := "java/util/Iterator", name := "next", desc := "()Ljava/lang/Object;" } : Jvm.MethodName)) ∈ lw_all := lw_g (lw_at lw_m5 97 rfl) rfl
theorem q1455 : (Jvm.Cond.selects "java/util/Collections$UnmodifiableCollection$1" ({ cls := "java/util/Iterator", name := "remove", desc := "()V" } : Jvm.MethodName) ({ cls := "java/util/Collections$UnmodifiableCollection$1", name := "remove", desc := "()V" } : Jvm.MethodName)) ∈ lw_all := lw_g (lw_at lw_m6 172 rfl) rfl
theorem q1456 : (Jvm.Cond.unhidden "java/util/Collections$UnmodifiableCollection$1" "remove" "()V") ∈ lw_tbl := lw_at lw_m6 173 rfl
theorem q1457 : (Jvm.Cond.instanceMethod ({ cls := "java/util/Collections$UnmodifiableCollection$1", name := "remove", desc := "()V" } : Jvm.MethodName)) ∈ lw_all := lw_g (lw_at lw_m6 174 rfl) rfl
theorem q1458 : (Jvm.Cond.publicMethod ({ cls := "java/util/Collections$UnmodifiableCollection$1", name := "remove", desc := "()V" } : Jvm.MethodName)) ∈ lw_tbl := lw_at lw_m6 175 rfl
theorem q1459 : (Jvm.Cond.code ({ cls := "java/util/Collections$UnmodifiableCollection$1", name := "remove", desc := "()V" } : Jvm.MethodName) prog_73_method_4_code (1 : Nat) (Option.none : Option Jvm.ClassFile.FieldType)) ∈ lw_all := lw_g (lw_at lw_m6 176 rfl) rfl
theorem q1510 : (Jvm.Cond.instantiable "java/util/Collections$UnmodifiableCollection$1" (2 : Nat)) ∈ lw_all := lw_g (lw_at lw_m6 227 rfl) rfl
theorem q1512 : (Jvm.Cond.instanceMethod ({ cls := "java/util/Collections$UnmodifiableCollection$1", name := "<init>", desc := "(Ljava/util/Collections$UnmodifiableCollection;)V" } : Jvm.MethodName)) ∈ lw_all := lw_g (lw_at lw_m6 229 rfl) rfl
theorem q1513 : (Jvm.Cond.code ({ cls := "java/util/Collections$UnmodifiableCollection$1", name := "<init>", desc := "(Ljava/util/Collections$UnmodifiableCollection;)V" } : Jvm.MethodName) prog_73_method_1_code (2 : Nat) (Option.none : Option Jvm.ClassFile.FieldType)) ∈ lw_all := lw_g (lw_at lw_m6 230 rfl) rfl
theorem q1514 : (Jvm.Cond.methodLink "java/util/Collections$UnmodifiableCollection$1" (7 : Nat) ({ cls := "java/lang/Object", name := "<init>", desc := "()V" } : Jvm.MethodName)) ∈ lw_all := lw_g (lw_at lw_m6 231 rfl) rfl
theorem q1515 : (Jvm.Cond.interfaceEntry "java/util/Collections$UnmodifiableCollection$1" (19 : Nat)) ∈ lw_tbl := lw_at lw_m6 232 rfl
theorem q1516 : (Jvm.Cond.methodLink "java/util/Collections$UnmodifiableCollection$1" (19 : Nat) ({ cls := "java/util/Collection", name := "iterator", desc := "()Ljava/util/Iterator;" } : Jvm.MethodName)) ∈ lw_all := lw_g (lw_at lw_m6 233 rfl) rfl
theorem q1588 : (Jvm.Cond.fieldLink "java/util/Collections$UnmodifiableCollection$1" (25 : Nat) "java/util/Collections$UnmodifiableCollection$1" "i" "Ljava/util/Iterator;") ∈ lw_all := lw_g (lw_at lw_m7 65 rfl) rfl
theorem q1589 : (Jvm.Cond.fieldLink "java/util/Collections$UnmodifiableCollection$1" (1 : Nat) "java/util/Collections$UnmodifiableCollection$1" "this$0" "Ljava/util/Collections$UnmodifiableCollection;") ∈ lw_all := lw_g (lw_at lw_m7 66 rfl) rfl
theorem q1590 : (Jvm.Cond.laysFinal "java/util/Collections$UnmodifiableCollection$1" "java/util/Collections$UnmodifiableCollection$1" "i" "Ljava/util/Iterator;") ∈ lw_all := lw_g (lw_at lw_m7 67 rfl) rfl
theorem q1591 : (Jvm.Cond.soleField "java/util/Collections$UnmodifiableCollection$1" "i") ∈ lw_all := lw_g (lw_at lw_m7 68 rfl) rfl
theorem q1592 : (Jvm.Cond.laysFinal "java/util/Collections$UnmodifiableCollection$1" "java/util/Collections$UnmodifiableCollection$1" "this$0" "Ljava/util/Collections$UnmodifiableCollection;") ∈ lw_all := lw_g (lw_at lw_m7 69 rfl) rfl
theorem q1593 : (Jvm.Cond.soleField "java/util/Collections$UnmodifiableCollection$1" "this$0") ∈ lw_all := lw_g (lw_at lw_m7 70 rfl) rfl
theorem q1594 : (Jvm.Cond.superclass "java/util/Collections$UnmodifiableCollection$1" "java/lang/Object") ∈ lw_all := lw_g (lw_at lw_m7 71 rfl) rfl
theorem q2530 : (Jvm.Cond.fieldLink "java/util/Collections$UnmodifiableCollection$1" (13 : Nat) "java/util/Collections$UnmodifiableCollection" "c" "Ljava/util/Collection;") ∈ lw_all := lw_g (lw_at lw_m11 47 rfl) rfl
theorem q3089 : (Jvm.Cond.castable "java/util/Collections$UnmodifiableCollection$1" "java/lang/Object") ∈ lw_tbl := lw_at lw_m13 126 rfl
theorem in_J30 : ∀ w ∈ wsJ300, w ∈ lw_all := lw_in wsJ300 [1590, 1592] (by decide +kernel) (by decide +kernel)

/-! java/util/ArrayDeque$DeqIterator -/
set_option maxRecDepth 100000
def RJ31 : String := "java/util/ArrayDeque$DeqIterator"
def TJ31 : u_T := fun k => match k with
  | 0 => ("java/util/ArrayDeque$DeqIterator", "cursor", "I", false)
  | 1 => ("java/util/ArrayDeque$DeqIterator", "remaining", "I", false)
  | 2 => ("java/util/ArrayDeque$DeqIterator", "lastRet", "I", false)
  | _ => ("java/util/ArrayDeque$DeqIterator", "this$0", "Ljava/util/ArrayDeque;", true)
def tyJ31 : Nat → FieldType := fun k => match k with
  | 0 => .int
  | 1 => .int
  | 2 => .int
  | _ => .object "java/util/ArrayDeque"
abbrev wsJ310 : List Cond := u_ws RJ31 TJ31 4
theorem nmJ31 : ∀ a, a < 4 → ∀ b, b < 4 → a ≠ b → (TJ31 a).2.1 ≠ (TJ31 b).2.1 := by decide +kernel
theorem tyJ31_ok : ∀ k, k < 4 → parseFieldDescriptor (TJ31 k).2.2.1 = some (tyJ31 k) := by decide +kernel
abbrev cJ31_hasNext : ByteArray := prog_64_method_2_code
def yJ31_hasNext : MethodName := ⟨RJ31, "hasNext", "()Z"⟩
def dkwJ31_hasNext_0 : List UInt8 := [42, 180, 0, 19, 158, 0, 7, 4, 167, 0, 4, 3, 172]
abbrev dktJ31_hasNext_0 : List UInt8 := dkwJ31_hasNext_0 ++ []
theorem dksJ31_hasNext_0 : cJ31_hasNext.data.toList.drop 0 = dktJ31_hasNext_0 := by decide +kernel
theorem dJ31_hasNext_0 : decode cJ31_hasNext 0 = .ok (.aload_n 0, 1) := dk_42 (dk_at dksJ31_hasNext_0 0 rfl rfl)
theorem dJ31_hasNext_1 : decode cJ31_hasNext 1 = .ok (.getfield 19, 3) := dk_180 0 19 (dk_at dksJ31_hasNext_0 1 rfl rfl)
theorem dJ31_hasNext_4 : decode cJ31_hasNext 4 = .ok (.ifCond .le 7, 3) := dk_158 0 7 (dk_at dksJ31_hasNext_0 4 rfl rfl)
theorem dJ31_hasNext_7 : decode cJ31_hasNext 7 = .ok (.iconst 1, 1) := dk_4 (dk_at dksJ31_hasNext_0 7 rfl rfl)
theorem dJ31_hasNext_8 : decode cJ31_hasNext 8 = .ok (.goto 4, 3) := dk_167 0 4 (dk_at dksJ31_hasNext_0 8 rfl rfl)
theorem dJ31_hasNext_11 : decode cJ31_hasNext 11 = .ok (.iconst 0, 1) := dk_3 (dk_at dksJ31_hasNext_0 11 rfl rfl)
theorem dJ31_hasNext_12 : decode cJ31_hasNext 12 = .ok (.ireturn, 1) := dk_172 (dk_at dksJ31_hasNext_0 12 rfl rfl)
abbrev cJ31_next : ByteArray := prog_64_method_3_code
def yJ31_next : MethodName := ⟨RJ31, "next", "()Ljava/lang/Object;"⟩
def dkwJ31_next_2 : List UInt8 := [181, 0, 29, 42, 89, 180, 0, 19, 4, 100, 181, 0, 19, 44, 176]
abbrev dktJ31_next_2 : List UInt8 := dkwJ31_next_2 ++ []
def dkwJ31_next_1 : List UInt8 := [42, 180, 0, 29, 184, 0, 39, 77, 42, 42, 42, 180, 0, 29, 90, 181, 0, 23, 43, 190, 184, 0, 43]
abbrev dktJ31_next_1 : List UInt8 := dkwJ31_next_1 ++ dktJ31_next_2
def dkwJ31_next_0 : List UInt8 := [42, 180, 0, 19, 157, 0, 11, 187, 0, 32, 89, 183, 0, 34, 191, 42, 180, 0, 1, 180, 0, 35, 76, 43]
abbrev dktJ31_next_0 : List UInt8 := dkwJ31_next_0 ++ dktJ31_next_1
theorem dksJ31_next_0 : cJ31_next.data.toList.drop 0 = dktJ31_next_0 := by decide +kernel
theorem dksJ31_next_1 : cJ31_next.data.toList.drop 24 = dktJ31_next_1 := dk_seg dksJ31_next_0 24 rfl rfl
theorem dksJ31_next_2 : cJ31_next.data.toList.drop 47 = dktJ31_next_2 := dk_seg dksJ31_next_1 23 rfl rfl
theorem dJ31_next_0 : decode cJ31_next 0 = .ok (.aload_n 0, 1) := dk_42 (dk_at dksJ31_next_0 0 rfl rfl)
theorem dJ31_next_1 : decode cJ31_next 1 = .ok (.getfield 19, 3) := dk_180 0 19 (dk_at dksJ31_next_0 1 rfl rfl)
theorem dJ31_next_4 : decode cJ31_next 4 = .ok (.ifCond .gt 11, 3) := dk_157 0 11 (dk_at dksJ31_next_0 4 rfl rfl)
theorem dJ31_next_7 : decode cJ31_next 7 = .ok (.new 32, 3) := dk_187 0 32 (dk_at dksJ31_next_0 7 rfl rfl)
theorem dJ31_next_10 : decode cJ31_next 10 = .ok (.dup, 1) := dk_89 (dk_at dksJ31_next_0 10 rfl rfl)
theorem dJ31_next_11 : decode cJ31_next 11 = .ok (.invokespecial 34, 3) := dk_183 0 34 (dk_at dksJ31_next_0 11 rfl rfl)
theorem dJ31_next_14 : decode cJ31_next 14 = .ok (.athrow, 1) := dk_191 (dk_at dksJ31_next_0 14 rfl rfl)
theorem dJ31_next_15 : decode cJ31_next 15 = .ok (.aload_n 0, 1) := dk_42 (dk_at dksJ31_next_0 15 rfl rfl)
theorem dJ31_next_16 : decode cJ31_next 16 = .ok (.getfield 1, 3) := dk_180 0 1 (dk_at dksJ31_next_0 16 rfl rfl)
theorem dJ31_next_19 : decode cJ31_next 19 = .ok (.getfield 35, 3) := dk_180 0 35 (dk_at dksJ31_next_0 19 rfl rfl)
theorem dJ31_next_22 : decode cJ31_next 22 = .ok (.astore_n 1, 1) := dk_76 (dk_at dksJ31_next_0 22 rfl rfl)
theorem dJ31_next_23 : decode cJ31_next 23 = .ok (.aload_n 1, 1) := dk_43 (dk_at dksJ31_next_0 23 rfl rfl)
theorem dJ31_next_24 : decode cJ31_next 24 = .ok (.aload_n 0, 1) := dk_42 (dk_at dksJ31_next_1 0 rfl rfl)
theorem dJ31_next_25 : decode cJ31_next 25 = .ok (.getfield 29, 3) := dk_180 0 29 (dk_at dksJ31_next_1 1 rfl rfl)
theorem dJ31_next_28 : decode cJ31_next 28 = .ok (.invokestatic 39, 3) := dk_184 0 39 (dk_at dksJ31_next_1 4 rfl rfl)
theorem dJ31_next_31 : decode cJ31_next 31 = .ok (.astore_n 2, 1) := dk_77 (dk_at dksJ31_next_1 7 rfl rfl)
theorem dJ31_next_32 : decode cJ31_next 32 = .ok (.aload_n 0, 1) := dk_42 (dk_at dksJ31_next_1 8 rfl rfl)
theorem dJ31_next_33 : decode cJ31_next 33 = .ok (.aload_n 0, 1) := dk_42 (dk_at dksJ31_next_1 9 rfl rfl)
theorem dJ31_next_34 : decode cJ31_next 34 = .ok (.aload_n 0, 1) := dk_42 (dk_at dksJ31_next_1 10 rfl rfl)
theorem dJ31_next_35 : decode cJ31_next 35 = .ok (.getfield 29, 3) := dk_180 0 29 (dk_at dksJ31_next_1 11 rfl rfl)
theorem dJ31_next_38 : decode cJ31_next 38 = .ok (.dup_x1, 1) := dk_90 (dk_at dksJ31_next_1 14 rfl rfl)
theorem dJ31_next_39 : decode cJ31_next 39 = .ok (.putfield 23, 3) := dk_181 0 23 (dk_at dksJ31_next_1 15 rfl rfl)
theorem dJ31_next_42 : decode cJ31_next 42 = .ok (.aload_n 1, 1) := dk_43 (dk_at dksJ31_next_1 18 rfl rfl)
theorem dJ31_next_43 : decode cJ31_next 43 = .ok (.arraylength, 1) := dk_190 (dk_at dksJ31_next_1 19 rfl rfl)
theorem dJ31_next_44 : decode cJ31_next 44 = .ok (.invokestatic 43, 3) := dk_184 0 43 (dk_at dksJ31_next_1 20 rfl rfl)
theorem dJ31_next_47 : decode cJ31_next 47 = .ok (.putfield 29, 3) := dk_181 0 29 (dk_at dksJ31_next_2 0 rfl rfl)
theorem dJ31_next_50 : decode cJ31_next 50 = .ok (.aload_n 0, 1) := dk_42 (dk_at dksJ31_next_2 3 rfl rfl)
theorem dJ31_next_51 : decode cJ31_next 51 = .ok (.dup, 1) := dk_89 (dk_at dksJ31_next_2 4 rfl rfl)
theorem dJ31_next_52 : decode cJ31_next 52 = .ok (.getfield 19, 3) := dk_180 0 19 (dk_at dksJ31_next_2 5 rfl rfl)
theorem dJ31_next_55 : decode cJ31_next 55 = .ok (.iconst 1, 1) := dk_4 (dk_at dksJ31_next_2 8 rfl rfl)
theorem dJ31_next_56 : decode cJ31_next 56 = .ok (.isub, 1) := dk_100 (dk_at dksJ31_next_2 9 rfl rfl)
theorem dJ31_next_57 : decode cJ31_next 57 = .ok (.putfield 19, 3) := dk_181 0 19 (dk_at dksJ31_next_2 10 rfl rfl)
theorem dJ31_next_60 : decode cJ31_next 60 = .ok (.aload_n 2, 1) := dk_44 (dk_at dksJ31_next_2 13 rfl rfl)
theorem dJ31_next_61 : decode cJ31_next 61 = .ok (.areturn, 1) := dk_176 (dk_at dksJ31_next_2 14 rfl rfl)
abbrev cJ31_remove : ByteArray := prog_64_method_5_code
def yJ31_remove : MethodName := ⟨RJ31, "remove", "()V"⟩
def dkwJ31_remove_1 : List UInt8 := [182, 0, 53, 182, 0, 57, 42, 2, 181, 0, 23, 177]
abbrev dktJ31_remove_1 : List UInt8 := dkwJ31_remove_1 ++ []
def dkwJ31_remove_0 : List UInt8 := [42, 180, 0, 23, 156, 0, 11, 187, 0, 50, 89, 183, 0, 52, 191, 42, 42, 180, 0, 1, 42, 180, 0, 23]
abbrev dktJ31_remove_0 : List UInt8 := dkwJ31_remove_0 ++ dktJ31_remove_1
theorem dksJ31_remove_0 : cJ31_remove.data.toList.drop 0 = dktJ31_remove_0 := by decide +kernel
theorem dksJ31_remove_1 : cJ31_remove.data.toList.drop 24 = dktJ31_remove_1 := dk_seg dksJ31_remove_0 24 rfl rfl
theorem dJ31_remove_0 : decode cJ31_remove 0 = .ok (.aload_n 0, 1) := dk_42 (dk_at dksJ31_remove_0 0 rfl rfl)
theorem dJ31_remove_1 : decode cJ31_remove 1 = .ok (.getfield 23, 3) := dk_180 0 23 (dk_at dksJ31_remove_0 1 rfl rfl)
theorem dJ31_remove_4 : decode cJ31_remove 4 = .ok (.ifCond .ge 11, 3) := dk_156 0 11 (dk_at dksJ31_remove_0 4 rfl rfl)
theorem dJ31_remove_7 : decode cJ31_remove 7 = .ok (.new 50, 3) := dk_187 0 50 (dk_at dksJ31_remove_0 7 rfl rfl)
theorem dJ31_remove_10 : decode cJ31_remove 10 = .ok (.dup, 1) := dk_89 (dk_at dksJ31_remove_0 10 rfl rfl)
theorem dJ31_remove_11 : decode cJ31_remove 11 = .ok (.invokespecial 52, 3) := dk_183 0 52 (dk_at dksJ31_remove_0 11 rfl rfl)
theorem dJ31_remove_14 : decode cJ31_remove 14 = .ok (.athrow, 1) := dk_191 (dk_at dksJ31_remove_0 14 rfl rfl)
theorem dJ31_remove_15 : decode cJ31_remove 15 = .ok (.aload_n 0, 1) := dk_42 (dk_at dksJ31_remove_0 15 rfl rfl)
theorem dJ31_remove_16 : decode cJ31_remove 16 = .ok (.aload_n 0, 1) := dk_42 (dk_at dksJ31_remove_0 16 rfl rfl)
theorem dJ31_remove_17 : decode cJ31_remove 17 = .ok (.getfield 1, 3) := dk_180 0 1 (dk_at dksJ31_remove_0 17 rfl rfl)
theorem dJ31_remove_20 : decode cJ31_remove 20 = .ok (.aload_n 0, 1) := dk_42 (dk_at dksJ31_remove_0 20 rfl rfl)
theorem dJ31_remove_21 : decode cJ31_remove 21 = .ok (.getfield 23, 3) := dk_180 0 23 (dk_at dksJ31_remove_0 21 rfl rfl)
theorem dJ31_remove_24 : decode cJ31_remove 24 = .ok (.invokevirtual 53, 3) := dk_182 0 53 (dk_at dksJ31_remove_1 0 rfl rfl)
theorem dJ31_remove_27 : decode cJ31_remove 27 = .ok (.invokevirtual 57, 3) := dk_182 0 57 (dk_at dksJ31_remove_1 3 rfl rfl)
theorem dJ31_remove_30 : decode cJ31_remove 30 = .ok (.aload_n 0, 1) := dk_42 (dk_at dksJ31_remove_1 6 rfl rfl)
theorem dJ31_remove_31 : decode cJ31_remove 31 = .ok (.iconst (-1), 1) := dk_2 (dk_at dksJ31_remove_1 7 rfl rfl)
theorem dJ31_remove_32 : decode cJ31_remove 32 = .ok (.putfield 23, 3) := dk_181 0 23 (dk_at dksJ31_remove_1 8 rfl rfl)
theorem dJ31_remove_35 : decode cJ31_remove 35 = .ok (.return_, 1) := dk_177 (dk_at dksJ31_remove_1 11 rfl rfl)
abbrev cJ31_postDelete : ByteArray := prog_64_method_4_code
def yJ31_postDelete : MethodName := ⟨RJ31, "postDelete", "(Z)V"⟩
def dkwJ31_postDelete_0 : List UInt8 := [27, 153, 0, 22, 42, 42, 180, 0, 29, 42, 180, 0, 1, 180, 0, 35, 190, 184, 0, 47, 181, 0, 29, 177]
abbrev dktJ31_postDelete_0 : List UInt8 := dkwJ31_postDelete_0 ++ []
theorem dksJ31_postDelete_0 : cJ31_postDelete.data.toList.drop 0 = dktJ31_postDelete_0 := by decide +kernel
theorem dJ31_postDelete_0 : decode cJ31_postDelete 0 = .ok (.iload_n 1, 1) := dk_27 (dk_at dksJ31_postDelete_0 0 rfl rfl)
theorem dJ31_postDelete_1 : decode cJ31_postDelete 1 = .ok (.ifCond .eq 22, 3) := dk_153 0 22 (dk_at dksJ31_postDelete_0 1 rfl rfl)
theorem dJ31_postDelete_4 : decode cJ31_postDelete 4 = .ok (.aload_n 0, 1) := dk_42 (dk_at dksJ31_postDelete_0 4 rfl rfl)
theorem dJ31_postDelete_5 : decode cJ31_postDelete 5 = .ok (.aload_n 0, 1) := dk_42 (dk_at dksJ31_postDelete_0 5 rfl rfl)
theorem dJ31_postDelete_6 : decode cJ31_postDelete 6 = .ok (.getfield 29, 3) := dk_180 0 29 (dk_at dksJ31_postDelete_0 6 rfl rfl)
theorem dJ31_postDelete_9 : decode cJ31_postDelete 9 = .ok (.aload_n 0, 1) := dk_42 (dk_at dksJ31_postDelete_0 9 rfl rfl)
theorem dJ31_postDelete_10 : decode cJ31_postDelete 10 = .ok (.getfield 1, 3) := dk_180 0 1 (dk_at dksJ31_postDelete_0 10 rfl rfl)
theorem dJ31_postDelete_13 : decode cJ31_postDelete 13 = .ok (.getfield 35, 3) := dk_180 0 35 (dk_at dksJ31_postDelete_0 13 rfl rfl)
theorem dJ31_postDelete_16 : decode cJ31_postDelete 16 = .ok (.arraylength, 1) := dk_190 (dk_at dksJ31_postDelete_0 16 rfl rfl)
theorem dJ31_postDelete_17 : decode cJ31_postDelete 17 = .ok (.invokestatic 47, 3) := dk_184 0 47 (dk_at dksJ31_postDelete_0 17 rfl rfl)
theorem dJ31_postDelete_20 : decode cJ31_postDelete 20 = .ok (.putfield 29, 3) := dk_181 0 29 (dk_at dksJ31_postDelete_0 20 rfl rfl)
theorem dJ31_postDelete_23 : decode cJ31_postDelete 23 = .ok (.return_, 1) := dk_177 (dk_at dksJ31_postDelete_0 23 rfl rfl)
abbrev cJ31_init : ByteArray := prog_64_method_1_code
def yJ31_init : MethodName := ⟨RJ31, "<init>", "(Ljava/util/ArrayDeque;)V"⟩
def dkwJ31_init_1 : List UInt8 := [181, 0, 23, 42, 43, 180, 0, 26, 181, 0, 29, 177]
abbrev dktJ31_init_1 : List UInt8 := dkwJ31_init_1 ++ []
def dkwJ31_init_0 : List UInt8 := [42, 43, 181, 0, 1, 42, 183, 0, 7, 42, 42, 180, 0, 1, 182, 0, 13, 181, 0, 19, 42, 2]
abbrev dktJ31_init_0 : List UInt8 := dkwJ31_init_0 ++ dktJ31_init_1
theorem dksJ31_init_0 : cJ31_init.data.toList.drop 0 = dktJ31_init_0 := by decide +kernel
theorem dksJ31_init_1 : cJ31_init.data.toList.drop 22 = dktJ31_init_1 := dk_seg dksJ31_init_0 22 rfl rfl
theorem dJ31_init_0 : decode cJ31_init 0 = .ok (.aload_n 0, 1) := dk_42 (dk_at dksJ31_init_0 0 rfl rfl)
theorem dJ31_init_1 : decode cJ31_init 1 = .ok (.aload_n 1, 1) := dk_43 (dk_at dksJ31_init_0 1 rfl rfl)
theorem dJ31_init_2 : decode cJ31_init 2 = .ok (.putfield 1, 3) := dk_181 0 1 (dk_at dksJ31_init_0 2 rfl rfl)
theorem dJ31_init_5 : decode cJ31_init 5 = .ok (.aload_n 0, 1) := dk_42 (dk_at dksJ31_init_0 5 rfl rfl)
theorem dJ31_init_6 : decode cJ31_init 6 = .ok (.invokespecial 7, 3) := dk_183 0 7 (dk_at dksJ31_init_0 6 rfl rfl)
theorem dJ31_init_9 : decode cJ31_init 9 = .ok (.aload_n 0, 1) := dk_42 (dk_at dksJ31_init_0 9 rfl rfl)
theorem dJ31_init_10 : decode cJ31_init 10 = .ok (.aload_n 0, 1) := dk_42 (dk_at dksJ31_init_0 10 rfl rfl)
theorem dJ31_init_11 : decode cJ31_init 11 = .ok (.getfield 1, 3) := dk_180 0 1 (dk_at dksJ31_init_0 11 rfl rfl)
theorem dJ31_init_14 : decode cJ31_init 14 = .ok (.invokevirtual 13, 3) := dk_182 0 13 (dk_at dksJ31_init_0 14 rfl rfl)
theorem dJ31_init_17 : decode cJ31_init 17 = .ok (.putfield 19, 3) := dk_181 0 19 (dk_at dksJ31_init_0 17 rfl rfl)
theorem dJ31_init_20 : decode cJ31_init 20 = .ok (.aload_n 0, 1) := dk_42 (dk_at dksJ31_init_0 20 rfl rfl)
theorem dJ31_init_21 : decode cJ31_init 21 = .ok (.iconst (-1), 1) := dk_2 (dk_at dksJ31_init_0 21 rfl rfl)
theorem dJ31_init_22 : decode cJ31_init 22 = .ok (.putfield 23, 3) := dk_181 0 23 (dk_at dksJ31_init_1 0 rfl rfl)
theorem dJ31_init_25 : decode cJ31_init 25 = .ok (.aload_n 0, 1) := dk_42 (dk_at dksJ31_init_1 3 rfl rfl)
theorem dJ31_init_26 : decode cJ31_init 26 = .ok (.aload_n 1, 1) := dk_43 (dk_at dksJ31_init_1 4 rfl rfl)
theorem dJ31_init_27 : decode cJ31_init 27 = .ok (.getfield 26, 3) := dk_180 0 26 (dk_at dksJ31_init_1 5 rfl rfl)
theorem dJ31_init_30 : decode cJ31_init 30 = .ok (.putfield 29, 3) := dk_181 0 29 (dk_at dksJ31_init_1 8 rfl rfl)
theorem dJ31_init_33 : decode cJ31_init 33 = .ok (.return_, 1) := dk_177 (dk_at dksJ31_init_1 11 rfl rfl)
theorem q129 : (Jvm.Cond.initialized "java/util/ArrayDeque$DeqIterator") ∈ lw_all := lw_g (lw_at lw_m1 46 rfl) rfl
theorem q308 : (Jvm.Cond.fieldLink "java/util/ArrayDeque$DeqIterator" (35 : Nat) "java/util/ArrayDeque" "elements" "[Ljava/lang/Object;") ∈ lw_all := lw_g (lw_at lw_m1 225 rfl) rfl
theorem q309 : (Jvm.Cond.fieldLink "java/util/ArrayDeque$DeqIterator" (26 : Nat) "java/util/ArrayDeque" "head" "I") ∈ lw_all := lw_g (lw_at lw_m1 226 rfl) rfl
theorem q579 : (Jvm.Cond.selects "java/util/ArrayDeque$DeqIterator" ({ cls := "java/lang/Object", name := "getClass", desc := "()Ljava/lang/Class;" } : Jvm.MethodName) ({ cls := "java/lang/Object", name := "getClass", desc := "()Ljava/lang/Class;" } : Jvm.MethodName)) ∈ lw_all := lw_g (lw_at lw_m3 16 rfl) rfl
theorem q749 : (Jvm.Cond.castable "java/util/ArrayDeque$DeqIterator" "java/util/Iterator") ∈ lw_tbl := lw_at lw_m3 186 rfl
theorem q750 : (Jvm.Cond.selects "java/util/ArrayDeque$DeqIterator" ({ cls := "java/util/Iterator", name := "hasNext", desc := "()Z" } : Jvm.MethodName) ({ cls := "java/util/ArrayDeque$DeqIterator", name := "hasNext", desc := "()Z" } : Jvm.MethodName)) ∈ lw_all := lw_g (lw_at lw_m3 187 rfl) rfl
theorem q751 : (Jvm.Cond.unhidden "java/util/ArrayDeque$DeqIterator" "hasNext" "()Z") ∈ lw_tbl := lw_at lw_m3 188 rfl
theorem q752 : (Jvm.Cond.instanceMethod ({ cls := "java/util/ArrayDeque$DeqIterator", name := "hasNext", desc := "()Z" } : Jvm.MethodName)) ∈ lw_all := lw_g (lw_at lw_m3 189 rfl) rfl
theorem q753 : (Jvm.Cond.publicMethod ({ cls := "java/util/ArrayDeque$DeqIterator", name := "hasNext", desc := "()Z" } : Jvm.MethodName)) ∈ lw_tbl := lw_at lw_m3 190 rfl
theorem q754 : (Jvm.Cond.code ({ cls := "java/util/ArrayDeque$DeqIterator", name := "hasNext", desc := "()Z" } : Jvm.MethodName) prog_64_method_2_code (1 : Nat) (Option.some Jvm.ClassFile.FieldType.boolean)) ∈ lw_all := lw_g (lw_at lw_m3 191 rfl) rfl
theorem q1110 : (Jvm.Cond.selects "java/util/ArrayDeque$DeqIterator" ({ cls := "java/util/Iterator", name := "next", desc := "()Ljava/lang/Object;" } : Jvm.MethodName) ({ cls := "java/util/ArrayDeque$DeqIterator", name := "next", desc := "()Ljava/lang/Object;" } : Jvm.MethodName)) ∈ lw_all := lw_g (lw_at lw_m5 67 rfl) rfl
theorem q1111 : (Jvm.Cond.unhidden "java/util/ArrayDeque$DeqIterator" "next" "()Ljava/lang/Object;") ∈ lw_tbl := lw_at lw_m5 68 rfl
theorem q1112 : (Jvm.Cond.instanceMethod ({ cls := "java/util/ArrayDeque$DeqIterator", name := "next", desc := "()Ljava/lang/Object;" } : Jvm.MethodName)) ∈ lw_all := lw_g (lw_at lw_m5 69 rfl) rfl
theorem q1113 : (Jvm.Cond.publicMethod ({ cls := "java/util/ArrayDeque$DeqIterator", name := "next", desc := "()Ljava/lang/Object;" } : Jvm.MethodName)) ∈ lw_tbl := lw_at lw_m5 70 rfl
theorem q1114 : (Jvm.Cond.code ({ cls := "java/util/ArrayDeque$DeqIterator", name := "next", desc := "()Ljava/lang/Object;" } : Jvm.MethodName) prog_64_method_3_code (3 : Nat) (Option.some (Jvm.ClassFile.FieldType.object "java/lang/Object"))) ∈ lw_all := lw_g (lw_at lw_m5 71 rfl) rfl
theorem q1115 : (Jvm.Cond.methodLink "java/util/ArrayDeque$DeqIterator" (39 : Nat) ({ cls := "java/util/ArrayDeque", name := "nonNullElementAt", desc := "([Ljava/lang/Object;I)Ljava/lang/Object;" } : Jvm.MethodName)) ∈ lw_all := lw_g (lw_at lw_m5 72 rfl) rfl
theorem q1118 : (Jvm.Cond.methodLink "java/util/ArrayDeque$DeqIterator" (43 : Nat) ({ cls := "java/util/ArrayDeque", name := "inc", desc := "(II)I" } : Jvm.MethodName)) ∈ lw_all := lw_g (lw_at lw_m5 75 rfl) rfl
theorem q1424 : (Jvm.Cond.selects "java/util/ArrayDeque$DeqIterator" ({ cls := "java/util/Iterator", name := "remove", desc := "()V" } : Jvm.MethodName) ({ cls := "java/util/ArrayDeque$DeqIterator", name := "remove", desc := "()V" } : Jvm.MethodName)) ∈ lw_all := lw_g (lw_at lw_m6 141 rfl) rfl
theorem q1425 : (Jvm.Cond.unhidden "java/util/ArrayDeque$DeqIterator" "remove" "()V") ∈ lw_tbl := lw_at lw_m6 142 rfl
theorem q1426 : (Jvm.Cond.instanceMethod ({ cls := "java/util/ArrayDeque$DeqIterator", name := "remove", desc := "()V" } : Jvm.MethodName)) ∈ lw_all := lw_g (lw_at lw_m6 143 rfl) rfl
theorem q1427 : (Jvm.Cond.publicMethod ({ cls := "java/util/ArrayDeque$DeqIterator", name := "remove", desc := "()V" } : Jvm.MethodName)) ∈ lw_tbl := lw_at lw_m6 144 rfl
theorem q1428 : (Jvm.Cond.code ({ cls := "java/util/ArrayDeque$DeqIterator", name := "remove", desc := "()V" } : Jvm.MethodName) prog_64_method_5_code (1 : Nat) (Option.none : Option Jvm.ClassFile.FieldType)) ∈ lw_all := lw_g (lw_at lw_m6 145 rfl) rfl
theorem q1429 : (Jvm.Cond.methodLink "java/util/ArrayDeque$DeqIterator" (53 : Nat) ({ cls := "java/util/ArrayDeque", name := "delete", desc := "(I)Z" } : Jvm.MethodName)) ∈ lw_all := lw_g (lw_at lw_m6 146 rfl) rfl
theorem q1438 : (Jvm.Cond.methodLink "java/util/ArrayDeque$DeqIterator" (57 : Nat) ({ cls := "java/util/ArrayDeque$DeqIterator", name := "postDelete", desc := "(Z)V" } : Jvm.MethodName)) ∈ lw_all := lw_g (lw_at lw_m6 155 rfl) rfl
theorem q1439 : (Jvm.Cond.instanceMethod ({ cls := "java/util/ArrayDeque$DeqIterator", name := "postDelete", desc := "(Z)V" } : Jvm.MethodName)) ∈ lw_all := lw_g (lw_at lw_m6 156 rfl) rfl
theorem q1440 : (Jvm.Cond.selects "java/util/ArrayDeque$DeqIterator" ({ cls := "java/util/ArrayDeque$DeqIterator", name := "postDelete", desc := "(Z)V" } : Jvm.MethodName) ({ cls := "java/util/ArrayDeque$DeqIterator", name := "postDelete", desc := "(Z)V" } : Jvm.MethodName)) ∈ lw_all := lw_g (lw_at lw_m6 157 rfl) rfl
theorem q1441 : (Jvm.Cond.code ({ cls := "java/util/ArrayDeque$DeqIterator", name := "postDelete", desc := "(Z)V" } : Jvm.MethodName) prog_64_method_4_code (2 : Nat) (Option.none : Option Jvm.ClassFile.FieldType)) ∈ lw_all := lw_g (lw_at lw_m6 158 rfl) rfl
theorem q1442 : (Jvm.Cond.methodLink "java/util/ArrayDeque$DeqIterator" (47 : Nat) ({ cls := "java/util/ArrayDeque", name := "dec", desc := "(II)I" } : Jvm.MethodName)) ∈ lw_all := lw_g (lw_at lw_m6 159 rfl) rfl
theorem q1526 : (Jvm.Cond.instantiable "java/util/ArrayDeque$DeqIterator" (4 : Nat)) ∈ lw_all := lw_g (lw_at lw_m7 3 rfl) rfl
theorem q1528 : (Jvm.Cond.instanceMethod ({ cls := "java/util/ArrayDeque$DeqIterator", name := "<init>", desc := "(Ljava/util/ArrayDeque;)V" } : Jvm.MethodName)) ∈ lw_all := lw_g (lw_at lw_m7 5 rfl) rfl
theorem q1529 : (Jvm.Cond.code ({ cls := "java/util/ArrayDeque$DeqIterator", name := "<init>", desc := "(Ljava/util/ArrayDeque;)V" } : Jvm.MethodName) prog_64_method_1_code (2 : Nat) (Option.none : Option Jvm.ClassFile.FieldType)) ∈ lw_all := lw_g (lw_at lw_m7 6 rfl) rfl
theorem q1530 : (Jvm.Cond.methodLink "java/util/ArrayDeque$DeqIterator" (7 : Nat) ({ cls := "java/lang/Object", name := "<init>", desc := "()V" } : Jvm.MethodName)) ∈ lw_all := lw_g (lw_at lw_m7 7 rfl) rfl
theorem q1531 : (Jvm.Cond.methodLink "java/util/ArrayDeque$DeqIterator" (13 : Nat) ({ cls := "java/util/ArrayDeque", name := "size", desc := "()I" } : Jvm.MethodName)) ∈ lw_all := lw_g (lw_at lw_m7 8 rfl) rfl
theorem q1532 : (Jvm.Cond.fieldLink "java/util/ArrayDeque$DeqIterator" (29 : Nat) "java/util/ArrayDeque$DeqIterator" "cursor" "I") ∈ lw_all := lw_g (lw_at lw_m7 9 rfl) rfl
theorem q1533 : (Jvm.Cond.fieldLink "java/util/ArrayDeque$DeqIterator" (19 : Nat) "java/util/ArrayDeque$DeqIterator" "remaining" "I") ∈ lw_all := lw_g (lw_at lw_m7 10 rfl) rfl
theorem q1534 : (Jvm.Cond.fieldLink "java/util/ArrayDeque$DeqIterator" (23 : Nat) "java/util/ArrayDeque$DeqIterator" "lastRet" "I") ∈ lw_all := lw_g (lw_at lw_m7 11 rfl) rfl
theorem q1535 : (Jvm.Cond.fieldLink "java/util/ArrayDeque$DeqIterator" (1 : Nat) "java/util/ArrayDeque$DeqIterator" "this$0" "Ljava/util/ArrayDeque;") ∈ lw_all := lw_g (lw_at lw_m7 12 rfl) rfl
theorem q1536 : (Jvm.Cond.lays "java/util/ArrayDeque$DeqIterator" "java/util/ArrayDeque$DeqIterator" "cursor" "I") ∈ lw_all := lw_g (lw_at lw_m7 13 rfl) rfl
theorem q1537 : (Jvm.Cond.soleField "java/util/ArrayDeque$DeqIterator" "cursor") ∈ lw_all := lw_g (lw_at lw_m7 14 rfl) rfl
theorem q1538 : (Jvm.Cond.lays "java/util/ArrayDeque$DeqIterator" "java/util/ArrayDeque$DeqIterator" "remaining" "I") ∈ lw_all := lw_g (lw_at lw_m7 15 rfl) rfl
theorem q1539 : (Jvm.Cond.soleField "java/util/ArrayDeque$DeqIterator" "remaining") ∈ lw_all := lw_g (lw_at lw_m7 16 rfl) rfl
theorem q1540 : (Jvm.Cond.lays "java/util/ArrayDeque$DeqIterator" "java/util/ArrayDeque$DeqIterator" "lastRet" "I") ∈ lw_all := lw_g (lw_at lw_m7 17 rfl) rfl
theorem q1541 : (Jvm.Cond.soleField "java/util/ArrayDeque$DeqIterator" "lastRet") ∈ lw_all := lw_g (lw_at lw_m7 18 rfl) rfl
theorem q1542 : (Jvm.Cond.laysFinal "java/util/ArrayDeque$DeqIterator" "java/util/ArrayDeque$DeqIterator" "this$0" "Ljava/util/ArrayDeque;") ∈ lw_all := lw_g (lw_at lw_m7 19 rfl) rfl
theorem q1543 : (Jvm.Cond.soleField "java/util/ArrayDeque$DeqIterator" "this$0") ∈ lw_all := lw_g (lw_at lw_m7 20 rfl) rfl
theorem q1544 : (Jvm.Cond.superclass "java/util/ArrayDeque$DeqIterator" "java/lang/Object") ∈ lw_all := lw_g (lw_at lw_m7 21 rfl) rfl
theorem q3090 : (Jvm.Cond.castable "java/util/ArrayDeque$DeqIterator" "java/lang/Object") ∈ lw_tbl := lw_at lw_m13 127 rfl
theorem in_J31 : ∀ w ∈ wsJ310, w ∈ lw_all := lw_in wsJ310 [1536, 1538, 1540, 1542] (by decide +kernel) (by decide +kernel)

/-! java/util/ImmutableCollections$ListItr -/
set_option maxRecDepth 100000
def RJ32 : String := "java/util/ImmutableCollections$ListItr"
def TJ32 : u_T := fun k => match k with
  | 0 => ("java/util/ImmutableCollections$ListItr", "list", "Ljava/util/List;", true)
  | 1 => ("java/util/ImmutableCollections$ListItr", "size", "I", true)
  | 2 => ("java/util/ImmutableCollections$ListItr", "isListIterator", "Z", true)
  | _ => ("java/util/ImmutableCollections$ListItr", "cursor", "I", false)
def tyJ32 : Nat → FieldType := fun k => match k with
  | 0 => .object "java/util/List"
  | 1 => .int
  | 2 => .boolean
  | _ => .int
abbrev wsJ320 : List Cond := u_ws RJ32 TJ32 4
theorem nmJ32 : ∀ a, a < 4 → ∀ b, b < 4 → a ≠ b → (TJ32 a).2.1 ≠ (TJ32 b).2.1 := by decide +kernel
theorem tyJ32_ok : ∀ k, k < 4 → parseFieldDescriptor (TJ32 k).2.2.1 = some (tyJ32 k) := by decide +kernel
abbrev cJ32_hasNext : ByteArray := prog_82_method_3_code
def yJ32_hasNext : MethodName := ⟨RJ32, "hasNext", "()Z"⟩
def dkwJ32_hasNext_0 : List UInt8 := [42, 180, 0, 17, 42, 180, 0, 13, 159, 0, 7, 4, 167, 0, 4, 3, 172]
abbrev dktJ32_hasNext_0 : List UInt8 := dkwJ32_hasNext_0 ++ []
theorem dksJ32_hasNext_0 : cJ32_hasNext.data.toList.drop 0 = dktJ32_hasNext_0 := by decide +kernel
theorem dJ32_hasNext_0 : decode cJ32_hasNext 0 = .ok (.aload_n 0, 1) := dk_42 (dk_at dksJ32_hasNext_0 0 rfl rfl)
theorem dJ32_hasNext_1 : decode cJ32_hasNext 1 = .ok (.getfield 17, 3) := dk_180 0 17 (dk_at dksJ32_hasNext_0 1 rfl rfl)
theorem dJ32_hasNext_4 : decode cJ32_hasNext 4 = .ok (.aload_n 0, 1) := dk_42 (dk_at dksJ32_hasNext_0 4 rfl rfl)
theorem dJ32_hasNext_5 : decode cJ32_hasNext 5 = .ok (.getfield 13, 3) := dk_180 0 13 (dk_at dksJ32_hasNext_0 5 rfl rfl)
theorem dJ32_hasNext_8 : decode cJ32_hasNext 8 = .ok (.if_icmp .eq 7, 3) := dk_159 0 7 (dk_at dksJ32_hasNext_0 8 rfl rfl)
theorem dJ32_hasNext_11 : decode cJ32_hasNext 11 = .ok (.iconst 1, 1) := dk_4 (dk_at dksJ32_hasNext_0 11 rfl rfl)
theorem dJ32_hasNext_12 : decode cJ32_hasNext 12 = .ok (.goto 4, 3) := dk_167 0 4 (dk_at dksJ32_hasNext_0 12 rfl rfl)
theorem dJ32_hasNext_15 : decode cJ32_hasNext 15 = .ok (.iconst 0, 1) := dk_3 (dk_at dksJ32_hasNext_0 15 rfl rfl)
theorem dJ32_hasNext_16 : decode cJ32_hasNext 16 = .ok (.ireturn, 1) := dk_172 (dk_at dksJ32_hasNext_0 16 rfl rfl)
abbrev cJ32_next : ByteArray := prog_82_method_4_code
def yJ32_next : MethodName := ⟨RJ32, "next", "()Ljava/lang/Object;"⟩
def dkwJ32_next_1 : List UInt8 := [176, 76, 187, 0, 32, 89, 183, 0, 34, 191]
abbrev dktJ32_next_1 : List UInt8 := dkwJ32_next_1 ++ []
def dkwJ32_next_0 : List UInt8 := [42, 180, 0, 17, 60, 42, 180, 0, 7, 27, 185, 0, 24, 2, 0, 77, 42, 27, 4, 96, 181, 0, 17, 44]
abbrev dktJ32_next_0 : List UInt8 := dkwJ32_next_0 ++ dktJ32_next_1
theorem dksJ32_next_0 : cJ32_next.data.toList.drop 0 = dktJ32_next_0 := by decide +kernel
theorem dksJ32_next_1 : cJ32_next.data.toList.drop 24 = dktJ32_next_1 := dk_seg dksJ32_next_0 24 rfl rfl
theorem dJ32_next_0 : decode cJ32_next 0 = .ok (.aload_n 0, 1) := dk_42 (dk_at dksJ32_next_0 0 rfl rfl)
theorem dJ32_next_1 : decode cJ32_next 1 = .ok (.getfield 17, 3) := dk_180 0 17 (dk_at dksJ32_next_0 1 rfl rfl)
theorem dJ32_next_4 : decode cJ32_next 4 = .ok (.istore_n 1, 1) := dk_60 (dk_at dksJ32_next_0 4 rfl rfl)
theorem dJ32_next_5 : decode cJ32_next 5 = .ok (.aload_n 0, 1) := dk_42 (dk_at dksJ32_next_0 5 rfl rfl)
theorem dJ32_next_6 : decode cJ32_next 6 = .ok (.getfield 7, 3) := dk_180 0 7 (dk_at dksJ32_next_0 6 rfl rfl)
theorem dJ32_next_9 : decode cJ32_next 9 = .ok (.iload_n 1, 1) := dk_27 (dk_at dksJ32_next_0 9 rfl rfl)
theorem dJ32_next_10 : decode cJ32_next 10 = .ok (.invokeinterface 24 2, 5) := by decide +kernel
theorem dJ32_next_15 : decode cJ32_next 15 = .ok (.astore_n 2, 1) := dk_77 (dk_at dksJ32_next_0 15 rfl rfl)
theorem dJ32_next_16 : decode cJ32_next 16 = .ok (.aload_n 0, 1) := dk_42 (dk_at dksJ32_next_0 16 rfl rfl)
theorem dJ32_next_17 : decode cJ32_next 17 = .ok (.iload_n 1, 1) := dk_27 (dk_at dksJ32_next_0 17 rfl rfl)
theorem dJ32_next_18 : decode cJ32_next 18 = .ok (.iconst 1, 1) := dk_4 (dk_at dksJ32_next_0 18 rfl rfl)
theorem dJ32_next_19 : decode cJ32_next 19 = .ok (.iadd, 1) := dk_96 (dk_at dksJ32_next_0 19 rfl rfl)
theorem dJ32_next_20 : decode cJ32_next 20 = .ok (.putfield 17, 3) := dk_181 0 17 (dk_at dksJ32_next_0 20 rfl rfl)
theorem dJ32_next_23 : decode cJ32_next 23 = .ok (.aload_n 2, 1) := dk_44 (dk_at dksJ32_next_0 23 rfl rfl)
theorem dJ32_next_24 : decode cJ32_next 24 = .ok (.areturn, 1) := dk_176 (dk_at dksJ32_next_1 0 rfl rfl)
theorem dJ32_next_25 : decode cJ32_next 25 = .ok (.astore_n 1, 1) := dk_76 (dk_at dksJ32_next_1 1 rfl rfl)
theorem dJ32_next_26 : decode cJ32_next 26 = .ok (.new 32, 3) := dk_187 0 32 (dk_at dksJ32_next_1 2 rfl rfl)
theorem dJ32_next_29 : decode cJ32_next 29 = .ok (.dup, 1) := dk_89 (dk_at dksJ32_next_1 5 rfl rfl)
theorem dJ32_next_30 : decode cJ32_next 30 = .ok (.invokespecial 34, 3) := dk_183 0 34 (dk_at dksJ32_next_1 6 rfl rfl)
theorem dJ32_next_33 : decode cJ32_next 33 = .ok (.athrow, 1) := dk_191 (dk_at dksJ32_next_1 9 rfl rfl)
abbrev cJ32_remove : ByteArray := prog_82_method_5_code
def yJ32_remove : MethodName := ⟨RJ32, "remove", "()V"⟩
theorem dJ32_remove_0 : decode cJ32_remove 0 = .ok (.invokestatic 35, 3) := by decide +kernel
theorem dJ32_remove_3 : decode cJ32_remove 3 = .ok (.athrow, 1) := by decide +kernel
abbrev cJ32_init : ByteArray := prog_82_method_1_code
def yJ32_init : MethodName := ⟨RJ32, "<init>", "(Ljava/util/List;I)V"⟩
def dkwJ32_init_1 : List UInt8 := [177]
abbrev dktJ32_init_1 : List UInt8 := dkwJ32_init_1 ++ []
def dkwJ32_init_0 : List UInt8 := [42, 183, 0, 1, 42, 43, 181, 0, 7, 42, 28, 181, 0, 13, 42, 3, 181, 0, 17, 42, 3, 181, 0, 20]
abbrev dktJ32_init_0 : List UInt8 := dkwJ32_init_0 ++ dktJ32_init_1
theorem dksJ32_init_0 : cJ32_init.data.toList.drop 0 = dktJ32_init_0 := by decide +kernel
theorem dksJ32_init_1 : cJ32_init.data.toList.drop 24 = dktJ32_init_1 := dk_seg dksJ32_init_0 24 rfl rfl
theorem dJ32_init_0 : decode cJ32_init 0 = .ok (.aload_n 0, 1) := dk_42 (dk_at dksJ32_init_0 0 rfl rfl)
theorem dJ32_init_1 : decode cJ32_init 1 = .ok (.invokespecial 1, 3) := dk_183 0 1 (dk_at dksJ32_init_0 1 rfl rfl)
theorem dJ32_init_4 : decode cJ32_init 4 = .ok (.aload_n 0, 1) := dk_42 (dk_at dksJ32_init_0 4 rfl rfl)
theorem dJ32_init_5 : decode cJ32_init 5 = .ok (.aload_n 1, 1) := dk_43 (dk_at dksJ32_init_0 5 rfl rfl)
theorem dJ32_init_6 : decode cJ32_init 6 = .ok (.putfield 7, 3) := dk_181 0 7 (dk_at dksJ32_init_0 6 rfl rfl)
theorem dJ32_init_9 : decode cJ32_init 9 = .ok (.aload_n 0, 1) := dk_42 (dk_at dksJ32_init_0 9 rfl rfl)
theorem dJ32_init_10 : decode cJ32_init 10 = .ok (.iload_n 2, 1) := dk_28 (dk_at dksJ32_init_0 10 rfl rfl)
theorem dJ32_init_11 : decode cJ32_init 11 = .ok (.putfield 13, 3) := dk_181 0 13 (dk_at dksJ32_init_0 11 rfl rfl)
theorem dJ32_init_14 : decode cJ32_init 14 = .ok (.aload_n 0, 1) := dk_42 (dk_at dksJ32_init_0 14 rfl rfl)
theorem dJ32_init_15 : decode cJ32_init 15 = .ok (.iconst 0, 1) := dk_3 (dk_at dksJ32_init_0 15 rfl rfl)
theorem dJ32_init_16 : decode cJ32_init 16 = .ok (.putfield 17, 3) := dk_181 0 17 (dk_at dksJ32_init_0 16 rfl rfl)
theorem dJ32_init_19 : decode cJ32_init 19 = .ok (.aload_n 0, 1) := dk_42 (dk_at dksJ32_init_0 19 rfl rfl)
theorem dJ32_init_20 : decode cJ32_init 20 = .ok (.iconst 0, 1) := dk_3 (dk_at dksJ32_init_0 20 rfl rfl)
theorem dJ32_init_21 : decode cJ32_init 21 = .ok (.putfield 20, 3) := dk_181 0 20 (dk_at dksJ32_init_0 21 rfl rfl)
theorem dJ32_init_24 : decode cJ32_init 24 = .ok (.return_, 1) := dk_177 (dk_at dksJ32_init_1 0 rfl rfl)
theorem q130 : (Jvm.Cond.initialized "java/util/ImmutableCollections$ListItr") ∈ lw_all := lw_g (lw_at lw_m1 47 rfl) rfl
theorem q589 : (Jvm.Cond.selects "java/util/ImmutableCollections$ListItr" ({ cls := "java/lang/Object", name := "getClass", desc := "()Ljava/lang/Class;" } : Jvm.MethodName) ({ cls := "java/lang/Object", name := "getClass", desc := "()Ljava/lang/Class;" } : Jvm.MethodName)) ∈ lw_all := lw_g (lw_at lw_m3 26 rfl) rfl
theorem q772 : (Jvm.Cond.castable "java/util/ImmutableCollections$ListItr" "java/util/Iterator") ∈ lw_tbl := lw_at lw_m3 209 rfl
theorem q773 : (Jvm.Cond.selects "java/util/ImmutableCollections$ListItr" ({ cls := "java/util/Iterator", name := "hasNext", desc := "()Z" } : Jvm.MethodName) ({ cls := "java/util/ImmutableCollections$ListItr", name := "hasNext", desc := "()Z" } : Jvm.MethodName)) ∈ lw_all := lw_g (lw_at lw_m3 210 rfl) rfl
theorem q774 : (Jvm.Cond.unhidden "java/util/ImmutableCollections$ListItr" "hasNext" "()Z") ∈ lw_tbl := lw_at lw_m3 211 rfl
theorem q775 : (Jvm.Cond.instanceMethod ({ cls := "java/util/ImmutableCollections$ListItr", name := "hasNext", desc := "()Z" } : Jvm.MethodName)) ∈ lw_all := lw_g (lw_at lw_m3 212 rfl) rfl
theorem q776 : (Jvm.Cond.publicMethod ({ cls := "java/util/ImmutableCollections$ListItr", name := "hasNext", desc := "()Z" } : Jvm.MethodName)) ∈ lw_tbl := lw_at lw_m3 213 rfl
theorem q777 : (Jvm.Cond.code ({ cls := "java/util/ImmutableCollections$ListItr", name := "hasNext", desc := "()Z" } : Jvm.MethodName) prog_82_method_3_code (1 : Nat) (Option.some Jvm.ClassFile.FieldType.boolean)) ∈ lw_all := lw_g (lw_at lw_m3 214 rfl) rfl
theorem q1141 : (Jvm.Cond.selects "java/util/ImmutableCollections$ListItr" ({ cls := "java/util/Iterator", name := "next", desc := "()Ljava/lang/Object;" } : Jvm.MethodName) ({ cls := "java/util/ImmutableCollections$ListItr", name := "next", desc := "()Ljava/lang/Object;" } : Jvm.MethodName)) ∈ lw_all := lw_g (lw_at lw_m5 98 rfl) rfl
theorem q1142 : (Jvm.Cond.unhidden "java/util/ImmutableCollections$ListItr" "next" "()Ljava/lang/Object;") ∈ lw_tbl := lw_at lw_m5 99 rfl
theorem q1143 : (Jvm.Cond.instanceMethod ({ cls := "java/util/ImmutableCollections$ListItr", name := "next", desc := "()Ljava/lang/Object;" } : Jvm.MethodName)) ∈ lw_all := lw_g (lw_at lw_m5 100 rfl) rfl
theorem q1144 : (Jvm.Cond.publicMethod ({ cls := "java/util/ImmutableCollections$ListItr", name := "next", desc := "()Ljava/lang/Object;" } : Jvm.MethodName)) ∈ lw_tbl := lw_at lw_m5 101 rfl
theorem q1145 : (Jvm.Cond.codeWith ({ cls := "java/util/ImmutableCollections$ListItr", name := "next", desc := "()Ljava/lang/Object;" } : Jvm.MethodName) prog_82_method_4_code (3 : Nat) (Option.some (Jvm.ClassFile.FieldType.object "java/lang/Object")) [((0 : Nat), (24 : Nat), (25 : Nat), (30 : Nat))]) ∈ lw_all := lw_g (lw_at lw_m5 102 rfl) rfl
theorem q1146 : (Jvm.Cond.interfaceEntry "java/util/ImmutableCollections$ListItr" (24 : Nat)) ∈ lw_tbl := lw_at lw_m5 103 rfl
theorem q1147 : (Jvm.Cond.methodLink "java/util/ImmutableCollections$ListItr" (24 : Nat) ({ cls := "java/util/List", name := "get", desc := "(I)Ljava/lang/Object;" } : Jvm.MethodName)) ∈ lw_all := lw_g (lw_at lw_m5 104 rfl) rfl
theorem q1183 : (Jvm.Cond.classLink "java/util/ImmutableCollections$ListItr" (32 : Nat) "java/util/NoSuchElementException") ∈ lw_all := lw_g (lw_at lw_m5 140 rfl) rfl
theorem q1184 : (Jvm.Cond.methodLink "java/util/ImmutableCollections$ListItr" (34 : Nat) ({ cls := "java/util/NoSuchElementException", name := "<init>", desc := "()V" } : Jvm.MethodName)) ∈ lw_all := lw_g (lw_at lw_m5 141 rfl) rfl
theorem q1460 : (Jvm.Cond.selects "java/util/ImmutableCollections$ListItr" ({ cls := "java/util/Iterator", name := "remove", desc := "()V" } : Jvm.MethodName) ({ cls := "java/util/ImmutableCollections$ListItr", name := "remove", desc := "()V" } : Jvm.MethodName)) ∈ lw_all := lw_g (lw_at lw_m6 177 rfl) rfl
theorem q1461 : (Jvm.Cond.unhidden "java/util/ImmutableCollections$ListItr" "remove" "()V") ∈ lw_tbl := lw_at lw_m6 178 rfl
theorem q1462 : (Jvm.Cond.instanceMethod ({ cls := "java/util/ImmutableCollections$ListItr", name := "remove", desc := "()V" } : Jvm.MethodName)) ∈ lw_all := lw_g (lw_at lw_m6 179 rfl) rfl
theorem q1463 : (Jvm.Cond.publicMethod ({ cls := "java/util/ImmutableCollections$ListItr", name := "remove", desc := "()V" } : Jvm.MethodName)) ∈ lw_tbl := lw_at lw_m6 180 rfl
theorem q1464 : (Jvm.Cond.code ({ cls := "java/util/ImmutableCollections$ListItr", name := "remove", desc := "()V" } : Jvm.MethodName) prog_82_method_5_code (1 : Nat) (Option.none : Option Jvm.ClassFile.FieldType)) ∈ lw_all := lw_g (lw_at lw_m6 181 rfl) rfl
theorem q1559 : (Jvm.Cond.instantiable "java/util/ImmutableCollections$ListItr" (4 : Nat)) ∈ lw_all := lw_g (lw_at lw_m7 36 rfl) rfl
theorem q1565 : (Jvm.Cond.instanceMethod ({ cls := "java/util/ImmutableCollections$ListItr", name := "<init>", desc := "(Ljava/util/List;I)V" } : Jvm.MethodName)) ∈ lw_all := lw_g (lw_at lw_m7 42 rfl) rfl
theorem q1566 : (Jvm.Cond.code ({ cls := "java/util/ImmutableCollections$ListItr", name := "<init>", desc := "(Ljava/util/List;I)V" } : Jvm.MethodName) prog_82_method_1_code (3 : Nat) (Option.none : Option Jvm.ClassFile.FieldType)) ∈ lw_all := lw_g (lw_at lw_m7 43 rfl) rfl
theorem q1567 : (Jvm.Cond.methodLink "java/util/ImmutableCollections$ListItr" (1 : Nat) ({ cls := "java/lang/Object", name := "<init>", desc := "()V" } : Jvm.MethodName)) ∈ lw_all := lw_g (lw_at lw_m7 44 rfl) rfl
theorem q1568 : (Jvm.Cond.fieldLink "java/util/ImmutableCollections$ListItr" (7 : Nat) "java/util/ImmutableCollections$ListItr" "list" "Ljava/util/List;") ∈ lw_all := lw_g (lw_at lw_m7 45 rfl) rfl
theorem q1569 : (Jvm.Cond.fieldLink "java/util/ImmutableCollections$ListItr" (13 : Nat) "java/util/ImmutableCollections$ListItr" "size" "I") ∈ lw_all := lw_g (lw_at lw_m7 46 rfl) rfl
theorem q1570 : (Jvm.Cond.fieldLink "java/util/ImmutableCollections$ListItr" (20 : Nat) "java/util/ImmutableCollections$ListItr" "isListIterator" "Z") ∈ lw_all := lw_g (lw_at lw_m7 47 rfl) rfl
theorem q1571 : (Jvm.Cond.fieldLink "java/util/ImmutableCollections$ListItr" (17 : Nat) "java/util/ImmutableCollections$ListItr" "cursor" "I") ∈ lw_all := lw_g (lw_at lw_m7 48 rfl) rfl
theorem q1572 : (Jvm.Cond.laysFinal "java/util/ImmutableCollections$ListItr" "java/util/ImmutableCollections$ListItr" "list" "Ljava/util/List;") ∈ lw_all := lw_g (lw_at lw_m7 49 rfl) rfl
theorem q1573 : (Jvm.Cond.soleField "java/util/ImmutableCollections$ListItr" "list") ∈ lw_all := lw_g (lw_at lw_m7 50 rfl) rfl
theorem q1574 : (Jvm.Cond.laysFinal "java/util/ImmutableCollections$ListItr" "java/util/ImmutableCollections$ListItr" "size" "I") ∈ lw_all := lw_g (lw_at lw_m7 51 rfl) rfl
theorem q1575 : (Jvm.Cond.soleField "java/util/ImmutableCollections$ListItr" "size") ∈ lw_all := lw_g (lw_at lw_m7 52 rfl) rfl
theorem q1576 : (Jvm.Cond.laysFinal "java/util/ImmutableCollections$ListItr" "java/util/ImmutableCollections$ListItr" "isListIterator" "Z") ∈ lw_all := lw_g (lw_at lw_m7 53 rfl) rfl
theorem q1577 : (Jvm.Cond.soleField "java/util/ImmutableCollections$ListItr" "isListIterator") ∈ lw_all := lw_g (lw_at lw_m7 54 rfl) rfl
theorem q1578 : (Jvm.Cond.lays "java/util/ImmutableCollections$ListItr" "java/util/ImmutableCollections$ListItr" "cursor" "I") ∈ lw_all := lw_g (lw_at lw_m7 55 rfl) rfl
theorem q1579 : (Jvm.Cond.soleField "java/util/ImmutableCollections$ListItr" "cursor") ∈ lw_all := lw_g (lw_at lw_m7 56 rfl) rfl
theorem q1580 : (Jvm.Cond.superclass "java/util/ImmutableCollections$ListItr" "java/lang/Object") ∈ lw_all := lw_g (lw_at lw_m7 57 rfl) rfl
theorem q3091 : (Jvm.Cond.castable "java/util/ImmutableCollections$ListItr" "java/lang/Object") ∈ lw_tbl := lw_at lw_m13 128 rfl
theorem in_J32 : ∀ w ∈ wsJ320, w ∈ lw_all := lw_in wsJ320 [1572, 1574, 1576, 1578] (by decide +kernel) (by decide +kernel)

/-! java/lang/ArrayStoreException -/
set_option maxRecDepth 100000
def RJ33 : String := "java/lang/ArrayStoreException"
def TJ33 : u_T := fun k => match k with
  | 0 => ("java/lang/Throwable", "backtrace", "Ljava/lang/Object;", false)
  | 1 => ("java/lang/Throwable", "detailMessage", "Ljava/lang/String;", false)
  | 2 => ("java/lang/Throwable", "cause", "Ljava/lang/Throwable;", false)
  | 3 => ("java/lang/Throwable", "stackTrace", "[Ljava/lang/StackTraceElement;", false)
  | 4 => ("java/lang/Throwable", "depth", "I", false)
  | _ => ("java/lang/Throwable", "suppressedExceptions", "Ljava/util/List;", false)
def tyJ33 : Nat → FieldType := fun k => match k with
  | 0 => .object "java/lang/Object"
  | 1 => .object "java/lang/String"
  | 2 => .object "java/lang/Throwable"
  | 3 => .array (.object "java/lang/StackTraceElement")
  | 4 => .int
  | _ => .object "java/util/List"
abbrev wsJ330 : List Cond := u_ws RJ33 TJ33 6
theorem nmJ33 : ∀ a, a < 6 → ∀ b, b < 6 → a ≠ b → (TJ33 a).2.1 ≠ (TJ33 b).2.1 := by decide +kernel
theorem tyJ33_ok : ∀ k, k < 6 → parseFieldDescriptor (TJ33 k).2.2.1 = some (tyJ33 k) := by decide +kernel
abbrev cJ33_init : ByteArray := prog_36_method_2_code
def yJ33_init : MethodName := ⟨RJ33, "<init>", "(Ljava/lang/String;)V"⟩
def dkwJ33_init_0 : List UInt8 := [42, 43, 183, 0, 7, 177]
abbrev dktJ33_init_0 : List UInt8 := dkwJ33_init_0 ++ []
theorem dksJ33_init_0 : cJ33_init.data.toList.drop 0 = dktJ33_init_0 := by decide +kernel
theorem dJ33_init_0 : decode cJ33_init 0 = .ok (.aload_n 0, 1) := dk_42 (dk_at dksJ33_init_0 0 rfl rfl)
theorem dJ33_init_1 : decode cJ33_init 1 = .ok (.aload_n 1, 1) := dk_43 (dk_at dksJ33_init_0 1 rfl rfl)
theorem dJ33_init_2 : decode cJ33_init 2 = .ok (.invokespecial 7, 3) := dk_183 0 7 (dk_at dksJ33_init_0 2 rfl rfl)
theorem dJ33_init_5 : decode cJ33_init 5 = .ok (.return_, 1) := dk_177 (dk_at dksJ33_init_0 5 rfl rfl)
theorem q133 : (Jvm.Cond.initialized "java/lang/ArrayStoreException") ∈ lw_all := lw_g (lw_at lw_m1 50 rfl) rfl
theorem q572 : (Jvm.Cond.selects "java/lang/ArrayStoreException" ({ cls := "java/lang/Object", name := "getClass", desc := "()Ljava/lang/Class;" } : Jvm.MethodName) ({ cls := "java/lang/Object", name := "getClass", desc := "()Ljava/lang/Class;" } : Jvm.MethodName)) ∈ lw_all := lw_g (lw_at lw_m3 9 rfl) rfl
theorem q850 : (Jvm.Cond.selects "java/lang/ArrayStoreException" ({ cls := "java/lang/Throwable", name := "fillInStackTrace", desc := "()Ljava/lang/Throwable;" } : Jvm.MethodName) ({ cls := "java/lang/Throwable", name := "fillInStackTrace", desc := "()Ljava/lang/Throwable;" } : Jvm.MethodName)) ∈ lw_all := lw_g (lw_at lw_m4 47 rfl) rfl
theorem q877 : (Jvm.Cond.selects "java/lang/ArrayStoreException" ({ cls := "java/lang/Throwable", name := "toString", desc := "()Ljava/lang/String;" } : Jvm.MethodName) ({ cls := "java/lang/Throwable", name := "toString", desc := "()Ljava/lang/String;" } : Jvm.MethodName)) ∈ lw_all := lw_g (lw_at lw_m4 74 rfl) rfl
theorem q889 : (Jvm.Cond.selects "java/lang/ArrayStoreException" ({ cls := "java/lang/Throwable", name := "getLocalizedMessage", desc := "()Ljava/lang/String;" } : Jvm.MethodName) ({ cls := "java/lang/Throwable", name := "getLocalizedMessage", desc := "()Ljava/lang/String;" } : Jvm.MethodName)) ∈ lw_all := lw_g (lw_at lw_m4 86 rfl) rfl
theorem q900 : (Jvm.Cond.selects "java/lang/ArrayStoreException" ({ cls := "java/lang/Throwable", name := "getMessage", desc := "()Ljava/lang/String;" } : Jvm.MethodName) ({ cls := "java/lang/Throwable", name := "getMessage", desc := "()Ljava/lang/String;" } : Jvm.MethodName)) ∈ lw_all := lw_g (lw_at lw_m4 97 rfl) rfl
theorem q1715 : (Jvm.Cond.instantiable "java/lang/ArrayStoreException" (6 : Nat)) ∈ lw_all := lw_g (lw_at lw_m7 192 rfl) rfl
theorem q1716 : (Jvm.Cond.instanceMethod ({ cls := "java/lang/ArrayStoreException", name := "<init>", desc := "(Ljava/lang/String;)V" } : Jvm.MethodName)) ∈ lw_all := lw_g (lw_at lw_m7 193 rfl) rfl
theorem q1717 : (Jvm.Cond.code ({ cls := "java/lang/ArrayStoreException", name := "<init>", desc := "(Ljava/lang/String;)V" } : Jvm.MethodName) prog_36_method_2_code (2 : Nat) (Option.none : Option Jvm.ClassFile.FieldType)) ∈ lw_all := lw_g (lw_at lw_m7 194 rfl) rfl
theorem q1718 : (Jvm.Cond.methodLink "java/lang/ArrayStoreException" (7 : Nat) ({ cls := "java/lang/RuntimeException", name := "<init>", desc := "(Ljava/lang/String;)V" } : Jvm.MethodName)) ∈ lw_all := lw_g (lw_at lw_m7 195 rfl) rfl
theorem q1727 : (Jvm.Cond.lays "java/lang/ArrayStoreException" "java/lang/Throwable" "backtrace" "Ljava/lang/Object;") ∈ lw_all := lw_g (lw_at lw_m7 204 rfl) rfl
theorem q1728 : (Jvm.Cond.lays "java/lang/ArrayStoreException" "java/lang/Throwable" "detailMessage" "Ljava/lang/String;") ∈ lw_all := lw_g (lw_at lw_m7 205 rfl) rfl
theorem q1729 : (Jvm.Cond.lays "java/lang/ArrayStoreException" "java/lang/Throwable" "cause" "Ljava/lang/Throwable;") ∈ lw_all := lw_g (lw_at lw_m7 206 rfl) rfl
theorem q1730 : (Jvm.Cond.lays "java/lang/ArrayStoreException" "java/lang/Throwable" "stackTrace" "[Ljava/lang/StackTraceElement;") ∈ lw_all := lw_g (lw_at lw_m7 207 rfl) rfl
theorem q1731 : (Jvm.Cond.lays "java/lang/ArrayStoreException" "java/lang/Throwable" "depth" "I") ∈ lw_all := lw_g (lw_at lw_m7 208 rfl) rfl
theorem q1732 : (Jvm.Cond.lays "java/lang/ArrayStoreException" "java/lang/Throwable" "suppressedExceptions" "Ljava/util/List;") ∈ lw_all := lw_g (lw_at lw_m7 209 rfl) rfl
theorem q1733 : (Jvm.Cond.superclass "java/lang/ArrayStoreException" "java/lang/RuntimeException") ∈ lw_all := lw_g (lw_at lw_m7 210 rfl) rfl
theorem q1734 : (Jvm.Cond.castable "java/lang/ArrayStoreException" "java/lang/ArrayStoreException") ∈ lw_tbl := lw_at lw_m7 211 rfl
theorem q1735 : (Jvm.Cond.selects "java/lang/ArrayStoreException" ({ cls := "java/lang/Throwable", name := "fillInStackTrace", desc := "(I)Ljava/lang/Throwable;" } : Jvm.MethodName) ({ cls := "java/lang/Throwable", name := "fillInStackTrace", desc := "(I)Ljava/lang/Throwable;" } : Jvm.MethodName)) ∈ lw_all := lw_g (lw_at lw_m7 212 rfl) rfl
theorem q2577 : (Jvm.Cond.selects "java/lang/ArrayStoreException" ({ cls := "java/lang/Throwable", name := "getCause", desc := "()Ljava/lang/Throwable;" } : Jvm.MethodName) ({ cls := "java/lang/Throwable", name := "getCause", desc := "()Ljava/lang/Throwable;" } : Jvm.MethodName)) ∈ lw_all := lw_g (lw_at lw_m11 94 rfl) rfl
theorem q3072 : (Jvm.Cond.castable "java/lang/ArrayStoreException" "java/lang/Object") ∈ lw_tbl := lw_at lw_m13 109 rfl
theorem in_J33 : ∀ w ∈ wsJ330, w ∈ lw_all := lw_in wsJ330 [1727, 1728, 1729, 1730, 1731, 1732] (by decide +kernel) (by decide +kernel)

/-! java/util/BitSet -/
set_option maxRecDepth 100000
def RJ34 : String := "java/util/BitSet"
def TJ34 : u_T := fun k => match k with
  | 0 => ("java/util/BitSet", "words", "[J", false)
  | 1 => ("java/util/BitSet", "wordsInUse", "I", false)
  | _ => ("java/util/BitSet", "sizeIsSticky", "Z", false)
def tyJ34 : Nat → FieldType := fun k => match k with
  | 0 => .array .long
  | 1 => .int
  | _ => .boolean
abbrev wsJ340 : List Cond := u_ws RJ34 TJ34 3
theorem nmJ34 : ∀ a, a < 3 → ∀ b, b < 3 → a ≠ b → (TJ34 a).2.1 ≠ (TJ34 b).2.1 := by decide +kernel
theorem tyJ34_ok : ∀ k, k < 3 → parseFieldDescriptor (TJ34 k).2.2.1 = some (tyJ34 k) := by decide +kernel
abbrev cJ34_init : ByteArray := prog_69_method_4_code
def yJ34_init : MethodName := ⟨RJ34, "<init>", "()V"⟩
def dkwJ34_init_1 : List UInt8 := [181, 0, 24, 177]
abbrev dktJ34_init_1 : List UInt8 := dkwJ34_init_1 ++ []
def dkwJ34_init_0 : List UInt8 := [42, 183, 0, 21, 42, 3, 181, 0, 7, 42, 3, 181, 0, 24, 42, 16, 64, 182, 0, 27, 42, 3]
abbrev dktJ34_init_0 : List UInt8 := dkwJ34_init_0 ++ dktJ34_init_1
theorem dksJ34_init_0 : cJ34_init.data.toList.drop 0 = dktJ34_init_0 := by decide +kernel
theorem dksJ34_init_1 : cJ34_init.data.toList.drop 22 = dktJ34_init_1 := dk_seg dksJ34_init_0 22 rfl rfl
theorem dJ34_init_0 : decode cJ34_init 0 = .ok (.aload_n 0, 1) := dk_42 (dk_at dksJ34_init_0 0 rfl rfl)
theorem dJ34_init_1 : decode cJ34_init 1 = .ok (.invokespecial 21, 3) := dk_183 0 21 (dk_at dksJ34_init_0 1 rfl rfl)
theorem dJ34_init_4 : decode cJ34_init 4 = .ok (.aload_n 0, 1) := dk_42 (dk_at dksJ34_init_0 4 rfl rfl)
theorem dJ34_init_5 : decode cJ34_init 5 = .ok (.iconst 0, 1) := dk_3 (dk_at dksJ34_init_0 5 rfl rfl)
theorem dJ34_init_6 : decode cJ34_init 6 = .ok (.putfield 7, 3) := dk_181 0 7 (dk_at dksJ34_init_0 6 rfl rfl)
theorem dJ34_init_9 : decode cJ34_init 9 = .ok (.aload_n 0, 1) := dk_42 (dk_at dksJ34_init_0 9 rfl rfl)
theorem dJ34_init_10 : decode cJ34_init 10 = .ok (.iconst 0, 1) := dk_3 (dk_at dksJ34_init_0 10 rfl rfl)
theorem dJ34_init_11 : decode cJ34_init 11 = .ok (.putfield 24, 3) := dk_181 0 24 (dk_at dksJ34_init_0 11 rfl rfl)
theorem dJ34_init_14 : decode cJ34_init 14 = .ok (.aload_n 0, 1) := dk_42 (dk_at dksJ34_init_0 14 rfl rfl)
theorem dJ34_init_15 : decode cJ34_init 15 = .ok (.bipush 64, 2) := dk_16 64 (dk_at dksJ34_init_0 15 rfl rfl)
theorem dJ34_init_17 : decode cJ34_init 17 = .ok (.invokevirtual 27, 3) := dk_182 0 27 (dk_at dksJ34_init_0 17 rfl rfl)
theorem dJ34_init_20 : decode cJ34_init 20 = .ok (.aload_n 0, 1) := dk_42 (dk_at dksJ34_init_0 20 rfl rfl)
theorem dJ34_init_21 : decode cJ34_init 21 = .ok (.iconst 0, 1) := dk_3 (dk_at dksJ34_init_0 21 rfl rfl)
theorem dJ34_init_22 : decode cJ34_init 22 = .ok (.putfield 24, 3) := dk_181 0 24 (dk_at dksJ34_init_1 0 rfl rfl)
theorem dJ34_init_25 : decode cJ34_init 25 = .ok (.return_, 1) := dk_177 (dk_at dksJ34_init_1 3 rfl rfl)
abbrev cJ34_initWords : ByteArray := prog_69_method_6_code
def yJ34_initWords : MethodName := ⟨RJ34, "initWords", "(I)V"⟩
def dkwJ34_initWords_0 : List UInt8 := [42, 27, 4, 100, 184, 0, 52, 4, 96, 188, 11, 181, 0, 11, 177]
abbrev dktJ34_initWords_0 : List UInt8 := dkwJ34_initWords_0 ++ []
theorem dksJ34_initWords_0 : cJ34_initWords.data.toList.drop 0 = dktJ34_initWords_0 := by decide +kernel
theorem dJ34_initWords_0 : decode cJ34_initWords 0 = .ok (.aload_n 0, 1) := dk_42 (dk_at dksJ34_initWords_0 0 rfl rfl)
theorem dJ34_initWords_1 : decode cJ34_initWords 1 = .ok (.iload_n 1, 1) := dk_27 (dk_at dksJ34_initWords_0 1 rfl rfl)
theorem dJ34_initWords_2 : decode cJ34_initWords 2 = .ok (.iconst 1, 1) := dk_4 (dk_at dksJ34_initWords_0 2 rfl rfl)
theorem dJ34_initWords_3 : decode cJ34_initWords 3 = .ok (.isub, 1) := dk_100 (dk_at dksJ34_initWords_0 3 rfl rfl)
theorem dJ34_initWords_4 : decode cJ34_initWords 4 = .ok (.invokestatic 52, 3) := dk_184 0 52 (dk_at dksJ34_initWords_0 4 rfl rfl)
theorem dJ34_initWords_7 : decode cJ34_initWords 7 = .ok (.iconst 1, 1) := dk_4 (dk_at dksJ34_initWords_0 7 rfl rfl)
theorem dJ34_initWords_8 : decode cJ34_initWords 8 = .ok (.iadd, 1) := dk_96 (dk_at dksJ34_initWords_0 8 rfl rfl)
theorem dJ34_initWords_9 : decode cJ34_initWords 9 = .ok (.newarray .long, 2) := dk_188_11 (dk_at dksJ34_initWords_0 9 rfl rfl)
theorem dJ34_initWords_11 : decode cJ34_initWords 11 = .ok (.putfield 11, 3) := dk_181 0 11 (dk_at dksJ34_initWords_0 11 rfl rfl)
theorem dJ34_initWords_14 : decode cJ34_initWords 14 = .ok (.return_, 1) := dk_177 (dk_at dksJ34_initWords_0 14 rfl rfl)
abbrev cJ34_wordIndex : ByteArray := prog_69_method_1_code
def yJ34_wordIndex : MethodName := ⟨RJ34, "wordIndex", "(I)I"⟩
def dkwJ34_wordIndex_0 : List UInt8 := [26, 16, 6, 122, 172]
abbrev dktJ34_wordIndex_0 : List UInt8 := dkwJ34_wordIndex_0 ++ []
theorem dksJ34_wordIndex_0 : cJ34_wordIndex.data.toList.drop 0 = dktJ34_wordIndex_0 := by decide +kernel
theorem dJ34_wordIndex_0 : decode cJ34_wordIndex 0 = .ok (.iload_n 0, 1) := dk_26 (dk_at dksJ34_wordIndex_0 0 rfl rfl)
theorem dJ34_wordIndex_1 : decode cJ34_wordIndex 1 = .ok (.bipush 6, 2) := dk_16 6 (dk_at dksJ34_wordIndex_0 1 rfl rfl)
theorem dJ34_wordIndex_3 : decode cJ34_wordIndex 3 = .ok (.ishr, 1) := dk_122 (dk_at dksJ34_wordIndex_0 3 rfl rfl)
theorem dJ34_wordIndex_4 : decode cJ34_wordIndex 4 = .ok (.ireturn, 1) := dk_172 (dk_at dksJ34_wordIndex_0 4 rfl rfl)
abbrev cJ34_set : ByteArray := prog_69_method_19_code
def yJ34_set : MethodName := ⟨RJ34, "set", "(I)V"⟩
def dkwJ34_set_2 : List UInt8 := [10, 27, 121, 129, 80, 42, 182, 0, 56, 177]
abbrev dktJ34_set_2 : List UInt8 := dkwJ34_set_2 ++ []
def dkwJ34_set_1 : List UInt8 := [182, 0, 45, 183, 0, 146, 191, 27, 184, 0, 52, 61, 42, 28, 182, 0, 155, 42, 180, 0, 11, 28, 92, 47]
abbrev dktJ34_set_1 : List UInt8 := dkwJ34_set_1 ++ dktJ34_set_2
def dkwJ34_set_0 : List UInt8 := [27, 156, 0, 30, 187, 0, 142, 89, 187, 0, 33, 89, 183, 0, 35, 18, 153, 182, 0, 38, 27, 182, 0, 42]
abbrev dktJ34_set_0 : List UInt8 := dkwJ34_set_0 ++ dktJ34_set_1
theorem dksJ34_set_0 : cJ34_set.data.toList.drop 0 = dktJ34_set_0 := by decide +kernel
theorem dksJ34_set_1 : cJ34_set.data.toList.drop 24 = dktJ34_set_1 := dk_seg dksJ34_set_0 24 rfl rfl
theorem dksJ34_set_2 : cJ34_set.data.toList.drop 48 = dktJ34_set_2 := dk_seg dksJ34_set_1 24 rfl rfl
theorem dJ34_set_0 : decode cJ34_set 0 = .ok (.iload_n 1, 1) := dk_27 (dk_at dksJ34_set_0 0 rfl rfl)
theorem dJ34_set_1 : decode cJ34_set 1 = .ok (.ifCond .ge 30, 3) := dk_156 0 30 (dk_at dksJ34_set_0 1 rfl rfl)
theorem dJ34_set_4 : decode cJ34_set 4 = .ok (.new 142, 3) := dk_187 0 142 (dk_at dksJ34_set_0 4 rfl rfl)
theorem dJ34_set_7 : decode cJ34_set 7 = .ok (.dup, 1) := dk_89 (dk_at dksJ34_set_0 7 rfl rfl)
theorem dJ34_set_8 : decode cJ34_set 8 = .ok (.new 33, 3) := dk_187 0 33 (dk_at dksJ34_set_0 8 rfl rfl)
theorem dJ34_set_11 : decode cJ34_set 11 = .ok (.dup, 1) := dk_89 (dk_at dksJ34_set_0 11 rfl rfl)
theorem dJ34_set_12 : decode cJ34_set 12 = .ok (.invokespecial 35, 3) := dk_183 0 35 (dk_at dksJ34_set_0 12 rfl rfl)
theorem dJ34_set_15 : decode cJ34_set 15 = .ok (.ldc 153, 2) := dk_18 153 (dk_at dksJ34_set_0 15 rfl rfl)
theorem dJ34_set_17 : decode cJ34_set 17 = .ok (.invokevirtual 38, 3) := dk_182 0 38 (dk_at dksJ34_set_0 17 rfl rfl)
theorem dJ34_set_20 : decode cJ34_set 20 = .ok (.iload_n 1, 1) := dk_27 (dk_at dksJ34_set_0 20 rfl rfl)
theorem dJ34_set_21 : decode cJ34_set 21 = .ok (.invokevirtual 42, 3) := dk_182 0 42 (dk_at dksJ34_set_0 21 rfl rfl)
theorem dJ34_set_24 : decode cJ34_set 24 = .ok (.invokevirtual 45, 3) := dk_182 0 45 (dk_at dksJ34_set_1 0 rfl rfl)
theorem dJ34_set_27 : decode cJ34_set 27 = .ok (.invokespecial 146, 3) := dk_183 0 146 (dk_at dksJ34_set_1 3 rfl rfl)
theorem dJ34_set_30 : decode cJ34_set 30 = .ok (.athrow, 1) := dk_191 (dk_at dksJ34_set_1 6 rfl rfl)
theorem dJ34_set_31 : decode cJ34_set 31 = .ok (.iload_n 1, 1) := dk_27 (dk_at dksJ34_set_1 7 rfl rfl)
theorem dJ34_set_32 : decode cJ34_set 32 = .ok (.invokestatic 52, 3) := dk_184 0 52 (dk_at dksJ34_set_1 8 rfl rfl)
theorem dJ34_set_35 : decode cJ34_set 35 = .ok (.istore_n 2, 1) := dk_61 (dk_at dksJ34_set_1 11 rfl rfl)
theorem dJ34_set_36 : decode cJ34_set 36 = .ok (.aload_n 0, 1) := dk_42 (dk_at dksJ34_set_1 12 rfl rfl)
theorem dJ34_set_37 : decode cJ34_set 37 = .ok (.iload_n 2, 1) := dk_28 (dk_at dksJ34_set_1 13 rfl rfl)
theorem dJ34_set_38 : decode cJ34_set 38 = .ok (.invokevirtual 155, 3) := dk_182 0 155 (dk_at dksJ34_set_1 14 rfl rfl)
theorem dJ34_set_41 : decode cJ34_set 41 = .ok (.aload_n 0, 1) := dk_42 (dk_at dksJ34_set_1 17 rfl rfl)
theorem dJ34_set_42 : decode cJ34_set 42 = .ok (.getfield 11, 3) := dk_180 0 11 (dk_at dksJ34_set_1 18 rfl rfl)
theorem dJ34_set_45 : decode cJ34_set 45 = .ok (.iload_n 2, 1) := dk_28 (dk_at dksJ34_set_1 21 rfl rfl)
theorem dJ34_set_46 : decode cJ34_set 46 = .ok (.dup2, 1) := dk_92 (dk_at dksJ34_set_1 22 rfl rfl)
theorem dJ34_set_47 : decode cJ34_set 47 = .ok (.laload, 1) := dk_47 (dk_at dksJ34_set_1 23 rfl rfl)
theorem dJ34_set_48 : decode cJ34_set 48 = .ok (.lconst 1, 1) := dk_10 (dk_at dksJ34_set_2 0 rfl rfl)
theorem dJ34_set_49 : decode cJ34_set 49 = .ok (.iload_n 1, 1) := dk_27 (dk_at dksJ34_set_2 1 rfl rfl)
theorem dJ34_set_50 : decode cJ34_set 50 = .ok (.lshl, 1) := dk_121 (dk_at dksJ34_set_2 2 rfl rfl)
theorem dJ34_set_51 : decode cJ34_set 51 = .ok (.lor, 1) := dk_129 (dk_at dksJ34_set_2 3 rfl rfl)
theorem dJ34_set_52 : decode cJ34_set 52 = .ok (.lastore, 1) := dk_80 (dk_at dksJ34_set_2 4 rfl rfl)
theorem dJ34_set_53 : decode cJ34_set 53 = .ok (.aload_n 0, 1) := dk_42 (dk_at dksJ34_set_2 5 rfl rfl)
theorem dJ34_set_54 : decode cJ34_set 54 = .ok (.invokevirtual 56, 3) := dk_182 0 56 (dk_at dksJ34_set_2 6 rfl rfl)
theorem dJ34_set_57 : decode cJ34_set 57 = .ok (.return_, 1) := dk_177 (dk_at dksJ34_set_2 9 rfl rfl)
abbrev cJ34_expandTo : ByteArray := prog_69_method_15_code
def yJ34_expandTo : MethodName := ⟨RJ34, "expandTo", "(I)V"⟩
def dkwJ34_expandTo_0 : List UInt8 := [27, 4, 96, 61, 42, 180, 0, 7, 28, 162, 0, 13, 42, 28, 182, 0, 139, 42, 28, 181, 0, 7, 177]
abbrev dktJ34_expandTo_0 : List UInt8 := dkwJ34_expandTo_0 ++ []
theorem dksJ34_expandTo_0 : cJ34_expandTo.data.toList.drop 0 = dktJ34_expandTo_0 := by decide +kernel
theorem dJ34_expandTo_0 : decode cJ34_expandTo 0 = .ok (.iload_n 1, 1) := dk_27 (dk_at dksJ34_expandTo_0 0 rfl rfl)
theorem dJ34_expandTo_1 : decode cJ34_expandTo 1 = .ok (.iconst 1, 1) := dk_4 (dk_at dksJ34_expandTo_0 1 rfl rfl)
theorem dJ34_expandTo_2 : decode cJ34_expandTo 2 = .ok (.iadd, 1) := dk_96 (dk_at dksJ34_expandTo_0 2 rfl rfl)
theorem dJ34_expandTo_3 : decode cJ34_expandTo 3 = .ok (.istore_n 2, 1) := dk_61 (dk_at dksJ34_expandTo_0 3 rfl rfl)
theorem dJ34_expandTo_4 : decode cJ34_expandTo 4 = .ok (.aload_n 0, 1) := dk_42 (dk_at dksJ34_expandTo_0 4 rfl rfl)
theorem dJ34_expandTo_5 : decode cJ34_expandTo 5 = .ok (.getfield 7, 3) := dk_180 0 7 (dk_at dksJ34_expandTo_0 5 rfl rfl)
theorem dJ34_expandTo_8 : decode cJ34_expandTo 8 = .ok (.iload_n 2, 1) := dk_28 (dk_at dksJ34_expandTo_0 8 rfl rfl)
theorem dJ34_expandTo_9 : decode cJ34_expandTo 9 = .ok (.if_icmp .ge 13, 3) := dk_162 0 13 (dk_at dksJ34_expandTo_0 9 rfl rfl)
theorem dJ34_expandTo_12 : decode cJ34_expandTo 12 = .ok (.aload_n 0, 1) := dk_42 (dk_at dksJ34_expandTo_0 12 rfl rfl)
theorem dJ34_expandTo_13 : decode cJ34_expandTo 13 = .ok (.iload_n 2, 1) := dk_28 (dk_at dksJ34_expandTo_0 13 rfl rfl)
theorem dJ34_expandTo_14 : decode cJ34_expandTo 14 = .ok (.invokevirtual 139, 3) := dk_182 0 139 (dk_at dksJ34_expandTo_0 14 rfl rfl)
theorem dJ34_expandTo_17 : decode cJ34_expandTo 17 = .ok (.aload_n 0, 1) := dk_42 (dk_at dksJ34_expandTo_0 17 rfl rfl)
theorem dJ34_expandTo_18 : decode cJ34_expandTo 18 = .ok (.iload_n 2, 1) := dk_28 (dk_at dksJ34_expandTo_0 18 rfl rfl)
theorem dJ34_expandTo_19 : decode cJ34_expandTo 19 = .ok (.putfield 7, 3) := dk_181 0 7 (dk_at dksJ34_expandTo_0 19 rfl rfl)
theorem dJ34_expandTo_22 : decode cJ34_expandTo 22 = .ok (.return_, 1) := dk_177 (dk_at dksJ34_expandTo_0 22 rfl rfl)
abbrev cJ34_ensureCapacity : ByteArray := prog_69_method_14_code
def yJ34_ensureCapacity : MethodName := ⟨RJ34, "ensureCapacity", "(I)V"⟩
def dkwJ34_ensureCapacity_1 : List UInt8 := [180, 0, 11, 28, 184, 0, 59, 181, 0, 11, 42, 3, 181, 0, 24, 177]
abbrev dktJ34_ensureCapacity_1 : List UInt8 := dkwJ34_ensureCapacity_1 ++ []
def dkwJ34_ensureCapacity_0 : List UInt8 := [42, 180, 0, 11, 190, 27, 162, 0, 32, 5, 42, 180, 0, 11, 190, 104, 27, 184, 0, 133, 61, 42, 42]
abbrev dktJ34_ensureCapacity_0 : List UInt8 := dkwJ34_ensureCapacity_0 ++ dktJ34_ensureCapacity_1
theorem dksJ34_ensureCapacity_0 : cJ34_ensureCapacity.data.toList.drop 0 = dktJ34_ensureCapacity_0 := by decide +kernel
theorem dksJ34_ensureCapacity_1 : cJ34_ensureCapacity.data.toList.drop 23 = dktJ34_ensureCapacity_1 := dk_seg dksJ34_ensureCapacity_0 23 rfl rfl
theorem dJ34_ensureCapacity_0 : decode cJ34_ensureCapacity 0 = .ok (.aload_n 0, 1) := dk_42 (dk_at dksJ34_ensureCapacity_0 0 rfl rfl)
theorem dJ34_ensureCapacity_1 : decode cJ34_ensureCapacity 1 = .ok (.getfield 11, 3) := dk_180 0 11 (dk_at dksJ34_ensureCapacity_0 1 rfl rfl)
theorem dJ34_ensureCapacity_4 : decode cJ34_ensureCapacity 4 = .ok (.arraylength, 1) := dk_190 (dk_at dksJ34_ensureCapacity_0 4 rfl rfl)
theorem dJ34_ensureCapacity_5 : decode cJ34_ensureCapacity 5 = .ok (.iload_n 1, 1) := dk_27 (dk_at dksJ34_ensureCapacity_0 5 rfl rfl)
theorem dJ34_ensureCapacity_6 : decode cJ34_ensureCapacity 6 = .ok (.if_icmp .ge 32, 3) := dk_162 0 32 (dk_at dksJ34_ensureCapacity_0 6 rfl rfl)
theorem dJ34_ensureCapacity_9 : decode cJ34_ensureCapacity 9 = .ok (.iconst 2, 1) := dk_5 (dk_at dksJ34_ensureCapacity_0 9 rfl rfl)
theorem dJ34_ensureCapacity_10 : decode cJ34_ensureCapacity 10 = .ok (.aload_n 0, 1) := dk_42 (dk_at dksJ34_ensureCapacity_0 10 rfl rfl)
theorem dJ34_ensureCapacity_11 : decode cJ34_ensureCapacity 11 = .ok (.getfield 11, 3) := dk_180 0 11 (dk_at dksJ34_ensureCapacity_0 11 rfl rfl)
theorem dJ34_ensureCapacity_14 : decode cJ34_ensureCapacity 14 = .ok (.arraylength, 1) := dk_190 (dk_at dksJ34_ensureCapacity_0 14 rfl rfl)
theorem dJ34_ensureCapacity_15 : decode cJ34_ensureCapacity 15 = .ok (.imul, 1) := dk_104 (dk_at dksJ34_ensureCapacity_0 15 rfl rfl)
theorem dJ34_ensureCapacity_16 : decode cJ34_ensureCapacity 16 = .ok (.iload_n 1, 1) := dk_27 (dk_at dksJ34_ensureCapacity_0 16 rfl rfl)
theorem dJ34_ensureCapacity_17 : decode cJ34_ensureCapacity 17 = .ok (.invokestatic 133, 3) := dk_184 0 133 (dk_at dksJ34_ensureCapacity_0 17 rfl rfl)
theorem dJ34_ensureCapacity_20 : decode cJ34_ensureCapacity 20 = .ok (.istore_n 2, 1) := dk_61 (dk_at dksJ34_ensureCapacity_0 20 rfl rfl)
theorem dJ34_ensureCapacity_21 : decode cJ34_ensureCapacity 21 = .ok (.aload_n 0, 1) := dk_42 (dk_at dksJ34_ensureCapacity_0 21 rfl rfl)
theorem dJ34_ensureCapacity_22 : decode cJ34_ensureCapacity 22 = .ok (.aload_n 0, 1) := dk_42 (dk_at dksJ34_ensureCapacity_0 22 rfl rfl)
theorem dJ34_ensureCapacity_23 : decode cJ34_ensureCapacity 23 = .ok (.getfield 11, 3) := dk_180 0 11 (dk_at dksJ34_ensureCapacity_1 0 rfl rfl)
theorem dJ34_ensureCapacity_26 : decode cJ34_ensureCapacity 26 = .ok (.iload_n 2, 1) := dk_28 (dk_at dksJ34_ensureCapacity_1 3 rfl rfl)
theorem dJ34_ensureCapacity_27 : decode cJ34_ensureCapacity 27 = .ok (.invokestatic 59, 3) := dk_184 0 59 (dk_at dksJ34_ensureCapacity_1 4 rfl rfl)
theorem dJ34_ensureCapacity_30 : decode cJ34_ensureCapacity 30 = .ok (.putfield 11, 3) := dk_181 0 11 (dk_at dksJ34_ensureCapacity_1 7 rfl rfl)
theorem dJ34_ensureCapacity_33 : decode cJ34_ensureCapacity 33 = .ok (.aload_n 0, 1) := dk_42 (dk_at dksJ34_ensureCapacity_1 10 rfl rfl)
theorem dJ34_ensureCapacity_34 : decode cJ34_ensureCapacity 34 = .ok (.iconst 0, 1) := dk_3 (dk_at dksJ34_ensureCapacity_1 11 rfl rfl)
theorem dJ34_ensureCapacity_35 : decode cJ34_ensureCapacity 35 = .ok (.putfield 24, 3) := dk_181 0 24 (dk_at dksJ34_ensureCapacity_1 12 rfl rfl)
theorem dJ34_ensureCapacity_38 : decode cJ34_ensureCapacity 38 = .ok (.return_, 1) := dk_177 (dk_at dksJ34_ensureCapacity_1 15 rfl rfl)
abbrev cJ34_checkInvariants : ByteArray := prog_69_method_2_code
def yJ34_checkInvariants : MethodName := ⟨RJ34, "checkInvariants", "()V"⟩
def dkwJ34_checkInvariants_4 : List UInt8 := [180, 0, 7, 47, 9, 148, 153, 0, 11, 187, 0, 15, 89, 183, 0, 17, 191, 177]
abbrev dktJ34_checkInvariants_4 : List UInt8 := dkwJ34_checkInvariants_4 ++ []
def dkwJ34_checkInvariants_3 : List UInt8 := [178, 0, 3, 154, 0, 37, 42, 180, 0, 7, 42, 180, 0, 11, 190, 159, 0, 25, 42, 180, 0, 11, 42]
abbrev dktJ34_checkInvariants_3 : List UInt8 := dkwJ34_checkInvariants_3 ++ dktJ34_checkInvariants_4
def dkwJ34_checkInvariants_2 : List UInt8 := [155, 0, 15, 42, 180, 0, 7, 42, 180, 0, 11, 190, 164, 0, 11, 187, 0, 15, 89, 183, 0, 17, 191]
abbrev dktJ34_checkInvariants_2 : List UInt8 := dkwJ34_checkInvariants_2 ++ dktJ34_checkInvariants_3
def dkwJ34_checkInvariants_1 : List UInt8 := [9, 148, 154, 0, 11, 187, 0, 15, 89, 183, 0, 17, 191, 178, 0, 3, 154, 0, 30, 42, 180, 0, 7]
abbrev dktJ34_checkInvariants_1 : List UInt8 := dkwJ34_checkInvariants_1 ++ dktJ34_checkInvariants_2
def dkwJ34_checkInvariants_0 : List UInt8 := [178, 0, 3, 154, 0, 34, 42, 180, 0, 7, 153, 0, 27, 42, 180, 0, 11, 42, 180, 0, 7, 4, 100, 47]
abbrev dktJ34_checkInvariants_0 : List UInt8 := dkwJ34_checkInvariants_0 ++ dktJ34_checkInvariants_1
theorem dksJ34_checkInvariants_0 : cJ34_checkInvariants.data.toList.drop 0 = dktJ34_checkInvariants_0 := by decide +kernel
theorem dksJ34_checkInvariants_1 : cJ34_checkInvariants.data.toList.drop 24 = dktJ34_checkInvariants_1 := dk_seg dksJ34_checkInvariants_0 24 rfl rfl
theorem dksJ34_checkInvariants_2 : cJ34_checkInvariants.data.toList.drop 47 = dktJ34_checkInvariants_2 := dk_seg dksJ34_checkInvariants_1 23 rfl rfl
theorem dksJ34_checkInvariants_3 : cJ34_checkInvariants.data.toList.drop 70 = dktJ34_checkInvariants_3 := dk_seg dksJ34_checkInvariants_2 23 rfl rfl
theorem dksJ34_checkInvariants_4 : cJ34_checkInvariants.data.toList.drop 93 = dktJ34_checkInvariants_4 := dk_seg dksJ34_checkInvariants_3 23 rfl rfl
theorem dJ34_checkInvariants_0 : decode cJ34_checkInvariants 0 = .ok (.getstatic 3, 3) := dk_178 0 3 (dk_at dksJ34_checkInvariants_0 0 rfl rfl)
theorem dJ34_checkInvariants_3 : decode cJ34_checkInvariants 3 = .ok (.ifCond .ne 34, 3) := dk_154 0 34 (dk_at dksJ34_checkInvariants_0 3 rfl rfl)
theorem dJ34_checkInvariants_6 : decode cJ34_checkInvariants 6 = .ok (.aload_n 0, 1) := dk_42 (dk_at dksJ34_checkInvariants_0 6 rfl rfl)
theorem dJ34_checkInvariants_7 : decode cJ34_checkInvariants 7 = .ok (.getfield 7, 3) := dk_180 0 7 (dk_at dksJ34_checkInvariants_0 7 rfl rfl)
theorem dJ34_checkInvariants_10 : decode cJ34_checkInvariants 10 = .ok (.ifCond .eq 27, 3) := dk_153 0 27 (dk_at dksJ34_checkInvariants_0 10 rfl rfl)
theorem dJ34_checkInvariants_13 : decode cJ34_checkInvariants 13 = .ok (.aload_n 0, 1) := dk_42 (dk_at dksJ34_checkInvariants_0 13 rfl rfl)
theorem dJ34_checkInvariants_14 : decode cJ34_checkInvariants 14 = .ok (.getfield 11, 3) := dk_180 0 11 (dk_at dksJ34_checkInvariants_0 14 rfl rfl)
theorem dJ34_checkInvariants_17 : decode cJ34_checkInvariants 17 = .ok (.aload_n 0, 1) := dk_42 (dk_at dksJ34_checkInvariants_0 17 rfl rfl)
theorem dJ34_checkInvariants_18 : decode cJ34_checkInvariants 18 = .ok (.getfield 7, 3) := dk_180 0 7 (dk_at dksJ34_checkInvariants_0 18 rfl rfl)
theorem dJ34_checkInvariants_21 : decode cJ34_checkInvariants 21 = .ok (.iconst 1, 1) := dk_4 (dk_at dksJ34_checkInvariants_0 21 rfl rfl)
theorem dJ34_checkInvariants_22 : decode cJ34_checkInvariants 22 = .ok (.isub, 1) := dk_100 (dk_at dksJ34_checkInvariants_0 22 rfl rfl)
theorem dJ34_checkInvariants_23 : decode cJ34_checkInvariants 23 = .ok (.laload, 1) := dk_47 (dk_at dksJ34_checkInvariants_0 23 rfl rfl)
theorem dJ34_checkInvariants_24 : decode cJ34_checkInvariants 24 = .ok (.lconst 0, 1) := dk_9 (dk_at dksJ34_checkInvariants_1 0 rfl rfl)
theorem dJ34_checkInvariants_25 : decode cJ34_checkInvariants 25 = .ok (.lcmp, 1) := dk_148 (dk_at dksJ34_checkInvariants_1 1 rfl rfl)
theorem dJ34_checkInvariants_26 : decode cJ34_checkInvariants 26 = .ok (.ifCond .ne 11, 3) := dk_154 0 11 (dk_at dksJ34_checkInvariants_1 2 rfl rfl)
theorem dJ34_checkInvariants_29 : decode cJ34_checkInvariants 29 = .ok (.new 15, 3) := dk_187 0 15 (dk_at dksJ34_checkInvariants_1 5 rfl rfl)
theorem dJ34_checkInvariants_32 : decode cJ34_checkInvariants 32 = .ok (.dup, 1) := dk_89 (dk_at dksJ34_checkInvariants_1 8 rfl rfl)
theorem dJ34_checkInvariants_33 : decode cJ34_checkInvariants 33 = .ok (.invokespecial 17, 3) := dk_183 0 17 (dk_at dksJ34_checkInvariants_1 9 rfl rfl)
theorem dJ34_checkInvariants_36 : decode cJ34_checkInvariants 36 = .ok (.athrow, 1) := dk_191 (dk_at dksJ34_checkInvariants_1 12 rfl rfl)
theorem dJ34_checkInvariants_37 : decode cJ34_checkInvariants 37 = .ok (.getstatic 3, 3) := dk_178 0 3 (dk_at dksJ34_checkInvariants_1 13 rfl rfl)
theorem dJ34_checkInvariants_40 : decode cJ34_checkInvariants 40 = .ok (.ifCond .ne 30, 3) := dk_154 0 30 (dk_at dksJ34_checkInvariants_1 16 rfl rfl)
theorem dJ34_checkInvariants_43 : decode cJ34_checkInvariants 43 = .ok (.aload_n 0, 1) := dk_42 (dk_at dksJ34_checkInvariants_1 19 rfl rfl)
theorem dJ34_checkInvariants_44 : decode cJ34_checkInvariants 44 = .ok (.getfield 7, 3) := dk_180 0 7 (dk_at dksJ34_checkInvariants_1 20 rfl rfl)
theorem dJ34_checkInvariants_47 : decode cJ34_checkInvariants 47 = .ok (.ifCond .lt 15, 3) := dk_155 0 15 (dk_at dksJ34_checkInvariants_2 0 rfl rfl)
theorem dJ34_checkInvariants_50 : decode cJ34_checkInvariants 50 = .ok (.aload_n 0, 1) := dk_42 (dk_at dksJ34_checkInvariants_2 3 rfl rfl)
theorem dJ34_checkInvariants_51 : decode cJ34_checkInvariants 51 = .ok (.getfield 7, 3) := dk_180 0 7 (dk_at dksJ34_checkInvariants_2 4 rfl rfl)
theorem dJ34_checkInvariants_54 : decode cJ34_checkInvariants 54 = .ok (.aload_n 0, 1) := dk_42 (dk_at dksJ34_checkInvariants_2 7 rfl rfl)
theorem dJ34_checkInvariants_55 : decode cJ34_checkInvariants 55 = .ok (.getfield 11, 3) := dk_180 0 11 (dk_at dksJ34_checkInvariants_2 8 rfl rfl)
theorem dJ34_checkInvariants_58 : decode cJ34_checkInvariants 58 = .ok (.arraylength, 1) := dk_190 (dk_at dksJ34_checkInvariants_2 11 rfl rfl)
theorem dJ34_checkInvariants_59 : decode cJ34_checkInvariants 59 = .ok (.if_icmp .le 11, 3) := dk_164 0 11 (dk_at dksJ34_checkInvariants_2 12 rfl rfl)
theorem dJ34_checkInvariants_62 : decode cJ34_checkInvariants 62 = .ok (.new 15, 3) := dk_187 0 15 (dk_at dksJ34_checkInvariants_2 15 rfl rfl)
theorem dJ34_checkInvariants_65 : decode cJ34_checkInvariants 65 = .ok (.dup, 1) := dk_89 (dk_at dksJ34_checkInvariants_2 18 rfl rfl)
theorem dJ34_checkInvariants_66 : decode cJ34_checkInvariants 66 = .ok (.invokespecial 17, 3) := dk_183 0 17 (dk_at dksJ34_checkInvariants_2 19 rfl rfl)
theorem dJ34_checkInvariants_69 : decode cJ34_checkInvariants 69 = .ok (.athrow, 1) := dk_191 (dk_at dksJ34_checkInvariants_2 22 rfl rfl)
theorem dJ34_checkInvariants_70 : decode cJ34_checkInvariants 70 = .ok (.getstatic 3, 3) := dk_178 0 3 (dk_at dksJ34_checkInvariants_3 0 rfl rfl)
theorem dJ34_checkInvariants_73 : decode cJ34_checkInvariants 73 = .ok (.ifCond .ne 37, 3) := dk_154 0 37 (dk_at dksJ34_checkInvariants_3 3 rfl rfl)
theorem dJ34_checkInvariants_76 : decode cJ34_checkInvariants 76 = .ok (.aload_n 0, 1) := dk_42 (dk_at dksJ34_checkInvariants_3 6 rfl rfl)
theorem dJ34_checkInvariants_77 : decode cJ34_checkInvariants 77 = .ok (.getfield 7, 3) := dk_180 0 7 (dk_at dksJ34_checkInvariants_3 7 rfl rfl)
theorem dJ34_checkInvariants_80 : decode cJ34_checkInvariants 80 = .ok (.aload_n 0, 1) := dk_42 (dk_at dksJ34_checkInvariants_3 10 rfl rfl)
theorem dJ34_checkInvariants_81 : decode cJ34_checkInvariants 81 = .ok (.getfield 11, 3) := dk_180 0 11 (dk_at dksJ34_checkInvariants_3 11 rfl rfl)
theorem dJ34_checkInvariants_84 : decode cJ34_checkInvariants 84 = .ok (.arraylength, 1) := dk_190 (dk_at dksJ34_checkInvariants_3 14 rfl rfl)
theorem dJ34_checkInvariants_85 : decode cJ34_checkInvariants 85 = .ok (.if_icmp .eq 25, 3) := dk_159 0 25 (dk_at dksJ34_checkInvariants_3 15 rfl rfl)
theorem dJ34_checkInvariants_88 : decode cJ34_checkInvariants 88 = .ok (.aload_n 0, 1) := dk_42 (dk_at dksJ34_checkInvariants_3 18 rfl rfl)
theorem dJ34_checkInvariants_89 : decode cJ34_checkInvariants 89 = .ok (.getfield 11, 3) := dk_180 0 11 (dk_at dksJ34_checkInvariants_3 19 rfl rfl)
theorem dJ34_checkInvariants_92 : decode cJ34_checkInvariants 92 = .ok (.aload_n 0, 1) := dk_42 (dk_at dksJ34_checkInvariants_3 22 rfl rfl)
theorem dJ34_checkInvariants_93 : decode cJ34_checkInvariants 93 = .ok (.getfield 7, 3) := dk_180 0 7 (dk_at dksJ34_checkInvariants_4 0 rfl rfl)
theorem dJ34_checkInvariants_96 : decode cJ34_checkInvariants 96 = .ok (.laload, 1) := dk_47 (dk_at dksJ34_checkInvariants_4 3 rfl rfl)
theorem dJ34_checkInvariants_97 : decode cJ34_checkInvariants 97 = .ok (.lconst 0, 1) := dk_9 (dk_at dksJ34_checkInvariants_4 4 rfl rfl)
theorem dJ34_checkInvariants_98 : decode cJ34_checkInvariants 98 = .ok (.lcmp, 1) := dk_148 (dk_at dksJ34_checkInvariants_4 5 rfl rfl)
theorem dJ34_checkInvariants_99 : decode cJ34_checkInvariants 99 = .ok (.ifCond .eq 11, 3) := dk_153 0 11 (dk_at dksJ34_checkInvariants_4 6 rfl rfl)
theorem dJ34_checkInvariants_102 : decode cJ34_checkInvariants 102 = .ok (.new 15, 3) := dk_187 0 15 (dk_at dksJ34_checkInvariants_4 9 rfl rfl)
theorem dJ34_checkInvariants_105 : decode cJ34_checkInvariants 105 = .ok (.dup, 1) := dk_89 (dk_at dksJ34_checkInvariants_4 12 rfl rfl)
theorem dJ34_checkInvariants_106 : decode cJ34_checkInvariants 106 = .ok (.invokespecial 17, 3) := dk_183 0 17 (dk_at dksJ34_checkInvariants_4 13 rfl rfl)
theorem dJ34_checkInvariants_109 : decode cJ34_checkInvariants 109 = .ok (.athrow, 1) := dk_191 (dk_at dksJ34_checkInvariants_4 16 rfl rfl)
theorem dJ34_checkInvariants_110 : decode cJ34_checkInvariants 110 = .ok (.return_, 1) := dk_177 (dk_at dksJ34_checkInvariants_4 17 rfl rfl)
abbrev cJ34_andNot : ByteArray := prog_69_method_39_code
def yJ34_andNot : MethodName := ⟨RJ34, "andNot", "(Ljava/util/BitSet;)V"⟩
def dkwJ34_andNot_2 : List UInt8 := [182, 0, 56, 177]
abbrev dktJ34_andNot_2 : List UInt8 := dkwJ34_andNot_2 ++ []
def dkwJ34_andNot_1 : List UInt8 := [47, 43, 180, 0, 11, 28, 47, 20, 0, 165, 131, 127, 80, 132, 2, 255, 167, 255, 230, 42, 182, 0, 158, 42]
abbrev dktJ34_andNot_1 : List UInt8 := dkwJ34_andNot_1 ++ dktJ34_andNot_2
def dkwJ34_andNot_0 : List UInt8 := [42, 180, 0, 7, 43, 180, 0, 7, 184, 0, 193, 4, 100, 61, 28, 155, 0, 28, 42, 180, 0, 11, 28, 92]
abbrev dktJ34_andNot_0 : List UInt8 := dkwJ34_andNot_0 ++ dktJ34_andNot_1
theorem dksJ34_andNot_0 : cJ34_andNot.data.toList.drop 0 = dktJ34_andNot_0 := by decide +kernel
theorem dksJ34_andNot_1 : cJ34_andNot.data.toList.drop 24 = dktJ34_andNot_1 := dk_seg dksJ34_andNot_0 24 rfl rfl
theorem dksJ34_andNot_2 : cJ34_andNot.data.toList.drop 48 = dktJ34_andNot_2 := dk_seg dksJ34_andNot_1 24 rfl rfl
theorem dJ34_andNot_0 : decode cJ34_andNot 0 = .ok (.aload_n 0, 1) := dk_42 (dk_at dksJ34_andNot_0 0 rfl rfl)
theorem dJ34_andNot_1 : decode cJ34_andNot 1 = .ok (.getfield 7, 3) := dk_180 0 7 (dk_at dksJ34_andNot_0 1 rfl rfl)
theorem dJ34_andNot_4 : decode cJ34_andNot 4 = .ok (.aload_n 1, 1) := dk_43 (dk_at dksJ34_andNot_0 4 rfl rfl)
theorem dJ34_andNot_5 : decode cJ34_andNot 5 = .ok (.getfield 7, 3) := dk_180 0 7 (dk_at dksJ34_andNot_0 5 rfl rfl)
theorem dJ34_andNot_8 : decode cJ34_andNot 8 = .ok (.invokestatic 193, 3) := dk_184 0 193 (dk_at dksJ34_andNot_0 8 rfl rfl)
theorem dJ34_andNot_11 : decode cJ34_andNot 11 = .ok (.iconst 1, 1) := dk_4 (dk_at dksJ34_andNot_0 11 rfl rfl)
theorem dJ34_andNot_12 : decode cJ34_andNot 12 = .ok (.isub, 1) := dk_100 (dk_at dksJ34_andNot_0 12 rfl rfl)
theorem dJ34_andNot_13 : decode cJ34_andNot 13 = .ok (.istore_n 2, 1) := dk_61 (dk_at dksJ34_andNot_0 13 rfl rfl)
theorem dJ34_andNot_14 : decode cJ34_andNot 14 = .ok (.iload_n 2, 1) := dk_28 (dk_at dksJ34_andNot_0 14 rfl rfl)
theorem dJ34_andNot_15 : decode cJ34_andNot 15 = .ok (.ifCond .lt 28, 3) := dk_155 0 28 (dk_at dksJ34_andNot_0 15 rfl rfl)
theorem dJ34_andNot_18 : decode cJ34_andNot 18 = .ok (.aload_n 0, 1) := dk_42 (dk_at dksJ34_andNot_0 18 rfl rfl)
theorem dJ34_andNot_19 : decode cJ34_andNot 19 = .ok (.getfield 11, 3) := dk_180 0 11 (dk_at dksJ34_andNot_0 19 rfl rfl)
theorem dJ34_andNot_22 : decode cJ34_andNot 22 = .ok (.iload_n 2, 1) := dk_28 (dk_at dksJ34_andNot_0 22 rfl rfl)
theorem dJ34_andNot_23 : decode cJ34_andNot 23 = .ok (.dup2, 1) := dk_92 (dk_at dksJ34_andNot_0 23 rfl rfl)
theorem dJ34_andNot_24 : decode cJ34_andNot 24 = .ok (.laload, 1) := dk_47 (dk_at dksJ34_andNot_1 0 rfl rfl)
theorem dJ34_andNot_25 : decode cJ34_andNot 25 = .ok (.aload_n 1, 1) := dk_43 (dk_at dksJ34_andNot_1 1 rfl rfl)
theorem dJ34_andNot_26 : decode cJ34_andNot 26 = .ok (.getfield 11, 3) := dk_180 0 11 (dk_at dksJ34_andNot_1 2 rfl rfl)
theorem dJ34_andNot_29 : decode cJ34_andNot 29 = .ok (.iload_n 2, 1) := dk_28 (dk_at dksJ34_andNot_1 5 rfl rfl)
theorem dJ34_andNot_30 : decode cJ34_andNot 30 = .ok (.laload, 1) := dk_47 (dk_at dksJ34_andNot_1 6 rfl rfl)
theorem dJ34_andNot_31 : decode cJ34_andNot 31 = .ok (.ldc2_w 165, 3) := dk_20 0 165 (dk_at dksJ34_andNot_1 7 rfl rfl)
theorem dJ34_andNot_34 : decode cJ34_andNot 34 = .ok (.lxor, 1) := dk_131 (dk_at dksJ34_andNot_1 10 rfl rfl)
theorem dJ34_andNot_35 : decode cJ34_andNot 35 = .ok (.land, 1) := dk_127 (dk_at dksJ34_andNot_1 11 rfl rfl)
theorem dJ34_andNot_36 : decode cJ34_andNot 36 = .ok (.lastore, 1) := dk_80 (dk_at dksJ34_andNot_1 12 rfl rfl)
theorem dJ34_andNot_37 : decode cJ34_andNot 37 = .ok (.iinc 2 (-1), 3) := dk_132 2 255 (dk_at dksJ34_andNot_1 13 rfl rfl)
theorem dJ34_andNot_40 : decode cJ34_andNot 40 = .ok (.goto (-26), 3) := dk_167 255 230 (dk_at dksJ34_andNot_1 16 rfl rfl)
theorem dJ34_andNot_43 : decode cJ34_andNot 43 = .ok (.aload_n 0, 1) := dk_42 (dk_at dksJ34_andNot_1 19 rfl rfl)
theorem dJ34_andNot_44 : decode cJ34_andNot 44 = .ok (.invokevirtual 158, 3) := dk_182 0 158 (dk_at dksJ34_andNot_1 20 rfl rfl)
theorem dJ34_andNot_47 : decode cJ34_andNot 47 = .ok (.aload_n 0, 1) := dk_42 (dk_at dksJ34_andNot_1 23 rfl rfl)
theorem dJ34_andNot_48 : decode cJ34_andNot 48 = .ok (.invokevirtual 56, 3) := dk_182 0 56 (dk_at dksJ34_andNot_2 0 rfl rfl)
theorem dJ34_andNot_51 : decode cJ34_andNot 51 = .ok (.return_, 1) := dk_177 (dk_at dksJ34_andNot_2 3 rfl rfl)
abbrev cJ34_recalculateWordsInUse : ByteArray := prog_69_method_3_code
def yJ34_recalculateWordsInUse : MethodName := ⟨RJ34, "recalculateWordsInUse", "()V"⟩
def dkwJ34_recalculateWordsInUse_1 : List UInt8 := [167, 0, 9, 132, 1, 255, 167, 255, 235, 42, 27, 4, 96, 181, 0, 7, 177]
abbrev dktJ34_recalculateWordsInUse_1 : List UInt8 := dkwJ34_recalculateWordsInUse_1 ++ []
def dkwJ34_recalculateWordsInUse_0 : List UInt8 := [42, 180, 0, 7, 4, 100, 60, 27, 155, 0, 23, 42, 180, 0, 11, 27, 47, 9, 148, 153, 0, 6]
abbrev dktJ34_recalculateWordsInUse_0 : List UInt8 := dkwJ34_recalculateWordsInUse_0 ++ dktJ34_recalculateWordsInUse_1
theorem dksJ34_recalculateWordsInUse_0 : cJ34_recalculateWordsInUse.data.toList.drop 0 = dktJ34_recalculateWordsInUse_0 := by decide +kernel
theorem dksJ34_recalculateWordsInUse_1 : cJ34_recalculateWordsInUse.data.toList.drop 22 = dktJ34_recalculateWordsInUse_1 := dk_seg dksJ34_recalculateWordsInUse_0 22 rfl rfl
theorem dJ34_recalculateWordsInUse_0 : decode cJ34_recalculateWordsInUse 0 = .ok (.aload_n 0, 1) := dk_42 (dk_at dksJ34_recalculateWordsInUse_0 0 rfl rfl)
theorem dJ34_recalculateWordsInUse_1 : decode cJ34_recalculateWordsInUse 1 = .ok (.getfield 7, 3) := dk_180 0 7 (dk_at dksJ34_recalculateWordsInUse_0 1 rfl rfl)
theorem dJ34_recalculateWordsInUse_4 : decode cJ34_recalculateWordsInUse 4 = .ok (.iconst 1, 1) := dk_4 (dk_at dksJ34_recalculateWordsInUse_0 4 rfl rfl)
theorem dJ34_recalculateWordsInUse_5 : decode cJ34_recalculateWordsInUse 5 = .ok (.isub, 1) := dk_100 (dk_at dksJ34_recalculateWordsInUse_0 5 rfl rfl)
theorem dJ34_recalculateWordsInUse_6 : decode cJ34_recalculateWordsInUse 6 = .ok (.istore_n 1, 1) := dk_60 (dk_at dksJ34_recalculateWordsInUse_0 6 rfl rfl)
theorem dJ34_recalculateWordsInUse_7 : decode cJ34_recalculateWordsInUse 7 = .ok (.iload_n 1, 1) := dk_27 (dk_at dksJ34_recalculateWordsInUse_0 7 rfl rfl)
theorem dJ34_recalculateWordsInUse_8 : decode cJ34_recalculateWordsInUse 8 = .ok (.ifCond .lt 23, 3) := dk_155 0 23 (dk_at dksJ34_recalculateWordsInUse_0 8 rfl rfl)
theorem dJ34_recalculateWordsInUse_11 : decode cJ34_recalculateWordsInUse 11 = .ok (.aload_n 0, 1) := dk_42 (dk_at dksJ34_recalculateWordsInUse_0 11 rfl rfl)
theorem dJ34_recalculateWordsInUse_12 : decode cJ34_recalculateWordsInUse 12 = .ok (.getfield 11, 3) := dk_180 0 11 (dk_at dksJ34_recalculateWordsInUse_0 12 rfl rfl)
theorem dJ34_recalculateWordsInUse_15 : decode cJ34_recalculateWordsInUse 15 = .ok (.iload_n 1, 1) := dk_27 (dk_at dksJ34_recalculateWordsInUse_0 15 rfl rfl)
theorem dJ34_recalculateWordsInUse_16 : decode cJ34_recalculateWordsInUse 16 = .ok (.laload, 1) := dk_47 (dk_at dksJ34_recalculateWordsInUse_0 16 rfl rfl)
theorem dJ34_recalculateWordsInUse_17 : decode cJ34_recalculateWordsInUse 17 = .ok (.lconst 0, 1) := dk_9 (dk_at dksJ34_recalculateWordsInUse_0 17 rfl rfl)
theorem dJ34_recalculateWordsInUse_18 : decode cJ34_recalculateWordsInUse 18 = .ok (.lcmp, 1) := dk_148 (dk_at dksJ34_recalculateWordsInUse_0 18 rfl rfl)
theorem dJ34_recalculateWordsInUse_19 : decode cJ34_recalculateWordsInUse 19 = .ok (.ifCond .eq 6, 3) := dk_153 0 6 (dk_at dksJ34_recalculateWordsInUse_0 19 rfl rfl)
theorem dJ34_recalculateWordsInUse_22 : decode cJ34_recalculateWordsInUse 22 = .ok (.goto 9, 3) := dk_167 0 9 (dk_at dksJ34_recalculateWordsInUse_1 0 rfl rfl)
theorem dJ34_recalculateWordsInUse_25 : decode cJ34_recalculateWordsInUse 25 = .ok (.iinc 1 (-1), 3) := dk_132 1 255 (dk_at dksJ34_recalculateWordsInUse_1 3 rfl rfl)
theorem dJ34_recalculateWordsInUse_28 : decode cJ34_recalculateWordsInUse 28 = .ok (.goto (-21), 3) := dk_167 255 235 (dk_at dksJ34_recalculateWordsInUse_1 6 rfl rfl)
theorem dJ34_recalculateWordsInUse_31 : decode cJ34_recalculateWordsInUse 31 = .ok (.aload_n 0, 1) := dk_42 (dk_at dksJ34_recalculateWordsInUse_1 9 rfl rfl)
theorem dJ34_recalculateWordsInUse_32 : decode cJ34_recalculateWordsInUse 32 = .ok (.iload_n 1, 1) := dk_27 (dk_at dksJ34_recalculateWordsInUse_1 10 rfl rfl)
theorem dJ34_recalculateWordsInUse_33 : decode cJ34_recalculateWordsInUse 33 = .ok (.iconst 1, 1) := dk_4 (dk_at dksJ34_recalculateWordsInUse_1 11 rfl rfl)
theorem dJ34_recalculateWordsInUse_34 : decode cJ34_recalculateWordsInUse 34 = .ok (.iadd, 1) := dk_96 (dk_at dksJ34_recalculateWordsInUse_1 12 rfl rfl)
theorem dJ34_recalculateWordsInUse_35 : decode cJ34_recalculateWordsInUse 35 = .ok (.putfield 7, 3) := dk_181 0 7 (dk_at dksJ34_recalculateWordsInUse_1 13 rfl rfl)
theorem dJ34_recalculateWordsInUse_38 : decode cJ34_recalculateWordsInUse 38 = .ok (.return_, 1) := dk_177 (dk_at dksJ34_recalculateWordsInUse_1 16 rfl rfl)
abbrev cJ34_nextSetBit : ByteArray := prog_69_method_28_code
def yJ34_nextSetBit : MethodName := ⟨RJ34, "nextSetBit", "(I)I"⟩
def dkwJ34_nextSetBit_4 : List UInt8 := [28, 47, 66, 167, 255, 220]
abbrev dktJ34_nextSetBit_4 : List UInt8 := dkwJ34_nextSetBit_4 ++ []
def dkwJ34_nextSetBit_3 : List UInt8 := [104, 33, 184, 0, 182, 96, 172, 132, 2, 1, 28, 42, 180, 0, 7, 160, 0, 5, 2, 172, 42, 180, 0, 11]
abbrev dktJ34_nextSetBit_3 : List UInt8 := dkwJ34_nextSetBit_3 ++ dktJ34_nextSetBit_4
def dkwJ34_nextSetBit_2 : List UInt8 := [2, 172, 42, 180, 0, 11, 28, 47, 20, 0, 165, 27, 121, 127, 66, 33, 9, 148, 153, 0, 13, 28, 16, 64]
abbrev dktJ34_nextSetBit_2 : List UInt8 := dkwJ34_nextSetBit_2 ++ dktJ34_nextSetBit_3
def dkwJ34_nextSetBit_1 : List UInt8 := [182, 0, 45, 183, 0, 146, 191, 42, 182, 0, 56, 27, 184, 0, 52, 61, 28, 42, 180, 0, 7, 161, 0, 5]
abbrev dktJ34_nextSetBit_1 : List UInt8 := dkwJ34_nextSetBit_1 ++ dktJ34_nextSetBit_2
def dkwJ34_nextSetBit_0 : List UInt8 := [27, 156, 0, 30, 187, 0, 142, 89, 187, 0, 33, 89, 183, 0, 35, 18, 144, 182, 0, 38, 27, 182, 0, 42]
abbrev dktJ34_nextSetBit_0 : List UInt8 := dkwJ34_nextSetBit_0 ++ dktJ34_nextSetBit_1
theorem dksJ34_nextSetBit_0 : cJ34_nextSetBit.data.toList.drop 0 = dktJ34_nextSetBit_0 := by decide +kernel
theorem dksJ34_nextSetBit_1 : cJ34_nextSetBit.data.toList.drop 24 = dktJ34_nextSetBit_1 := dk_seg dksJ34_nextSetBit_0 24 rfl rfl
theorem dksJ34_nextSetBit_2 : cJ34_nextSetBit.data.toList.drop 48 = dktJ34_nextSetBit_2 := dk_seg dksJ34_nextSetBit_1 24 rfl rfl
theorem dksJ34_nextSetBit_3 : cJ34_nextSetBit.data.toList.drop 72 = dktJ34_nextSetBit_3 := dk_seg dksJ34_nextSetBit_2 24 rfl rfl
theorem dksJ34_nextSetBit_4 : cJ34_nextSetBit.data.toList.drop 96 = dktJ34_nextSetBit_4 := dk_seg dksJ34_nextSetBit_3 24 rfl rfl
theorem dJ34_nextSetBit_0 : decode cJ34_nextSetBit 0 = .ok (.iload_n 1, 1) := dk_27 (dk_at dksJ34_nextSetBit_0 0 rfl rfl)
theorem dJ34_nextSetBit_1 : decode cJ34_nextSetBit 1 = .ok (.ifCond .ge 30, 3) := dk_156 0 30 (dk_at dksJ34_nextSetBit_0 1 rfl rfl)
theorem dJ34_nextSetBit_4 : decode cJ34_nextSetBit 4 = .ok (.new 142, 3) := dk_187 0 142 (dk_at dksJ34_nextSetBit_0 4 rfl rfl)
theorem dJ34_nextSetBit_7 : decode cJ34_nextSetBit 7 = .ok (.dup, 1) := dk_89 (dk_at dksJ34_nextSetBit_0 7 rfl rfl)
theorem dJ34_nextSetBit_8 : decode cJ34_nextSetBit 8 = .ok (.new 33, 3) := dk_187 0 33 (dk_at dksJ34_nextSetBit_0 8 rfl rfl)
theorem dJ34_nextSetBit_11 : decode cJ34_nextSetBit 11 = .ok (.dup, 1) := dk_89 (dk_at dksJ34_nextSetBit_0 11 rfl rfl)
theorem dJ34_nextSetBit_12 : decode cJ34_nextSetBit 12 = .ok (.invokespecial 35, 3) := dk_183 0 35 (dk_at dksJ34_nextSetBit_0 12 rfl rfl)
theorem dJ34_nextSetBit_15 : decode cJ34_nextSetBit 15 = .ok (.ldc 144, 2) := dk_18 144 (dk_at dksJ34_nextSetBit_0 15 rfl rfl)
theorem dJ34_nextSetBit_17 : decode cJ34_nextSetBit 17 = .ok (.invokevirtual 38, 3) := dk_182 0 38 (dk_at dksJ34_nextSetBit_0 17 rfl rfl)
theorem dJ34_nextSetBit_20 : decode cJ34_nextSetBit 20 = .ok (.iload_n 1, 1) := dk_27 (dk_at dksJ34_nextSetBit_0 20 rfl rfl)
theorem dJ34_nextSetBit_21 : decode cJ34_nextSetBit 21 = .ok (.invokevirtual 42, 3) := dk_182 0 42 (dk_at dksJ34_nextSetBit_0 21 rfl rfl)
theorem dJ34_nextSetBit_24 : decode cJ34_nextSetBit 24 = .ok (.invokevirtual 45, 3) := dk_182 0 45 (dk_at dksJ34_nextSetBit_1 0 rfl rfl)
theorem dJ34_nextSetBit_27 : decode cJ34_nextSetBit 27 = .ok (.invokespecial 146, 3) := dk_183 0 146 (dk_at dksJ34_nextSetBit_1 3 rfl rfl)
theorem dJ34_nextSetBit_30 : decode cJ34_nextSetBit 30 = .ok (.athrow, 1) := dk_191 (dk_at dksJ34_nextSetBit_1 6 rfl rfl)
theorem dJ34_nextSetBit_31 : decode cJ34_nextSetBit 31 = .ok (.aload_n 0, 1) := dk_42 (dk_at dksJ34_nextSetBit_1 7 rfl rfl)
theorem dJ34_nextSetBit_32 : decode cJ34_nextSetBit 32 = .ok (.invokevirtual 56, 3) := dk_182 0 56 (dk_at dksJ34_nextSetBit_1 8 rfl rfl)
theorem dJ34_nextSetBit_35 : decode cJ34_nextSetBit 35 = .ok (.iload_n 1, 1) := dk_27 (dk_at dksJ34_nextSetBit_1 11 rfl rfl)
theorem dJ34_nextSetBit_36 : decode cJ34_nextSetBit 36 = .ok (.invokestatic 52, 3) := dk_184 0 52 (dk_at dksJ34_nextSetBit_1 12 rfl rfl)
theorem dJ34_nextSetBit_39 : decode cJ34_nextSetBit 39 = .ok (.istore_n 2, 1) := dk_61 (dk_at dksJ34_nextSetBit_1 15 rfl rfl)
theorem dJ34_nextSetBit_40 : decode cJ34_nextSetBit 40 = .ok (.iload_n 2, 1) := dk_28 (dk_at dksJ34_nextSetBit_1 16 rfl rfl)
theorem dJ34_nextSetBit_41 : decode cJ34_nextSetBit 41 = .ok (.aload_n 0, 1) := dk_42 (dk_at dksJ34_nextSetBit_1 17 rfl rfl)
theorem dJ34_nextSetBit_42 : decode cJ34_nextSetBit 42 = .ok (.getfield 7, 3) := dk_180 0 7 (dk_at dksJ34_nextSetBit_1 18 rfl rfl)
theorem dJ34_nextSetBit_45 : decode cJ34_nextSetBit 45 = .ok (.if_icmp .lt 5, 3) := dk_161 0 5 (dk_at dksJ34_nextSetBit_1 21 rfl rfl)
theorem dJ34_nextSetBit_48 : decode cJ34_nextSetBit 48 = .ok (.iconst (-1), 1) := dk_2 (dk_at dksJ34_nextSetBit_2 0 rfl rfl)
theorem dJ34_nextSetBit_49 : decode cJ34_nextSetBit 49 = .ok (.ireturn, 1) := dk_172 (dk_at dksJ34_nextSetBit_2 1 rfl rfl)
theorem dJ34_nextSetBit_50 : decode cJ34_nextSetBit 50 = .ok (.aload_n 0, 1) := dk_42 (dk_at dksJ34_nextSetBit_2 2 rfl rfl)
theorem dJ34_nextSetBit_51 : decode cJ34_nextSetBit 51 = .ok (.getfield 11, 3) := dk_180 0 11 (dk_at dksJ34_nextSetBit_2 3 rfl rfl)
theorem dJ34_nextSetBit_54 : decode cJ34_nextSetBit 54 = .ok (.iload_n 2, 1) := dk_28 (dk_at dksJ34_nextSetBit_2 6 rfl rfl)
theorem dJ34_nextSetBit_55 : decode cJ34_nextSetBit 55 = .ok (.laload, 1) := dk_47 (dk_at dksJ34_nextSetBit_2 7 rfl rfl)
theorem dJ34_nextSetBit_56 : decode cJ34_nextSetBit 56 = .ok (.ldc2_w 165, 3) := dk_20 0 165 (dk_at dksJ34_nextSetBit_2 8 rfl rfl)
theorem dJ34_nextSetBit_59 : decode cJ34_nextSetBit 59 = .ok (.iload_n 1, 1) := dk_27 (dk_at dksJ34_nextSetBit_2 11 rfl rfl)
theorem dJ34_nextSetBit_60 : decode cJ34_nextSetBit 60 = .ok (.lshl, 1) := dk_121 (dk_at dksJ34_nextSetBit_2 12 rfl rfl)
theorem dJ34_nextSetBit_61 : decode cJ34_nextSetBit 61 = .ok (.land, 1) := dk_127 (dk_at dksJ34_nextSetBit_2 13 rfl rfl)
theorem dJ34_nextSetBit_62 : decode cJ34_nextSetBit 62 = .ok (.lstore_n 3, 1) := dk_66 (dk_at dksJ34_nextSetBit_2 14 rfl rfl)
theorem dJ34_nextSetBit_63 : decode cJ34_nextSetBit 63 = .ok (.lload_n 3, 1) := dk_33 (dk_at dksJ34_nextSetBit_2 15 rfl rfl)
theorem dJ34_nextSetBit_64 : decode cJ34_nextSetBit 64 = .ok (.lconst 0, 1) := dk_9 (dk_at dksJ34_nextSetBit_2 16 rfl rfl)
theorem dJ34_nextSetBit_65 : decode cJ34_nextSetBit 65 = .ok (.lcmp, 1) := dk_148 (dk_at dksJ34_nextSetBit_2 17 rfl rfl)
theorem dJ34_nextSetBit_66 : decode cJ34_nextSetBit 66 = .ok (.ifCond .eq 13, 3) := dk_153 0 13 (dk_at dksJ34_nextSetBit_2 18 rfl rfl)
theorem dJ34_nextSetBit_69 : decode cJ34_nextSetBit 69 = .ok (.iload_n 2, 1) := dk_28 (dk_at dksJ34_nextSetBit_2 21 rfl rfl)
theorem dJ34_nextSetBit_70 : decode cJ34_nextSetBit 70 = .ok (.bipush 64, 2) := dk_16 64 (dk_at dksJ34_nextSetBit_2 22 rfl rfl)
theorem dJ34_nextSetBit_72 : decode cJ34_nextSetBit 72 = .ok (.imul, 1) := dk_104 (dk_at dksJ34_nextSetBit_3 0 rfl rfl)
theorem dJ34_nextSetBit_73 : decode cJ34_nextSetBit 73 = .ok (.lload_n 3, 1) := dk_33 (dk_at dksJ34_nextSetBit_3 1 rfl rfl)
theorem dJ34_nextSetBit_74 : decode cJ34_nextSetBit 74 = .ok (.invokestatic 182, 3) := dk_184 0 182 (dk_at dksJ34_nextSetBit_3 2 rfl rfl)
theorem dJ34_nextSetBit_77 : decode cJ34_nextSetBit 77 = .ok (.iadd, 1) := dk_96 (dk_at dksJ34_nextSetBit_3 5 rfl rfl)
theorem dJ34_nextSetBit_78 : decode cJ34_nextSetBit 78 = .ok (.ireturn, 1) := dk_172 (dk_at dksJ34_nextSetBit_3 6 rfl rfl)
theorem dJ34_nextSetBit_79 : decode cJ34_nextSetBit 79 = .ok (.iinc 2 1, 3) := dk_132 2 1 (dk_at dksJ34_nextSetBit_3 7 rfl rfl)
theorem dJ34_nextSetBit_82 : decode cJ34_nextSetBit 82 = .ok (.iload_n 2, 1) := dk_28 (dk_at dksJ34_nextSetBit_3 10 rfl rfl)
theorem dJ34_nextSetBit_83 : decode cJ34_nextSetBit 83 = .ok (.aload_n 0, 1) := dk_42 (dk_at dksJ34_nextSetBit_3 11 rfl rfl)
theorem dJ34_nextSetBit_84 : decode cJ34_nextSetBit 84 = .ok (.getfield 7, 3) := dk_180 0 7 (dk_at dksJ34_nextSetBit_3 12 rfl rfl)
theorem dJ34_nextSetBit_87 : decode cJ34_nextSetBit 87 = .ok (.if_icmp .ne 5, 3) := dk_160 0 5 (dk_at dksJ34_nextSetBit_3 15 rfl rfl)
theorem dJ34_nextSetBit_90 : decode cJ34_nextSetBit 90 = .ok (.iconst (-1), 1) := dk_2 (dk_at dksJ34_nextSetBit_3 18 rfl rfl)
theorem dJ34_nextSetBit_91 : decode cJ34_nextSetBit 91 = .ok (.ireturn, 1) := dk_172 (dk_at dksJ34_nextSetBit_3 19 rfl rfl)
theorem dJ34_nextSetBit_92 : decode cJ34_nextSetBit 92 = .ok (.aload_n 0, 1) := dk_42 (dk_at dksJ34_nextSetBit_3 20 rfl rfl)
theorem dJ34_nextSetBit_93 : decode cJ34_nextSetBit 93 = .ok (.getfield 11, 3) := dk_180 0 11 (dk_at dksJ34_nextSetBit_3 21 rfl rfl)
theorem dJ34_nextSetBit_96 : decode cJ34_nextSetBit 96 = .ok (.iload_n 2, 1) := dk_28 (dk_at dksJ34_nextSetBit_4 0 rfl rfl)
theorem dJ34_nextSetBit_97 : decode cJ34_nextSetBit 97 = .ok (.laload, 1) := dk_47 (dk_at dksJ34_nextSetBit_4 1 rfl rfl)
theorem dJ34_nextSetBit_98 : decode cJ34_nextSetBit 98 = .ok (.lstore_n 3, 1) := dk_66 (dk_at dksJ34_nextSetBit_4 2 rfl rfl)
theorem dJ34_nextSetBit_99 : decode cJ34_nextSetBit 99 = .ok (.goto (-36), 3) := dk_167 255 220 (dk_at dksJ34_nextSetBit_4 3 rfl rfl)
abbrev cJ34_cardinality : ByteArray := prog_69_method_35_code
def yJ34_cardinality : MethodName := ⟨RJ34, "cardinality", "()I"⟩
def dkwJ34_cardinality_1 : List UInt8 := [132, 2, 1, 167, 255, 233, 27, 172]
abbrev dktJ34_cardinality_1 : List UInt8 := dkwJ34_cardinality_1 ++ []
def dkwJ34_cardinality_0 : List UInt8 := [3, 60, 3, 61, 28, 42, 180, 0, 7, 162, 0, 21, 27, 42, 180, 0, 11, 28, 47, 184, 0, 196, 96, 60]
abbrev dktJ34_cardinality_0 : List UInt8 := dkwJ34_cardinality_0 ++ dktJ34_cardinality_1
theorem dksJ34_cardinality_0 : cJ34_cardinality.data.toList.drop 0 = dktJ34_cardinality_0 := by decide +kernel
theorem dksJ34_cardinality_1 : cJ34_cardinality.data.toList.drop 24 = dktJ34_cardinality_1 := dk_seg dksJ34_cardinality_0 24 rfl rfl
theorem dJ34_cardinality_0 : decode cJ34_cardinality 0 = .ok (.iconst 0, 1) := dk_3 (dk_at dksJ34_cardinality_0 0 rfl rfl)
theorem dJ34_cardinality_1 : decode cJ34_cardinality 1 = .ok (.istore_n 1, 1) := dk_60 (dk_at dksJ34_cardinality_0 1 rfl rfl)
theorem dJ34_cardinality_2 : decode cJ34_cardinality 2 = .ok (.iconst 0, 1) := dk_3 (dk_at dksJ34_cardinality_0 2 rfl rfl)
theorem dJ34_cardinality_3 : decode cJ34_cardinality 3 = .ok (.istore_n 2, 1) := dk_61 (dk_at dksJ34_cardinality_0 3 rfl rfl)
theorem dJ34_cardinality_4 : decode cJ34_cardinality 4 = .ok (.iload_n 2, 1) := dk_28 (dk_at dksJ34_cardinality_0 4 rfl rfl)
theorem dJ34_cardinality_5 : decode cJ34_cardinality 5 = .ok (.aload_n 0, 1) := dk_42 (dk_at dksJ34_cardinality_0 5 rfl rfl)
theorem dJ34_cardinality_6 : decode cJ34_cardinality 6 = .ok (.getfield 7, 3) := dk_180 0 7 (dk_at dksJ34_cardinality_0 6 rfl rfl)
theorem dJ34_cardinality_9 : decode cJ34_cardinality 9 = .ok (.if_icmp .ge 21, 3) := dk_162 0 21 (dk_at dksJ34_cardinality_0 9 rfl rfl)
theorem dJ34_cardinality_12 : decode cJ34_cardinality 12 = .ok (.iload_n 1, 1) := dk_27 (dk_at dksJ34_cardinality_0 12 rfl rfl)
theorem dJ34_cardinality_13 : decode cJ34_cardinality 13 = .ok (.aload_n 0, 1) := dk_42 (dk_at dksJ34_cardinality_0 13 rfl rfl)
theorem dJ34_cardinality_14 : decode cJ34_cardinality 14 = .ok (.getfield 11, 3) := dk_180 0 11 (dk_at dksJ34_cardinality_0 14 rfl rfl)
theorem dJ34_cardinality_17 : decode cJ34_cardinality 17 = .ok (.iload_n 2, 1) := dk_28 (dk_at dksJ34_cardinality_0 17 rfl rfl)
theorem dJ34_cardinality_18 : decode cJ34_cardinality 18 = .ok (.laload, 1) := dk_47 (dk_at dksJ34_cardinality_0 18 rfl rfl)
theorem dJ34_cardinality_19 : decode cJ34_cardinality 19 = .ok (.invokestatic 196, 3) := dk_184 0 196 (dk_at dksJ34_cardinality_0 19 rfl rfl)
theorem dJ34_cardinality_22 : decode cJ34_cardinality 22 = .ok (.iadd, 1) := dk_96 (dk_at dksJ34_cardinality_0 22 rfl rfl)
theorem dJ34_cardinality_23 : decode cJ34_cardinality 23 = .ok (.istore_n 1, 1) := dk_60 (dk_at dksJ34_cardinality_0 23 rfl rfl)
theorem dJ34_cardinality_24 : decode cJ34_cardinality 24 = .ok (.iinc 2 1, 3) := dk_132 2 1 (dk_at dksJ34_cardinality_1 0 rfl rfl)
theorem dJ34_cardinality_27 : decode cJ34_cardinality 27 = .ok (.goto (-23), 3) := dk_167 255 233 (dk_at dksJ34_cardinality_1 3 rfl rfl)
theorem dJ34_cardinality_30 : decode cJ34_cardinality 30 = .ok (.iload_n 1, 1) := dk_27 (dk_at dksJ34_cardinality_1 6 rfl rfl)
theorem dJ34_cardinality_31 : decode cJ34_cardinality 31 = .ok (.ireturn, 1) := dk_172 (dk_at dksJ34_cardinality_1 7 rfl rfl)
theorem q134 : (Jvm.Cond.initialized "java/util/BitSet") ∈ lw_all := lw_g (lw_at lw_m1 51 rfl) rfl
theorem q583 : (Jvm.Cond.selects "java/util/BitSet" ({ cls := "java/lang/Object", name := "getClass", desc := "()Ljava/lang/Class;" } : Jvm.MethodName) ({ cls := "java/lang/Object", name := "getClass", desc := "()Ljava/lang/Class;" } : Jvm.MethodName)) ∈ lw_all := lw_g (lw_at lw_m3 20 rfl) rfl
theorem q1773 : (Jvm.Cond.instantiable "java/util/BitSet" (3 : Nat)) ∈ lw_all := lw_g (lw_at lw_m8 10 rfl) rfl
theorem q1775 : (Jvm.Cond.instanceMethod ({ cls := "java/util/BitSet", name := "<init>", desc := "()V" } : Jvm.MethodName)) ∈ lw_all := lw_g (lw_at lw_m8 12 rfl) rfl
theorem q1776 : (Jvm.Cond.code ({ cls := "java/util/BitSet", name := "<init>", desc := "()V" } : Jvm.MethodName) prog_69_method_4_code (1 : Nat) (Option.none : Option Jvm.ClassFile.FieldType)) ∈ lw_all := lw_g (lw_at lw_m8 13 rfl) rfl
theorem q1777 : (Jvm.Cond.methodLink "java/util/BitSet" (21 : Nat) ({ cls := "java/lang/Object", name := "<init>", desc := "()V" } : Jvm.MethodName)) ∈ lw_all := lw_g (lw_at lw_m8 14 rfl) rfl
theorem q1778 : (Jvm.Cond.methodLink "java/util/BitSet" (27 : Nat) ({ cls := "java/util/BitSet", name := "initWords", desc := "(I)V" } : Jvm.MethodName)) ∈ lw_all := lw_g (lw_at lw_m8 15 rfl) rfl
theorem q1779 : (Jvm.Cond.privateMethod ({ cls := "java/util/BitSet", name := "initWords", desc := "(I)V" } : Jvm.MethodName)) ∈ lw_tbl := lw_at lw_m8 16 rfl
theorem q1780 : (Jvm.Cond.instanceMethod ({ cls := "java/util/BitSet", name := "initWords", desc := "(I)V" } : Jvm.MethodName)) ∈ lw_all := lw_g (lw_at lw_m8 17 rfl) rfl
theorem q1781 : (Jvm.Cond.code ({ cls := "java/util/BitSet", name := "initWords", desc := "(I)V" } : Jvm.MethodName) prog_69_method_6_code (2 : Nat) (Option.none : Option Jvm.ClassFile.FieldType)) ∈ lw_all := lw_g (lw_at lw_m8 18 rfl) rfl
theorem q1782 : (Jvm.Cond.methodLink "java/util/BitSet" (52 : Nat) ({ cls := "java/util/BitSet", name := "wordIndex", desc := "(I)I" } : Jvm.MethodName)) ∈ lw_all := lw_g (lw_at lw_m8 19 rfl) rfl
theorem q1783 : (Jvm.Cond.static ({ cls := "java/util/BitSet", name := "wordIndex", desc := "(I)I" } : Jvm.MethodName)) ∈ lw_all := lw_g (lw_at lw_m8 20 rfl) rfl
theorem q1784 : (Jvm.Cond.code ({ cls := "java/util/BitSet", name := "wordIndex", desc := "(I)I" } : Jvm.MethodName) prog_69_method_1_code (1 : Nat) (Option.some Jvm.ClassFile.FieldType.int)) ∈ lw_all := lw_g (lw_at lw_m8 21 rfl) rfl
theorem q1785 : (Jvm.Cond.fieldLink "java/util/BitSet" (11 : Nat) "java/util/BitSet" "words" "[J") ∈ lw_all := lw_g (lw_at lw_m8 22 rfl) rfl
theorem q1786 : (Jvm.Cond.fieldLink "java/util/BitSet" (7 : Nat) "java/util/BitSet" "wordsInUse" "I") ∈ lw_all := lw_g (lw_at lw_m8 23 rfl) rfl
theorem q1787 : (Jvm.Cond.fieldLink "java/util/BitSet" (24 : Nat) "java/util/BitSet" "sizeIsSticky" "Z") ∈ lw_all := lw_g (lw_at lw_m8 24 rfl) rfl
theorem q1788 : (Jvm.Cond.lays "java/util/BitSet" "java/util/BitSet" "words" "[J") ∈ lw_all := lw_g (lw_at lw_m8 25 rfl) rfl
theorem q1789 : (Jvm.Cond.soleField "java/util/BitSet" "words") ∈ lw_all := lw_g (lw_at lw_m8 26 rfl) rfl
theorem q1790 : (Jvm.Cond.lays "java/util/BitSet" "java/util/BitSet" "wordsInUse" "I") ∈ lw_all := lw_g (lw_at lw_m8 27 rfl) rfl
theorem q1791 : (Jvm.Cond.soleField "java/util/BitSet" "wordsInUse") ∈ lw_all := lw_g (lw_at lw_m8 28 rfl) rfl
theorem q1792 : (Jvm.Cond.lays "java/util/BitSet" "java/util/BitSet" "sizeIsSticky" "Z") ∈ lw_all := lw_g (lw_at lw_m8 29 rfl) rfl
theorem q1793 : (Jvm.Cond.soleField "java/util/BitSet" "sizeIsSticky") ∈ lw_all := lw_g (lw_at lw_m8 30 rfl) rfl
theorem q1794 : (Jvm.Cond.superclass "java/util/BitSet" "java/lang/Object") ∈ lw_all := lw_g (lw_at lw_m8 31 rfl) rfl
theorem q1808 : (Jvm.Cond.instanceMethod ({ cls := "java/util/BitSet", name := "set", desc := "(I)V" } : Jvm.MethodName)) ∈ lw_all := lw_g (lw_at lw_m8 45 rfl) rfl
theorem q1809 : (Jvm.Cond.selects "java/util/BitSet" ({ cls := "java/util/BitSet", name := "set", desc := "(I)V" } : Jvm.MethodName) ({ cls := "java/util/BitSet", name := "set", desc := "(I)V" } : Jvm.MethodName)) ∈ lw_all := lw_g (lw_at lw_m8 46 rfl) rfl
theorem q1810 : (Jvm.Cond.code ({ cls := "java/util/BitSet", name := "set", desc := "(I)V" } : Jvm.MethodName) prog_69_method_19_code (3 : Nat) (Option.none : Option Jvm.ClassFile.FieldType)) ∈ lw_all := lw_g (lw_at lw_m8 47 rfl) rfl
theorem q1811 : (Jvm.Cond.methodLink "java/util/BitSet" (155 : Nat) ({ cls := "java/util/BitSet", name := "expandTo", desc := "(I)V" } : Jvm.MethodName)) ∈ lw_all := lw_g (lw_at lw_m8 48 rfl) rfl
theorem q1812 : (Jvm.Cond.privateMethod ({ cls := "java/util/BitSet", name := "expandTo", desc := "(I)V" } : Jvm.MethodName)) ∈ lw_tbl := lw_at lw_m8 49 rfl
theorem q1813 : (Jvm.Cond.instanceMethod ({ cls := "java/util/BitSet", name := "expandTo", desc := "(I)V" } : Jvm.MethodName)) ∈ lw_all := lw_g (lw_at lw_m8 50 rfl) rfl
theorem q1814 : (Jvm.Cond.code ({ cls := "java/util/BitSet", name := "expandTo", desc := "(I)V" } : Jvm.MethodName) prog_69_method_15_code (3 : Nat) (Option.none : Option Jvm.ClassFile.FieldType)) ∈ lw_all := lw_g (lw_at lw_m8 51 rfl) rfl
theorem q1815 : (Jvm.Cond.methodLink "java/util/BitSet" (139 : Nat) ({ cls := "java/util/BitSet", name := "ensureCapacity", desc := "(I)V" } : Jvm.MethodName)) ∈ lw_all := lw_g (lw_at lw_m8 52 rfl) rfl
theorem q1816 : (Jvm.Cond.privateMethod ({ cls := "java/util/BitSet", name := "ensureCapacity", desc := "(I)V" } : Jvm.MethodName)) ∈ lw_tbl := lw_at lw_m8 53 rfl
theorem q1817 : (Jvm.Cond.instanceMethod ({ cls := "java/util/BitSet", name := "ensureCapacity", desc := "(I)V" } : Jvm.MethodName)) ∈ lw_all := lw_g (lw_at lw_m8 54 rfl) rfl
theorem q1818 : (Jvm.Cond.code ({ cls := "java/util/BitSet", name := "ensureCapacity", desc := "(I)V" } : Jvm.MethodName) prog_69_method_14_code (3 : Nat) (Option.none : Option Jvm.ClassFile.FieldType)) ∈ lw_all := lw_g (lw_at lw_m8 55 rfl) rfl
theorem q1819 : (Jvm.Cond.methodLink "java/util/BitSet" (133 : Nat) ({ cls := "java/lang/Math", name := "max", desc := "(II)I" } : Jvm.MethodName)) ∈ lw_all := lw_g (lw_at lw_m8 56 rfl) rfl
theorem q1820 : (Jvm.Cond.methodLink "java/util/BitSet" (59 : Nat) ({ cls := "java/util/Arrays", name := "copyOf", desc := "([JI)[J" } : Jvm.MethodName)) ∈ lw_all := lw_g (lw_at lw_m8 57 rfl) rfl
theorem q1828 : (Jvm.Cond.methodLink "java/util/BitSet" (56 : Nat) ({ cls := "java/util/BitSet", name := "checkInvariants", desc := "()V" } : Jvm.MethodName)) ∈ lw_all := lw_g (lw_at lw_m8 65 rfl) rfl
theorem q1829 : (Jvm.Cond.privateMethod ({ cls := "java/util/BitSet", name := "checkInvariants", desc := "()V" } : Jvm.MethodName)) ∈ lw_tbl := lw_at lw_m8 66 rfl
theorem q1830 : (Jvm.Cond.instanceMethod ({ cls := "java/util/BitSet", name := "checkInvariants", desc := "()V" } : Jvm.MethodName)) ∈ lw_all := lw_g (lw_at lw_m8 67 rfl) rfl
theorem q1831 : (Jvm.Cond.code ({ cls := "java/util/BitSet", name := "checkInvariants", desc := "()V" } : Jvm.MethodName) prog_69_method_2_code (1 : Nat) (Option.none : Option Jvm.ClassFile.FieldType)) ∈ lw_all := lw_g (lw_at lw_m8 68 rfl) rfl
theorem q1832 : (Jvm.Cond.fieldLink "java/util/BitSet" (3 : Nat) "java/util/BitSet" "$assertionsDisabled" "Z") ∈ lw_all := lw_g (lw_at lw_m8 69 rfl) rfl
theorem q1833 : (Jvm.Cond.laysStatic "java/util/BitSet" "$assertionsDisabled" "Z") ∈ lw_tbl := lw_at lw_m8 70 rfl
theorem q1839 : (Jvm.Cond.instanceMethod ({ cls := "java/util/BitSet", name := "andNot", desc := "(Ljava/util/BitSet;)V" } : Jvm.MethodName)) ∈ lw_all := lw_g (lw_at lw_m8 76 rfl) rfl
theorem q1840 : (Jvm.Cond.selects "java/util/BitSet" ({ cls := "java/util/BitSet", name := "andNot", desc := "(Ljava/util/BitSet;)V" } : Jvm.MethodName) ({ cls := "java/util/BitSet", name := "andNot", desc := "(Ljava/util/BitSet;)V" } : Jvm.MethodName)) ∈ lw_all := lw_g (lw_at lw_m8 77 rfl) rfl
theorem q1841 : (Jvm.Cond.code ({ cls := "java/util/BitSet", name := "andNot", desc := "(Ljava/util/BitSet;)V" } : Jvm.MethodName) prog_69_method_39_code (3 : Nat) (Option.none : Option Jvm.ClassFile.FieldType)) ∈ lw_all := lw_g (lw_at lw_m8 78 rfl) rfl
theorem q1842 : (Jvm.Cond.methodLink "java/util/BitSet" (193 : Nat) ({ cls := "java/lang/Math", name := "min", desc := "(II)I" } : Jvm.MethodName)) ∈ lw_all := lw_g (lw_at lw_m8 79 rfl) rfl
theorem q1843 : (Jvm.Cond.constantLong "java/util/BitSet" (165 : Nat) (-1 : Int64)) ∈ lw_all := lw_g (lw_at lw_m8 80 rfl) rfl
theorem q1844 : (Jvm.Cond.methodLink "java/util/BitSet" (158 : Nat) ({ cls := "java/util/BitSet", name := "recalculateWordsInUse", desc := "()V" } : Jvm.MethodName)) ∈ lw_all := lw_g (lw_at lw_m8 81 rfl) rfl
theorem q1845 : (Jvm.Cond.privateMethod ({ cls := "java/util/BitSet", name := "recalculateWordsInUse", desc := "()V" } : Jvm.MethodName)) ∈ lw_tbl := lw_at lw_m8 82 rfl
theorem q1846 : (Jvm.Cond.instanceMethod ({ cls := "java/util/BitSet", name := "recalculateWordsInUse", desc := "()V" } : Jvm.MethodName)) ∈ lw_all := lw_g (lw_at lw_m8 83 rfl) rfl
theorem q1847 : (Jvm.Cond.code ({ cls := "java/util/BitSet", name := "recalculateWordsInUse", desc := "()V" } : Jvm.MethodName) prog_69_method_3_code (2 : Nat) (Option.none : Option Jvm.ClassFile.FieldType)) ∈ lw_all := lw_g (lw_at lw_m8 84 rfl) rfl
theorem q1849 : (Jvm.Cond.instanceMethod ({ cls := "java/util/BitSet", name := "nextSetBit", desc := "(I)I" } : Jvm.MethodName)) ∈ lw_all := lw_g (lw_at lw_m8 86 rfl) rfl
theorem q1850 : (Jvm.Cond.selects "java/util/BitSet" ({ cls := "java/util/BitSet", name := "nextSetBit", desc := "(I)I" } : Jvm.MethodName) ({ cls := "java/util/BitSet", name := "nextSetBit", desc := "(I)I" } : Jvm.MethodName)) ∈ lw_all := lw_g (lw_at lw_m8 87 rfl) rfl
theorem q1851 : (Jvm.Cond.code ({ cls := "java/util/BitSet", name := "nextSetBit", desc := "(I)I" } : Jvm.MethodName) prog_69_method_28_code (5 : Nat) (Option.some Jvm.ClassFile.FieldType.int)) ∈ lw_all := lw_g (lw_at lw_m8 88 rfl) rfl
theorem q1852 : (Jvm.Cond.methodLink "java/util/BitSet" (182 : Nat) ({ cls := "java/lang/Long", name := "numberOfTrailingZeros", desc := "(J)I" } : Jvm.MethodName)) ∈ lw_all := lw_g (lw_at lw_m8 89 rfl) rfl
theorem q1881 : (Jvm.Cond.instanceMethod ({ cls := "java/util/BitSet", name := "cardinality", desc := "()I" } : Jvm.MethodName)) ∈ lw_all := lw_g (lw_at lw_m8 118 rfl) rfl
theorem q1882 : (Jvm.Cond.selects "java/util/BitSet" ({ cls := "java/util/BitSet", name := "cardinality", desc := "()I" } : Jvm.MethodName) ({ cls := "java/util/BitSet", name := "cardinality", desc := "()I" } : Jvm.MethodName)) ∈ lw_all := lw_g (lw_at lw_m8 119 rfl) rfl
theorem q1883 : (Jvm.Cond.code ({ cls := "java/util/BitSet", name := "cardinality", desc := "()I" } : Jvm.MethodName) prog_69_method_35_code (3 : Nat) (Option.some Jvm.ClassFile.FieldType.int)) ∈ lw_all := lw_g (lw_at lw_m8 120 rfl) rfl
theorem q1884 : (Jvm.Cond.methodLink "java/util/BitSet" (196 : Nat) ({ cls := "java/lang/Long", name := "bitCount", desc := "(J)I" } : Jvm.MethodName)) ∈ lw_all := lw_g (lw_at lw_m8 121 rfl) rfl
theorem q3069 : (Jvm.Cond.castable "java/util/BitSet" "java/lang/Object") ∈ lw_tbl := lw_at lw_m13 106 rfl
theorem in_J34 : ∀ w ∈ wsJ340, w ∈ lw_all := lw_in wsJ340 [1788, 1790, 1792] (by decide +kernel) (by decide +kernel)

/-! java/lang/Long -/
set_option maxRecDepth 100000
def RJ35 : String := "java/lang/Long"
abbrev cJ35_numberOfTrailingZeros : ByteArray := prog_46_method_49_code
def yJ35_numberOfTrailingZeros : MethodName := ⟨RJ35, "numberOfTrailingZeros", "(J)I"⟩
def dkwJ35_numberOfTrailingZeros_1 : List UInt8 := [184, 1, 55, 172]
abbrev dktJ35_numberOfTrailingZeros_1 : List UInt8 := dkwJ35_numberOfTrailingZeros_1 ++ []
def dkwJ35_numberOfTrailingZeros_0 : List UInt8 := [30, 136, 61, 28, 154, 0, 17, 16, 32, 30, 16, 32, 125, 136, 184, 1, 55, 96, 167, 0, 7, 28]
abbrev dktJ35_numberOfTrailingZeros_0 : List UInt8 := dkwJ35_numberOfTrailingZeros_0 ++ dktJ35_numberOfTrailingZeros_1
theorem dksJ35_numberOfTrailingZeros_0 : cJ35_numberOfTrailingZeros.data.toList.drop 0 = dktJ35_numberOfTrailingZeros_0 := by decide +kernel
theorem dksJ35_numberOfTrailingZeros_1 : cJ35_numberOfTrailingZeros.data.toList.drop 22 = dktJ35_numberOfTrailingZeros_1 := dk_seg dksJ35_numberOfTrailingZeros_0 22 rfl rfl
theorem dJ35_numberOfTrailingZeros_0 : decode cJ35_numberOfTrailingZeros 0 = .ok (.lload_n 0, 1) := dk_30 (dk_at dksJ35_numberOfTrailingZeros_0 0 rfl rfl)
theorem dJ35_numberOfTrailingZeros_1 : decode cJ35_numberOfTrailingZeros 1 = .ok (.l2i, 1) := dk_136 (dk_at dksJ35_numberOfTrailingZeros_0 1 rfl rfl)
theorem dJ35_numberOfTrailingZeros_2 : decode cJ35_numberOfTrailingZeros 2 = .ok (.istore_n 2, 1) := dk_61 (dk_at dksJ35_numberOfTrailingZeros_0 2 rfl rfl)
theorem dJ35_numberOfTrailingZeros_3 : decode cJ35_numberOfTrailingZeros 3 = .ok (.iload_n 2, 1) := dk_28 (dk_at dksJ35_numberOfTrailingZeros_0 3 rfl rfl)
theorem dJ35_numberOfTrailingZeros_4 : decode cJ35_numberOfTrailingZeros 4 = .ok (.ifCond .ne 17, 3) := dk_154 0 17 (dk_at dksJ35_numberOfTrailingZeros_0 4 rfl rfl)
theorem dJ35_numberOfTrailingZeros_7 : decode cJ35_numberOfTrailingZeros 7 = .ok (.bipush 32, 2) := dk_16 32 (dk_at dksJ35_numberOfTrailingZeros_0 7 rfl rfl)
theorem dJ35_numberOfTrailingZeros_9 : decode cJ35_numberOfTrailingZeros 9 = .ok (.lload_n 0, 1) := dk_30 (dk_at dksJ35_numberOfTrailingZeros_0 9 rfl rfl)
theorem dJ35_numberOfTrailingZeros_10 : decode cJ35_numberOfTrailingZeros 10 = .ok (.bipush 32, 2) := dk_16 32 (dk_at dksJ35_numberOfTrailingZeros_0 10 rfl rfl)
theorem dJ35_numberOfTrailingZeros_12 : decode cJ35_numberOfTrailingZeros 12 = .ok (.lushr, 1) := dk_125 (dk_at dksJ35_numberOfTrailingZeros_0 12 rfl rfl)
theorem dJ35_numberOfTrailingZeros_13 : decode cJ35_numberOfTrailingZeros 13 = .ok (.l2i, 1) := dk_136 (dk_at dksJ35_numberOfTrailingZeros_0 13 rfl rfl)
theorem dJ35_numberOfTrailingZeros_14 : decode cJ35_numberOfTrailingZeros 14 = .ok (.invokestatic 311, 3) := dk_184 1 55 (dk_at dksJ35_numberOfTrailingZeros_0 14 rfl rfl)
theorem dJ35_numberOfTrailingZeros_17 : decode cJ35_numberOfTrailingZeros 17 = .ok (.iadd, 1) := dk_96 (dk_at dksJ35_numberOfTrailingZeros_0 17 rfl rfl)
theorem dJ35_numberOfTrailingZeros_18 : decode cJ35_numberOfTrailingZeros 18 = .ok (.goto 7, 3) := dk_167 0 7 (dk_at dksJ35_numberOfTrailingZeros_0 18 rfl rfl)
theorem dJ35_numberOfTrailingZeros_21 : decode cJ35_numberOfTrailingZeros 21 = .ok (.iload_n 2, 1) := dk_28 (dk_at dksJ35_numberOfTrailingZeros_0 21 rfl rfl)
theorem dJ35_numberOfTrailingZeros_22 : decode cJ35_numberOfTrailingZeros 22 = .ok (.invokestatic 311, 3) := dk_184 1 55 (dk_at dksJ35_numberOfTrailingZeros_1 0 rfl rfl)
theorem dJ35_numberOfTrailingZeros_25 : decode cJ35_numberOfTrailingZeros 25 = .ok (.ireturn, 1) := dk_172 (dk_at dksJ35_numberOfTrailingZeros_1 3 rfl rfl)
abbrev cJ35_bitCount : ByteArray := prog_46_method_50_code
def yJ35_bitCount : MethodName := ⟨RJ35, "bitCount", "(J)I"⟩
def dkwJ35_bitCount_2 : List UInt8 := [30, 30, 16, 32, 125, 97, 63, 30, 136, 16, 127, 126, 172]
abbrev dktJ35_bitCount_2 : List UInt8 := dkwJ35_bitCount_2 ++ []
def dkwJ35_bitCount_1 : List UInt8 := [30, 30, 7, 125, 97, 20, 1, 62, 127, 63, 30, 30, 16, 8, 125, 97, 63, 30, 30, 16, 16, 125, 97, 63]
abbrev dktJ35_bitCount_1 : List UInt8 := dkwJ35_bitCount_1 ++ dktJ35_bitCount_2
def dkwJ35_bitCount_0 : List UInt8 := [30, 30, 4, 125, 20, 1, 58, 127, 101, 63, 30, 20, 1, 60, 127, 30, 5, 125, 20, 1, 60, 127, 97, 63]
abbrev dktJ35_bitCount_0 : List UInt8 := dkwJ35_bitCount_0 ++ dktJ35_bitCount_1
theorem dksJ35_bitCount_0 : cJ35_bitCount.data.toList.drop 0 = dktJ35_bitCount_0 := by decide +kernel
theorem dksJ35_bitCount_1 : cJ35_bitCount.data.toList.drop 24 = dktJ35_bitCount_1 := dk_seg dksJ35_bitCount_0 24 rfl rfl
theorem dksJ35_bitCount_2 : cJ35_bitCount.data.toList.drop 48 = dktJ35_bitCount_2 := dk_seg dksJ35_bitCount_1 24 rfl rfl
theorem dJ35_bitCount_0 : decode cJ35_bitCount 0 = .ok (.lload_n 0, 1) := dk_30 (dk_at dksJ35_bitCount_0 0 rfl rfl)
theorem dJ35_bitCount_1 : decode cJ35_bitCount 1 = .ok (.lload_n 0, 1) := dk_30 (dk_at dksJ35_bitCount_0 1 rfl rfl)
theorem dJ35_bitCount_2 : decode cJ35_bitCount 2 = .ok (.iconst 1, 1) := dk_4 (dk_at dksJ35_bitCount_0 2 rfl rfl)
theorem dJ35_bitCount_3 : decode cJ35_bitCount 3 = .ok (.lushr, 1) := dk_125 (dk_at dksJ35_bitCount_0 3 rfl rfl)
theorem dJ35_bitCount_4 : decode cJ35_bitCount 4 = .ok (.ldc2_w 314, 3) := dk_20 1 58 (dk_at dksJ35_bitCount_0 4 rfl rfl)
theorem dJ35_bitCount_7 : decode cJ35_bitCount 7 = .ok (.land, 1) := dk_127 (dk_at dksJ35_bitCount_0 7 rfl rfl)
theorem dJ35_bitCount_8 : decode cJ35_bitCount 8 = .ok (.lsub, 1) := dk_101 (dk_at dksJ35_bitCount_0 8 rfl rfl)
theorem dJ35_bitCount_9 : decode cJ35_bitCount 9 = .ok (.lstore_n 0, 1) := dk_63 (dk_at dksJ35_bitCount_0 9 rfl rfl)
theorem dJ35_bitCount_10 : decode cJ35_bitCount 10 = .ok (.lload_n 0, 1) := dk_30 (dk_at dksJ35_bitCount_0 10 rfl rfl)
theorem dJ35_bitCount_11 : decode cJ35_bitCount 11 = .ok (.ldc2_w 316, 3) := dk_20 1 60 (dk_at dksJ35_bitCount_0 11 rfl rfl)
theorem dJ35_bitCount_14 : decode cJ35_bitCount 14 = .ok (.land, 1) := dk_127 (dk_at dksJ35_bitCount_0 14 rfl rfl)
theorem dJ35_bitCount_15 : decode cJ35_bitCount 15 = .ok (.lload_n 0, 1) := dk_30 (dk_at dksJ35_bitCount_0 15 rfl rfl)
theorem dJ35_bitCount_16 : decode cJ35_bitCount 16 = .ok (.iconst 2, 1) := dk_5 (dk_at dksJ35_bitCount_0 16 rfl rfl)
theorem dJ35_bitCount_17 : decode cJ35_bitCount 17 = .ok (.lushr, 1) := dk_125 (dk_at dksJ35_bitCount_0 17 rfl rfl)
theorem dJ35_bitCount_18 : decode cJ35_bitCount 18 = .ok (.ldc2_w 316, 3) := dk_20 1 60 (dk_at dksJ35_bitCount_0 18 rfl rfl)
theorem dJ35_bitCount_21 : decode cJ35_bitCount 21 = .ok (.land, 1) := dk_127 (dk_at dksJ35_bitCount_0 21 rfl rfl)
theorem dJ35_bitCount_22 : decode cJ35_bitCount 22 = .ok (.ladd, 1) := dk_97 (dk_at dksJ35_bitCount_0 22 rfl rfl)
theorem dJ35_bitCount_23 : decode cJ35_bitCount 23 = .ok (.lstore_n 0, 1) := dk_63 (dk_at dksJ35_bitCount_0 23 rfl rfl)
theorem dJ35_bitCount_24 : decode cJ35_bitCount 24 = .ok (.lload_n 0, 1) := dk_30 (dk_at dksJ35_bitCount_1 0 rfl rfl)
theorem dJ35_bitCount_25 : decode cJ35_bitCount 25 = .ok (.lload_n 0, 1) := dk_30 (dk_at dksJ35_bitCount_1 1 rfl rfl)
theorem dJ35_bitCount_26 : decode cJ35_bitCount 26 = .ok (.iconst 4, 1) := dk_7 (dk_at dksJ35_bitCount_1 2 rfl rfl)
theorem dJ35_bitCount_27 : decode cJ35_bitCount 27 = .ok (.lushr, 1) := dk_125 (dk_at dksJ35_bitCount_1 3 rfl rfl)
theorem dJ35_bitCount_28 : decode cJ35_bitCount 28 = .ok (.ladd, 1) := dk_97 (dk_at dksJ35_bitCount_1 4 rfl rfl)
theorem dJ35_bitCount_29 : decode cJ35_bitCount 29 = .ok (.ldc2_w 318, 3) := dk_20 1 62 (dk_at dksJ35_bitCount_1 5 rfl rfl)
theorem dJ35_bitCount_32 : decode cJ35_bitCount 32 = .ok (.land, 1) := dk_127 (dk_at dksJ35_bitCount_1 8 rfl rfl)
theorem dJ35_bitCount_33 : decode cJ35_bitCount 33 = .ok (.lstore_n 0, 1) := dk_63 (dk_at dksJ35_bitCount_1 9 rfl rfl)
theorem dJ35_bitCount_34 : decode cJ35_bitCount 34 = .ok (.lload_n 0, 1) := dk_30 (dk_at dksJ35_bitCount_1 10 rfl rfl)
theorem dJ35_bitCount_35 : decode cJ35_bitCount 35 = .ok (.lload_n 0, 1) := dk_30 (dk_at dksJ35_bitCount_1 11 rfl rfl)
theorem dJ35_bitCount_36 : decode cJ35_bitCount 36 = .ok (.bipush 8, 2) := dk_16 8 (dk_at dksJ35_bitCount_1 12 rfl rfl)
theorem dJ35_bitCount_38 : decode cJ35_bitCount 38 = .ok (.lushr, 1) := dk_125 (dk_at dksJ35_bitCount_1 14 rfl rfl)
theorem dJ35_bitCount_39 : decode cJ35_bitCount 39 = .ok (.ladd, 1) := dk_97 (dk_at dksJ35_bitCount_1 15 rfl rfl)
theorem dJ35_bitCount_40 : decode cJ35_bitCount 40 = .ok (.lstore_n 0, 1) := dk_63 (dk_at dksJ35_bitCount_1 16 rfl rfl)
theorem dJ35_bitCount_41 : decode cJ35_bitCount 41 = .ok (.lload_n 0, 1) := dk_30 (dk_at dksJ35_bitCount_1 17 rfl rfl)
theorem dJ35_bitCount_42 : decode cJ35_bitCount 42 = .ok (.lload_n 0, 1) := dk_30 (dk_at dksJ35_bitCount_1 18 rfl rfl)
theorem dJ35_bitCount_43 : decode cJ35_bitCount 43 = .ok (.bipush 16, 2) := dk_16 16 (dk_at dksJ35_bitCount_1 19 rfl rfl)
theorem dJ35_bitCount_45 : decode cJ35_bitCount 45 = .ok (.lushr, 1) := dk_125 (dk_at dksJ35_bitCount_1 21 rfl rfl)
theorem dJ35_bitCount_46 : decode cJ35_bitCount 46 = .ok (.ladd, 1) := dk_97 (dk_at dksJ35_bitCount_1 22 rfl rfl)
theorem dJ35_bitCount_47 : decode cJ35_bitCount 47 = .ok (.lstore_n 0, 1) := dk_63 (dk_at dksJ35_bitCount_1 23 rfl rfl)
theorem dJ35_bitCount_48 : decode cJ35_bitCount 48 = .ok (.lload_n 0, 1) := dk_30 (dk_at dksJ35_bitCount_2 0 rfl rfl)
theorem dJ35_bitCount_49 : decode cJ35_bitCount 49 = .ok (.lload_n 0, 1) := dk_30 (dk_at dksJ35_bitCount_2 1 rfl rfl)
theorem dJ35_bitCount_50 : decode cJ35_bitCount 50 = .ok (.bipush 32, 2) := dk_16 32 (dk_at dksJ35_bitCount_2 2 rfl rfl)
theorem dJ35_bitCount_52 : decode cJ35_bitCount 52 = .ok (.lushr, 1) := dk_125 (dk_at dksJ35_bitCount_2 4 rfl rfl)
theorem dJ35_bitCount_53 : decode cJ35_bitCount 53 = .ok (.ladd, 1) := dk_97 (dk_at dksJ35_bitCount_2 5 rfl rfl)
theorem dJ35_bitCount_54 : decode cJ35_bitCount 54 = .ok (.lstore_n 0, 1) := dk_63 (dk_at dksJ35_bitCount_2 6 rfl rfl)
theorem dJ35_bitCount_55 : decode cJ35_bitCount 55 = .ok (.lload_n 0, 1) := dk_30 (dk_at dksJ35_bitCount_2 7 rfl rfl)
theorem dJ35_bitCount_56 : decode cJ35_bitCount 56 = .ok (.l2i, 1) := dk_136 (dk_at dksJ35_bitCount_2 8 rfl rfl)
theorem dJ35_bitCount_57 : decode cJ35_bitCount 57 = .ok (.bipush 127, 2) := dk_16 127 (dk_at dksJ35_bitCount_2 9 rfl rfl)
theorem dJ35_bitCount_59 : decode cJ35_bitCount 59 = .ok (.iand, 1) := dk_126 (dk_at dksJ35_bitCount_2 11 rfl rfl)
theorem dJ35_bitCount_60 : decode cJ35_bitCount 60 = .ok (.ireturn, 1) := dk_172 (dk_at dksJ35_bitCount_2 12 rfl rfl)
theorem q135 : (Jvm.Cond.initialized "java/lang/Long") ∈ lw_all := lw_g (lw_at lw_m1 52 rfl) rfl
theorem q1853 : (Jvm.Cond.static ({ cls := "java/lang/Long", name := "numberOfTrailingZeros", desc := "(J)I" } : Jvm.MethodName)) ∈ lw_all := lw_g (lw_at lw_m8 90 rfl) rfl
theorem q1854 : (Jvm.Cond.code ({ cls := "java/lang/Long", name := "numberOfTrailingZeros", desc := "(J)I" } : Jvm.MethodName) prog_46_method_49_code (3 : Nat) (Option.some Jvm.ClassFile.FieldType.int)) ∈ lw_all := lw_g (lw_at lw_m8 91 rfl) rfl
theorem q1855 : (Jvm.Cond.methodLink "java/lang/Long" (311 : Nat) ({ cls := "java/lang/Integer", name := "numberOfTrailingZeros", desc := "(I)I" } : Jvm.MethodName)) ∈ lw_all := lw_g (lw_at lw_m8 92 rfl) rfl
theorem q1885 : (Jvm.Cond.static ({ cls := "java/lang/Long", name := "bitCount", desc := "(J)I" } : Jvm.MethodName)) ∈ lw_all := lw_g (lw_at lw_m8 122 rfl) rfl
theorem q1886 : (Jvm.Cond.code ({ cls := "java/lang/Long", name := "bitCount", desc := "(J)I" } : Jvm.MethodName) prog_46_method_50_code (2 : Nat) (Option.some Jvm.ClassFile.FieldType.int)) ∈ lw_all := lw_g (lw_at lw_m8 123 rfl) rfl
theorem q1887 : (Jvm.Cond.constantLong "java/lang/Long" (314 : Nat) (6148914691236517205 : Int64)) ∈ lw_all := lw_g (lw_at lw_m8 124 rfl) rfl
theorem q1888 : (Jvm.Cond.constantLong "java/lang/Long" (316 : Nat) (3689348814741910323 : Int64)) ∈ lw_all := lw_g (lw_at lw_m8 125 rfl) rfl
theorem q1889 : (Jvm.Cond.constantLong "java/lang/Long" (318 : Nat) (1085102592571150095 : Int64)) ∈ lw_all := lw_g (lw_at lw_m8 126 rfl) rfl

/-! java/lang/Float -/
set_option maxRecDepth 100000
def RJ36 : String := "java/lang/Float"
abbrev cJ36_floatToIntBits : ByteArray := prog_41_method_24_code
def yJ36_floatToIntBits : MethodName := ⟨RJ36, "floatToIntBits", "(F)I"⟩
def dkwJ36_floatToIntBits_0 : List UInt8 := [34, 184, 0, 59, 154, 0, 8, 34, 184, 0, 74, 172, 18, 77, 172]
abbrev dktJ36_floatToIntBits_0 : List UInt8 := dkwJ36_floatToIntBits_0 ++ []
theorem dksJ36_floatToIntBits_0 : cJ36_floatToIntBits.data.toList.drop 0 = dktJ36_floatToIntBits_0 := by decide +kernel
theorem dJ36_floatToIntBits_0 : decode cJ36_floatToIntBits 0 = .ok (.fload_n 0, 1) := dk_34 (dk_at dksJ36_floatToIntBits_0 0 rfl rfl)
theorem dJ36_floatToIntBits_1 : decode cJ36_floatToIntBits 1 = .ok (.invokestatic 59, 3) := dk_184 0 59 (dk_at dksJ36_floatToIntBits_0 1 rfl rfl)
theorem dJ36_floatToIntBits_4 : decode cJ36_floatToIntBits 4 = .ok (.ifCond .ne 8, 3) := dk_154 0 8 (dk_at dksJ36_floatToIntBits_0 4 rfl rfl)
theorem dJ36_floatToIntBits_7 : decode cJ36_floatToIntBits 7 = .ok (.fload_n 0, 1) := dk_34 (dk_at dksJ36_floatToIntBits_0 7 rfl rfl)
theorem dJ36_floatToIntBits_8 : decode cJ36_floatToIntBits 8 = .ok (.invokestatic 74, 3) := dk_184 0 74 (dk_at dksJ36_floatToIntBits_0 8 rfl rfl)
theorem dJ36_floatToIntBits_11 : decode cJ36_floatToIntBits 11 = .ok (.ireturn, 1) := dk_172 (dk_at dksJ36_floatToIntBits_0 11 rfl rfl)
theorem dJ36_floatToIntBits_12 : decode cJ36_floatToIntBits 12 = .ok (.ldc 77, 2) := dk_18 77 (dk_at dksJ36_floatToIntBits_0 12 rfl rfl)
theorem dJ36_floatToIntBits_14 : decode cJ36_floatToIntBits 14 = .ok (.ireturn, 1) := dk_172 (dk_at dksJ36_floatToIntBits_0 14 rfl rfl)
abbrev cJ36_isNaN : ByteArray := prog_41_method_6_code
def yJ36_isNaN : MethodName := ⟨RJ36, "isNaN", "(F)Z"⟩
def dkwJ36_isNaN_0 : List UInt8 := [34, 34, 149, 153, 0, 7, 4, 167, 0, 4, 3, 172]
abbrev dktJ36_isNaN_0 : List UInt8 := dkwJ36_isNaN_0 ++ []
theorem dksJ36_isNaN_0 : cJ36_isNaN.data.toList.drop 0 = dktJ36_isNaN_0 := by decide +kernel
theorem dJ36_isNaN_0 : decode cJ36_isNaN 0 = .ok (.fload_n 0, 1) := dk_34 (dk_at dksJ36_isNaN_0 0 rfl rfl)
theorem dJ36_isNaN_1 : decode cJ36_isNaN 1 = .ok (.fload_n 0, 1) := dk_34 (dk_at dksJ36_isNaN_0 1 rfl rfl)
theorem dJ36_isNaN_2 : decode cJ36_isNaN 2 = .ok (.fcmp .l, 1) := dk_149 (dk_at dksJ36_isNaN_0 2 rfl rfl)
theorem dJ36_isNaN_3 : decode cJ36_isNaN 3 = .ok (.ifCond .eq 7, 3) := dk_153 0 7 (dk_at dksJ36_isNaN_0 3 rfl rfl)
theorem dJ36_isNaN_6 : decode cJ36_isNaN 6 = .ok (.iconst 1, 1) := dk_4 (dk_at dksJ36_isNaN_0 6 rfl rfl)
theorem dJ36_isNaN_7 : decode cJ36_isNaN 7 = .ok (.goto 4, 3) := dk_167 0 4 (dk_at dksJ36_isNaN_0 7 rfl rfl)
theorem dJ36_isNaN_10 : decode cJ36_isNaN 10 = .ok (.iconst 0, 1) := dk_3 (dk_at dksJ36_isNaN_0 10 rfl rfl)
theorem dJ36_isNaN_11 : decode cJ36_isNaN 11 = .ok (.ireturn, 1) := dk_172 (dk_at dksJ36_isNaN_0 11 rfl rfl)
theorem q139 : (Jvm.Cond.initialized "java/lang/Float") ∈ lw_all := lw_g (lw_at lw_m1 56 rfl) rfl
theorem q2760 : (Jvm.Cond.static ({ cls := "java/lang/Float", name := "intBitsToFloat", desc := "(I)F" } : Jvm.MethodName)) ∈ lw_all := lw_g (lw_at lw_m12 37 rfl) rfl
theorem q2761 : (Jvm.Cond.native ({ cls := "java/lang/Float", name := "intBitsToFloat", desc := "(I)F" } : Jvm.MethodName)) ∈ lw_all := lw_g (lw_at lw_m12 38 rfl) rfl
theorem q2887 : (Jvm.Cond.static ({ cls := "java/lang/Float", name := "floatToIntBits", desc := "(F)I" } : Jvm.MethodName)) ∈ lw_all := lw_g (lw_at lw_m12 164 rfl) rfl
theorem q2888 : (Jvm.Cond.code ({ cls := "java/lang/Float", name := "floatToIntBits", desc := "(F)I" } : Jvm.MethodName) prog_41_method_24_code (1 : Nat) (Option.some Jvm.ClassFile.FieldType.int)) ∈ lw_all := lw_g (lw_at lw_m12 165 rfl) rfl
theorem q2889 : (Jvm.Cond.methodLink "java/lang/Float" (59 : Nat) ({ cls := "java/lang/Float", name := "isNaN", desc := "(F)Z" } : Jvm.MethodName)) ∈ lw_all := lw_g (lw_at lw_m12 166 rfl) rfl
theorem q2890 : (Jvm.Cond.static ({ cls := "java/lang/Float", name := "isNaN", desc := "(F)Z" } : Jvm.MethodName)) ∈ lw_all := lw_g (lw_at lw_m12 167 rfl) rfl
theorem q2891 : (Jvm.Cond.code ({ cls := "java/lang/Float", name := "isNaN", desc := "(F)Z" } : Jvm.MethodName) prog_41_method_6_code (1 : Nat) (Option.some Jvm.ClassFile.FieldType.boolean)) ∈ lw_all := lw_g (lw_at lw_m12 168 rfl) rfl
theorem q2892 : (Jvm.Cond.methodLink "java/lang/Float" (74 : Nat) ({ cls := "java/lang/Float", name := "floatToRawIntBits", desc := "(F)I" } : Jvm.MethodName)) ∈ lw_all := lw_g (lw_at lw_m12 169 rfl) rfl
theorem q2893 : (Jvm.Cond.static ({ cls := "java/lang/Float", name := "floatToRawIntBits", desc := "(F)I" } : Jvm.MethodName)) ∈ lw_all := lw_g (lw_at lw_m12 170 rfl) rfl
theorem q2894 : (Jvm.Cond.native ({ cls := "java/lang/Float", name := "floatToRawIntBits", desc := "(F)I" } : Jvm.MethodName)) ∈ lw_all := lw_g (lw_at lw_m12 171 rfl) rfl
theorem q2895 : (Jvm.Cond.constant "java/lang/Float" (77 : Nat) (2143289344 : Int32)) ∈ lw_all := lw_g (lw_at lw_m12 172 rfl) rfl

/-! java/util/List -/
set_option maxRecDepth 100000
def RJ37 : String := "java/util/List"
abbrev cJ37_of : ByteArray := prog_88_method_40_code
def yJ37_of : MethodName := ⟨RJ37, "of", "(Ljava/lang/Object;Ljava/lang/Object;Ljava/lang/Object;Ljava/lang/Object;)Ljava/util/List;"⟩
def dkwJ37_of_0 : List UInt8 := [7, 189, 0, 103, 89, 3, 42, 83, 89, 4, 43, 83, 89, 5, 44, 83, 89, 6, 45, 83, 184, 0, 105, 176]
abbrev dktJ37_of_0 : List UInt8 := dkwJ37_of_0 ++ []
theorem dksJ37_of_0 : cJ37_of.data.toList.drop 0 = dktJ37_of_0 := by decide +kernel
theorem dJ37_of_0 : decode cJ37_of 0 = .ok (.iconst 4, 1) := dk_7 (dk_at dksJ37_of_0 0 rfl rfl)
theorem dJ37_of_1 : decode cJ37_of 1 = .ok (.anewarray 103, 3) := dk_189 0 103 (dk_at dksJ37_of_0 1 rfl rfl)
theorem dJ37_of_4 : decode cJ37_of 4 = .ok (.dup, 1) := dk_89 (dk_at dksJ37_of_0 4 rfl rfl)
theorem dJ37_of_5 : decode cJ37_of 5 = .ok (.iconst 0, 1) := dk_3 (dk_at dksJ37_of_0 5 rfl rfl)
theorem dJ37_of_6 : decode cJ37_of 6 = .ok (.aload_n 0, 1) := dk_42 (dk_at dksJ37_of_0 6 rfl rfl)
theorem dJ37_of_7 : decode cJ37_of 7 = .ok (.aastore, 1) := dk_83 (dk_at dksJ37_of_0 7 rfl rfl)
theorem dJ37_of_8 : decode cJ37_of 8 = .ok (.dup, 1) := dk_89 (dk_at dksJ37_of_0 8 rfl rfl)
theorem dJ37_of_9 : decode cJ37_of 9 = .ok (.iconst 1, 1) := dk_4 (dk_at dksJ37_of_0 9 rfl rfl)
theorem dJ37_of_10 : decode cJ37_of 10 = .ok (.aload_n 1, 1) := dk_43 (dk_at dksJ37_of_0 10 rfl rfl)
theorem dJ37_of_11 : decode cJ37_of 11 = .ok (.aastore, 1) := dk_83 (dk_at dksJ37_of_0 11 rfl rfl)
theorem dJ37_of_12 : decode cJ37_of 12 = .ok (.dup, 1) := dk_89 (dk_at dksJ37_of_0 12 rfl rfl)
theorem dJ37_of_13 : decode cJ37_of 13 = .ok (.iconst 2, 1) := dk_5 (dk_at dksJ37_of_0 13 rfl rfl)
theorem dJ37_of_14 : decode cJ37_of 14 = .ok (.aload_n 2, 1) := dk_44 (dk_at dksJ37_of_0 14 rfl rfl)
theorem dJ37_of_15 : decode cJ37_of 15 = .ok (.aastore, 1) := dk_83 (dk_at dksJ37_of_0 15 rfl rfl)
theorem dJ37_of_16 : decode cJ37_of 16 = .ok (.dup, 1) := dk_89 (dk_at dksJ37_of_0 16 rfl rfl)
theorem dJ37_of_17 : decode cJ37_of 17 = .ok (.iconst 3, 1) := dk_6 (dk_at dksJ37_of_0 17 rfl rfl)
theorem dJ37_of_18 : decode cJ37_of 18 = .ok (.aload_n 3, 1) := dk_45 (dk_at dksJ37_of_0 18 rfl rfl)
theorem dJ37_of_19 : decode cJ37_of 19 = .ok (.aastore, 1) := dk_83 (dk_at dksJ37_of_0 19 rfl rfl)
theorem dJ37_of_20 : decode cJ37_of 20 = .ok (.invokestatic 105, 3) := dk_184 0 105 (dk_at dksJ37_of_0 20 rfl rfl)
theorem dJ37_of_23 : decode cJ37_of 23 = .ok (.areturn, 1) := dk_176 (dk_at dksJ37_of_0 23 rfl rfl)
theorem q151 : (Jvm.Cond.initialized "java/util/List") ∈ lw_all := lw_g (lw_at lw_m1 68 rfl) rfl
theorem q1148 : (Jvm.Cond.interfaceMethod "java/util/List" "java/util/List" "get" "(I)Ljava/lang/Object;") ∈ lw_tbl := lw_at lw_m5 105 rfl
theorem q1149 : (Jvm.Cond.declares ({ cls := "java/util/List", name := "get", desc := "(I)Ljava/lang/Object;" } : Jvm.MethodName)) ∈ lw_tbl := lw_at lw_m5 106 rfl
theorem q1489 : (Jvm.Cond.interfaceMethod "java/util/List" "java/util/List" "iterator" "()Ljava/util/Iterator;") ∈ lw_tbl := lw_at lw_m6 206 rfl
theorem q1490 : (Jvm.Cond.declares ({ cls := "java/util/List", name := "iterator", desc := "()Ljava/util/Iterator;" } : Jvm.MethodName)) ∈ lw_tbl := lw_at lw_m6 207 rfl
theorem q2305 : (Jvm.Cond.static ({ cls := "java/util/List", name := "of", desc := "(Ljava/lang/Object;Ljava/lang/Object;Ljava/lang/Object;Ljava/lang/Object;)Ljava/util/List;" } : Jvm.MethodName)) ∈ lw_all := lw_g (lw_at lw_m10 62 rfl) rfl
theorem q2306 : (Jvm.Cond.code ({ cls := "java/util/List", name := "of", desc := "(Ljava/lang/Object;Ljava/lang/Object;Ljava/lang/Object;Ljava/lang/Object;)Ljava/util/List;" } : Jvm.MethodName) prog_88_method_40_code (4 : Nat) (Option.some (Jvm.ClassFile.FieldType.object "java/util/List"))) ∈ lw_all := lw_g (lw_at lw_m10 63 rfl) rfl
theorem q2307 : (Jvm.Cond.classLink "java/util/List" (103 : Nat) "java/lang/Object") ∈ lw_all := lw_g (lw_at lw_m10 64 rfl) rfl
theorem q2308 : (Jvm.Cond.methodLink "java/util/List" (105 : Nat) ({ cls := "java/util/ImmutableCollections", name := "listFromTrustedArray", desc := "([Ljava/lang/Object;)Ljava/util/List;" } : Jvm.MethodName)) ∈ lw_all := lw_g (lw_at lw_m10 65 rfl) rfl
theorem q2504 : (Jvm.Cond.interfaceMethod "java/util/List" "java/lang/Object" "getClass" "()Ljava/lang/Class;") ∈ lw_tbl := lw_at lw_m11 21 rfl

/-! java/util/ImmutableCollections$AbstractImmutableCollection -/
set_option maxRecDepth 100000
def RJ38 : String := "java/util/ImmutableCollections$AbstractImmutableCollection"
abbrev cJ38_init : ByteArray := prog_79_method_1_code
def yJ38_init : MethodName := ⟨RJ38, "<init>", "()V"⟩
theorem dJ38_init_0 : decode cJ38_init 0 = .ok (.aload_n 0, 1) := by decide +kernel
theorem dJ38_init_1 : decode cJ38_init 1 = .ok (.invokespecial 1, 3) := by decide +kernel
theorem dJ38_init_4 : decode cJ38_init 4 = .ok (.return_, 1) := by decide +kernel
theorem q152 : (Jvm.Cond.initialized "java/util/ImmutableCollections$AbstractImmutableCollection") ∈ lw_all := lw_g (lw_at lw_m1 69 rfl) rfl
theorem q2329 : (Jvm.Cond.instanceMethod ({ cls := "java/util/ImmutableCollections$AbstractImmutableCollection", name := "<init>", desc := "()V" } : Jvm.MethodName)) ∈ lw_all := lw_g (lw_at lw_m10 86 rfl) rfl
theorem q2330 : (Jvm.Cond.code ({ cls := "java/util/ImmutableCollections$AbstractImmutableCollection", name := "<init>", desc := "()V" } : Jvm.MethodName) prog_79_method_1_code (1 : Nat) (Option.none : Option Jvm.ClassFile.FieldType)) ∈ lw_all := lw_g (lw_at lw_m10 87 rfl) rfl
theorem q2331 : (Jvm.Cond.methodLink "java/util/ImmutableCollections$AbstractImmutableCollection" (1 : Nat) ({ cls := "java/util/AbstractCollection", name := "<init>", desc := "()V" } : Jvm.MethodName)) ∈ lw_all := lw_g (lw_at lw_m10 88 rfl) rfl

/-! java/util/ImmutableCollections$AbstractImmutableList -/
set_option maxRecDepth 100000
def RJ39 : String := "java/util/ImmutableCollections$AbstractImmutableList"
abbrev cJ39_iterator : ByteArray := prog_80_method_10_code
def yJ39_iterator : MethodName := ⟨RJ39, "iterator", "()Ljava/util/Iterator;"⟩
def dkwJ39_iterator_0 : List UInt8 := [187, 0, 61, 89, 42, 42, 182, 0, 13, 183, 0, 63, 176]
abbrev dktJ39_iterator_0 : List UInt8 := dkwJ39_iterator_0 ++ []
theorem dksJ39_iterator_0 : cJ39_iterator.data.toList.drop 0 = dktJ39_iterator_0 := by decide +kernel
theorem dJ39_iterator_0 : decode cJ39_iterator 0 = .ok (.new 61, 3) := dk_187 0 61 (dk_at dksJ39_iterator_0 0 rfl rfl)
theorem dJ39_iterator_3 : decode cJ39_iterator 3 = .ok (.dup, 1) := dk_89 (dk_at dksJ39_iterator_0 3 rfl rfl)
theorem dJ39_iterator_4 : decode cJ39_iterator 4 = .ok (.aload_n 0, 1) := dk_42 (dk_at dksJ39_iterator_0 4 rfl rfl)
theorem dJ39_iterator_5 : decode cJ39_iterator 5 = .ok (.aload_n 0, 1) := dk_42 (dk_at dksJ39_iterator_0 5 rfl rfl)
theorem dJ39_iterator_6 : decode cJ39_iterator 6 = .ok (.invokevirtual 13, 3) := dk_182 0 13 (dk_at dksJ39_iterator_0 6 rfl rfl)
theorem dJ39_iterator_9 : decode cJ39_iterator 9 = .ok (.invokespecial 63, 3) := dk_183 0 63 (dk_at dksJ39_iterator_0 9 rfl rfl)
theorem dJ39_iterator_12 : decode cJ39_iterator 12 = .ok (.areturn, 1) := dk_176 (dk_at dksJ39_iterator_0 12 rfl rfl)
abbrev cJ39_init : ByteArray := prog_80_method_1_code
def yJ39_init : MethodName := ⟨RJ39, "<init>", "()V"⟩
theorem dJ39_init_0 : decode cJ39_init 0 = .ok (.aload_n 0, 1) := by decide +kernel
theorem dJ39_init_1 : decode cJ39_init 1 = .ok (.invokespecial 1, 3) := by decide +kernel
theorem dJ39_init_4 : decode cJ39_init 4 = .ok (.return_, 1) := by decide +kernel
theorem q153 : (Jvm.Cond.initialized "java/util/ImmutableCollections$AbstractImmutableList") ∈ lw_all := lw_g (lw_at lw_m1 70 rfl) rfl
theorem q1555 : (Jvm.Cond.instanceMethod ({ cls := "java/util/ImmutableCollections$AbstractImmutableList", name := "iterator", desc := "()Ljava/util/Iterator;" } : Jvm.MethodName)) ∈ lw_all := lw_g (lw_at lw_m7 32 rfl) rfl
theorem q1556 : (Jvm.Cond.publicMethod ({ cls := "java/util/ImmutableCollections$AbstractImmutableList", name := "iterator", desc := "()Ljava/util/Iterator;" } : Jvm.MethodName)) ∈ lw_tbl := lw_at lw_m7 33 rfl
theorem q1557 : (Jvm.Cond.code ({ cls := "java/util/ImmutableCollections$AbstractImmutableList", name := "iterator", desc := "()Ljava/util/Iterator;" } : Jvm.MethodName) prog_80_method_10_code (1 : Nat) (Option.some (Jvm.ClassFile.FieldType.object "java/util/Iterator"))) ∈ lw_all := lw_g (lw_at lw_m7 34 rfl) rfl
theorem q1558 : (Jvm.Cond.classLink "java/util/ImmutableCollections$AbstractImmutableList" (61 : Nat) "java/util/ImmutableCollections$ListItr") ∈ lw_all := lw_g (lw_at lw_m7 35 rfl) rfl
theorem q1560 : (Jvm.Cond.methodLink "java/util/ImmutableCollections$AbstractImmutableList" (13 : Nat) ({ cls := "java/util/ImmutableCollections$AbstractImmutableList", name := "size", desc := "()I" } : Jvm.MethodName)) ∈ lw_all := lw_g (lw_at lw_m7 37 rfl) rfl
theorem q1561 : (Jvm.Cond.sameMethod "java/util/ImmutableCollections$AbstractImmutableList" "java/util/AbstractCollection" "size" "()I") ∈ lw_all := lw_g (lw_at lw_m7 38 rfl) rfl
theorem q1564 : (Jvm.Cond.methodLink "java/util/ImmutableCollections$AbstractImmutableList" (63 : Nat) ({ cls := "java/util/ImmutableCollections$ListItr", name := "<init>", desc := "(Ljava/util/List;I)V" } : Jvm.MethodName)) ∈ lw_all := lw_g (lw_at lw_m7 41 rfl) rfl
theorem q2326 : (Jvm.Cond.instanceMethod ({ cls := "java/util/ImmutableCollections$AbstractImmutableList", name := "<init>", desc := "()V" } : Jvm.MethodName)) ∈ lw_all := lw_g (lw_at lw_m10 83 rfl) rfl
theorem q2327 : (Jvm.Cond.code ({ cls := "java/util/ImmutableCollections$AbstractImmutableList", name := "<init>", desc := "()V" } : Jvm.MethodName) prog_80_method_1_code (1 : Nat) (Option.none : Option Jvm.ClassFile.FieldType)) ∈ lw_all := lw_g (lw_at lw_m10 84 rfl) rfl
theorem q2328 : (Jvm.Cond.methodLink "java/util/ImmutableCollections$AbstractImmutableList" (1 : Nat) ({ cls := "java/util/ImmutableCollections$AbstractImmutableCollection", name := "<init>", desc := "()V" } : Jvm.MethodName)) ∈ lw_all := lw_g (lw_at lw_m10 85 rfl) rfl

/-! java/util/ImmutableCollections$List12 -/
set_option maxRecDepth 100000
def RJ40 : String := "java/util/ImmutableCollections$List12"
def TJ40 : u_T := fun k => match k with
  | 0 => ("java/util/ImmutableCollections$List12", "e0", "Ljava/lang/Object;", true)
  | _ => ("java/util/ImmutableCollections$List12", "e1", "Ljava/lang/Object;", true)
def tyJ40 : Nat → FieldType := fun k => match k with
  | 0 => .object "java/lang/Object"
  | _ => .object "java/lang/Object"
abbrev wsJ400 : List Cond := u_ws RJ40 TJ40 2
theorem nmJ40 : ∀ a, a < 2 → ∀ b, b < 2 → a ≠ b → (TJ40 a).2.1 ≠ (TJ40 b).2.1 := by decide +kernel
theorem tyJ40_ok : ∀ k, k < 2 → parseFieldDescriptor (TJ40 k).2.2.1 = some (tyJ40 k) := by decide +kernel
abbrev cJ40_get : ByteArray := prog_81_method_5_code
def yJ40_get : MethodName := ⟨RJ40, "get", "(I)Ljava/lang/Object;"⟩
def dkwJ40_get_1 : List UInt8 := [42, 180, 0, 24, 176, 42, 27, 182, 0, 27, 191]
abbrev dktJ40_get_1 : List UInt8 := dkwJ40_get_1 ++ []
def dkwJ40_get_0 : List UInt8 := [27, 154, 0, 8, 42, 180, 0, 13, 176, 27, 4, 160, 0, 18, 42, 180, 0, 24, 178, 0, 19, 165, 0, 8]
abbrev dktJ40_get_0 : List UInt8 := dkwJ40_get_0 ++ dktJ40_get_1
theorem dksJ40_get_0 : cJ40_get.data.toList.drop 0 = dktJ40_get_0 := by decide +kernel
theorem dksJ40_get_1 : cJ40_get.data.toList.drop 24 = dktJ40_get_1 := dk_seg dksJ40_get_0 24 rfl rfl
theorem dJ40_get_0 : decode cJ40_get 0 = .ok (.iload_n 1, 1) := dk_27 (dk_at dksJ40_get_0 0 rfl rfl)
theorem dJ40_get_1 : decode cJ40_get 1 = .ok (.ifCond .ne 8, 3) := dk_154 0 8 (dk_at dksJ40_get_0 1 rfl rfl)
theorem dJ40_get_4 : decode cJ40_get 4 = .ok (.aload_n 0, 1) := dk_42 (dk_at dksJ40_get_0 4 rfl rfl)
theorem dJ40_get_5 : decode cJ40_get 5 = .ok (.getfield 13, 3) := dk_180 0 13 (dk_at dksJ40_get_0 5 rfl rfl)
theorem dJ40_get_8 : decode cJ40_get 8 = .ok (.areturn, 1) := dk_176 (dk_at dksJ40_get_0 8 rfl rfl)
theorem dJ40_get_9 : decode cJ40_get 9 = .ok (.iload_n 1, 1) := dk_27 (dk_at dksJ40_get_0 9 rfl rfl)
theorem dJ40_get_10 : decode cJ40_get 10 = .ok (.iconst 1, 1) := dk_4 (dk_at dksJ40_get_0 10 rfl rfl)
theorem dJ40_get_11 : decode cJ40_get 11 = .ok (.if_icmp .ne 18, 3) := dk_160 0 18 (dk_at dksJ40_get_0 11 rfl rfl)
theorem dJ40_get_14 : decode cJ40_get 14 = .ok (.aload_n 0, 1) := dk_42 (dk_at dksJ40_get_0 14 rfl rfl)
theorem dJ40_get_15 : decode cJ40_get 15 = .ok (.getfield 24, 3) := dk_180 0 24 (dk_at dksJ40_get_0 15 rfl rfl)
theorem dJ40_get_18 : decode cJ40_get 18 = .ok (.getstatic 19, 3) := dk_178 0 19 (dk_at dksJ40_get_0 18 rfl rfl)
theorem dJ40_get_21 : decode cJ40_get 21 = .ok (.if_acmp .eq 8, 3) := dk_165 0 8 (dk_at dksJ40_get_0 21 rfl rfl)
theorem dJ40_get_24 : decode cJ40_get 24 = .ok (.aload_n 0, 1) := dk_42 (dk_at dksJ40_get_1 0 rfl rfl)
theorem dJ40_get_25 : decode cJ40_get 25 = .ok (.getfield 24, 3) := dk_180 0 24 (dk_at dksJ40_get_1 1 rfl rfl)
theorem dJ40_get_28 : decode cJ40_get 28 = .ok (.areturn, 1) := dk_176 (dk_at dksJ40_get_1 4 rfl rfl)
theorem dJ40_get_29 : decode cJ40_get 29 = .ok (.aload_n 0, 1) := dk_42 (dk_at dksJ40_get_1 5 rfl rfl)
theorem dJ40_get_30 : decode cJ40_get 30 = .ok (.iload_n 1, 1) := dk_27 (dk_at dksJ40_get_1 6 rfl rfl)
theorem dJ40_get_31 : decode cJ40_get 31 = .ok (.invokevirtual 27, 3) := dk_182 0 27 (dk_at dksJ40_get_1 7 rfl rfl)
theorem dJ40_get_34 : decode cJ40_get 34 = .ok (.athrow, 1) := dk_191 (dk_at dksJ40_get_1 10 rfl rfl)
abbrev cJ40_size : ByteArray := prog_81_method_3_code
def yJ40_size : MethodName := ⟨RJ40, "size", "()I"⟩
def dkwJ40_size_0 : List UInt8 := [42, 180, 0, 24, 178, 0, 19, 165, 0, 7, 5, 167, 0, 4, 4, 172]
abbrev dktJ40_size_0 : List UInt8 := dkwJ40_size_0 ++ []
theorem dksJ40_size_0 : cJ40_size.data.toList.drop 0 = dktJ40_size_0 := by decide +kernel
theorem dJ40_size_0 : decode cJ40_size 0 = .ok (.aload_n 0, 1) := dk_42 (dk_at dksJ40_size_0 0 rfl rfl)
theorem dJ40_size_1 : decode cJ40_size 1 = .ok (.getfield 24, 3) := dk_180 0 24 (dk_at dksJ40_size_0 1 rfl rfl)
theorem dJ40_size_4 : decode cJ40_size 4 = .ok (.getstatic 19, 3) := dk_178 0 19 (dk_at dksJ40_size_0 4 rfl rfl)
theorem dJ40_size_7 : decode cJ40_size 7 = .ok (.if_acmp .eq 7, 3) := dk_165 0 7 (dk_at dksJ40_size_0 7 rfl rfl)
theorem dJ40_size_10 : decode cJ40_size 10 = .ok (.iconst 2, 1) := dk_5 (dk_at dksJ40_size_0 10 rfl rfl)
theorem dJ40_size_11 : decode cJ40_size 11 = .ok (.goto 4, 3) := dk_167 0 4 (dk_at dksJ40_size_0 11 rfl rfl)
theorem dJ40_size_14 : decode cJ40_size 14 = .ok (.iconst 1, 1) := dk_4 (dk_at dksJ40_size_0 14 rfl rfl)
theorem dJ40_size_15 : decode cJ40_size 15 = .ok (.ireturn, 1) := dk_172 (dk_at dksJ40_size_0 15 rfl rfl)
abbrev cJ40_init : ByteArray := prog_81_method_1_code
def yJ40_init : MethodName := ⟨RJ40, "<init>", "(Ljava/lang/Object;)V"⟩
def dkwJ40_init_0 : List UInt8 := [42, 183, 0, 1, 42, 43, 184, 0, 7, 181, 0, 13, 42, 178, 0, 19, 181, 0, 24, 177]
abbrev dktJ40_init_0 : List UInt8 := dkwJ40_init_0 ++ []
theorem dksJ40_init_0 : cJ40_init.data.toList.drop 0 = dktJ40_init_0 := by decide +kernel
theorem dJ40_init_0 : decode cJ40_init 0 = .ok (.aload_n 0, 1) := dk_42 (dk_at dksJ40_init_0 0 rfl rfl)
theorem dJ40_init_1 : decode cJ40_init 1 = .ok (.invokespecial 1, 3) := dk_183 0 1 (dk_at dksJ40_init_0 1 rfl rfl)
theorem dJ40_init_4 : decode cJ40_init 4 = .ok (.aload_n 0, 1) := dk_42 (dk_at dksJ40_init_0 4 rfl rfl)
theorem dJ40_init_5 : decode cJ40_init 5 = .ok (.aload_n 1, 1) := dk_43 (dk_at dksJ40_init_0 5 rfl rfl)
theorem dJ40_init_6 : decode cJ40_init 6 = .ok (.invokestatic 7, 3) := dk_184 0 7 (dk_at dksJ40_init_0 6 rfl rfl)
theorem dJ40_init_9 : decode cJ40_init 9 = .ok (.putfield 13, 3) := dk_181 0 13 (dk_at dksJ40_init_0 9 rfl rfl)
theorem dJ40_init_12 : decode cJ40_init 12 = .ok (.aload_n 0, 1) := dk_42 (dk_at dksJ40_init_0 12 rfl rfl)
theorem dJ40_init_13 : decode cJ40_init 13 = .ok (.getstatic 19, 3) := dk_178 0 19 (dk_at dksJ40_init_0 13 rfl rfl)
theorem dJ40_init_16 : decode cJ40_init 16 = .ok (.putfield 24, 3) := dk_181 0 24 (dk_at dksJ40_init_0 16 rfl rfl)
theorem dJ40_init_19 : decode cJ40_init 19 = .ok (.return_, 1) := dk_177 (dk_at dksJ40_init_0 19 rfl rfl)
abbrev cJ40_init_2 : ByteArray := prog_81_method_2_code
def yJ40_init_2 : MethodName := ⟨RJ40, "<init>", "(Ljava/lang/Object;Ljava/lang/Object;)V"⟩
def dkwJ40_init_2_0 : List UInt8 := [42, 183, 0, 1, 42, 43, 184, 0, 7, 181, 0, 13, 42, 44, 184, 0, 7, 181, 0, 24, 177]
abbrev dktJ40_init_2_0 : List UInt8 := dkwJ40_init_2_0 ++ []
theorem dksJ40_init_2_0 : cJ40_init_2.data.toList.drop 0 = dktJ40_init_2_0 := by decide +kernel
theorem dJ40_init_2_0 : decode cJ40_init_2 0 = .ok (.aload_n 0, 1) := dk_42 (dk_at dksJ40_init_2_0 0 rfl rfl)
theorem dJ40_init_2_1 : decode cJ40_init_2 1 = .ok (.invokespecial 1, 3) := dk_183 0 1 (dk_at dksJ40_init_2_0 1 rfl rfl)
theorem dJ40_init_2_4 : decode cJ40_init_2 4 = .ok (.aload_n 0, 1) := dk_42 (dk_at dksJ40_init_2_0 4 rfl rfl)
theorem dJ40_init_2_5 : decode cJ40_init_2 5 = .ok (.aload_n 1, 1) := dk_43 (dk_at dksJ40_init_2_0 5 rfl rfl)
theorem dJ40_init_2_6 : decode cJ40_init_2 6 = .ok (.invokestatic 7, 3) := dk_184 0 7 (dk_at dksJ40_init_2_0 6 rfl rfl)
theorem dJ40_init_2_9 : decode cJ40_init_2 9 = .ok (.putfield 13, 3) := dk_181 0 13 (dk_at dksJ40_init_2_0 9 rfl rfl)
theorem dJ40_init_2_12 : decode cJ40_init_2 12 = .ok (.aload_n 0, 1) := dk_42 (dk_at dksJ40_init_2_0 12 rfl rfl)
theorem dJ40_init_2_13 : decode cJ40_init_2 13 = .ok (.aload_n 2, 1) := dk_44 (dk_at dksJ40_init_2_0 13 rfl rfl)
theorem dJ40_init_2_14 : decode cJ40_init_2 14 = .ok (.invokestatic 7, 3) := dk_184 0 7 (dk_at dksJ40_init_2_0 14 rfl rfl)
theorem dJ40_init_2_17 : decode cJ40_init_2 17 = .ok (.putfield 24, 3) := dk_181 0 24 (dk_at dksJ40_init_2_0 17 rfl rfl)
theorem dJ40_init_2_20 : decode cJ40_init_2 20 = .ok (.return_, 1) := dk_177 (dk_at dksJ40_init_2_0 20 rfl rfl)
theorem q154 : (Jvm.Cond.initialized "java/util/ImmutableCollections$List12") ∈ lw_all := lw_g (lw_at lw_m1 71 rfl) rfl
theorem q588 : (Jvm.Cond.selects "java/util/ImmutableCollections$List12" ({ cls := "java/lang/Object", name := "getClass", desc := "()Ljava/lang/Class;" } : Jvm.MethodName) ({ cls := "java/lang/Object", name := "getClass", desc := "()Ljava/lang/Class;" } : Jvm.MethodName)) ∈ lw_all := lw_g (lw_at lw_m3 25 rfl) rfl
theorem q1165 : (Jvm.Cond.castable "java/util/ImmutableCollections$List12" "java/util/List") ∈ lw_tbl := lw_at lw_m5 122 rfl
theorem q1166 : (Jvm.Cond.selects "java/util/ImmutableCollections$List12" ({ cls := "java/util/List", name := "get", desc := "(I)Ljava/lang/Object;" } : Jvm.MethodName) ({ cls := "java/util/ImmutableCollections$List12", name := "get", desc := "(I)Ljava/lang/Object;" } : Jvm.MethodName)) ∈ lw_all := lw_g (lw_at lw_m5 123 rfl) rfl
theorem q1167 : (Jvm.Cond.unhidden "java/util/ImmutableCollections$List12" "get" "(I)Ljava/lang/Object;") ∈ lw_tbl := lw_at lw_m5 124 rfl
theorem q1168 : (Jvm.Cond.instanceMethod ({ cls := "java/util/ImmutableCollections$List12", name := "get", desc := "(I)Ljava/lang/Object;" } : Jvm.MethodName)) ∈ lw_all := lw_g (lw_at lw_m5 125 rfl) rfl
theorem q1169 : (Jvm.Cond.publicMethod ({ cls := "java/util/ImmutableCollections$List12", name := "get", desc := "(I)Ljava/lang/Object;" } : Jvm.MethodName)) ∈ lw_tbl := lw_at lw_m5 126 rfl
theorem q1170 : (Jvm.Cond.code ({ cls := "java/util/ImmutableCollections$List12", name := "get", desc := "(I)Ljava/lang/Object;" } : Jvm.MethodName) prog_81_method_5_code (2 : Nat) (Option.some (Jvm.ClassFile.FieldType.object "java/lang/Object"))) ∈ lw_all := lw_g (lw_at lw_m5 127 rfl) rfl
theorem q1171 : (Jvm.Cond.fieldLinkNest "java/util/ImmutableCollections$List12" (19 : Nat) "java/util/ImmutableCollections" "EMPTY" "Ljava/lang/Object;" "java/util/ImmutableCollections") ∈ lw_tbl := lw_at lw_m5 128 rfl
theorem q1358 : (Jvm.Cond.instanceMethod ({ cls := "java/util/ImmutableCollections$List12", name := "size", desc := "()I" } : Jvm.MethodName)) ∈ lw_all := lw_g (lw_at lw_m6 75 rfl) rfl
theorem q1359 : (Jvm.Cond.code ({ cls := "java/util/ImmutableCollections$List12", name := "size", desc := "()I" } : Jvm.MethodName) prog_81_method_3_code (1 : Nat) (Option.some Jvm.ClassFile.FieldType.int)) ∈ lw_all := lw_g (lw_at lw_m6 76 rfl) rfl
theorem q1552 : (Jvm.Cond.castable "java/util/ImmutableCollections$List12" "java/util/Collection") ∈ lw_tbl := lw_at lw_m7 29 rfl
theorem q1553 : (Jvm.Cond.selects "java/util/ImmutableCollections$List12" ({ cls := "java/util/Collection", name := "iterator", desc := "()Ljava/util/Iterator;" } : Jvm.MethodName) ({ cls := "java/util/ImmutableCollections$AbstractImmutableList", name := "iterator", desc := "()Ljava/util/Iterator;" } : Jvm.MethodName)) ∈ lw_all := lw_g (lw_at lw_m7 30 rfl) rfl
theorem q1554 : (Jvm.Cond.unhidden "java/util/ImmutableCollections$List12" "iterator" "()Ljava/util/Iterator;") ∈ lw_tbl := lw_at lw_m7 31 rfl
theorem q1562 : (Jvm.Cond.selects "java/util/ImmutableCollections$List12" ({ cls := "java/util/ImmutableCollections$AbstractImmutableList", name := "size", desc := "()I" } : Jvm.MethodName) ({ cls := "java/util/ImmutableCollections$List12", name := "size", desc := "()I" } : Jvm.MethodName)) ∈ lw_all := lw_g (lw_at lw_m7 39 rfl) rfl
theorem q1596 : (Jvm.Cond.selects "java/util/ImmutableCollections$List12" ({ cls := "java/util/List", name := "iterator", desc := "()Ljava/util/Iterator;" } : Jvm.MethodName) ({ cls := "java/util/ImmutableCollections$AbstractImmutableList", name := "iterator", desc := "()Ljava/util/Iterator;" } : Jvm.MethodName)) ∈ lw_all := lw_g (lw_at lw_m7 73 rfl) rfl
theorem q2321 : (Jvm.Cond.instantiable "java/util/ImmutableCollections$List12" (2 : Nat)) ∈ lw_all := lw_g (lw_at lw_m10 78 rfl) rfl
theorem q2323 : (Jvm.Cond.instanceMethod ({ cls := "java/util/ImmutableCollections$List12", name := "<init>", desc := "(Ljava/lang/Object;)V" } : Jvm.MethodName)) ∈ lw_all := lw_g (lw_at lw_m10 80 rfl) rfl
theorem q2324 : (Jvm.Cond.code ({ cls := "java/util/ImmutableCollections$List12", name := "<init>", desc := "(Ljava/lang/Object;)V" } : Jvm.MethodName) prog_81_method_1_code (2 : Nat) (Option.none : Option Jvm.ClassFile.FieldType)) ∈ lw_all := lw_g (lw_at lw_m10 81 rfl) rfl
theorem q2325 : (Jvm.Cond.methodLink "java/util/ImmutableCollections$List12" (1 : Nat) ({ cls := "java/util/ImmutableCollections$AbstractImmutableList", name := "<init>", desc := "()V" } : Jvm.MethodName)) ∈ lw_all := lw_g (lw_at lw_m10 82 rfl) rfl
theorem q2332 : (Jvm.Cond.methodLink "java/util/ImmutableCollections$List12" (7 : Nat) ({ cls := "java/util/Objects", name := "requireNonNull", desc := "(Ljava/lang/Object;)Ljava/lang/Object;" } : Jvm.MethodName)) ∈ lw_all := lw_g (lw_at lw_m10 89 rfl) rfl
theorem q2333 : (Jvm.Cond.fieldLink "java/util/ImmutableCollections$List12" (13 : Nat) "java/util/ImmutableCollections$List12" "e0" "Ljava/lang/Object;") ∈ lw_all := lw_g (lw_at lw_m10 90 rfl) rfl
theorem q2334 : (Jvm.Cond.fieldLink "java/util/ImmutableCollections$List12" (24 : Nat) "java/util/ImmutableCollections$List12" "e1" "Ljava/lang/Object;") ∈ lw_all := lw_g (lw_at lw_m10 91 rfl) rfl
theorem q2335 : (Jvm.Cond.laysFinal "java/util/ImmutableCollections$List12" "java/util/ImmutableCollections$List12" "e0" "Ljava/lang/Object;") ∈ lw_all := lw_g (lw_at lw_m10 92 rfl) rfl
theorem q2336 : (Jvm.Cond.soleField "java/util/ImmutableCollections$List12" "e0") ∈ lw_all := lw_g (lw_at lw_m10 93 rfl) rfl
theorem q2337 : (Jvm.Cond.laysFinal "java/util/ImmutableCollections$List12" "java/util/ImmutableCollections$List12" "e1" "Ljava/lang/Object;") ∈ lw_all := lw_g (lw_at lw_m10 94 rfl) rfl
theorem q2338 : (Jvm.Cond.soleField "java/util/ImmutableCollections$List12" "e1") ∈ lw_all := lw_g (lw_at lw_m10 95 rfl) rfl
theorem q2339 : (Jvm.Cond.superclass "java/util/ImmutableCollections$List12" "java/util/ImmutableCollections$AbstractImmutableList") ∈ lw_all := lw_g (lw_at lw_m10 96 rfl) rfl
theorem q2341 : (Jvm.Cond.instanceMethod ({ cls := "java/util/ImmutableCollections$List12", name := "<init>", desc := "(Ljava/lang/Object;Ljava/lang/Object;)V" } : Jvm.MethodName)) ∈ lw_all := lw_g (lw_at lw_m10 98 rfl) rfl
theorem q2342 : (Jvm.Cond.code ({ cls := "java/util/ImmutableCollections$List12", name := "<init>", desc := "(Ljava/lang/Object;Ljava/lang/Object;)V" } : Jvm.MethodName) prog_81_method_2_code (3 : Nat) (Option.none : Option Jvm.ClassFile.FieldType)) ∈ lw_all := lw_g (lw_at lw_m10 99 rfl) rfl
theorem q2510 : (Jvm.Cond.unhidden "java/util/ImmutableCollections$List12" "getClass" "()Ljava/lang/Class;") ∈ lw_tbl := lw_at lw_m11 27 rfl
theorem q3021 : (Jvm.Cond.selects "java/util/ImmutableCollections$List12" ({ cls := "java/util/AbstractCollection", name := "size", desc := "()I" } : Jvm.MethodName) ({ cls := "java/util/ImmutableCollections$List12", name := "size", desc := "()I" } : Jvm.MethodName)) ∈ lw_all := lw_g (lw_at lw_m13 58 rfl) rfl
theorem q3035 : (Jvm.Cond.castable "java/util/ImmutableCollections$List12" "java/util/RandomAccess") ∈ lw_tbl := lw_at lw_m13 72 rfl
theorem q3079 : (Jvm.Cond.castable "java/util/ImmutableCollections$List12" "java/lang/Object") ∈ lw_tbl := lw_at lw_m13 116 rfl
theorem in_J40 : ∀ w ∈ wsJ400, w ∈ lw_all := lw_in wsJ400 [2335, 2337] (by decide +kernel) (by decide +kernel)

/-! java/util/ImmutableCollections$ListN -/
set_option maxRecDepth 100000
def RJ41 : String := "java/util/ImmutableCollections$ListN"
def TJ41 : u_T := fun k => match k with
  | 0 => ("java/util/ImmutableCollections$ListN", "elements", "[Ljava/lang/Object;", true)
  | _ => ("java/util/ImmutableCollections$ListN", "allowNulls", "Z", true)
def tyJ41 : Nat → FieldType := fun k => match k with
  | 0 => .array (.object "java/lang/Object")
  | _ => .boolean
abbrev wsJ410 : List Cond := u_ws RJ41 TJ41 2
theorem nmJ41 : ∀ a, a < 2 → ∀ b, b < 2 → a ≠ b → (TJ41 a).2.1 ≠ (TJ41 b).2.1 := by decide +kernel
theorem tyJ41_ok : ∀ k, k < 2 → parseFieldDescriptor (TJ41 k).2.2.1 = some (tyJ41 k) := by decide +kernel
abbrev cJ41_get : ByteArray := prog_83_method_4_code
def yJ41_get : MethodName := ⟨RJ41, "get", "(I)Ljava/lang/Object;"⟩
def dkwJ41_get_0 : List UInt8 := [42, 180, 0, 7, 27, 50, 176]
abbrev dktJ41_get_0 : List UInt8 := dkwJ41_get_0 ++ []
theorem dksJ41_get_0 : cJ41_get.data.toList.drop 0 = dktJ41_get_0 := by decide +kernel
theorem dJ41_get_0 : decode cJ41_get 0 = .ok (.aload_n 0, 1) := dk_42 (dk_at dksJ41_get_0 0 rfl rfl)
theorem dJ41_get_1 : decode cJ41_get 1 = .ok (.getfield 7, 3) := dk_180 0 7 (dk_at dksJ41_get_0 1 rfl rfl)
theorem dJ41_get_4 : decode cJ41_get 4 = .ok (.iload_n 1, 1) := dk_27 (dk_at dksJ41_get_0 4 rfl rfl)
theorem dJ41_get_5 : decode cJ41_get 5 = .ok (.aaload, 1) := dk_50 (dk_at dksJ41_get_0 5 rfl rfl)
theorem dJ41_get_6 : decode cJ41_get 6 = .ok (.areturn, 1) := dk_176 (dk_at dksJ41_get_0 6 rfl rfl)
abbrev cJ41_size : ByteArray := prog_83_method_3_code
def yJ41_size : MethodName := ⟨RJ41, "size", "()I"⟩
def dkwJ41_size_0 : List UInt8 := [42, 180, 0, 7, 190, 172]
abbrev dktJ41_size_0 : List UInt8 := dkwJ41_size_0 ++ []
theorem dksJ41_size_0 : cJ41_size.data.toList.drop 0 = dktJ41_size_0 := by decide +kernel
theorem dJ41_size_0 : decode cJ41_size 0 = .ok (.aload_n 0, 1) := dk_42 (dk_at dksJ41_size_0 0 rfl rfl)
theorem dJ41_size_1 : decode cJ41_size 1 = .ok (.getfield 7, 3) := dk_180 0 7 (dk_at dksJ41_size_0 1 rfl rfl)
theorem dJ41_size_4 : decode cJ41_size 4 = .ok (.arraylength, 1) := dk_190 (dk_at dksJ41_size_0 4 rfl rfl)
theorem dJ41_size_5 : decode cJ41_size 5 = .ok (.ireturn, 1) := dk_172 (dk_at dksJ41_size_0 5 rfl rfl)
abbrev cJ41_init : ByteArray := prog_83_method_1_code
def yJ41_init : MethodName := ⟨RJ41, "<init>", "([Ljava/lang/Object;Z)V"⟩
def dkwJ41_init_0 : List UInt8 := [42, 183, 0, 1, 42, 43, 181, 0, 7, 42, 28, 181, 0, 13, 177]
abbrev dktJ41_init_0 : List UInt8 := dkwJ41_init_0 ++ []
theorem dksJ41_init_0 : cJ41_init.data.toList.drop 0 = dktJ41_init_0 := by decide +kernel
theorem dJ41_init_0 : decode cJ41_init 0 = .ok (.aload_n 0, 1) := dk_42 (dk_at dksJ41_init_0 0 rfl rfl)
theorem dJ41_init_1 : decode cJ41_init 1 = .ok (.invokespecial 1, 3) := dk_183 0 1 (dk_at dksJ41_init_0 1 rfl rfl)
theorem dJ41_init_4 : decode cJ41_init 4 = .ok (.aload_n 0, 1) := dk_42 (dk_at dksJ41_init_0 4 rfl rfl)
theorem dJ41_init_5 : decode cJ41_init 5 = .ok (.aload_n 1, 1) := dk_43 (dk_at dksJ41_init_0 5 rfl rfl)
theorem dJ41_init_6 : decode cJ41_init 6 = .ok (.putfield 7, 3) := dk_181 0 7 (dk_at dksJ41_init_0 6 rfl rfl)
theorem dJ41_init_9 : decode cJ41_init 9 = .ok (.aload_n 0, 1) := dk_42 (dk_at dksJ41_init_0 9 rfl rfl)
theorem dJ41_init_10 : decode cJ41_init 10 = .ok (.iload_n 2, 1) := dk_28 (dk_at dksJ41_init_0 10 rfl rfl)
theorem dJ41_init_11 : decode cJ41_init 11 = .ok (.putfield 13, 3) := dk_181 0 13 (dk_at dksJ41_init_0 11 rfl rfl)
theorem dJ41_init_14 : decode cJ41_init 14 = .ok (.return_, 1) := dk_177 (dk_at dksJ41_init_0 14 rfl rfl)
theorem q155 : (Jvm.Cond.initialized "java/util/ImmutableCollections$ListN") ∈ lw_all := lw_g (lw_at lw_m1 72 rfl) rfl
theorem q590 : (Jvm.Cond.selects "java/util/ImmutableCollections$ListN" ({ cls := "java/lang/Object", name := "getClass", desc := "()Ljava/lang/Class;" } : Jvm.MethodName) ({ cls := "java/lang/Object", name := "getClass", desc := "()Ljava/lang/Class;" } : Jvm.MethodName)) ∈ lw_all := lw_g (lw_at lw_m3 27 rfl) rfl
theorem q1173 : (Jvm.Cond.castable "java/util/ImmutableCollections$ListN" "java/util/List") ∈ lw_tbl := lw_at lw_m5 130 rfl
theorem q1174 : (Jvm.Cond.selects "java/util/ImmutableCollections$ListN" ({ cls := "java/util/List", name := "get", desc := "(I)Ljava/lang/Object;" } : Jvm.MethodName) ({ cls := "java/util/ImmutableCollections$ListN", name := "get", desc := "(I)Ljava/lang/Object;" } : Jvm.MethodName)) ∈ lw_all := lw_g (lw_at lw_m5 131 rfl) rfl
theorem q1175 : (Jvm.Cond.unhidden "java/util/ImmutableCollections$ListN" "get" "(I)Ljava/lang/Object;") ∈ lw_tbl := lw_at lw_m5 132 rfl
theorem q1176 : (Jvm.Cond.instanceMethod ({ cls := "java/util/ImmutableCollections$ListN", name := "get", desc := "(I)Ljava/lang/Object;" } : Jvm.MethodName)) ∈ lw_all := lw_g (lw_at lw_m5 133 rfl) rfl
theorem q1177 : (Jvm.Cond.publicMethod ({ cls := "java/util/ImmutableCollections$ListN", name := "get", desc := "(I)Ljava/lang/Object;" } : Jvm.MethodName)) ∈ lw_tbl := lw_at lw_m5 134 rfl
theorem q1178 : (Jvm.Cond.code ({ cls := "java/util/ImmutableCollections$ListN", name := "get", desc := "(I)Ljava/lang/Object;" } : Jvm.MethodName) prog_83_method_4_code (2 : Nat) (Option.some (Jvm.ClassFile.FieldType.object "java/lang/Object"))) ∈ lw_all := lw_g (lw_at lw_m5 135 rfl) rfl
theorem q1360 : (Jvm.Cond.instanceMethod ({ cls := "java/util/ImmutableCollections$ListN", name := "size", desc := "()I" } : Jvm.MethodName)) ∈ lw_all := lw_g (lw_at lw_m6 77 rfl) rfl
theorem q1361 : (Jvm.Cond.code ({ cls := "java/util/ImmutableCollections$ListN", name := "size", desc := "()I" } : Jvm.MethodName) prog_83_method_3_code (1 : Nat) (Option.some Jvm.ClassFile.FieldType.int)) ∈ lw_all := lw_g (lw_at lw_m6 78 rfl) rfl
theorem q1563 : (Jvm.Cond.selects "java/util/ImmutableCollections$ListN" ({ cls := "java/util/ImmutableCollections$AbstractImmutableList", name := "size", desc := "()I" } : Jvm.MethodName) ({ cls := "java/util/ImmutableCollections$ListN", name := "size", desc := "()I" } : Jvm.MethodName)) ∈ lw_all := lw_g (lw_at lw_m7 40 rfl) rfl
theorem q1581 : (Jvm.Cond.castable "java/util/ImmutableCollections$ListN" "java/util/Collection") ∈ lw_tbl := lw_at lw_m7 58 rfl
theorem q1582 : (Jvm.Cond.selects "java/util/ImmutableCollections$ListN" ({ cls := "java/util/Collection", name := "iterator", desc := "()Ljava/util/Iterator;" } : Jvm.MethodName) ({ cls := "java/util/ImmutableCollections$AbstractImmutableList", name := "iterator", desc := "()Ljava/util/Iterator;" } : Jvm.MethodName)) ∈ lw_all := lw_g (lw_at lw_m7 59 rfl) rfl
theorem q1583 : (Jvm.Cond.unhidden "java/util/ImmutableCollections$ListN" "iterator" "()Ljava/util/Iterator;") ∈ lw_tbl := lw_at lw_m7 60 rfl
theorem q1597 : (Jvm.Cond.selects "java/util/ImmutableCollections$ListN" ({ cls := "java/util/List", name := "iterator", desc := "()Ljava/util/Iterator;" } : Jvm.MethodName) ({ cls := "java/util/ImmutableCollections$AbstractImmutableList", name := "iterator", desc := "()Ljava/util/Iterator;" } : Jvm.MethodName)) ∈ lw_all := lw_g (lw_at lw_m7 74 rfl) rfl
theorem q2344 : (Jvm.Cond.instantiable "java/util/ImmutableCollections$ListN" (2 : Nat)) ∈ lw_all := lw_g (lw_at lw_m10 101 rfl) rfl
theorem q2346 : (Jvm.Cond.instanceMethod ({ cls := "java/util/ImmutableCollections$ListN", name := "<init>", desc := "([Ljava/lang/Object;Z)V" } : Jvm.MethodName)) ∈ lw_all := lw_g (lw_at lw_m10 103 rfl) rfl
theorem q2347 : (Jvm.Cond.code ({ cls := "java/util/ImmutableCollections$ListN", name := "<init>", desc := "([Ljava/lang/Object;Z)V" } : Jvm.MethodName) prog_83_method_1_code (3 : Nat) (Option.none : Option Jvm.ClassFile.FieldType)) ∈ lw_all := lw_g (lw_at lw_m10 104 rfl) rfl
theorem q2348 : (Jvm.Cond.methodLink "java/util/ImmutableCollections$ListN" (1 : Nat) ({ cls := "java/util/ImmutableCollections$AbstractImmutableList", name := "<init>", desc := "()V" } : Jvm.MethodName)) ∈ lw_all := lw_g (lw_at lw_m10 105 rfl) rfl
theorem q2349 : (Jvm.Cond.fieldLink "java/util/ImmutableCollections$ListN" (7 : Nat) "java/util/ImmutableCollections$ListN" "elements" "[Ljava/lang/Object;") ∈ lw_all := lw_g (lw_at lw_m10 106 rfl) rfl
theorem q2350 : (Jvm.Cond.fieldLink "java/util/ImmutableCollections$ListN" (13 : Nat) "java/util/ImmutableCollections$ListN" "allowNulls" "Z") ∈ lw_all := lw_g (lw_at lw_m10 107 rfl) rfl
theorem q2351 : (Jvm.Cond.laysFinal "java/util/ImmutableCollections$ListN" "java/util/ImmutableCollections$ListN" "elements" "[Ljava/lang/Object;") ∈ lw_all := lw_g (lw_at lw_m10 108 rfl) rfl
theorem q2352 : (Jvm.Cond.soleField "java/util/ImmutableCollections$ListN" "elements") ∈ lw_all := lw_g (lw_at lw_m10 109 rfl) rfl
theorem q2353 : (Jvm.Cond.laysFinal "java/util/ImmutableCollections$ListN" "java/util/ImmutableCollections$ListN" "allowNulls" "Z") ∈ lw_all := lw_g (lw_at lw_m10 110 rfl) rfl
theorem q2354 : (Jvm.Cond.soleField "java/util/ImmutableCollections$ListN" "allowNulls") ∈ lw_all := lw_g (lw_at lw_m10 111 rfl) rfl
theorem q2355 : (Jvm.Cond.superclass "java/util/ImmutableCollections$ListN" "java/util/ImmutableCollections$AbstractImmutableList") ∈ lw_all := lw_g (lw_at lw_m10 112 rfl) rfl
theorem q2511 : (Jvm.Cond.unhidden "java/util/ImmutableCollections$ListN" "getClass" "()Ljava/lang/Class;") ∈ lw_tbl := lw_at lw_m11 28 rfl
theorem q3022 : (Jvm.Cond.selects "java/util/ImmutableCollections$ListN" ({ cls := "java/util/AbstractCollection", name := "size", desc := "()I" } : Jvm.MethodName) ({ cls := "java/util/ImmutableCollections$ListN", name := "size", desc := "()I" } : Jvm.MethodName)) ∈ lw_all := lw_g (lw_at lw_m13 59 rfl) rfl
theorem q3036 : (Jvm.Cond.castable "java/util/ImmutableCollections$ListN" "java/util/RandomAccess") ∈ lw_tbl := lw_at lw_m13 73 rfl
theorem q3078 : (Jvm.Cond.castable "java/util/ImmutableCollections$ListN" "java/lang/Object") ∈ lw_tbl := lw_at lw_m13 115 rfl
theorem in_J41 : ∀ w ∈ wsJ410, w ∈ lw_all := lw_in wsJ410 [2351, 2353] (by decide +kernel) (by decide +kernel)

/-! java/util/Collections -/
set_option maxRecDepth 100000
def RJ42 : String := "java/util/Collections"
abbrev cJ42_unmodifiableList : ByteArray := prog_71_method_35_code
def yJ42_unmodifiableList : MethodName := ⟨RJ42, "unmodifiableList", "(Ljava/util/List;)Ljava/util/List;"⟩
def dkwJ42_unmodifiableList_2 : List UInt8 := [183, 0, 219, 176]
abbrev dktJ42_unmodifiableList_2 : List UInt8 := dkwJ42_unmodifiableList_2 ++ []
def dkwJ42_unmodifiableList_1 : List UInt8 := [42, 193, 0, 13, 153, 0, 14, 187, 0, 215, 89, 42, 183, 0, 217, 167, 0, 11, 187, 0, 212, 89, 42]
abbrev dktJ42_unmodifiableList_1 : List UInt8 := dkwJ42_unmodifiableList_1 ++ dktJ42_unmodifiableList_2
def dkwJ42_unmodifiableList_0 : List UInt8 := [42, 185, 0, 211, 1, 0, 18, 212, 165, 0, 14, 42, 185, 0, 214, 1, 0, 18, 215, 166, 0, 5, 42, 176]
abbrev dktJ42_unmodifiableList_0 : List UInt8 := dkwJ42_unmodifiableList_0 ++ dktJ42_unmodifiableList_1
theorem dksJ42_unmodifiableList_0 : cJ42_unmodifiableList.data.toList.drop 0 = dktJ42_unmodifiableList_0 := by decide +kernel
theorem dksJ42_unmodifiableList_1 : cJ42_unmodifiableList.data.toList.drop 24 = dktJ42_unmodifiableList_1 := dk_seg dksJ42_unmodifiableList_0 24 rfl rfl
theorem dksJ42_unmodifiableList_2 : cJ42_unmodifiableList.data.toList.drop 47 = dktJ42_unmodifiableList_2 := dk_seg dksJ42_unmodifiableList_1 23 rfl rfl
theorem dJ42_unmodifiableList_0 : decode cJ42_unmodifiableList 0 = .ok (.aload_n 0, 1) := dk_42 (dk_at dksJ42_unmodifiableList_0 0 rfl rfl)
theorem dJ42_unmodifiableList_1 : decode cJ42_unmodifiableList 1 = .ok (.invokeinterface 211 1, 5) := by decide +kernel
theorem dJ42_unmodifiableList_6 : decode cJ42_unmodifiableList 6 = .ok (.ldc 212, 2) := dk_18 212 (dk_at dksJ42_unmodifiableList_0 6 rfl rfl)
theorem dJ42_unmodifiableList_8 : decode cJ42_unmodifiableList 8 = .ok (.if_acmp .eq 14, 3) := dk_165 0 14 (dk_at dksJ42_unmodifiableList_0 8 rfl rfl)
theorem dJ42_unmodifiableList_11 : decode cJ42_unmodifiableList 11 = .ok (.aload_n 0, 1) := dk_42 (dk_at dksJ42_unmodifiableList_0 11 rfl rfl)
theorem dJ42_unmodifiableList_12 : decode cJ42_unmodifiableList 12 = .ok (.invokeinterface 214 1, 5) := by decide +kernel
theorem dJ42_unmodifiableList_17 : decode cJ42_unmodifiableList 17 = .ok (.ldc 215, 2) := dk_18 215 (dk_at dksJ42_unmodifiableList_0 17 rfl rfl)
theorem dJ42_unmodifiableList_19 : decode cJ42_unmodifiableList 19 = .ok (.if_acmp .ne 5, 3) := dk_166 0 5 (dk_at dksJ42_unmodifiableList_0 19 rfl rfl)
theorem dJ42_unmodifiableList_22 : decode cJ42_unmodifiableList 22 = .ok (.aload_n 0, 1) := dk_42 (dk_at dksJ42_unmodifiableList_0 22 rfl rfl)
theorem dJ42_unmodifiableList_23 : decode cJ42_unmodifiableList 23 = .ok (.areturn, 1) := dk_176 (dk_at dksJ42_unmodifiableList_0 23 rfl rfl)
theorem dJ42_unmodifiableList_24 : decode cJ42_unmodifiableList 24 = .ok (.aload_n 0, 1) := dk_42 (dk_at dksJ42_unmodifiableList_1 0 rfl rfl)
theorem dJ42_unmodifiableList_25 : decode cJ42_unmodifiableList 25 = .ok (.instanceof 13, 3) := dk_193 0 13 (dk_at dksJ42_unmodifiableList_1 1 rfl rfl)
theorem dJ42_unmodifiableList_28 : decode cJ42_unmodifiableList 28 = .ok (.ifCond .eq 14, 3) := dk_153 0 14 (dk_at dksJ42_unmodifiableList_1 4 rfl rfl)
theorem dJ42_unmodifiableList_31 : decode cJ42_unmodifiableList 31 = .ok (.new 215, 3) := dk_187 0 215 (dk_at dksJ42_unmodifiableList_1 7 rfl rfl)
theorem dJ42_unmodifiableList_34 : decode cJ42_unmodifiableList 34 = .ok (.dup, 1) := dk_89 (dk_at dksJ42_unmodifiableList_1 10 rfl rfl)
theorem dJ42_unmodifiableList_35 : decode cJ42_unmodifiableList 35 = .ok (.aload_n 0, 1) := dk_42 (dk_at dksJ42_unmodifiableList_1 11 rfl rfl)
theorem dJ42_unmodifiableList_36 : decode cJ42_unmodifiableList 36 = .ok (.invokespecial 217, 3) := dk_183 0 217 (dk_at dksJ42_unmodifiableList_1 12 rfl rfl)
theorem dJ42_unmodifiableList_39 : decode cJ42_unmodifiableList 39 = .ok (.goto 11, 3) := dk_167 0 11 (dk_at dksJ42_unmodifiableList_1 15 rfl rfl)
theorem dJ42_unmodifiableList_42 : decode cJ42_unmodifiableList 42 = .ok (.new 212, 3) := dk_187 0 212 (dk_at dksJ42_unmodifiableList_1 18 rfl rfl)
theorem dJ42_unmodifiableList_45 : decode cJ42_unmodifiableList 45 = .ok (.dup, 1) := dk_89 (dk_at dksJ42_unmodifiableList_1 21 rfl rfl)
theorem dJ42_unmodifiableList_46 : decode cJ42_unmodifiableList 46 = .ok (.aload_n 0, 1) := dk_42 (dk_at dksJ42_unmodifiableList_1 22 rfl rfl)
theorem dJ42_unmodifiableList_47 : decode cJ42_unmodifiableList 47 = .ok (.invokespecial 219, 3) := dk_183 0 219 (dk_at dksJ42_unmodifiableList_2 0 rfl rfl)
theorem dJ42_unmodifiableList_50 : decode cJ42_unmodifiableList 50 = .ok (.areturn, 1) := dk_176 (dk_at dksJ42_unmodifiableList_2 3 rfl rfl)
theorem q159 : (Jvm.Cond.initialized "java/util/Collections") ∈ lw_all := lw_g (lw_at lw_m1 76 rfl) rfl
theorem q2500 : (Jvm.Cond.static ({ cls := "java/util/Collections", name := "unmodifiableList", desc := "(Ljava/util/List;)Ljava/util/List;" } : Jvm.MethodName)) ∈ lw_all := lw_g (lw_at lw_m11 17 rfl) rfl
theorem q2501 : (Jvm.Cond.code ({ cls := "java/util/Collections", name := "unmodifiableList", desc := "(Ljava/util/List;)Ljava/util/List;" } : Jvm.MethodName) prog_71_method_35_code (1 : Nat) (Option.some (Jvm.ClassFile.FieldType.object "java/util/List"))) ∈ lw_all := lw_g (lw_at lw_m11 18 rfl) rfl
theorem q2502 : (Jvm.Cond.interfaceEntry "java/util/Collections" (211 : Nat)) ∈ lw_tbl := lw_at lw_m11 19 rfl
theorem q2503 : (Jvm.Cond.methodLink "java/util/Collections" (211 : Nat) ({ cls := "java/util/List", name := "getClass", desc := "()Ljava/lang/Class;" } : Jvm.MethodName)) ∈ lw_all := lw_g (lw_at lw_m11 20 rfl) rfl
theorem q2513 : (Jvm.Cond.classLink "java/util/Collections" (212 : Nat) "java/util/Collections$UnmodifiableList") ∈ lw_all := lw_g (lw_at lw_m11 30 rfl) rfl
theorem q2514 : (Jvm.Cond.interfaceEntry "java/util/Collections" (214 : Nat)) ∈ lw_tbl := lw_at lw_m11 31 rfl
theorem q2515 : (Jvm.Cond.methodLink "java/util/Collections" (214 : Nat) ({ cls := "java/util/List", name := "getClass", desc := "()Ljava/lang/Class;" } : Jvm.MethodName)) ∈ lw_all := lw_g (lw_at lw_m11 32 rfl) rfl
theorem q2516 : (Jvm.Cond.classLink "java/util/Collections" (215 : Nat) "java/util/Collections$UnmodifiableRandomAccessList") ∈ lw_all := lw_g (lw_at lw_m11 33 rfl) rfl
theorem q2517 : (Jvm.Cond.classLink "java/util/Collections" (13 : Nat) "java/util/RandomAccess") ∈ lw_all := lw_g (lw_at lw_m11 34 rfl) rfl
theorem q2519 : (Jvm.Cond.methodLink "java/util/Collections" (217 : Nat) ({ cls := "java/util/Collections$UnmodifiableRandomAccessList", name := "<init>", desc := "(Ljava/util/List;)V" } : Jvm.MethodName)) ∈ lw_all := lw_g (lw_at lw_m11 36 rfl) rfl
theorem q2538 : (Jvm.Cond.methodLink "java/util/Collections" (219 : Nat) ({ cls := "java/util/Collections$UnmodifiableList", name := "<init>", desc := "(Ljava/util/List;)V" } : Jvm.MethodName)) ∈ lw_all := lw_g (lw_at lw_m11 55 rfl) rfl

/-! java/util/Collections$UnmodifiableCollection -/
set_option maxRecDepth 100000
def RJ43 : String := "java/util/Collections$UnmodifiableCollection"
abbrev cJ43_iterator : ByteArray := prog_72_method_9_code
def yJ43_iterator : MethodName := ⟨RJ43, "iterator", "()Ljava/util/Iterator;"⟩
def dkwJ43_iterator_0 : List UInt8 := [187, 0, 44, 89, 42, 183, 0, 46, 176]
abbrev dktJ43_iterator_0 : List UInt8 := dkwJ43_iterator_0 ++ []
theorem dksJ43_iterator_0 : cJ43_iterator.data.toList.drop 0 = dktJ43_iterator_0 := by decide +kernel
theorem dJ43_iterator_0 : decode cJ43_iterator 0 = .ok (.new 44, 3) := dk_187 0 44 (dk_at dksJ43_iterator_0 0 rfl rfl)
theorem dJ43_iterator_3 : decode cJ43_iterator 3 = .ok (.dup, 1) := dk_89 (dk_at dksJ43_iterator_0 3 rfl rfl)
theorem dJ43_iterator_4 : decode cJ43_iterator 4 = .ok (.aload_n 0, 1) := dk_42 (dk_at dksJ43_iterator_0 4 rfl rfl)
theorem dJ43_iterator_5 : decode cJ43_iterator 5 = .ok (.invokespecial 46, 3) := dk_183 0 46 (dk_at dksJ43_iterator_0 5 rfl rfl)
theorem dJ43_iterator_8 : decode cJ43_iterator 8 = .ok (.areturn, 1) := dk_176 (dk_at dksJ43_iterator_0 8 rfl rfl)
abbrev cJ43_init : ByteArray := prog_72_method_1_code
def yJ43_init : MethodName := ⟨RJ43, "<init>", "(Ljava/util/Collection;)V"⟩
def dkwJ43_init_0 : List UInt8 := [42, 183, 0, 1, 43, 199, 0, 11, 187, 0, 7, 89, 183, 0, 9, 191, 42, 43, 181, 0, 10, 177]
abbrev dktJ43_init_0 : List UInt8 := dkwJ43_init_0 ++ []
theorem dksJ43_init_0 : cJ43_init.data.toList.drop 0 = dktJ43_init_0 := by decide +kernel
theorem dJ43_init_0 : decode cJ43_init 0 = .ok (.aload_n 0, 1) := dk_42 (dk_at dksJ43_init_0 0 rfl rfl)
theorem dJ43_init_1 : decode cJ43_init 1 = .ok (.invokespecial 1, 3) := dk_183 0 1 (dk_at dksJ43_init_0 1 rfl rfl)
theorem dJ43_init_4 : decode cJ43_init 4 = .ok (.aload_n 1, 1) := dk_43 (dk_at dksJ43_init_0 4 rfl rfl)
theorem dJ43_init_5 : decode cJ43_init 5 = .ok (.ifnonnull 11, 3) := dk_199 0 11 (dk_at dksJ43_init_0 5 rfl rfl)
theorem dJ43_init_8 : decode cJ43_init 8 = .ok (.new 7, 3) := dk_187 0 7 (dk_at dksJ43_init_0 8 rfl rfl)
theorem dJ43_init_11 : decode cJ43_init 11 = .ok (.dup, 1) := dk_89 (dk_at dksJ43_init_0 11 rfl rfl)
theorem dJ43_init_12 : decode cJ43_init 12 = .ok (.invokespecial 9, 3) := dk_183 0 9 (dk_at dksJ43_init_0 12 rfl rfl)
theorem dJ43_init_15 : decode cJ43_init 15 = .ok (.athrow, 1) := dk_191 (dk_at dksJ43_init_0 15 rfl rfl)
theorem dJ43_init_16 : decode cJ43_init 16 = .ok (.aload_n 0, 1) := dk_42 (dk_at dksJ43_init_0 16 rfl rfl)
theorem dJ43_init_17 : decode cJ43_init 17 = .ok (.aload_n 1, 1) := dk_43 (dk_at dksJ43_init_0 17 rfl rfl)
theorem dJ43_init_18 : decode cJ43_init 18 = .ok (.putfield 10, 3) := dk_181 0 10 (dk_at dksJ43_init_0 18 rfl rfl)
theorem dJ43_init_21 : decode cJ43_init 21 = .ok (.return_, 1) := dk_177 (dk_at dksJ43_init_0 21 rfl rfl)
theorem q160 : (Jvm.Cond.initialized "java/util/Collections$UnmodifiableCollection") ∈ lw_all := lw_g (lw_at lw_m1 77 rfl) rfl
theorem q1506 : (Jvm.Cond.instanceMethod ({ cls := "java/util/Collections$UnmodifiableCollection", name := "iterator", desc := "()Ljava/util/Iterator;" } : Jvm.MethodName)) ∈ lw_all := lw_g (lw_at lw_m6 223 rfl) rfl
theorem q1507 : (Jvm.Cond.publicMethod ({ cls := "java/util/Collections$UnmodifiableCollection", name := "iterator", desc := "()Ljava/util/Iterator;" } : Jvm.MethodName)) ∈ lw_tbl := lw_at lw_m6 224 rfl
theorem q1508 : (Jvm.Cond.code ({ cls := "java/util/Collections$UnmodifiableCollection", name := "iterator", desc := "()Ljava/util/Iterator;" } : Jvm.MethodName) prog_72_method_9_code (1 : Nat) (Option.some (Jvm.ClassFile.FieldType.object "java/util/Iterator"))) ∈ lw_all := lw_g (lw_at lw_m6 225 rfl) rfl
theorem q1509 : (Jvm.Cond.classLink "java/util/Collections$UnmodifiableCollection" (44 : Nat) "java/util/Collections$UnmodifiableCollection$1") ∈ lw_all := lw_g (lw_at lw_m6 226 rfl) rfl
theorem q1511 : (Jvm.Cond.methodLink "java/util/Collections$UnmodifiableCollection" (46 : Nat) ({ cls := "java/util/Collections$UnmodifiableCollection$1", name := "<init>", desc := "(Ljava/util/Collections$UnmodifiableCollection;)V" } : Jvm.MethodName)) ∈ lw_all := lw_g (lw_at lw_m6 228 rfl) rfl
theorem q2526 : (Jvm.Cond.instanceMethod ({ cls := "java/util/Collections$UnmodifiableCollection", name := "<init>", desc := "(Ljava/util/Collection;)V" } : Jvm.MethodName)) ∈ lw_all := lw_g (lw_at lw_m11 43 rfl) rfl
theorem q2527 : (Jvm.Cond.code ({ cls := "java/util/Collections$UnmodifiableCollection", name := "<init>", desc := "(Ljava/util/Collection;)V" } : Jvm.MethodName) prog_72_method_1_code (2 : Nat) (Option.none : Option Jvm.ClassFile.FieldType)) ∈ lw_all := lw_g (lw_at lw_m11 44 rfl) rfl
theorem q2528 : (Jvm.Cond.methodLink "java/util/Collections$UnmodifiableCollection" (1 : Nat) ({ cls := "java/lang/Object", name := "<init>", desc := "()V" } : Jvm.MethodName)) ∈ lw_all := lw_g (lw_at lw_m11 45 rfl) rfl
theorem q2531 : (Jvm.Cond.fieldLink "java/util/Collections$UnmodifiableCollection" (10 : Nat) "java/util/Collections$UnmodifiableCollection" "c" "Ljava/util/Collection;") ∈ lw_all := lw_g (lw_at lw_m11 48 rfl) rfl
theorem q2535 : (Jvm.Cond.soleField "java/util/Collections$UnmodifiableCollection" "c") ∈ lw_all := lw_g (lw_at lw_m11 52 rfl) rfl

/-! java/util/Collections$UnmodifiableList -/
set_option maxRecDepth 100000
def RJ44 : String := "java/util/Collections$UnmodifiableList"
def TJ44 : u_T := fun k => match k with
  | 0 => ("java/util/Collections$UnmodifiableCollection", "c", "Ljava/util/Collection;", true)
  | _ => ("java/util/Collections$UnmodifiableList", "list", "Ljava/util/List;", true)
def tyJ44 : Nat → FieldType := fun k => match k with
  | 0 => .object "java/util/Collection"
  | _ => .object "java/util/List"
abbrev wsJ440 : List Cond := u_ws RJ44 TJ44 2
theorem nmJ44 : ∀ a, a < 2 → ∀ b, b < 2 → a ≠ b → (TJ44 a).2.1 ≠ (TJ44 b).2.1 := by decide +kernel
theorem tyJ44_ok : ∀ k, k < 2 → parseFieldDescriptor (TJ44 k).2.2.1 = some (tyJ44 k) := by decide +kernel
abbrev cJ44_get : ByteArray := prog_74_method_4_code
def yJ44_get : MethodName := ⟨RJ44, "get", "(I)Ljava/lang/Object;"⟩
def dkwJ44_get_0 : List UInt8 := [42, 180, 0, 7, 27, 185, 0, 23, 2, 0, 176]
abbrev dktJ44_get_0 : List UInt8 := dkwJ44_get_0 ++ []
theorem dksJ44_get_0 : cJ44_get.data.toList.drop 0 = dktJ44_get_0 := by decide +kernel
theorem dJ44_get_0 : decode cJ44_get 0 = .ok (.aload_n 0, 1) := dk_42 (dk_at dksJ44_get_0 0 rfl rfl)
theorem dJ44_get_1 : decode cJ44_get 1 = .ok (.getfield 7, 3) := dk_180 0 7 (dk_at dksJ44_get_0 1 rfl rfl)
theorem dJ44_get_4 : decode cJ44_get 4 = .ok (.iload_n 1, 1) := dk_27 (dk_at dksJ44_get_0 4 rfl rfl)
theorem dJ44_get_5 : decode cJ44_get 5 = .ok (.invokeinterface 23 2, 5) := by decide +kernel
theorem dJ44_get_10 : decode cJ44_get 10 = .ok (.areturn, 1) := dk_176 (dk_at dksJ44_get_0 10 rfl rfl)
abbrev cJ44_init : ByteArray := prog_74_method_1_code
def yJ44_init : MethodName := ⟨RJ44, "<init>", "(Ljava/util/List;)V"⟩
def dkwJ44_init_0 : List UInt8 := [42, 43, 183, 0, 1, 42, 43, 181, 0, 7, 177]
abbrev dktJ44_init_0 : List UInt8 := dkwJ44_init_0 ++ []
theorem dksJ44_init_0 : cJ44_init.data.toList.drop 0 = dktJ44_init_0 := by decide +kernel
theorem dJ44_init_0 : decode cJ44_init 0 = .ok (.aload_n 0, 1) := dk_42 (dk_at dksJ44_init_0 0 rfl rfl)
theorem dJ44_init_1 : decode cJ44_init 1 = .ok (.aload_n 1, 1) := dk_43 (dk_at dksJ44_init_0 1 rfl rfl)
theorem dJ44_init_2 : decode cJ44_init 2 = .ok (.invokespecial 1, 3) := dk_183 0 1 (dk_at dksJ44_init_0 2 rfl rfl)
theorem dJ44_init_5 : decode cJ44_init 5 = .ok (.aload_n 0, 1) := dk_42 (dk_at dksJ44_init_0 5 rfl rfl)
theorem dJ44_init_6 : decode cJ44_init 6 = .ok (.aload_n 1, 1) := dk_43 (dk_at dksJ44_init_0 6 rfl rfl)
theorem dJ44_init_7 : decode cJ44_init 7 = .ok (.putfield 7, 3) := dk_181 0 7 (dk_at dksJ44_init_0 7 rfl rfl)
theorem dJ44_init_10 : decode cJ44_init 10 = .ok (.return_, 1) := dk_177 (dk_at dksJ44_init_0 10 rfl rfl)
theorem q161 : (Jvm.Cond.initialized "java/util/Collections$UnmodifiableList") ∈ lw_all := lw_g (lw_at lw_m1 78 rfl) rfl
theorem q585 : (Jvm.Cond.selects "java/util/Collections$UnmodifiableList" ({ cls := "java/lang/Object", name := "getClass", desc := "()Ljava/lang/Class;" } : Jvm.MethodName) ({ cls := "java/lang/Object", name := "getClass", desc := "()Ljava/lang/Class;" } : Jvm.MethodName)) ∈ lw_all := lw_g (lw_at lw_m3 22 rfl) rfl
theorem q1154 : (Jvm.Cond.castable "java/util/Collections$UnmodifiableList" "java/util/List") ∈ lw_tbl := lw_at lw_m5 111 rfl
theorem q1155 : (Jvm.Cond.selects "java/util/Collections$UnmodifiableList" ({ cls := "java/util/List", name := "get", desc := "(I)Ljava/lang/Object;" } : Jvm.MethodName) ({ cls := "java/util/Collections$UnmodifiableList", name := "get", desc := "(I)Ljava/lang/Object;" } : Jvm.MethodName)) ∈ lw_all := lw_g (lw_at lw_m5 112 rfl) rfl
theorem q1156 : (Jvm.Cond.unhidden "java/util/Collections$UnmodifiableList" "get" "(I)Ljava/lang/Object;") ∈ lw_tbl := lw_at lw_m5 113 rfl
theorem q1157 : (Jvm.Cond.instanceMethod ({ cls := "java/util/Collections$UnmodifiableList", name := "get", desc := "(I)Ljava/lang/Object;" } : Jvm.MethodName)) ∈ lw_all := lw_g (lw_at lw_m5 114 rfl) rfl
theorem q1158 : (Jvm.Cond.publicMethod ({ cls := "java/util/Collections$UnmodifiableList", name := "get", desc := "(I)Ljava/lang/Object;" } : Jvm.MethodName)) ∈ lw_tbl := lw_at lw_m5 115 rfl
theorem q1159 : (Jvm.Cond.code ({ cls := "java/util/Collections$UnmodifiableList", name := "get", desc := "(I)Ljava/lang/Object;" } : Jvm.MethodName) prog_74_method_4_code (2 : Nat) (Option.some (Jvm.ClassFile.FieldType.object "java/lang/Object"))) ∈ lw_all := lw_g (lw_at lw_m5 116 rfl) rfl
theorem q1160 : (Jvm.Cond.interfaceEntry "java/util/Collections$UnmodifiableList" (23 : Nat)) ∈ lw_tbl := lw_at lw_m5 117 rfl
theorem q1161 : (Jvm.Cond.methodLink "java/util/Collections$UnmodifiableList" (23 : Nat) ({ cls := "java/util/List", name := "get", desc := "(I)Ljava/lang/Object;" } : Jvm.MethodName)) ∈ lw_all := lw_g (lw_at lw_m5 118 rfl) rfl
theorem q1504 : (Jvm.Cond.selects "java/util/Collections$UnmodifiableList" ({ cls := "java/util/List", name := "iterator", desc := "()Ljava/util/Iterator;" } : Jvm.MethodName) ({ cls := "java/util/Collections$UnmodifiableCollection", name := "iterator", desc := "()Ljava/util/Iterator;" } : Jvm.MethodName)) ∈ lw_all := lw_g (lw_at lw_m6 221 rfl) rfl
theorem q1505 : (Jvm.Cond.unhidden "java/util/Collections$UnmodifiableList" "iterator" "()Ljava/util/Iterator;") ∈ lw_tbl := lw_at lw_m6 222 rfl
theorem q1547 : (Jvm.Cond.castable "java/util/Collections$UnmodifiableList" "java/util/Collection") ∈ lw_tbl := lw_at lw_m7 24 rfl
theorem q1548 : (Jvm.Cond.selects "java/util/Collections$UnmodifiableList" ({ cls := "java/util/Collection", name := "iterator", desc := "()Ljava/util/Iterator;" } : Jvm.MethodName) ({ cls := "java/util/Collections$UnmodifiableCollection", name := "iterator", desc := "()Ljava/util/Iterator;" } : Jvm.MethodName)) ∈ lw_all := lw_g (lw_at lw_m7 25 rfl) rfl
theorem q2508 : (Jvm.Cond.unhidden "java/util/Collections$UnmodifiableList" "getClass" "()Ljava/lang/Class;") ∈ lw_tbl := lw_at lw_m11 25 rfl
theorem q2523 : (Jvm.Cond.instanceMethod ({ cls := "java/util/Collections$UnmodifiableList", name := "<init>", desc := "(Ljava/util/List;)V" } : Jvm.MethodName)) ∈ lw_all := lw_g (lw_at lw_m11 40 rfl) rfl
theorem q2524 : (Jvm.Cond.code ({ cls := "java/util/Collections$UnmodifiableList", name := "<init>", desc := "(Ljava/util/List;)V" } : Jvm.MethodName) prog_74_method_1_code (2 : Nat) (Option.none : Option Jvm.ClassFile.FieldType)) ∈ lw_all := lw_g (lw_at lw_m11 41 rfl) rfl
theorem q2525 : (Jvm.Cond.methodLink "java/util/Collections$UnmodifiableList" (1 : Nat) ({ cls := "java/util/Collections$UnmodifiableCollection", name := "<init>", desc := "(Ljava/util/Collection;)V" } : Jvm.MethodName)) ∈ lw_all := lw_g (lw_at lw_m11 42 rfl) rfl
theorem q2529 : (Jvm.Cond.fieldLink "java/util/Collections$UnmodifiableList" (7 : Nat) "java/util/Collections$UnmodifiableList" "list" "Ljava/util/List;") ∈ lw_all := lw_g (lw_at lw_m11 46 rfl) rfl
theorem q2533 : (Jvm.Cond.soleField "java/util/Collections$UnmodifiableList" "list") ∈ lw_all := lw_g (lw_at lw_m11 50 rfl) rfl
theorem q2537 : (Jvm.Cond.instantiable "java/util/Collections$UnmodifiableList" (2 : Nat)) ∈ lw_all := lw_g (lw_at lw_m11 54 rfl) rfl
theorem q2539 : (Jvm.Cond.laysFinal "java/util/Collections$UnmodifiableList" "java/util/Collections$UnmodifiableList" "list" "Ljava/util/List;") ∈ lw_all := lw_g (lw_at lw_m11 56 rfl) rfl
theorem q2540 : (Jvm.Cond.laysFinal "java/util/Collections$UnmodifiableList" "java/util/Collections$UnmodifiableCollection" "c" "Ljava/util/Collection;") ∈ lw_all := lw_g (lw_at lw_m11 57 rfl) rfl
theorem q2541 : (Jvm.Cond.superclass "java/util/Collections$UnmodifiableList" "java/util/Collections$UnmodifiableCollection") ∈ lw_all := lw_g (lw_at lw_m11 58 rfl) rfl
theorem q3086 : (Jvm.Cond.castable "java/util/Collections$UnmodifiableList" "java/lang/Object") ∈ lw_tbl := lw_at lw_m13 123 rfl
theorem in_J44 : ∀ w ∈ wsJ440, w ∈ lw_all := lw_in wsJ440 [2540, 2539] (by decide +kernel) (by decide +kernel)

/-! java/util/Collections$UnmodifiableRandomAccessList -/
set_option maxRecDepth 100000
def RJ45 : String := "java/util/Collections$UnmodifiableRandomAccessList"
def TJ45 : u_T := fun k => match k with
  | 0 => ("java/util/Collections$UnmodifiableCollection", "c", "Ljava/util/Collection;", true)
  | _ => ("java/util/Collections$UnmodifiableList", "list", "Ljava/util/List;", true)
def tyJ45 : Nat → FieldType := fun k => match k with
  | 0 => .object "java/util/Collection"
  | _ => .object "java/util/List"
abbrev wsJ450 : List Cond := u_ws RJ45 TJ45 2
theorem nmJ45 : ∀ a, a < 2 → ∀ b, b < 2 → a ≠ b → (TJ45 a).2.1 ≠ (TJ45 b).2.1 := by decide +kernel
theorem tyJ45_ok : ∀ k, k < 2 → parseFieldDescriptor (TJ45 k).2.2.1 = some (tyJ45 k) := by decide +kernel
abbrev cJ45_init : ByteArray := prog_75_method_1_code
def yJ45_init : MethodName := ⟨RJ45, "<init>", "(Ljava/util/List;)V"⟩
def dkwJ45_init_0 : List UInt8 := [42, 43, 183, 0, 1, 177]
abbrev dktJ45_init_0 : List UInt8 := dkwJ45_init_0 ++ []
theorem dksJ45_init_0 : cJ45_init.data.toList.drop 0 = dktJ45_init_0 := by decide +kernel
theorem dJ45_init_0 : decode cJ45_init 0 = .ok (.aload_n 0, 1) := dk_42 (dk_at dksJ45_init_0 0 rfl rfl)
theorem dJ45_init_1 : decode cJ45_init 1 = .ok (.aload_n 1, 1) := dk_43 (dk_at dksJ45_init_0 1 rfl rfl)
theorem dJ45_init_2 : decode cJ45_init 2 = .ok (.invokespecial 1, 3) := dk_183 0 1 (dk_at dksJ45_init_0 2 rfl rfl)
theorem dJ45_init_5 : decode cJ45_init 5 = .ok (.return_, 1) := dk_177 (dk_at dksJ45_init_0 5 rfl rfl)
theorem q162 : (Jvm.Cond.initialized "java/util/Collections$UnmodifiableRandomAccessList") ∈ lw_all := lw_g (lw_at lw_m1 79 rfl) rfl
theorem q586 : (Jvm.Cond.selects "java/util/Collections$UnmodifiableRandomAccessList" ({ cls := "java/lang/Object", name := "getClass", desc := "()Ljava/lang/Class;" } : Jvm.MethodName) ({ cls := "java/lang/Object", name := "getClass", desc := "()Ljava/lang/Class;" } : Jvm.MethodName)) ∈ lw_all := lw_g (lw_at lw_m3 23 rfl) rfl
theorem q1162 : (Jvm.Cond.castable "java/util/Collections$UnmodifiableRandomAccessList" "java/util/List") ∈ lw_tbl := lw_at lw_m5 119 rfl
theorem q1163 : (Jvm.Cond.selects "java/util/Collections$UnmodifiableRandomAccessList" ({ cls := "java/util/List", name := "get", desc := "(I)Ljava/lang/Object;" } : Jvm.MethodName) ({ cls := "java/util/Collections$UnmodifiableList", name := "get", desc := "(I)Ljava/lang/Object;" } : Jvm.MethodName)) ∈ lw_all := lw_g (lw_at lw_m5 120 rfl) rfl
theorem q1164 : (Jvm.Cond.unhidden "java/util/Collections$UnmodifiableRandomAccessList" "get" "(I)Ljava/lang/Object;") ∈ lw_tbl := lw_at lw_m5 121 rfl
theorem q1549 : (Jvm.Cond.castable "java/util/Collections$UnmodifiableRandomAccessList" "java/util/Collection") ∈ lw_tbl := lw_at lw_m7 26 rfl
theorem q1550 : (Jvm.Cond.selects "java/util/Collections$UnmodifiableRandomAccessList" ({ cls := "java/util/Collection", name := "iterator", desc := "()Ljava/util/Iterator;" } : Jvm.MethodName) ({ cls := "java/util/Collections$UnmodifiableCollection", name := "iterator", desc := "()Ljava/util/Iterator;" } : Jvm.MethodName)) ∈ lw_all := lw_g (lw_at lw_m7 27 rfl) rfl
theorem q1551 : (Jvm.Cond.unhidden "java/util/Collections$UnmodifiableRandomAccessList" "iterator" "()Ljava/util/Iterator;") ∈ lw_tbl := lw_at lw_m7 28 rfl
theorem q1595 : (Jvm.Cond.selects "java/util/Collections$UnmodifiableRandomAccessList" ({ cls := "java/util/List", name := "iterator", desc := "()Ljava/util/Iterator;" } : Jvm.MethodName) ({ cls := "java/util/Collections$UnmodifiableCollection", name := "iterator", desc := "()Ljava/util/Iterator;" } : Jvm.MethodName)) ∈ lw_all := lw_g (lw_at lw_m7 72 rfl) rfl
theorem q2509 : (Jvm.Cond.unhidden "java/util/Collections$UnmodifiableRandomAccessList" "getClass" "()Ljava/lang/Class;") ∈ lw_tbl := lw_at lw_m11 26 rfl
theorem q2518 : (Jvm.Cond.instantiable "java/util/Collections$UnmodifiableRandomAccessList" (2 : Nat)) ∈ lw_all := lw_g (lw_at lw_m11 35 rfl) rfl
theorem q2520 : (Jvm.Cond.instanceMethod ({ cls := "java/util/Collections$UnmodifiableRandomAccessList", name := "<init>", desc := "(Ljava/util/List;)V" } : Jvm.MethodName)) ∈ lw_all := lw_g (lw_at lw_m11 37 rfl) rfl
theorem q2521 : (Jvm.Cond.code ({ cls := "java/util/Collections$UnmodifiableRandomAccessList", name := "<init>", desc := "(Ljava/util/List;)V" } : Jvm.MethodName) prog_75_method_1_code (2 : Nat) (Option.none : Option Jvm.ClassFile.FieldType)) ∈ lw_all := lw_g (lw_at lw_m11 38 rfl) rfl
theorem q2522 : (Jvm.Cond.methodLink "java/util/Collections$UnmodifiableRandomAccessList" (1 : Nat) ({ cls := "java/util/Collections$UnmodifiableList", name := "<init>", desc := "(Ljava/util/List;)V" } : Jvm.MethodName)) ∈ lw_all := lw_g (lw_at lw_m11 39 rfl) rfl
theorem q2532 : (Jvm.Cond.laysFinal "java/util/Collections$UnmodifiableRandomAccessList" "java/util/Collections$UnmodifiableList" "list" "Ljava/util/List;") ∈ lw_all := lw_g (lw_at lw_m11 49 rfl) rfl
theorem q2534 : (Jvm.Cond.laysFinal "java/util/Collections$UnmodifiableRandomAccessList" "java/util/Collections$UnmodifiableCollection" "c" "Ljava/util/Collection;") ∈ lw_all := lw_g (lw_at lw_m11 51 rfl) rfl
theorem q2536 : (Jvm.Cond.superclass "java/util/Collections$UnmodifiableRandomAccessList" "java/util/Collections$UnmodifiableList") ∈ lw_all := lw_g (lw_at lw_m11 53 rfl) rfl
theorem q3034 : (Jvm.Cond.castable "java/util/Collections$UnmodifiableRandomAccessList" "java/util/RandomAccess") ∈ lw_tbl := lw_at lw_m13 71 rfl
theorem q3085 : (Jvm.Cond.castable "java/util/Collections$UnmodifiableRandomAccessList" "java/lang/Object") ∈ lw_tbl := lw_at lw_m13 122 rfl
theorem in_J45 : ∀ w ∈ wsJ450, w ∈ lw_all := lw_in wsJ450 [2534, 2532] (by decide +kernel) (by decide +kernel)

/-! java/lang/Object -/
set_option maxRecDepth 100000
def RJ46 : String := "java/lang/Object"
abbrev cJ46_init : ByteArray := object_method_1_code
def yJ46_init : MethodName := ⟨RJ46, "<init>", "()V"⟩
theorem dJ46_init_0 : decode cJ46_init 0 = .ok (.return_, 1) := by decide +kernel
theorem q170 : (Jvm.Cond.instanceMethod ({ cls := "java/lang/Object", name := "<init>", desc := "()V" } : Jvm.MethodName)) ∈ lw_all := lw_g (lw_at lw_m1 87 rfl) rfl
theorem q171 : (Jvm.Cond.code ({ cls := "java/lang/Object", name := "<init>", desc := "()V" } : Jvm.MethodName) object_method_1_code (1 : Nat) (Option.none : Option Jvm.ClassFile.FieldType)) ∈ lw_all := lw_g (lw_at lw_m1 88 rfl) rfl
theorem q405 : (Jvm.Cond.native ({ cls := "java/lang/Object", name := "clone", desc := "()Ljava/lang/Object;" } : Jvm.MethodName)) ∈ lw_all := lw_g (lw_at lw_m2 82 rfl) rfl
theorem q406 : (Jvm.Cond.instanceMethod ({ cls := "java/lang/Object", name := "clone", desc := "()Ljava/lang/Object;" } : Jvm.MethodName)) ∈ lw_all := lw_g (lw_at lw_m2 83 rfl) rfl
theorem q542 : (Jvm.Cond.instanceMethod ({ cls := "java/lang/Object", name := "getClass", desc := "()Ljava/lang/Class;" } : Jvm.MethodName)) ∈ lw_all := lw_g (lw_at lw_m2 219 rfl) rfl
theorem q543 : (Jvm.Cond.sameMethod "java/lang/Object" "java/lang/Object" "getClass" "()Ljava/lang/Class;") ∈ lw_all := lw_g (lw_at lw_m2 220 rfl) rfl
theorem q595 : (Jvm.Cond.native ({ cls := "java/lang/Object", name := "getClass", desc := "()Ljava/lang/Class;" } : Jvm.MethodName)) ∈ lw_all := lw_g (lw_at lw_m3 32 rfl) rfl
theorem q2505 : (Jvm.Cond.declares ({ cls := "java/lang/Object", name := "getClass", desc := "()Ljava/lang/Class;" } : Jvm.MethodName)) ∈ lw_tbl := lw_at lw_m11 22 rfl
theorem q2507 : (Jvm.Cond.publicMethod ({ cls := "java/lang/Object", name := "getClass", desc := "()Ljava/lang/Class;" } : Jvm.MethodName)) ∈ lw_tbl := lw_at lw_m11 24 rfl
theorem q3028 : (Jvm.Cond.initialized "java/lang/Object") ∈ lw_all := lw_g (lw_at lw_m13 65 rfl) rfl

